/-! ===== the House's parser: all of a text ===== -/
set_option maxRecDepth 100000
section HR1
variable {G : xG} {A A0 A1 A6 B : xA} {x t t0 t1 op al e : Nat} {D : tkL} {E : Nat → xA → Prop} {r : pR} {vs : List Nat} {tr : Tr} {N N' S : Nat → Prop} {nms : List (Nat × Nat)} {tx : Nat → Int32} {n : Nat}
theorem s_X14_init {p : Nat} {k q n : Int32} (h : A.tg p = 14) : w_X14_init G p k q n (fun B => ((A.setI p 0 k).setI p 2 q).setI p 1 n = B) A := by
  intro _
  refine ⟨h, ?_⟩
  rintro _ rfl _ rfl _ rfl
  rfl
theorem s_mk {F : xA → Prop} {k p nm : Int32} (h : TS G x D al vs A t A t 0) (hok6 : xok G A6) (p6 : PS G A6 x D (t + 2) 0) (f6 : pf x A A6) (n6 : A6.n = A.n) (u6 : A6.u = A.u) (hF : ∀ B, xok G B → TS G x D al vs A t B (t + 2) 0 → B.tg A6.n = 14 → B.I A6.n 0 = k → B.I A6.n 2 = p → B.I A6.n 1 = nm → B.n = A.n + 1 → B.u = A.u + 14 → B.I A6.n 3 = 0 → F B) : rmO G A6 14 ∧ ∀ A44 : xA, A44 = A6.new 14 0 14 0 → ∃ R45 : xA → Prop, w_X14_init G A6.n k p nm R45 A44 ∧ ∀ A45 : xA, xok G A45 → R45 A45 → F A45 := by
  have hl := p6.1.lt
  have ht := p6.lt
  have hxl : x + 2 < A.n := by have := h.2.1; have := h.1; omega
  refine ⟨(h.rr (B := A6) (t + 2) (c := 1) (s := 14) (by omega) (by omega) (by omega) (by omega)).o, ?_⟩
  rintro _ rfl
  refine ⟨_, s_X14_init (by rw [gN_tg, if_pos rfl]), ?_⟩
  rintro _ hok45 rfl
  have f45 : Fr (fun a => a = A6.n) A6 ((((A6.new 14 0 14 0).setI A6.n 0 k).setI A6.n 2 p).setI A6.n 1 nm) := Fr.fn.fs.fs.fs
  refine hF _ hok45 (h.nx (f6.own f45 (fun a ha q => by omega) hxl) (p6.fr f45 (fun a ha q => by omega)) (by omega)) ?_ ?_ ?_ ?_ ?_ ?_ ?_
  · grind [gI_I, gI_L, gI_P, gI_tg, gI_ln, gI_gh, gI_n, gI_u, gL_I, gL_L, gL_P, gL_tg, gL_ln, gL_gh, gL_n, gL_u, gP_I, gP_L, gP_P, gP_tg, gP_ln, gP_gh, gP_n, gP_u, gN_I, gN_L, gN_P, gN_tg, gN_ln, gN_gh, gN_n, gN_u]
  · grind [gI_I, gI_L, gI_P, gI_tg, gI_ln, gI_gh, gI_n, gI_u, gL_I, gL_L, gL_P, gL_tg, gL_ln, gL_gh, gL_n, gL_u, gP_I, gP_L, gP_P, gP_tg, gP_ln, gP_gh, gP_n, gP_u, gN_I, gN_L, gN_P, gN_tg, gN_ln, gN_gh, gN_n, gN_u]
  · grind [gI_I, gI_L, gI_P, gI_tg, gI_ln, gI_gh, gI_n, gI_u, gL_I, gL_L, gL_P, gL_tg, gL_ln, gL_gh, gL_n, gL_u, gP_I, gP_L, gP_P, gP_tg, gP_ln, gP_gh, gP_n, gP_u, gN_I, gN_L, gN_P, gN_tg, gN_ln, gN_gh, gN_n, gN_u]
  · grind [gI_I, gI_L, gI_P, gI_tg, gI_ln, gI_gh, gI_n, gI_u, gL_I, gL_L, gL_P, gL_tg, gL_ln, gL_gh, gL_n, gL_u, gP_I, gP_L, gP_P, gP_tg, gP_ln, gP_gh, gP_n, gP_u, gN_I, gN_L, gN_P, gN_tg, gN_ln, gN_gh, gN_n, gN_u]
  · show A6.n + 1 = _
    omega
  · show A6.u + 14 = _
    omega
  · grind [gI_I, gI_L, gI_P, gI_tg, gI_ln, gI_gh, gI_n, gI_u, gL_I, gL_L, gL_P, gL_tg, gL_ln, gL_gh, gL_n, gL_u, gP_I, gP_L, gP_P, gP_tg, gP_ln, gP_gh, gP_n, gP_u, gN_I, gN_L, gN_P, gN_tg, gN_ln, gN_gh, gN_n, gN_u]
theorem s_X1_told (hO : xHO G) (hC : TC x D nms tx n A) (h : TS G x D al vs A t A t 0) (hE : pX x D A t 0 (pT D (isM tx nms) t) E) : w_X1_told G (x + 2) (TQ G x D al vs A t (pT D (isM tx nms) t)) E A := by
  intro hok
  have hp := h.2.2.2.2.2.2.2.1
  have ht := hp.lt
  have hl := hp.1.lt
  have hN := hp.1.1
  have hal := h.1
  have hal2 := h.2.1
  have hxl : x + 2 < A.n := by omega
  refine ⟨hs_t2 hp.1, _, s_X1_takes hp, ?_⟩
  rintro v1 A1 hok1 _ (⟨rfl, q13, p1, f1, n1, u1⟩ | ⟨rfl, q13, rfl⟩)
  · -- const
    refine ⟨fun q => absurd q (by decide), fun _ => ?_⟩
    rw [pT, if_pos q13] at hE ⊢
    have ht1 := p1.lt
    refine ⟨hs_t2 p1.1, _, s_X1_need p1 (fun q => hE.fl (t + 1) f1 (by omega) (by omega) (by omega) (by omega) (by rw [pNeed, if_neg q])), ?_⟩
    rintro A2 hok2 ⟨q2, p2, f2, n2, u2⟩
    rw [pNeed, if_pos q2] at hE ⊢
    have ht2 := p2.lt
    have g2 := f1.tr f2
    have hl2 := p2.1.lt
    refine ⟨(h.rr (B := A2) (t + 2) (c := 1) (s := 14) (by omega) (by omega) (by omega) (by omega)).o, ?_⟩
    rintro _ rfl
    have f3 : Fr (fun a => a = A2.n) A2 (A2.new 14 0 14 0) := Fr.fn
    have p3 : PS G (A2.new 14 0 14 0) x D (t + 2) 0 := p2.fr f3 (fun a ha q => by omega)
    have g3 : pf x A (A2.new 14 0 14 0) := g2.own f3 (fun a ha q => by omega) hxl
    have tg3 : (A2.new 14 0 14 0).tg A2.n = 14 := by rw [gN_tg, if_pos rfl]
    have nn3 : (A2.new 14 0 14 0).n = A2.n + 1 := rfl
    have uu3 : (A2.new 14 0 14 0).u = A2.u + 14 := rfl
    generalize A2.new 14 0 14 0 = A3 at *
    refine ⟨hs_t2 p3.1, _, s_X1_here p3, ?_⟩
    rintro _ _ _ ⟨rfl, rfl⟩
    refine ⟨hs_t2 p3.1, _, s_X1_needName p3 (fun q => hE.fl (t + 2) g3 (by omega) (by omega) (by omega) (by omega) (by rw [pNeed, if_neg q])), ?_⟩
    rintro _ A4 hok4 ⟨q4, rfl, p4, f4, n4, u4⟩
    rw [pNeed, if_pos q4] at hE ⊢
    have ht4 := p4.lt
    have tg4 : A4.tg A2.n = 14 := (f4.1.tg (by omega)).trans tg3
    refine ⟨_, s_X14_init tg4, ?_⟩
    rintro _ hok5 rfl
    have f5 : Fr (fun a => a = A2.n) A4 (((A4.setI A2.n 0 0).setI A2.n 2 (tP D (t + 2))).setI A2.n 1 (tV D (t + 2))) := Fr.rf.fs.fs.fs
    have p5 : PS G (((A4.setI A2.n 0 0).setI A2.n 2 (tP D (t + 2))).setI A2.n 1 (tV D (t + 2))) x D (t + 3) 0 := p4.fr f5 (fun a ha q => by omega)
    have g5 : pf x A (((A4.setI A2.n 0 0).setI A2.n 2 (tP D (t + 2))).setI A2.n 1 (tV D (t + 2))) := (g3.tr f4).own f5 (fun a ha q => by omega) hxl
    have k5 : (((A4.setI A2.n 0 0).setI A2.n 2 (tP D (t + 2))).setI A2.n 1 (tV D (t + 2))).tg A2.n = 14 ∧ (((A4.setI A2.n 0 0).setI A2.n 2 (tP D (t + 2))).setI A2.n 1 (tV D (t + 2))).I A2.n 0 = 0 ∧ (((A4.setI A2.n 0 0).setI A2.n 2 (tP D (t + 2))).setI A2.n 1 (tV D (t + 2))).I A2.n 2 = tP D (t + 2) ∧ (((A4.setI A2.n 0 0).setI A2.n 2 (tP D (t + 2))).setI A2.n 1 (tV D (t + 2))).I A2.n 1 = tV D (t + 2) := by
      refine ⟨tg4, ?_, ?_, ?_⟩ <;> grind [gI_I, gI_L, gI_P, gI_tg, gI_ln, gI_gh, gI_n, gI_u, gL_I, gL_L, gL_P, gL_tg, gL_ln, gL_gh, gL_n, gL_u, gP_I, gP_L, gP_P, gP_tg, gP_ln, gP_gh, gP_n, gP_u, gN_I, gN_L, gN_P, gN_tg, gN_ln, gN_gh, gN_n, gN_u]
    have nn5 : (((A4.setI A2.n 0 0).setI A2.n 2 (tP D (t + 2))).setI A2.n 1 (tV D (t + 2))).n = A4.n := rfl
    have uu5 : (((A4.setI A2.n 0 0).setI A2.n 2 (tP D (t + 2))).setI A2.n 1 (tV D (t + 2))).u = A4.u := rfl
    generalize ((A4.setI A2.n 0 0).setI A2.n 2 (tP D (t + 2))).setI A2.n 1 (tV D (t + 2)) = A5 at *
    refine ⟨hs_t2 p5.1, _, s_X1_need p5 (fun q => hE.fl (t + 3) g5 (by omega) (by omega) (by omega) (by omega) (by rw [pNeed, if_neg q])), ?_⟩
    rintro A7 hok7 ⟨q7, p7, f7, n7, u7⟩
    rw [pNeed, if_pos q7] at hE ⊢
    have ht7 := p7.lt
    have g7 := g5.tr f7
    refine ⟨hs_t2 p7.1, _, s_g0 (d := 40) rfl A7 (t + 4) E p7 (h.m (by omega) (by omega) (by omega) (by omega)) (hE.sub g7 (by omega) (by omega) (by omega) (fun f e => by rw [e]; rfl)), ?_⟩
    rintro _ A9 hok9 ⟨sv, st, t9, r9, rfl, p9, f9, l9, n9, u9, i9, x9⟩
    rw [r9] at hE ⊢
    have a9 := f9.1.1
    have a7 := f7.1.1
    have ht9 := p9.lt
    have q9 : ∀ k, A9.I A2.n k = A5.I A2.n k := fun k => (f9.1.I (by omega) (by omega)).trans (f7.1.I (by omega) (by omega))
    have tg9 : A9.tg A2.n = 14 := (f9.1.tg (by omega)).trans ((f7.1.tg (by omega)).trans k5.1)
    refine ⟨tg9, ?_⟩
    rintro _ rfl
    have f10 : Fr (fun a => a = A2.n) A9 (A9.setP A2.n 6 (some sv)) := Fr.setP rfl
    have hok10 : xok G (A9.setP A2.n 6 (some sv)) := hok9.setP (by omega)
    have p10 : PS G (A9.setP A2.n 6 (some sv)) x D t9 0 := p9.fr f10 (fun a ha q => by omega)
    have g10 : pf x A (A9.setP A2.n 6 (some sv)) := (g7.tr f9).own f10 (fun a ha q => by omega) hxl
    have hT : rT G (A9.setP A2.n 6 (some sv)) x (fun a => A.n ≤ a) A2.n (nd 40 [tP D (t + 2), tV D (t + 2)] st lf) := ⟨by omega, tg9, (q9 _).trans k5.2.1, (q9 _).trans k5.2.2.1, (q9 _).trans k5.2.2.2, sv, by rw [gP_P, if_pos ⟨rfl, rfl⟩], i9, rX.mn hok10 _ (fun a q _ => q.1) (rX.fr hok9 hok10 f10 _ (Kp.one (by rw [tg9]; decide) (fun q => q.2 rfl)) (rX.mn (N' := fun a => A.n ≤ a ∧ a ≠ A2.n) hok9 _ (fun a q _ => ⟨by omega, by omega⟩) x9))⟩
    have nn10 : (A9.setP A2.n 6 (some sv)).n = A9.n := rfl
    have uu10 : (A9.setP A2.n 6 (some sv)).u = A9.u := rfl
    generalize A9.setP A2.n 6 (some sv) = A10 at *
    exact ⟨hs_t2 p10.1, _, s_X1_end (h.nx g10 p10 (by omega)) hE (fun B hB fB => rT.fr hok10 hB fB.1 (p10.kx (by omega)) hT) (by omega) (by omega) rfl, fun B _ q => q⟩
  · refine ⟨fun _ => ?_, fun q => absurd rfl q⟩
    refine ⟨hs_t2 hp.1, _, s_X1_is hp, ?_⟩
    rintro v3 _ _ h3 ⟨hv3, rfl⟩
    refine ⟨hs_t2 hp.1, _, s_X1_is hp, ?_⟩
    rintro v5 _ _ h5 ⟨hv5, rfl⟩
    -- the NAME
    have name : ∀ {F : Int32 → Int32 → xA → Prop}, (tK D t = 12 ∨ tK D t = 11 ∨ tK D t = 10) → (∀ A6, xok G A6 → PS G A6 x D (t + 2) 0 → pf x A A6 → A6.n = A.n → A6.u = A.u → tK D (t + 1) = 2 → F (tP D (t + 1)) (tV D (t + 1)) A6) → A.tg (x + 2) = 2 ∧ ∀ A8 : xA, A8 = A.setI (x + 2) 3 (A.I (x + 2) 3 + 1) → ∃ R9 : Int32 → xA → Prop, w_X1_here G (x + 2) R9 A8 ∧ ∀ (v9 : Int32) (A9 : xA), xok G A9 → R9 v9 A9 → A9.tg (x + 2) = 2 ∧ ∃ R10 : Int32 → xA → Prop, w_X1_needName G (x + 2) R10 E A9 ∧ ∀ (v10 : Int32) (A10 : xA), xok G A10 → R10 v10 A10 → F v9 v10 A10 := by
      intro F hk hF
      have hx1 : t + 1 < D.length := hp.2.2.1.nx ht (by rcases hk with q | q | q <;> rw [q] <;> decide) (by rcases hk with q | q | q <;> rw [q] <;> decide)
      refine ⟨hs_t2 hp.1, ?_⟩
      rintro _ rfl
      rw [hp.a, nI_1]
      have p4 := hp.at hx1
      have f4 : pf x A (A.setI (x + 2) 3 (nI (t + 1))) := pf.rf.set
      have nn4 : (A.setI (x + 2) 3 (nI (t + 1))).n = A.n := rfl
      have uu4 : (A.setI (x + 2) 3 (nI (t + 1))).u = A.u := rfl
      generalize A.setI (x + 2) 3 (nI (t + 1)) = A4 at *
      refine ⟨_, s_X1_here p4, ?_⟩
      rintro _ _ _ ⟨rfl, rfl⟩
      refine ⟨hs_t2 p4.1, _, s_X1_needName p4 (fun q => hE.fl (t + 1) f4 (by omega) (by omega) (by omega) (by omega) (by rw [pT, if_neg q13, if_pos hk, pNeed, if_neg q])), ?_⟩
      rintro _ A6 hok6 ⟨q6, rfl, p6, f6, n6, u6⟩
      exact hF A6 hok6 p6 (f4.tr f6) (by omega) (by omega) q6
    -- a function
    have fu : ∀ A6, xok G A6 → PS G A6 x D (t + 2) 0 → pf x A A6 → A6.n = A.n → A6.u = A.u → tK D (t + 1) = 2 → (tK D t = 12 ∨ tK D t = 11 ∨ tK D t = 10) → ¬ tK D t = 11 ∧ (tK D t = 12 ∨ tK D (t + 2) = 62) → v3 = (if tK D t = 12 then 1 else 0) → rmO G A6 14 ∧ ∀ A44 : xA, A44 = A6.new 14 0 14 0 → ∃ R45 : xA → Prop, w_X14_init G A6.n 6 (tP D (t + 1)) (tV D (t + 1)) R45 A44 ∧ ∀ A45 : xA, xok G A45 → R45 A45 → A45.tg (x + 2) = 2 ∧ ∃ R63 : xA → Prop, w_X1_function G (x + 2) (some A6.n) v3 R63 E A45 ∧ ∀ A63 : xA, xok G A63 → R63 A63 → TQ G x D al vs A t (pT D (isM tx nms) t) A63 := by
      intro A6 hok6 p6 f6 n6 u6 q6 hk hc hv
      have eP : pT D (isM tx nms) t = pFun D (isM tx nms) v3 (tP D (t + 1)) (tV D (t + 1)) (t + 2) := by rw [pT, if_neg q13, if_pos hk, pNeed, if_pos q6, if_pos hc, hv]
      rw [eP] at hE ⊢
      refine s_mk h hok6 p6 f6 n6 u6 fun B hokB hB b1 b2 b3 b4 b5 b6 b7 => ⟨hs_t2 hB.2.2.2.2.2.2.2.1.1, _, s_X1_function hO h3 hC (hC.2.2.2.2.2 _ q6) hB (by omega) b1 b2 b3 b4 (by omega) (by omega) hE, fun _ _ q => q⟩
    -- an array
    have ro : ∀ A6, xok G A6 → PS G A6 x D (t + 2) 0 → pf x A A6 → A6.n = A.n → A6.u = A.u → tK D (t + 1) = 2 → (tK D t = 12 ∨ tK D t = 11 ∨ tK D t = 10) → ¬ (¬ tK D t = 11 ∧ (tK D t = 12 ∨ tK D (t + 2) = 62)) → (tK D t = 11 ∨ tK D (t + 2) = 64) → v5 = (if tK D t = 11 then 1 else 0) → rmO G A6 14 ∧ ∀ A44 : xA, A44 = A6.new 14 0 14 0 → ∃ R45 : xA → Prop, w_X14_init G A6.n 2 (tP D (t + 1)) (tV D (t + 1)) R45 A44 ∧ ∀ A45 : xA, xok G A45 → R45 A45 → A45.tg (x + 2) = 2 ∧ ∃ R63 : xA → Prop, w_X1_row_2 G (x + 2) (some A6.n) v5 R63 E A45 ∧ ∀ A63 : xA, xok G A63 → R63 A63 → TQ G x D al vs A t (pT D (isM tx nms) t) A63 := by
      intro A6 hok6 p6 f6 n6 u6 q6 hk hc hc2 hv
      have eP : pT D (isM tx nms) t = pRowT D v5 (tP D (t + 1)) (tV D (t + 1)) (t + 2) := by rw [pT, if_neg q13, if_pos hk, pNeed, if_pos q6, if_neg hc, if_pos hc2, hv]
      rw [eP] at hE ⊢
      refine s_mk h hok6 p6 f6 n6 u6 fun B hokB hB b1 b2 b3 b4 b5 b6 b7 => ⟨hs_t2 hB.2.2.2.2.2.2.2.1.1, _, s_X1_row_2 hO h5 hB (by omega) b1 b2 b3 b4 (by omega) (by omega) hE, fun _ _ q => q⟩
    have e3 : v3 = if tK D t = 12 then 1 else 0 := by rcases hv3 with ⟨rfl, q⟩ | ⟨rfl, q⟩ <;> simp [q]
    have e5 : v5 = if tK D t = 11 then 1 else 0 := by rcases hv5 with ⟨rfl, q⟩ | ⟨rfl, q⟩ <;> simp [q]
    refine ⟨fun z3 => ?_, fun z3 => ?_⟩
    · have k12 : ¬ tK D t = 12 := by
        rcases hv3 with ⟨rfl, q⟩ | ⟨rfl, q⟩
        · exact absurd z3 (by decide)
        · exact q
      refine ⟨fun z5 => ?_, fun z5 => ?_⟩
      · have k11 : ¬ tK D t = 11 := by
          rcases hv5 with ⟨rfl, q⟩ | ⟨rfl, q⟩
          · exact absurd z5 (by decide)
          · exact q
        refine ⟨hs_t2 hp.1, _, s_X1_is hp, ?_⟩
        rintro v32 _ _ _ ⟨⟨rfl, k10⟩ | ⟨rfl, k10⟩, rfl⟩
        · refine ⟨fun q => absurd q (by decide), fun _ => ?_⟩
          refine name (Or.inr (Or.inr k10)) fun A6 hok6 p6 f6 n6 u6 q6 => ⟨hs_t2 p6.1, _, s_X1_is p6, ?_⟩
          rintro v39 _ _ _ ⟨⟨rfl, k62⟩ | ⟨rfl, k62⟩, rfl⟩
          · refine ⟨fun q => absurd q (by decide), fun _ => ?_⟩
            exact fu A6 hok6 p6 f6 n6 u6 q6 (Or.inr (Or.inr k10)) ⟨k11, Or.inr k62⟩ e3
          · refine ⟨fun _ => ?_, fun q => absurd rfl q⟩
            have hc : ¬ (¬ tK D t = 11 ∧ (tK D t = 12 ∨ tK D (t + 2) = 62)) := fun q => q.2.elim k12 k62
            refine ⟨hs_t2 p6.1, _, s_X1_is p6, ?_⟩
            rintro v41 _ _ _ ⟨⟨rfl, k64⟩ | ⟨rfl, k64⟩, rfl⟩
            · refine ⟨fun q => absurd q (by decide), fun _ => ?_⟩
              exact ro A6 hok6 p6 f6 n6 u6 q6 (Or.inr (Or.inr k10)) hc (Or.inr k64) e5
            · refine ⟨fun _ => ?_, fun q => absurd rfl q⟩
              have eP : pT D (isM tx nms) t = pGlob D (tP D (t + 1)) (tV D (t + 1)) (t + 2) := by rw [pT, if_neg q13, if_pos (Or.inr (Or.inr k10)), pNeed, if_pos q6, if_neg hc, if_neg (fun q => q.elim k11 k64)]
              clear fu ro name
              rw [eP] at hE ⊢
              refine s_mk h hok6 p6 f6 n6 u6 fun B hokB hB b1 b2 b3 b4 b5 b6 b7 => ?_
              have pB := hB.2.2.2.2.2.2.2.1
              have gB := hB.2.2.2.2.2.2.2.2.1
              have htB := pB.lt
              refine ⟨hs_t2 pB.1, _, s_X1_takes pB, ?_⟩
              intro v46 A46 hok46 _ hv46
              refine ⟨fun y C => ∃ vt tb, (if tK D (t + 2) = 72 then pE D 40 (t + 3) else .ok (lf, t + 2)) = (.ok (vt, tb) : pR) ∧ xok G C ∧ PS G C x D tb 0 ∧ pf x A C ∧ t + 2 ≤ tb ∧ C.tg A6.n = 14 ∧ C.I A6.n 0 = 1 ∧ C.I A6.n 2 = tP D (t + 1) ∧ C.I A6.n 1 = tV D (t + 1) ∧ C.I A6.n 3 = 0 ∧ C.n + 1 ≤ A.n + 24 * (tb - t) ∧ C.u + 1 ≤ A.u + 128 * (tb - t) ∧ orX G C (fun a => A.n ≤ a ∧ a ≠ A6.n) vt y, ?_, fun z46 => ?_, fun z46 => ?_⟩
              · rintro y C ⟨vt, tb, c1, c2, c3, c4, c5, c6, c7, c8, c9, c9', c10, c11, c12⟩
                rw [pGlob, c1] at hE ⊢
                refine ⟨c6, ?_⟩
                rintro _ rfl
                have f10 : Fr (fun a => a = A6.n) C (C.setP A6.n 6 y) := Fr.setP rfl
                have hok10 : xok G (C.setP A6.n 6 y) := c2.setP (by omega)
                have p10 : PS G (C.setP A6.n 6 y) x D tb 0 := c3.fr f10 (fun a ha q => by omega)
                have g10 : pf x A (C.setP A6.n 6 y) := c4.own f10 (fun a ha q => by omega) hxl
                have hT : rT G (C.setP A6.n 6 y) x (fun a => A.n ≤ a) A6.n (nd 41 [tP D (t + 1), tV D (t + 1)] vt lf) := ⟨by omega, c6, c7, c8, c9, c9', by
                  have : (C.setP A6.n 6 y).P A6.n 6 = y := by rw [gP_P, if_pos ⟨rfl, rfl⟩]
                  rw [this]
                  exact (c12.fr c2 hok10 f10 (Kp.one (by rw [c6]; decide) (fun q => q.2 rfl))).mn hok10 (fun a q _ => q.1)⟩
                exact ⟨hs_t2 p10.1, _, s_X1_end (h.nx g10 p10 (by omega)) hE (fun B hB fB => rT.fr hok10 hB fB.1 (p10.kx (by omega)) hT) c10 c11 rfl, fun B _ q => q⟩
              · rcases hv46 with ⟨rfl, -⟩ | ⟨rfl, k72, rfl⟩
                · exact absurd z46 (by decide)
                · exact ⟨lf, t + 2, if_neg k72, hokB, pB, gB, Nat.le_refl _, b1, b2, b3, b4, b7, by omega, by omega, Or.inl ⟨rfl, rfl⟩⟩
              · rcases hv46 with ⟨rfl, k72, p46, f46, n46, u46⟩ | ⟨rfl, k72, rfl⟩
                · rw [pGlob, if_pos k72] at hE
                  rw [if_pos k72]
                  have ht46 := p46.lt
                  have a46 := f46.1.1
                  refine ⟨hs_t2 p46.1, _, s_g0 (d := 40) rfl A46 (t + 3) E p46 (h.m (by omega) (by omega) (by omega) (by omega)) (hE.sub (gB.tr f46) (by omega) (by omega) (by omega) (fun f e => by rw [e]; rfl)), ?_⟩
                  rintro _ A53 hok53 ⟨sv, st, t9, r9, rfl, p9, f9, l9, n9, u9, i9, x9⟩
                  have q9 : ∀ k, A53.I A6.n k = B.I A6.n k := fun k => (f9.1.I (by omega) (by omega)).trans (f46.1.I (by omega) (by omega))
                  refine ⟨st, t9, r9, hok53, p9, (gB.tr f46).tr f9, by omega, (f9.1.tg (by omega)).trans ((f46.1.tg (by omega)).trans b1), (q9 _).trans b2, (q9 _).trans b3, (q9 _).trans b4, (q9 _).trans b7, by omega, by omega, Or.inr ⟨sv, i9, rfl, rX.mn hok53 _ (fun a q _ => ⟨by omega, by omega⟩) x9⟩⟩
                · exact absurd rfl z46
        · refine ⟨fun _ => ?_, fun q => absurd rfl q⟩
          refine ⟨hs_t2 hp.1, _, s_X1_wrong hp, ?_⟩
          rintro _ _ _ ⟨rfl, rfl⟩
          exact ⟨_, rfl, hE.fl t pf.rf (Nat.le_refl _) (by omega) (by omega) (by omega) (by rw [pT, if_neg q13, if_neg (fun q => q.elim k12 fun q => q.elim k11 k10)])⟩
      · have k11 : tK D t = 11 := by
          rcases hv5 with ⟨rfl, q⟩ | ⟨rfl, q⟩
          · exact q
          · exact absurd rfl z5
        exact name (Or.inr (Or.inl k11)) fun A6 hok6 p6 f6 n6 u6 q6 => ro A6 hok6 p6 f6 n6 u6 q6 (Or.inr (Or.inl k11)) (fun q => q.1 k11) (Or.inl k11) e5
    · have k12 : tK D t = 12 := by
        rcases hv3 with ⟨rfl, q⟩ | ⟨rfl, q⟩
        · exact q
        · exact absurd rfl z3
      have k11 : ¬ tK D t = 11 := by rw [k12]; decide
      refine name (Or.inl k12) fun A6 hok6 p6 f6 n6 u6 q6 => ⟨fun z5 => fu A6 hok6 p6 f6 n6 u6 q6 (Or.inl k12) ⟨k11, Or.inl k12⟩ e3, fun z5 => ?_⟩
      rcases hv5 with ⟨rfl, q⟩ | ⟨rfl, q⟩
      · exact absurd q k11
      · exact absurd rfl z5
end HR1
