/-! ===== the House's parser: what is told in functions ===== -/
set_option maxRecDepth 100000
section HT
variable {G : xG} {A A1 B : xA} {x t t1 op d z z1 : Nat} {D : tkL} {E : Nat → xA → Prop} {r : pR} {v : Option Nat}
/-- a statement whose semicolon is still to come -/
def j8 (G : xG) (x : Nat) (D : tkL) (A : xA) (t op : Nat) (r : pR) (y : Option Nat) (B : xA) : Prop := ∃ e tr t8, some e = y ∧ r = pNeed D 69 t8 (.ok (tr, t8 + 1)) ∧ PS G B x D t8 op ∧ pf x A B ∧ t ≤ t8 ∧ B.n ≤ A.n + 24 * (t8 - t) ∧ B.u ≤ A.u + 128 * (t8 - t) ∧ isS tr ∧ rS G B x (fun a => A.n ≤ a) tr [some e] ∧ xok G B
theorem j8_q (hE : pX x D A t 0 r E) (hx : x + 2 < A.n) {y : Option Nat} (hj : j8 G x D A t op r y B) : B.tg (x + 2) = 2 ∧ ∃ R9 : xA → Prop, w_X1_need G (x + 2) (69 : Int32) R9 E B ∧ ∀ A9 : xA, xok G A9 → R9 A9 → tQ G x D A t op r y A9 := by
  obtain ⟨e, tr, t8, rfl, hr, p8, f8, l8, n8, u8, i8, x8, hok8⟩ := hj
  have ht8 := p8.lt
  have hl := p8.1.lt
  have a8 := f8.1.1
  rw [hr] at hE ⊢
  refine ⟨hs_t2 p8.1, _, s_X1_need p8 (fun q => hE.fl t8 f8 l8 (by omega) (by omega) (by omega) (by rw [pNeed, if_neg q])), ?_⟩
  rintro A9 hok9 ⟨q9, p9, f9, n9, u9⟩
  exact ⟨e, tr, t8 + 1, by rw [pNeed, if_pos q9], rfl, p9, f8.tr f9, by omega, by omega, by omega, i8, rS.fr hok8 hok9 f9.1 (p8.kx (by omega)) _ x8⟩
theorem s_X1_tell (hop : op + d = 40) (hk : tK D t = 10 ∨ tK D t = 11) (h : PS G A x D t op) (hr : pm G D A t 0) (hE : pX x D A t 0 (pTell D d t) E) : w_X1_tell G (x + 2) (tQ G x D A t op (pTell D d t)) E A := by
  intro hok
  have ht := h.lt
  have hxl := h.xl
  have hl := h.1.lt
  have hN := h.1.1
  have hx1 : t + 1 < D.length := h.2.2.1.nx ht (by rcases hk with q | q <;> rw [q] <;> decide) (by rcases hk with q | q <;> rw [q] <;> decide)
  refine ⟨hs_t2 h.1, _, s_X1_is h, ?_⟩
  rintro v1 _ _ _ ⟨hv1, rfl⟩
  have hv01 : v1 = 0 ∨ v1 = 1 := by rcases hv1 with ⟨q, -⟩ | ⟨q, -⟩ <;> simp [q]
  have hb : v1 = if tK D t = 11 then 1 else 0 := by rcases hv1 with ⟨rfl, q⟩ | ⟨rfl, q⟩ <;> simp [q]
  refine ⟨hs_t2 h.1, ?_⟩
  rintro _ rfl
  rw [h.a, nI_1]
  have p4 := h.at hx1
  have f4 : pf x A (A.setI (x + 2) 3 (nI (t + 1))) := pf.rf.set
  have hok4 : xok G (A.setI (x + 2) 3 (nI (t + 1))) := hok.setI (by omega)
  have nn4 : (A.setI (x + 2) 3 (nI (t + 1))).n = A.n := rfl
  have uu4 : (A.setI (x + 2) 3 (nI (t + 1))).u = A.u := rfl
  generalize A.setI (x + 2) 3 (nI (t + 1)) = A4 at *
  refine ⟨_, s_X1_here p4, ?_⟩
  rintro _ _ _ ⟨rfl, rfl⟩
  refine ⟨hs_t2 p4.1, _, s_X1_needName p4 (fun q => hE.fl (t + 1) f4 (by omega) (by omega) (by omega) (by omega) (by rw [pTell, pNeed, if_neg q])), ?_⟩
  rintro _ A6 hok6 ⟨q6, rfl, p6, f6, n6, u6⟩
  have ht6 := p6.lt
  have f16 := f4.tr f6
  have a6 := f16.1.1
  refine ⟨j8 G x D A t op (pTell D d t), fun y A8 hj => j8_q hE hxl hj, ?_⟩
  rw [pTell, pNeed, if_pos q6] at hE ⊢
  -- an array
  have arr : (tK D t = 11 ∨ tK D (t + 2) = 64) → A6.tg (x + 2) = 2 ∧ (∃ R11 : xA → Prop, w_X1_opens G (x + 2) (64 : Int32) R11 E A6 ∧ (∀ A11 : xA, xok G A11 → R11 A11 → (A11.tg (x + 2) = 2 ∧ (∃ R13 : Option Nat → xA → Prop, g_P_0 G (x + 2) R13 E A11 ∧ (∀ (v13 : Option Nat) (A13 : xA), xok G A13 → R13 v13 A13 → (A13.tg (x + 2) = 2 ∧ (∃ R15 : xA → Prop, w_X1_closes G (x + 2) (65 : Int32) R15 E A13 ∧ (∀ A15 : xA, xok G A15 → R15 A15 → (rmO G A15 4 ∧ (∀ A18 : xA, A18 = A15.new 24 0 4 0 → (∃ R19 : xA → Prop, w_X25_init G A15.n (tP D (t + 1)) (tV D (t + 1)) v1 v13 R19 A18 ∧ (∀ A19 : xA, xok G A19 → R19 A19 → (j8 G x D A t op (if tK D t = 11 ∨ tK D (t + 2) = 64 then pOpen D 64 d (t + 2) (pAnd (pE' D d (t + 3)) fun s t1 => pNeed D 65 t1 (pNeed D 69 (t1 + 1) (.ok (nd 24 [tP D (t + 1), tV D (t + 1), if tK D t = 11 then 1 else 0] s lf, t1 + 2))))
    else if tK D (t + 2) = 72 then pAnd (pE D d (t + 3)) fun e t1 => pNeed D 69 t1 (.ok (nd 23 [tP D (t + 1), tV D (t + 1)] e lf, t1 + 1)) else pNeed D 69 (t + 2) (.ok (nd 23 [tP D (t + 1), tV D (t + 1)] lf lf, t + 3))) (some A15.n) A19))))))))))))) := by
    intro hc
    rw [if_pos hc] at hE ⊢
    refine ⟨hs_t2 p6.1, _, s_X1_opens p6 (fun q => hE.fl (t + 2) f16 (by omega) (by omega) (by omega) (by omega) (by rw [pOpen, if_neg q])) (fun q e => hE.fl (t + 2) f16 (by omega) (by omega) (by omega) (by omega) (by rw [pOpen, if_pos q, if_pos (by omega)])), ?_⟩
    rintro A11 hok11 ⟨q11, ho, p11, f11, n11, u11⟩
    obtain ⟨d', rfl⟩ : ∃ d', d = d' + 1 := ⟨d - 1, by omega⟩
    rw [pOpen, if_pos q11, if_neg (by omega)] at hE ⊢
    have ht11 := p11.lt
    have f1b := f16.tr f11
    refine ⟨hs_t2 p11.1, _, s_g0 (d := d') (by omega) A11 (t + 3) E p11 (hr.sub (by omega) (by omega) (by omega) (by omega)) (hE.sub f1b (by omega) (by omega) (by omega) (fun f e => by rw [pE'_s, e]; rfl)), ?_⟩
    rintro _ A13 hok13 ⟨e, tr, t13, r13, rfl, p13, f13, l13, n13, u13, i13, x13⟩
    have e2 : (pAnd (pE' D (d' + 1) (t + 3)) fun s t1 => pNeed D 65 t1 (pNeed D 69 (t1 + 1) (.ok (nd 24 [tP D (t + 1), tV D (t + 1), if tK D t = 11 then 1 else 0] s lf, t1 + 2)))) = pNeed D 65 t13 (pNeed D 69 (t13 + 1) (.ok (nd 24 [tP D (t + 1), tV D (t + 1), if tK D t = 11 then 1 else 0] tr lf, t13 + 2))) := by rw [pE'_s, r13]; rfl
    rw [e2] at hE ⊢
    have ht13 := p13.lt
    have f1d := f1b.tr f13
    refine ⟨hs_t2 p13.1, _, s_X1_closes p13 (by omega) (fun q => hE.fl t13 f1d (by omega) (by omega) (by omega) (by omega) (by rw [pNeed, if_neg q])), ?_⟩
    rintro A15 hok15 ⟨q15, p15, f15, n15, u15⟩
    rw [pNeed, if_pos q15] at hE ⊢
    have ht15 := p15.lt
    have f1f := f1d.tr f15
    have a15 := f1f.1.1
    have a11 := f1b.1.1
    have hl15 := p15.1.lt
    refine ⟨(hr.rr (A1 := A15) (t1 := t13 + 1) (c := 1) (s := 4) (by omega) (by omega) (by omega) (by omega)).o, ?_⟩
    rintro _ rfl
    refine ⟨_, s_X25_init (by rw [gN_tg, if_pos rfl]) hv01, ?_⟩
    rintro _ hok19 rfl
    have f19 : Fr (fun a => a = A15.n) A15 (((((A15.new 24 0 4 0).setI A15.n 1 (tP D (t + 1))).setI A15.n 0 (tV D (t + 1))).setI A15.n 2 v1).setP A15.n 3 (some e)) := Fr.fn.fs.fs.fs.fp
    refine ⟨A15.n, nd 24 [tP D (t + 1), tV D (t + 1), if tK D t = 11 then 1 else 0] tr lf, t13 + 1, rfl, rfl, p15.fr f19 (fun a ha q => by omega), f1f.own f19 (fun a ha q => by omega) hxl, by omega, ?_, ?_, by right; right; decide, ⟨A15.n, e, rfl, by omega, ?_, ?_, ?_, ?_, ?_, i13, ?_⟩, hok19⟩
    · show A15.n + 1 ≤ _
      omega
    · show A15.u + 4 ≤ _
      omega
    · grind [gI_I, gI_L, gI_P, gI_tg, gI_ln, gI_gh, gI_n, gI_u, gL_I, gL_L, gL_P, gL_tg, gL_ln, gL_gh, gL_n, gL_u, gP_I, gP_L, gP_P, gP_tg, gP_ln, gP_gh, gP_n, gP_u, gN_I, gN_L, gN_P, gN_tg, gN_ln, gN_gh, gN_n, gN_u]
    · grind [gI_I, gI_L, gI_P, gI_tg, gI_ln, gI_gh, gI_n, gI_u, gL_I, gL_L, gL_P, gL_tg, gL_ln, gL_gh, gL_n, gL_u, gP_I, gP_L, gP_P, gP_tg, gP_ln, gP_gh, gP_n, gP_u, gN_I, gN_L, gN_P, gN_tg, gN_ln, gN_gh, gN_n, gN_u]
    · grind [gI_I, gI_L, gI_P, gI_tg, gI_ln, gI_gh, gI_n, gI_u, gL_I, gL_L, gL_P, gL_tg, gL_ln, gL_gh, gL_n, gL_u, gP_I, gP_L, gP_P, gP_tg, gP_ln, gP_gh, gP_n, gP_u, gN_I, gN_L, gN_P, gN_tg, gN_ln, gN_gh, gN_n, gN_u]
    · rw [← hb]
      grind [gI_I, gI_L, gI_P, gI_tg, gI_ln, gI_gh, gI_n, gI_u, gL_I, gL_L, gL_P, gL_tg, gL_ln, gL_gh, gL_n, gL_u, gP_I, gP_L, gP_P, gP_tg, gP_ln, gP_gh, gP_n, gP_u, gN_I, gN_L, gN_P, gN_tg, gN_ln, gN_gh, gN_n, gN_u]
    · grind [gI_I, gI_L, gI_P, gI_tg, gI_ln, gI_gh, gI_n, gI_u, gL_I, gL_L, gL_P, gL_tg, gL_ln, gL_gh, gL_n, gL_u, gP_I, gP_L, gP_P, gP_tg, gP_ln, gP_gh, gP_n, gP_u, gN_I, gN_L, gN_P, gN_tg, gN_ln, gN_gh, gN_n, gN_u]
    · exact rX.fr hok15 hok19 f19 _ (Kp.nw (Nat.le_refl _)) (rX.fr hok13 hok15 f15.1 _ (p13.kx (by omega)) (rX.mn hok13 _ (fun a q _ => by omega) x13))
  refine ⟨fun q1 => ?_, fun q1 => arr (Or.inl ?_)⟩
  · have q11 : ¬ tK D t = 11 := by
      rcases hv1 with ⟨rfl, q⟩ | ⟨rfl, q⟩
      · exact absurd q1 (by decide)
      · exact q
    refine ⟨hs_t2 p6.1, _, s_X1_is p6, ?_⟩
    rintro v20 _ _ _ ⟨⟨rfl, q20⟩ | ⟨rfl, q20⟩, rfl⟩
    · refine ⟨fun q => absurd q (by decide), fun _ => ?_⟩
      exact arr (Or.inr q20)
    · refine ⟨fun _ => ?_, fun q => absurd rfl q⟩
      have hc : ¬ (tK D t = 11 ∨ tK D (t + 2) = 64) := fun q => q.elim q11 q20
      rw [if_neg hc] at hE ⊢
      clear arr
      refine ⟨(hr.rr (A1 := A6) (t1 := t + 2) (c := 1) (s := 3) (by omega) (by omega) (by omega) (by omega)).o, ?_⟩
      rintro _ rfl
      have p8 : PS G (A6.new 25 0 3 0) x D (t + 2) op := p6.fr Fr.fn (fun a ha q => by omega)
      have f8 : pf x A (A6.new 25 0 3 0) := f16.own Fr.fn (fun a ha q => by omega) hxl
      have nn : (A6.new 25 0 3 0).n = A6.n + 1 := rfl
      have uu : (A6.new 25 0 3 0).u = A6.u + 3 := rfl
      have hok8 : xok G (A6.new 25 0 3 0) := hok6.new
      have tg8 : (A6.new 25 0 3 0).tg A6.n = 25 := by rw [gN_tg, if_pos rfl]
      generalize A6.new 25 0 3 0 = A8 at *
      refine ⟨hs_t2 p8.1, _, s_X1_takes p8, ?_⟩
      intro v24 A24 hok24 _ hv24
      refine ⟨fun y B => ∃ tr tb, (if tK D (t + 2) = 72 then pAnd (pE D d (t + 3)) fun e t1 => pNeed D 69 t1 (.ok (nd 23 [tP D (t + 1), tV D (t + 1)] e lf, t1 + 1)) else pNeed D 69 (t + 2) (.ok (nd 23 [tP D (t + 1), tV D (t + 1)] lf lf, t + 3))) = pNeed D 69 tb (.ok (nd 23 [tP D (t + 1), tV D (t + 1)] tr lf, tb + 1)) ∧ xok G B ∧ PS G B x D tb op ∧ pf x A B ∧ t + 2 ≤ tb ∧ B.n ≤ A.n + 24 * (tb - t) ∧ B.u ≤ A.u + 128 * (tb - t) ∧ A8.n ≤ B.n ∧ B.tg A6.n = 25 ∧ orX G B (fun a => A.n ≤ a ∧ a ≠ A6.n) tr y, ?_, ?_⟩
      · rintro y B ⟨tr, tb, eb, hokb, pb, fb, lb, nb, ub, ab, tgb, xb⟩
        rw [eb]
        refine ⟨_, s_X26_init tgb, ?_⟩
        rintro _ hok27 rfl
        have f27 : Fr (fun a => a = A6.n) B (((B.setI A6.n 1 (tP D (t + 1))).setI A6.n 0 (tV D (t + 1))).setP A6.n 2 y) := Fr.rf.fs.fs.fp
        have hlb := pb.1.lt
        refine ⟨A6.n, nd 23 [tP D (t + 1), tV D (t + 1)] tr lf, tb, rfl, rfl, pb.fr f27 (fun a ha q => by omega), fb.own f27 (fun a ha q => by omega) hxl, by omega, nb, ub, by right; right; decide, ⟨A6.n, rfl, by omega, tgb, ?_, ?_, ?_⟩, hok27⟩
        · grind [gI_I, gI_L, gI_P, gI_tg, gI_ln, gI_gh, gI_n, gI_u, gL_I, gL_L, gL_P, gL_tg, gL_ln, gL_gh, gL_n, gL_u, gP_I, gP_L, gP_P, gP_tg, gP_ln, gP_gh, gP_n, gP_u, gN_I, gN_L, gN_P, gN_tg, gN_ln, gN_gh, gN_n, gN_u]
        · grind [gI_I, gI_L, gI_P, gI_tg, gI_ln, gI_gh, gI_n, gI_u, gL_I, gL_L, gL_P, gL_tg, gL_ln, gL_gh, gL_n, gL_u, gP_I, gP_L, gP_P, gP_tg, gP_ln, gP_gh, gP_n, gP_u, gN_I, gN_L, gN_P, gN_tg, gN_ln, gN_gh, gN_n, gN_u]
        · have e1 : (((B.setI A6.n 1 (tP D (t + 1))).setI A6.n 0 (tV D (t + 1))).setP A6.n 2 y).P A6.n 2 = y := by grind [gI_I, gI_L, gI_P, gI_tg, gI_ln, gI_gh, gI_n, gI_u, gL_I, gL_L, gL_P, gL_tg, gL_ln, gL_gh, gL_n, gL_u, gP_I, gP_L, gP_P, gP_tg, gP_ln, gP_gh, gP_n, gP_u, gN_I, gN_L, gN_P, gN_tg, gN_ln, gN_gh, gN_n, gN_u]
          rw [e1]
          exact (xb.fr hokb hok27 f27 (Kp.one (by rw [tgb]; decide) (fun q => q.2 rfl))).mn hok27 (fun a q _ => q.1)
      · refine ⟨fun q24 => ?_, fun q24 => ?_⟩
        · rcases hv24 with ⟨rfl, -⟩ | ⟨rfl, q72, rfl⟩
          · exact absurd q24 (by decide)
          · refine ⟨lf, t + 2, by rw [if_neg q72], hok8, p8, f8, by omega, by omega, by omega, by omega, tg8, Or.inl ⟨rfl, rfl⟩⟩
        · rcases hv24 with ⟨rfl, q72, p24, f24, n24, u24⟩ | ⟨rfl, q72, rfl⟩
          · rw [if_pos q72] at hE ⊢
            have ht24 := p24.lt
            have a24 := f24.1.1
            refine ⟨hs_t2 p24.1, _, s_g0 hop A24 (t + 3) E p24 (hr.sub (by omega) (by omega) (by omega) (by omega)) (hE.sub (f8.tr f24) (by omega) (by omega) (by omega) (fun f e => by rw [e]; rfl)), ?_⟩
            rintro _ A28 hok28 ⟨e, tr, t28, r28, rfl, p28, f28, l28, n28, u28, i28, x28⟩
            have a28 := f28.1.1
            refine ⟨tr, t28, by rw [r28]; rfl, hok28, p28, (f8.tr f24).tr f28, by omega, by omega, by omega, by omega, ?_, Or.inr ⟨e, i28, rfl, rX.mn hok28 _ (fun a q _ => ⟨by omega, by omega⟩) x28⟩⟩
            rw [f28.1.tg (by omega), f24.1.tg (by omega)]
            exact tg8
          · exact absurd rfl q24
  · rcases hv1 with ⟨rfl, q⟩ | ⟨rfl, q⟩
    · exact q
    · exact absurd rfl q1
end HT
