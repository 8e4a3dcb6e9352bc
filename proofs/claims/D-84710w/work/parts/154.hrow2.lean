/-! ===== the House's parser: arrays that are told ===== -/
set_option maxRecDepth 100000
section HT2
variable {G : xG} {A A0 A1 B : xA} {x t t0 t1 op al e : Nat} {D : tkL} {E : Nat → xA → Prop} {r : pR} {vs : List Nat} {tr : Tr}
theorem s_J5_new00 (hO : xHO G) (hw : xok G A) : w_J5_init_2 G A.n 0 (fun B => Fr (fun _ => False) A B ∧ xL G B A.n [] ∧ B.n = A.n + 1 ∧ B.u = A.u + 3 ∧ xcap B A.n = 0) (A.new 37 0 3 0) := by
  have h0 := hO.2.1.2.1
  have hN := hw.2.1
  have ha := hw.2.2 _ h0.2.1
  have hne : ¬ G.cs 1 = A.n := by have := h0.2.1; omega
  have e : (((A.new 37 0 3 0).setI A.n 0 0).setP A.n 1 (some (G.cs 1))).P A.n 1 = some (G.cs 1) := by rw [gP_P, if_pos ⟨rfl, rfl⟩]
  have e2 : (((A.new 37 0 3 0).setI A.n 0 0).setP A.n 1 (some (G.cs 1))).tg (G.cs 1) = 204 := by
    rw [gP_tg, gI_tg, gN_tg, if_neg hne, ha.1]
    exact h0.2.2.1
  have e3 : (((A.new 37 0 3 0).setI A.n 0 0).setP A.n 1 (some (G.cs 1))).ln (G.cs 1) = 0 := by
    rw [gP_ln, gI_ln, gN_ln, if_neg hne, ha.2.1]
    exact h0.2.2.2.1
  refine ⟨by rw [gN_tg, if_pos rfl], Or.inl ⟨rfl, ?_, ⟨?_, hN, ?_, by decide, G.cs 1, e, e2, Nat.zero_le _, ?_, Or.inl ⟨e3, Or.inr rfl⟩, fun i v hv => by simp at hv, fun v hv => by simp at hv⟩, rfl, rfl, ?_⟩⟩
  · exact (Fr.fn.fs.fp).no (Nat.le_refl _)
  · rw [gP_tg, gI_tg, gN_tg, if_pos rfl]
  · rw [gP_I, gI_I, if_neg (by omega), gN_I, if_pos rfl]
    rfl
  · rw [e3]
    decide
  · rw [xcap_of e, e3]
theorem TS.nx (h : TS G x D al vs A0 t0 A t op) (hf : pf x A0 B) (p : PS G B x D t1 op) (ht : t0 ≤ t1) : TS G x D al vs A0 t0 B t1 op := ⟨h.1, h.2.1, h.2.2.1, h.2.2.2.1, h.2.2.2.2.1, h.2.2.2.2.2.1, h.2.2.2.2.2.2.1, p, hf, ht⟩
theorem TS.m {z : Nat} (h : TS G x D al vs A0 t0 A t op) (hn : B.n + 12 * z ≤ A0.n + 24 * (t1 - t0)) (hu : B.u + 64 * z ≤ A0.u + 128 * (t1 - t0)) (ht : t0 ≤ t1) (ht1 : t1 ≤ D.length) : pm G D B t1 z := h.2.2.2.2.2.2.1.sub (by omega) (by omega)
theorem TS.rr {c s : Nat} (h : TS G x D al vs A0 t0 A t op) (t1 : Nat) (hn : B.n + c ≤ A0.n + 24 * (t1 - t0)) (hu : B.u + s ≤ A0.u + 128 * (t1 - t0)) (ht : t0 ≤ t1) (ht1 : t1 ≤ D.length) : rm G B c s := h.2.2.2.2.2.2.1.sub (by omega) (by omega)
theorem s_X1_row_2 (hO : xHO G) {b p nm : Int32} (hb : b = 0 ∨ b = 1) (h : TS G x D al vs A0 t0 A t 0) (he : A0.n ≤ e) (h0 : A.tg e = 14) (h1 : A.I e 0 = 2) (h2 : A.I e 2 = p) (h3 : A.I e 1 = nm) (hn : A.n + 20 ≤ A0.n + 24 * (t - t0)) (hu : A.u + 80 ≤ A0.u + 128 * (t - t0)) (hE : pX x D A0 t0 0 (pRowT D b p nm t) E) : w_X1_row_2 G (x + 2) (some e) b (TQ G x D al vs A0 t0 (pRowT D b p nm t)) E A := by
  intro hok
  have hp := h.2.2.2.2.2.2.2.1
  have hf := h.2.2.2.2.2.2.2.2.1
  have ht0 := h.2.2.2.2.2.2.2.2.2
  have ht := hp.lt
  have hl := hp.1.lt
  have hN := hp.1.1
  have hle := hp.le
  have hel := hok.1.lt h0
  have hal := h.1
  have hal2 := h.2.1
  have hxl : x + 2 < A0.n := by omega
  refine ⟨e, rfl, h0, hb, ?_⟩
  rintro _ rfl
  have f4 : Fr (fun a => a = e) A (A.setI e 3 b) := Fr.setI rfl
  have p4 : PS G (A.setI e 3 b) x D t 0 := hp.fr f4 (fun a ha q => by omega)
  have g4 : pf x A0 (A.setI e 3 b) := hf.own f4 (fun a ha q => by omega) hxl
  have k4 : (A.setI e 3 b).tg e = 14 ∧ (A.setI e 3 b).I e 0 = 2 ∧ (A.setI e 3 b).I e 2 = p ∧ (A.setI e 3 b).I e 1 = nm ∧ (A.setI e 3 b).I e 3 = b := by
    refine ⟨h0, ?_, ?_, ?_, ?_⟩ <;> grind [gI_I, gI_L, gI_P, gI_tg, gI_ln, gI_gh, gI_n, gI_u, gL_I, gL_L, gL_P, gL_tg, gL_ln, gL_gh, gL_n, gL_u, gP_I, gP_L, gP_P, gP_tg, gP_ln, gP_gh, gP_n, gP_u, gN_I, gN_L, gN_P, gN_tg, gN_ln, gN_gh, gN_n, gN_u]
  have nn4 : (A.setI e 3 b).n = A.n := rfl
  have uu4 : (A.setI e 3 b).u = A.u := rfl
  generalize A.setI e 3 b = A4 at *
  refine ⟨hs_t2 p4.1, _, s_X1_opens p4 (fun q => hE.fl t g4 (by omega) (by omega) (by omega) (by omega) (by rw [pRowT, pOpen, if_neg q])) (fun q e => absurd e (by decide)), ?_⟩
  rintro A5 hok5 ⟨q5, ho, p5, f5, n5, u5⟩
  rw [pRowT, pOpen, if_pos q5, if_neg (by decide)] at hE ⊢
  have ht5 := p5.lt
  have g5 := g4.tr f5
  refine ⟨hs_t2 p5.1, _, s_g0 (d := 39) rfl A5 (t + 1) E p5 (h.m (by omega) (by omega) (by omega) (by omega)) (hE.sub g5 (by omega) (by omega) (by omega) (fun f e => by rw [e]; rfl)), ?_⟩
  rintro _ A7 hok7 ⟨sv, st, t7, r7, rfl, p7, f7, l7, n7, u7, i7, x7⟩
  rw [r7] at hE ⊢
  have ht7 := p7.lt
  have g7 := g5.tr f7
  have k7 : A7.tg e = 14 ∧ A7.I e 0 = 2 ∧ A7.I e 2 = p ∧ A7.I e 1 = nm ∧ A7.I e 3 = b := by
    have q : ∀ k, A7.I e k = A4.I e k := fun k => (f7.1.I (by omega) (by omega)).trans (f5.1.I (by omega) (by omega))
    rw [q, q, q, q, f7.1.tg (by omega), f5.1.tg (by omega)]
    exact k4
  have a7 := g7.1.1
  have a5 := g5.1.1
  have a57 := f7.1.1
  refine ⟨k7.1, ?_⟩
  rintro _ rfl
  have f10 : Fr (fun a => a = e) A7 (A7.setP e 6 (some sv)) := Fr.setP rfl
  have hok10 : xok G (A7.setP e 6 (some sv)) := hok7.setP (by omega)
  have p10 : PS G (A7.setP e 6 (some sv)) x D t7 (0 + 1) := p7.fr f10 (fun a ha q => by omega)
  have g10 : pf x A0 (A7.setP e 6 (some sv)) := g7.own f10 (fun a ha q => by omega) hxl
  have k10 : (A7.setP e 6 (some sv)).tg e = 14 ∧ (A7.setP e 6 (some sv)).I e 0 = 2 ∧ (A7.setP e 6 (some sv)).I e 2 = p ∧ (A7.setP e 6 (some sv)).I e 1 = nm ∧ (A7.setP e 6 (some sv)).I e 3 = b ∧ (A7.setP e 6 (some sv)).P e 6 = some sv := ⟨k7.1, k7.2.1, k7.2.2.1, k7.2.2.2.1, k7.2.2.2.2, by grind [gI_I, gI_L, gI_P, gI_tg, gI_ln, gI_gh, gI_n, gI_u, gL_I, gL_L, gL_P, gL_tg, gL_ln, gL_gh, gL_n, gL_u, gP_I, gP_L, gP_P, gP_tg, gP_ln, gP_gh, gP_n, gP_u, gN_I, gN_L, gN_P, gN_tg, gN_ln, gN_gh, gN_n, gN_u]⟩
  have x10 : rX G (A7.setP e 6 (some sv)) (fun a => A0.n ≤ a ∧ a ≠ e) st [] [sv] := rX.fr hok7 hok10 f10 _ (Kp.one (by rw [k7.1]; decide) (fun q => q.2 rfl)) (rX.mn hok7 _ (fun a q _ => ⟨by omega, by omega⟩) x7)
  have nn10 : (A7.setP e 6 (some sv)).n = A7.n := rfl
  have uu10 : (A7.setP e 6 (some sv)).u = A7.u := rfl
  generalize A7.setP e 6 (some sv) = A10 at *
  refine ⟨hs_t2 p10.1, _, s_X1_closes p10 (by decide) (fun q => hE.fl t7 g10 (by omega) (by omega) (by omega) (by omega) (if_neg q)), ?_⟩
  rintro A11 hok11 ⟨q11, p11, f11, n11, u11⟩
  have eP11 : (pAnd (.ok (st, t7)) fun s t1 => pNeed D 65 t1 (pAnd (if tK D (t1 + 1) = 72 then pOpen D 66 40 (t1 + 2) (pAnd (pArgs D (pE D 39) D.length (t1 + 3)) fun vs t2 => pNeed D 67 t2 (.ok (vs, t2 + 1))) else .ok (lf, t1 + 1)) fun vs t3 => pNeed D 69 t3 (.ok (nd 42 [p, nm, b] s vs, t3 + 1))) : pR) = pAnd (if tK D (t7 + 1) = 72 then pOpen D 66 40 (t7 + 2) (pAnd (pArgs D (pE D 39) D.length (t7 + 3)) fun vs t2 => pNeed D 67 t2 (.ok (vs, t2 + 1))) else .ok (lf, t7 + 1)) fun vs t3 => pNeed D 69 t3 (.ok (nd 42 [p, nm, b] st vs, t3 + 1)) := if_pos q11
  rw [eP11] at hE ⊢
  have ht11 := p11.lt
  have g11 := g10.tr f11
  have a11 := g11.1.1
  have hl11 := p11.1.lt
  have k11 : A11.tg e = 14 ∧ A11.I e 0 = 2 ∧ A11.I e 2 = p ∧ A11.I e 1 = nm ∧ A11.I e 3 = b ∧ A11.P e 6 = some sv := by
    have q : ∀ k, A11.I e k = A10.I e k := fun k => f11.1.I (by omega) (by omega)
    rw [q, q, q, q, f11.1.tg (by omega), f11.1.P (by omega) (by omega)]
    exact k10
  have x11 := rX.mn (N' := fun a => A0.n ≤ a ∧ a ≠ e ∧ a ≠ A11.n) hok11 _ (fun a q q' => ⟨q.1, q.2, by omega⟩) (rX.fr hok10 hok11 f11.1 _ (p10.kx (by omega)) x10)
  refine ⟨(h.rr (B := A11) (t7 + 1) (c := 1) (s := 3) (by omega) (by omega) (by omega) (by omega)).o, ?_⟩
  rintro _ rfl
  refine ⟨_, s_J5_new00 hO hok11, ?_⟩
  rintro A15 hok15 ⟨f15, l15, n15, u15, c15⟩
  have p15 : PS G A15 x D (t7 + 1) 0 := p11.fr f15 (fun _ _ q => q)
  have g15 : pf x A0 A15 := g11.own f15 (fun _ _ q => q) hxl
  have hel11 : e < A11.n := hok11.1.lt k11.1
  have k15 : A15.tg e = 14 ∧ A15.I e 0 = 2 ∧ A15.I e 2 = p ∧ A15.I e 1 = nm ∧ A15.I e 3 = b ∧ A15.P e 6 = some sv := by
    have q : ∀ k, A15.I e k = A11.I e k := fun k => f15.I hel11 (fun q => q)
    rw [q, q, q, q, f15.tg hel11, f15.P hel11 (fun q => q)]
    exact k11
  have x15 := rX.fr hok11 hok15 f15 _ Kp.no x11
  refine ⟨k15.1, ?_⟩
  rintro _ rfl
  have f17 : Fr (fun a => a = e) A15 (A15.setP e 7 (some A11.n)) := Fr.setP rfl
  have hok17 : xok G (A15.setP e 7 (some A11.n)) := hok15.setP (by omega)
  have p17 : PS G (A15.setP e 7 (some A11.n)) x D (t7 + 1) 0 := p15.fr f17 (fun a ha q => by omega)
  have g17 : pf x A0 (A15.setP e 7 (some A11.n)) := g15.own f17 (fun a ha q => by omega) hxl
  have k17 : (A15.setP e 7 (some A11.n)).tg e = 14 ∧ (A15.setP e 7 (some A11.n)).I e 0 = 2 ∧ (A15.setP e 7 (some A11.n)).I e 2 = p ∧ (A15.setP e 7 (some A11.n)).I e 1 = nm ∧ (A15.setP e 7 (some A11.n)).I e 3 = b ∧ (A15.setP e 7 (some A11.n)).P e 6 = some sv ∧ (A15.setP e 7 (some A11.n)).P e 7 = some A11.n := ⟨k15.1, k15.2.1, k15.2.2.1, k15.2.2.2.1, k15.2.2.2.2.1, by grind [gI_I, gI_L, gI_P, gI_tg, gI_ln, gI_gh, gI_n, gI_u, gL_I, gL_L, gL_P, gL_tg, gL_ln, gL_gh, gL_n, gL_u, gP_I, gP_L, gP_P, gP_tg, gP_ln, gP_gh, gP_n, gP_u, gN_I, gN_L, gN_P, gN_tg, gN_ln, gN_gh, gN_n, gN_u], by grind [gI_I, gI_L, gI_P, gI_tg, gI_ln, gI_gh, gI_n, gI_u, gL_I, gL_L, gL_P, gL_tg, gL_ln, gL_gh, gL_n, gL_u, gP_I, gP_L, gP_P, gP_tg, gP_ln, gP_gh, gP_n, gP_u, gN_I, gN_L, gN_P, gN_tg, gN_ln, gN_gh, gN_n, gN_u]⟩
  have hne : A11.n ≠ e := by omega
  have x17 := rX.fr hok15 hok17 f17 _ (Kp.one (by rw [k15.1]; decide) (fun q => q.2.1 rfl)) x15
  have l17 : xL G (A15.setP e 7 (some A11.n)) A11.n [] := l15.fr' hok15 hok17 f17 (N := fun a => a ≠ e) (Kp.one (by rw [k15.1]; decide) (fun q => q rfl)) hne
  have c17 : xcap (A15.setP e 7 (some A11.n)) A11.n = 0 := (xcap.fr l15 hok15 f17 hne).trans c15
  have nn17 : (A15.setP e 7 (some A11.n)).n = A15.n := rfl
  have uu17 : (A15.setP e 7 (some A11.n)).u = A15.u := rfl
  generalize A15.setP e 7 (some A11.n) = A17 at *
  -- what stays of e, of its size
  have stay : ∀ {B C : xA} {S : Nat → Prop}, Fr S B C → xok G B → B.tg e = 14 ∧ B.I e 0 = 2 ∧ B.I e 2 = p ∧ B.I e 1 = nm ∧ B.I e 3 = b ∧ B.P e 6 = some sv ∧ B.P e 7 = some A11.n → ¬ S e → C.tg e = 14 ∧ C.I e 0 = 2 ∧ C.I e 2 = p ∧ C.I e 1 = nm ∧ C.I e 3 = b ∧ C.P e 6 = some sv ∧ C.P e 7 = some A11.n := by
    intro B C S hF hB hk hs
    have hl := hB.1.lt hk.1
    rw [hF.tg hl, hF.I hl hs, hF.I hl hs, hF.I hl hs, hF.I hl hs, hF.P hl hs, hF.P hl hs]
    exact hk
  have nx2 : e ≠ x + 2 := by omega
  refine ⟨hs_t2 p17.1, _, s_X1_takes p17, ?_⟩
  intro v18 A18 hok18 _ hv18
  refine ⟨fun A20 => ∃ vt ws t20, (if tK D (t7 + 1) = 72 then pOpen D 66 40 (t7 + 2) (pAnd (pArgs D (pE D 39) D.length (t7 + 3)) fun vs t2 => pNeed D 67 t2 (.ok (vs, t2 + 1))) else .ok (lf, t7 + 1)) = (.ok (vt, t20) : pR) ∧ xok G A20 ∧ PS G A20 x D t20 0 ∧ pf x A0 A20 ∧ t7 + 1 ≤ t20 ∧ (A20.tg e = 14 ∧ A20.I e 0 = 2 ∧ A20.I e 2 = p ∧ A20.I e 1 = nm ∧ A20.I e 3 = b ∧ A20.P e 6 = some sv ∧ A20.P e 7 = some A11.n) ∧ rX G A20 (fun a => A0.n ≤ a ∧ a ≠ e) st [] [sv] ∧ xL G A20 A11.n ws ∧ rX G A20 (fun a => A0.n ≤ a ∧ a ≠ e) vt [] ws ∧ A20.n + 1 ≤ A0.n + 24 * (t20 - t0) ∧ A20.u + 1 ≤ A0.u + 128 * (t20 - t0), ?_, fun z18 => ?_, fun z18 => ?_⟩
  · rintro A20 ⟨vt, ws, t20, e20, hok20, p20, g20, l20, k20, x20, w20, y20, n20, u20⟩
    rw [e20] at hE ⊢
    have hT : rT G A20 x (fun a => A0.n ≤ a) e (nd 42 [p, nm, b] st vt) := ⟨he, k20.1, k20.2.1, k20.2.2.1, k20.2.2.2.1, k20.2.2.2.2.1, sv, A11.n, ws, k20.2.2.2.2.2.1, i7, rX.mn hok20 _ (fun a q _ => q.1) x20, k20.2.2.2.2.2.2, by omega, w20, rX.mn hok20 _ (fun a q _ => q.1) y20⟩
    exact ⟨hs_t2 p20.1, _, s_X1_end (h.nx g20 p20 (by omega)) hE (fun B hB fB => rT.fr hok20 hB fB.1 (p20.kx (by omega)) hT) n20 u20 rfl, fun B _ q => q⟩
  · rcases hv18 with ⟨rfl, -⟩ | ⟨rfl, q18, rfl⟩
    · exact absurd z18 (by decide)
    · exact ⟨lf, [], t7 + 1, if_neg q18, hok17, p17, g17, Nat.le_refl _, k17, rX.mn hok17 _ (fun a q _ => ⟨q.1, q.2.1⟩) x17, l17, ⟨rfl, rfl⟩, by omega, by omega⟩
  · rcases hv18 with ⟨rfl, q18, p18, f18, n18, u18⟩ | ⟨rfl, q18, rfl⟩
    rotate_left
    · exact absurd rfl z18
    rw [if_pos q18] at hE ⊢
    have ht18 := p18.lt
    have g18 := g17.tr f18
    refine ⟨hs_t2 p18.1, _, s_X1_opens p18 (fun q => hE.fl (t7 + 2) g18 (by omega) (by omega) (by omega) (by omega) (by rw [pOpen, if_neg q]; rfl)) (fun q e => absurd e (by decide)), ?_⟩
    rintro A23 hok23 ⟨q23, ho23, p23, f23, n23, u23⟩
    rw [pOpen, if_pos q23, if_neg (by decide)] at hE ⊢
    have ht23 := p23.lt
    have g23 := g18.tr f23
    have a23 := g23.1.1
    have k23 := stay f23.1 hok18 (stay f18.1 hok17 k17 nx2) nx2
    have x23 := rX.fr hok18 hok23 f23.1 _ (p18.kx (by omega)) (rX.fr hok17 hok18 f18.1 _ (p17.kx (by omega)) x17)
    have l18 := l17.fr' hok17 hok18 f18.1 (N := fun a => A0.n ≤ a) (p17.kx (by omega)) (by omega)
    have l23 := l18.fr' hok18 hok23 f23.1 (N := fun a => A0.n ≤ a) (p18.kx (by omega)) (by omega)
    have c23 : xcap A23 A11.n = 0 := (xcap.fr l18 hok18 f23.1 (by show ¬ A11.n = x + 2; omega)).trans ((xcap.fr l17 hok17 f18.1 (by show ¬ A11.n = x + 2; omega)).trans c17)
    refine ⟨fun n25 A25 => ∃ as ws t25 f, pArgs D (pE D 39) D.length (t7 + 3) = pAnd (pArgs D (pE D 39) f t25) (fun s t2 => .ok (tApp as s, t2)) ∧ D.length - t25 < f ∧ n25 = D.length - t25 ∧ xok G A25 ∧ PS G A25 x D t25 (0 + 1) ∧ pf x A0 A25 ∧ (A25.tg e = 14 ∧ A25.I e 0 = 2 ∧ A25.I e 2 = p ∧ A25.I e 1 = nm ∧ A25.I e 3 = b ∧ A25.P e 6 = some sv ∧ A25.P e 7 = some A11.n) ∧ rX G A25 (fun a => A0.n ≤ a ∧ a ≠ e ∧ a ≠ A11.n) st [] [sv] ∧ xL G A25 A11.n ws ∧ rXs G A25 (fun a => A0.n ≤ a ∧ a ≠ e ∧ a ≠ A11.n) as ws ∧ t7 + 3 + ws.length ≤ t25 ∧ A25.n + 10 + 20 * ws.length ≤ A0.n + 24 * (t25 - t0) ∧ A25.u + 40 + 120 * ws.length ≤ A0.u + 128 * (t25 - t0) + 3 * xcap A25 A11.n ∧ xcap A25 A11.n ≤ 2 * ws.length + 10, ⟨_, [], [], t7 + 3, D.length, ?_, by omega, rfl, hok23, p23, g23, k23, x23, l23, trivial, by show t7 + 3 + 0 ≤ t7 + 3; omega, by show A23.n + 10 + 20 * 0 ≤ _; omega, by show A23.u + 40 + 120 * 0 ≤ _; omega, by omega⟩, ?_⟩
    · cases pArgs D (pE D 39) D.length (t7 + 3) <;> rfl
    rintro _ A25 ⟨as, ws, t25, f, e25, hf25, rfl, hok25, p25, g25, k25, x25, l25, y25, le25, n25, u25, c25⟩
    obtain ⟨f, rfl⟩ : ∃ f', f = f' + 1 := ⟨f - 1, by omega⟩
    have ht25 := p25.lt
    have a25 := g25.1.1
    refine ⟨k25.1, hs_t2 p25.1, _, s_g0 (d := 39) rfl A25 t25 E p25 (h.m (by omega) (by omega) (by omega) (by omega)) (hE.sub g25 (by omega) (by omega) (by omega) (fun f e => by rw [e25, pArgs, e]; rfl)), ?_⟩
    rintro _ A27 hok27 ⟨e27, tr27, t27, r27, rfl, p27, g27, l27, n27, u27, i27, x27⟩
    have ht27 := p27.lt
    have l27' := l25.fr' hok25 hok27 g27.1 (N := fun a => A0.n ≤ a) (p25.kx (by omega)) (by omega)
    have c27 : xcap A27 A11.n = xcap A25 A11.n := xcap.fr l25 hok25 g27.1 (by show ¬ A11.n = x + 2; omega)
    have hl27 : A11.n < A27.n := hok27.1.lt l27'.1
    have a27 := g27.1.1
    refine ⟨A11.n, k25.2.2.2.2.2.2, l27'.1, _, s_J5_add l27' (rX.ob i27 x27).2.2.el (by omega) (h.rr (B := A27) t27 (by omega) (by omega) (by omega) (by omega)), ?_⟩
    rintro _ A29 hok29 _ ⟨rfl, a29⟩
    have f29 := a29.fr hl27
    have n29 := a29.2.2.1
    have u29 := a29.2.2.2.1
    have c29 := a29.2.2.2.2.1
    have k27 := stay g27.1 hok25 k25 nx2
    have hS29 : ¬ (e = A11.n ∨ A27.gh e = 1000 + A11.n) := by
      rintro (q | q)
      · exact hne q.symm
      · have := (p27.g _ _ (hok27.1.lt k27.1) q).2
        rw [k27.1] at this
        exact absurd this (by decide)
    have k29 := stay f29 hok27 k27 hS29
    have p29 : PS G A29 x D t27 (0 + 1) := p27.ad a29 (by omega) hl27
    have g29 : pf x A0 A29 := (g25.tr g27).add p27.g a29 (by omega) hl27 hxl
    have kl : ∀ {N : Nat → Prop}, ¬ N A11.n → Kp (fun a => a = A11.n ∨ A27.gh a = 1000 + A11.n) N A27 := fun q => Kp.li p27.g l27'.1 q
    have x29 := rX.fr hok27 hok29 f29 _ (kl (fun q => q.2.2 rfl)) (rX.fr hok25 hok27 g27.1 _ (p25.kx (by omega)) x25)
    have y29 := rXs.fr hok27 hok29 f29 (kl (fun q => q.2.2 rfl)) (rXs.snoc (rX.mn (N' := fun a => A0.n ≤ a ∧ a ≠ e ∧ a ≠ A11.n) hok27 _ (fun a q _ => ⟨by omega, by have := hok25.1.lt k25.1; omega, by have := hok25.1.lt l25.1; omega⟩) x27) (rXs.fr hok25 hok27 g27.1 (p25.kx (by omega)) y25))
    have hc29 : xcap A29 A11.n ≤ 2 * (ws.length + 1) + 10 := by
      have : xcap A29 A11.n ≤ max (xcap A27 A11.n) (2 * ws.length + 10) := c29
      omega
    refine ⟨hs_t2 p29.1, _, s_X1_takes p29, ?_⟩
    rintro v32 A32 hok32 _ (⟨rfl, q32, p32, f32, n32, u32⟩ | ⟨rfl, q32, rfl⟩)
    · refine ⟨fun q => absurd q (by decide), fun _ => ?_⟩
      have ht32 := p32.lt
      refine ⟨D.length - (t27 + 1), by omega, as ++ [tr27], ws ++ [e27], t27 + 1, f, ?_, by omega, rfl, hok32, p32, g29.tr f32, stay f32.1 hok29 k29 nx2, rX.fr hok29 hok32 f32.1 _ (p29.kx (by omega)) x29, a29.1.fr' hok29 hok32 f32.1 (N := fun a => A0.n ≤ a) (p29.kx (by omega)) (by omega), rXs.fr hok29 hok32 f32.1 (p29.kx (by omega)) y29, ?_⟩
      · rw [e25, pArgs, r27]
        show pAnd (if tK D t27 = 68 then _ else _) _ = _
        rw [if_pos q32]
        cases pArgs D (pE D 39) f (t27 + 1) with
        | error e => rfl
        | ok q => exact congrArg (fun z => Except.ok (z, q.2)) tApp_snoc.symm
      · rw [xcap.fr a29.1 hok29 f32.1 (by show ¬ A11.n = x + 2; omega), List.length_append]
        show t7 + 3 + (ws.length + 1) ≤ t27 + 1 ∧ A32.n + 10 + 20 * (ws.length + 1) ≤ A0.n + 24 * (t27 + 1 - t0) ∧ A32.u + 40 + 120 * (ws.length + 1) ≤ A0.u + 128 * (t27 + 1 - t0) + 3 * xcap A29 A11.n ∧ xcap A29 A11.n ≤ 2 * (ws.length + 1) + 10
        omega
    · refine ⟨fun _ => ?_, fun q => absurd rfl q⟩
      have eA : (pAnd (pArgs D (pE D 39) D.length (t7 + 3)) fun vs t2 => pNeed D 67 t2 (.ok (vs, t2 + 1)) : pR) = pNeed D 67 t27 (.ok (tApp (as ++ [tr27]) lf, t27 + 1)) := by
        rw [e25, pArgs, r27]
        show pAnd (pAnd (if tK D t27 = 68 then _ else _) _) _ = _
        rw [if_neg q32, tApp_snoc]
        rfl
      rw [eA] at hE ⊢
      refine ⟨hs_t2 p29.1, _, s_X1_closes p29 (by decide) (fun q => hE.fl t27 g29 (by omega) (by omega) (by omega) (by omega) (by rw [pNeed, if_neg q]; rfl)), ?_⟩
      rintro A34 hok34 ⟨q34, p34, f34, n34, u34⟩
      rw [pNeed, if_pos q34]
      have yy := rXs.app (s := lf) (ws := []) ⟨rfl, rfl⟩ (rXs.mn (N' := fun a => A0.n ≤ a ∧ a ≠ e) hok34 (fun a q _ => ⟨q.1, q.2.1⟩) (rXs.fr hok29 hok34 f34.1 (p29.kx (by omega)) y29))
      rw [List.append_nil] at yy
      exact ⟨_, _, t27 + 1, rfl, hok34, p34, g29.tr f34, by omega, stay f34.1 hok29 k29 nx2, rX.mn hok34 _ (fun a q _ => ⟨q.1, q.2.1⟩) (rX.fr hok29 hok34 f34.1 _ (p29.kx (by omega)) x29), a29.1.fr' hok29 hok34 f34.1 (N := fun a => A0.n ≤ a) (p29.kx (by omega)) (by omega), yy, by omega, by omega⟩
end HT2
