/-! ===== the House's parser: operands, signs ahead ===== -/
set_option maxRecDepth 100000
abbrev oT2 : Type := Nat → Int32 → Int32 → (Option Nat → xA → Prop) → (Nat → xA → Prop) → xA → Prop
def oF (G : xG) (x : Nat) (D : tkL) (r5 : oT2) (P : Int32 → Int32 → Nat → pR) (op : Nat) : Prop := ∀ p nm A t E, PS G A x D t op → pm G D A t 1 → pX x D A t 1 (P p nm t) E → r5 (x + 2) p nm (pQ G x D A t op 1 (P p nm t)) E A
section HO
variable {G : xG} {A A1 B : xA} {x t t1 op d z z1 : Nat} {D : tkL} {E : Nat → xA → Prop} {r : pR} {v : Option Nat}
theorem pQ.sub (hB : xok G B) (h : pQ G x D A1 t1 op z1 r v B) (hf : pf x A A1) (ht : t ≤ t1) (hn : A1.n + 12 * z1 ≤ A.n + (24 * (t1 - t) + 12 * z)) (hu : A1.u + 64 * z1 ≤ A.u + (128 * (t1 - t) + 64 * z)) : pQ G x D A t op z r v B := by
  obtain ⟨e, tr, t2, h1, h2, h3, h4, h5, h6, h7, h8, h9⟩ := h
  exact ⟨e, tr, t2, h1, h2, h3, hf.tr h4, by omega, by omega, by omega, h8, rX.mn hB _ (fun a q _ => Nat.le_trans hf.1.1 q) h9⟩
variable {r0 r2 r3 r4 : oT} {r1' : Nat → Int32 → (Option Nat → xA → Prop) → (Nat → xA → Prop) → xA → Prop} {r5 r6 : oT2}
theorem s_X1_operand (h4 : oE G x D r4 (pIn D (pE' D d) d) op) (h5 : oF G x D r5 (pPlace D (pE' D d) d) op) (h6 : oF G x D r6 (pCall D (pE' D d) d) op) (hop : op + d = 40) : oE G x D (w_X1_operand G r0 r1' r2 r3 r4 r5 r6) (pOpnd D (pE' D d) d) op := by
  intro A t E h hr hE hok
  have ht := h.lt
  have hxl := h.xl
  have hle := h.le
  refine ⟨hs_t2 h.1, _, s_X1_here h, ?_⟩
  rintro _ _ _ ⟨rfl, rfl⟩
  refine ⟨hs_t2 h.1, _, s_X1_takes h, ?_⟩
  rintro v3 A3 hok3 _ (⟨rfl, q3, h3, f3, n3, u3⟩ | ⟨rfl, q3, rfl⟩)
  · refine ⟨fun q => absurd q (by decide), fun _ => ?_⟩
    have ht3 := h3.lt
    refine ⟨(hr.rr (A1 := A3) (t1 := t + 1) (c := 1) (s := 2) (by omega) (by omega) (by omega) (by omega)).o, ?_⟩
    rintro _ rfl
    have h33 : PS G (A3.new 15 0 2 0) x D (t + 1) op := h3.fr Fr.fn (fun a ha q => by have := h3.1.lt; omega)
    have e : (A3.new 15 0 2 0).I (x + 2) 3 - 1 = nI t := by rw [h33.a, nI_pred]
    have ev : (A3.new 15 0 2 0).I (x + 8) (ix ((A3.new 15 0 2 0).I (x + 2) 3 - 1)) = tV D t := by
      rw [e, show ix (nI t) = t from nI_clamp (by omega)]
      exact (tk_at h33.2.1 ht).2.1 (Or.inr q3)
    refine ⟨hs_t2 h33.1, _, hs_P2_0 h33.1, hs_t3 h33.1, _, hs_P3_4 h33.1, hs_t8 h33.1, ?_, _, s_X16_init (by rw [gN_tg, if_pos rfl]), ?_⟩
    · rw [e, hs_n8 h33.1]
      exact vp_in_nI (by omega) (by decide)
    rintro _ hok40 rfl
    rw [ev] at hok40 ⊢
    have f40 : Fr (fun a => a = A3.n) A3 (((A3.new 15 0 2 0).setI A3.n 0 (tP D t)).setI A3.n 1 (tV D t)) := Fr.fn.fs.fs
    have hle3 := f3.1.1
    refine ⟨A3.n, nd 0 [tP D t, tV D t] lf lf, t + 1, by rw [pOpnd, if_pos q3], rfl, h3.fr f40 (fun a ha q => by have := h3.1.lt; omega), f3.own f40 (fun a ha q => by omega) hxl, by omega, ?_, ?_, by show 0 ≤ 8; decide, ?_⟩
    · show A3.n + 1 ≤ _
      omega
    · show A3.u + 2 ≤ _
      omega
    · refine ⟨rfl, A3.n, rfl, hle3, ?_⟩
      refine ⟨?_, ?_, ?_⟩ <;> grind [gI_I, gI_L, gI_P, gI_tg, gI_ln, gI_gh, gI_n, gI_u, gL_I, gL_L, gL_P, gL_tg, gL_ln, gL_gh, gL_n, gL_u, gP_I, gP_L, gP_P, gP_tg, gP_ln, gP_gh, gP_n, gP_u, gN_I, gN_L, gN_P, gN_tg, gN_ln, gN_gh, gN_n, gN_u]
  · refine ⟨fun _ => ?_, fun q => absurd rfl q⟩
    refine ⟨hs_t2 h.1, _, s_X1_takes h, ?_⟩
    rintro v5 A5 hok5 _ (⟨rfl, q5, p5, f5, n5, u5⟩ | ⟨rfl, q5, rfl⟩)
    · refine ⟨fun q => absurd q (by decide), fun _ => ?_⟩
      have ht5 := p5.lt
      have e : A5.I (x + 2) 3 - 1 = nI t := by rw [p5.a, nI_pred]
      have ev : A5.I (x + 8) (ix (A5.I (x + 2) 3 - 1)) = tV D t := by
        rw [e, show ix (nI t) = t from nI_clamp (by omega)]
        exact (tk_at p5.2.1 ht).2.1 (Or.inl q5)
      refine ⟨hs_t2 p5.1, _, hs_P2_0 p5.1, hs_t3 p5.1, _, hs_P3_4 p5.1, hs_t8 p5.1, ?_, _, s_X1_is p5, ?_⟩
      · rw [e, hs_n8 p5.1]
        exact vp_in_nI (by omega) (by decide)
      rintro v27 _ _ _ ⟨⟨rfl, q27⟩ | ⟨rfl, q27⟩, rfl⟩
      · refine ⟨fun q => absurd q (by decide), fun _ => ?_⟩
        rw [ev]
        have eP : pOpnd D (pE' D d) d t = pCall D (pE' D d) d (tP D t) (tV D t) (t + 1) := by rw [pOpnd, if_neg q3, if_pos q5, if_pos q27]
        rw [eP] at hE ⊢
        refine ⟨hs_t2 p5.1, _, h6 _ _ A5 (t + 1) E p5 (hr.sub (by omega) (by omega) (by omega) (by omega)) (hE.sub f5 (by omega) (by omega) (by omega) (fun f e => e)), ?_⟩
        intro v30 A30 hok30 q
        exact q.sub hok30 f5 (by omega) (by omega) (by omega)
      · refine ⟨fun _ => ?_, fun q => absurd rfl q⟩
        rw [ev]
        have eP : pOpnd D (pE' D d) d t = pPlace D (pE' D d) d (tP D t) (tV D t) (t + 1) := by rw [pOpnd, if_neg q3, if_pos q5, if_neg q27]
        rw [eP] at hE ⊢
        refine ⟨hs_t2 p5.1, _, h5 _ _ A5 (t + 1) E p5 (hr.sub (by omega) (by omega) (by omega) (by omega)) (hE.sub f5 (by omega) (by omega) (by omega) (fun f e => e)), ?_⟩
        intro v30 A30 hok30 q
        exact q.sub hok30 f5 (by omega) (by omega) (by omega)
    · refine ⟨fun _ => ?_, fun q => absurd rfl q⟩
      refine ⟨hs_t2 h.1, _, s_X1_takes h, ?_⟩
      rintro v7 A7 hok7 _ (⟨rfl, q7, p7, f7, n7, u7⟩ | ⟨rfl, q7, rfl⟩)
      · refine ⟨fun q => absurd q (by decide), fun _ => ?_⟩
        have ht7 := p7.lt
        have eP : pOpnd D (pE' D d) d t = pOpen D 62 d (t + 1) (pNeed D 63 (t + 2) (.ok (nd 1 [tP D t, tP D t] lf lf, t + 3))) := by rw [pOpnd, if_neg q3, if_neg q5, if_pos q7]
        rw [eP] at hE ⊢
        refine ⟨hs_t2 p7.1, _, s_X1_opens p7 (fun q => hE.fl (t + 1) f7 (by omega) (by omega) (by omega) (by omega) (by rw [pOpen, if_neg q])) (fun q e => hE.fl (t + 1) f7 (by omega) (by omega) (by omega) (by omega) (by rw [pOpen, if_pos q, if_pos (by omega)])), ?_⟩
        rintro A14 hok14 ⟨q14, ho, p14, f14, n14, u14⟩
        have ht14 := p14.lt
        rw [pOpen, if_pos q14, if_neg (by omega)] at hE ⊢
        refine ⟨hs_t2 p14.1, _, s_X1_closes p14 (by omega) (fun q => hE.fl (t + 2) (f7.tr f14) (by omega) (by omega) (by omega) (by omega) (by rw [pNeed, if_neg q])), ?_⟩
        rintro A16 hok16 ⟨q16, p16, f16, n16, u16⟩
        have ht16 := p16.lt
        rw [pNeed, if_pos q16] at hE ⊢
        have g16 := (f7.tr f14).tr f16
        have hle16 := g16.1.1
        refine ⟨(hr.rr (A1 := A16) (t1 := t + 3) (c := 1) (s := 2) (by omega) (by omega) (by omega) (by omega)).o, ?_⟩
        rintro _ rfl
        refine ⟨_, s_X19_init (by rw [gN_tg, if_pos rfl]), ?_⟩
        rintro _ hok20 rfl
        have f20 : Fr (fun a => a = A16.n) A16 (((A16.new 18 0 2 0).setI A16.n 0 (tP D t)).setI A16.n 1 (tP D t)) := Fr.fn.fs.fs
        refine ⟨A16.n, nd 1 [tP D t, tP D t] lf lf, t + 3, rfl, rfl, p16.fr f20 (fun a ha q => by have := p16.1.lt; omega), g16.own f20 (fun a ha q => by omega) hxl, by omega, ?_, ?_, by show 1 ≤ 8; decide, ?_⟩
        · show A16.n + 1 ≤ _
          omega
        · show A16.u + 2 ≤ _
          omega
        · refine ⟨rfl, A16.n, rfl, hle16, ?_⟩
          refine ⟨?_, ?_, ?_⟩ <;> grind [gI_I, gI_L, gI_P, gI_tg, gI_ln, gI_gh, gI_n, gI_u, gL_I, gL_L, gL_P, gL_tg, gL_ln, gL_gh, gL_n, gL_u, gP_I, gP_L, gP_P, gP_tg, gP_ln, gP_gh, gP_n, gP_u, gN_I, gN_L, gN_P, gN_tg, gN_ln, gN_gh, gN_n, gN_u]
      · refine ⟨fun _ => ?_, fun q => absurd rfl q⟩
        have eP : pOpnd D (pE' D d) d t = pAnd (pIn D (pE' D d) d t) fun e t1 => .ok (tSet (tP D t) e, t1) := by rw [pOpnd, if_neg q3, if_neg q5, if_neg q7]
        rw [eP] at hE ⊢
        refine ⟨hs_t2 h.1, _, h4 A t E h hr (hE.sub pf.rf (by omega) (by omega) (by omega) (fun f e => by rw [e]; rfl)), ?_⟩
        rintro _ A9 hok9 ⟨e, tr, t9, r9, rfl, p9, f9, l9, n9, u9, i9, x9⟩
        rw [r9] at hE ⊢
        obtain ⟨o1, o2, o3⟩ := rX.ob i9 x9
        refine ⟨e, rfl, o3, ?_⟩
        rintro _ rfl
        have hN := h.1.1
        have hl9 := h.1.lt
        have hok13 : xok G (A9.setI e 0 (tP D t)) := hok9.setI (by omega)
        have s13 := rX.set (f := tP D t) hok9 hok13 i9 x9
        have f13 : Fr (fun a => a = e) A9 (A9.setI e 0 (tP D t)) := Fr.setI rfl
        exact ⟨e, _, t9, rfl, rfl, p9.fr f13 (fun a ha q => by omega), f9.own f13 (fun a ha q => by omega) hxl, l9, n9, u9, s13.1, s13.2⟩
end HO
