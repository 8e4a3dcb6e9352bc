/-! ===== the House's parser: what is told ===== -/
set_option maxRecDepth 100000
def fQ (G : xG) (x : Nat) (D : tkL) (A : xA) (t : Nat) : Option Nat → xA → Prop := fun o B => ∃ v tr t1, pFm D t = .ok (tr, t1) ∧ some v = o ∧ PS G B x D t1 1 ∧ pf x A B ∧ t < t1 ∧ B.n + 8 ≤ A.n + 24 * (t1 - t) ∧ B.u + 32 ≤ A.u + 128 * (t1 - t) ∧ (∃ ds, tr = nd 44 ds lf lf) ∧ rF B (fun a => A.n ≤ a) tr [v]
/-- what is told has come to the row of all -/
def TQ (G : xG) (x : Nat) (D : tkL) (al : Nat) (vs : List Nat) (A0 : xA) (t0 : Nat) (r : pR) : xA → Prop := fun B => ∃ e tr t1, r = .ok (tr, t1) ∧ PS G B x D t1 0 ∧ Fr (fun a => a = x + 2 ∨ a = al ∨ A0.gh a = 1000 + al) A0 B ∧ (∀ k, B.P (x + 2) k = A0.P (x + 2) k) ∧ xL G B al (vs ++ [e]) ∧ rT G B x (fun a => A0.n ≤ a) e tr ∧ t0 < t1 ∧ B.n ≤ A0.n + 24 * (t1 - t0) ∧ B.u + 3 * xcap A0 al ≤ A0.u + 128 * (t1 - t0) + 3 * xcap B al ∧ xcap B al ≤ max (xcap A0 al) (2 * vs.length + 10)
/-- where the parser is with what is told: A0 was the world ahead of it -/
def TS (G : xG) (x : Nat) (D : tkL) (al : Nat) (vs : List Nat) (A0 : xA) (t0 : Nat) (A : xA) (t op : Nat) : Prop := x + 110 ≤ al ∧ al < A0.n ∧ xok G A0 ∧ xL G A0 al vs ∧ A0.P (x + 2) 7 = some al ∧ vs.length < 100000 ∧ rm G A0 (24 * (D.length - t0)) (128 * (D.length - t0) + 2 * vs.length + 20) ∧ PS G A x D t op ∧ pf x A0 A ∧ t0 ≤ t
section HT1
variable {G : xG} {A A0 A1 B : xA} {x t t0 t1 op al e : Nat} {D : tkL} {E : Nat → xA → Prop} {r : pR} {vs : List Nat} {tr : Tr}
theorem s_X24_init {p : Nat} {f q n a b : Int32} (h : A.tg p = 23) (ha : a = 0 ∨ a = 1) (hb : b = 0 ∨ b = 1) : w_X24_init G p f q n a b (fun B => ((((A.setI p 2 f).setI p 1 q).setI p 0 n).setI p 3 a).setI p 4 b = B) A := by
  intro _
  refine ⟨h, ?_⟩
  rintro _ rfl _ rfl _ rfl
  refine ⟨ha, ?_⟩
  rintro _ rfl
  refine ⟨hb, ?_⟩
  rintro _ rfl
  rfl
theorem s_formalEnd {fi p nm a b : Int32} (ha : a = 0 ∨ a = 1) (hb : b = 0 ∨ b = 1) (hr : pm G D A t 0) (hxl : x + 2 < A.n) (hok : xok G B) (p9 : PS G B x D t1 1) (f9 : pf x A B) (l9 : t + 2 ≤ t1) (n9 : B.n ≤ A.n) (u9 : B.u ≤ A.u) (hq : pFm D t = .ok (nd 44 [fi, p, nm, a, b] lf lf, t1)) :
    rmO G B 5 ∧ ∀ A15 : xA, A15 = B.new 23 0 5 0 → ∃ R16 : xA → Prop, w_X24_init G B.n fi p nm a b R16 A15 ∧ ∀ A16 : xA, xok G A16 → R16 A16 → fQ G x D A t (some B.n) A16 := by
  have ht9 := p9.lt
  have hl := p9.1.lt
  have a9 := f9.1.1
  refine ⟨(hr.rr (A1 := B) (t1 := t1) (c := 1) (s := 5) (by omega) (by omega) (by omega) (by omega)).o, ?_⟩
  rintro _ rfl
  refine ⟨_, s_X24_init (by rw [gN_tg, if_pos rfl]) ha hb, ?_⟩
  rintro _ hok16 rfl
  have f16 : Fr (fun a => a = B.n) B ((((((B.new 23 0 5 0).setI B.n 2 fi).setI B.n 1 p).setI B.n 0 nm).setI B.n 3 a).setI B.n 4 b) := Fr.fn.fs.fs.fs.fs.fs
  refine ⟨B.n, _, t1, hq, rfl, p9.fr f16 (fun a ha q => by omega), f9.own f16 (fun a ha q => by omega) hxl, by omega, ?_, ?_, ⟨_, rfl⟩, B.n, [], rfl, a9, ?_, ?_, ?_, ?_, ?_, ?_, rfl⟩
  · show B.n + 1 + 8 ≤ _
    omega
  · show B.u + 5 + 32 ≤ _
    omega
  all_goals grind [gI_I, gI_L, gI_P, gI_tg, gI_ln, gI_gh, gI_n, gI_u, gL_I, gL_L, gL_P, gL_tg, gL_ln, gL_gh, gL_n, gL_u, gP_I, gP_L, gP_P, gP_tg, gP_ln, gP_gh, gP_n, gP_u, gN_I, gN_L, gN_P, gN_tg, gN_ln, gN_gh, gN_n, gN_u]
theorem s_X1_formal (h : PS G A x D t 1) (hr : pm G D A t 0) (hE : pX x D A t 0 (pFm D t) E) : w_X1_formal G (x + 2) (fQ G x D A t) E A := by
  intro hok
  have ht := h.lt
  have hxl := h.xl
  have hl := h.1.lt
  have hN := h.1.1
  refine ⟨hs_t2 h.1, _, s_X1_here h, ?_⟩
  rintro _ _ _ ⟨rfl, rfl⟩
  refine ⟨hs_t2 h.1, _, s_X1_is h, ?_⟩
  rintro v3 _ _ _ ⟨⟨rfl, q11⟩ | ⟨rfl, q11⟩, rfl⟩
  · refine ⟨fun q => absurd q (by decide), fun _ => ?_⟩
    have e1 : pFm D t = pNeed D 2 (t + 1) (pOpen D 64 39 (t + 2) (pNeed D 65 (t + 3) (.ok (nd 44 [tP D t, tP D (t + 1), tV D (t + 1), 1, 1] lf lf, t + 4)))) := by rw [pFm, if_pos (Or.inl q11), if_pos (Or.inl q11), if_pos q11]
    rw [e1] at hE
    refine ⟨hs_t2 h.1, ?_⟩
    rintro _ rfl
    rw [h.a, nI_1]
    have p4 := h.at (h.2.2.1.nx' ht q11)
    have f4 : pf x A (A.setI (x + 2) 3 (nI (t + 1))) := pf.rf.set
    have nn4 : (A.setI (x + 2) 3 (nI (t + 1))).n = A.n := rfl
    have uu4 : (A.setI (x + 2) 3 (nI (t + 1))).u = A.u := rfl
    generalize A.setI (x + 2) 3 (nI (t + 1)) = A4 at *
    have ht4 := p4.lt
    refine ⟨_, s_X1_here p4, ?_⟩
    rintro _ _ _ ⟨rfl, rfl⟩
    refine ⟨hs_t2 p4.1, _, s_X1_needName p4 (fun q => hE.fl (t + 1) f4 (by omega) (by omega) (by omega) (by omega) (by rw [pNeed, if_neg q])), ?_⟩
    rintro _ A6 hok6 ⟨q6, rfl, p6, f6, n6, u6⟩
    rw [pNeed, if_pos q6] at hE e1
    have ht6 := p6.lt
    refine ⟨hs_t2 p6.1, _, s_X1_opens p6 (fun q => hE.fl (t + 2) (f4.tr f6) (by omega) (by omega) (by omega) (by omega) (by rw [pOpen, if_neg q])) (fun q e => absurd e (by decide)), ?_⟩
    rintro A10 hok10 ⟨q10, ho, p10, f10, n10, u10⟩
    rw [pOpen, if_pos q10, if_neg (by decide)] at hE e1
    have ht10 := p10.lt
    refine ⟨hs_t2 p10.1, _, s_X1_closes p10 (by decide) (fun q => hE.fl (t + 3) ((f4.tr f6).tr f10) (by omega) (by omega) (by omega) (by omega) (by rw [pNeed, if_neg q])), ?_⟩
    rintro A12 hok12 ⟨q12, p12, f12, n12, u12⟩
    rw [pNeed, if_pos q12] at e1
    exact s_formalEnd (Or.inr rfl) (Or.inr rfl) hr hxl hok12 p12 (((f4.tr f6).tr f10).tr f12) (by omega) (by omega) (by omega) e1
  · refine ⟨fun _ => ?_, fun q => absurd rfl q⟩
    refine ⟨hs_t2 h.1, _, s_X1_is h, ?_⟩
    rintro v17 _ _ _ ⟨⟨rfl, q10⟩ | ⟨rfl, q10⟩, rfl⟩
    · refine ⟨fun q => absurd q (by decide), fun _ => ?_⟩
      have e1 : pFm D t = pNeed D 2 (t + 1) (if tK D t = 11 ∨ tK D (t + 2) = 64 then pOpen D 64 39 (t + 2) (pNeed D 65 (t + 3) (.ok (nd 44 [tP D t, tP D (t + 1), tV D (t + 1), 1, 0] lf lf, t + 4))) else .ok (nd 44 [tP D t, tP D (t + 1), tV D (t + 1), 0, 0] lf lf, t + 2)) := by rw [pFm, if_pos (Or.inr q10), if_neg q11]
      rw [e1] at hE
      refine ⟨hs_t2 h.1, ?_⟩
      rintro _ rfl
      rw [h.a, nI_1]
      have p4 := h.at (h.2.2.1.nx' ht q10)
      have f4 : pf x A (A.setI (x + 2) 3 (nI (t + 1))) := pf.rf.set
      have nn4 : (A.setI (x + 2) 3 (nI (t + 1))).n = A.n := rfl
      have uu4 : (A.setI (x + 2) 3 (nI (t + 1))).u = A.u := rfl
      generalize A.setI (x + 2) 3 (nI (t + 1)) = A4 at *
      have ht4 := p4.lt
      refine ⟨_, s_X1_here p4, ?_⟩
      rintro _ _ _ ⟨rfl, rfl⟩
      refine ⟨hs_t2 p4.1, _, s_X1_needName p4 (fun q => hE.fl (t + 1) f4 (by omega) (by omega) (by omega) (by omega) (by rw [pNeed, if_neg q])), ?_⟩
      rintro _ A6 hok6 ⟨q6, rfl, p6, f6, n6, u6⟩
      rw [pNeed, if_pos q6] at hE e1
      have ht6 := p6.lt
      refine ⟨hs_t2 p6.1, _, s_X1_is p6, ?_⟩
      rintro v24 _ _ _ ⟨hv24, rfl⟩
      refine ⟨fun B => ∃ t1 a, pFm D t = .ok (nd 44 [tP D t, tP D (t + 1), tV D (t + 1), a, 0] lf lf, t1) ∧ (if v24 = 0 then (0 : Int32) else (1 : Int32)) = a ∧ xok G B ∧ PS G B x D t1 1 ∧ pf x A B ∧ t + 2 ≤ t1 ∧ B.n ≤ A.n ∧ B.u ≤ A.u, ?_, fun z => ?_, fun z => ?_⟩
      · rintro B ⟨t1, a, b1, rfl, b2, b3, b4, b5, b6, b7⟩
        exact s_formalEnd ite01 (Or.inl rfl) hr hxl b2 b3 b4 b5 b6 b7 b1
      · rcases hv24 with ⟨rfl, q⟩ | ⟨rfl, q⟩
        · exact absurd z (by decide)
        · refine ⟨t + 2, 0, ?_, rfl, hok6, p6, f4.tr f6, by omega, by omega, by omega⟩
          rw [e1, if_neg (fun w => w.elim q11 q)]
      · rcases hv24 with ⟨rfl, q⟩ | ⟨rfl, q⟩
        · rw [if_pos (Or.inr q)] at hE e1
          refine ⟨hs_t2 p6.1, _, s_X1_opens p6 (fun q => hE.fl (t + 2) (f4.tr f6) (by omega) (by omega) (by omega) (by omega) (by rw [pOpen, if_neg q])) (fun q e => absurd e (by decide)), ?_⟩
          rintro A10 hok10 ⟨q10', ho, p10, f10, n10, u10⟩
          rw [pOpen, if_pos q10', if_neg (by decide)] at hE e1
          have ht10 := p10.lt
          refine ⟨hs_t2 p10.1, _, s_X1_closes p10 (by decide) (fun q => hE.fl (t + 3) ((f4.tr f6).tr f10) (by omega) (by omega) (by omega) (by omega) (by rw [pNeed, if_neg q])), ?_⟩
          rintro A12 hok12 ⟨q12, p12, f12, n12, u12⟩
          rw [pNeed, if_pos q12] at e1
          exact ⟨t + 4, 1, e1, rfl, hok12, p12, ((f4.tr f6).tr f10).tr f12, by omega, by omega, by omega⟩
        · exact absurd z (by decide)
    · refine ⟨fun _ => ?_, fun q => absurd rfl q⟩
      refine ⟨hs_t2 h.1, _, s_X1_wrong h, ?_⟩
      rintro _ _ _ ⟨rfl, rfl⟩
      exact ⟨_, rfl, hE.fl t pf.rf (Nat.le_refl _) (by omega) (by omega) (by omega) (by rw [pFm, if_neg (fun q => q.elim q11 q10)])⟩
/-! the row of all -/
theorem TS.l (h : TS G x D al vs A0 t0 A t op) (hok : xok G A) : xL G A al vs ∧ A.P (x + 2) 7 = some al ∧ xcap A al = xcap A0 al := by
  obtain ⟨h1, h2, h3, h4, h5, h6, h7, h8, h9, h10⟩ := h
  have ht : A0.tg (x + 2) ≠ 204 := by
    have := h9.1.tg (a := x + 2) (by omega)
    rw [← this, hs_t2 h8.1]
    decide
  refine ⟨h4.fr' h3 hok h9.1 (N := fun a => a = al) (Kp.one ht (by omega)) rfl, (h9.2 7).trans h5, xcap.fr h4 h3 h9.1 (by show ¬ al = x + 2; omega)⟩
theorem addAll (h : TS G x D al vs A0 t0 A t 0) (hok : xok G A) (hT : rT G A x (fun a => A0.n ≤ a) e tr) (hn : A.n + 1 ≤ A0.n + 24 * (t - t0)) (hu : A.u + 1 ≤ A0.u + 128 * (t - t0)) (ht : t0 < t) (hr : r = .ok (tr, t)) : ∃ b5, A.P (x + 2) 7 = some b5 ∧ A.tg b5 = 37 ∧ ∃ R4 : Int32 → xA → Prop, w_J5_add G b5 (some e) R4 A ∧ ∀ (v4 : Int32) (A4 : xA), xok G A4 → (v4 = 0 ∨ v4 = 1) → R4 v4 A4 → TQ G x D al vs A0 t0 r A4 := by
  obtain ⟨l, hP, hc⟩ := h.l hok
  obtain ⟨h1, h2, h3, h4, h5, h6, h7, h8, h9, h10⟩ := h
  have htt := h8.lt
  have hal : al < A.n := hok.1.lt l.1
  refine ⟨al, hP, l.1, _, s_J5_add l (xEl_of hT.tg.2 (by decide)) (by omega) (h7.sub (by omega) (by omega)), ?_⟩
  rintro _ A4 hok4 _ ⟨rfl, a4⟩
  have f4 := a4.fr hal
  have n4 := a4.2.2.1
  have u4 := a4.2.2.2.1
  have c4 := a4.2.2.2.2.1
  have a9 := h9.1.1
  have p4 : PS G A4 x D t 0 := h8.ad a4 h1 hal
  have hS2 : ¬ (x + 2 = al ∨ A.gh (x + 2) = 1000 + al) := by
    rintro (q | q)
    · omega
    · have := (h8.g _ _ h8.xl q).1
      omega
  refine ⟨e, tr, t, hr, p4, ?_, fun k => (f4.P h8.xl hS2).trans (h9.2 k), a4.1, rT.fr hok hok4 f4 (Kp.li h8.g l.1 (by omega)) hT, ht, by omega, by omega, by rw [← hc]; exact c4⟩
  refine (h9.1.mono (fun a _ q => Or.inl q)).tr f4 fun a ha q => ?_
  rcases q with q | q
  · exact Or.inr (Or.inl q)
  · exact Or.inr (Or.inr ((h9.1.gh ha).symm.trans q))
theorem s_X1_end (h : TS G x D al vs A0 t0 A t 0) (hE : pX x D A0 t0 0 r E) (hT : ∀ B, xok G B → pf x A B → rT G B x (fun a => A0.n ≤ a) e tr) (hn : A.n + 1 ≤ A0.n + 24 * (t - t0)) (hu : A.u + 1 ≤ A0.u + 128 * (t - t0)) (hr : r = pNeed D 69 t (.ok (tr, t + 1))) : w_X1_end G (x + 2) (some e) (TQ G x D al vs A0 t0 r) E A := by
  intro hok
  have h8 := h.2.2.2.2.2.2.2.1
  have h9 := h.2.2.2.2.2.2.2.2.1
  have h10 := h.2.2.2.2.2.2.2.2.2
  have htt := h8.lt
  refine ⟨hs_t2 h8.1, _, s_X1_need h8 (fun q => hE.fl t h9 (by omega) (by omega) (by omega) (by omega) (by rw [hr, pNeed, if_neg q])), ?_⟩
  rintro A1 hok1 ⟨q1, p1, f1, n1, u1⟩
  have hr1 : r = .ok (tr, t + 1) := by rw [hr, pNeed, if_pos q1]
  have ht1 := p1.lt
  exact ⟨hs_t2 p1.1, addAll ⟨h.1, h.2.1, h.2.2.1, h.2.2.2.1, h.2.2.2.2.1, h.2.2.2.2.2.1, h.2.2.2.2.2.2.1, p1, h9.tr f1, by omega⟩ hok1 (hT A1 hok1 f1) (by omega) (by omega) (by omega) hr1⟩
end HT1
