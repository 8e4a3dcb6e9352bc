/-! ===== the House's parser: simple statements ===== -/
set_option maxRecDepth 100000
section GS
variable {G : xG} {x op d : Nat} {D : tkL}
theorem s_g0 (hop : op + d = 40) : oE G x D (g_P_0 G) (pE D d) op := s_rk_P d 700 op (by omega) hop
theorem s_g4 (hop : op + d = 40) : oE G x D (g_P_4 G) (pIn D (pE' D d) d) op := by
  obtain ⟨m, hm⟩ : ∃ m, m = 699 := ⟨_, rfl⟩
  show oE G x D (rk_P G (699 + 1)).2.2.2.2.1 _ _
  rw [← hm]
  show oE G x D (w_X1_inside G (rk_P G m).1 (rk_P G m).2.1 (rk_P G m).2.2.1 (rk_P G m).2.2.2.1 (rk_P G m).2.2.2.2.1 (rk_P G m).2.2.2.2.2.1 (rk_P G m).2.2.2.2.2.2) _ _
  exact s_X1_inside (fun d' hd => s_rk_P d' m (op + 1) (by omega) (by omega)) hop
theorem s_g5 (hop : op + d = 40) : oF G x D (g_P_5 G) (pPlace D (pE' D d) d) op := by
  obtain ⟨m, hm⟩ : ∃ m, m = 699 := ⟨_, rfl⟩
  show oF G x D (rk_P G (699 + 1)).2.2.2.2.2.1 _ _
  rw [← hm]
  show oF G x D (w_X1_place G (rk_P G m).1 (rk_P G m).2.1 (rk_P G m).2.2.1 (rk_P G m).2.2.2.1 (rk_P G m).2.2.2.2.1 (rk_P G m).2.2.2.2.2.1 (rk_P G m).2.2.2.2.2.2) _ _
  exact fun p nm A t E h hr hE => s_X1_place (fun d' hd => s_rk_P d' m (op + 1) (by omega) (by omega)) hop h hr hE
theorem s_g6 (hop : op + d = 40) : oF G x D (g_P_6 G) (pCall D (pE' D d) d) op := by
  obtain ⟨m, hm⟩ : ∃ m, m = 699 := ⟨_, rfl⟩
  show oF G x D (rk_P G (699 + 1)).2.2.2.2.2.2 _ _
  rw [← hm]
  show oF G x D (w_X1_call G (rk_P G m).1 (rk_P G m).2.1 (rk_P G m).2.2.1 (rk_P G m).2.2.2.1 (rk_P G m).2.2.2.2.1 (rk_P G m).2.2.2.2.2.1 (rk_P G m).2.2.2.2.2.2) _ _
  exact fun p nm A t E h hr hE => s_X1_call (fun d' hd => s_rk_P d' m (op + 1) (by omega) (by omega)) hop h hr hE
end GS
section SC
variable {G : xG} {A : xA} {p : Nat}
theorem s_X4_init : w_X4_init G p (fun B => A = B) A := fun _ => rfl
theorem s_X25_init {q n b : Int32} {s : Option Nat} (h : A.tg p = 24) (hb : b = 0 ∨ b = 1) : w_X25_init G p q n b s (fun B => (((A.setI p 1 q).setI p 0 n).setI p 2 b).setP p 3 s = B) A := by
  intro _
  refine ⟨_, s_X4_init, ?_⟩
  rintro _ _ rfl
  refine ⟨h, ?_⟩
  rintro _ rfl _ rfl
  refine ⟨hb, ?_⟩
  rintro _ rfl _ rfl
  rfl
theorem s_X26_init {q n : Int32} {f : Option Nat} (h : A.tg p = 25) : w_X26_init G p q n f (fun B => ((A.setI p 1 q).setI p 0 n).setP p 2 f = B) A := by
  intro _
  refine ⟨_, s_X4_init, ?_⟩
  rintro _ _ rfl
  refine ⟨h, ?_⟩
  rintro _ rfl _ rfl _ rfl
  rfl
theorem s_X27_init {a y n : Option Nat} (h : A.tg p = 26) : w_X27_init G p a y n (fun B => ((A.setP p 0 a).setP p 1 y).setP p 2 n = B) A := by
  intro _
  refine ⟨_, s_X4_init, ?_⟩
  rintro _ _ rfl
  refine ⟨h, ?_⟩
  rintro _ rfl _ rfl _ rfl
  rfl
theorem s_X28_init {s a t b : Option Nat} {i : Int32} (h : A.tg p = 27) (hi : i = 0 ∨ i = 1) : w_X28_init G p s a t b i (fun B => ((((A.setP p 0 s).setP p 2 a).setP p 1 t).setP p 3 b).setI p 4 i = B) A := by
  intro _
  refine ⟨_, s_X4_init, ?_⟩
  rintro _ _ rfl
  refine ⟨h, ?_⟩
  rintro _ rfl _ rfl _ rfl _ rfl
  refine ⟨hi, ?_⟩
  rintro _ rfl
  rfl
theorem s_X29_init {c : Option Nat} (h : A.tg p = 28) : w_X29_init G p c (fun B => A.setP p 0 c = B) A := by
  intro _
  refine ⟨_, s_X4_init, ?_⟩
  rintro _ _ rfl
  refine ⟨h, ?_⟩
  rintro _ rfl
  rfl
theorem s_X30_init {q o : Option Nat} {t : Int32} (h : A.tg p = 29) : w_X30_init G p q t o (fun B => ((A.setP p 0 q).setI p 1 t).setP p 2 o = B) A := by
  intro _
  refine ⟨_, s_X4_init, ?_⟩
  rintro _ _ rfl
  refine ⟨h, ?_⟩
  rintro _ rfl _ rfl _ rfl
  rfl
theorem s_X31_init {q b : Int32} (h : A.tg p = 30) (hb : b = 0 ∨ b = 1) : w_X31_init G p q b (fun B => (A.setI p 0 q).setI p 1 b = B) A := by
  intro _
  refine ⟨_, s_X4_init, ?_⟩
  rintro _ _ rfl
  refine ⟨h, ?_⟩
  rintro _ rfl
  refine ⟨hb, ?_⟩
  rintro _ rfl
  rfl
theorem s_X32_init {b : Int32} {o : Option Nat} (h : A.tg p = 31) : w_X32_init G p b o (fun B => (A.setI p 0 b).setP p 1 o = B) A := by
  intro _
  refine ⟨_, s_X4_init, ?_⟩
  rintro _ _ rfl
  refine ⟨h, ?_⟩
  rintro _ rfl _ rfl
  rfl
theorem s_X33_init {o : Option Nat} {q : Int32} (h : A.tg p = 32) (hq : q = 0 ∨ q = 1) : w_X33_init G p o q (fun B => (A.setP p 0 o).setI p 1 q = B) A := by
  intro _
  refine ⟨_, s_X4_init, ?_⟩
  rintro _ _ rfl
  refine ⟨h, ?_⟩
  rintro _ rfl
  refine ⟨hq, ?_⟩
  rintro _ rfl
  rfl
end SC
def sQ (G : xG) (x : Nat) (D : tkL) (A : xA) (t op z : Nat) (r : pR) : Option Nat → xA → Prop := fun v B => ∃ e tr t1, r = .ok (tr, t1) ∧ some e = v ∧ PS G B x D t1 op ∧ pf x A B ∧ t ≤ t1 ∧ B.n ≤ A.n + (24 * (t1 - t) + 12 * z) ∧ B.u ≤ A.u + (128 * (t1 - t) + 64 * z) ∧ isS tr ∧ rS G B x (fun a => A.n ≤ a) tr [some e]
def oS (G : xG) (x : Nat) (D : tkL) (r0 : oT) (P : Nat → pR) (op : Nat) : Prop := ∀ A t E, PS G A x D t op → pm G D A t 0 → pX x D A t 0 (P t) E → r0 (x + 2) (sQ G x D A t op 0 (P t)) E A
/-- a whole statement: something is left over -/
def tQ (G : xG) (x : Nat) (D : tkL) (A : xA) (t op : Nat) (r : pR) : Option Nat → xA → Prop := fun v B => ∃ e tr t1, r = .ok (tr, t1) ∧ some e = v ∧ PS G B x D t1 op ∧ pf x A B ∧ t < t1 ∧ B.n + 8 ≤ A.n + 24 * (t1 - t) ∧ B.u + 32 ≤ A.u + 128 * (t1 - t) ∧ isS tr ∧ rS G B x (fun a => A.n ≤ a) tr [some e]
def oU (G : xG) (x : Nat) (D : tkL) (r0 : oT) (P : Nat → pR) (op : Nat) : Prop := ∀ A t E, PS G A x D t op → pm G D A t 0 → pX x D A t 0 (P t) E → r0 (x + 2) (tQ G x D A t op (P t)) E A
section HS2
variable {G : xG} {A A1 B : xA} {x t t1 op d z z1 : Nat} {D : tkL} {E : Nat → xA → Prop} {r : pR} {v : Option Nat}
theorem sQ.sub (hB : xok G B) (h : sQ G x D A1 t1 op z1 r v B) (hf : pf x A A1) (ht : t ≤ t1) (hn : A1.n + 12 * z1 ≤ A.n + (24 * (t1 - t) + 12 * z)) (hu : A1.u + 64 * z1 ≤ A.u + (128 * (t1 - t) + 64 * z)) : sQ G x D A t op z r v B := by
  obtain ⟨e, tr, t2, h1, h2, h3, h4, h5, h6, h7, h8, h9⟩ := h
  exact ⟨e, tr, t2, h1, h2, h3, hf.tr h4, by omega, by omega, by omega, h8, rS.mn hB (fun a q _ => Nat.le_trans hf.1.1 q) _ h9⟩
theorem s_X1_startTell (hop : op + d = 40) : oS G x D (w_X1_startTell G) (pStart D d) op := by
  intro A t E h hr hE hok
  have ht := h.lt
  have hxl := h.xl
  have hl := h.1.lt
  refine ⟨hs_t2 h.1, _, s_X1_here h, ?_⟩
  rintro _ _ _ ⟨rfl, rfl⟩
  refine ⟨hs_t2 h.1, _, s_X1_needName h (fun q => hE.fl t pf.rf (by omega) (by omega) (by omega) (by omega) (by rw [pStart, pNeed, if_neg q])), ?_⟩
  rintro _ A3 hok3 ⟨q3, rfl, p3, f3, n3, u3⟩
  rw [pStart, pNeed, if_pos q3] at hE ⊢
  have ht3 := p3.lt
  refine ⟨hs_t2 p3.1, _, s_X1_need p3 (fun q => hE.fl (t + 1) f3 (by omega) (by omega) (by omega) (by omega) (by rw [pNeed, if_neg q])), ?_⟩
  rintro A5 hok5 ⟨q5, p5, f5, n5, u5⟩
  rw [pNeed, if_pos q5] at hE ⊢
  have ht5 := p5.lt
  have f15 := f3.tr f5
  have a5 := f15.1.1
  refine ⟨(hr.rr (A1 := A5) (t1 := t + 2) (c := 1) (s := 3) (by omega) (by omega) (by omega) (by omega)).o, ?_⟩
  rintro _ rfl
  have p8 : PS G (A5.new 25 0 3 0) x D (t + 2) op := p5.fr Fr.fn (fun a ha q => by omega)
  have f8 : pf x A (A5.new 25 0 3 0) := f15.own Fr.fn (fun a ha q => by omega) hxl
  have nn : (A5.new 25 0 3 0).n = A5.n + 1 := rfl
  have uu : (A5.new 25 0 3 0).u = A5.u + 3 := rfl
  have tg8 : (A5.new 25 0 3 0).tg A5.n = 25 := by rw [gN_tg, if_pos rfl]
  generalize A5.new 25 0 3 0 = A8 at *
  refine ⟨hs_t2 p8.1, _, s_g0 hop A8 (t + 2) E p8 (hr.sub (by omega) (by omega) (by omega) (by omega)) (hE.sub f8 (by omega) (by omega) (by omega) (fun f e => by rw [e]; rfl)), ?_⟩
  rintro _ A9 hok9 ⟨e, tr, t9, r9, rfl, p9, f9, l9, n9, u9, i9, x9⟩
  rw [r9] at hE ⊢
  have a9 := f9.1.1
  have tg9 : A9.tg A5.n = 25 := (f9.1.tg (by omega)).trans tg8
  refine ⟨_, s_X26_init tg9, ?_⟩
  rintro _ hok11 rfl
  have f11 : Fr (fun a => a = A5.n) A9 (((A9.setI A5.n 1 (tP D t)).setI A5.n 0 (tV D t)).setP A5.n 2 (some e)) := Fr.rf.fs.fs.fp
  have x11 : rX G (((A9.setI A5.n 1 (tP D t)).setI A5.n 0 (tV D t)).setP A5.n 2 (some e)) (fun a => A.n ≤ a) tr [] [e] := rX.mn hok11 _ (fun a q _ => q.1) (rX.fr hok9 hok11 f11 _ (Kp.one (by rw [tg9]; decide) (fun q => q.2 rfl)) (rX.mn (N' := fun a => A.n ≤ a ∧ a ≠ A5.n) hok9 _ (fun a q _ => ⟨by omega, by omega⟩) x9))
  refine ⟨A5.n, nd 23 [tP D t, tV D t] tr lf, t9, rfl, rfl, p9.fr f11 (fun a ha q => by omega), (f8.tr f9).own f11 (fun a ha q => by omega) hxl, by omega, ?_, ?_, by right; right; decide, A5.n, rfl, by omega, tg9, ?_, ?_, ?_⟩
  · show A9.n ≤ _
    omega
  · show A9.u ≤ _
    omega
  · grind [gI_I, gI_L, gI_P, gI_tg, gI_ln, gI_gh, gI_n, gI_u, gL_I, gL_L, gL_P, gL_tg, gL_ln, gL_gh, gL_n, gL_u, gP_I, gP_L, gP_P, gP_tg, gP_ln, gP_gh, gP_n, gP_u, gN_I, gN_L, gN_P, gN_tg, gN_ln, gN_gh, gN_n, gN_u]
  · grind [gI_I, gI_L, gI_P, gI_tg, gI_ln, gI_gh, gI_n, gI_u, gL_I, gL_L, gL_P, gL_tg, gL_ln, gL_gh, gL_n, gL_u, gP_I, gP_L, gP_P, gP_tg, gP_ln, gP_gh, gP_n, gP_u, gN_I, gN_L, gN_P, gN_tg, gN_ln, gN_gh, gN_n, gN_u]
  · exact Or.inr ⟨e, i9, by grind [gI_I, gI_L, gI_P, gI_tg, gI_ln, gI_gh, gI_n, gI_u, gL_I, gL_L, gL_P, gL_tg, gL_ln, gL_gh, gL_n, gL_u, gP_I, gP_L, gP_P, gP_tg, gP_ln, gP_gh, gP_n, gP_u, gN_I, gN_L, gN_P, gN_tg, gN_ln, gN_gh, gN_n, gN_u], x11⟩
theorem actsOf (hO : xHO G) (hok : xok G A) {k : Int32} (h1 : ¬ k < 44) (h2 : ¬ 51 < k) : vp_in (k - 40 - 4) (A.ln (G.cs 4)) ∧ A.I (G.cs 4) (ix (k - 40 - 4)) = k - 44 := by
  obtain ⟨-, c1, c2, c3, c4⟩ := hO.2.2.1.2
  obtain ⟨w1, w2, w3, w4, w5, w6⟩ := hok.2.2 _ c1
  rw [w2, c3, w4]
  obtain ⟨j, hj, rfl⟩ : ∃ j : Nat, j < 8 ∧ k = nI (44 + j) := by
    have a1 : 44 ≤ k.toInt := by have := Int32.not_lt.mp h1; rw [Int32.le_iff_toInt_le] at this; exact this
    have a2 : k.toInt ≤ 51 := by have := Int32.not_lt.mp h2; rw [Int32.le_iff_toInt_le] at this; exact this
    refine ⟨(k.toInt - 44).toNat, by omega, Int32.toInt_inj.mp ?_⟩
    rw [nI_toInt (by omega)]
    omega
  have : ∀ j, j < 8 → vp_in (nI (44 + j) - 40 - 4) 8 ∧ ix (nI (44 + j) - 40 - 4) = j ∧ nI (44 + j) - 44 = Int32.ofNat j := by
    unfold vp_in
    decide
  obtain ⟨e1, e2, e3⟩ := this j hj
  refine ⟨e1, ?_⟩
  rw [e2, e3]
  exact c4 j hj
end HS2
