/-! ===== 097.hvalue (tools/h045.py) ===== -/
set_option maxRecDepth 100000
section W097
variable {G : xG}
theorem fE_X17_39 : ∀ c, c ∈ eCl → xF RX17 39 c 0 := by
  intro c h
  simp only [eCl, List.mem_cons, List.not_mem_nil, or_false] at h
  rcases h with rfl | rfl | rfl | rfl | rfl | rfl | rfl | rfl
  · exact f_X17_39_14
  · exact f_X17_39_15
  · exact f_X17_39_16
  · exact f_X17_39_17
  · exact f_X17_39_18
  · exact f_X17_39_19
  · exact f_X17_39_20
  · exact f_X17_39_21
def xRC_V (G : xG) (D : Nat) (r0 : Nat → Option Nat → Int32 → (Int64 → xA → Prop) → (Nat → xA → Prop) → xA → Prop) (r1 : Nat → Option Nat → Option Nat → Int32 → (Int64 → xA → Prop) → (Nat → xA → Prop) → xA → Prop) (r2 : Nat → Option Nat → Option Nat → Option Nat → (xA → Prop) → (Nat → xA → Prop) → xA → Prop) (r3 : Nat → Option Nat → Option Nat → Option Nat → (xA → Prop) → (Nat → xA → Prop) → xA → Prop) (r4 : Nat → Option Nat → (Int64 → xA → Prop) → (Nat → xA → Prop) → xA → Prop) (r5 : Nat → Option Nat → Option Nat → Option Nat → (xA → Prop) → (Nat → xA → Prop) → xA → Prop) : Prop := (∀ {p : Nat} {a0 : Option Nat} {a1 : Int32} {Q : Int64 → xA → Prop} {E : Nat → xA → Prop} {A : xA}, r0 p a0 a1 Q E A → MX G D kX17_call [.ref p, va_rf a0, .int a1] A (hX (hL Q) E)) ∧ (∀ {p : Nat} {a0 : Option Nat} {a1 : Option Nat} {a2 : Int32} {Q : Int64 → xA → Prop} {E : Nat → xA → Prop} {A : xA}, r1 p a0 a1 a2 Q E A → MX G D kX6_index [.ref p, va_rf a0, va_rf a1, .int a2] A (hX (hL Q) E)) ∧ (∀ {p : Nat} {a0 : Option Nat} {a1 : Option Nat} {a2 : Option Nat} {Q : xA → Prop} {E : Nat → xA → Prop} {A : xA}, r2 p a0 a1 a2 Q E A → MX G D kX15_branch [.ref p, va_rf a0, va_rf a1, va_rf a2] A (hX (hV Q) E)) ∧ (∀ {p : Nat} {a0 : Option Nat} {a1 : Option Nat} {a2 : Option Nat} {Q : xA → Prop} {E : Nat → xA → Prop} {A : xA}, r3 p a0 a1 a2 Q E A → MX G D kX21_branch [.ref p, va_rf a0, va_rf a1, va_rf a2] A (hX (hV Q) E)) ∧ ((∀ {p : Nat} {a0 : Option Nat} {Q : Int64 → xA → Prop} {E : Nat → xA → Prop} {A : xA}, A.tg p = 15 → r4 p a0 Q E A → MX G D kX16_value [.ref p, va_rf a0] A (hX (hL Q) E)) ∧ (∀ {p : Nat} {a0 : Option Nat} {Q : Int64 → xA → Prop} {E : Nat → xA → Prop} {A : xA}, A.tg p = 16 → r4 p a0 Q E A → MX G D kX17_value [.ref p, va_rf a0] A (hX (hL Q) E)) ∧ (∀ {p : Nat} {a0 : Option Nat} {Q : Int64 → xA → Prop} {E : Nat → xA → Prop} {A : xA}, A.tg p = 17 → r4 p a0 Q E A → MX G D kX18_value [.ref p, va_rf a0] A (hX (hL Q) E)) ∧ (∀ {p : Nat} {a0 : Option Nat} {Q : Int64 → xA → Prop} {E : Nat → xA → Prop} {A : xA}, A.tg p = 18 → r4 p a0 Q E A → MX G D kX19_value [.ref p, va_rf a0] A (hX (hL Q) E)) ∧ (∀ {p : Nat} {a0 : Option Nat} {Q : Int64 → xA → Prop} {E : Nat → xA → Prop} {A : xA}, A.tg p = 19 → r4 p a0 Q E A → MX G D kX20_value [.ref p, va_rf a0] A (hX (hL Q) E)) ∧ (∀ {p : Nat} {a0 : Option Nat} {Q : Int64 → xA → Prop} {E : Nat → xA → Prop} {A : xA}, A.tg p = 20 → r4 p a0 Q E A → MX G D kX21_value [.ref p, va_rf a0] A (hX (hL Q) E)) ∧ (∀ {p : Nat} {a0 : Option Nat} {Q : Int64 → xA → Prop} {E : Nat → xA → Prop} {A : xA}, A.tg p = 21 → r4 p a0 Q E A → MX G D kX22_value [.ref p, va_rf a0] A (hX (hL Q) E)) ∧ (∀ {p : Nat} {a0 : Option Nat} {Q : Int64 → xA → Prop} {E : Nat → xA → Prop} {A : xA}, A.tg p = 22 → r4 p a0 Q E A → MX G D kX23_value [.ref p, va_rf a0] A (hX (hL Q) E))) ∧ ((∀ {p : Nat} {a0 : Option Nat} {a1 : Option Nat} {a2 : Option Nat} {Q : xA → Prop} {E : Nat → xA → Prop} {A : xA}, A.tg p = 15 → r5 p a0 a1 a2 Q E A → MX G D kX15_branch [.ref p, va_rf a0, va_rf a1, va_rf a2] A (hX (hV Q) E)) ∧ (∀ {p : Nat} {a0 : Option Nat} {a1 : Option Nat} {a2 : Option Nat} {Q : xA → Prop} {E : Nat → xA → Prop} {A : xA}, A.tg p = 16 → r5 p a0 a1 a2 Q E A → MX G D kX15_branch [.ref p, va_rf a0, va_rf a1, va_rf a2] A (hX (hV Q) E)) ∧ (∀ {p : Nat} {a0 : Option Nat} {a1 : Option Nat} {a2 : Option Nat} {Q : xA → Prop} {E : Nat → xA → Prop} {A : xA}, A.tg p = 17 → r5 p a0 a1 a2 Q E A → MX G D kX15_branch [.ref p, va_rf a0, va_rf a1, va_rf a2] A (hX (hV Q) E)) ∧ (∀ {p : Nat} {a0 : Option Nat} {a1 : Option Nat} {a2 : Option Nat} {Q : xA → Prop} {E : Nat → xA → Prop} {A : xA}, A.tg p = 18 → r5 p a0 a1 a2 Q E A → MX G D kX15_branch [.ref p, va_rf a0, va_rf a1, va_rf a2] A (hX (hV Q) E)) ∧ (∀ {p : Nat} {a0 : Option Nat} {a1 : Option Nat} {a2 : Option Nat} {Q : xA → Prop} {E : Nat → xA → Prop} {A : xA}, A.tg p = 19 → r5 p a0 a1 a2 Q E A → MX G D kX20_branch [.ref p, va_rf a0, va_rf a1, va_rf a2] A (hX (hV Q) E)) ∧ (∀ {p : Nat} {a0 : Option Nat} {a1 : Option Nat} {a2 : Option Nat} {Q : xA → Prop} {E : Nat → xA → Prop} {A : xA}, A.tg p = 20 → r5 p a0 a1 a2 Q E A → MX G D kX21_branch [.ref p, va_rf a0, va_rf a1, va_rf a2] A (hX (hV Q) E)) ∧ (∀ {p : Nat} {a0 : Option Nat} {a1 : Option Nat} {a2 : Option Nat} {Q : xA → Prop} {E : Nat → xA → Prop} {A : xA}, A.tg p = 21 → r5 p a0 a1 a2 Q E A → MX G D kX22_branch [.ref p, va_rf a0, va_rf a1, va_rf a2] A (hX (hV Q) E)) ∧ (∀ {p : Nat} {a0 : Option Nat} {a1 : Option Nat} {a2 : Option Nat} {Q : xA → Prop} {E : Nat → xA → Prop} {A : xA}, A.tg p = 22 → r5 p a0 a1 a2 Q E A → MX G D kX15_branch [.ref p, va_rf a0, va_rf a1, va_rf a2] A (hX (hV Q) E)))
def w_X17_call (G : xG) (r0 : Nat → Option Nat → Int32 → (Int64 → xA → Prop) → (Nat → xA → Prop) → xA → Prop) (r1 : Nat → Option Nat → Option Nat → Int32 → (Int64 → xA → Prop) → (Nat → xA → Prop) → xA → Prop) (r2 : Nat → Option Nat → Option Nat → Option Nat → (xA → Prop) → (Nat → xA → Prop) → xA → Prop) (r3 : Nat → Option Nat → Option Nat → Option Nat → (xA → Prop) → (Nat → xA → Prop) → xA → Prop) (r4 : Nat → Option Nat → (Int64 → xA → Prop) → (Nat → xA → Prop) → xA → Prop) (r5 : Nat → Option Nat → Option Nat → Option Nat → (xA → Prop) → (Nat → xA → Prop) → xA → Prop) (p : Nat) (m : Option Nat) (w : Int32) (Q : Int64 → xA → Prop) (E : Nat → xA → Prop) (A : xA) : Prop := xok G A → A.tg p = 16 ∧ (∃ b3 : Nat, m = some b3 ∧ (A.tg b3 = 6 ∧ (∃ R2 : Option Nat → xA → Prop, w_X6_known G b3 (A.I p 1) (A.I p 2) R2 E A ∧ (∀ (v2 : Option Nat) (A2 : xA), xok G A2 → R2 v2 A2 → (∃ b5 : Nat, v2 = some b5 ∧ (A2.tg b5 = 33 ∧ ((((A2.I b5 1) = (6 : Int32) → ((w = 0 → ∃ b7 : Nat, (A2.P b5 5) = some b7 ∧ (A2.tg b7 = 14 ∧ (∃ R9 : Int32 → xA → Prop, w_X14_words G b7 R9 A2 ∧ (∀ (v9 : Int32) (A9 : xA), xok G A9 → R9 v9 A9 → (rmA G A9 v9 ∧ (∀ A11 : xA, A11 = A9.new 201 (ix v9) (ix v9) 0 → (∃ L12 : Nat → Int32 → Int32 → xA → Prop, (∃ n12 : Nat, L12 n12 (0 : Int32) (0 : Int32) A11) ∧ (∀ (n12 : Nat) (y12_6 : Int32) (y12_7 : Int32) (A12 : xA), L12 n12 y12_6 y12_7 A12 → A12.tg p = 16 ∧ (∃ b15 : Nat, (A12.P p 4) = some b15 ∧ (A12.tg b15 = 37 ∧ (∃ R14 : Int32 → xA → Prop, w_J5_size G b15 R14 A12 ∧ (∀ (v14 : Int32) (A14 : xA), xok G A14 → R14 v14 A14 → (((v14 ≤ y12_7 → A14.tg p = 16 ∧ (∃ b19 : Nat, (A14.P p 4) = some b19 ∧ (A14.tg b19 = 37 ∧ (∃ R18 : Int32 → xA → Prop, w_J5_size G b19 R18 A14 ∧ (∀ (v18 : Int32) (A18 : xA), xok G A18 → R18 v18 A18 → (∃ b22 : Nat, (A2.P b7 8) = some b22 ∧ (A18.tg b22 = 37 ∧ (∃ R21 : Int32 → xA → Prop, w_J5_size G b22 R21 A18 ∧ (∀ (v21 : Int32) (A21 : xA), xok G A21 → R21 v21 A21 → (((v21 ≤ v18 → A21.tg b5 = 33 ∧ (A21.tg p = 16 ∧ (A21.tg b3 = 6 ∧ (∃ R26 : Int64 → xA → Prop, w_X6_call G b3 (A21.P b5 5) (some A9.n) (A21.I p 2) R26 A21 ∧ (∀ (v26 : Int64) (A26 : xA), xok G A26 → R26 v26 A26 → (Q v26 A26)))))) ∧ (¬ v21 ≤ v18 → A21.tg p = 16 ∧ (A21.tg b3 = 6 ∧ (∃ R29 : Option Nat → xA → Prop, w_X6_fault G b3 (7 : Int32) (A21.I p 3) R29 A21 ∧ (∀ (v29 : Option Nat) (A29 : xA), xok G A29 → R29 v29 A29 → (∃ b31 : Nat, v29 = some b31 ∧ (E b31 A29))))))))))))))))) ∧ (¬ v14 ≤ y12_7 → A14.tg p = 16 ∧ (∃ b34 : Nat, (A14.P p 4) = some b34 ∧ (A14.tg b34 = 37 ∧ (∃ R33 : Option Nat → xA → Prop, w_J5_get G b34 y12_7 R33 A14 ∧ (∀ (v33 : Option Nat) (A33 : xA), xok G A33 → R33 v33 A33 → (∃ b36 : Nat, v33 = some b36 ∧ (xE A33 b36 ∧ (∃ b39 : Nat, (A2.P b7 8) = some b39 ∧ (A33.tg b39 = 37 ∧ (∃ R38 : Int32 → xA → Prop, w_J5_size G b39 R38 A33 ∧ (∀ (v38 : Int32) (A38 : xA), xok G A38 → R38 v38 A38 → (∃ J41 : Option Nat → xA → Prop, (∀ (y41_s0 : Option Nat) (A41 : xA), J41 y41_s0 A41 → ((y41_s0 = none → xE A41 b36 ∧ (∃ R44 : Option Nat → xA → Prop, g_O_0 G b36 R44 A41 ∧ (∀ (v44 : Option Nat) (A44 : xA), xok G A44 → R44 v44 A44 → (xE A44 b36 ∧ (∃ R46 : Int32 → xA → Prop, g_L_0 G b36 R46 A44 ∧ (∀ (v46 : Int32) (A46 : xA), xok G A46 → R46 v46 A46 → (∃ J47 : xA → Prop, (∀ (A47 : xA), J47 A47 → xE A47 b36 ∧ (A47.tg b3 = 6 ∧ (∃ R49 : Option Nat → xA → Prop, w_X6_fault G b3 (7 : Int32) (A47.I b36 0) R49 A47 ∧ (∀ (v49 : Option Nat) (A49 : xA), xok G A49 → R49 v49 A49 → (∃ b51 : Nat, v49 = some b51 ∧ (E b51 A49)))))) ∧ ((v46 < 0 → J47 A46) ∧ (¬ v46 < 0 → xE A46 b36 ∧ (∃ R53 : Int32 → xA → Prop, g_L_0 G b36 R53 A46 ∧ (∀ (v53 : Int32) (A53 : xA), xok G A53 → R53 v53 A53 → (xE A53 b36 ∧ (A53.tg b3 = 6 ∧ (∃ R55 : Option Nat → xA → Prop, w_X6_known G b3 v53 (A53.I b36 0) R55 E A53 ∧ (∀ (v55 : Option Nat) (A55 : xA), xok G A55 → R55 v55 A55 → (J47 A55)))))))))))))))) ∧ (∀ b42 : Nat, y41_s0 = some b42 → A41.tg b42 = 23 ∧ ((((A41.I b42 3) = 0 → xE A41 b36 ∧ (∃ R102 : Int64 → xA → Prop, r4 b36 (some b3) R102 E A41 ∧ (∀ (v102 : Int64) (A102 : xA), xok G A102 → R102 v102 A102 → (A102.tg A9.n = 201 ∧ (G.N ≤ A9.n ∧ (vp_in y12_6 (A102.ln A9.n) ∧ (∀ A106 : xA, A106 = A102.setL A9.n (ix y12_6) v102 → ((∃ q12 : Nat, q12 < n12 ∧ L12 q12 (y12_6 + (1 : Int32)) (y12_7 + (1 : Int32)) A106))))))))) ∧ (¬ (A41.I b42 3) = 0 → xE A41 b36 ∧ (∃ R59 : Option Nat → xA → Prop, g_O_0 G b36 R59 A41 ∧ (∀ (v59 : Option Nat) (A59 : xA), xok G A59 → R59 v59 A59 → (xE A59 b36 ∧ (∃ R61 : Int32 → xA → Prop, g_L_0 G b36 R61 A59 ∧ (∀ (v61 : Int32) (A61 : xA), xok G A61 → R61 v61 A61 → (∃ J62 : xA → Prop, (∀ (A62 : xA), J62 A62 → ∃ J63 : Option Nat → xA → Prop, (∀ (y63_s0 : Option Nat) (A63 : xA), J63 y63_s0 A63 → ((y63_s0 = none → xE A63 b36 ∧ (A63.tg b3 = 6 ∧ (∃ R66 : Option Nat → xA → Prop, w_X6_fault G b3 (7 : Int32) (A63.I b36 0) R66 A63 ∧ (∀ (v66 : Option Nat) (A66 : xA), xok G A66 → R66 v66 A66 → (∃ b68 : Nat, v66 = some b68 ∧ (E b68 A66)))))) ∧ (∀ b64 : Nat, y63_s0 = some b64 → A63.tg b64 = 33 ∧ (∃ R69 : Int32 → xA → Prop, w_X34_isArray G b64 R69 A63 ∧ (∀ (v69 : Int32) (A69 : xA), xok G A69 → (v69 = 0 ∨ v69 = 1) → R69 v69 A69 → (((v69 = 0 → xE A69 b36 ∧ (A69.tg b3 = 6 ∧ (∃ R72 : Option Nat → xA → Prop, w_X6_fault G b3 (7 : Int32) (A69.I b36 0) R72 A69 ∧ (∀ (v72 : Option Nat) (A72 : xA), xok G A72 → R72 v72 A72 → (∃ b74 : Nat, v72 = some b74 ∧ (E b74 A72)))))) ∧ (¬ v69 = 0 → A69.tg b64 = 33 ∧ (A69.tg b42 = 23 ∧ ((((A69.I b64 3) = (A69.I b42 4) → A69.tg b3 = 6 ∧ (∃ R77 : Int64 → xA → Prop, w_X6_address G b3 (some b64) R77 A69 ∧ (∀ (v77 : Int64) (A77 : xA), xok G A77 → R77 v77 A77 → (A77.tg A9.n = 201 ∧ (G.N ≤ A9.n ∧ (vp_in y12_6 (A77.ln A9.n) ∧ (∀ A82 : xA, A82 = A77.setL A9.n (ix y12_6) v77 → (A82.tg b3 = 6 ∧ (∃ R83 : Int64 → xA → Prop, w_X6_length G b3 (some b64) R83 A82 ∧ (∀ (v83 : Int64) (A83 : xA), xok G A83 → R83 v83 A83 → (A83.tg A9.n = 201 ∧ (vp_in (y12_6 + (1 : Int32)) (A83.ln A9.n) ∧ (∀ A87 : xA, A87 = A83.setL A9.n (ix (y12_6 + (1 : Int32))) v83 → ((∃ q12 : Nat, q12 < n12 ∧ L12 q12 (y12_6 + (2 : Int32)) (y12_7 + (1 : Int32)) A87))))))))))))))) ∧ (¬ (A69.I b64 3) = (A69.I b42 4) → xE A69 b36 ∧ (A69.tg b3 = 6 ∧ (∃ R89 : Option Nat → xA → Prop, w_X6_fault G b3 (7 : Int32) (A69.I b36 0) R89 A69 ∧ (∀ (v89 : Option Nat) (A89 : xA), xok G A89 → R89 v89 A89 → (∃ b91 : Nat, v89 = some b91 ∧ (E b91 A89))))))))))))))))) ∧ ((v59 = none → J63 (none : Option Nat) A62) ∧ (∀ b92 : Nat, v59 = some b92 → A62.tg b92 = 17 ∧ (A62.tg b3 = 6 ∧ (∃ R94 : Option Nat → xA → Prop, w_X6_known G b3 (A62.I b92 1) (A62.I b92 2) R94 E A62 ∧ (∀ (v94 : Option Nat) (A94 : xA), xok G A94 → R94 v94 A94 → (J63 v94 A94))))))) ∧ ((v61 < 0 → J62 A61) ∧ (¬ v61 < 0 → xE A61 b36 ∧ (∃ R97 : Int32 → xA → Prop, g_L_0 G b36 R97 A61 ∧ (∀ (v97 : Int32) (A97 : xA), xok G A97 → R97 v97 A97 → (xE A97 b36 ∧ (A97.tg b3 = 6 ∧ (∃ R99 : Option Nat → xA → Prop, w_X6_known G b3 v97 (A97.I b36 0) R99 E A97 ∧ (∀ (v99 : Option Nat) (A99 : xA), xok G A99 → R99 v99 A99 → (J62 A99))))))))))))))))))))) ∧ ((v38 ≤ y12_7 → J41 (none : Option Nat) A38) ∧ (¬ v38 ≤ y12_7 → A38.tg b39 = 37 ∧ (∃ R107 : Option Nat → xA → Prop, w_J5_get G b39 y12_7 R107 A38 ∧ (∀ (v107 : Option Nat) (A107 : xA), xok G A107 → R107 v107 A107 → (∃ b109 : Nat, v107 = some b109 ∧ (A107.tg b109 = 23 ∧ (J41 (some b109) A107))))))))))))))))))))))))))))))))) ∧ (¬ w = 0 → ∃ b111 : Nat, (A2.P b5 5) = some b111 ∧ (A2.tg b111 = 14 ∧ ((((A2.I b111 4) = 0 → ∃ R113 : Int32 → xA → Prop, w_X14_words G b111 R113 A2 ∧ (∀ (v113 : Int32) (A113 : xA), xok G A113 → R113 v113 A113 → (rmA G A113 v113 ∧ (∀ A115 : xA, A115 = A113.new 201 (ix v113) (ix v113) 0 → (∃ L116 : Nat → Int32 → Int32 → xA → Prop, (∃ n116 : Nat, L116 n116 (0 : Int32) (0 : Int32) A115) ∧ (∀ (n116 : Nat) (y116_6 : Int32) (y116_7 : Int32) (A116 : xA), L116 n116 y116_6 y116_7 A116 → A116.tg p = 16 ∧ (∃ b119 : Nat, (A116.P p 4) = some b119 ∧ (A116.tg b119 = 37 ∧ (∃ R118 : Int32 → xA → Prop, w_J5_size G b119 R118 A116 ∧ (∀ (v118 : Int32) (A118 : xA), xok G A118 → R118 v118 A118 → (((v118 ≤ y116_7 → A118.tg p = 16 ∧ (∃ b123 : Nat, (A118.P p 4) = some b123 ∧ (A118.tg b123 = 37 ∧ (∃ R122 : Int32 → xA → Prop, w_J5_size G b123 R122 A118 ∧ (∀ (v122 : Int32) (A122 : xA), xok G A122 → R122 v122 A122 → (∃ b126 : Nat, (A2.P b111 8) = some b126 ∧ (A122.tg b126 = 37 ∧ (∃ R125 : Int32 → xA → Prop, w_J5_size G b126 R125 A122 ∧ (∀ (v125 : Int32) (A125 : xA), xok G A125 → R125 v125 A125 → (((v125 ≤ v122 → A125.tg b5 = 33 ∧ (A125.tg p = 16 ∧ (A125.tg b3 = 6 ∧ (∃ R130 : Int64 → xA → Prop, w_X6_call G b3 (A125.P b5 5) (some A113.n) (A125.I p 2) R130 A125 ∧ (∀ (v130 : Int64) (A130 : xA), xok G A130 → R130 v130 A130 → (Q v130 A130)))))) ∧ (¬ v125 ≤ v122 → A125.tg p = 16 ∧ (A125.tg b3 = 6 ∧ (∃ R133 : Option Nat → xA → Prop, w_X6_fault G b3 (7 : Int32) (A125.I p 3) R133 A125 ∧ (∀ (v133 : Option Nat) (A133 : xA), xok G A133 → R133 v133 A133 → (∃ b135 : Nat, v133 = some b135 ∧ (E b135 A133))))))))))))))))) ∧ (¬ v118 ≤ y116_7 → A118.tg p = 16 ∧ (∃ b138 : Nat, (A118.P p 4) = some b138 ∧ (A118.tg b138 = 37 ∧ (∃ R137 : Option Nat → xA → Prop, w_J5_get G b138 y116_7 R137 A118 ∧ (∀ (v137 : Option Nat) (A137 : xA), xok G A137 → R137 v137 A137 → (∃ b140 : Nat, v137 = some b140 ∧ (xE A137 b140 ∧ (∃ b143 : Nat, (A2.P b111 8) = some b143 ∧ (A137.tg b143 = 37 ∧ (∃ R142 : Int32 → xA → Prop, w_J5_size G b143 R142 A137 ∧ (∀ (v142 : Int32) (A142 : xA), xok G A142 → R142 v142 A142 → (∃ J145 : Option Nat → xA → Prop, (∀ (y145_s0 : Option Nat) (A145 : xA), J145 y145_s0 A145 → ((y145_s0 = none → xE A145 b140 ∧ (∃ R148 : Option Nat → xA → Prop, g_O_0 G b140 R148 A145 ∧ (∀ (v148 : Option Nat) (A148 : xA), xok G A148 → R148 v148 A148 → (xE A148 b140 ∧ (∃ R150 : Int32 → xA → Prop, g_L_0 G b140 R150 A148 ∧ (∀ (v150 : Int32) (A150 : xA), xok G A150 → R150 v150 A150 → (∃ J151 : xA → Prop, (∀ (A151 : xA), J151 A151 → xE A151 b140 ∧ (A151.tg b3 = 6 ∧ (∃ R153 : Option Nat → xA → Prop, w_X6_fault G b3 (7 : Int32) (A151.I b140 0) R153 A151 ∧ (∀ (v153 : Option Nat) (A153 : xA), xok G A153 → R153 v153 A153 → (∃ b155 : Nat, v153 = some b155 ∧ (E b155 A153)))))) ∧ ((v150 < 0 → J151 A150) ∧ (¬ v150 < 0 → xE A150 b140 ∧ (∃ R157 : Int32 → xA → Prop, g_L_0 G b140 R157 A150 ∧ (∀ (v157 : Int32) (A157 : xA), xok G A157 → R157 v157 A157 → (xE A157 b140 ∧ (A157.tg b3 = 6 ∧ (∃ R159 : Option Nat → xA → Prop, w_X6_known G b3 v157 (A157.I b140 0) R159 E A157 ∧ (∀ (v159 : Option Nat) (A159 : xA), xok G A159 → R159 v159 A159 → (J151 A159)))))))))))))))) ∧ (∀ b146 : Nat, y145_s0 = some b146 → A145.tg b146 = 23 ∧ ((((A145.I b146 3) = 0 → xE A145 b140 ∧ (∃ R206 : Int64 → xA → Prop, r4 b140 (some b3) R206 E A145 ∧ (∀ (v206 : Int64) (A206 : xA), xok G A206 → R206 v206 A206 → (A206.tg A113.n = 201 ∧ (G.N ≤ A113.n ∧ (vp_in y116_6 (A206.ln A113.n) ∧ (∀ A210 : xA, A210 = A206.setL A113.n (ix y116_6) v206 → ((∃ q116 : Nat, q116 < n116 ∧ L116 q116 (y116_6 + (1 : Int32)) (y116_7 + (1 : Int32)) A210))))))))) ∧ (¬ (A145.I b146 3) = 0 → xE A145 b140 ∧ (∃ R163 : Option Nat → xA → Prop, g_O_0 G b140 R163 A145 ∧ (∀ (v163 : Option Nat) (A163 : xA), xok G A163 → R163 v163 A163 → (xE A163 b140 ∧ (∃ R165 : Int32 → xA → Prop, g_L_0 G b140 R165 A163 ∧ (∀ (v165 : Int32) (A165 : xA), xok G A165 → R165 v165 A165 → (∃ J166 : xA → Prop, (∀ (A166 : xA), J166 A166 → ∃ J167 : Option Nat → xA → Prop, (∀ (y167_s0 : Option Nat) (A167 : xA), J167 y167_s0 A167 → ((y167_s0 = none → xE A167 b140 ∧ (A167.tg b3 = 6 ∧ (∃ R170 : Option Nat → xA → Prop, w_X6_fault G b3 (7 : Int32) (A167.I b140 0) R170 A167 ∧ (∀ (v170 : Option Nat) (A170 : xA), xok G A170 → R170 v170 A170 → (∃ b172 : Nat, v170 = some b172 ∧ (E b172 A170)))))) ∧ (∀ b168 : Nat, y167_s0 = some b168 → A167.tg b168 = 33 ∧ (∃ R173 : Int32 → xA → Prop, w_X34_isArray G b168 R173 A167 ∧ (∀ (v173 : Int32) (A173 : xA), xok G A173 → (v173 = 0 ∨ v173 = 1) → R173 v173 A173 → (((v173 = 0 → xE A173 b140 ∧ (A173.tg b3 = 6 ∧ (∃ R176 : Option Nat → xA → Prop, w_X6_fault G b3 (7 : Int32) (A173.I b140 0) R176 A173 ∧ (∀ (v176 : Option Nat) (A176 : xA), xok G A176 → R176 v176 A176 → (∃ b178 : Nat, v176 = some b178 ∧ (E b178 A176)))))) ∧ (¬ v173 = 0 → A173.tg b168 = 33 ∧ (A173.tg b146 = 23 ∧ ((((A173.I b168 3) = (A173.I b146 4) → A173.tg b3 = 6 ∧ (∃ R181 : Int64 → xA → Prop, w_X6_address G b3 (some b168) R181 A173 ∧ (∀ (v181 : Int64) (A181 : xA), xok G A181 → R181 v181 A181 → (A181.tg A113.n = 201 ∧ (G.N ≤ A113.n ∧ (vp_in y116_6 (A181.ln A113.n) ∧ (∀ A186 : xA, A186 = A181.setL A113.n (ix y116_6) v181 → (A186.tg b3 = 6 ∧ (∃ R187 : Int64 → xA → Prop, w_X6_length G b3 (some b168) R187 A186 ∧ (∀ (v187 : Int64) (A187 : xA), xok G A187 → R187 v187 A187 → (A187.tg A113.n = 201 ∧ (vp_in (y116_6 + (1 : Int32)) (A187.ln A113.n) ∧ (∀ A191 : xA, A191 = A187.setL A113.n (ix (y116_6 + (1 : Int32))) v187 → ((∃ q116 : Nat, q116 < n116 ∧ L116 q116 (y116_6 + (2 : Int32)) (y116_7 + (1 : Int32)) A191))))))))))))))) ∧ (¬ (A173.I b168 3) = (A173.I b146 4) → xE A173 b140 ∧ (A173.tg b3 = 6 ∧ (∃ R193 : Option Nat → xA → Prop, w_X6_fault G b3 (7 : Int32) (A173.I b140 0) R193 A173 ∧ (∀ (v193 : Option Nat) (A193 : xA), xok G A193 → R193 v193 A193 → (∃ b195 : Nat, v193 = some b195 ∧ (E b195 A193))))))))))))))))) ∧ ((v163 = none → J167 (none : Option Nat) A166) ∧ (∀ b196 : Nat, v163 = some b196 → A166.tg b196 = 17 ∧ (A166.tg b3 = 6 ∧ (∃ R198 : Option Nat → xA → Prop, w_X6_known G b3 (A166.I b196 1) (A166.I b196 2) R198 E A166 ∧ (∀ (v198 : Option Nat) (A198 : xA), xok G A198 → R198 v198 A198 → (J167 v198 A198))))))) ∧ ((v165 < 0 → J166 A165) ∧ (¬ v165 < 0 → xE A165 b140 ∧ (∃ R201 : Int32 → xA → Prop, g_L_0 G b140 R201 A165 ∧ (∀ (v201 : Int32) (A201 : xA), xok G A201 → R201 v201 A201 → (xE A201 b140 ∧ (A201.tg b3 = 6 ∧ (∃ R203 : Option Nat → xA → Prop, w_X6_known G b3 v201 (A201.I b140 0) R203 E A201 ∧ (∀ (v203 : Option Nat) (A203 : xA), xok G A203 → R203 v203 A203 → (J166 A203))))))))))))))))))))) ∧ ((v142 ≤ y116_7 → J145 (none : Option Nat) A142) ∧ (¬ v142 ≤ y116_7 → A142.tg b143 = 37 ∧ (∃ R211 : Option Nat → xA → Prop, w_J5_get G b143 y116_7 R211 A142 ∧ (∀ (v211 : Option Nat) (A211 : xA), xok G A211 → R211 v211 A211 → (∃ b213 : Nat, v211 = some b213 ∧ (A211.tg b213 = 23 ∧ (J145 (some b213) A211))))))))))))))))))))))))))))))) ∧ (¬ (A2.I b111 4) = 0 → A2.tg p = 16 ∧ (A2.tg b3 = 6 ∧ (∃ R216 : Option Nat → xA → Prop, w_X6_fault G b3 (8 : Int32) (A2.I p 2) R216 A2 ∧ (∀ (v216 : Option Nat) (A216 : xA), xok G A216 → R216 v216 A216 → (∃ b218 : Nat, v216 = some b218 ∧ (E b218 A216)))))))))))) ∧ (¬ (A2.I b5 1) = (6 : Int32) → A2.tg p = 16 ∧ (A2.tg b3 = 6 ∧ (∃ R220 : Option Nat → xA → Prop, w_X6_fault G b3 (6 : Int32) (A2.I p 2) R220 A2 ∧ (∀ (v220 : Option Nat) (A220 : xA), xok G A220 → R220 v220 A220 → (∃ b222 : Nat, v220 = some b222 ∧ (E b222 A220))))))))))))))
theorem m_X17_call (hG : xOK G) (hO : xHO G) {dp : Nat} {r0 : Nat → Option Nat → Int32 → (Int64 → xA → Prop) → (Nat → xA → Prop) → xA → Prop} {r1 : Nat → Option Nat → Option Nat → Int32 → (Int64 → xA → Prop) → (Nat → xA → Prop) → xA → Prop} {r2 : Nat → Option Nat → Option Nat → Option Nat → (xA → Prop) → (Nat → xA → Prop) → xA → Prop} {r3 : Nat → Option Nat → Option Nat → Option Nat → (xA → Prop) → (Nat → xA → Prop) → xA → Prop} {r4 : Nat → Option Nat → (Int64 → xA → Prop) → (Nat → xA → Prop) → xA → Prop} {r5 : Nat → Option Nat → Option Nat → Option Nat → (xA → Prop) → (Nat → xA → Prop) → xA → Prop} (hK : xRC_V G (dp + 810) r0 r1 r2 r3 r4 r5) {p : Nat} {m : Option Nat} {w : Int32} {Q : Int64 → xA → Prop} {E : Nat → xA → Prop} {A : xA} (h : w_X17_call G r0 r1 r2 r3 r4 r5 p m w Q E A) : MX G (dp + 811) kX17_call [.ref p, va_rf m, .int w] A (hX (hL Q) E) := by
  unfold w_X17_call at h
  refine MX.of rfl (by cases m <;> exact Nat.le_of_ble_eq_true rfl) ?_
  refine X.lvs (lv' := [some (.ref p), some (va_rf m), some (.int w), none, none, none, none, none, none, none, none, none]) (by cases m <;> rfl) ?_
  refine X.xok (fun w0 => ?_)
  replace h := h w0
  refine x_aloadq_n dX17_call_0 rfl ?_
  refine x_aload_n dX17_call_1 rfl ?_
  obtain ⟨o1, h⟩ := h
  refine x_get (v := .int (A.I p 1)) hG dX17_call_2 f_X17_15_15 o1 rfl ?_
  refine x_aload_n dX17_call_5 rfl ?_
  refine x_get (v := .int (A.I p 2)) hG dX17_call_6 f_X17_9_15 o1 rfl ?_
  obtain ⟨b3, e3, h⟩ := h
  rw [e3]
  obtain ⟨o4, h⟩ := h
  obtain ⟨R2, g2, h⟩ := h
  refine x_callV hG (Ky := kX6_known) (As := [.int (A.I p 1), .int (A.I p 2)]) dX17_call_9 o4 rfl lk_X17_25 me_X6_known is_X6_known se_X6_known rfl rfl (Nat.le_of_ble_eq_true rfl) (MX.post (m_X6_known hG hO g2) ?_)
  rintro _ A2 (⟨v2, rfl, h1⟩ | ⟨x2, rfl, h1⟩)
  rotate_left
  · exact ⟨rfl, Or.inr ⟨_, rfl, h1⟩⟩
  refine X.xok (fun w2 => ?_)
  replace h := h v2 A2 w2 h1
  change X _ _ _ _ A2 _ _ [va_rf v2]
  refine x_astoreq_n dX17_call_12 (by decide) ?_
  refine x_aloadq_n dX17_call_13 rfl ?_
  obtain ⟨b5, e5, h⟩ := h
  rw [e5]
  obtain ⟨o6, h⟩ := h
  refine x_get (v := .int (A2.I b5 1)) hG dX17_call_14 f_X17_42_32 o6 rfl ?_
  refine x_bipush_ (v := (6 : Int32)) dX17_call_17 (by decide) ?_
  refine x_icmp_eq (tgt := 33) dX17_call_19 (by decide) (fun c19 => ?_) (fun c19 => ?_)
  · replace h := h.1 c19
    refine x_iload_n dX17_call_33 rfl ?_
    refine x_if_eq (tgt := 58) dX17_call_34 (by decide) (fun c34 => ?_) (fun c34 => ?_)
    · replace h := h.1 c34
      refine x_aload_n dX17_call_58 rfl ?_
      refine x_get (v := va_rf (A2.P b5 5)) hG dX17_call_59 f_X17_47_32 o6 rfl ?_
      obtain ⟨b7, e7, h⟩ := h
      rw [e7]
      obtain ⟨o8, h⟩ := h
      refine x_get (v := va_rf (A2.P b7 8)) hG dX17_call_62 f_X17_57_13 o8 rfl ?_
      refine x_astoreq dX17_call_65 (by decide) ?_
      refine x_aload_n dX17_call_67 rfl ?_
      refine x_get (v := .ref b7) hG dX17_call_68 f_X17_47_32 o6 (congrArg va_rf e7) ?_
      obtain ⟨R9, g9, h⟩ := h
      refine x_callV hG (Ky := kX14_words) (As := []) dX17_call_71 o8 rfl lk_X17_60 me_X14_words is_X14_words se_X14_words rfl rfl (Nat.le_of_ble_eq_true rfl) (MX.post (m_X14_words hG hO g9) ?_)
      rintro _ A9 ⟨v9, rfl, h1⟩
      refine X.xok (fun w9 => ?_)
      replace h := h v9 A9 w9 h1
      change X _ _ _ _ A9 _ _ [.int v9]
      obtain ⟨o10, h⟩ := h
      refine z_newa hG (j := 1) dX17_call_74 (by decide) rfl o10 q599 (fun A11 e11 w11 => ?_)
      replace h := h A11 e11
      refine x_astore dX17_call_76 (by decide) ?_
      refine X.lvs (lv' := [some (.ref p), some (.ref b3), some (.int w), some (.ref b5), some (va_rf (A2.P b7 8)), some (.ref A9.n), none, none, none, none, none, none]) (by generalize (A2.P b7 8) = z; cases z <;> rfl) ?_
      refine x_iconst_ (v := (0 : Int32)) dX17_call_78 (by decide) ?_
      refine x_istore dX17_call_79 (by decide) ?_
      refine x_iconst_ (v := (0 : Int32)) dX17_call_81 (by decide) ?_
      refine x_istore dX17_call_82 (by decide) ?_
      obtain ⟨L12, ⟨n12, i12⟩, g12⟩ := h
      have kl12 : ∀ n12 : Nat, ∀ (y12_6 : Int32) (y12_7 : Int32) (A12 : xA), L12 n12 y12_6 y12_7 A12 → X G (dp + 811) kX17_call (hX (hL Q) E) A12 84 [some (.ref p), some (.ref b3), none, some (.ref b5), some (va_rf (A2.P b7 8)), some (.ref A9.n), some (.int y12_6), some (.int y12_7), none, none, none, none] [] := by
        intro n12
        induction n12 using Nat.strongRecOn with
        | ind n12 ih12 =>
          intro y12_6 y12_7 A12 h
          replace h := g12 n12 y12_6 y12_7 A12 h
          refine x_iload dX17_call_84 rfl ?_
          refine x_aload_n dX17_call_86 rfl ?_
          obtain ⟨o13, h⟩ := h
          refine x_get (v := va_rf (A12.P p 4)) hG dX17_call_87 f_X17_18_15 o13 rfl ?_
          obtain ⟨b15, e15, h⟩ := h
          rw [e15]
          obtain ⟨o16, h⟩ := h
          obtain ⟨R14, g14, h⟩ := h
          refine x_callV hG (Ky := kJ5_size) (As := []) dX17_call_90 o16 rfl lk_X17_64 me_J5_size is_J5_size se_J5_size rfl rfl (Nat.le_of_ble_eq_true rfl) (MX.post (m_w_J5_size hG hO g14) ?_)
          rintro _ A14 ⟨v14, rfl, h1⟩
          refine X.xok (fun w14 => ?_)
          replace h := h v14 A14 w14 h1
          change X _ _ _ _ A14 _ _ [.int v14, .int y12_7]
          refine x_icmp_ge (tgt := 297) dX17_call_93 (by decide) (fun c93 => ?_) (fun c93 => ?_)
          · replace h := h.1 c93
            refine x_aload_n dX17_call_297 rfl ?_
            obtain ⟨o17, h⟩ := h
            refine x_get (v := va_rf (A14.P p 4)) hG dX17_call_298 f_X17_18_15 o17 rfl ?_
            obtain ⟨b19, e19, h⟩ := h
            rw [e19]
            obtain ⟨o20, h⟩ := h
            obtain ⟨R18, g18, h⟩ := h
            refine x_callV hG (Ky := kJ5_size) (As := []) dX17_call_301 o20 rfl lk_X17_64 me_J5_size is_J5_size se_J5_size rfl rfl (Nat.le_of_ble_eq_true rfl) (MX.post (m_w_J5_size hG hO g18) ?_)
            rintro _ A18 ⟨v18, rfl, h1⟩
            refine X.xok (fun w18 => ?_)
            replace h := h v18 A18 w18 h1
            change X _ _ _ _ A18 _ _ [.int v18]
            refine x_aloadq dX17_call_304 rfl ?_
            obtain ⟨b22, e22, h⟩ := h
            rw [e22]
            obtain ⟨o23, h⟩ := h
            obtain ⟨R21, g21, h⟩ := h
            refine x_callV hG (Ky := kJ5_size) (As := []) dX17_call_306 o23 rfl lk_X17_64 me_J5_size is_J5_size se_J5_size rfl rfl (Nat.le_of_ble_eq_true rfl) (MX.post (m_w_J5_size hG hO g21) ?_)
            rintro _ A21 ⟨v21, rfl, h1⟩
            refine X.xok (fun w21 => ?_)
            replace h := h v21 A21 w21 h1
            change X _ _ _ _ A21 _ _ [.int v21, .int v18]
            refine x_icmp_ge (tgt := 323) dX17_call_309 (by decide) (fun c309 => ?_) (fun c309 => ?_)
            · replace h := h.1 c309
              refine x_aload_n dX17_call_323 rfl ?_
              refine x_aload_n dX17_call_324 rfl ?_
              obtain ⟨o24, h⟩ := h
              refine x_get (v := va_rf (A21.P b5 5)) hG dX17_call_325 f_X17_47_32 o24 rfl ?_
              refine x_aload dX17_call_328 rfl ?_
              refine x_aload_n dX17_call_330 rfl ?_
              obtain ⟨o25, h⟩ := h
              refine x_get (v := .int (A21.I p 2)) hG dX17_call_331 f_X17_9_15 o25 rfl ?_
              obtain ⟨o27, h⟩ := h
              obtain ⟨R26, g26, h⟩ := h
              refine x_callV hG (Ky := kX6_call) (As := [va_rf (A21.P b5 5), .ref A9.n, .int (A21.I p 2)]) dX17_call_334 o27 rfl lk_X17_107 me_X6_call is_X6_call se_X6_call rfl rfl (Nat.le_of_ble_eq_true rfl) (MX.post (m_X6_call hG hO g26) ?_)
              rintro _ A26 ⟨v26, rfl, h1⟩
              refine X.xok (fun w26 => ?_)
              replace h := h v26 A26 w26 h1
              change X _ _ _ _ A26 _ _ [.long v26]
              exact x_lret dX17_call_337 rfl (Or.inl ⟨_, rfl, h⟩)
            · replace h := h.2 c309
              refine x_aload_n dX17_call_312 rfl ?_
              refine x_bipush_ (v := (7 : Int32)) dX17_call_313 (by decide) ?_
              refine x_aload_n dX17_call_315 rfl ?_
              obtain ⟨o28, h⟩ := h
              refine x_get (v := .int (A21.I p 3)) hG dX17_call_316 f_X17_22_15 o28 rfl ?_
              obtain ⟨o30, h⟩ := h
              obtain ⟨R29, g29, h⟩ := h
              refine x_callV hG (Ky := kX6_fault) (As := [.int (7 : Int32), .int (A21.I p 3)]) dX17_call_319 o30 rfl lk_X17_31 me_X6_fault is_X6_fault se_X6_fault rfl rfl (Nat.le_of_ble_eq_true rfl) (MX.post (m_X6_fault hG hO g29) ?_)
              rintro _ A29 ⟨v29, rfl, h1⟩
              refine X.xok (fun w29 => ?_)
              replace h := h v29 A29 w29 h1
              change X _ _ _ _ A29 _ _ [va_rf v29]
              obtain ⟨b31, e31, h⟩ := h
              rw [e31]
              exact x_athrow dX17_call_322 rfl (Or.inr ⟨_, rfl, h⟩)
          · replace h := h.2 c93
            refine x_aload_n dX17_call_96 rfl ?_
            obtain ⟨o32, h⟩ := h
            refine x_get (v := va_rf (A14.P p 4)) hG dX17_call_97 f_X17_18_15 o32 rfl ?_
            refine x_iload dX17_call_100 rfl ?_
            obtain ⟨b34, e34, h⟩ := h
            rw [e34]
            obtain ⟨o35, h⟩ := h
            obtain ⟨R33, g33, h⟩ := h
            refine x_callV hG (Ky := kJ5_get) (As := [.int y12_7]) dX17_call_102 o35 rfl lk_X17_69 me_J5_get is_J5_get se_J5_get rfl rfl (Nat.le_of_ble_eq_true rfl) (MX.post (m_w_J5_get hG hO g33) ?_)
            rintro _ A33 ⟨v33, rfl, h1⟩
            refine X.xok (fun w33 => ?_)
            replace h := h v33 A33 w33 h1
            change X _ _ _ _ A33 _ _ [va_rf v33]
            obtain ⟨b36, e36, h⟩ := h
            rw [e36]
            obtain ⟨o37, h⟩ := h
            refine z_castE hG dX17_call_105 q2036 o37 ?_
            refine x_astore dX17_call_108 (by decide) ?_
            refine x_iload dX17_call_110 rfl ?_
            refine x_aloadq dX17_call_112 rfl ?_
            obtain ⟨b39, e39, h⟩ := h
            rw [e39]
            obtain ⟨o40, h⟩ := h
            obtain ⟨R38, g38, h⟩ := h
            refine x_callV hG (Ky := kJ5_size) (As := []) dX17_call_114 o40 rfl lk_X17_64 me_J5_size is_J5_size se_J5_size rfl rfl (Nat.le_of_ble_eq_true rfl) (MX.post (m_w_J5_size hG hO g38) ?_)
            rintro _ A38 ⟨v38, rfl, h1⟩
            refine X.xok (fun w38 => ?_)
            replace h := h v38 A38 w38 h1
            change X _ _ _ _ A38 _ _ [.int v38, .int y12_7]
            obtain ⟨J41, g41, h⟩ := h
            have kj41 : ∀ (y41_s0 : Option Nat) (A41 : xA), J41 y41_s0 A41 → X G (dp + 811) kX17_call (hX (hL Q) E) A41 134 [some (.ref p), some (.ref b3), none, some (.ref b5), some (.ref b39), some (.ref A9.n), some (.int y12_6), some (.int y12_7), some (.ref b36), none, none, none] [va_rf y41_s0] := by
              intro y41_s0 A41 h
              replace h := g41 y41_s0 A41 h
              refine x_astoreq dX17_call_134 (by decide) ?_
              refine x_aloadq dX17_call_136 rfl ?_
              refine x_ifnull (tgt := 166) dX17_call_138 (by decide) (fun c138 => ?_) (fun b42 c138 => ?_)
              · replace h := h.1 c138
                refine x_aload dX17_call_166 rfl ?_
                obtain ⟨o43, h⟩ := h
                obtain ⟨R44, g44, h⟩ := h
                refine z_disp (pc' := 168) (lv' := [some (.ref p), some (.ref b3), none, some (.ref b5), some (.ref b39), some (.ref A9.n), some (.int y12_6), some (.int y12_7), some (.ref b36), some (va_rf y41_s0), none, none]) (st' := []) (P := hR R44) (kr := ?_) (kc := ?_)
                rotate_left
                · obtain ⟨c, tc, hc⟩ := o43
                  simp only [eCl, List.mem_cons, List.not_mem_nil, or_false] at hc
                  intro kr
                  rcases hc with rfl | rfl | rfl | rfl | rfl | rfl | rfl | rfl
                  · exact x_callU hG (Ky := kX15_alone) (As := []) dX17_call_168 tc rfl q2137 q2139 (Or.inr ⟨is_X15_alone, _, _, _, me_X15_alone.1⟩) xm_X15_alone me_X15_alone is_X15_alone q2149 rfl rfl (Nat.le_of_ble_eq_true rfl) (MX.post ((rc_O hG hO 3).1 tc g44) kr)
                  · exact x_callU hG (Ky := kX15_alone) (As := []) dX17_call_168 tc rfl q2137 q2139 (Or.inr ⟨is_X15_alone, _, _, _, me_X15_alone.1⟩) xm_X15_alone me_X15_alone is_X15_alone q2141 rfl rfl (Nat.le_of_ble_eq_true rfl) (MX.post ((rc_O hG hO 3).2.1 tc g44) kr)
                  · exact x_callU hG (Ky := kX18_alone) (As := []) dX17_call_168 tc rfl q2137 q2139 (Or.inr ⟨is_X15_alone, _, _, _, me_X15_alone.1⟩) xm_X15_alone me_X18_alone is_X18_alone q2146 rfl rfl (Nat.le_of_ble_eq_true rfl) (MX.post ((rc_O hG hO 3).2.2.1 tc g44) kr)
                  · exact x_callU hG (Ky := kX15_alone) (As := []) dX17_call_168 tc rfl q2137 q2139 (Or.inr ⟨is_X15_alone, _, _, _, me_X15_alone.1⟩) xm_X15_alone me_X15_alone is_X15_alone q2144 rfl rfl (Nat.le_of_ble_eq_true rfl) (MX.post ((rc_O hG hO 3).2.2.2.1 tc g44) kr)
                  · exact x_callU hG (Ky := kX15_alone) (As := []) dX17_call_168 tc rfl q2137 q2139 (Or.inr ⟨is_X15_alone, _, _, _, me_X15_alone.1⟩) xm_X15_alone me_X15_alone is_X15_alone q2140 rfl rfl (Nat.le_of_ble_eq_true rfl) (MX.post ((rc_O hG hO 3).2.2.2.2.1 tc g44) kr)
                  · exact x_callU hG (Ky := kX15_alone) (As := []) dX17_call_168 tc rfl q2137 q2139 (Or.inr ⟨is_X15_alone, _, _, _, me_X15_alone.1⟩) xm_X15_alone me_X15_alone is_X15_alone q2145 rfl rfl (Nat.le_of_ble_eq_true rfl) (MX.post ((rc_O hG hO 3).2.2.2.2.2.1 tc g44) kr)
                  · exact x_callU hG (Ky := kX15_alone) (As := []) dX17_call_168 tc rfl q2137 q2139 (Or.inr ⟨is_X15_alone, _, _, _, me_X15_alone.1⟩) xm_X15_alone me_X15_alone is_X15_alone q2142 rfl rfl (Nat.le_of_ble_eq_true rfl) (MX.post ((rc_O hG hO 3).2.2.2.2.2.2.1 tc g44) kr)
                  · exact x_callU hG (Ky := kX15_alone) (As := []) dX17_call_168 tc rfl q2137 q2139 (Or.inr ⟨is_X15_alone, _, _, _, me_X15_alone.1⟩) xm_X15_alone me_X15_alone is_X15_alone q2143 rfl rfl (Nat.le_of_ble_eq_true rfl) (MX.post ((rc_O hG hO 3).2.2.2.2.2.2.2 tc g44) kr)
                rintro _ A44 ⟨v44, rfl, h1⟩
                refine X.xok (fun w44 => ?_)
                replace h := h v44 A44 w44 h1
                change X _ _ _ _ A44 _ _ [va_rf v44]
                refine x_astoreq dX17_call_171 (by decide) ?_
                refine X.lvs (lv' := [some (.ref p), some (.ref b3), none, some (.ref b5), some (.ref b39), some (.ref A9.n), some (.int y12_6), some (.int y12_7), some (.ref b36), some (va_rf y41_s0), some (va_rf v44), none]) (by generalize y41_s0 = z; cases z <;> rfl) ?_
                refine x_aload dX17_call_173 rfl ?_
                obtain ⟨o45, h⟩ := h
                obtain ⟨R46, g46, h⟩ := h
                refine z_disp (pc' := 175) (lv' := [some (.ref p), some (.ref b3), none, some (.ref b5), some (.ref b39), some (.ref A9.n), some (.int y12_6), some (.int y12_7), some (.ref b36), some (va_rf y41_s0), some (va_rf v44), none]) (st' := []) (P := hI R46) (kr := ?_) (kc := ?_)
                rotate_left
                · obtain ⟨c, tc, hc⟩ := o45
                  simp only [eCl, List.mem_cons, List.not_mem_nil, or_false] at hc
                  intro kr
                  rcases hc with rfl | rfl | rfl | rfl | rfl | rfl | rfl | rfl
                  · exact x_callU hG (Ky := kX15_leading) (As := []) dX17_call_175 tc rfl q2151 q2153 (Or.inr ⟨is_X15_leading, _, _, _, me_X15_leading.1⟩) xm_X15_leading me_X15_leading is_X15_leading q2174 rfl rfl (Nat.le_of_ble_eq_true rfl) (MX.post ((rc_L hG hO 800).1 tc g46) kr)
                  · exact x_callU hG (Ky := kX17_leading) (As := []) dX17_call_175 tc rfl q2151 q2153 (Or.inr ⟨is_X15_leading, _, _, _, me_X15_leading.1⟩) xm_X15_leading me_X17_leading is_X17_leading q2155 rfl rfl (Nat.le_of_ble_eq_true rfl) (MX.post ((rc_L hG hO 800).2.1 tc g46) kr)
                  · exact x_callU hG (Ky := kX18_leading) (As := []) dX17_call_175 tc rfl q2151 q2153 (Or.inr ⟨is_X15_leading, _, _, _, me_X15_leading.1⟩) xm_X15_leading me_X18_leading is_X18_leading q2173 rfl rfl (Nat.le_of_ble_eq_true rfl) (MX.post ((rc_L hG hO 800).2.2.1 tc g46) kr)
                  · exact x_callU hG (Ky := kX15_leading) (As := []) dX17_call_175 tc rfl q2151 q2153 (Or.inr ⟨is_X15_leading, _, _, _, me_X15_leading.1⟩) xm_X15_leading me_X15_leading is_X15_leading q2171 rfl rfl (Nat.le_of_ble_eq_true rfl) (MX.post ((rc_L hG hO 800).2.2.2.1 tc g46) kr)
                  · exact x_callU hG (Ky := kX15_leading) (As := []) dX17_call_175 tc rfl q2151 q2153 (Or.inr ⟨is_X15_leading, _, _, _, me_X15_leading.1⟩) xm_X15_leading me_X15_leading is_X15_leading q2154 rfl rfl (Nat.le_of_ble_eq_true rfl) (MX.post ((rc_L hG hO 800).2.2.2.2.1 tc g46) kr)
                  · exact x_callU hG (Ky := kX21_leading) (As := []) dX17_call_175 tc rfl q2151 q2153 (Or.inr ⟨is_X15_leading, _, _, _, me_X15_leading.1⟩) xm_X15_leading me_X21_leading is_X21_leading q2172 rfl rfl (Nat.le_of_ble_eq_true rfl) (MX.post ((rc_L hG hO 800).2.2.2.2.2.1 tc g46) kr)
                  · exact x_callU hG (Ky := kX22_leading) (As := []) dX17_call_175 tc rfl q2151 q2153 (Or.inr ⟨is_X15_leading, _, _, _, me_X15_leading.1⟩) xm_X15_leading me_X22_leading is_X22_leading q2158 rfl rfl (Nat.le_of_ble_eq_true rfl) (MX.post ((rc_L hG hO 800).2.2.2.2.2.2.1 tc g46) kr)
                  · exact x_callU hG (Ky := kX23_leading) (As := []) dX17_call_175 tc rfl q2151 q2153 (Or.inr ⟨is_X15_leading, _, _, _, me_X15_leading.1⟩) xm_X15_leading me_X23_leading is_X23_leading q2170 rfl rfl (Nat.le_of_ble_eq_true rfl) (MX.post ((rc_L hG hO 800).2.2.2.2.2.2.2 tc g46) kr)
                rintro _ A46 ⟨v46, rfl, h1⟩
                refine X.xok (fun w46 => ?_)
                replace h := h v46 A46 w46 h1
                change X _ _ _ _ A46 _ _ [.int v46]
                obtain ⟨J47, g47, h⟩ := h
                have kj47 : ∀ (A47 : xA), J47 A47 → X G (dp + 811) kX17_call (hX (hL Q) E) A47 196 [some (.ref p), some (.ref b3), none, some (.ref b5), some (.ref b39), some (.ref A9.n), some (.int y12_6), some (.int y12_7), some (.ref b36), some (va_rf y41_s0), some (va_rf v44), none] [] := by
                  intro A47 h
                  replace h := g47 A47 h
                  refine x_aloadq dX17_call_196 rfl ?_
                  refine x_ifnull (tgt := 206) dX17_call_198 (by decide) (fun _ => ?_) (fun _ h => nomatch (h.symm.trans c138))
                  refine x_null dX17_call_206 ?_
                  refine x_goto (tgt := 224) dX17_call_207 (by decide) ?_
                  refine x_astoreN dX17_call_224 (by decide) ?_
                  refine X.lvs (lv' := [some (.ref p), some (.ref b3), none, some (.ref b5), some (.ref b39), some (.ref A9.n), some (.int y12_6), some (.int y12_7), some (.ref b36), some (va_rf y41_s0), some (va_rf v44), some (.null)]) (by generalize v44 = z; cases z <;> rfl) ?_
                  refine x_aloadN dX17_call_226 rfl ?_
                  refine x_ifnull (r := (none : Option Nat)) (tgt := 252) dX17_call_228 (by decide) (fun _ => ?_) (fun _ h => nomatch h)
                  refine x_aload_n dX17_call_252 rfl ?_
                  refine x_bipush_ (v := (7 : Int32)) dX17_call_253 (by decide) ?_
                  refine x_aload dX17_call_255 rfl ?_
                  obtain ⟨o48, h⟩ := h
                  refine z_getE hG dX17_call_257 fE_X17_39 o48 ?_
                  obtain ⟨o50, h⟩ := h
                  obtain ⟨R49, g49, h⟩ := h
                  refine x_callV hG (Ky := kX6_fault) (As := [.int (7 : Int32), .int (A47.I b36 0)]) dX17_call_260 o50 rfl lk_X17_31 me_X6_fault is_X6_fault se_X6_fault rfl rfl (Nat.le_of_ble_eq_true rfl) (MX.post (m_X6_fault hG hO g49) ?_)
                  rintro _ A49 ⟨v49, rfl, h1⟩
                  refine X.xok (fun w49 => ?_)
                  replace h := h v49 A49 w49 h1
                  change X _ _ _ _ A49 _ _ [va_rf v49]
                  obtain ⟨b51, e51, h⟩ := h
                  rw [e51]
                  exact x_athrow dX17_call_263 rfl (Or.inr ⟨_, rfl, h⟩)
                refine x_if_lt (tgt := 196) dX17_call_178 (by decide) (fun c178 => ?_) (fun c178 => ?_)
                · replace h := h.1 c178
                  change X _ _ _ _ _ _ [some (.ref p), some (.ref b3), none, some (.ref b5), some (.ref b39), some (.ref A9.n), some (.int y12_6), some (.int y12_7), some (.ref b36), some (va_rf y41_s0), some (va_rf v44), none] []
                  exact X.weak (xle_c rfl (xle_c rfl (xle_n (xle_c rfl (xle_c rfl (xle_c rfl (xle_c rfl (xle_c rfl (xle_c rfl (xle_c rfl (xle_c rfl (xle_n xle_nil)))))))))))) (kj47 A46 h)
                · replace h := h.2 c178
                  refine x_aload_n dX17_call_181 rfl ?_
                  refine x_aload dX17_call_182 rfl ?_
                  obtain ⟨o52, h⟩ := h
                  obtain ⟨R53, g53, h⟩ := h
                  refine z_disp (pc' := 184) (lv' := [some (.ref p), some (.ref b3), none, some (.ref b5), some (.ref b39), some (.ref A9.n), some (.int y12_6), some (.int y12_7), some (.ref b36), some (va_rf y41_s0), some (va_rf v44), none]) (st' := [.ref b3]) (P := hI R53) (kr := ?_) (kc := ?_)
                  rotate_left
                  · obtain ⟨c, tc, hc⟩ := o52
                    simp only [eCl, List.mem_cons, List.not_mem_nil, or_false] at hc
                    intro kr
                    rcases hc with rfl | rfl | rfl | rfl | rfl | rfl | rfl | rfl
                    · exact x_callU hG (Ky := kX15_leading) (As := []) dX17_call_184 tc rfl q2151 q2153 (Or.inr ⟨is_X15_leading, _, _, _, me_X15_leading.1⟩) xm_X15_leading me_X15_leading is_X15_leading q2174 rfl rfl (Nat.le_of_ble_eq_true rfl) (MX.post ((rc_L hG hO 800).1 tc g53) kr)
                    · exact x_callU hG (Ky := kX17_leading) (As := []) dX17_call_184 tc rfl q2151 q2153 (Or.inr ⟨is_X15_leading, _, _, _, me_X15_leading.1⟩) xm_X15_leading me_X17_leading is_X17_leading q2155 rfl rfl (Nat.le_of_ble_eq_true rfl) (MX.post ((rc_L hG hO 800).2.1 tc g53) kr)
                    · exact x_callU hG (Ky := kX18_leading) (As := []) dX17_call_184 tc rfl q2151 q2153 (Or.inr ⟨is_X15_leading, _, _, _, me_X15_leading.1⟩) xm_X15_leading me_X18_leading is_X18_leading q2173 rfl rfl (Nat.le_of_ble_eq_true rfl) (MX.post ((rc_L hG hO 800).2.2.1 tc g53) kr)
                    · exact x_callU hG (Ky := kX15_leading) (As := []) dX17_call_184 tc rfl q2151 q2153 (Or.inr ⟨is_X15_leading, _, _, _, me_X15_leading.1⟩) xm_X15_leading me_X15_leading is_X15_leading q2171 rfl rfl (Nat.le_of_ble_eq_true rfl) (MX.post ((rc_L hG hO 800).2.2.2.1 tc g53) kr)
                    · exact x_callU hG (Ky := kX15_leading) (As := []) dX17_call_184 tc rfl q2151 q2153 (Or.inr ⟨is_X15_leading, _, _, _, me_X15_leading.1⟩) xm_X15_leading me_X15_leading is_X15_leading q2154 rfl rfl (Nat.le_of_ble_eq_true rfl) (MX.post ((rc_L hG hO 800).2.2.2.2.1 tc g53) kr)
                    · exact x_callU hG (Ky := kX21_leading) (As := []) dX17_call_184 tc rfl q2151 q2153 (Or.inr ⟨is_X15_leading, _, _, _, me_X15_leading.1⟩) xm_X15_leading me_X21_leading is_X21_leading q2172 rfl rfl (Nat.le_of_ble_eq_true rfl) (MX.post ((rc_L hG hO 800).2.2.2.2.2.1 tc g53) kr)
                    · exact x_callU hG (Ky := kX22_leading) (As := []) dX17_call_184 tc rfl q2151 q2153 (Or.inr ⟨is_X15_leading, _, _, _, me_X15_leading.1⟩) xm_X15_leading me_X22_leading is_X22_leading q2158 rfl rfl (Nat.le_of_ble_eq_true rfl) (MX.post ((rc_L hG hO 800).2.2.2.2.2.2.1 tc g53) kr)
                    · exact x_callU hG (Ky := kX23_leading) (As := []) dX17_call_184 tc rfl q2151 q2153 (Or.inr ⟨is_X15_leading, _, _, _, me_X15_leading.1⟩) xm_X15_leading me_X23_leading is_X23_leading q2170 rfl rfl (Nat.le_of_ble_eq_true rfl) (MX.post ((rc_L hG hO 800).2.2.2.2.2.2.2 tc g53) kr)
                  rintro _ A53 ⟨v53, rfl, h1⟩
                  refine X.xok (fun w53 => ?_)
                  replace h := h v53 A53 w53 h1
                  change X _ _ _ _ A53 _ _ [.int v53, .ref b3]
                  refine x_aload dX17_call_187 rfl ?_
                  obtain ⟨o54, h⟩ := h
                  refine z_getE hG dX17_call_189 fE_X17_39 o54 ?_
                  obtain ⟨o56, h⟩ := h
                  obtain ⟨R55, g55, h⟩ := h
                  refine x_callV hG (Ky := kX6_known) (As := [.int v53, .int (A53.I b36 0)]) dX17_call_192 o56 rfl lk_X17_25 me_X6_known is_X6_known se_X6_known rfl rfl (Nat.le_of_ble_eq_true rfl) (MX.post (m_X6_known hG hO g55) ?_)
                  rintro _ A55 (⟨v55, rfl, h1⟩ | ⟨x55, rfl, h1⟩)
                  rotate_left
                  · exact ⟨rfl, Or.inr ⟨_, rfl, h1⟩⟩
                  refine X.xok (fun w55 => ?_)
                  replace h := h v55 A55 w55 h1
                  change X _ _ _ _ A55 _ _ [va_rf v55]
                  refine x_pop dX17_call_195 (va_rf_cat _) ?_
                  change X _ _ _ _ _ _ [some (.ref p), some (.ref b3), none, some (.ref b5), some (.ref b39), some (.ref A9.n), some (.int y12_6), some (.int y12_7), some (.ref b36), some (va_rf y41_s0), some (va_rf v44), none] []
                  exact X.weak (xle_c rfl (xle_c rfl (xle_n (xle_c rfl (xle_c rfl (xle_c rfl (xle_c rfl (xle_c rfl (xle_c rfl (xle_c rfl (xle_c rfl (xle_n xle_nil)))))))))))) (kj47 A55 h)
              · replace h := h.2 b42 c138
                rw [c138]
                refine x_aload dX17_call_141 rfl ?_
                obtain ⟨o57, h⟩ := h
                refine x_get (v := .int (A41.I b42 3)) hG dX17_call_143 f_X17_75_22 o57 rfl ?_
                refine x_if_ne (tgt := 166) dX17_call_146 (by decide) (fun c146 => ?_) (fun c146 => ?_)
                · replace h := h.2 c146
                  refine x_aload dX17_call_166 rfl ?_
                  obtain ⟨o58, h⟩ := h
                  obtain ⟨R59, g59, h⟩ := h
                  refine z_disp (pc' := 168) (lv' := [some (.ref p), some (.ref b3), none, some (.ref b5), some (.ref b39), some (.ref A9.n), some (.int y12_6), some (.int y12_7), some (.ref b36), some (.ref b42), none, none]) (st' := []) (P := hR R59) (kr := ?_) (kc := ?_)
                  rotate_left
                  · obtain ⟨c, tc, hc⟩ := o58
                    simp only [eCl, List.mem_cons, List.not_mem_nil, or_false] at hc
                    intro kr
                    rcases hc with rfl | rfl | rfl | rfl | rfl | rfl | rfl | rfl
                    · exact x_callU hG (Ky := kX15_alone) (As := []) dX17_call_168 tc rfl q2137 q2139 (Or.inr ⟨is_X15_alone, _, _, _, me_X15_alone.1⟩) xm_X15_alone me_X15_alone is_X15_alone q2149 rfl rfl (Nat.le_of_ble_eq_true rfl) (MX.post ((rc_O hG hO 3).1 tc g59) kr)
                    · exact x_callU hG (Ky := kX15_alone) (As := []) dX17_call_168 tc rfl q2137 q2139 (Or.inr ⟨is_X15_alone, _, _, _, me_X15_alone.1⟩) xm_X15_alone me_X15_alone is_X15_alone q2141 rfl rfl (Nat.le_of_ble_eq_true rfl) (MX.post ((rc_O hG hO 3).2.1 tc g59) kr)
                    · exact x_callU hG (Ky := kX18_alone) (As := []) dX17_call_168 tc rfl q2137 q2139 (Or.inr ⟨is_X15_alone, _, _, _, me_X15_alone.1⟩) xm_X15_alone me_X18_alone is_X18_alone q2146 rfl rfl (Nat.le_of_ble_eq_true rfl) (MX.post ((rc_O hG hO 3).2.2.1 tc g59) kr)
                    · exact x_callU hG (Ky := kX15_alone) (As := []) dX17_call_168 tc rfl q2137 q2139 (Or.inr ⟨is_X15_alone, _, _, _, me_X15_alone.1⟩) xm_X15_alone me_X15_alone is_X15_alone q2144 rfl rfl (Nat.le_of_ble_eq_true rfl) (MX.post ((rc_O hG hO 3).2.2.2.1 tc g59) kr)
                    · exact x_callU hG (Ky := kX15_alone) (As := []) dX17_call_168 tc rfl q2137 q2139 (Or.inr ⟨is_X15_alone, _, _, _, me_X15_alone.1⟩) xm_X15_alone me_X15_alone is_X15_alone q2140 rfl rfl (Nat.le_of_ble_eq_true rfl) (MX.post ((rc_O hG hO 3).2.2.2.2.1 tc g59) kr)
                    · exact x_callU hG (Ky := kX15_alone) (As := []) dX17_call_168 tc rfl q2137 q2139 (Or.inr ⟨is_X15_alone, _, _, _, me_X15_alone.1⟩) xm_X15_alone me_X15_alone is_X15_alone q2145 rfl rfl (Nat.le_of_ble_eq_true rfl) (MX.post ((rc_O hG hO 3).2.2.2.2.2.1 tc g59) kr)
                    · exact x_callU hG (Ky := kX15_alone) (As := []) dX17_call_168 tc rfl q2137 q2139 (Or.inr ⟨is_X15_alone, _, _, _, me_X15_alone.1⟩) xm_X15_alone me_X15_alone is_X15_alone q2142 rfl rfl (Nat.le_of_ble_eq_true rfl) (MX.post ((rc_O hG hO 3).2.2.2.2.2.2.1 tc g59) kr)
                    · exact x_callU hG (Ky := kX15_alone) (As := []) dX17_call_168 tc rfl q2137 q2139 (Or.inr ⟨is_X15_alone, _, _, _, me_X15_alone.1⟩) xm_X15_alone me_X15_alone is_X15_alone q2143 rfl rfl (Nat.le_of_ble_eq_true rfl) (MX.post ((rc_O hG hO 3).2.2.2.2.2.2.2 tc g59) kr)
                  rintro _ A59 ⟨v59, rfl, h1⟩
                  refine X.xok (fun w59 => ?_)
                  replace h := h v59 A59 w59 h1
                  change X _ _ _ _ A59 _ _ [va_rf v59]
                  refine x_astoreq dX17_call_171 (by decide) ?_
                  refine x_aload dX17_call_173 rfl ?_
                  obtain ⟨o60, h⟩ := h
                  obtain ⟨R61, g61, h⟩ := h
                  refine z_disp (pc' := 175) (lv' := [some (.ref p), some (.ref b3), none, some (.ref b5), some (.ref b39), some (.ref A9.n), some (.int y12_6), some (.int y12_7), some (.ref b36), some (.ref b42), some (va_rf v59), none]) (st' := []) (P := hI R61) (kr := ?_) (kc := ?_)
                  rotate_left
                  · obtain ⟨c, tc, hc⟩ := o60
                    simp only [eCl, List.mem_cons, List.not_mem_nil, or_false] at hc
                    intro kr
                    rcases hc with rfl | rfl | rfl | rfl | rfl | rfl | rfl | rfl
                    · exact x_callU hG (Ky := kX15_leading) (As := []) dX17_call_175 tc rfl q2151 q2153 (Or.inr ⟨is_X15_leading, _, _, _, me_X15_leading.1⟩) xm_X15_leading me_X15_leading is_X15_leading q2174 rfl rfl (Nat.le_of_ble_eq_true rfl) (MX.post ((rc_L hG hO 800).1 tc g61) kr)
                    · exact x_callU hG (Ky := kX17_leading) (As := []) dX17_call_175 tc rfl q2151 q2153 (Or.inr ⟨is_X15_leading, _, _, _, me_X15_leading.1⟩) xm_X15_leading me_X17_leading is_X17_leading q2155 rfl rfl (Nat.le_of_ble_eq_true rfl) (MX.post ((rc_L hG hO 800).2.1 tc g61) kr)
                    · exact x_callU hG (Ky := kX18_leading) (As := []) dX17_call_175 tc rfl q2151 q2153 (Or.inr ⟨is_X15_leading, _, _, _, me_X15_leading.1⟩) xm_X15_leading me_X18_leading is_X18_leading q2173 rfl rfl (Nat.le_of_ble_eq_true rfl) (MX.post ((rc_L hG hO 800).2.2.1 tc g61) kr)
                    · exact x_callU hG (Ky := kX15_leading) (As := []) dX17_call_175 tc rfl q2151 q2153 (Or.inr ⟨is_X15_leading, _, _, _, me_X15_leading.1⟩) xm_X15_leading me_X15_leading is_X15_leading q2171 rfl rfl (Nat.le_of_ble_eq_true rfl) (MX.post ((rc_L hG hO 800).2.2.2.1 tc g61) kr)
                    · exact x_callU hG (Ky := kX15_leading) (As := []) dX17_call_175 tc rfl q2151 q2153 (Or.inr ⟨is_X15_leading, _, _, _, me_X15_leading.1⟩) xm_X15_leading me_X15_leading is_X15_leading q2154 rfl rfl (Nat.le_of_ble_eq_true rfl) (MX.post ((rc_L hG hO 800).2.2.2.2.1 tc g61) kr)
                    · exact x_callU hG (Ky := kX21_leading) (As := []) dX17_call_175 tc rfl q2151 q2153 (Or.inr ⟨is_X15_leading, _, _, _, me_X15_leading.1⟩) xm_X15_leading me_X21_leading is_X21_leading q2172 rfl rfl (Nat.le_of_ble_eq_true rfl) (MX.post ((rc_L hG hO 800).2.2.2.2.2.1 tc g61) kr)
                    · exact x_callU hG (Ky := kX22_leading) (As := []) dX17_call_175 tc rfl q2151 q2153 (Or.inr ⟨is_X15_leading, _, _, _, me_X15_leading.1⟩) xm_X15_leading me_X22_leading is_X22_leading q2158 rfl rfl (Nat.le_of_ble_eq_true rfl) (MX.post ((rc_L hG hO 800).2.2.2.2.2.2.1 tc g61) kr)
                    · exact x_callU hG (Ky := kX23_leading) (As := []) dX17_call_175 tc rfl q2151 q2153 (Or.inr ⟨is_X15_leading, _, _, _, me_X15_leading.1⟩) xm_X15_leading me_X23_leading is_X23_leading q2170 rfl rfl (Nat.le_of_ble_eq_true rfl) (MX.post ((rc_L hG hO 800).2.2.2.2.2.2.2 tc g61) kr)
                  rintro _ A61 ⟨v61, rfl, h1⟩
                  refine X.xok (fun w61 => ?_)
                  replace h := h v61 A61 w61 h1
                  change X _ _ _ _ A61 _ _ [.int v61]
                  obtain ⟨J62, g62, h⟩ := h
                  have kj62 : ∀ (A62 : xA), J62 A62 → X G (dp + 811) kX17_call (hX (hL Q) E) A62 196 [some (.ref p), some (.ref b3), none, some (.ref b5), some (.ref b39), some (.ref A9.n), some (.int y12_6), some (.int y12_7), some (.ref b36), some (.ref b42), some (va_rf v59), none] [] := by
                    intro A62 h
                    replace h := g62 A62 h
                    refine x_aload dX17_call_196 rfl ?_
                    refine x_ifnull (r := (some b42)) (tgt := 206) dX17_call_198 (by decide) (fun h => nomatch h) (fun _ _ => ?_)
                    refine x_aloadq dX17_call_201 rfl ?_
                    obtain ⟨J63, g63, h⟩ := h
                    have kj63 : ∀ (y63_s0 : Option Nat) (A63 : xA), J63 y63_s0 A63 → X G (dp + 811) kX17_call (hX (hL Q) E) A63 224 [some (.ref p), some (.ref b3), none, some (.ref b5), some (.ref b39), some (.ref A9.n), some (.int y12_6), some (.int y12_7), some (.ref b36), some (.ref b42), none, none] [va_rf y63_s0] := by
                      intro y63_s0 A63 h
                      replace h := g63 y63_s0 A63 h
                      refine x_astoreq dX17_call_224 (by decide) ?_
                      refine x_aloadq dX17_call_226 rfl ?_
                      refine x_ifnull (tgt := 252) dX17_call_228 (by decide) (fun c228 => ?_) (fun b64 c228 => ?_)
                      · replace h := h.1 c228
                        refine x_aload_n dX17_call_252 rfl ?_
                        refine x_bipush_ (v := (7 : Int32)) dX17_call_253 (by decide) ?_
                        refine x_aload dX17_call_255 rfl ?_
                        obtain ⟨o65, h⟩ := h
                        refine z_getE hG dX17_call_257 fE_X17_39 o65 ?_
                        obtain ⟨o67, h⟩ := h
                        obtain ⟨R66, g66, h⟩ := h
                        refine x_callV hG (Ky := kX6_fault) (As := [.int (7 : Int32), .int (A63.I b36 0)]) dX17_call_260 o67 rfl lk_X17_31 me_X6_fault is_X6_fault se_X6_fault rfl rfl (Nat.le_of_ble_eq_true rfl) (MX.post (m_X6_fault hG hO g66) ?_)
                        rintro _ A66 ⟨v66, rfl, h1⟩
                        refine X.xok (fun w66 => ?_)
                        replace h := h v66 A66 w66 h1
                        change X _ _ _ _ A66 _ _ [va_rf v66]
                        obtain ⟨b68, e68, h⟩ := h
                        rw [e68]
                        exact x_athrow dX17_call_263 rfl (Or.inr ⟨_, rfl, h⟩)
                      · replace h := h.2 b64 c228
                        rw [c228]
                        refine x_aload dX17_call_231 rfl ?_
                        obtain ⟨o70, h⟩ := h
                        obtain ⟨R69, g69, h⟩ := h
                        refine x_callV hG (Ky := kX34_isArray) (As := []) dX17_call_233 o70 rfl lk_X17_93 me_X34_isArray is_X34_isArray se_X34_isArray rfl rfl (Nat.le_of_ble_eq_true rfl) (MX.post (m_X34_isArray hG hO g69) ?_)
                        rintro _ A69 ⟨v69, rfl, zv69, h1⟩
                        refine X.xok (fun w69 => ?_)
                        replace h := h v69 A69 w69 zv69 h1
                        change X _ _ _ _ A69 _ _ [.int v69]
                        refine x_if_eq (tgt := 252) dX17_call_236 (by decide) (fun c236 => ?_) (fun c236 => ?_)
                        · replace h := h.1 c236
                          refine x_aload_n dX17_call_252 rfl ?_
                          refine x_bipush_ (v := (7 : Int32)) dX17_call_253 (by decide) ?_
                          refine x_aload dX17_call_255 rfl ?_
                          obtain ⟨o71, h⟩ := h
                          refine z_getE hG dX17_call_257 fE_X17_39 o71 ?_
                          obtain ⟨o73, h⟩ := h
                          obtain ⟨R72, g72, h⟩ := h
                          refine x_callV hG (Ky := kX6_fault) (As := [.int (7 : Int32), .int (A69.I b36 0)]) dX17_call_260 o73 rfl lk_X17_31 me_X6_fault is_X6_fault se_X6_fault rfl rfl (Nat.le_of_ble_eq_true rfl) (MX.post (m_X6_fault hG hO g72) ?_)
                          rintro _ A72 ⟨v72, rfl, h1⟩
                          refine X.xok (fun w72 => ?_)
                          replace h := h v72 A72 w72 h1
                          change X _ _ _ _ A72 _ _ [va_rf v72]
                          obtain ⟨b74, e74, h⟩ := h
                          rw [e74]
                          exact x_athrow dX17_call_263 rfl (Or.inr ⟨_, rfl, h⟩)
                        · replace h := h.2 c236
                          refine x_aload dX17_call_239 rfl ?_
                          obtain ⟨o75, h⟩ := h
                          refine x_get (v := .int (A69.I b64 3)) hG dX17_call_241 f_X17_96_32 o75 rfl ?_
                          refine x_aload dX17_call_244 rfl ?_
                          obtain ⟨o76, h⟩ := h
                          refine x_get (v := .int (A69.I b42 4)) hG dX17_call_246 f_X17_99_22 o76 rfl ?_
                          refine x_icmp_eq (tgt := 264) dX17_call_249 (by decide) (fun c249 => ?_) (fun c249 => ?_)
                          · replace h := h.1 c249
                            refine x_aload dX17_call_264 rfl ?_
                            refine x_iload dX17_call_266 rfl ?_
                            refine x_aload_n dX17_call_268 rfl ?_
                            refine x_aload dX17_call_269 rfl ?_
                            obtain ⟨o78, h⟩ := h
                            obtain ⟨R77, g77, h⟩ := h
                            refine x_callV hG (Ky := kX6_address) (As := [.ref b64]) dX17_call_271 o78 rfl lk_X17_100 me_X6_address is_X6_address se_X6_address rfl rfl (Nat.le_of_ble_eq_true rfl) (MX.post (m_X6_address hG hO g77) ?_)
                            rintro _ A77 ⟨v77, rfl, h1⟩
                            refine X.xok (fun w77 => ?_)
                            replace h := h v77 A77 w77 h1
                            change X _ _ _ _ A77 _ _ [.long v77, .int y12_6, .ref A9.n]
                            obtain ⟨o79, h⟩ := h
                            obtain ⟨o80, h⟩ := h
                            obtain ⟨o81, h⟩ := h
                            refine z_last hG dX17_call_274 o79 o80 o81 (fun A82 e82 => ?_)
                            replace h := h A82 e82
                            refine x_aload dX17_call_275 rfl ?_
                            refine x_iload dX17_call_277 rfl ?_
                            refine x_iconst_ (v := (1 : Int32)) dX17_call_279 (by decide) ?_
                            refine x_iadd dX17_call_280 ?_
                            refine x_aload_n dX17_call_281 rfl ?_
                            refine x_aload dX17_call_282 rfl ?_
                            obtain ⟨o84, h⟩ := h
                            obtain ⟨R83, g83, h⟩ := h
                            refine x_callV hG (Ky := kX6_length) (As := [.ref b64]) dX17_call_284 o84 rfl lk_X17_104 me_X6_length is_X6_length se_X6_length rfl rfl (Nat.le_of_ble_eq_true rfl) (MX.post (m_X6_length hG hO g83) ?_)
                            rintro _ A83 ⟨v83, rfl, h1⟩
                            refine X.xok (fun w83 => ?_)
                            replace h := h v83 A83 w83 h1
                            change X _ _ _ _ A83 _ _ [.long v83, .int (y12_6 + (1 : Int32)), .ref A9.n]
                            obtain ⟨o85, h⟩ := h
                            obtain ⟨o86, h⟩ := h
                            refine z_last hG dX17_call_287 o85 o80 o86 (fun A87 e87 => ?_)
                            replace h := h A87 e87
                            refine x_iinc (v := (y12_6 + (2 : Int32))) dX17_call_288 rfl rfl (by decide) ?_
                            refine x_iinc (v := (y12_7 + (1 : Int32))) dX17_call_291 rfl rfl (by decide) ?_
                            refine x_goto (tgt := 84) dX17_call_294 (by decide) ?_
                            obtain ⟨q12, l12, h⟩ := h
                            change X _ _ _ _ _ _ [some (.ref p), some (.ref b3), none, some (.ref b5), some (.ref b39), some (.ref A9.n), some (.int (y12_6 + (2 : Int32))), some (.int (y12_7 + (1 : Int32))), some (.ref b36), some (.ref b42), none, some (.ref b64)] []
                            exact X.weak (xle_c rfl (xle_c rfl (xle_n (xle_c rfl (xle_c (congrArg (fun z => some (va_rf z)) e39.symm) (xle_c rfl (xle_c rfl (xle_c rfl (xle_n (xle_n (xle_n (xle_n xle_nil)))))))))))) (ih12 q12 l12 (y12_6 + (2 : Int32)) (y12_7 + (1 : Int32)) A87 h)
                          · replace h := h.2 c249
                            refine x_aload_n dX17_call_252 rfl ?_
                            refine x_bipush_ (v := (7 : Int32)) dX17_call_253 (by decide) ?_
                            refine x_aload dX17_call_255 rfl ?_
                            obtain ⟨o88, h⟩ := h
                            refine z_getE hG dX17_call_257 fE_X17_39 o88 ?_
                            obtain ⟨o90, h⟩ := h
                            obtain ⟨R89, g89, h⟩ := h
                            refine x_callV hG (Ky := kX6_fault) (As := [.int (7 : Int32), .int (A69.I b36 0)]) dX17_call_260 o90 rfl lk_X17_31 me_X6_fault is_X6_fault se_X6_fault rfl rfl (Nat.le_of_ble_eq_true rfl) (MX.post (m_X6_fault hG hO g89) ?_)
                            rintro _ A89 ⟨v89, rfl, h1⟩
                            refine X.xok (fun w89 => ?_)
                            replace h := h v89 A89 w89 h1
                            change X _ _ _ _ A89 _ _ [va_rf v89]
                            obtain ⟨b91, e91, h⟩ := h
                            rw [e91]
                            exact x_athrow dX17_call_263 rfl (Or.inr ⟨_, rfl, h⟩)
                    refine x_ifnonnull (tgt := 210) dX17_call_203 (by decide) (fun b92 c203 => ?_) (fun c203 => ?_)
                    · replace h := h.2 b92 c203
                      rw [c203]
                      refine x_aload_n dX17_call_210 rfl ?_
                      refine x_aload dX17_call_211 rfl ?_
                      obtain ⟨o93, h⟩ := h
                      refine x_get (v := .int (A62.I b92 1)) hG dX17_call_213 f_X17_89_16 o93 rfl ?_
                      refine x_aload dX17_call_216 rfl ?_
                      refine x_get (v := .int (A62.I b92 2)) hG dX17_call_218 f_X17_92_16 o93 rfl ?_
                      obtain ⟨o95, h⟩ := h
                      obtain ⟨R94, g94, h⟩ := h
                      refine x_callV hG (Ky := kX6_known) (As := [.int (A62.I b92 1), .int (A62.I b92 2)]) dX17_call_221 o95 rfl lk_X17_25 me_X6_known is_X6_known se_X6_known rfl rfl (Nat.le_of_ble_eq_true rfl) (MX.post (m_X6_known hG hO g94) ?_)
                      rintro _ A94 (⟨v94, rfl, h1⟩ | ⟨x94, rfl, h1⟩)
                      rotate_left
                      · exact ⟨rfl, Or.inr ⟨_, rfl, h1⟩⟩
                      refine X.xok (fun w94 => ?_)
                      replace h := h v94 A94 w94 h1
                      change X _ _ _ _ A94 _ _ [va_rf v94]
                      change X _ _ _ _ _ _ [some (.ref p), some (.ref b3), none, some (.ref b5), some (.ref b39), some (.ref A9.n), some (.int y12_6), some (.int y12_7), some (.ref b36), some (.ref b42), some (.ref b92), none] [va_rf v94]
                      exact X.weak (xle_c rfl (xle_c rfl (xle_n (xle_c rfl (xle_c rfl (xle_c rfl (xle_c rfl (xle_c rfl (xle_c rfl (xle_c rfl (xle_n (xle_n xle_nil)))))))))))) (kj63 v94 A94 h)
                    · replace h := h.1 c203
                      refine x_null dX17_call_206 ?_
                      refine x_goto (tgt := 224) dX17_call_207 (by decide) ?_
                      change X _ _ _ _ _ _ [some (.ref p), some (.ref b3), none, some (.ref b5), some (.ref b39), some (.ref A9.n), some (.int y12_6), some (.int y12_7), some (.ref b36), some (.ref b42), some (va_rf v59), none] [.null]
                      exact X.weak (xle_c rfl (xle_c rfl (xle_n (xle_c rfl (xle_c rfl (xle_c rfl (xle_c rfl (xle_c rfl (xle_c rfl (xle_c rfl (xle_n (xle_n xle_nil)))))))))))) (kj63 (none : Option Nat) A62 h)
                  refine x_if_lt (tgt := 196) dX17_call_178 (by decide) (fun c178 => ?_) (fun c178 => ?_)
                  · replace h := h.1 c178
                    change X _ _ _ _ _ _ [some (.ref p), some (.ref b3), none, some (.ref b5), some (.ref b39), some (.ref A9.n), some (.int y12_6), some (.int y12_7), some (.ref b36), some (.ref b42), some (va_rf v59), none] []
                    exact X.weak (xle_c rfl (xle_c rfl (xle_n (xle_c rfl (xle_c rfl (xle_c rfl (xle_c rfl (xle_c rfl (xle_c rfl (xle_c rfl (xle_c rfl (xle_n xle_nil)))))))))))) (kj62 A61 h)
                  · replace h := h.2 c178
                    refine x_aload_n dX17_call_181 rfl ?_
                    refine x_aload dX17_call_182 rfl ?_
                    obtain ⟨o96, h⟩ := h
                    obtain ⟨R97, g97, h⟩ := h
                    refine z_disp (pc' := 184) (lv' := [some (.ref p), some (.ref b3), none, some (.ref b5), some (.ref b39), some (.ref A9.n), some (.int y12_6), some (.int y12_7), some (.ref b36), some (.ref b42), some (va_rf v59), none]) (st' := [.ref b3]) (P := hI R97) (kr := ?_) (kc := ?_)
                    rotate_left
                    · obtain ⟨c, tc, hc⟩ := o96
                      simp only [eCl, List.mem_cons, List.not_mem_nil, or_false] at hc
                      intro kr
                      rcases hc with rfl | rfl | rfl | rfl | rfl | rfl | rfl | rfl
                      · exact x_callU hG (Ky := kX15_leading) (As := []) dX17_call_184 tc rfl q2151 q2153 (Or.inr ⟨is_X15_leading, _, _, _, me_X15_leading.1⟩) xm_X15_leading me_X15_leading is_X15_leading q2174 rfl rfl (Nat.le_of_ble_eq_true rfl) (MX.post ((rc_L hG hO 800).1 tc g97) kr)
                      · exact x_callU hG (Ky := kX17_leading) (As := []) dX17_call_184 tc rfl q2151 q2153 (Or.inr ⟨is_X15_leading, _, _, _, me_X15_leading.1⟩) xm_X15_leading me_X17_leading is_X17_leading q2155 rfl rfl (Nat.le_of_ble_eq_true rfl) (MX.post ((rc_L hG hO 800).2.1 tc g97) kr)
                      · exact x_callU hG (Ky := kX18_leading) (As := []) dX17_call_184 tc rfl q2151 q2153 (Or.inr ⟨is_X15_leading, _, _, _, me_X15_leading.1⟩) xm_X15_leading me_X18_leading is_X18_leading q2173 rfl rfl (Nat.le_of_ble_eq_true rfl) (MX.post ((rc_L hG hO 800).2.2.1 tc g97) kr)
                      · exact x_callU hG (Ky := kX15_leading) (As := []) dX17_call_184 tc rfl q2151 q2153 (Or.inr ⟨is_X15_leading, _, _, _, me_X15_leading.1⟩) xm_X15_leading me_X15_leading is_X15_leading q2171 rfl rfl (Nat.le_of_ble_eq_true rfl) (MX.post ((rc_L hG hO 800).2.2.2.1 tc g97) kr)
                      · exact x_callU hG (Ky := kX15_leading) (As := []) dX17_call_184 tc rfl q2151 q2153 (Or.inr ⟨is_X15_leading, _, _, _, me_X15_leading.1⟩) xm_X15_leading me_X15_leading is_X15_leading q2154 rfl rfl (Nat.le_of_ble_eq_true rfl) (MX.post ((rc_L hG hO 800).2.2.2.2.1 tc g97) kr)
                      · exact x_callU hG (Ky := kX21_leading) (As := []) dX17_call_184 tc rfl q2151 q2153 (Or.inr ⟨is_X15_leading, _, _, _, me_X15_leading.1⟩) xm_X15_leading me_X21_leading is_X21_leading q2172 rfl rfl (Nat.le_of_ble_eq_true rfl) (MX.post ((rc_L hG hO 800).2.2.2.2.2.1 tc g97) kr)
                      · exact x_callU hG (Ky := kX22_leading) (As := []) dX17_call_184 tc rfl q2151 q2153 (Or.inr ⟨is_X15_leading, _, _, _, me_X15_leading.1⟩) xm_X15_leading me_X22_leading is_X22_leading q2158 rfl rfl (Nat.le_of_ble_eq_true rfl) (MX.post ((rc_L hG hO 800).2.2.2.2.2.2.1 tc g97) kr)
                      · exact x_callU hG (Ky := kX23_leading) (As := []) dX17_call_184 tc rfl q2151 q2153 (Or.inr ⟨is_X15_leading, _, _, _, me_X15_leading.1⟩) xm_X15_leading me_X23_leading is_X23_leading q2170 rfl rfl (Nat.le_of_ble_eq_true rfl) (MX.post ((rc_L hG hO 800).2.2.2.2.2.2.2 tc g97) kr)
                    rintro _ A97 ⟨v97, rfl, h1⟩
                    refine X.xok (fun w97 => ?_)
                    replace h := h v97 A97 w97 h1
                    change X _ _ _ _ A97 _ _ [.int v97, .ref b3]
                    refine x_aload dX17_call_187 rfl ?_
                    obtain ⟨o98, h⟩ := h
                    refine z_getE hG dX17_call_189 fE_X17_39 o98 ?_
                    obtain ⟨o100, h⟩ := h
                    obtain ⟨R99, g99, h⟩ := h
                    refine x_callV hG (Ky := kX6_known) (As := [.int v97, .int (A97.I b36 0)]) dX17_call_192 o100 rfl lk_X17_25 me_X6_known is_X6_known se_X6_known rfl rfl (Nat.le_of_ble_eq_true rfl) (MX.post (m_X6_known hG hO g99) ?_)
                    rintro _ A99 (⟨v99, rfl, h1⟩ | ⟨x99, rfl, h1⟩)
                    rotate_left
                    · exact ⟨rfl, Or.inr ⟨_, rfl, h1⟩⟩
                    refine X.xok (fun w99 => ?_)
                    replace h := h v99 A99 w99 h1
                    change X _ _ _ _ A99 _ _ [va_rf v99]
                    refine x_pop dX17_call_195 (va_rf_cat _) ?_
                    change X _ _ _ _ _ _ [some (.ref p), some (.ref b3), none, some (.ref b5), some (.ref b39), some (.ref A9.n), some (.int y12_6), some (.int y12_7), some (.ref b36), some (.ref b42), some (va_rf v59), none] []
                    exact X.weak (xle_c rfl (xle_c rfl (xle_n (xle_c rfl (xle_c rfl (xle_c rfl (xle_c rfl (xle_c rfl (xle_c rfl (xle_c rfl (xle_c rfl (xle_n xle_nil)))))))))))) (kj62 A99 h)
                · replace h := h.1 c146
                  refine x_aload dX17_call_149 rfl ?_
                  refine x_iload dX17_call_151 rfl ?_
                  refine x_aload dX17_call_153 rfl ?_
                  refine x_aload_n dX17_call_155 rfl ?_
                  obtain ⟨o101, h⟩ := h
                  obtain ⟨R102, g102, h⟩ := h
                  refine z_disp (pc' := 156) (lv' := [some (.ref p), some (.ref b3), none, some (.ref b5), some (.ref b39), some (.ref A9.n), some (.int y12_6), some (.int y12_7), some (.ref b36), some (.ref b42), none, none]) (st' := [.int y12_6, .ref A9.n]) (P := hX (hL R102) E) (kr := ?_) (kc := ?_)
                  rotate_left
                  · obtain ⟨c, tc, hc⟩ := o101
                    simp only [eCl, List.mem_cons, List.not_mem_nil, or_false] at hc
                    intro kr
                    rcases hc with rfl | rfl | rfl | rfl | rfl | rfl | rfl | rfl
                    · exact x_callU hG (Ky := kX16_value) (As := [.ref b3]) dX17_call_156 tc rfl q2038 q2014 (Or.inl q2013) xm_X15_value me_X16_value is_X16_value q2200 rfl rfl (Nat.le_of_ble_eq_true rfl) (MX.post (hK.2.2.2.2.1.1 tc g102) kr)
                    · exact x_callU hG (Ky := kX17_value) (As := [.ref b3]) dX17_call_156 tc rfl q2038 q2014 (Or.inl q2013) xm_X15_value me_X17_value is_X17_value q2194 rfl rfl (Nat.le_of_ble_eq_true rfl) (MX.post (hK.2.2.2.2.1.2.1 tc g102) kr)
                    · exact x_callU hG (Ky := kX18_value) (As := [.ref b3]) dX17_call_156 tc rfl q2038 q2014 (Or.inl q2013) xm_X15_value me_X18_value is_X18_value q2199 rfl rfl (Nat.le_of_ble_eq_true rfl) (MX.post (hK.2.2.2.2.1.2.2.1 tc g102) kr)
                    · exact x_callU hG (Ky := kX19_value) (As := [.ref b3]) dX17_call_156 tc rfl q2038 q2014 (Or.inl q2013) xm_X15_value me_X19_value is_X19_value q2197 rfl rfl (Nat.le_of_ble_eq_true rfl) (MX.post (hK.2.2.2.2.1.2.2.2.1 tc g102) kr)
                    · exact x_callU hG (Ky := kX20_value) (As := [.ref b3]) dX17_call_156 tc rfl q2038 q2014 (Or.inl q2013) xm_X15_value me_X20_value is_X20_value q2015 rfl rfl (Nat.le_of_ble_eq_true rfl) (MX.post (hK.2.2.2.2.1.2.2.2.2.1 tc g102) kr)
                    · exact x_callU hG (Ky := kX21_value) (As := [.ref b3]) dX17_call_156 tc rfl q2038 q2014 (Or.inl q2013) xm_X15_value me_X21_value is_X21_value q2198 rfl rfl (Nat.le_of_ble_eq_true rfl) (MX.post (hK.2.2.2.2.1.2.2.2.2.2.1 tc g102) kr)
                    · exact x_callU hG (Ky := kX22_value) (As := [.ref b3]) dX17_call_156 tc rfl q2038 q2014 (Or.inl q2013) xm_X15_value me_X22_value is_X22_value q2195 rfl rfl (Nat.le_of_ble_eq_true rfl) (MX.post (hK.2.2.2.2.1.2.2.2.2.2.2.1 tc g102) kr)
                    · exact x_callU hG (Ky := kX23_value) (As := [.ref b3]) dX17_call_156 tc rfl q2038 q2014 (Or.inl q2013) xm_X15_value me_X23_value is_X23_value q2196 rfl rfl (Nat.le_of_ble_eq_true rfl) (MX.post (hK.2.2.2.2.1.2.2.2.2.2.2.2 tc g102) kr)
                  rintro _ A102 (⟨v102, rfl, h1⟩ | ⟨x102, rfl, h1⟩)
                  rotate_left
                  · exact ⟨rfl, Or.inr ⟨_, rfl, h1⟩⟩
                  refine X.xok (fun w102 => ?_)
                  replace h := h v102 A102 w102 h1
                  change X _ _ _ _ A102 _ _ [.long v102, .int y12_6, .ref A9.n]
                  obtain ⟨o103, h⟩ := h
                  obtain ⟨o104, h⟩ := h
                  obtain ⟨o105, h⟩ := h
                  refine z_last hG dX17_call_159 o103 o104 o105 (fun A106 e106 => ?_)
                  replace h := h A106 e106
                  refine x_iinc (v := (y12_6 + (1 : Int32))) dX17_call_160 rfl rfl (by decide) ?_
                  refine x_goto (tgt := 291) dX17_call_163 (by decide) ?_
                  refine x_iinc (v := (y12_7 + (1 : Int32))) dX17_call_291 rfl rfl (by decide) ?_
                  refine x_goto (tgt := 84) dX17_call_294 (by decide) ?_
                  obtain ⟨q12, l12, h⟩ := h
                  change X _ _ _ _ _ _ [some (.ref p), some (.ref b3), none, some (.ref b5), some (.ref b39), some (.ref A9.n), some (.int (y12_6 + (1 : Int32))), some (.int (y12_7 + (1 : Int32))), some (.ref b36), some (.ref b42), none, none] []
                  exact X.weak (xle_c rfl (xle_c rfl (xle_n (xle_c rfl (xle_c (congrArg (fun z => some (va_rf z)) e39.symm) (xle_c rfl (xle_c rfl (xle_c rfl (xle_n (xle_n (xle_n (xle_n xle_nil)))))))))))) (ih12 q12 l12 (y12_6 + (1 : Int32)) (y12_7 + (1 : Int32)) A106 h)
            refine x_icmp_ge (tgt := 133) dX17_call_117 (by decide) (fun c117 => ?_) (fun c117 => ?_)
            · replace h := h.1 c117
              refine x_null dX17_call_133 ?_
              change X _ _ _ _ _ _ [some (.ref p), some (.ref b3), none, some (.ref b5), some (.ref b39), some (.ref A9.n), some (.int y12_6), some (.int y12_7), some (.ref b36), none, none, none] [.null]
              exact X.weak (xle_c rfl (xle_c rfl (xle_n (xle_c rfl (xle_c rfl (xle_c rfl (xle_c rfl (xle_c rfl (xle_c rfl (xle_n (xle_n (xle_n xle_nil)))))))))))) (kj41 (none : Option Nat) A38 h)
            · replace h := h.2 c117
              refine x_aload dX17_call_120 rfl ?_
              refine x_iload dX17_call_122 rfl ?_
              obtain ⟨o108, h⟩ := h
              obtain ⟨R107, g107, h⟩ := h
              refine x_callV hG (Ky := kJ5_get) (As := [.int y12_7]) dX17_call_124 o108 rfl lk_X17_69 me_J5_get is_J5_get se_J5_get rfl rfl (Nat.le_of_ble_eq_true rfl) (MX.post (m_w_J5_get hG hO g107) ?_)
              rintro _ A107 ⟨v107, rfl, h1⟩
              refine X.xok (fun w107 => ?_)
              replace h := h v107 A107 w107 h1
              change X _ _ _ _ A107 _ _ [va_rf v107]
              obtain ⟨b109, e109, h⟩ := h
              rw [e109]
              obtain ⟨o110, h⟩ := h
              refine x_cast hG dX17_call_127 q2037 o110 rfl (Or.inl rfl) ?_
              refine x_goto (tgt := 134) dX17_call_130 (by decide) ?_
              change X _ _ _ _ _ _ [some (.ref p), some (.ref b3), none, some (.ref b5), some (.ref b39), some (.ref A9.n), some (.int y12_6), some (.int y12_7), some (.ref b36), none, none, none] [.ref b109]
              exact X.weak (xle_c rfl (xle_c rfl (xle_n (xle_c rfl (xle_c rfl (xle_c rfl (xle_c rfl (xle_c rfl (xle_c rfl (xle_n (xle_n (xle_n xle_nil)))))))))))) (kj41 (some b109) A107 h)
      change X _ _ _ _ _ _ [some (.ref p), some (.ref b3), some (.int w), some (.ref b5), some (va_rf (A2.P b7 8)), some (.ref A9.n), some (.int (0 : Int32)), some (.int (0 : Int32)), none, none, none, none] []
      exact X.weak (xle_c rfl (xle_c rfl (xle_n (xle_c rfl (xle_c rfl (xle_c rfl (xle_c rfl (xle_c rfl (xle_n (xle_n (xle_n (xle_n xle_nil)))))))))))) (kl12 n12 (0 : Int32) (0 : Int32) A11 i12)
    · replace h := h.2 c34
      refine x_aload_n dX17_call_37 rfl ?_
      refine x_get (v := va_rf (A2.P b5 5)) hG dX17_call_38 f_X17_47_32 o6 rfl ?_
      obtain ⟨b111, e111, h⟩ := h
      rw [e111]
      obtain ⟨o112, h⟩ := h
      refine x_get (v := .int (A2.I b111 4)) hG dX17_call_41 f_X17_51_13 o112 rfl ?_
      refine x_if_eq (tgt := 58) dX17_call_44 (by decide) (fun c44 => ?_) (fun c44 => ?_)
      · replace h := h.1 c44
        refine x_aload_n dX17_call_58 rfl ?_
        refine x_get (v := .ref b111) hG dX17_call_59 f_X17_47_32 o6 (congrArg va_rf e111) ?_
        refine x_get (v := va_rf (A2.P b111 8)) hG dX17_call_62 f_X17_57_13 o112 rfl ?_
        refine x_astoreq dX17_call_65 (by decide) ?_
        refine x_aload_n dX17_call_67 rfl ?_
        refine x_get (v := .ref b111) hG dX17_call_68 f_X17_47_32 o6 (congrArg va_rf e111) ?_
        obtain ⟨R113, g113, h⟩ := h
        refine x_callV hG (Ky := kX14_words) (As := []) dX17_call_71 o112 rfl lk_X17_60 me_X14_words is_X14_words se_X14_words rfl rfl (Nat.le_of_ble_eq_true rfl) (MX.post (m_X14_words hG hO g113) ?_)
        rintro _ A113 ⟨v113, rfl, h1⟩
        refine X.xok (fun w113 => ?_)
        replace h := h v113 A113 w113 h1
        change X _ _ _ _ A113 _ _ [.int v113]
        obtain ⟨o114, h⟩ := h
        refine z_newa hG (j := 1) dX17_call_74 (by decide) rfl o114 q599 (fun A115 e115 w115 => ?_)
        replace h := h A115 e115
        refine x_astore dX17_call_76 (by decide) ?_
        refine X.lvs (lv' := [some (.ref p), some (.ref b3), some (.int w), some (.ref b5), some (va_rf (A2.P b111 8)), some (.ref A113.n), none, none, none, none, none, none]) (by generalize (A2.P b111 8) = z; cases z <;> rfl) ?_
        refine x_iconst_ (v := (0 : Int32)) dX17_call_78 (by decide) ?_
        refine x_istore dX17_call_79 (by decide) ?_
        refine x_iconst_ (v := (0 : Int32)) dX17_call_81 (by decide) ?_
        refine x_istore dX17_call_82 (by decide) ?_
        obtain ⟨L116, ⟨n116, i116⟩, g116⟩ := h
        have kl116 : ∀ n116 : Nat, ∀ (y116_6 : Int32) (y116_7 : Int32) (A116 : xA), L116 n116 y116_6 y116_7 A116 → X G (dp + 811) kX17_call (hX (hL Q) E) A116 84 [some (.ref p), some (.ref b3), none, some (.ref b5), some (va_rf (A2.P b111 8)), some (.ref A113.n), some (.int y116_6), some (.int y116_7), none, none, none, none] [] := by
          intro n116
          induction n116 using Nat.strongRecOn with
          | ind n116 ih116 =>
            intro y116_6 y116_7 A116 h
            replace h := g116 n116 y116_6 y116_7 A116 h
            refine x_iload dX17_call_84 rfl ?_
            refine x_aload_n dX17_call_86 rfl ?_
            obtain ⟨o117, h⟩ := h
            refine x_get (v := va_rf (A116.P p 4)) hG dX17_call_87 f_X17_18_15 o117 rfl ?_
            obtain ⟨b119, e119, h⟩ := h
            rw [e119]
            obtain ⟨o120, h⟩ := h
            obtain ⟨R118, g118, h⟩ := h
            refine x_callV hG (Ky := kJ5_size) (As := []) dX17_call_90 o120 rfl lk_X17_64 me_J5_size is_J5_size se_J5_size rfl rfl (Nat.le_of_ble_eq_true rfl) (MX.post (m_w_J5_size hG hO g118) ?_)
            rintro _ A118 ⟨v118, rfl, h1⟩
            refine X.xok (fun w118 => ?_)
            replace h := h v118 A118 w118 h1
            change X _ _ _ _ A118 _ _ [.int v118, .int y116_7]
            refine x_icmp_ge (tgt := 297) dX17_call_93 (by decide) (fun c93 => ?_) (fun c93 => ?_)
            · replace h := h.1 c93
              refine x_aload_n dX17_call_297 rfl ?_
              obtain ⟨o121, h⟩ := h
              refine x_get (v := va_rf (A118.P p 4)) hG dX17_call_298 f_X17_18_15 o121 rfl ?_
              obtain ⟨b123, e123, h⟩ := h
              rw [e123]
              obtain ⟨o124, h⟩ := h
              obtain ⟨R122, g122, h⟩ := h
              refine x_callV hG (Ky := kJ5_size) (As := []) dX17_call_301 o124 rfl lk_X17_64 me_J5_size is_J5_size se_J5_size rfl rfl (Nat.le_of_ble_eq_true rfl) (MX.post (m_w_J5_size hG hO g122) ?_)
              rintro _ A122 ⟨v122, rfl, h1⟩
              refine X.xok (fun w122 => ?_)
              replace h := h v122 A122 w122 h1
              change X _ _ _ _ A122 _ _ [.int v122]
              refine x_aloadq dX17_call_304 rfl ?_
              obtain ⟨b126, e126, h⟩ := h
              rw [e126]
              obtain ⟨o127, h⟩ := h
              obtain ⟨R125, g125, h⟩ := h
              refine x_callV hG (Ky := kJ5_size) (As := []) dX17_call_306 o127 rfl lk_X17_64 me_J5_size is_J5_size se_J5_size rfl rfl (Nat.le_of_ble_eq_true rfl) (MX.post (m_w_J5_size hG hO g125) ?_)
              rintro _ A125 ⟨v125, rfl, h1⟩
              refine X.xok (fun w125 => ?_)
              replace h := h v125 A125 w125 h1
              change X _ _ _ _ A125 _ _ [.int v125, .int v122]
              refine x_icmp_ge (tgt := 323) dX17_call_309 (by decide) (fun c309 => ?_) (fun c309 => ?_)
              · replace h := h.1 c309
                refine x_aload_n dX17_call_323 rfl ?_
                refine x_aload_n dX17_call_324 rfl ?_
                obtain ⟨o128, h⟩ := h
                refine x_get (v := va_rf (A125.P b5 5)) hG dX17_call_325 f_X17_47_32 o128 rfl ?_
                refine x_aload dX17_call_328 rfl ?_
                refine x_aload_n dX17_call_330 rfl ?_
                obtain ⟨o129, h⟩ := h
                refine x_get (v := .int (A125.I p 2)) hG dX17_call_331 f_X17_9_15 o129 rfl ?_
                obtain ⟨o131, h⟩ := h
                obtain ⟨R130, g130, h⟩ := h
                refine x_callV hG (Ky := kX6_call) (As := [va_rf (A125.P b5 5), .ref A113.n, .int (A125.I p 2)]) dX17_call_334 o131 rfl lk_X17_107 me_X6_call is_X6_call se_X6_call rfl rfl (Nat.le_of_ble_eq_true rfl) (MX.post (m_X6_call hG hO g130) ?_)
                rintro _ A130 ⟨v130, rfl, h1⟩
                refine X.xok (fun w130 => ?_)
                replace h := h v130 A130 w130 h1
                change X _ _ _ _ A130 _ _ [.long v130]
                exact x_lret dX17_call_337 rfl (Or.inl ⟨_, rfl, h⟩)
              · replace h := h.2 c309
                refine x_aload_n dX17_call_312 rfl ?_
                refine x_bipush_ (v := (7 : Int32)) dX17_call_313 (by decide) ?_
                refine x_aload_n dX17_call_315 rfl ?_
                obtain ⟨o132, h⟩ := h
                refine x_get (v := .int (A125.I p 3)) hG dX17_call_316 f_X17_22_15 o132 rfl ?_
                obtain ⟨o134, h⟩ := h
                obtain ⟨R133, g133, h⟩ := h
                refine x_callV hG (Ky := kX6_fault) (As := [.int (7 : Int32), .int (A125.I p 3)]) dX17_call_319 o134 rfl lk_X17_31 me_X6_fault is_X6_fault se_X6_fault rfl rfl (Nat.le_of_ble_eq_true rfl) (MX.post (m_X6_fault hG hO g133) ?_)
                rintro _ A133 ⟨v133, rfl, h1⟩
                refine X.xok (fun w133 => ?_)
                replace h := h v133 A133 w133 h1
                change X _ _ _ _ A133 _ _ [va_rf v133]
                obtain ⟨b135, e135, h⟩ := h
                rw [e135]
                exact x_athrow dX17_call_322 rfl (Or.inr ⟨_, rfl, h⟩)
            · replace h := h.2 c93
              refine x_aload_n dX17_call_96 rfl ?_
              obtain ⟨o136, h⟩ := h
              refine x_get (v := va_rf (A118.P p 4)) hG dX17_call_97 f_X17_18_15 o136 rfl ?_
              refine x_iload dX17_call_100 rfl ?_
              obtain ⟨b138, e138, h⟩ := h
              rw [e138]
              obtain ⟨o139, h⟩ := h
              obtain ⟨R137, g137, h⟩ := h
              refine x_callV hG (Ky := kJ5_get) (As := [.int y116_7]) dX17_call_102 o139 rfl lk_X17_69 me_J5_get is_J5_get se_J5_get rfl rfl (Nat.le_of_ble_eq_true rfl) (MX.post (m_w_J5_get hG hO g137) ?_)
              rintro _ A137 ⟨v137, rfl, h1⟩
              refine X.xok (fun w137 => ?_)
              replace h := h v137 A137 w137 h1
              change X _ _ _ _ A137 _ _ [va_rf v137]
              obtain ⟨b140, e140, h⟩ := h
              rw [e140]
              obtain ⟨o141, h⟩ := h
              refine z_castE hG dX17_call_105 q2036 o141 ?_
              refine x_astore dX17_call_108 (by decide) ?_
              refine x_iload dX17_call_110 rfl ?_
              refine x_aloadq dX17_call_112 rfl ?_
              obtain ⟨b143, e143, h⟩ := h
              rw [e143]
              obtain ⟨o144, h⟩ := h
              obtain ⟨R142, g142, h⟩ := h
              refine x_callV hG (Ky := kJ5_size) (As := []) dX17_call_114 o144 rfl lk_X17_64 me_J5_size is_J5_size se_J5_size rfl rfl (Nat.le_of_ble_eq_true rfl) (MX.post (m_w_J5_size hG hO g142) ?_)
              rintro _ A142 ⟨v142, rfl, h1⟩
              refine X.xok (fun w142 => ?_)
              replace h := h v142 A142 w142 h1
              change X _ _ _ _ A142 _ _ [.int v142, .int y116_7]
              obtain ⟨J145, g145, h⟩ := h
              have kj145 : ∀ (y145_s0 : Option Nat) (A145 : xA), J145 y145_s0 A145 → X G (dp + 811) kX17_call (hX (hL Q) E) A145 134 [some (.ref p), some (.ref b3), none, some (.ref b5), some (.ref b143), some (.ref A113.n), some (.int y116_6), some (.int y116_7), some (.ref b140), none, none, none] [va_rf y145_s0] := by
                intro y145_s0 A145 h
                replace h := g145 y145_s0 A145 h
                refine x_astoreq dX17_call_134 (by decide) ?_
                refine x_aloadq dX17_call_136 rfl ?_
                refine x_ifnull (tgt := 166) dX17_call_138 (by decide) (fun c138 => ?_) (fun b146 c138 => ?_)
                · replace h := h.1 c138
                  refine x_aload dX17_call_166 rfl ?_
                  obtain ⟨o147, h⟩ := h
                  obtain ⟨R148, g148, h⟩ := h
                  refine z_disp (pc' := 168) (lv' := [some (.ref p), some (.ref b3), none, some (.ref b5), some (.ref b143), some (.ref A113.n), some (.int y116_6), some (.int y116_7), some (.ref b140), some (va_rf y145_s0), none, none]) (st' := []) (P := hR R148) (kr := ?_) (kc := ?_)
                  rotate_left
                  · obtain ⟨c, tc, hc⟩ := o147
                    simp only [eCl, List.mem_cons, List.not_mem_nil, or_false] at hc
                    intro kr
                    rcases hc with rfl | rfl | rfl | rfl | rfl | rfl | rfl | rfl
                    · exact x_callU hG (Ky := kX15_alone) (As := []) dX17_call_168 tc rfl q2137 q2139 (Or.inr ⟨is_X15_alone, _, _, _, me_X15_alone.1⟩) xm_X15_alone me_X15_alone is_X15_alone q2149 rfl rfl (Nat.le_of_ble_eq_true rfl) (MX.post ((rc_O hG hO 3).1 tc g148) kr)
                    · exact x_callU hG (Ky := kX15_alone) (As := []) dX17_call_168 tc rfl q2137 q2139 (Or.inr ⟨is_X15_alone, _, _, _, me_X15_alone.1⟩) xm_X15_alone me_X15_alone is_X15_alone q2141 rfl rfl (Nat.le_of_ble_eq_true rfl) (MX.post ((rc_O hG hO 3).2.1 tc g148) kr)
                    · exact x_callU hG (Ky := kX18_alone) (As := []) dX17_call_168 tc rfl q2137 q2139 (Or.inr ⟨is_X15_alone, _, _, _, me_X15_alone.1⟩) xm_X15_alone me_X18_alone is_X18_alone q2146 rfl rfl (Nat.le_of_ble_eq_true rfl) (MX.post ((rc_O hG hO 3).2.2.1 tc g148) kr)
                    · exact x_callU hG (Ky := kX15_alone) (As := []) dX17_call_168 tc rfl q2137 q2139 (Or.inr ⟨is_X15_alone, _, _, _, me_X15_alone.1⟩) xm_X15_alone me_X15_alone is_X15_alone q2144 rfl rfl (Nat.le_of_ble_eq_true rfl) (MX.post ((rc_O hG hO 3).2.2.2.1 tc g148) kr)
                    · exact x_callU hG (Ky := kX15_alone) (As := []) dX17_call_168 tc rfl q2137 q2139 (Or.inr ⟨is_X15_alone, _, _, _, me_X15_alone.1⟩) xm_X15_alone me_X15_alone is_X15_alone q2140 rfl rfl (Nat.le_of_ble_eq_true rfl) (MX.post ((rc_O hG hO 3).2.2.2.2.1 tc g148) kr)
                    · exact x_callU hG (Ky := kX15_alone) (As := []) dX17_call_168 tc rfl q2137 q2139 (Or.inr ⟨is_X15_alone, _, _, _, me_X15_alone.1⟩) xm_X15_alone me_X15_alone is_X15_alone q2145 rfl rfl (Nat.le_of_ble_eq_true rfl) (MX.post ((rc_O hG hO 3).2.2.2.2.2.1 tc g148) kr)
                    · exact x_callU hG (Ky := kX15_alone) (As := []) dX17_call_168 tc rfl q2137 q2139 (Or.inr ⟨is_X15_alone, _, _, _, me_X15_alone.1⟩) xm_X15_alone me_X15_alone is_X15_alone q2142 rfl rfl (Nat.le_of_ble_eq_true rfl) (MX.post ((rc_O hG hO 3).2.2.2.2.2.2.1 tc g148) kr)
                    · exact x_callU hG (Ky := kX15_alone) (As := []) dX17_call_168 tc rfl q2137 q2139 (Or.inr ⟨is_X15_alone, _, _, _, me_X15_alone.1⟩) xm_X15_alone me_X15_alone is_X15_alone q2143 rfl rfl (Nat.le_of_ble_eq_true rfl) (MX.post ((rc_O hG hO 3).2.2.2.2.2.2.2 tc g148) kr)
                  rintro _ A148 ⟨v148, rfl, h1⟩
                  refine X.xok (fun w148 => ?_)
                  replace h := h v148 A148 w148 h1
                  change X _ _ _ _ A148 _ _ [va_rf v148]
                  refine x_astoreq dX17_call_171 (by decide) ?_
                  refine X.lvs (lv' := [some (.ref p), some (.ref b3), none, some (.ref b5), some (.ref b143), some (.ref A113.n), some (.int y116_6), some (.int y116_7), some (.ref b140), some (va_rf y145_s0), some (va_rf v148), none]) (by generalize y145_s0 = z; cases z <;> rfl) ?_
                  refine x_aload dX17_call_173 rfl ?_
                  obtain ⟨o149, h⟩ := h
                  obtain ⟨R150, g150, h⟩ := h
                  refine z_disp (pc' := 175) (lv' := [some (.ref p), some (.ref b3), none, some (.ref b5), some (.ref b143), some (.ref A113.n), some (.int y116_6), some (.int y116_7), some (.ref b140), some (va_rf y145_s0), some (va_rf v148), none]) (st' := []) (P := hI R150) (kr := ?_) (kc := ?_)
                  rotate_left
                  · obtain ⟨c, tc, hc⟩ := o149
                    simp only [eCl, List.mem_cons, List.not_mem_nil, or_false] at hc
                    intro kr
                    rcases hc with rfl | rfl | rfl | rfl | rfl | rfl | rfl | rfl
                    · exact x_callU hG (Ky := kX15_leading) (As := []) dX17_call_175 tc rfl q2151 q2153 (Or.inr ⟨is_X15_leading, _, _, _, me_X15_leading.1⟩) xm_X15_leading me_X15_leading is_X15_leading q2174 rfl rfl (Nat.le_of_ble_eq_true rfl) (MX.post ((rc_L hG hO 800).1 tc g150) kr)
                    · exact x_callU hG (Ky := kX17_leading) (As := []) dX17_call_175 tc rfl q2151 q2153 (Or.inr ⟨is_X15_leading, _, _, _, me_X15_leading.1⟩) xm_X15_leading me_X17_leading is_X17_leading q2155 rfl rfl (Nat.le_of_ble_eq_true rfl) (MX.post ((rc_L hG hO 800).2.1 tc g150) kr)
                    · exact x_callU hG (Ky := kX18_leading) (As := []) dX17_call_175 tc rfl q2151 q2153 (Or.inr ⟨is_X15_leading, _, _, _, me_X15_leading.1⟩) xm_X15_leading me_X18_leading is_X18_leading q2173 rfl rfl (Nat.le_of_ble_eq_true rfl) (MX.post ((rc_L hG hO 800).2.2.1 tc g150) kr)
                    · exact x_callU hG (Ky := kX15_leading) (As := []) dX17_call_175 tc rfl q2151 q2153 (Or.inr ⟨is_X15_leading, _, _, _, me_X15_leading.1⟩) xm_X15_leading me_X15_leading is_X15_leading q2171 rfl rfl (Nat.le_of_ble_eq_true rfl) (MX.post ((rc_L hG hO 800).2.2.2.1 tc g150) kr)
                    · exact x_callU hG (Ky := kX15_leading) (As := []) dX17_call_175 tc rfl q2151 q2153 (Or.inr ⟨is_X15_leading, _, _, _, me_X15_leading.1⟩) xm_X15_leading me_X15_leading is_X15_leading q2154 rfl rfl (Nat.le_of_ble_eq_true rfl) (MX.post ((rc_L hG hO 800).2.2.2.2.1 tc g150) kr)
                    · exact x_callU hG (Ky := kX21_leading) (As := []) dX17_call_175 tc rfl q2151 q2153 (Or.inr ⟨is_X15_leading, _, _, _, me_X15_leading.1⟩) xm_X15_leading me_X21_leading is_X21_leading q2172 rfl rfl (Nat.le_of_ble_eq_true rfl) (MX.post ((rc_L hG hO 800).2.2.2.2.2.1 tc g150) kr)
                    · exact x_callU hG (Ky := kX22_leading) (As := []) dX17_call_175 tc rfl q2151 q2153 (Or.inr ⟨is_X15_leading, _, _, _, me_X15_leading.1⟩) xm_X15_leading me_X22_leading is_X22_leading q2158 rfl rfl (Nat.le_of_ble_eq_true rfl) (MX.post ((rc_L hG hO 800).2.2.2.2.2.2.1 tc g150) kr)
                    · exact x_callU hG (Ky := kX23_leading) (As := []) dX17_call_175 tc rfl q2151 q2153 (Or.inr ⟨is_X15_leading, _, _, _, me_X15_leading.1⟩) xm_X15_leading me_X23_leading is_X23_leading q2170 rfl rfl (Nat.le_of_ble_eq_true rfl) (MX.post ((rc_L hG hO 800).2.2.2.2.2.2.2 tc g150) kr)
                  rintro _ A150 ⟨v150, rfl, h1⟩
                  refine X.xok (fun w150 => ?_)
                  replace h := h v150 A150 w150 h1
                  change X _ _ _ _ A150 _ _ [.int v150]
                  obtain ⟨J151, g151, h⟩ := h
                  have kj151 : ∀ (A151 : xA), J151 A151 → X G (dp + 811) kX17_call (hX (hL Q) E) A151 196 [some (.ref p), some (.ref b3), none, some (.ref b5), some (.ref b143), some (.ref A113.n), some (.int y116_6), some (.int y116_7), some (.ref b140), some (va_rf y145_s0), some (va_rf v148), none] [] := by
                    intro A151 h
                    replace h := g151 A151 h
                    refine x_aloadq dX17_call_196 rfl ?_
                    refine x_ifnull (tgt := 206) dX17_call_198 (by decide) (fun _ => ?_) (fun _ h => nomatch (h.symm.trans c138))
                    refine x_null dX17_call_206 ?_
                    refine x_goto (tgt := 224) dX17_call_207 (by decide) ?_
                    refine x_astoreN dX17_call_224 (by decide) ?_
                    refine X.lvs (lv' := [some (.ref p), some (.ref b3), none, some (.ref b5), some (.ref b143), some (.ref A113.n), some (.int y116_6), some (.int y116_7), some (.ref b140), some (va_rf y145_s0), some (va_rf v148), some (.null)]) (by generalize v148 = z; cases z <;> rfl) ?_
                    refine x_aloadN dX17_call_226 rfl ?_
                    refine x_ifnull (r := (none : Option Nat)) (tgt := 252) dX17_call_228 (by decide) (fun _ => ?_) (fun _ h => nomatch h)
                    refine x_aload_n dX17_call_252 rfl ?_
                    refine x_bipush_ (v := (7 : Int32)) dX17_call_253 (by decide) ?_
                    refine x_aload dX17_call_255 rfl ?_
                    obtain ⟨o152, h⟩ := h
                    refine z_getE hG dX17_call_257 fE_X17_39 o152 ?_
                    obtain ⟨o154, h⟩ := h
                    obtain ⟨R153, g153, h⟩ := h
                    refine x_callV hG (Ky := kX6_fault) (As := [.int (7 : Int32), .int (A151.I b140 0)]) dX17_call_260 o154 rfl lk_X17_31 me_X6_fault is_X6_fault se_X6_fault rfl rfl (Nat.le_of_ble_eq_true rfl) (MX.post (m_X6_fault hG hO g153) ?_)
                    rintro _ A153 ⟨v153, rfl, h1⟩
                    refine X.xok (fun w153 => ?_)
                    replace h := h v153 A153 w153 h1
                    change X _ _ _ _ A153 _ _ [va_rf v153]
                    obtain ⟨b155, e155, h⟩ := h
                    rw [e155]
                    exact x_athrow dX17_call_263 rfl (Or.inr ⟨_, rfl, h⟩)
                  refine x_if_lt (tgt := 196) dX17_call_178 (by decide) (fun c178 => ?_) (fun c178 => ?_)
                  · replace h := h.1 c178
                    change X _ _ _ _ _ _ [some (.ref p), some (.ref b3), none, some (.ref b5), some (.ref b143), some (.ref A113.n), some (.int y116_6), some (.int y116_7), some (.ref b140), some (va_rf y145_s0), some (va_rf v148), none] []
                    exact X.weak (xle_c rfl (xle_c rfl (xle_n (xle_c rfl (xle_c rfl (xle_c rfl (xle_c rfl (xle_c rfl (xle_c rfl (xle_c rfl (xle_c rfl (xle_n xle_nil)))))))))))) (kj151 A150 h)
                  · replace h := h.2 c178
                    refine x_aload_n dX17_call_181 rfl ?_
                    refine x_aload dX17_call_182 rfl ?_
                    obtain ⟨o156, h⟩ := h
                    obtain ⟨R157, g157, h⟩ := h
                    refine z_disp (pc' := 184) (lv' := [some (.ref p), some (.ref b3), none, some (.ref b5), some (.ref b143), some (.ref A113.n), some (.int y116_6), some (.int y116_7), some (.ref b140), some (va_rf y145_s0), some (va_rf v148), none]) (st' := [.ref b3]) (P := hI R157) (kr := ?_) (kc := ?_)
                    rotate_left
                    · obtain ⟨c, tc, hc⟩ := o156
                      simp only [eCl, List.mem_cons, List.not_mem_nil, or_false] at hc
                      intro kr
                      rcases hc with rfl | rfl | rfl | rfl | rfl | rfl | rfl | rfl
                      · exact x_callU hG (Ky := kX15_leading) (As := []) dX17_call_184 tc rfl q2151 q2153 (Or.inr ⟨is_X15_leading, _, _, _, me_X15_leading.1⟩) xm_X15_leading me_X15_leading is_X15_leading q2174 rfl rfl (Nat.le_of_ble_eq_true rfl) (MX.post ((rc_L hG hO 800).1 tc g157) kr)
                      · exact x_callU hG (Ky := kX17_leading) (As := []) dX17_call_184 tc rfl q2151 q2153 (Or.inr ⟨is_X15_leading, _, _, _, me_X15_leading.1⟩) xm_X15_leading me_X17_leading is_X17_leading q2155 rfl rfl (Nat.le_of_ble_eq_true rfl) (MX.post ((rc_L hG hO 800).2.1 tc g157) kr)
                      · exact x_callU hG (Ky := kX18_leading) (As := []) dX17_call_184 tc rfl q2151 q2153 (Or.inr ⟨is_X15_leading, _, _, _, me_X15_leading.1⟩) xm_X15_leading me_X18_leading is_X18_leading q2173 rfl rfl (Nat.le_of_ble_eq_true rfl) (MX.post ((rc_L hG hO 800).2.2.1 tc g157) kr)
                      · exact x_callU hG (Ky := kX15_leading) (As := []) dX17_call_184 tc rfl q2151 q2153 (Or.inr ⟨is_X15_leading, _, _, _, me_X15_leading.1⟩) xm_X15_leading me_X15_leading is_X15_leading q2171 rfl rfl (Nat.le_of_ble_eq_true rfl) (MX.post ((rc_L hG hO 800).2.2.2.1 tc g157) kr)
                      · exact x_callU hG (Ky := kX15_leading) (As := []) dX17_call_184 tc rfl q2151 q2153 (Or.inr ⟨is_X15_leading, _, _, _, me_X15_leading.1⟩) xm_X15_leading me_X15_leading is_X15_leading q2154 rfl rfl (Nat.le_of_ble_eq_true rfl) (MX.post ((rc_L hG hO 800).2.2.2.2.1 tc g157) kr)
                      · exact x_callU hG (Ky := kX21_leading) (As := []) dX17_call_184 tc rfl q2151 q2153 (Or.inr ⟨is_X15_leading, _, _, _, me_X15_leading.1⟩) xm_X15_leading me_X21_leading is_X21_leading q2172 rfl rfl (Nat.le_of_ble_eq_true rfl) (MX.post ((rc_L hG hO 800).2.2.2.2.2.1 tc g157) kr)
                      · exact x_callU hG (Ky := kX22_leading) (As := []) dX17_call_184 tc rfl q2151 q2153 (Or.inr ⟨is_X15_leading, _, _, _, me_X15_leading.1⟩) xm_X15_leading me_X22_leading is_X22_leading q2158 rfl rfl (Nat.le_of_ble_eq_true rfl) (MX.post ((rc_L hG hO 800).2.2.2.2.2.2.1 tc g157) kr)
                      · exact x_callU hG (Ky := kX23_leading) (As := []) dX17_call_184 tc rfl q2151 q2153 (Or.inr ⟨is_X15_leading, _, _, _, me_X15_leading.1⟩) xm_X15_leading me_X23_leading is_X23_leading q2170 rfl rfl (Nat.le_of_ble_eq_true rfl) (MX.post ((rc_L hG hO 800).2.2.2.2.2.2.2 tc g157) kr)
                    rintro _ A157 ⟨v157, rfl, h1⟩
                    refine X.xok (fun w157 => ?_)
                    replace h := h v157 A157 w157 h1
                    change X _ _ _ _ A157 _ _ [.int v157, .ref b3]
                    refine x_aload dX17_call_187 rfl ?_
                    obtain ⟨o158, h⟩ := h
                    refine z_getE hG dX17_call_189 fE_X17_39 o158 ?_
                    obtain ⟨o160, h⟩ := h
                    obtain ⟨R159, g159, h⟩ := h
                    refine x_callV hG (Ky := kX6_known) (As := [.int v157, .int (A157.I b140 0)]) dX17_call_192 o160 rfl lk_X17_25 me_X6_known is_X6_known se_X6_known rfl rfl (Nat.le_of_ble_eq_true rfl) (MX.post (m_X6_known hG hO g159) ?_)
                    rintro _ A159 (⟨v159, rfl, h1⟩ | ⟨x159, rfl, h1⟩)
                    rotate_left
                    · exact ⟨rfl, Or.inr ⟨_, rfl, h1⟩⟩
                    refine X.xok (fun w159 => ?_)
                    replace h := h v159 A159 w159 h1
                    change X _ _ _ _ A159 _ _ [va_rf v159]
                    refine x_pop dX17_call_195 (va_rf_cat _) ?_
                    change X _ _ _ _ _ _ [some (.ref p), some (.ref b3), none, some (.ref b5), some (.ref b143), some (.ref A113.n), some (.int y116_6), some (.int y116_7), some (.ref b140), some (va_rf y145_s0), some (va_rf v148), none] []
                    exact X.weak (xle_c rfl (xle_c rfl (xle_n (xle_c rfl (xle_c rfl (xle_c rfl (xle_c rfl (xle_c rfl (xle_c rfl (xle_c rfl (xle_c rfl (xle_n xle_nil)))))))))))) (kj151 A159 h)
                · replace h := h.2 b146 c138
                  rw [c138]
                  refine x_aload dX17_call_141 rfl ?_
                  obtain ⟨o161, h⟩ := h
                  refine x_get (v := .int (A145.I b146 3)) hG dX17_call_143 f_X17_75_22 o161 rfl ?_
                  refine x_if_ne (tgt := 166) dX17_call_146 (by decide) (fun c146 => ?_) (fun c146 => ?_)
                  · replace h := h.2 c146
                    refine x_aload dX17_call_166 rfl ?_
                    obtain ⟨o162, h⟩ := h
                    obtain ⟨R163, g163, h⟩ := h
                    refine z_disp (pc' := 168) (lv' := [some (.ref p), some (.ref b3), none, some (.ref b5), some (.ref b143), some (.ref A113.n), some (.int y116_6), some (.int y116_7), some (.ref b140), some (.ref b146), none, none]) (st' := []) (P := hR R163) (kr := ?_) (kc := ?_)
                    rotate_left
                    · obtain ⟨c, tc, hc⟩ := o162
                      simp only [eCl, List.mem_cons, List.not_mem_nil, or_false] at hc
                      intro kr
                      rcases hc with rfl | rfl | rfl | rfl | rfl | rfl | rfl | rfl
                      · exact x_callU hG (Ky := kX15_alone) (As := []) dX17_call_168 tc rfl q2137 q2139 (Or.inr ⟨is_X15_alone, _, _, _, me_X15_alone.1⟩) xm_X15_alone me_X15_alone is_X15_alone q2149 rfl rfl (Nat.le_of_ble_eq_true rfl) (MX.post ((rc_O hG hO 3).1 tc g163) kr)
                      · exact x_callU hG (Ky := kX15_alone) (As := []) dX17_call_168 tc rfl q2137 q2139 (Or.inr ⟨is_X15_alone, _, _, _, me_X15_alone.1⟩) xm_X15_alone me_X15_alone is_X15_alone q2141 rfl rfl (Nat.le_of_ble_eq_true rfl) (MX.post ((rc_O hG hO 3).2.1 tc g163) kr)
                      · exact x_callU hG (Ky := kX18_alone) (As := []) dX17_call_168 tc rfl q2137 q2139 (Or.inr ⟨is_X15_alone, _, _, _, me_X15_alone.1⟩) xm_X15_alone me_X18_alone is_X18_alone q2146 rfl rfl (Nat.le_of_ble_eq_true rfl) (MX.post ((rc_O hG hO 3).2.2.1 tc g163) kr)
                      · exact x_callU hG (Ky := kX15_alone) (As := []) dX17_call_168 tc rfl q2137 q2139 (Or.inr ⟨is_X15_alone, _, _, _, me_X15_alone.1⟩) xm_X15_alone me_X15_alone is_X15_alone q2144 rfl rfl (Nat.le_of_ble_eq_true rfl) (MX.post ((rc_O hG hO 3).2.2.2.1 tc g163) kr)
                      · exact x_callU hG (Ky := kX15_alone) (As := []) dX17_call_168 tc rfl q2137 q2139 (Or.inr ⟨is_X15_alone, _, _, _, me_X15_alone.1⟩) xm_X15_alone me_X15_alone is_X15_alone q2140 rfl rfl (Nat.le_of_ble_eq_true rfl) (MX.post ((rc_O hG hO 3).2.2.2.2.1 tc g163) kr)
                      · exact x_callU hG (Ky := kX15_alone) (As := []) dX17_call_168 tc rfl q2137 q2139 (Or.inr ⟨is_X15_alone, _, _, _, me_X15_alone.1⟩) xm_X15_alone me_X15_alone is_X15_alone q2145 rfl rfl (Nat.le_of_ble_eq_true rfl) (MX.post ((rc_O hG hO 3).2.2.2.2.2.1 tc g163) kr)
                      · exact x_callU hG (Ky := kX15_alone) (As := []) dX17_call_168 tc rfl q2137 q2139 (Or.inr ⟨is_X15_alone, _, _, _, me_X15_alone.1⟩) xm_X15_alone me_X15_alone is_X15_alone q2142 rfl rfl (Nat.le_of_ble_eq_true rfl) (MX.post ((rc_O hG hO 3).2.2.2.2.2.2.1 tc g163) kr)
                      · exact x_callU hG (Ky := kX15_alone) (As := []) dX17_call_168 tc rfl q2137 q2139 (Or.inr ⟨is_X15_alone, _, _, _, me_X15_alone.1⟩) xm_X15_alone me_X15_alone is_X15_alone q2143 rfl rfl (Nat.le_of_ble_eq_true rfl) (MX.post ((rc_O hG hO 3).2.2.2.2.2.2.2 tc g163) kr)
                    rintro _ A163 ⟨v163, rfl, h1⟩
                    refine X.xok (fun w163 => ?_)
                    replace h := h v163 A163 w163 h1
                    change X _ _ _ _ A163 _ _ [va_rf v163]
                    refine x_astoreq dX17_call_171 (by decide) ?_
                    refine x_aload dX17_call_173 rfl ?_
                    obtain ⟨o164, h⟩ := h
                    obtain ⟨R165, g165, h⟩ := h
                    refine z_disp (pc' := 175) (lv' := [some (.ref p), some (.ref b3), none, some (.ref b5), some (.ref b143), some (.ref A113.n), some (.int y116_6), some (.int y116_7), some (.ref b140), some (.ref b146), some (va_rf v163), none]) (st' := []) (P := hI R165) (kr := ?_) (kc := ?_)
                    rotate_left
                    · obtain ⟨c, tc, hc⟩ := o164
                      simp only [eCl, List.mem_cons, List.not_mem_nil, or_false] at hc
                      intro kr
                      rcases hc with rfl | rfl | rfl | rfl | rfl | rfl | rfl | rfl
                      · exact x_callU hG (Ky := kX15_leading) (As := []) dX17_call_175 tc rfl q2151 q2153 (Or.inr ⟨is_X15_leading, _, _, _, me_X15_leading.1⟩) xm_X15_leading me_X15_leading is_X15_leading q2174 rfl rfl (Nat.le_of_ble_eq_true rfl) (MX.post ((rc_L hG hO 800).1 tc g165) kr)
                      · exact x_callU hG (Ky := kX17_leading) (As := []) dX17_call_175 tc rfl q2151 q2153 (Or.inr ⟨is_X15_leading, _, _, _, me_X15_leading.1⟩) xm_X15_leading me_X17_leading is_X17_leading q2155 rfl rfl (Nat.le_of_ble_eq_true rfl) (MX.post ((rc_L hG hO 800).2.1 tc g165) kr)
                      · exact x_callU hG (Ky := kX18_leading) (As := []) dX17_call_175 tc rfl q2151 q2153 (Or.inr ⟨is_X15_leading, _, _, _, me_X15_leading.1⟩) xm_X15_leading me_X18_leading is_X18_leading q2173 rfl rfl (Nat.le_of_ble_eq_true rfl) (MX.post ((rc_L hG hO 800).2.2.1 tc g165) kr)
                      · exact x_callU hG (Ky := kX15_leading) (As := []) dX17_call_175 tc rfl q2151 q2153 (Or.inr ⟨is_X15_leading, _, _, _, me_X15_leading.1⟩) xm_X15_leading me_X15_leading is_X15_leading q2171 rfl rfl (Nat.le_of_ble_eq_true rfl) (MX.post ((rc_L hG hO 800).2.2.2.1 tc g165) kr)
                      · exact x_callU hG (Ky := kX15_leading) (As := []) dX17_call_175 tc rfl q2151 q2153 (Or.inr ⟨is_X15_leading, _, _, _, me_X15_leading.1⟩) xm_X15_leading me_X15_leading is_X15_leading q2154 rfl rfl (Nat.le_of_ble_eq_true rfl) (MX.post ((rc_L hG hO 800).2.2.2.2.1 tc g165) kr)
                      · exact x_callU hG (Ky := kX21_leading) (As := []) dX17_call_175 tc rfl q2151 q2153 (Or.inr ⟨is_X15_leading, _, _, _, me_X15_leading.1⟩) xm_X15_leading me_X21_leading is_X21_leading q2172 rfl rfl (Nat.le_of_ble_eq_true rfl) (MX.post ((rc_L hG hO 800).2.2.2.2.2.1 tc g165) kr)
                      · exact x_callU hG (Ky := kX22_leading) (As := []) dX17_call_175 tc rfl q2151 q2153 (Or.inr ⟨is_X15_leading, _, _, _, me_X15_leading.1⟩) xm_X15_leading me_X22_leading is_X22_leading q2158 rfl rfl (Nat.le_of_ble_eq_true rfl) (MX.post ((rc_L hG hO 800).2.2.2.2.2.2.1 tc g165) kr)
                      · exact x_callU hG (Ky := kX23_leading) (As := []) dX17_call_175 tc rfl q2151 q2153 (Or.inr ⟨is_X15_leading, _, _, _, me_X15_leading.1⟩) xm_X15_leading me_X23_leading is_X23_leading q2170 rfl rfl (Nat.le_of_ble_eq_true rfl) (MX.post ((rc_L hG hO 800).2.2.2.2.2.2.2 tc g165) kr)
                    rintro _ A165 ⟨v165, rfl, h1⟩
                    refine X.xok (fun w165 => ?_)
                    replace h := h v165 A165 w165 h1
                    change X _ _ _ _ A165 _ _ [.int v165]
                    obtain ⟨J166, g166, h⟩ := h
                    have kj166 : ∀ (A166 : xA), J166 A166 → X G (dp + 811) kX17_call (hX (hL Q) E) A166 196 [some (.ref p), some (.ref b3), none, some (.ref b5), some (.ref b143), some (.ref A113.n), some (.int y116_6), some (.int y116_7), some (.ref b140), some (.ref b146), some (va_rf v163), none] [] := by
                      intro A166 h
                      replace h := g166 A166 h
                      refine x_aload dX17_call_196 rfl ?_
                      refine x_ifnull (r := (some b146)) (tgt := 206) dX17_call_198 (by decide) (fun h => nomatch h) (fun _ _ => ?_)
                      refine x_aloadq dX17_call_201 rfl ?_
                      obtain ⟨J167, g167, h⟩ := h
                      have kj167 : ∀ (y167_s0 : Option Nat) (A167 : xA), J167 y167_s0 A167 → X G (dp + 811) kX17_call (hX (hL Q) E) A167 224 [some (.ref p), some (.ref b3), none, some (.ref b5), some (.ref b143), some (.ref A113.n), some (.int y116_6), some (.int y116_7), some (.ref b140), some (.ref b146), none, none] [va_rf y167_s0] := by
                        intro y167_s0 A167 h
                        replace h := g167 y167_s0 A167 h
                        refine x_astoreq dX17_call_224 (by decide) ?_
                        refine x_aloadq dX17_call_226 rfl ?_
                        refine x_ifnull (tgt := 252) dX17_call_228 (by decide) (fun c228 => ?_) (fun b168 c228 => ?_)
                        · replace h := h.1 c228
                          refine x_aload_n dX17_call_252 rfl ?_
                          refine x_bipush_ (v := (7 : Int32)) dX17_call_253 (by decide) ?_
                          refine x_aload dX17_call_255 rfl ?_
                          obtain ⟨o169, h⟩ := h
                          refine z_getE hG dX17_call_257 fE_X17_39 o169 ?_
                          obtain ⟨o171, h⟩ := h
                          obtain ⟨R170, g170, h⟩ := h
                          refine x_callV hG (Ky := kX6_fault) (As := [.int (7 : Int32), .int (A167.I b140 0)]) dX17_call_260 o171 rfl lk_X17_31 me_X6_fault is_X6_fault se_X6_fault rfl rfl (Nat.le_of_ble_eq_true rfl) (MX.post (m_X6_fault hG hO g170) ?_)
                          rintro _ A170 ⟨v170, rfl, h1⟩
                          refine X.xok (fun w170 => ?_)
                          replace h := h v170 A170 w170 h1
                          change X _ _ _ _ A170 _ _ [va_rf v170]
                          obtain ⟨b172, e172, h⟩ := h
                          rw [e172]
                          exact x_athrow dX17_call_263 rfl (Or.inr ⟨_, rfl, h⟩)
                        · replace h := h.2 b168 c228
                          rw [c228]
                          refine x_aload dX17_call_231 rfl ?_
                          obtain ⟨o174, h⟩ := h
                          obtain ⟨R173, g173, h⟩ := h
                          refine x_callV hG (Ky := kX34_isArray) (As := []) dX17_call_233 o174 rfl lk_X17_93 me_X34_isArray is_X34_isArray se_X34_isArray rfl rfl (Nat.le_of_ble_eq_true rfl) (MX.post (m_X34_isArray hG hO g173) ?_)
                          rintro _ A173 ⟨v173, rfl, zv173, h1⟩
                          refine X.xok (fun w173 => ?_)
                          replace h := h v173 A173 w173 zv173 h1
                          change X _ _ _ _ A173 _ _ [.int v173]
                          refine x_if_eq (tgt := 252) dX17_call_236 (by decide) (fun c236 => ?_) (fun c236 => ?_)
                          · replace h := h.1 c236
                            refine x_aload_n dX17_call_252 rfl ?_
                            refine x_bipush_ (v := (7 : Int32)) dX17_call_253 (by decide) ?_
                            refine x_aload dX17_call_255 rfl ?_
                            obtain ⟨o175, h⟩ := h
                            refine z_getE hG dX17_call_257 fE_X17_39 o175 ?_
                            obtain ⟨o177, h⟩ := h
                            obtain ⟨R176, g176, h⟩ := h
                            refine x_callV hG (Ky := kX6_fault) (As := [.int (7 : Int32), .int (A173.I b140 0)]) dX17_call_260 o177 rfl lk_X17_31 me_X6_fault is_X6_fault se_X6_fault rfl rfl (Nat.le_of_ble_eq_true rfl) (MX.post (m_X6_fault hG hO g176) ?_)
                            rintro _ A176 ⟨v176, rfl, h1⟩
                            refine X.xok (fun w176 => ?_)
                            replace h := h v176 A176 w176 h1
                            change X _ _ _ _ A176 _ _ [va_rf v176]
                            obtain ⟨b178, e178, h⟩ := h
                            rw [e178]
                            exact x_athrow dX17_call_263 rfl (Or.inr ⟨_, rfl, h⟩)
                          · replace h := h.2 c236
                            refine x_aload dX17_call_239 rfl ?_
                            obtain ⟨o179, h⟩ := h
                            refine x_get (v := .int (A173.I b168 3)) hG dX17_call_241 f_X17_96_32 o179 rfl ?_
                            refine x_aload dX17_call_244 rfl ?_
                            obtain ⟨o180, h⟩ := h
                            refine x_get (v := .int (A173.I b146 4)) hG dX17_call_246 f_X17_99_22 o180 rfl ?_
                            refine x_icmp_eq (tgt := 264) dX17_call_249 (by decide) (fun c249 => ?_) (fun c249 => ?_)
                            · replace h := h.1 c249
                              refine x_aload dX17_call_264 rfl ?_
                              refine x_iload dX17_call_266 rfl ?_
                              refine x_aload_n dX17_call_268 rfl ?_
                              refine x_aload dX17_call_269 rfl ?_
                              obtain ⟨o182, h⟩ := h
                              obtain ⟨R181, g181, h⟩ := h
                              refine x_callV hG (Ky := kX6_address) (As := [.ref b168]) dX17_call_271 o182 rfl lk_X17_100 me_X6_address is_X6_address se_X6_address rfl rfl (Nat.le_of_ble_eq_true rfl) (MX.post (m_X6_address hG hO g181) ?_)
                              rintro _ A181 ⟨v181, rfl, h1⟩
                              refine X.xok (fun w181 => ?_)
                              replace h := h v181 A181 w181 h1
                              change X _ _ _ _ A181 _ _ [.long v181, .int y116_6, .ref A113.n]
                              obtain ⟨o183, h⟩ := h
                              obtain ⟨o184, h⟩ := h
                              obtain ⟨o185, h⟩ := h
                              refine z_last hG dX17_call_274 o183 o184 o185 (fun A186 e186 => ?_)
                              replace h := h A186 e186
                              refine x_aload dX17_call_275 rfl ?_
                              refine x_iload dX17_call_277 rfl ?_
                              refine x_iconst_ (v := (1 : Int32)) dX17_call_279 (by decide) ?_
                              refine x_iadd dX17_call_280 ?_
                              refine x_aload_n dX17_call_281 rfl ?_
                              refine x_aload dX17_call_282 rfl ?_
                              obtain ⟨o188, h⟩ := h
                              obtain ⟨R187, g187, h⟩ := h
                              refine x_callV hG (Ky := kX6_length) (As := [.ref b168]) dX17_call_284 o188 rfl lk_X17_104 me_X6_length is_X6_length se_X6_length rfl rfl (Nat.le_of_ble_eq_true rfl) (MX.post (m_X6_length hG hO g187) ?_)
                              rintro _ A187 ⟨v187, rfl, h1⟩
                              refine X.xok (fun w187 => ?_)
                              replace h := h v187 A187 w187 h1
                              change X _ _ _ _ A187 _ _ [.long v187, .int (y116_6 + (1 : Int32)), .ref A113.n]
                              obtain ⟨o189, h⟩ := h
                              obtain ⟨o190, h⟩ := h
                              refine z_last hG dX17_call_287 o189 o184 o190 (fun A191 e191 => ?_)
                              replace h := h A191 e191
                              refine x_iinc (v := (y116_6 + (2 : Int32))) dX17_call_288 rfl rfl (by decide) ?_
                              refine x_iinc (v := (y116_7 + (1 : Int32))) dX17_call_291 rfl rfl (by decide) ?_
                              refine x_goto (tgt := 84) dX17_call_294 (by decide) ?_
                              obtain ⟨q116, l116, h⟩ := h
                              change X _ _ _ _ _ _ [some (.ref p), some (.ref b3), none, some (.ref b5), some (.ref b143), some (.ref A113.n), some (.int (y116_6 + (2 : Int32))), some (.int (y116_7 + (1 : Int32))), some (.ref b140), some (.ref b146), none, some (.ref b168)] []
                              exact X.weak (xle_c rfl (xle_c rfl (xle_n (xle_c rfl (xle_c (congrArg (fun z => some (va_rf z)) e143.symm) (xle_c rfl (xle_c rfl (xle_c rfl (xle_n (xle_n (xle_n (xle_n xle_nil)))))))))))) (ih116 q116 l116 (y116_6 + (2 : Int32)) (y116_7 + (1 : Int32)) A191 h)
                            · replace h := h.2 c249
                              refine x_aload_n dX17_call_252 rfl ?_
                              refine x_bipush_ (v := (7 : Int32)) dX17_call_253 (by decide) ?_
                              refine x_aload dX17_call_255 rfl ?_
                              obtain ⟨o192, h⟩ := h
                              refine z_getE hG dX17_call_257 fE_X17_39 o192 ?_
                              obtain ⟨o194, h⟩ := h
                              obtain ⟨R193, g193, h⟩ := h
                              refine x_callV hG (Ky := kX6_fault) (As := [.int (7 : Int32), .int (A173.I b140 0)]) dX17_call_260 o194 rfl lk_X17_31 me_X6_fault is_X6_fault se_X6_fault rfl rfl (Nat.le_of_ble_eq_true rfl) (MX.post (m_X6_fault hG hO g193) ?_)
                              rintro _ A193 ⟨v193, rfl, h1⟩
                              refine X.xok (fun w193 => ?_)
                              replace h := h v193 A193 w193 h1
                              change X _ _ _ _ A193 _ _ [va_rf v193]
                              obtain ⟨b195, e195, h⟩ := h
                              rw [e195]
                              exact x_athrow dX17_call_263 rfl (Or.inr ⟨_, rfl, h⟩)
                      refine x_ifnonnull (tgt := 210) dX17_call_203 (by decide) (fun b196 c203 => ?_) (fun c203 => ?_)
                      · replace h := h.2 b196 c203
                        rw [c203]
                        refine x_aload_n dX17_call_210 rfl ?_
                        refine x_aload dX17_call_211 rfl ?_
                        obtain ⟨o197, h⟩ := h
                        refine x_get (v := .int (A166.I b196 1)) hG dX17_call_213 f_X17_89_16 o197 rfl ?_
                        refine x_aload dX17_call_216 rfl ?_
                        refine x_get (v := .int (A166.I b196 2)) hG dX17_call_218 f_X17_92_16 o197 rfl ?_
                        obtain ⟨o199, h⟩ := h
                        obtain ⟨R198, g198, h⟩ := h
                        refine x_callV hG (Ky := kX6_known) (As := [.int (A166.I b196 1), .int (A166.I b196 2)]) dX17_call_221 o199 rfl lk_X17_25 me_X6_known is_X6_known se_X6_known rfl rfl (Nat.le_of_ble_eq_true rfl) (MX.post (m_X6_known hG hO g198) ?_)
                        rintro _ A198 (⟨v198, rfl, h1⟩ | ⟨x198, rfl, h1⟩)
                        rotate_left
                        · exact ⟨rfl, Or.inr ⟨_, rfl, h1⟩⟩
                        refine X.xok (fun w198 => ?_)
                        replace h := h v198 A198 w198 h1
                        change X _ _ _ _ A198 _ _ [va_rf v198]
                        change X _ _ _ _ _ _ [some (.ref p), some (.ref b3), none, some (.ref b5), some (.ref b143), some (.ref A113.n), some (.int y116_6), some (.int y116_7), some (.ref b140), some (.ref b146), some (.ref b196), none] [va_rf v198]
                        exact X.weak (xle_c rfl (xle_c rfl (xle_n (xle_c rfl (xle_c rfl (xle_c rfl (xle_c rfl (xle_c rfl (xle_c rfl (xle_c rfl (xle_n (xle_n xle_nil)))))))))))) (kj167 v198 A198 h)
                      · replace h := h.1 c203
                        refine x_null dX17_call_206 ?_
                        refine x_goto (tgt := 224) dX17_call_207 (by decide) ?_
                        change X _ _ _ _ _ _ [some (.ref p), some (.ref b3), none, some (.ref b5), some (.ref b143), some (.ref A113.n), some (.int y116_6), some (.int y116_7), some (.ref b140), some (.ref b146), some (va_rf v163), none] [.null]
                        exact X.weak (xle_c rfl (xle_c rfl (xle_n (xle_c rfl (xle_c rfl (xle_c rfl (xle_c rfl (xle_c rfl (xle_c rfl (xle_c rfl (xle_n (xle_n xle_nil)))))))))))) (kj167 (none : Option Nat) A166 h)
                    refine x_if_lt (tgt := 196) dX17_call_178 (by decide) (fun c178 => ?_) (fun c178 => ?_)
                    · replace h := h.1 c178
                      change X _ _ _ _ _ _ [some (.ref p), some (.ref b3), none, some (.ref b5), some (.ref b143), some (.ref A113.n), some (.int y116_6), some (.int y116_7), some (.ref b140), some (.ref b146), some (va_rf v163), none] []
                      exact X.weak (xle_c rfl (xle_c rfl (xle_n (xle_c rfl (xle_c rfl (xle_c rfl (xle_c rfl (xle_c rfl (xle_c rfl (xle_c rfl (xle_c rfl (xle_n xle_nil)))))))))))) (kj166 A165 h)
                    · replace h := h.2 c178
                      refine x_aload_n dX17_call_181 rfl ?_
                      refine x_aload dX17_call_182 rfl ?_
                      obtain ⟨o200, h⟩ := h
                      obtain ⟨R201, g201, h⟩ := h
                      refine z_disp (pc' := 184) (lv' := [some (.ref p), some (.ref b3), none, some (.ref b5), some (.ref b143), some (.ref A113.n), some (.int y116_6), some (.int y116_7), some (.ref b140), some (.ref b146), some (va_rf v163), none]) (st' := [.ref b3]) (P := hI R201) (kr := ?_) (kc := ?_)
                      rotate_left
                      · obtain ⟨c, tc, hc⟩ := o200
                        simp only [eCl, List.mem_cons, List.not_mem_nil, or_false] at hc
                        intro kr
                        rcases hc with rfl | rfl | rfl | rfl | rfl | rfl | rfl | rfl
                        · exact x_callU hG (Ky := kX15_leading) (As := []) dX17_call_184 tc rfl q2151 q2153 (Or.inr ⟨is_X15_leading, _, _, _, me_X15_leading.1⟩) xm_X15_leading me_X15_leading is_X15_leading q2174 rfl rfl (Nat.le_of_ble_eq_true rfl) (MX.post ((rc_L hG hO 800).1 tc g201) kr)
                        · exact x_callU hG (Ky := kX17_leading) (As := []) dX17_call_184 tc rfl q2151 q2153 (Or.inr ⟨is_X15_leading, _, _, _, me_X15_leading.1⟩) xm_X15_leading me_X17_leading is_X17_leading q2155 rfl rfl (Nat.le_of_ble_eq_true rfl) (MX.post ((rc_L hG hO 800).2.1 tc g201) kr)
                        · exact x_callU hG (Ky := kX18_leading) (As := []) dX17_call_184 tc rfl q2151 q2153 (Or.inr ⟨is_X15_leading, _, _, _, me_X15_leading.1⟩) xm_X15_leading me_X18_leading is_X18_leading q2173 rfl rfl (Nat.le_of_ble_eq_true rfl) (MX.post ((rc_L hG hO 800).2.2.1 tc g201) kr)
                        · exact x_callU hG (Ky := kX15_leading) (As := []) dX17_call_184 tc rfl q2151 q2153 (Or.inr ⟨is_X15_leading, _, _, _, me_X15_leading.1⟩) xm_X15_leading me_X15_leading is_X15_leading q2171 rfl rfl (Nat.le_of_ble_eq_true rfl) (MX.post ((rc_L hG hO 800).2.2.2.1 tc g201) kr)
                        · exact x_callU hG (Ky := kX15_leading) (As := []) dX17_call_184 tc rfl q2151 q2153 (Or.inr ⟨is_X15_leading, _, _, _, me_X15_leading.1⟩) xm_X15_leading me_X15_leading is_X15_leading q2154 rfl rfl (Nat.le_of_ble_eq_true rfl) (MX.post ((rc_L hG hO 800).2.2.2.2.1 tc g201) kr)
                        · exact x_callU hG (Ky := kX21_leading) (As := []) dX17_call_184 tc rfl q2151 q2153 (Or.inr ⟨is_X15_leading, _, _, _, me_X15_leading.1⟩) xm_X15_leading me_X21_leading is_X21_leading q2172 rfl rfl (Nat.le_of_ble_eq_true rfl) (MX.post ((rc_L hG hO 800).2.2.2.2.2.1 tc g201) kr)
                        · exact x_callU hG (Ky := kX22_leading) (As := []) dX17_call_184 tc rfl q2151 q2153 (Or.inr ⟨is_X15_leading, _, _, _, me_X15_leading.1⟩) xm_X15_leading me_X22_leading is_X22_leading q2158 rfl rfl (Nat.le_of_ble_eq_true rfl) (MX.post ((rc_L hG hO 800).2.2.2.2.2.2.1 tc g201) kr)
                        · exact x_callU hG (Ky := kX23_leading) (As := []) dX17_call_184 tc rfl q2151 q2153 (Or.inr ⟨is_X15_leading, _, _, _, me_X15_leading.1⟩) xm_X15_leading me_X23_leading is_X23_leading q2170 rfl rfl (Nat.le_of_ble_eq_true rfl) (MX.post ((rc_L hG hO 800).2.2.2.2.2.2.2 tc g201) kr)
                      rintro _ A201 ⟨v201, rfl, h1⟩
                      refine X.xok (fun w201 => ?_)
                      replace h := h v201 A201 w201 h1
                      change X _ _ _ _ A201 _ _ [.int v201, .ref b3]
                      refine x_aload dX17_call_187 rfl ?_
                      obtain ⟨o202, h⟩ := h
                      refine z_getE hG dX17_call_189 fE_X17_39 o202 ?_
                      obtain ⟨o204, h⟩ := h
                      obtain ⟨R203, g203, h⟩ := h
                      refine x_callV hG (Ky := kX6_known) (As := [.int v201, .int (A201.I b140 0)]) dX17_call_192 o204 rfl lk_X17_25 me_X6_known is_X6_known se_X6_known rfl rfl (Nat.le_of_ble_eq_true rfl) (MX.post (m_X6_known hG hO g203) ?_)
                      rintro _ A203 (⟨v203, rfl, h1⟩ | ⟨x203, rfl, h1⟩)
                      rotate_left
                      · exact ⟨rfl, Or.inr ⟨_, rfl, h1⟩⟩
                      refine X.xok (fun w203 => ?_)
                      replace h := h v203 A203 w203 h1
                      change X _ _ _ _ A203 _ _ [va_rf v203]
                      refine x_pop dX17_call_195 (va_rf_cat _) ?_
                      change X _ _ _ _ _ _ [some (.ref p), some (.ref b3), none, some (.ref b5), some (.ref b143), some (.ref A113.n), some (.int y116_6), some (.int y116_7), some (.ref b140), some (.ref b146), some (va_rf v163), none] []
                      exact X.weak (xle_c rfl (xle_c rfl (xle_n (xle_c rfl (xle_c rfl (xle_c rfl (xle_c rfl (xle_c rfl (xle_c rfl (xle_c rfl (xle_c rfl (xle_n xle_nil)))))))))))) (kj166 A203 h)
                  · replace h := h.1 c146
                    refine x_aload dX17_call_149 rfl ?_
                    refine x_iload dX17_call_151 rfl ?_
                    refine x_aload dX17_call_153 rfl ?_
                    refine x_aload_n dX17_call_155 rfl ?_
                    obtain ⟨o205, h⟩ := h
                    obtain ⟨R206, g206, h⟩ := h
                    refine z_disp (pc' := 156) (lv' := [some (.ref p), some (.ref b3), none, some (.ref b5), some (.ref b143), some (.ref A113.n), some (.int y116_6), some (.int y116_7), some (.ref b140), some (.ref b146), none, none]) (st' := [.int y116_6, .ref A113.n]) (P := hX (hL R206) E) (kr := ?_) (kc := ?_)
                    rotate_left
                    · obtain ⟨c, tc, hc⟩ := o205
                      simp only [eCl, List.mem_cons, List.not_mem_nil, or_false] at hc
                      intro kr
                      rcases hc with rfl | rfl | rfl | rfl | rfl | rfl | rfl | rfl
                      · exact x_callU hG (Ky := kX16_value) (As := [.ref b3]) dX17_call_156 tc rfl q2038 q2014 (Or.inl q2013) xm_X15_value me_X16_value is_X16_value q2200 rfl rfl (Nat.le_of_ble_eq_true rfl) (MX.post (hK.2.2.2.2.1.1 tc g206) kr)
                      · exact x_callU hG (Ky := kX17_value) (As := [.ref b3]) dX17_call_156 tc rfl q2038 q2014 (Or.inl q2013) xm_X15_value me_X17_value is_X17_value q2194 rfl rfl (Nat.le_of_ble_eq_true rfl) (MX.post (hK.2.2.2.2.1.2.1 tc g206) kr)
                      · exact x_callU hG (Ky := kX18_value) (As := [.ref b3]) dX17_call_156 tc rfl q2038 q2014 (Or.inl q2013) xm_X15_value me_X18_value is_X18_value q2199 rfl rfl (Nat.le_of_ble_eq_true rfl) (MX.post (hK.2.2.2.2.1.2.2.1 tc g206) kr)
                      · exact x_callU hG (Ky := kX19_value) (As := [.ref b3]) dX17_call_156 tc rfl q2038 q2014 (Or.inl q2013) xm_X15_value me_X19_value is_X19_value q2197 rfl rfl (Nat.le_of_ble_eq_true rfl) (MX.post (hK.2.2.2.2.1.2.2.2.1 tc g206) kr)
                      · exact x_callU hG (Ky := kX20_value) (As := [.ref b3]) dX17_call_156 tc rfl q2038 q2014 (Or.inl q2013) xm_X15_value me_X20_value is_X20_value q2015 rfl rfl (Nat.le_of_ble_eq_true rfl) (MX.post (hK.2.2.2.2.1.2.2.2.2.1 tc g206) kr)
                      · exact x_callU hG (Ky := kX21_value) (As := [.ref b3]) dX17_call_156 tc rfl q2038 q2014 (Or.inl q2013) xm_X15_value me_X21_value is_X21_value q2198 rfl rfl (Nat.le_of_ble_eq_true rfl) (MX.post (hK.2.2.2.2.1.2.2.2.2.2.1 tc g206) kr)
                      · exact x_callU hG (Ky := kX22_value) (As := [.ref b3]) dX17_call_156 tc rfl q2038 q2014 (Or.inl q2013) xm_X15_value me_X22_value is_X22_value q2195 rfl rfl (Nat.le_of_ble_eq_true rfl) (MX.post (hK.2.2.2.2.1.2.2.2.2.2.2.1 tc g206) kr)
                      · exact x_callU hG (Ky := kX23_value) (As := [.ref b3]) dX17_call_156 tc rfl q2038 q2014 (Or.inl q2013) xm_X15_value me_X23_value is_X23_value q2196 rfl rfl (Nat.le_of_ble_eq_true rfl) (MX.post (hK.2.2.2.2.1.2.2.2.2.2.2.2 tc g206) kr)
                    rintro _ A206 (⟨v206, rfl, h1⟩ | ⟨x206, rfl, h1⟩)
                    rotate_left
                    · exact ⟨rfl, Or.inr ⟨_, rfl, h1⟩⟩
                    refine X.xok (fun w206 => ?_)
                    replace h := h v206 A206 w206 h1
                    change X _ _ _ _ A206 _ _ [.long v206, .int y116_6, .ref A113.n]
                    obtain ⟨o207, h⟩ := h
                    obtain ⟨o208, h⟩ := h
                    obtain ⟨o209, h⟩ := h
                    refine z_last hG dX17_call_159 o207 o208 o209 (fun A210 e210 => ?_)
                    replace h := h A210 e210
                    refine x_iinc (v := (y116_6 + (1 : Int32))) dX17_call_160 rfl rfl (by decide) ?_
                    refine x_goto (tgt := 291) dX17_call_163 (by decide) ?_
                    refine x_iinc (v := (y116_7 + (1 : Int32))) dX17_call_291 rfl rfl (by decide) ?_
                    refine x_goto (tgt := 84) dX17_call_294 (by decide) ?_
                    obtain ⟨q116, l116, h⟩ := h
                    change X _ _ _ _ _ _ [some (.ref p), some (.ref b3), none, some (.ref b5), some (.ref b143), some (.ref A113.n), some (.int (y116_6 + (1 : Int32))), some (.int (y116_7 + (1 : Int32))), some (.ref b140), some (.ref b146), none, none] []
                    exact X.weak (xle_c rfl (xle_c rfl (xle_n (xle_c rfl (xle_c (congrArg (fun z => some (va_rf z)) e143.symm) (xle_c rfl (xle_c rfl (xle_c rfl (xle_n (xle_n (xle_n (xle_n xle_nil)))))))))))) (ih116 q116 l116 (y116_6 + (1 : Int32)) (y116_7 + (1 : Int32)) A210 h)
              refine x_icmp_ge (tgt := 133) dX17_call_117 (by decide) (fun c117 => ?_) (fun c117 => ?_)
              · replace h := h.1 c117
                refine x_null dX17_call_133 ?_
                change X _ _ _ _ _ _ [some (.ref p), some (.ref b3), none, some (.ref b5), some (.ref b143), some (.ref A113.n), some (.int y116_6), some (.int y116_7), some (.ref b140), none, none, none] [.null]
                exact X.weak (xle_c rfl (xle_c rfl (xle_n (xle_c rfl (xle_c rfl (xle_c rfl (xle_c rfl (xle_c rfl (xle_c rfl (xle_n (xle_n (xle_n xle_nil)))))))))))) (kj145 (none : Option Nat) A142 h)
              · replace h := h.2 c117
                refine x_aload dX17_call_120 rfl ?_
                refine x_iload dX17_call_122 rfl ?_
                obtain ⟨o212, h⟩ := h
                obtain ⟨R211, g211, h⟩ := h
                refine x_callV hG (Ky := kJ5_get) (As := [.int y116_7]) dX17_call_124 o212 rfl lk_X17_69 me_J5_get is_J5_get se_J5_get rfl rfl (Nat.le_of_ble_eq_true rfl) (MX.post (m_w_J5_get hG hO g211) ?_)
                rintro _ A211 ⟨v211, rfl, h1⟩
                refine X.xok (fun w211 => ?_)
                replace h := h v211 A211 w211 h1
                change X _ _ _ _ A211 _ _ [va_rf v211]
                obtain ⟨b213, e213, h⟩ := h
                rw [e213]
                obtain ⟨o214, h⟩ := h
                refine x_cast hG dX17_call_127 q2037 o214 rfl (Or.inl rfl) ?_
                refine x_goto (tgt := 134) dX17_call_130 (by decide) ?_
                change X _ _ _ _ _ _ [some (.ref p), some (.ref b3), none, some (.ref b5), some (.ref b143), some (.ref A113.n), some (.int y116_6), some (.int y116_7), some (.ref b140), none, none, none] [.ref b213]
                exact X.weak (xle_c rfl (xle_c rfl (xle_n (xle_c rfl (xle_c rfl (xle_c rfl (xle_c rfl (xle_c rfl (xle_c rfl (xle_n (xle_n (xle_n xle_nil)))))))))))) (kj145 (some b213) A211 h)
        change X _ _ _ _ _ _ [some (.ref p), some (.ref b3), some (.int w), some (.ref b5), some (va_rf (A2.P b111 8)), some (.ref A113.n), some (.int (0 : Int32)), some (.int (0 : Int32)), none, none, none, none] []
        exact X.weak (xle_c rfl (xle_c rfl (xle_n (xle_c rfl (xle_c rfl (xle_c rfl (xle_c rfl (xle_c rfl (xle_n (xle_n (xle_n (xle_n xle_nil)))))))))))) (kl116 n116 (0 : Int32) (0 : Int32) A115 i116)
      · replace h := h.2 c44
        refine x_aload_n dX17_call_47 rfl ?_
        refine x_bipush_ (v := (8 : Int32)) dX17_call_48 (by decide) ?_
        refine x_aload_n dX17_call_50 rfl ?_
        obtain ⟨o215, h⟩ := h
        refine x_get (v := .int (A2.I p 2)) hG dX17_call_51 f_X17_9_15 o215 rfl ?_
        obtain ⟨o217, h⟩ := h
        obtain ⟨R216, g216, h⟩ := h
        refine x_callV hG (Ky := kX6_fault) (As := [.int (8 : Int32), .int (A2.I p 2)]) dX17_call_54 o217 rfl lk_X17_31 me_X6_fault is_X6_fault se_X6_fault rfl rfl (Nat.le_of_ble_eq_true rfl) (MX.post (m_X6_fault hG hO g216) ?_)
        rintro _ A216 ⟨v216, rfl, h1⟩
        refine X.xok (fun w216 => ?_)
        replace h := h v216 A216 w216 h1
        change X _ _ _ _ A216 _ _ [va_rf v216]
        obtain ⟨b218, e218, h⟩ := h
        rw [e218]
        exact x_athrow dX17_call_57 rfl (Or.inr ⟨_, rfl, h⟩)
  · replace h := h.2 c19
    refine x_aload_n dX17_call_22 rfl ?_
    refine x_bipush_ (v := (6 : Int32)) dX17_call_23 (by decide) ?_
    refine x_aload_n dX17_call_25 rfl ?_
    obtain ⟨o219, h⟩ := h
    refine x_get (v := .int (A2.I p 2)) hG dX17_call_26 f_X17_9_15 o219 rfl ?_
    obtain ⟨o221, h⟩ := h
    obtain ⟨R220, g220, h⟩ := h
    refine x_callV hG (Ky := kX6_fault) (As := [.int (6 : Int32), .int (A2.I p 2)]) dX17_call_29 o221 rfl lk_X17_31 me_X6_fault is_X6_fault se_X6_fault rfl rfl (Nat.le_of_ble_eq_true rfl) (MX.post (m_X6_fault hG hO g220) ?_)
    rintro _ A220 ⟨v220, rfl, h1⟩
    refine X.xok (fun w220 => ?_)
    replace h := h v220 A220 w220 h1
    change X _ _ _ _ A220 _ _ [va_rf v220]
    obtain ⟨b222, e222, h⟩ := h
    rw [e222]
    exact x_athrow dX17_call_32 rfl (Or.inr ⟨_, rfl, h⟩)
def w_X6_index (G : xG) (r0 : Nat → Option Nat → Int32 → (Int64 → xA → Prop) → (Nat → xA → Prop) → xA → Prop) (r1 : Nat → Option Nat → Option Nat → Int32 → (Int64 → xA → Prop) → (Nat → xA → Prop) → xA → Prop) (r2 : Nat → Option Nat → Option Nat → Option Nat → (xA → Prop) → (Nat → xA → Prop) → xA → Prop) (r3 : Nat → Option Nat → Option Nat → Option Nat → (xA → Prop) → (Nat → xA → Prop) → xA → Prop) (r4 : Nat → Option Nat → (Int64 → xA → Prop) → (Nat → xA → Prop) → xA → Prop) (r5 : Nat → Option Nat → Option Nat → Option Nat → (xA → Prop) → (Nat → xA → Prop) → xA → Prop) (p : Nat) (s : Option Nat) (e : Option Nat) (w : Int32) (Q : Int64 → xA → Prop) (E : Nat → xA → Prop) (A : xA) : Prop := xok G A → ∃ b1 : Nat, e = some b1 ∧ (xE A b1 ∧ (∃ R3 : Int64 → xA → Prop, r4 b1 (some p) R3 E A ∧ (∀ (v3 : Int64) (A3 : xA), xok G A3 → R3 v3 A3 → (A3.tg p = 6 ∧ (∃ R4 : Int64 → xA → Prop, w_X6_length G p s R4 A3 ∧ (∀ (v4 : Int64) (A4 : xA), xok G A4 → R4 v4 A4 → (A4.tg p = 6 ∧ (∃ R6 : Option Nat → xA → Prop, w_X6_emit G p (25 : Int32) (-1 : Int32) v3 v4 R6 A4 ∧ (∀ (v6 : Option Nat) (A6 : xA), xok G A6 → R6 v6 A6 → (∃ b8 : Nat, v6 = some b8 ∧ (A6.tg b8 = 36 ∧ (∀ A10 : xA, A10 = A6.setI b8 5 w → (∃ b11 : Nat, s = some b11 ∧ (A10.tg b11 = 33 ∧ ((((A10.I b11 3) = 0 → A10.tg p = 6 ∧ (∃ R13 : Int64 → xA → Prop, g_A_0 G p (8 : Int32) v3 (f_X6_constant (2 : Int32)) R13 A10 ∧ (∀ (v13 : Int64) (A13 : xA), xok G A13 → R13 v13 A13 → (Q v13 A13)))) ∧ (¬ (A10.I b11 3) = 0 → Q v3 A10)))))))))))))))))
theorem m_X6_index (hG : xOK G) (hO : xHO G) {dp : Nat} {r0 : Nat → Option Nat → Int32 → (Int64 → xA → Prop) → (Nat → xA → Prop) → xA → Prop} {r1 : Nat → Option Nat → Option Nat → Int32 → (Int64 → xA → Prop) → (Nat → xA → Prop) → xA → Prop} {r2 : Nat → Option Nat → Option Nat → Option Nat → (xA → Prop) → (Nat → xA → Prop) → xA → Prop} {r3 : Nat → Option Nat → Option Nat → Option Nat → (xA → Prop) → (Nat → xA → Prop) → xA → Prop} {r4 : Nat → Option Nat → (Int64 → xA → Prop) → (Nat → xA → Prop) → xA → Prop} {r5 : Nat → Option Nat → Option Nat → Option Nat → (xA → Prop) → (Nat → xA → Prop) → xA → Prop} (hK : xRC_V G (dp + 810) r0 r1 r2 r3 r4 r5) {p : Nat} {s : Option Nat} {e : Option Nat} {w : Int32} {Q : Int64 → xA → Prop} {E : Nat → xA → Prop} {A : xA} (h : w_X6_index G r0 r1 r2 r3 r4 r5 p s e w Q E A) : MX G (dp + 811) kX6_index [.ref p, va_rf s, va_rf e, .int w] A (hX (hL Q) E) := by
  unfold w_X6_index at h
  refine MX.of rfl (by cases s <;> cases e <;> exact Nat.le_of_ble_eq_true rfl) ?_
  refine X.lvs (lv' := [some (.ref p), some (va_rf s), some (va_rf e), some (.int w), none, none]) (by cases s <;> cases e <;> rfl) ?_
  refine X.xok (fun w0 => ?_)
  replace h := h w0
  refine x_aloadq_n dX6_index_0 rfl ?_
  refine x_aload_n dX6_index_1 rfl ?_
  obtain ⟨b1, e1, h⟩ := h
  rw [e1]
  obtain ⟨o2, h⟩ := h
  obtain ⟨R3, g3, h⟩ := h
  refine z_disp (pc' := 2) (lv' := [some (.ref p), some (va_rf s), some (.ref b1), some (.int w), none, none]) (st' := []) (P := hX (hL R3) E) (kr := ?_) (kc := ?_)
  rotate_left
  · obtain ⟨c, tc, hc⟩ := o2
    simp only [eCl, List.mem_cons, List.not_mem_nil, or_false] at hc
    intro kr
    rcases hc with rfl | rfl | rfl | rfl | rfl | rfl | rfl | rfl
    · exact x_callU hG (Ky := kX16_value) (As := [.ref p]) dX6_index_2 tc rfl q2012 q2014 (Or.inl q2013) xm_X15_value me_X16_value is_X16_value q2200 rfl rfl (Nat.le_of_ble_eq_true rfl) (MX.post (hK.2.2.2.2.1.1 tc g3) kr)
    · exact x_callU hG (Ky := kX17_value) (As := [.ref p]) dX6_index_2 tc rfl q2012 q2014 (Or.inl q2013) xm_X15_value me_X17_value is_X17_value q2194 rfl rfl (Nat.le_of_ble_eq_true rfl) (MX.post (hK.2.2.2.2.1.2.1 tc g3) kr)
    · exact x_callU hG (Ky := kX18_value) (As := [.ref p]) dX6_index_2 tc rfl q2012 q2014 (Or.inl q2013) xm_X15_value me_X18_value is_X18_value q2199 rfl rfl (Nat.le_of_ble_eq_true rfl) (MX.post (hK.2.2.2.2.1.2.2.1 tc g3) kr)
    · exact x_callU hG (Ky := kX19_value) (As := [.ref p]) dX6_index_2 tc rfl q2012 q2014 (Or.inl q2013) xm_X15_value me_X19_value is_X19_value q2197 rfl rfl (Nat.le_of_ble_eq_true rfl) (MX.post (hK.2.2.2.2.1.2.2.2.1 tc g3) kr)
    · exact x_callU hG (Ky := kX20_value) (As := [.ref p]) dX6_index_2 tc rfl q2012 q2014 (Or.inl q2013) xm_X15_value me_X20_value is_X20_value q2015 rfl rfl (Nat.le_of_ble_eq_true rfl) (MX.post (hK.2.2.2.2.1.2.2.2.2.1 tc g3) kr)
    · exact x_callU hG (Ky := kX21_value) (As := [.ref p]) dX6_index_2 tc rfl q2012 q2014 (Or.inl q2013) xm_X15_value me_X21_value is_X21_value q2198 rfl rfl (Nat.le_of_ble_eq_true rfl) (MX.post (hK.2.2.2.2.1.2.2.2.2.2.1 tc g3) kr)
    · exact x_callU hG (Ky := kX22_value) (As := [.ref p]) dX6_index_2 tc rfl q2012 q2014 (Or.inl q2013) xm_X15_value me_X22_value is_X22_value q2195 rfl rfl (Nat.le_of_ble_eq_true rfl) (MX.post (hK.2.2.2.2.1.2.2.2.2.2.2.1 tc g3) kr)
    · exact x_callU hG (Ky := kX23_value) (As := [.ref p]) dX6_index_2 tc rfl q2012 q2014 (Or.inl q2013) xm_X15_value me_X23_value is_X23_value q2196 rfl rfl (Nat.le_of_ble_eq_true rfl) (MX.post (hK.2.2.2.2.1.2.2.2.2.2.2.2 tc g3) kr)
  rintro _ A3 (⟨v3, rfl, h1⟩ | ⟨x3, rfl, h1⟩)
  rotate_left
  · exact ⟨rfl, Or.inr ⟨_, rfl, h1⟩⟩
  refine X.xok (fun w3 => ?_)
  replace h := h v3 A3 w3 h1
  change X _ _ _ _ A3 _ _ [.long v3]
  refine x_lstore dX6_index_5 (by decide) ?_
  refine x_aload_n dX6_index_7 rfl ?_
  refine x_bipush_ (v := (25 : Int32)) dX6_index_8 (by decide) ?_
  refine x_iconst_ (v := (-1 : Int32)) dX6_index_10 (by decide) ?_
  refine x_lload dX6_index_11 rfl ?_
  refine x_aload_n dX6_index_13 rfl ?_
  refine x_aloadq_n dX6_index_14 rfl ?_
  obtain ⟨o5, h⟩ := h
  obtain ⟨R4, g4, h⟩ := h
  refine x_callV hG (Ky := kX6_length) (As := [va_rf s]) dX6_index_15 o5 rfl lk_X6_329 me_X6_length is_X6_length se_X6_length rfl rfl (Nat.le_of_ble_eq_true rfl) (MX.post (m_X6_length hG hO g4) ?_)
  rintro _ A4 ⟨v4, rfl, h1⟩
  refine X.xok (fun w4 => ?_)
  replace h := h v4 A4 w4 h1
  change X _ _ _ _ A4 _ _ [.long v4, .long v3, .int (-1 : Int32), .int (25 : Int32), .ref p]
  obtain ⟨o7, h⟩ := h
  obtain ⟨R6, g6, h⟩ := h
  refine x_callV hG (Ky := kX6_emit) (As := [.int (25 : Int32), .int (-1 : Int32), .long v3, .long v4]) dX6_index_18 o7 rfl lk_X6_260 me_X6_emit is_X6_emit se_X6_emit rfl rfl (Nat.le_of_ble_eq_true rfl) (MX.post (m_X6_emit hG hO g6) ?_)
  rintro _ A6 ⟨v6, rfl, h1⟩
  refine X.xok (fun w6 => ?_)
  replace h := h v6 A6 w6 h1
  change X _ _ _ _ A6 _ _ [va_rf v6]
  refine x_iload_n dX6_index_21 rfl ?_
  obtain ⟨b8, e8, h⟩ := h
  rw [e8]
  obtain ⟨o9, h⟩ := h
  refine z_putI hG hO.1 dX6_index_22 f_X6_264_35 ⟨_, rfl, Or.inl rfl⟩ o9 (by decide) rfl rfl ⟨_, rfl⟩ (fun A10 e10 => ?_)
  replace h := h A10 e10
  refine x_aloadq_n dX6_index_25 rfl ?_
  obtain ⟨b11, e11, h⟩ := h
  rw [e11]
  obtain ⟨o12, h⟩ := h
  refine x_get (v := .int (A10.I b11 3)) hG dX6_index_26 f_X6_154_32 o12 rfl ?_
  refine x_if_eq (tgt := 37) dX6_index_29 (by decide) (fun c29 => ?_) (fun c29 => ?_)
  · replace h := h.1 c29
    refine x_aload_n dX6_index_37 rfl ?_
    refine x_bipush_ (v := (8 : Int32)) dX6_index_38 (by decide) ?_
    refine x_lload dX6_index_40 rfl ?_
    refine x_iconst_ (v := (2 : Int32)) dX6_index_42 (by decide) ?_
    refine x_callS hG (Ky := kX6_constant) (As := [.int (2 : Int32)]) dX6_index_43 lk_X6_232 me_X6_constant st_X6_constant rfl rfl (Nat.le_of_ble_eq_true rfl) (MX.post (m_X6_constant hG) ?_)
    rintro _ _ ⟨rfl, rfl⟩
    change X _ _ _ _ _ _ _ (.long (f_X6_constant (2 : Int32)) :: _)
    obtain ⟨o14, h⟩ := h
    obtain ⟨R13, g13, h⟩ := h
    refine x_callV hG (Ky := kX6_act) (As := [.int (8 : Int32), .long v3, .long (f_X6_constant (2 : Int32))]) dX6_index_46 o14 rfl lk_X6_299 me_X6_act is_X6_act se_X6_act rfl rfl (Nat.le_of_ble_eq_true rfl) (MX.post ((rc_A hG hO 3) g13) ?_)
    rintro _ A13 ⟨v13, rfl, h1⟩
    refine X.xok (fun w13 => ?_)
    replace h := h v13 A13 w13 h1
    change X _ _ _ _ A13 _ _ [.long v13]
    exact x_lret dX6_index_49 rfl (Or.inl ⟨_, rfl, h⟩)
  · replace h := h.2 c29
    refine x_lload dX6_index_32 rfl ?_
    refine x_goto (tgt := 49) dX6_index_34 (by decide) ?_
    exact x_lret dX6_index_49 rfl (Or.inl ⟨_, rfl, h⟩)
def w_X15_branch (G : xG) (r0 : Nat → Option Nat → Int32 → (Int64 → xA → Prop) → (Nat → xA → Prop) → xA → Prop) (r1 : Nat → Option Nat → Option Nat → Int32 → (Int64 → xA → Prop) → (Nat → xA → Prop) → xA → Prop) (r2 : Nat → Option Nat → Option Nat → Option Nat → (xA → Prop) → (Nat → xA → Prop) → xA → Prop) (r3 : Nat → Option Nat → Option Nat → Option Nat → (xA → Prop) → (Nat → xA → Prop) → xA → Prop) (r4 : Nat → Option Nat → (Int64 → xA → Prop) → (Nat → xA → Prop) → xA → Prop) (r5 : Nat → Option Nat → Option Nat → Option Nat → (xA → Prop) → (Nat → xA → Prop) → xA → Prop) (p : Nat) (m : Option Nat) (y : Option Nat) (n : Option Nat) (Q : xA → Prop) (E : Nat → xA → Prop) (A : xA) : Prop := xok G A → xE A p ∧ (∃ R2 : Int64 → xA → Prop, r4 p m R2 E A ∧ (∀ (v2 : Int64) (A2 : xA), xok G A2 → R2 v2 A2 → (∃ b4 : Nat, m = some b4 ∧ (A2.tg b4 = 6 ∧ (∃ R3 : xA → Prop, g_B_0 G b4 (12 : Int32) v2 (f_X6_constant (0 : Int32)) y n R3 A2 ∧ (∀ A3 : xA, xok G A3 → R3 A3 → (Q A3)))))))
theorem m_X15_branch (hG : xOK G) (hO : xHO G) {dp : Nat} {r0 : Nat → Option Nat → Int32 → (Int64 → xA → Prop) → (Nat → xA → Prop) → xA → Prop} {r1 : Nat → Option Nat → Option Nat → Int32 → (Int64 → xA → Prop) → (Nat → xA → Prop) → xA → Prop} {r2 : Nat → Option Nat → Option Nat → Option Nat → (xA → Prop) → (Nat → xA → Prop) → xA → Prop} {r3 : Nat → Option Nat → Option Nat → Option Nat → (xA → Prop) → (Nat → xA → Prop) → xA → Prop} {r4 : Nat → Option Nat → (Int64 → xA → Prop) → (Nat → xA → Prop) → xA → Prop} {r5 : Nat → Option Nat → Option Nat → Option Nat → (xA → Prop) → (Nat → xA → Prop) → xA → Prop} (hK : xRC_V G (dp + 810) r0 r1 r2 r3 r4 r5) {p : Nat} {m : Option Nat} {y : Option Nat} {n : Option Nat} {Q : xA → Prop} {E : Nat → xA → Prop} {A : xA} (h : w_X15_branch G r0 r1 r2 r3 r4 r5 p m y n Q E A) : MX G (dp + 811) kX15_branch [.ref p, va_rf m, va_rf y, va_rf n] A (hX (hV Q) E) := by
  unfold w_X15_branch at h
  refine MX.of rfl (by cases m <;> cases y <;> cases n <;> exact Nat.le_of_ble_eq_true rfl) ?_
  refine X.lvs (lv' := [some (.ref p), some (va_rf m), some (va_rf y), some (va_rf n)]) (by cases m <;> cases y <;> cases n <;> rfl) ?_
  refine X.xok (fun w0 => ?_)
  replace h := h w0
  refine x_aloadq_n dX15_branch_0 rfl ?_
  refine x_bipush_ (v := (12 : Int32)) dX15_branch_1 (by decide) ?_
  refine x_aload_n dX15_branch_3 rfl ?_
  refine x_aloadq_n dX15_branch_4 rfl ?_
  obtain ⟨o1, h⟩ := h
  obtain ⟨R2, g2, h⟩ := h
  refine z_disp (pc' := 5) (lv' := [some (.ref p), some (va_rf m), some (va_rf y), some (va_rf n)]) (st' := [.int (12 : Int32), va_rf m]) (P := hX (hL R2) E) (kr := ?_) (kc := ?_)
  rotate_left
  · obtain ⟨c, tc, hc⟩ := o1
    simp only [eCl, List.mem_cons, List.not_mem_nil, or_false] at hc
    intro kr
    rcases hc with rfl | rfl | rfl | rfl | rfl | rfl | rfl | rfl
    · exact x_callU hG (Ky := kX16_value) (As := [va_rf m]) dX15_branch_5 tc rfl q2129 q2014 (Or.inl q2013) xm_X15_value me_X16_value is_X16_value q2200 rfl rfl (by simp only [List.append_eq, List.nil_append, List.map_cons, va_rf_cat]; exact Nat.le_of_ble_eq_true rfl) (MX.post (hK.2.2.2.2.1.1 tc g2) kr)
    · exact x_callU hG (Ky := kX17_value) (As := [va_rf m]) dX15_branch_5 tc rfl q2129 q2014 (Or.inl q2013) xm_X15_value me_X17_value is_X17_value q2194 rfl rfl (by simp only [List.append_eq, List.nil_append, List.map_cons, va_rf_cat]; exact Nat.le_of_ble_eq_true rfl) (MX.post (hK.2.2.2.2.1.2.1 tc g2) kr)
    · exact x_callU hG (Ky := kX18_value) (As := [va_rf m]) dX15_branch_5 tc rfl q2129 q2014 (Or.inl q2013) xm_X15_value me_X18_value is_X18_value q2199 rfl rfl (by simp only [List.append_eq, List.nil_append, List.map_cons, va_rf_cat]; exact Nat.le_of_ble_eq_true rfl) (MX.post (hK.2.2.2.2.1.2.2.1 tc g2) kr)
    · exact x_callU hG (Ky := kX19_value) (As := [va_rf m]) dX15_branch_5 tc rfl q2129 q2014 (Or.inl q2013) xm_X15_value me_X19_value is_X19_value q2197 rfl rfl (by simp only [List.append_eq, List.nil_append, List.map_cons, va_rf_cat]; exact Nat.le_of_ble_eq_true rfl) (MX.post (hK.2.2.2.2.1.2.2.2.1 tc g2) kr)
    · exact x_callU hG (Ky := kX20_value) (As := [va_rf m]) dX15_branch_5 tc rfl q2129 q2014 (Or.inl q2013) xm_X15_value me_X20_value is_X20_value q2015 rfl rfl (by simp only [List.append_eq, List.nil_append, List.map_cons, va_rf_cat]; exact Nat.le_of_ble_eq_true rfl) (MX.post (hK.2.2.2.2.1.2.2.2.2.1 tc g2) kr)
    · exact x_callU hG (Ky := kX21_value) (As := [va_rf m]) dX15_branch_5 tc rfl q2129 q2014 (Or.inl q2013) xm_X15_value me_X21_value is_X21_value q2198 rfl rfl (by simp only [List.append_eq, List.nil_append, List.map_cons, va_rf_cat]; exact Nat.le_of_ble_eq_true rfl) (MX.post (hK.2.2.2.2.1.2.2.2.2.2.1 tc g2) kr)
    · exact x_callU hG (Ky := kX22_value) (As := [va_rf m]) dX15_branch_5 tc rfl q2129 q2014 (Or.inl q2013) xm_X15_value me_X22_value is_X22_value q2195 rfl rfl (by simp only [List.append_eq, List.nil_append, List.map_cons, va_rf_cat]; exact Nat.le_of_ble_eq_true rfl) (MX.post (hK.2.2.2.2.1.2.2.2.2.2.2.1 tc g2) kr)
    · exact x_callU hG (Ky := kX23_value) (As := [va_rf m]) dX15_branch_5 tc rfl q2129 q2014 (Or.inl q2013) xm_X15_value me_X23_value is_X23_value q2196 rfl rfl (by simp only [List.append_eq, List.nil_append, List.map_cons, va_rf_cat]; exact Nat.le_of_ble_eq_true rfl) (MX.post (hK.2.2.2.2.1.2.2.2.2.2.2.2 tc g2) kr)
  rintro _ A2 (⟨v2, rfl, h1⟩ | ⟨x2, rfl, h1⟩)
  rotate_left
  · exact ⟨rfl, Or.inr ⟨_, rfl, h1⟩⟩
  refine X.xok (fun w2 => ?_)
  replace h := h v2 A2 w2 h1
  change X _ _ _ _ A2 _ _ [.long v2, .int (12 : Int32), va_rf m]
  refine x_iconst_ (v := (0 : Int32)) dX15_branch_8 (by decide) ?_
  refine x_callS hG (Ky := kX6_constant) (As := [.int (0 : Int32)]) dX15_branch_9 lk_X15_19 me_X6_constant st_X6_constant rfl rfl (by simp only [List.append_eq, List.nil_append, List.map_cons, va_rf_cat]; exact Nat.le_of_ble_eq_true rfl) (MX.post (m_X6_constant hG) ?_)
  rintro _ _ ⟨rfl, rfl⟩
  change X _ _ _ _ _ _ _ (.long (f_X6_constant (0 : Int32)) :: _)
  refine x_aloadq_n dX15_branch_12 rfl ?_
  refine x_aloadq_n dX15_branch_13 rfl ?_
  obtain ⟨b4, e4, h⟩ := h
  rw [e4]
  obtain ⟨o5, h⟩ := h
  obtain ⟨R3, g3, h⟩ := h
  refine x_callV hG (Ky := kX6_branch) (As := [.int (12 : Int32), .long v2, .long (f_X6_constant (0 : Int32)), va_rf y, va_rf n]) dX15_branch_14 o5 rfl lk_X15_25 me_X6_branch is_X6_branch se_X6_branch rfl rfl (Nat.le_of_ble_eq_true rfl) (MX.post ((rc_B hG hO 3) g3) ?_)
  rintro _ A3 ⟨rfl, h1⟩
  refine X.xok (fun w3 => ?_)
  replace h := h A3 w3 h1
  change X _ _ _ _ A3 _ _ []
  exact x_vret dX15_branch_17 rfl (Or.inl ⟨rfl, h⟩)
def w_X21_branch (G : xG) (r0 : Nat → Option Nat → Int32 → (Int64 → xA → Prop) → (Nat → xA → Prop) → xA → Prop) (r1 : Nat → Option Nat → Option Nat → Int32 → (Int64 → xA → Prop) → (Nat → xA → Prop) → xA → Prop) (r2 : Nat → Option Nat → Option Nat → Option Nat → (xA → Prop) → (Nat → xA → Prop) → xA → Prop) (r3 : Nat → Option Nat → Option Nat → Option Nat → (xA → Prop) → (Nat → xA → Prop) → xA → Prop) (r4 : Nat → Option Nat → (Int64 → xA → Prop) → (Nat → xA → Prop) → xA → Prop) (r5 : Nat → Option Nat → Option Nat → Option Nat → (xA → Prop) → (Nat → xA → Prop) → xA → Prop) (p : Nat) (m : Option Nat) (y : Option Nat) (n : Option Nat) (Q : xA → Prop) (E : Nat → xA → Prop) (A : xA) : Prop := xok G A → ∃ L1 : Nat → Int32 → xA → Prop, (∃ n1 : Nat, L1 n1 (0 : Int32) A) ∧ (∀ (n1 : Nat) (y1_4 : Int32) (A1 : xA), L1 n1 y1_4 A1 → A1.tg p = 20 ∧ (∃ b4 : Nat, (A1.P p 2) = some b4 ∧ (A1.tg b4 = 37 ∧ (∃ R3 : Int32 → xA → Prop, w_J5_size G b4 R3 A1 ∧ (∀ (v3 : Int32) (A3 : xA), xok G A3 → R3 v3 A3 → ((((v3 - (1 : Int32)) ≤ y1_4 → A3.tg p = 20 ∧ (∃ b8 : Nat, (A3.P p 2) = some b8 ∧ (A3.tg b8 = 37 ∧ (∃ R7 : Int32 → xA → Prop, w_J5_size G b8 R7 A3 ∧ (∀ (v7 : Int32) (A7 : xA), xok G A7 → R7 v7 A7 → (A7.tg b8 = 37 ∧ (∃ R10 : Option Nat → xA → Prop, w_J5_get G b8 (v7 - (1 : Int32)) R10 A7 ∧ (∀ (v10 : Option Nat) (A10 : xA), xok G A10 → R10 v10 A10 → (∃ b12 : Nat, v10 = some b12 ∧ (xE A10 b12 ∧ (∃ R14 : xA → Prop, r5 b12 m y n R14 E A10 ∧ (∀ A14 : xA, xok G A14 → R14 A14 → (Q A14))))))))))))) ∧ (¬ (v3 - (1 : Int32)) ≤ y1_4 → ∃ b16 : Nat, m = some b16 ∧ (A3.tg b16 = 6 ∧ (∃ R15 : Option Nat → xA → Prop, w_X6_block G b16 R15 A3 ∧ (∀ (v15 : Option Nat) (A15 : xA), xok G A15 → R15 v15 A15 → (A15.tg p = 20 ∧ (∃ b20 : Nat, (A15.P p 2) = some b20 ∧ (A15.tg b20 = 37 ∧ (∃ R19 : Option Nat → xA → Prop, w_J5_get G b20 y1_4 R19 A15 ∧ (∀ (v19 : Option Nat) (A19 : xA), xok G A19 → R19 v19 A19 → (∃ b22 : Nat, v19 = some b22 ∧ (xE A19 b22 ∧ (A19.tg p = 20 ∧ (∃ J25 : Option Nat → Prop, (∀ (y25_s0 : Option Nat), J25 y25_s0 → ∃ J26 : Option Nat → Prop, (∀ (y26_s0 : Option Nat), J26 y26_s0 → ∃ R27 : xA → Prop, r5 b22 (some b16) y25_s0 y26_s0 R27 E A19 ∧ (∀ A27 : xA, xok G A27 → R27 A27 → (A27.tg b16 = 6 ∧ (∃ R28 : xA → Prop, w_X6_at G b16 v15 R28 A27 ∧ (∀ A28 : xA, xok G A28 → R28 A28 → ((∃ q1 : Nat, q1 < n1 ∧ L1 q1 (y1_4 + (1 : Int32)) A28))))))) ∧ (((A19.I p 1) = 0 → J26 v15) ∧ (¬ (A19.I p 1) = 0 → J26 n))) ∧ (((A19.I p 1) = 0 → J25 y) ∧ (¬ (A19.I p 1) = 0 → J25 v15))))))))))))))))))))))
theorem m_X21_branch (hG : xOK G) (hO : xHO G) {dp : Nat} {r0 : Nat → Option Nat → Int32 → (Int64 → xA → Prop) → (Nat → xA → Prop) → xA → Prop} {r1 : Nat → Option Nat → Option Nat → Int32 → (Int64 → xA → Prop) → (Nat → xA → Prop) → xA → Prop} {r2 : Nat → Option Nat → Option Nat → Option Nat → (xA → Prop) → (Nat → xA → Prop) → xA → Prop} {r3 : Nat → Option Nat → Option Nat → Option Nat → (xA → Prop) → (Nat → xA → Prop) → xA → Prop} {r4 : Nat → Option Nat → (Int64 → xA → Prop) → (Nat → xA → Prop) → xA → Prop} {r5 : Nat → Option Nat → Option Nat → Option Nat → (xA → Prop) → (Nat → xA → Prop) → xA → Prop} (hK : xRC_V G (dp + 810) r0 r1 r2 r3 r4 r5) {p : Nat} {m : Option Nat} {y : Option Nat} {n : Option Nat} {Q : xA → Prop} {E : Nat → xA → Prop} {A : xA} (h : w_X21_branch G r0 r1 r2 r3 r4 r5 p m y n Q E A) : MX G (dp + 811) kX21_branch [.ref p, va_rf m, va_rf y, va_rf n] A (hX (hV Q) E) := by
  unfold w_X21_branch at h
  refine MX.of rfl (by cases m <;> cases y <;> cases n <;> exact Nat.le_of_ble_eq_true rfl) ?_
  refine X.lvs (lv' := [some (.ref p), some (va_rf m), some (va_rf y), some (va_rf n), none, none]) (by cases m <;> cases y <;> cases n <;> rfl) ?_
  refine X.xok (fun w0 => ?_)
  replace h := h w0
  refine x_iconst_ (v := (0 : Int32)) dX21_branch_0 (by decide) ?_
  refine x_istore dX21_branch_1 (by decide) ?_
  refine X.lvs (lv' := [some (.ref p), some (va_rf m), some (va_rf y), some (va_rf n), some (.int (0 : Int32)), none]) (by generalize n = z; cases z <;> rfl) ?_
  obtain ⟨L1, ⟨n1, i1⟩, g1⟩ := h
  have kl1 : ∀ n1 : Nat, ∀ (y1_4 : Int32) (A1 : xA), L1 n1 y1_4 A1 → X G (dp + 811) kX21_branch (hX (hV Q) E) A1 3 [some (.ref p), some (va_rf m), some (va_rf y), some (va_rf n), some (.int y1_4), none] [] := by
    intro n1
    induction n1 using Nat.strongRecOn with
    | ind n1 ih1 =>
      intro y1_4 A1 h
      replace h := g1 n1 y1_4 A1 h
      refine x_iload dX21_branch_3 rfl ?_
      refine x_aload_n dX21_branch_5 rfl ?_
      obtain ⟨o2, h⟩ := h
      refine x_get (v := va_rf (A1.P p 2)) hG dX21_branch_6 f_X21_25_19 o2 rfl ?_
      obtain ⟨b4, e4, h⟩ := h
      rw [e4]
      obtain ⟨o5, h⟩ := h
      obtain ⟨R3, g3, h⟩ := h
      refine x_callV hG (Ky := kJ5_size) (As := []) dX21_branch_9 o5 rfl lk_X21_33 me_J5_size is_J5_size se_J5_size rfl rfl (Nat.le_of_ble_eq_true rfl) (MX.post (m_w_J5_size hG hO g3) ?_)
      rintro _ A3 ⟨v3, rfl, h1⟩
      refine X.xok (fun w3 => ?_)
      replace h := h v3 A3 w3 h1
      change X _ _ _ _ A3 _ _ [.int v3, .int y1_4]
      refine x_iconst_ (v := (1 : Int32)) dX21_branch_12 (by decide) ?_
      refine x_isub dX21_branch_13 ?_
      refine x_icmp_ge (tgt := 77) dX21_branch_14 (by decide) (fun c14 => ?_) (fun c14 => ?_)
      · replace h := h.1 c14
        refine x_aload_n dX21_branch_77 rfl ?_
        obtain ⟨o6, h⟩ := h
        refine x_get (v := va_rf (A3.P p 2)) hG dX21_branch_78 f_X21_25_19 o6 rfl ?_
        refine x_aload_n dX21_branch_81 rfl ?_
        refine x_get (v := va_rf (A3.P p 2)) hG dX21_branch_82 f_X21_25_19 o6 rfl ?_
        obtain ⟨b8, e8, h⟩ := h
        rw [e8]
        obtain ⟨o9, h⟩ := h
        obtain ⟨R7, g7, h⟩ := h
        refine x_callV hG (Ky := kJ5_size) (As := []) dX21_branch_85 o9 rfl lk_X21_33 me_J5_size is_J5_size se_J5_size rfl rfl (Nat.le_of_ble_eq_true rfl) (MX.post (m_w_J5_size hG hO g7) ?_)
        rintro _ A7 ⟨v7, rfl, h1⟩
        refine X.xok (fun w7 => ?_)
        replace h := h v7 A7 w7 h1
        change X _ _ _ _ A7 _ _ [.int v7, .ref b8]
        refine x_iconst_ (v := (1 : Int32)) dX21_branch_88 (by decide) ?_
        refine x_isub dX21_branch_89 ?_
        obtain ⟨o11, h⟩ := h
        obtain ⟨R10, g10, h⟩ := h
        refine x_callV hG (Ky := kJ5_get) (As := [.int (v7 - (1 : Int32))]) dX21_branch_90 o11 rfl lk_X21_3 me_J5_get is_J5_get se_J5_get rfl rfl (Nat.le_of_ble_eq_true rfl) (MX.post (m_w_J5_get hG hO g10) ?_)
        rintro _ A10 ⟨v10, rfl, h1⟩
        refine X.xok (fun w10 => ?_)
        replace h := h v10 A10 w10 h1
        change X _ _ _ _ A10 _ _ [va_rf v10]
        obtain ⟨b12, e12, h⟩ := h
        rw [e12]
        obtain ⟨o13, h⟩ := h
        refine z_castE hG dX21_branch_93 q1413 o13 ?_
        refine x_aloadq_n dX21_branch_96 rfl ?_
        refine x_aloadq_n dX21_branch_97 rfl ?_
        refine x_aloadq_n dX21_branch_98 rfl ?_
        obtain ⟨R14, g14, h⟩ := h
        refine z_disp (pc' := 99) (lv' := [some (.ref p), some (va_rf m), some (va_rf y), some (va_rf n), some (.int y1_4), none]) (st' := []) (P := hX (hV R14) E) (kr := ?_) (kc := ?_)
        rotate_left
        · obtain ⟨c, tc, hc⟩ := o13
          simp only [eCl, List.mem_cons, List.not_mem_nil, or_false] at hc
          intro kr
          rcases hc with rfl | rfl | rfl | rfl | rfl | rfl | rfl | rfl
          · exact x_callU hG (Ky := kX15_branch) (As := [va_rf m, va_rf y, va_rf n]) dX21_branch_99 tc rfl q2069 q2047 (Or.inr ⟨is_X15_branch, _, _, _, me_X15_branch.1⟩) xm_X15_branch me_X15_branch is_X15_branch q2127 rfl rfl (Nat.le_of_ble_eq_true rfl) (MX.post (hK.2.2.2.2.2.1 tc g14) kr)
          · exact x_callU hG (Ky := kX15_branch) (As := [va_rf m, va_rf y, va_rf n]) dX21_branch_99 tc rfl q2069 q2047 (Or.inr ⟨is_X15_branch, _, _, _, me_X15_branch.1⟩) xm_X15_branch me_X15_branch is_X15_branch q2121 rfl rfl (Nat.le_of_ble_eq_true rfl) (MX.post (hK.2.2.2.2.2.2.1 tc g14) kr)
          · exact x_callU hG (Ky := kX15_branch) (As := [va_rf m, va_rf y, va_rf n]) dX21_branch_99 tc rfl q2069 q2047 (Or.inr ⟨is_X15_branch, _, _, _, me_X15_branch.1⟩) xm_X15_branch me_X15_branch is_X15_branch q2126 rfl rfl (Nat.le_of_ble_eq_true rfl) (MX.post (hK.2.2.2.2.2.2.2.1 tc g14) kr)
          · exact x_callU hG (Ky := kX15_branch) (As := [va_rf m, va_rf y, va_rf n]) dX21_branch_99 tc rfl q2069 q2047 (Or.inr ⟨is_X15_branch, _, _, _, me_X15_branch.1⟩) xm_X15_branch me_X15_branch is_X15_branch q2124 rfl rfl (Nat.le_of_ble_eq_true rfl) (MX.post (hK.2.2.2.2.2.2.2.2.1 tc g14) kr)
          · exact x_callU hG (Ky := kX20_branch) (As := [va_rf m, va_rf y, va_rf n]) dX21_branch_99 tc rfl q2069 q2047 (Or.inr ⟨is_X15_branch, _, _, _, me_X15_branch.1⟩) xm_X15_branch me_X20_branch is_X20_branch q2048 rfl rfl (Nat.le_of_ble_eq_true rfl) (MX.post (hK.2.2.2.2.2.2.2.2.2.1 tc g14) kr)
          · exact x_callU hG (Ky := kX21_branch) (As := [va_rf m, va_rf y, va_rf n]) dX21_branch_99 tc rfl q2069 q2047 (Or.inr ⟨is_X15_branch, _, _, _, me_X15_branch.1⟩) xm_X15_branch me_X21_branch is_X21_branch q2125 rfl rfl (Nat.le_of_ble_eq_true rfl) (MX.post (hK.2.2.2.2.2.2.2.2.2.2.1 tc g14) kr)
          · exact x_callU hG (Ky := kX22_branch) (As := [va_rf m, va_rf y, va_rf n]) dX21_branch_99 tc rfl q2069 q2047 (Or.inr ⟨is_X15_branch, _, _, _, me_X15_branch.1⟩) xm_X15_branch me_X22_branch is_X22_branch q2122 rfl rfl (Nat.le_of_ble_eq_true rfl) (MX.post (hK.2.2.2.2.2.2.2.2.2.2.2.1 tc g14) kr)
          · exact x_callU hG (Ky := kX15_branch) (As := [va_rf m, va_rf y, va_rf n]) dX21_branch_99 tc rfl q2069 q2047 (Or.inr ⟨is_X15_branch, _, _, _, me_X15_branch.1⟩) xm_X15_branch me_X15_branch is_X15_branch q2123 rfl rfl (Nat.le_of_ble_eq_true rfl) (MX.post (hK.2.2.2.2.2.2.2.2.2.2.2.2 tc g14) kr)
        rintro _ A14 (⟨rfl, h1⟩ | ⟨x14, rfl, h1⟩)
        rotate_left
        · exact ⟨rfl, Or.inr ⟨_, rfl, h1⟩⟩
        refine X.xok (fun w14 => ?_)
        replace h := h A14 w14 h1
        change X _ _ _ _ A14 _ _ []
        exact x_vret dX21_branch_102 rfl (Or.inl ⟨rfl, h⟩)
      · replace h := h.2 c14
        refine x_aloadq_n dX21_branch_17 rfl ?_
        obtain ⟨b16, e16, h⟩ := h
        rw [e16]
        obtain ⟨o17, h⟩ := h
        obtain ⟨R15, g15, h⟩ := h
        refine x_callV hG (Ky := kX6_block) (As := []) dX21_branch_18 o17 rfl lk_X21_40 me_X6_block is_X6_block se_X6_block rfl rfl (Nat.le_of_ble_eq_true rfl) (MX.post (m_X6_block hG hO g15) ?_)
        rintro _ A15 ⟨v15, rfl, h1⟩
        refine X.xok (fun w15 => ?_)
        replace h := h v15 A15 w15 h1
        change X _ _ _ _ A15 _ _ [va_rf v15]
        refine x_astoreq dX21_branch_21 (by decide) ?_
        refine x_aload_n dX21_branch_23 rfl ?_
        obtain ⟨o18, h⟩ := h
        refine x_get (v := va_rf (A15.P p 2)) hG dX21_branch_24 f_X21_25_19 o18 rfl ?_
        refine x_iload dX21_branch_27 rfl ?_
        obtain ⟨b20, e20, h⟩ := h
        rw [e20]
        obtain ⟨o21, h⟩ := h
        obtain ⟨R19, g19, h⟩ := h
        refine x_callV hG (Ky := kJ5_get) (As := [.int y1_4]) dX21_branch_29 o21 rfl lk_X21_3 me_J5_get is_J5_get se_J5_get rfl rfl (Nat.le_of_ble_eq_true rfl) (MX.post (m_w_J5_get hG hO g19) ?_)
        rintro _ A19 ⟨v19, rfl, h1⟩
        refine X.xok (fun w19 => ?_)
        replace h := h v19 A19 w19 h1
        change X _ _ _ _ A19 _ _ [va_rf v19]
        obtain ⟨b22, e22, h⟩ := h
        rw [e22]
        obtain ⟨o23, h⟩ := h
        refine z_castE hG dX21_branch_32 q1413 o23 ?_
        refine x_aload_n dX21_branch_35 rfl ?_
        refine x_aload_n dX21_branch_36 rfl ?_
        obtain ⟨o24, h⟩ := h
        refine x_get (v := .int (A19.I p 1)) hG dX21_branch_37 f_X21_19_19 o24 rfl ?_
        obtain ⟨J25, g25, h⟩ := h
        have kj25 : ∀ (y25_s0 : Option Nat), J25 y25_s0 → X G (dp + 811) kX21_branch (hX (hV Q) E) A19 49 [some (.ref p), some (.ref b16), some (va_rf y), some (va_rf n), some (.int y1_4), some (va_rf v15)] [va_rf y25_s0, .ref b16, .ref b22] := by
          intro y25_s0 h
          replace h := g25 y25_s0 h
          refine x_aload_n dX21_branch_49 rfl ?_
          refine x_get (v := .int (A19.I p 1)) hG dX21_branch_50 f_X21_19_19 o24 rfl ?_
          obtain ⟨J26, g26, h⟩ := h
          have kj26 : ∀ (y26_s0 : Option Nat), J26 y26_s0 → X G (dp + 811) kX21_branch (hX (hV Q) E) A19 62 [some (.ref p), some (.ref b16), some (va_rf y), some (va_rf n), some (.int y1_4), some (va_rf v15)] [va_rf y26_s0, va_rf y25_s0, .ref b16, .ref b22] := by
            intro y26_s0 h
            replace h := g26 y26_s0 h
            obtain ⟨R27, g27, h⟩ := h
            refine z_disp (pc' := 62) (lv' := [some (.ref p), some (.ref b16), some (va_rf y), some (va_rf n), some (.int y1_4), some (va_rf v15)]) (st' := []) (P := hX (hV R27) E) (kr := ?_) (kc := ?_)
            rotate_left
            · obtain ⟨c, tc, hc⟩ := o23
              simp only [eCl, List.mem_cons, List.not_mem_nil, or_false] at hc
              intro kr
              rcases hc with rfl | rfl | rfl | rfl | rfl | rfl | rfl | rfl
              · exact x_callU hG (Ky := kX15_branch) (As := [.ref b16, va_rf y25_s0, va_rf y26_s0]) dX21_branch_62 tc rfl q2069 q2047 (Or.inr ⟨is_X15_branch, _, _, _, me_X15_branch.1⟩) xm_X15_branch me_X15_branch is_X15_branch q2127 rfl rfl (Nat.le_of_ble_eq_true rfl) (MX.post (hK.2.2.2.2.2.1 tc g27) kr)
              · exact x_callU hG (Ky := kX15_branch) (As := [.ref b16, va_rf y25_s0, va_rf y26_s0]) dX21_branch_62 tc rfl q2069 q2047 (Or.inr ⟨is_X15_branch, _, _, _, me_X15_branch.1⟩) xm_X15_branch me_X15_branch is_X15_branch q2121 rfl rfl (Nat.le_of_ble_eq_true rfl) (MX.post (hK.2.2.2.2.2.2.1 tc g27) kr)
              · exact x_callU hG (Ky := kX15_branch) (As := [.ref b16, va_rf y25_s0, va_rf y26_s0]) dX21_branch_62 tc rfl q2069 q2047 (Or.inr ⟨is_X15_branch, _, _, _, me_X15_branch.1⟩) xm_X15_branch me_X15_branch is_X15_branch q2126 rfl rfl (Nat.le_of_ble_eq_true rfl) (MX.post (hK.2.2.2.2.2.2.2.1 tc g27) kr)
              · exact x_callU hG (Ky := kX15_branch) (As := [.ref b16, va_rf y25_s0, va_rf y26_s0]) dX21_branch_62 tc rfl q2069 q2047 (Or.inr ⟨is_X15_branch, _, _, _, me_X15_branch.1⟩) xm_X15_branch me_X15_branch is_X15_branch q2124 rfl rfl (Nat.le_of_ble_eq_true rfl) (MX.post (hK.2.2.2.2.2.2.2.2.1 tc g27) kr)
              · exact x_callU hG (Ky := kX20_branch) (As := [.ref b16, va_rf y25_s0, va_rf y26_s0]) dX21_branch_62 tc rfl q2069 q2047 (Or.inr ⟨is_X15_branch, _, _, _, me_X15_branch.1⟩) xm_X15_branch me_X20_branch is_X20_branch q2048 rfl rfl (Nat.le_of_ble_eq_true rfl) (MX.post (hK.2.2.2.2.2.2.2.2.2.1 tc g27) kr)
              · exact x_callU hG (Ky := kX21_branch) (As := [.ref b16, va_rf y25_s0, va_rf y26_s0]) dX21_branch_62 tc rfl q2069 q2047 (Or.inr ⟨is_X15_branch, _, _, _, me_X15_branch.1⟩) xm_X15_branch me_X21_branch is_X21_branch q2125 rfl rfl (Nat.le_of_ble_eq_true rfl) (MX.post (hK.2.2.2.2.2.2.2.2.2.2.1 tc g27) kr)
              · exact x_callU hG (Ky := kX22_branch) (As := [.ref b16, va_rf y25_s0, va_rf y26_s0]) dX21_branch_62 tc rfl q2069 q2047 (Or.inr ⟨is_X15_branch, _, _, _, me_X15_branch.1⟩) xm_X15_branch me_X22_branch is_X22_branch q2122 rfl rfl (Nat.le_of_ble_eq_true rfl) (MX.post (hK.2.2.2.2.2.2.2.2.2.2.2.1 tc g27) kr)
              · exact x_callU hG (Ky := kX15_branch) (As := [.ref b16, va_rf y25_s0, va_rf y26_s0]) dX21_branch_62 tc rfl q2069 q2047 (Or.inr ⟨is_X15_branch, _, _, _, me_X15_branch.1⟩) xm_X15_branch me_X15_branch is_X15_branch q2123 rfl rfl (Nat.le_of_ble_eq_true rfl) (MX.post (hK.2.2.2.2.2.2.2.2.2.2.2.2 tc g27) kr)
            rintro _ A27 (⟨rfl, h1⟩ | ⟨x27, rfl, h1⟩)
            rotate_left
            · exact ⟨rfl, Or.inr ⟨_, rfl, h1⟩⟩
            refine X.xok (fun w27 => ?_)
            replace h := h A27 w27 h1
            change X _ _ _ _ A27 _ _ []
            refine x_aload_n dX21_branch_65 rfl ?_
            refine x_aloadq dX21_branch_66 rfl ?_
            obtain ⟨o29, h⟩ := h
            obtain ⟨R28, g28, h⟩ := h
            refine x_callV hG (Ky := kX6_at) (As := [va_rf v15]) dX21_branch_68 o29 rfl lk_X21_53 me_X6_at is_X6_at se_X6_at rfl rfl (Nat.le_of_ble_eq_true rfl) (MX.post (m_X6_at hG hO g28) ?_)
            rintro _ A28 ⟨rfl, h1⟩
            refine X.xok (fun w28 => ?_)
            replace h := h A28 w28 h1
            change X _ _ _ _ A28 _ _ []
            refine x_iinc (v := (y1_4 + (1 : Int32))) dX21_branch_71 rfl rfl (by decide) ?_
            refine X.lvs (lv' := [some (.ref p), some (.ref b16), some (va_rf y), some (va_rf n), some (.int (y1_4 + (1 : Int32))), some (va_rf v15)]) (by generalize n = z; cases z <;> rfl) ?_
            refine x_goto (tgt := 3) dX21_branch_74 (by decide) ?_
            obtain ⟨q1, l1, h⟩ := h
            change X _ _ _ _ _ _ [some (.ref p), some (.ref b16), some (va_rf y), some (va_rf n), some (.int (y1_4 + (1 : Int32))), some (va_rf v15)] []
            exact X.weak (xle_c rfl (xle_c (congrArg (fun z => some (va_rf z)) e16.symm) (xle_c rfl (xle_c rfl (xle_c rfl (xle_n xle_nil)))))) (ih1 q1 l1 (y1_4 + (1 : Int32)) A28 h)
          refine x_if_eq (tgt := 60) dX21_branch_53 (by decide) (fun c53 => ?_) (fun c53 => ?_)
          · replace h := h.1 c53
            refine x_aloadq dX21_branch_60 rfl ?_
            change X _ _ _ _ _ _ [some (.ref p), some (.ref b16), some (va_rf y), some (va_rf n), some (.int y1_4), some (va_rf v15)] [va_rf v15, va_rf y25_s0, .ref b16, .ref b22]
            exact X.weak (xle_c rfl (xle_c rfl (xle_c rfl (xle_c rfl (xle_c rfl (xle_c rfl xle_nil)))))) (kj26 v15 h)
          · replace h := h.2 c53
            refine x_aloadq_n dX21_branch_56 rfl ?_
            refine x_goto (tgt := 62) dX21_branch_57 (by decide) ?_
            change X _ _ _ _ _ _ [some (.ref p), some (.ref b16), some (va_rf y), some (va_rf n), some (.int y1_4), some (va_rf v15)] [va_rf n, va_rf y25_s0, .ref b16, .ref b22]
            exact X.weak (xle_c rfl (xle_c rfl (xle_c rfl (xle_c rfl (xle_c rfl (xle_c rfl xle_nil)))))) (kj26 n h)
        refine x_if_eq (tgt := 48) dX21_branch_40 (by decide) (fun c40 => ?_) (fun c40 => ?_)
        · replace h := h.1 c40
          refine x_aloadq_n dX21_branch_48 rfl ?_
          change X _ _ _ _ _ _ [some (.ref p), some (.ref b16), some (va_rf y), some (va_rf n), some (.int y1_4), some (va_rf v15)] [va_rf y, .ref b16, .ref b22]
          exact X.weak (xle_c rfl (xle_c rfl (xle_c rfl (xle_c rfl (xle_c rfl (xle_c rfl xle_nil)))))) (kj25 y h)
        · replace h := h.2 c40
          refine x_aloadq dX21_branch_43 rfl ?_
          refine x_goto (tgt := 49) dX21_branch_45 (by decide) ?_
          change X _ _ _ _ _ _ [some (.ref p), some (.ref b16), some (va_rf y), some (va_rf n), some (.int y1_4), some (va_rf v15)] [va_rf v15, .ref b16, .ref b22]
          exact X.weak (xle_c rfl (xle_c rfl (xle_c rfl (xle_c rfl (xle_c rfl (xle_c rfl xle_nil)))))) (kj25 v15 h)
  change X _ _ _ _ _ _ [some (.ref p), some (va_rf m), some (va_rf y), some (va_rf n), some (.int (0 : Int32)), none] []
  exact X.weak (xle_c rfl (xle_c rfl (xle_c rfl (xle_c rfl (xle_c rfl (xle_n xle_nil)))))) (kl1 n1 (0 : Int32) A i1)
def w_X16_value (G : xG) (r0 : Nat → Option Nat → Int32 → (Int64 → xA → Prop) → (Nat → xA → Prop) → xA → Prop) (r1 : Nat → Option Nat → Option Nat → Int32 → (Int64 → xA → Prop) → (Nat → xA → Prop) → xA → Prop) (r2 : Nat → Option Nat → Option Nat → Option Nat → (xA → Prop) → (Nat → xA → Prop) → xA → Prop) (r3 : Nat → Option Nat → Option Nat → Option Nat → (xA → Prop) → (Nat → xA → Prop) → xA → Prop) (r4 : Nat → Option Nat → (Int64 → xA → Prop) → (Nat → xA → Prop) → xA → Prop) (r5 : Nat → Option Nat → Option Nat → Option Nat → (xA → Prop) → (Nat → xA → Prop) → xA → Prop) (p : Nat) (m : Option Nat) (Q : Int64 → xA → Prop) (E : Nat → xA → Prop) (A : xA) : Prop := xok G A → A.tg p = 15 ∧ (Q (f_X6_constant (A.I p 1)) A)
theorem m_X16_value (hG : xOK G) (hO : xHO G) {dp : Nat} {r0 : Nat → Option Nat → Int32 → (Int64 → xA → Prop) → (Nat → xA → Prop) → xA → Prop} {r1 : Nat → Option Nat → Option Nat → Int32 → (Int64 → xA → Prop) → (Nat → xA → Prop) → xA → Prop} {r2 : Nat → Option Nat → Option Nat → Option Nat → (xA → Prop) → (Nat → xA → Prop) → xA → Prop} {r3 : Nat → Option Nat → Option Nat → Option Nat → (xA → Prop) → (Nat → xA → Prop) → xA → Prop} {r4 : Nat → Option Nat → (Int64 → xA → Prop) → (Nat → xA → Prop) → xA → Prop} {r5 : Nat → Option Nat → Option Nat → Option Nat → (xA → Prop) → (Nat → xA → Prop) → xA → Prop} (hK : xRC_V G (dp + 810) r0 r1 r2 r3 r4 r5) {p : Nat} {m : Option Nat} {Q : Int64 → xA → Prop} {E : Nat → xA → Prop} {A : xA} (h : w_X16_value G r0 r1 r2 r3 r4 r5 p m Q E A) : MX G (dp + 811) kX16_value [.ref p, va_rf m] A (hX (hL Q) E) := by
  unfold w_X16_value at h
  refine MX.of rfl (by cases m <;> exact Nat.le_of_ble_eq_true rfl) ?_
  refine X.lvs (lv' := [some (.ref p), some (va_rf m)]) (by cases m <;> rfl) ?_
  refine X.xok (fun w0 => ?_)
  replace h := h w0
  refine x_aload_n dX16_value_0 rfl ?_
  obtain ⟨o1, h⟩ := h
  refine x_get (v := .int (A.I p 1)) hG dX16_value_1 f_X16_7_14 o1 rfl ?_
  refine x_callS hG (Ky := kX6_constant) (As := [.int (A.I p 1)]) dX16_value_4 lk_X16_13 me_X6_constant st_X6_constant rfl rfl (Nat.le_of_ble_eq_true rfl) (MX.post (m_X6_constant hG) ?_)
  rintro _ _ ⟨rfl, rfl⟩
  change X _ _ _ _ _ _ _ (.long (f_X6_constant (A.I p 1)) :: _)
  exact x_lret dX16_value_7 rfl (Or.inl ⟨_, rfl, h⟩)
def w_X17_value (G : xG) (r0 : Nat → Option Nat → Int32 → (Int64 → xA → Prop) → (Nat → xA → Prop) → xA → Prop) (r1 : Nat → Option Nat → Option Nat → Int32 → (Int64 → xA → Prop) → (Nat → xA → Prop) → xA → Prop) (r2 : Nat → Option Nat → Option Nat → Option Nat → (xA → Prop) → (Nat → xA → Prop) → xA → Prop) (r3 : Nat → Option Nat → Option Nat → Option Nat → (xA → Prop) → (Nat → xA → Prop) → xA → Prop) (r4 : Nat → Option Nat → (Int64 → xA → Prop) → (Nat → xA → Prop) → xA → Prop) (r5 : Nat → Option Nat → Option Nat → Option Nat → (xA → Prop) → (Nat → xA → Prop) → xA → Prop) (p : Nat) (m : Option Nat) (Q : Int64 → xA → Prop) (E : Nat → xA → Prop) (A : xA) : Prop := xok G A → A.tg p = 16 ∧ (∃ R1 : Int64 → xA → Prop, r0 p m (1 : Int32) R1 E A ∧ (∀ (v1 : Int64) (A1 : xA), xok G A1 → R1 v1 A1 → (Q v1 A1)))
theorem m_X17_value (hG : xOK G) (hO : xHO G) {dp : Nat} {r0 : Nat → Option Nat → Int32 → (Int64 → xA → Prop) → (Nat → xA → Prop) → xA → Prop} {r1 : Nat → Option Nat → Option Nat → Int32 → (Int64 → xA → Prop) → (Nat → xA → Prop) → xA → Prop} {r2 : Nat → Option Nat → Option Nat → Option Nat → (xA → Prop) → (Nat → xA → Prop) → xA → Prop} {r3 : Nat → Option Nat → Option Nat → Option Nat → (xA → Prop) → (Nat → xA → Prop) → xA → Prop} {r4 : Nat → Option Nat → (Int64 → xA → Prop) → (Nat → xA → Prop) → xA → Prop} {r5 : Nat → Option Nat → Option Nat → Option Nat → (xA → Prop) → (Nat → xA → Prop) → xA → Prop} (hK : xRC_V G (dp + 810) r0 r1 r2 r3 r4 r5) {p : Nat} {m : Option Nat} {Q : Int64 → xA → Prop} {E : Nat → xA → Prop} {A : xA} (h : w_X17_value G r0 r1 r2 r3 r4 r5 p m Q E A) : MX G (dp + 811) kX17_value [.ref p, va_rf m] A (hX (hL Q) E) := by
  unfold w_X17_value at h
  refine MX.of rfl (by cases m <;> exact Nat.le_of_ble_eq_true rfl) ?_
  refine X.lvs (lv' := [some (.ref p), some (va_rf m)]) (by cases m <;> rfl) ?_
  refine X.xok (fun w0 => ?_)
  replace h := h w0
  refine x_aload_n dX17_value_0 rfl ?_
  refine x_aloadq_n dX17_value_1 rfl ?_
  refine x_iconst_ (v := (1 : Int32)) dX17_value_2 (by decide) ?_
  obtain ⟨o2, h⟩ := h
  obtain ⟨R1, g1, h⟩ := h
  refine x_callV hG (Ky := kX17_call) (As := [va_rf m, .int (1 : Int32)]) dX17_value_3 o2 rfl lk_X17_35 me_X17_call is_X17_call se_X17_call rfl rfl (Nat.le_of_ble_eq_true rfl) (MX.post (hK.1 g1) ?_)
  rintro _ A1 (⟨v1, rfl, h1⟩ | ⟨x1, rfl, h1⟩)
  rotate_left
  · exact ⟨rfl, Or.inr ⟨_, rfl, h1⟩⟩
  refine X.xok (fun w1 => ?_)
  replace h := h v1 A1 w1 h1
  change X _ _ _ _ A1 _ _ [.long v1]
  exact x_lret dX17_value_6 rfl (Or.inl ⟨_, rfl, h⟩)
def w_X18_value (G : xG) (r0 : Nat → Option Nat → Int32 → (Int64 → xA → Prop) → (Nat → xA → Prop) → xA → Prop) (r1 : Nat → Option Nat → Option Nat → Int32 → (Int64 → xA → Prop) → (Nat → xA → Prop) → xA → Prop) (r2 : Nat → Option Nat → Option Nat → Option Nat → (xA → Prop) → (Nat → xA → Prop) → xA → Prop) (r3 : Nat → Option Nat → Option Nat → Option Nat → (xA → Prop) → (Nat → xA → Prop) → xA → Prop) (r4 : Nat → Option Nat → (Int64 → xA → Prop) → (Nat → xA → Prop) → xA → Prop) (r5 : Nat → Option Nat → Option Nat → Option Nat → (xA → Prop) → (Nat → xA → Prop) → xA → Prop) (p : Nat) (m : Option Nat) (Q : Int64 → xA → Prop) (E : Nat → xA → Prop) (A : xA) : Prop := xok G A → A.tg p = 17 ∧ (∃ b3 : Nat, m = some b3 ∧ (A.tg b3 = 6 ∧ (∃ R2 : Option Nat → xA → Prop, w_X6_known G b3 (A.I p 1) (A.I p 2) R2 E A ∧ (∀ (v2 : Option Nat) (A2 : xA), xok G A2 → R2 v2 A2 → (A2.tg p = 17 ∧ ((((A2.P p 4) = none → ∃ b23 : Nat, v2 = some b23 ∧ (A2.tg b23 = 33 ∧ (∃ R22 : Int32 → xA → Prop, w_X34_isArray G b23 R22 A2 ∧ (∀ (v22 : Int32) (A22 : xA), xok G A22 → (v22 = 0 ∨ v22 = 1) → R22 v22 A22 → (((v22 = 0 → A22.tg b23 = 33 ∧ ((((A22.I b23 1) = (6 : Int32) → A22.tg p = 17 ∧ (A22.tg b3 = 6 ∧ (∃ R39 : Option Nat → xA → Prop, w_X6_fault G b3 (6 : Int32) (A22.I p 2) R39 A22 ∧ (∀ (v39 : Option Nat) (A39 : xA), xok G A39 → R39 v39 A39 → (∃ b41 : Nat, v39 = some b41 ∧ (E b41 A39)))))) ∧ (¬ (A22.I b23 1) = (6 : Int32) → A22.tg p = 17 ∧ ((((A22.P p 4) = none → A22.tg b3 = 6 ∧ (∃ R36 : Int64 → xA → Prop, w_X6_load G b3 (some b23) R36 A22 ∧ (∀ (v36 : Int64) (A36 : xA), xok G A36 → R36 v36 A36 → (Q v36 A36)))) ∧ (∀ b31 : Nat, (A22.P p 4) = some b31 → A22.tg b3 = 6 ∧ (∃ R32 : Int64 → xA → Prop, r1 b3 (some b23) (some b31) (A22.I p 3) R32 E A22 ∧ (∀ (v32 : Int64) (A32 : xA), xok G A32 → R32 v32 A32 → (A32.tg b3 = 6 ∧ (∃ R34 : Int64 → xA → Prop, w_X6_element G b3 (some b23) v32 R34 A32 ∧ (∀ (v34 : Int64) (A34 : xA), xok G A34 → R34 v34 A34 → (Q v34 A34))))))))))))) ∧ (¬ v22 = 0 → A22.tg p = 17 ∧ (A22.tg b3 = 6 ∧ (∃ R26 : Option Nat → xA → Prop, w_X6_fault G b3 (6 : Int32) (A22.I p 2) R26 A22 ∧ (∀ (v26 : Option Nat) (A26 : xA), xok G A26 → R26 v26 A26 → (∃ b28 : Nat, v26 = some b28 ∧ (E b28 A26)))))))))))) ∧ (∀ b6 : Nat, (A2.P p 4) = some b6 → ∃ b8 : Nat, v2 = some b8 ∧ (A2.tg b8 = 33 ∧ (∃ R7 : Int32 → xA → Prop, w_X34_isArray G b8 R7 A2 ∧ (∀ (v7 : Int32) (A7 : xA), xok G A7 → (v7 = 0 ∨ v7 = 1) → R7 v7 A7 → (((v7 = 0 → A7.tg p = 17 ∧ (A7.tg b3 = 6 ∧ (∃ R19 : Option Nat → xA → Prop, w_X6_fault G b3 (6 : Int32) (A7.I p 2) R19 A7 ∧ (∀ (v19 : Option Nat) (A19 : xA), xok G A19 → R19 v19 A19 → (∃ b21 : Nat, v19 = some b21 ∧ (E b21 A19)))))) ∧ (¬ v7 = 0 → A7.tg p = 17 ∧ ((((A7.P p 4) = none → A7.tg b3 = 6 ∧ (∃ R16 : Int64 → xA → Prop, w_X6_load G b3 (some b8) R16 A7 ∧ (∀ (v16 : Int64) (A16 : xA), xok G A16 → R16 v16 A16 → (Q v16 A16)))) ∧ (∀ b11 : Nat, (A7.P p 4) = some b11 → A7.tg b3 = 6 ∧ (∃ R12 : Int64 → xA → Prop, r1 b3 (some b8) (some b11) (A7.I p 3) R12 E A7 ∧ (∀ (v12 : Int64) (A12 : xA), xok G A12 → R12 v12 A12 → (A12.tg b3 = 6 ∧ (∃ R14 : Int64 → xA → Prop, w_X6_element G b3 (some b8) v12 R14 A12 ∧ (∀ (v14 : Int64) (A14 : xA), xok G A14 → R14 v14 A14 → (Q v14 A14)))))))))))))))))))))))
theorem m_X18_value (hG : xOK G) (hO : xHO G) {dp : Nat} {r0 : Nat → Option Nat → Int32 → (Int64 → xA → Prop) → (Nat → xA → Prop) → xA → Prop} {r1 : Nat → Option Nat → Option Nat → Int32 → (Int64 → xA → Prop) → (Nat → xA → Prop) → xA → Prop} {r2 : Nat → Option Nat → Option Nat → Option Nat → (xA → Prop) → (Nat → xA → Prop) → xA → Prop} {r3 : Nat → Option Nat → Option Nat → Option Nat → (xA → Prop) → (Nat → xA → Prop) → xA → Prop} {r4 : Nat → Option Nat → (Int64 → xA → Prop) → (Nat → xA → Prop) → xA → Prop} {r5 : Nat → Option Nat → Option Nat → Option Nat → (xA → Prop) → (Nat → xA → Prop) → xA → Prop} (hK : xRC_V G (dp + 810) r0 r1 r2 r3 r4 r5) {p : Nat} {m : Option Nat} {Q : Int64 → xA → Prop} {E : Nat → xA → Prop} {A : xA} (h : w_X18_value G r0 r1 r2 r3 r4 r5 p m Q E A) : MX G (dp + 811) kX18_value [.ref p, va_rf m] A (hX (hL Q) E) := by
  unfold w_X18_value at h
  refine MX.of rfl (by cases m <;> exact Nat.le_of_ble_eq_true rfl) ?_
  refine X.lvs (lv' := [some (.ref p), some (va_rf m), none]) (by cases m <;> rfl) ?_
  refine X.xok (fun w0 => ?_)
  replace h := h w0
  refine x_aloadq_n dX18_value_0 rfl ?_
  refine x_aload_n dX18_value_1 rfl ?_
  obtain ⟨o1, h⟩ := h
  refine x_get (v := .int (A.I p 1)) hG dX18_value_2 f_X18_15_16 o1 rfl ?_
  refine x_aload_n dX18_value_5 rfl ?_
  refine x_get (v := .int (A.I p 2)) hG dX18_value_6 f_X18_9_16 o1 rfl ?_
  obtain ⟨b3, e3, h⟩ := h
  rw [e3]
  obtain ⟨o4, h⟩ := h
  obtain ⟨R2, g2, h⟩ := h
  refine x_callV hG (Ky := kX6_known) (As := [.int (A.I p 1), .int (A.I p 2)]) dX18_value_9 o4 rfl lk_X18_25 me_X6_known is_X6_known se_X6_known rfl rfl (Nat.le_of_ble_eq_true rfl) (MX.post (m_X6_known hG hO g2) ?_)
  rintro _ A2 (⟨v2, rfl, h1⟩ | ⟨x2, rfl, h1⟩)
  rotate_left
  · exact ⟨rfl, Or.inr ⟨_, rfl, h1⟩⟩
  refine X.xok (fun w2 => ?_)
  replace h := h v2 A2 w2 h1
  change X _ _ _ _ A2 _ _ [va_rf v2]
  refine x_astoreq_n dX18_value_12 (by decide) ?_
  refine x_aload_n dX18_value_13 rfl ?_
  obtain ⟨o5, h⟩ := h
  refine x_get (v := va_rf (A2.P p 4)) hG dX18_value_14 f_X18_18_16 o5 rfl ?_
  refine x_ifnonnull (tgt := 39) dX18_value_17 (by decide) (fun b6 c17 => ?_) (fun c17 => ?_)
  · replace h := h.2 b6 c17
    refine x_aloadq_n dX18_value_39 rfl ?_
    obtain ⟨b8, e8, h⟩ := h
    rw [e8]
    obtain ⟨o9, h⟩ := h
    obtain ⟨R7, g7, h⟩ := h
    refine x_callV hG (Ky := kX34_isArray) (As := []) dX18_value_40 o9 rfl lk_X18_43 me_X34_isArray is_X34_isArray se_X34_isArray rfl rfl (Nat.le_of_ble_eq_true rfl) (MX.post (m_X34_isArray hG hO g7) ?_)
    rintro _ A7 ⟨v7, rfl, zv7, h1⟩
    refine X.xok (fun w7 => ?_)
    replace h := h v7 A7 w7 zv7 h1
    change X _ _ _ _ A7 _ _ [.int v7]
    refine x_if_ne (tgt := 57) dX18_value_43 (by decide) (fun c43 => ?_) (fun c43 => ?_)
    · replace h := h.2 c43
      refine x_aload_n dX18_value_57 rfl ?_
      obtain ⟨o10, h⟩ := h
      refine x_get (v := va_rf (A7.P p 4)) hG dX18_value_58 f_X18_18_16 o10 rfl ?_
      refine x_ifnonnull (tgt := 72) dX18_value_61 (by decide) (fun b11 c61 => ?_) (fun c61 => ?_)
      · replace h := h.2 b11 c61
        refine x_aload_n dX18_value_72 rfl ?_
        refine x_aload_n dX18_value_73 rfl ?_
        refine x_aload_n dX18_value_74 rfl ?_
        refine x_aload_n dX18_value_75 rfl ?_
        refine x_aload_n dX18_value_76 rfl ?_
        refine x_get (v := .ref b11) hG dX18_value_77 f_X18_18_16 o10 (congrArg va_rf c61) ?_
        refine x_aload_n dX18_value_80 rfl ?_
        refine x_get (v := .int (A7.I p 3)) hG dX18_value_81 f_X18_22_16 o10 rfl ?_
        obtain ⟨o13, h⟩ := h
        obtain ⟨R12, g12, h⟩ := h
        refine x_callV hG (Ky := kX6_index) (As := [.ref b8, .ref b11, .int (A7.I p 3)]) dX18_value_84 o13 rfl lk_X18_51 me_X6_index is_X6_index se_X6_index rfl rfl (Nat.le_of_ble_eq_true rfl) (MX.post (hK.2.1 g12) ?_)
        rintro _ A12 (⟨v12, rfl, h1⟩ | ⟨x12, rfl, h1⟩)
        rotate_left
        · exact ⟨rfl, Or.inr ⟨_, rfl, h1⟩⟩
        refine X.xok (fun w12 => ?_)
        replace h := h v12 A12 w12 h1
        change X _ _ _ _ A12 _ _ [.long v12, .ref b8, .ref b3]
        obtain ⟨o15, h⟩ := h
        obtain ⟨R14, g14, h⟩ := h
        refine x_callV hG (Ky := kX6_element) (As := [.ref b8, .long v12]) dX18_value_87 o15 rfl lk_X18_54 me_X6_element is_X6_element se_X6_element rfl rfl (Nat.le_of_ble_eq_true rfl) (MX.post (m_X6_element hG hO g14) ?_)
        rintro _ A14 ⟨v14, rfl, h1⟩
        refine X.xok (fun w14 => ?_)
        replace h := h v14 A14 w14 h1
        change X _ _ _ _ A14 _ _ [.long v14]
        exact x_lret dX18_value_90 rfl (Or.inl ⟨_, rfl, h⟩)
      · replace h := h.1 c61
        refine x_aload_n dX18_value_64 rfl ?_
        refine x_aload_n dX18_value_65 rfl ?_
        obtain ⟨o17, h⟩ := h
        obtain ⟨R16, g16, h⟩ := h
        refine x_callV hG (Ky := kX6_load) (As := [.ref b8]) dX18_value_66 o17 rfl lk_X18_47 me_X6_load is_X6_load se_X6_load rfl rfl (Nat.le_of_ble_eq_true rfl) (MX.post (m_X6_load hG hO g16) ?_)
        rintro _ A16 ⟨v16, rfl, h1⟩
        refine X.xok (fun w16 => ?_)
        replace h := h v16 A16 w16 h1
        change X _ _ _ _ A16 _ _ [.long v16]
        refine x_goto (tgt := 90) dX18_value_69 (by decide) ?_
        exact x_lret dX18_value_90 rfl (Or.inl ⟨_, rfl, h⟩)
    · replace h := h.1 c43
      refine x_aload_n dX18_value_46 rfl ?_
      refine x_bipush_ (v := (6 : Int32)) dX18_value_47 (by decide) ?_
      refine x_aload_n dX18_value_49 rfl ?_
      obtain ⟨o18, h⟩ := h
      refine x_get (v := .int (A7.I p 2)) hG dX18_value_50 f_X18_9_16 o18 rfl ?_
      obtain ⟨o20, h⟩ := h
      obtain ⟨R19, g19, h⟩ := h
      refine x_callV hG (Ky := kX6_fault) (As := [.int (6 : Int32), .int (A7.I p 2)]) dX18_value_53 o20 rfl lk_X18_36 me_X6_fault is_X6_fault se_X6_fault rfl rfl (Nat.le_of_ble_eq_true rfl) (MX.post (m_X6_fault hG hO g19) ?_)
      rintro _ A19 ⟨v19, rfl, h1⟩
      refine X.xok (fun w19 => ?_)
      replace h := h v19 A19 w19 h1
      change X _ _ _ _ A19 _ _ [va_rf v19]
      obtain ⟨b21, e21, h⟩ := h
      rw [e21]
      exact x_athrow dX18_value_56 rfl (Or.inr ⟨_, rfl, h⟩)
  · replace h := h.1 c17
    refine x_aloadq_n dX18_value_20 rfl ?_
    obtain ⟨b23, e23, h⟩ := h
    rw [e23]
    obtain ⟨o24, h⟩ := h
    obtain ⟨R22, g22, h⟩ := h
    refine x_callV hG (Ky := kX34_isArray) (As := []) dX18_value_21 o24 rfl lk_X18_43 me_X34_isArray is_X34_isArray se_X34_isArray rfl rfl (Nat.le_of_ble_eq_true rfl) (MX.post (m_X34_isArray hG hO g22) ?_)
    rintro _ A22 ⟨v22, rfl, zv22, h1⟩
    refine X.xok (fun w22 => ?_)
    replace h := h v22 A22 w22 zv22 h1
    change X _ _ _ _ A22 _ _ [.int v22]
    refine x_if_ne (tgt := 46) dX18_value_24 (by decide) (fun c24 => ?_) (fun c24 => ?_)
    · replace h := h.2 c24
      refine x_aload_n dX18_value_46 rfl ?_
      refine x_bipush_ (v := (6 : Int32)) dX18_value_47 (by decide) ?_
      refine x_aload_n dX18_value_49 rfl ?_
      obtain ⟨o25, h⟩ := h
      refine x_get (v := .int (A22.I p 2)) hG dX18_value_50 f_X18_9_16 o25 rfl ?_
      obtain ⟨o27, h⟩ := h
      obtain ⟨R26, g26, h⟩ := h
      refine x_callV hG (Ky := kX6_fault) (As := [.int (6 : Int32), .int (A22.I p 2)]) dX18_value_53 o27 rfl lk_X18_36 me_X6_fault is_X6_fault se_X6_fault rfl rfl (Nat.le_of_ble_eq_true rfl) (MX.post (m_X6_fault hG hO g26) ?_)
      rintro _ A26 ⟨v26, rfl, h1⟩
      refine X.xok (fun w26 => ?_)
      replace h := h v26 A26 w26 h1
      change X _ _ _ _ A26 _ _ [va_rf v26]
      obtain ⟨b28, e28, h⟩ := h
      rw [e28]
      exact x_athrow dX18_value_56 rfl (Or.inr ⟨_, rfl, h⟩)
    · replace h := h.1 c24
      refine x_aload_n dX18_value_27 rfl ?_
      obtain ⟨o29, h⟩ := h
      refine x_get (v := .int (A22.I b23 1)) hG dX18_value_28 f_X18_31_32 o29 rfl ?_
      refine x_bipush_ (v := (6 : Int32)) dX18_value_31 (by decide) ?_
      refine x_icmp_ne (tgt := 57) dX18_value_33 (by decide) (fun c33 => ?_) (fun c33 => ?_)
      · replace h := h.2 c33
        refine x_aload_n dX18_value_57 rfl ?_
        obtain ⟨o30, h⟩ := h
        refine x_get (v := va_rf (A22.P p 4)) hG dX18_value_58 f_X18_18_16 o30 rfl ?_
        refine x_ifnonnull (tgt := 72) dX18_value_61 (by decide) (fun b31 c61 => ?_) (fun c61 => ?_)
        · replace h := h.2 b31 c61
          refine x_aload_n dX18_value_72 rfl ?_
          refine x_aload_n dX18_value_73 rfl ?_
          refine x_aload_n dX18_value_74 rfl ?_
          refine x_aload_n dX18_value_75 rfl ?_
          refine x_aload_n dX18_value_76 rfl ?_
          refine x_get (v := .ref b31) hG dX18_value_77 f_X18_18_16 o30 (congrArg va_rf c61) ?_
          refine x_aload_n dX18_value_80 rfl ?_
          refine x_get (v := .int (A22.I p 3)) hG dX18_value_81 f_X18_22_16 o30 rfl ?_
          obtain ⟨o33, h⟩ := h
          obtain ⟨R32, g32, h⟩ := h
          refine x_callV hG (Ky := kX6_index) (As := [.ref b23, .ref b31, .int (A22.I p 3)]) dX18_value_84 o33 rfl lk_X18_51 me_X6_index is_X6_index se_X6_index rfl rfl (Nat.le_of_ble_eq_true rfl) (MX.post (hK.2.1 g32) ?_)
          rintro _ A32 (⟨v32, rfl, h1⟩ | ⟨x32, rfl, h1⟩)
          rotate_left
          · exact ⟨rfl, Or.inr ⟨_, rfl, h1⟩⟩
          refine X.xok (fun w32 => ?_)
          replace h := h v32 A32 w32 h1
          change X _ _ _ _ A32 _ _ [.long v32, .ref b23, .ref b3]
          obtain ⟨o35, h⟩ := h
          obtain ⟨R34, g34, h⟩ := h
          refine x_callV hG (Ky := kX6_element) (As := [.ref b23, .long v32]) dX18_value_87 o35 rfl lk_X18_54 me_X6_element is_X6_element se_X6_element rfl rfl (Nat.le_of_ble_eq_true rfl) (MX.post (m_X6_element hG hO g34) ?_)
          rintro _ A34 ⟨v34, rfl, h1⟩
          refine X.xok (fun w34 => ?_)
          replace h := h v34 A34 w34 h1
          change X _ _ _ _ A34 _ _ [.long v34]
          exact x_lret dX18_value_90 rfl (Or.inl ⟨_, rfl, h⟩)
        · replace h := h.1 c61
          refine x_aload_n dX18_value_64 rfl ?_
          refine x_aload_n dX18_value_65 rfl ?_
          obtain ⟨o37, h⟩ := h
          obtain ⟨R36, g36, h⟩ := h
          refine x_callV hG (Ky := kX6_load) (As := [.ref b23]) dX18_value_66 o37 rfl lk_X18_47 me_X6_load is_X6_load se_X6_load rfl rfl (Nat.le_of_ble_eq_true rfl) (MX.post (m_X6_load hG hO g36) ?_)
          rintro _ A36 ⟨v36, rfl, h1⟩
          refine X.xok (fun w36 => ?_)
          replace h := h v36 A36 w36 h1
          change X _ _ _ _ A36 _ _ [.long v36]
          refine x_goto (tgt := 90) dX18_value_69 (by decide) ?_
          exact x_lret dX18_value_90 rfl (Or.inl ⟨_, rfl, h⟩)
      · replace h := h.1 c33
        refine x_goto (tgt := 46) dX18_value_36 (by decide) ?_
        refine x_aload_n dX18_value_46 rfl ?_
        refine x_bipush_ (v := (6 : Int32)) dX18_value_47 (by decide) ?_
        refine x_aload_n dX18_value_49 rfl ?_
        obtain ⟨o38, h⟩ := h
        refine x_get (v := .int (A22.I p 2)) hG dX18_value_50 f_X18_9_16 o38 rfl ?_
        obtain ⟨o40, h⟩ := h
        obtain ⟨R39, g39, h⟩ := h
        refine x_callV hG (Ky := kX6_fault) (As := [.int (6 : Int32), .int (A22.I p 2)]) dX18_value_53 o40 rfl lk_X18_36 me_X6_fault is_X6_fault se_X6_fault rfl rfl (Nat.le_of_ble_eq_true rfl) (MX.post (m_X6_fault hG hO g39) ?_)
        rintro _ A39 ⟨v39, rfl, h1⟩
        refine X.xok (fun w39 => ?_)
        replace h := h v39 A39 w39 h1
        change X _ _ _ _ A39 _ _ [va_rf v39]
        obtain ⟨b41, e41, h⟩ := h
        rw [e41]
        exact x_athrow dX18_value_56 rfl (Or.inr ⟨_, rfl, h⟩)
def w_X19_value (G : xG) (r0 : Nat → Option Nat → Int32 → (Int64 → xA → Prop) → (Nat → xA → Prop) → xA → Prop) (r1 : Nat → Option Nat → Option Nat → Int32 → (Int64 → xA → Prop) → (Nat → xA → Prop) → xA → Prop) (r2 : Nat → Option Nat → Option Nat → Option Nat → (xA → Prop) → (Nat → xA → Prop) → xA → Prop) (r3 : Nat → Option Nat → Option Nat → Option Nat → (xA → Prop) → (Nat → xA → Prop) → xA → Prop) (r4 : Nat → Option Nat → (Int64 → xA → Prop) → (Nat → xA → Prop) → xA → Prop) (r5 : Nat → Option Nat → Option Nat → Option Nat → (xA → Prop) → (Nat → xA → Prop) → xA → Prop) (p : Nat) (m : Option Nat) (Q : Int64 → xA → Prop) (E : Nat → xA → Prop) (A : xA) : Prop := xok G A → ∃ b2 : Nat, m = some b2 ∧ (A.tg b2 = 6 ∧ (∃ R1 : Int64 → xA → Prop, w_X6_get G b2 R1 A ∧ (∀ (v1 : Int64) (A1 : xA), xok G A1 → R1 v1 A1 → (Q v1 A1))))
theorem m_X19_value (hG : xOK G) (hO : xHO G) {dp : Nat} {r0 : Nat → Option Nat → Int32 → (Int64 → xA → Prop) → (Nat → xA → Prop) → xA → Prop} {r1 : Nat → Option Nat → Option Nat → Int32 → (Int64 → xA → Prop) → (Nat → xA → Prop) → xA → Prop} {r2 : Nat → Option Nat → Option Nat → Option Nat → (xA → Prop) → (Nat → xA → Prop) → xA → Prop} {r3 : Nat → Option Nat → Option Nat → Option Nat → (xA → Prop) → (Nat → xA → Prop) → xA → Prop} {r4 : Nat → Option Nat → (Int64 → xA → Prop) → (Nat → xA → Prop) → xA → Prop} {r5 : Nat → Option Nat → Option Nat → Option Nat → (xA → Prop) → (Nat → xA → Prop) → xA → Prop} (hK : xRC_V G (dp + 810) r0 r1 r2 r3 r4 r5) {p : Nat} {m : Option Nat} {Q : Int64 → xA → Prop} {E : Nat → xA → Prop} {A : xA} (h : w_X19_value G r0 r1 r2 r3 r4 r5 p m Q E A) : MX G (dp + 811) kX19_value [.ref p, va_rf m] A (hX (hL Q) E) := by
  unfold w_X19_value at h
  refine MX.of rfl (by cases m <;> exact Nat.le_of_ble_eq_true rfl) ?_
  refine X.lvs (lv' := [some (.ref p), some (va_rf m)]) (by cases m <;> rfl) ?_
  refine X.xok (fun w0 => ?_)
  replace h := h w0
  refine x_aloadq_n dX19_value_0 rfl ?_
  obtain ⟨b2, e2, h⟩ := h
  rw [e2]
  obtain ⟨o3, h⟩ := h
  obtain ⟨R1, g1, h⟩ := h
  refine x_callV hG (Ky := kX6_get) (As := []) dX19_value_1 o3 rfl lk_X19_19 me_X6_get is_X6_get se_X6_get rfl rfl (Nat.le_of_ble_eq_true rfl) (MX.post (m_X6_get hG hO g1) ?_)
  rintro _ A1 ⟨v1, rfl, h1⟩
  refine X.xok (fun w1 => ?_)
  replace h := h v1 A1 w1 h1
  change X _ _ _ _ A1 _ _ [.long v1]
  exact x_lret dX19_value_4 rfl (Or.inl ⟨_, rfl, h⟩)
def w_X20_value (G : xG) (r0 : Nat → Option Nat → Int32 → (Int64 → xA → Prop) → (Nat → xA → Prop) → xA → Prop) (r1 : Nat → Option Nat → Option Nat → Int32 → (Int64 → xA → Prop) → (Nat → xA → Prop) → xA → Prop) (r2 : Nat → Option Nat → Option Nat → Option Nat → (xA → Prop) → (Nat → xA → Prop) → xA → Prop) (r3 : Nat → Option Nat → Option Nat → Option Nat → (xA → Prop) → (Nat → xA → Prop) → xA → Prop) (r4 : Nat → Option Nat → (Int64 → xA → Prop) → (Nat → xA → Prop) → xA → Prop) (r5 : Nat → Option Nat → Option Nat → Option Nat → (xA → Prop) → (Nat → xA → Prop) → xA → Prop) (p : Nat) (m : Option Nat) (Q : Int64 → xA → Prop) (E : Nat → xA → Prop) (A : xA) : Prop := xok G A → A.tg p = 19 ∧ (∃ b2 : Nat, (A.P p 2) = some b2 ∧ (xE A b2 ∧ (∃ R4 : Int64 → xA → Prop, r4 b2 m R4 E A ∧ (∀ (v4 : Int64) (A4 : xA), xok G A4 → R4 v4 A4 → (A4.tg p = 19 ∧ (∃ b6 : Nat, (A4.P p 1) = some b6 ∧ (A4.tg b6 = 200 ∧ (∃ L8 : Nat → Int64 → Int32 → xA → Prop, (∃ n8 : Nat, L8 n8 v4 ((nI (A4.ln b6)) - (1 : Int32)) A4) ∧ (∀ (n8 : Nat) (y8_2 : Int64) (y8_4 : Int32) (A8 : xA), L8 n8 y8_2 y8_4 A8 → ((y8_4 < 0 → Q y8_2 A8) ∧ (¬ y8_4 < 0 → A8.tg p = 19 ∧ (∃ b10 : Nat, (A8.P p 1) = some b10 ∧ (A8.tg b10 = 200 ∧ (vp_in y8_4 (A8.ln b10) ∧ (∃ J13 : Int64 → xA → Prop, (∀ (y13_s0 : Int64) (A13 : xA), J13 y13_s0 A13 → (∃ q8 : Nat, q8 < n8 ∧ L8 q8 y13_s0 (y8_4 + (-1 : Int32)) A13)) ∧ (((A8.I b10 (ix y8_4)) = (79 : Int32) → ∃ b18 : Nat, m = some b18 ∧ (A8.tg b18 = 6 ∧ (∃ R17 : Int64 → xA → Prop, g_A_0 G b18 (1 : Int32) (f_X6_constant (0 : Int32)) y8_2 R17 A8 ∧ (∀ (v17 : Int64) (A17 : xA), xok G A17 → R17 v17 A17 → (J13 v17 A17))))) ∧ (¬ (A8.I b10 (ix y8_4)) = (79 : Int32) → ∃ b15 : Nat, m = some b15 ∧ (A8.tg b15 = 6 ∧ (∃ R14 : Int64 → xA → Prop, g_A_0 G b15 (f_X20_act (A8.I b10 (ix y8_4))) y8_2 (f_X6_constant (if (A8.I b10 (ix y8_4)) = (83 : Int32) then (-1 : Int32) else (0 : Int32))) R14 A8 ∧ (∀ (v14 : Int64) (A14 : xA), xok G A14 → R14 v14 A14 → (J13 v14 A14)))))))))))))))))))))
theorem m_X20_value (hG : xOK G) (hO : xHO G) {dp : Nat} {r0 : Nat → Option Nat → Int32 → (Int64 → xA → Prop) → (Nat → xA → Prop) → xA → Prop} {r1 : Nat → Option Nat → Option Nat → Int32 → (Int64 → xA → Prop) → (Nat → xA → Prop) → xA → Prop} {r2 : Nat → Option Nat → Option Nat → Option Nat → (xA → Prop) → (Nat → xA → Prop) → xA → Prop} {r3 : Nat → Option Nat → Option Nat → Option Nat → (xA → Prop) → (Nat → xA → Prop) → xA → Prop} {r4 : Nat → Option Nat → (Int64 → xA → Prop) → (Nat → xA → Prop) → xA → Prop} {r5 : Nat → Option Nat → Option Nat → Option Nat → (xA → Prop) → (Nat → xA → Prop) → xA → Prop} (hK : xRC_V G (dp + 810) r0 r1 r2 r3 r4 r5) {p : Nat} {m : Option Nat} {Q : Int64 → xA → Prop} {E : Nat → xA → Prop} {A : xA} (h : w_X20_value G r0 r1 r2 r3 r4 r5 p m Q E A) : MX G (dp + 811) kX20_value [.ref p, va_rf m] A (hX (hL Q) E) := by
  unfold w_X20_value at h
  refine MX.of rfl (by cases m <;> exact Nat.le_of_ble_eq_true rfl) ?_
  refine X.lvs (lv' := [some (.ref p), some (va_rf m), none, none, none]) (by cases m <;> rfl) ?_
  refine X.xok (fun w0 => ?_)
  replace h := h w0
  refine x_aload_n dX20_value_0 rfl ?_
  obtain ⟨o1, h⟩ := h
  refine x_get (v := va_rf (A.P p 2)) hG dX20_value_1 f_X20_15_18 o1 rfl ?_
  refine x_aloadq_n dX20_value_4 rfl ?_
  obtain ⟨b2, e2, h⟩ := h
  rw [e2]
  obtain ⟨o3, h⟩ := h
  obtain ⟨R4, g4, h⟩ := h
  refine z_disp (pc' := 5) (lv' := [some (.ref p), some (va_rf m), none, none, none]) (st' := []) (P := hX (hL R4) E) (kr := ?_) (kc := ?_)
  rotate_left
  · obtain ⟨c, tc, hc⟩ := o3
    simp only [eCl, List.mem_cons, List.not_mem_nil, or_false] at hc
    intro kr
    rcases hc with rfl | rfl | rfl | rfl | rfl | rfl | rfl | rfl
    · exact x_callU hG (Ky := kX16_value) (As := [va_rf m]) dX20_value_5 tc rfl q2018 q2014 (Or.inl q2013) xm_X15_value me_X16_value is_X16_value q2200 rfl rfl (Nat.le_of_ble_eq_true rfl) (MX.post (hK.2.2.2.2.1.1 tc g4) kr)
    · exact x_callU hG (Ky := kX17_value) (As := [va_rf m]) dX20_value_5 tc rfl q2018 q2014 (Or.inl q2013) xm_X15_value me_X17_value is_X17_value q2194 rfl rfl (Nat.le_of_ble_eq_true rfl) (MX.post (hK.2.2.2.2.1.2.1 tc g4) kr)
    · exact x_callU hG (Ky := kX18_value) (As := [va_rf m]) dX20_value_5 tc rfl q2018 q2014 (Or.inl q2013) xm_X15_value me_X18_value is_X18_value q2199 rfl rfl (Nat.le_of_ble_eq_true rfl) (MX.post (hK.2.2.2.2.1.2.2.1 tc g4) kr)
    · exact x_callU hG (Ky := kX19_value) (As := [va_rf m]) dX20_value_5 tc rfl q2018 q2014 (Or.inl q2013) xm_X15_value me_X19_value is_X19_value q2197 rfl rfl (Nat.le_of_ble_eq_true rfl) (MX.post (hK.2.2.2.2.1.2.2.2.1 tc g4) kr)
    · exact x_callU hG (Ky := kX20_value) (As := [va_rf m]) dX20_value_5 tc rfl q2018 q2014 (Or.inl q2013) xm_X15_value me_X20_value is_X20_value q2015 rfl rfl (Nat.le_of_ble_eq_true rfl) (MX.post (hK.2.2.2.2.1.2.2.2.2.1 tc g4) kr)
    · exact x_callU hG (Ky := kX21_value) (As := [va_rf m]) dX20_value_5 tc rfl q2018 q2014 (Or.inl q2013) xm_X15_value me_X21_value is_X21_value q2198 rfl rfl (Nat.le_of_ble_eq_true rfl) (MX.post (hK.2.2.2.2.1.2.2.2.2.2.1 tc g4) kr)
    · exact x_callU hG (Ky := kX22_value) (As := [va_rf m]) dX20_value_5 tc rfl q2018 q2014 (Or.inl q2013) xm_X15_value me_X22_value is_X22_value q2195 rfl rfl (Nat.le_of_ble_eq_true rfl) (MX.post (hK.2.2.2.2.1.2.2.2.2.2.2.1 tc g4) kr)
    · exact x_callU hG (Ky := kX23_value) (As := [va_rf m]) dX20_value_5 tc rfl q2018 q2014 (Or.inl q2013) xm_X15_value me_X23_value is_X23_value q2196 rfl rfl (Nat.le_of_ble_eq_true rfl) (MX.post (hK.2.2.2.2.1.2.2.2.2.2.2.2 tc g4) kr)
  rintro _ A4 (⟨v4, rfl, h1⟩ | ⟨x4, rfl, h1⟩)
  rotate_left
  · exact ⟨rfl, Or.inr ⟨_, rfl, h1⟩⟩
  refine X.xok (fun w4 => ?_)
  replace h := h v4 A4 w4 h1
  change X _ _ _ _ A4 _ _ [.long v4]
  refine x_lstore_n dX20_value_8 (by decide) ?_
  refine X.lvs (lv' := [some (.ref p), some (va_rf m), some (.long v4), none, none]) (by generalize m = z; cases z <;> rfl) ?_
  refine x_aload_n dX20_value_9 rfl ?_
  obtain ⟨o5, h⟩ := h
  refine x_get (v := va_rf (A4.P p 1)) hG dX20_value_10 f_X20_9_18 o5 rfl ?_
  obtain ⟨b6, e6, h⟩ := h
  rw [e6]
  obtain ⟨o7, h⟩ := h
  refine x_alen hG (j := 0) dX20_value_13 o7 ?_
  refine x_iconst_ (v := (1 : Int32)) dX20_value_14 (by decide) ?_
  refine x_isub dX20_value_15 ?_
  refine x_istore dX20_value_16 (by decide) ?_
  obtain ⟨L8, ⟨n8, i8⟩, g8⟩ := h
  have kl8 : ∀ n8 : Nat, ∀ (y8_2 : Int64) (y8_4 : Int32) (A8 : xA), L8 n8 y8_2 y8_4 A8 → X G (dp + 811) kX20_value (hX (hL Q) E) A8 18 [some (.ref p), some (va_rf m), some (.long y8_2), none, some (.int y8_4)] [] := by
    intro n8
    induction n8 using Nat.strongRecOn with
    | ind n8 ih8 =>
      intro y8_2 y8_4 A8 h
      replace h := g8 n8 y8_2 y8_4 A8 h
      refine x_iload dX20_value_18 rfl ?_
      refine x_if_lt (tgt := 90) dX20_value_20 (by decide) (fun c20 => ?_) (fun c20 => ?_)
      · replace h := h.1 c20
        refine x_lload_n dX20_value_90 rfl ?_
        exact x_lret dX20_value_91 rfl (Or.inl ⟨_, rfl, h⟩)
      · replace h := h.2 c20
        refine x_aload_n dX20_value_23 rfl ?_
        obtain ⟨o9, h⟩ := h
        refine x_get (v := va_rf (A8.P p 1)) hG dX20_value_24 f_X20_9_18 o9 rfl ?_
        refine x_iload dX20_value_27 rfl ?_
        obtain ⟨b10, e10, h⟩ := h
        rw [e10]
        obtain ⟨o11, h⟩ := h
        obtain ⟨o12, h⟩ := h
        refine x_iald hG dX20_value_29 o11 o12 ?_
        refine x_bipush_ (v := (79 : Int32)) dX20_value_30 (by decide) ?_
        obtain ⟨J13, g13, h⟩ := h
        have kj13 : ∀ (y13_s0 : Int64) (A13 : xA), J13 y13_s0 A13 → X G (dp + 811) kX20_value (hX (hL Q) E) A13 83 [some (.ref p), some (va_rf m), none, none, some (.int y8_4)] [.long y13_s0] := by
          intro y13_s0 A13 h
          replace h := g13 y13_s0 A13 h
          refine x_lstore_n dX20_value_83 (by decide) ?_
          refine X.lvs (lv' := [some (.ref p), some (va_rf m), some (.long y13_s0), none, some (.int y8_4)]) (by generalize m = z; cases z <;> rfl) ?_
          refine x_iinc (v := (y8_4 + (-1 : Int32))) dX20_value_84 rfl rfl (by decide) ?_
          refine x_goto (tgt := 18) dX20_value_87 (by decide) ?_
          obtain ⟨q8, l8, h⟩ := h
          change X _ _ _ _ _ _ [some (.ref p), some (va_rf m), some (.long y13_s0), none, some (.int (y8_4 + (-1 : Int32)))] []
          exact X.weak (xle_c rfl (xle_c rfl (xle_c rfl (xle_n (xle_c rfl xle_nil))))) (ih8 q8 l8 y13_s0 (y8_4 + (-1 : Int32)) A13 h)
        refine x_icmp_ne (tgt := 48) dX20_value_32 (by decide) (fun c32 => ?_) (fun c32 => ?_)
        · replace h := h.2 c32
          refine x_aloadq_n dX20_value_48 rfl ?_
          refine x_aload_n dX20_value_49 rfl ?_
          refine x_get (v := .ref b10) hG dX20_value_50 f_X20_9_18 o9 (congrArg va_rf e10) ?_
          refine x_iload dX20_value_53 rfl ?_
          refine x_iald hG dX20_value_55 o11 o12 ?_
          refine x_callS hG (Ky := kX20_act) (As := [.int (A8.I b10 (ix y8_4))]) dX20_value_56 lk_X20_36 me_X20_act st_X20_act rfl rfl (by simp only [List.append_eq, List.nil_append, List.map_cons, va_rf_cat]; exact Nat.le_of_ble_eq_true rfl) (MX.post (m_X20_act hG) ?_)
          rintro _ _ ⟨rfl, rfl⟩
          change X _ _ _ _ _ _ _ (.int (f_X20_act (A8.I b10 (ix y8_4))) :: _)
          refine x_lload_n dX20_value_59 rfl ?_
          refine x_aload_n dX20_value_60 rfl ?_
          refine x_get (v := .ref b10) hG dX20_value_61 f_X20_9_18 o9 (congrArg va_rf e10) ?_
          refine x_iload dX20_value_64 rfl ?_
          refine x_iald hG dX20_value_66 o11 o12 ?_
          refine x_bipush_ (v := (83 : Int32)) dX20_value_67 (by decide) ?_
          refine x_via 77 (A' := A8) (lv' := [some (.ref p), some (va_rf m), none, none, some (.int y8_4)]) (st' := [.int (if (A8.I b10 (ix y8_4)) = (83 : Int32) then (-1 : Int32) else (0 : Int32)), .long y8_2, .int (f_X20_act (A8.I b10 (ix y8_4))), va_rf m]) ?_ (fun k77 => ?_)
          rotate_left
          · refine x_icmp_ne (tgt := 76) dX20_value_69 (by decide) (fun c69 => ?_) (fun c69 => ?_)
            · refine x_iconst_ (v := (0 : Int32)) dX20_value_76 (by decide) ?_
              change X _ _ _ _ _ _ [some (.ref p), some (va_rf m), some (.long y8_2), none, some (.int y8_4)] [.int (0 : Int32), .long y8_2, .int (f_X20_act (A8.I b10 (ix y8_4))), va_rf m]
              simp only [if_neg c69] at k77 ⊢
              exact X.weak (xle_c rfl (xle_c rfl (xle_n (xle_n (xle_c rfl xle_nil))))) k77
            · refine x_iconst_ (v := (-1 : Int32)) dX20_value_72 (by decide) ?_
              refine x_goto (tgt := 77) dX20_value_73 (by decide) ?_
              change X _ _ _ _ _ _ [some (.ref p), some (va_rf m), some (.long y8_2), none, some (.int y8_4)] [.int (-1 : Int32), .long y8_2, .int (f_X20_act (A8.I b10 (ix y8_4))), va_rf m]
              simp only [if_pos c69] at k77 ⊢
              exact X.weak (xle_c rfl (xle_c rfl (xle_n (xle_n (xle_c rfl xle_nil))))) k77
          refine x_callS hG (Ky := kX6_constant) (As := [.int (if (A8.I b10 (ix y8_4)) = (83 : Int32) then (-1 : Int32) else (0 : Int32))]) dX20_value_77 lk_X20_27 me_X6_constant st_X6_constant rfl rfl (by simp only [List.append_eq, List.nil_append, List.map_cons, va_rf_cat]; exact Nat.le_of_ble_eq_true rfl) (MX.post (m_X6_constant hG) ?_)
          rintro _ _ ⟨rfl, rfl⟩
          change X _ _ _ _ _ _ _ (.long (f_X6_constant (if (A8.I b10 (ix y8_4)) = (83 : Int32) then (-1 : Int32) else (0 : Int32))) :: _)
          obtain ⟨b15, e15, h⟩ := h
          rw [e15]
          obtain ⟨o16, h⟩ := h
          obtain ⟨R14, g14, h⟩ := h
          refine x_callV hG (Ky := kX6_act) (As := [.int (f_X20_act (A8.I b10 (ix y8_4))), .long y8_2, .long (f_X6_constant (if (A8.I b10 (ix y8_4)) = (83 : Int32) then (-1 : Int32) else (0 : Int32)))]) dX20_value_80 o16 rfl lk_X20_32 me_X6_act is_X6_act se_X6_act rfl rfl (Nat.le_of_ble_eq_true rfl) (MX.post ((rc_A hG hO 3) g14) ?_)
          rintro _ A14 ⟨v14, rfl, h1⟩
          refine X.xok (fun w14 => ?_)
          replace h := h v14 A14 w14 h1
          change X _ _ _ _ A14 _ _ [.long v14]
          change X _ _ _ _ _ _ [some (.ref p), some (.ref b15), none, none, some (.int y8_4)] [.long v14]
          exact X.weak (xle_c rfl (xle_c (congrArg (fun z => some (va_rf z)) e15.symm) (xle_n (xle_n (xle_c rfl xle_nil))))) (kj13 v14 A14 h)
        · replace h := h.1 c32
          refine x_aloadq_n dX20_value_35 rfl ?_
          refine x_iconst_ (v := (1 : Int32)) dX20_value_36 (by decide) ?_
          refine x_iconst_ (v := (0 : Int32)) dX20_value_37 (by decide) ?_
          refine x_callS hG (Ky := kX6_constant) (As := [.int (0 : Int32)]) dX20_value_38 lk_X20_27 me_X6_constant st_X6_constant rfl rfl (by simp only [List.append_eq, List.nil_append, List.map_cons, va_rf_cat]; exact Nat.le_of_ble_eq_true rfl) (MX.post (m_X6_constant hG) ?_)
          rintro _ _ ⟨rfl, rfl⟩
          change X _ _ _ _ _ _ _ (.long (f_X6_constant (0 : Int32)) :: _)
          refine x_lload_n dX20_value_41 rfl ?_
          obtain ⟨b18, e18, h⟩ := h
          rw [e18]
          obtain ⟨o19, h⟩ := h
          obtain ⟨R17, g17, h⟩ := h
          refine x_callV hG (Ky := kX6_act) (As := [.int (1 : Int32), .long (f_X6_constant (0 : Int32)), .long y8_2]) dX20_value_42 o19 rfl lk_X20_32 me_X6_act is_X6_act se_X6_act rfl rfl (Nat.le_of_ble_eq_true rfl) (MX.post ((rc_A hG hO 3) g17) ?_)
          rintro _ A17 ⟨v17, rfl, h1⟩
          refine X.xok (fun w17 => ?_)
          replace h := h v17 A17 w17 h1
          change X _ _ _ _ A17 _ _ [.long v17]
          refine x_goto (tgt := 83) dX20_value_45 (by decide) ?_
          change X _ _ _ _ _ _ [some (.ref p), some (.ref b18), some (.long y8_2), none, some (.int y8_4)] [.long v17]
          exact X.weak (xle_c rfl (xle_c (congrArg (fun z => some (va_rf z)) e18.symm) (xle_n (xle_n (xle_c rfl xle_nil))))) (kj13 v17 A17 h)
  change X _ _ _ _ _ _ [some (.ref p), some (va_rf m), some (.long v4), none, some (.int ((nI (A4.ln b6)) - (1 : Int32)))] []
  exact X.weak (xle_c rfl (xle_c rfl (xle_c rfl (xle_n (xle_c rfl xle_nil))))) (kl8 n8 v4 ((nI (A4.ln b6)) - (1 : Int32)) A4 i8)
def w_X21_value (G : xG) (r0 : Nat → Option Nat → Int32 → (Int64 → xA → Prop) → (Nat → xA → Prop) → xA → Prop) (r1 : Nat → Option Nat → Option Nat → Int32 → (Int64 → xA → Prop) → (Nat → xA → Prop) → xA → Prop) (r2 : Nat → Option Nat → Option Nat → Option Nat → (xA → Prop) → (Nat → xA → Prop) → xA → Prop) (r3 : Nat → Option Nat → Option Nat → Option Nat → (xA → Prop) → (Nat → xA → Prop) → xA → Prop) (r4 : Nat → Option Nat → (Int64 → xA → Prop) → (Nat → xA → Prop) → xA → Prop) (r5 : Nat → Option Nat → Option Nat → Option Nat → (xA → Prop) → (Nat → xA → Prop) → xA → Prop) (p : Nat) (m : Option Nat) (Q : Int64 → xA → Prop) (E : Nat → xA → Prop) (A : xA) : Prop := xok G A → ∃ b2 : Nat, m = some b2 ∧ (A.tg b2 = 6 ∧ (∃ R1 : Option Nat → xA → Prop, w_X6_block G b2 R1 A ∧ (∀ (v1 : Option Nat) (A1 : xA), xok G A1 → R1 v1 A1 → (A1.tg b2 = 6 ∧ (∃ R4 : Option Nat → xA → Prop, w_X6_block G b2 R4 A1 ∧ (∀ (v4 : Option Nat) (A4 : xA), xok G A4 → R4 v4 A4 → (A4.tg b2 = 6 ∧ (∃ R6 : Option Nat → xA → Prop, w_X6_block G b2 R6 A4 ∧ (∀ (v6 : Option Nat) (A6 : xA), xok G A6 → R6 v6 A6 → (A6.tg p = 20 ∧ (∃ R8 : xA → Prop, r3 p (some b2) v1 v4 R8 E A6 ∧ (∀ A8 : xA, xok G A8 → R8 A8 → (A8.tg b2 = 6 ∧ (∃ R10 : Int32 → xA → Prop, w_X6_register G b2 R10 A8 ∧ (∀ (v10 : Int32) (A10 : xA), xok G A10 → R10 v10 A10 → (A10.tg b2 = 6 ∧ (∃ R12 : xA → Prop, w_X6_at G b2 v1 R12 A10 ∧ (∀ A12 : xA, xok G A12 → R12 A12 → (A12.tg b2 = 6 ∧ (∃ R14 : xA → Prop, w_X6_move G b2 v10 (f_X6_constant (1 : Int32)) R14 A12 ∧ (∀ A14 : xA, xok G A14 → R14 A14 → (A14.tg b2 = 6 ∧ (∃ R16 : xA → Prop, w_X6_jump G b2 v6 R16 A14 ∧ (∀ A16 : xA, xok G A16 → R16 A16 → (A16.tg b2 = 6 ∧ (∃ R18 : xA → Prop, w_X6_at G b2 v4 R18 A16 ∧ (∀ A18 : xA, xok G A18 → R18 A18 → (A18.tg b2 = 6 ∧ (∃ R20 : xA → Prop, w_X6_move G b2 v10 (f_X6_constant (0 : Int32)) R20 A18 ∧ (∀ A20 : xA, xok G A20 → R20 A20 → (A20.tg b2 = 6 ∧ (∃ R22 : xA → Prop, w_X6_jump G b2 v6 R22 A20 ∧ (∀ A22 : xA, xok G A22 → R22 A22 → (A22.tg b2 = 6 ∧ (∃ R24 : xA → Prop, w_X6_at G b2 v6 R24 A22 ∧ (∀ A24 : xA, xok G A24 → R24 A24 → (Q v10.toInt64 A24)))))))))))))))))))))))))))))))))))))
theorem m_X21_value (hG : xOK G) (hO : xHO G) {dp : Nat} {r0 : Nat → Option Nat → Int32 → (Int64 → xA → Prop) → (Nat → xA → Prop) → xA → Prop} {r1 : Nat → Option Nat → Option Nat → Int32 → (Int64 → xA → Prop) → (Nat → xA → Prop) → xA → Prop} {r2 : Nat → Option Nat → Option Nat → Option Nat → (xA → Prop) → (Nat → xA → Prop) → xA → Prop} {r3 : Nat → Option Nat → Option Nat → Option Nat → (xA → Prop) → (Nat → xA → Prop) → xA → Prop} {r4 : Nat → Option Nat → (Int64 → xA → Prop) → (Nat → xA → Prop) → xA → Prop} {r5 : Nat → Option Nat → Option Nat → Option Nat → (xA → Prop) → (Nat → xA → Prop) → xA → Prop} (hK : xRC_V G (dp + 810) r0 r1 r2 r3 r4 r5) {p : Nat} {m : Option Nat} {Q : Int64 → xA → Prop} {E : Nat → xA → Prop} {A : xA} (h : w_X21_value G r0 r1 r2 r3 r4 r5 p m Q E A) : MX G (dp + 811) kX21_value [.ref p, va_rf m] A (hX (hL Q) E) := by
  unfold w_X21_value at h
  refine MX.of rfl (by cases m <;> exact Nat.le_of_ble_eq_true rfl) ?_
  refine X.lvs (lv' := [some (.ref p), some (va_rf m), none, none, none, none]) (by cases m <;> rfl) ?_
  refine X.xok (fun w0 => ?_)
  replace h := h w0
  refine x_aloadq_n dX21_value_0 rfl ?_
  obtain ⟨b2, e2, h⟩ := h
  rw [e2]
  obtain ⟨o3, h⟩ := h
  obtain ⟨R1, g1, h⟩ := h
  refine x_callV hG (Ky := kX6_block) (As := []) dX21_value_1 o3 rfl lk_X21_40 me_X6_block is_X6_block se_X6_block rfl rfl (Nat.le_of_ble_eq_true rfl) (MX.post (m_X6_block hG hO g1) ?_)
  rintro _ A1 ⟨v1, rfl, h1⟩
  refine X.xok (fun w1 => ?_)
  replace h := h v1 A1 w1 h1
  change X _ _ _ _ A1 _ _ [va_rf v1]
  refine x_astoreq_n dX21_value_4 (by decide) ?_
  refine x_aload_n dX21_value_5 rfl ?_
  obtain ⟨o5, h⟩ := h
  obtain ⟨R4, g4, h⟩ := h
  refine x_callV hG (Ky := kX6_block) (As := []) dX21_value_6 o5 rfl lk_X21_40 me_X6_block is_X6_block se_X6_block rfl rfl (Nat.le_of_ble_eq_true rfl) (MX.post (m_X6_block hG hO g4) ?_)
  rintro _ A4 ⟨v4, rfl, h1⟩
  refine X.xok (fun w4 => ?_)
  replace h := h v4 A4 w4 h1
  change X _ _ _ _ A4 _ _ [va_rf v4]
  refine x_astoreq_n dX21_value_9 (by decide) ?_
  refine X.lvs (lv' := [some (.ref p), some (.ref b2), some (va_rf v1), some (va_rf v4), none, none]) (by generalize v1 = z; cases z <;> rfl) ?_
  refine x_aload_n dX21_value_10 rfl ?_
  obtain ⟨o7, h⟩ := h
  obtain ⟨R6, g6, h⟩ := h
  refine x_callV hG (Ky := kX6_block) (As := []) dX21_value_11 o7 rfl lk_X21_40 me_X6_block is_X6_block se_X6_block rfl rfl (Nat.le_of_ble_eq_true rfl) (MX.post (m_X6_block hG hO g6) ?_)
  rintro _ A6 ⟨v6, rfl, h1⟩
  refine X.xok (fun w6 => ?_)
  replace h := h v6 A6 w6 h1
  change X _ _ _ _ A6 _ _ [va_rf v6]
  refine x_astoreq dX21_value_14 (by decide) ?_
  refine X.lvs (lv' := [some (.ref p), some (.ref b2), some (va_rf v1), some (va_rf v4), some (va_rf v6), none]) (by generalize v4 = z; cases z <;> rfl) ?_
  refine x_aload_n dX21_value_16 rfl ?_
  refine x_aload_n dX21_value_17 rfl ?_
  refine x_aloadq_n dX21_value_18 rfl ?_
  refine x_aloadq_n dX21_value_19 rfl ?_
  obtain ⟨o9, h⟩ := h
  obtain ⟨R8, g8, h⟩ := h
  refine x_callV hG (Ky := kX21_branch) (As := [.ref b2, va_rf v1, va_rf v4]) dX21_value_20 o9 rfl lk_X21_46 me_X21_branch is_X21_branch se_X21_branch rfl rfl (Nat.le_of_ble_eq_true rfl) (MX.post (hK.2.2.2.1 g8) ?_)
  rintro _ A8 (⟨rfl, h1⟩ | ⟨x8, rfl, h1⟩)
  rotate_left
  · exact ⟨rfl, Or.inr ⟨_, rfl, h1⟩⟩
  refine X.xok (fun w8 => ?_)
  replace h := h A8 w8 h1
  change X _ _ _ _ A8 _ _ []
  refine x_aload_n dX21_value_23 rfl ?_
  obtain ⟨o11, h⟩ := h
  obtain ⟨R10, g10, h⟩ := h
  refine x_callV hG (Ky := kX6_register) (As := []) dX21_value_24 o11 rfl lk_X21_50 me_X6_register is_X6_register se_X6_register rfl rfl (Nat.le_of_ble_eq_true rfl) (MX.post (m_X6_register hG hO g10) ?_)
  rintro _ A10 ⟨v10, rfl, h1⟩
  refine X.xok (fun w10 => ?_)
  replace h := h v10 A10 w10 h1
  change X _ _ _ _ A10 _ _ [.int v10]
  refine x_istore dX21_value_27 (by decide) ?_
  refine X.lvs (lv' := [some (.ref p), some (.ref b2), some (va_rf v1), some (va_rf v4), some (va_rf v6), some (.int v10)]) (by generalize v6 = z; cases z <;> rfl) ?_
  refine x_aload_n dX21_value_29 rfl ?_
  refine x_aloadq_n dX21_value_30 rfl ?_
  obtain ⟨o13, h⟩ := h
  obtain ⟨R12, g12, h⟩ := h
  refine x_callV hG (Ky := kX6_at) (As := [va_rf v1]) dX21_value_31 o13 rfl lk_X21_53 me_X6_at is_X6_at se_X6_at rfl rfl (Nat.le_of_ble_eq_true rfl) (MX.post (m_X6_at hG hO g12) ?_)
  rintro _ A12 ⟨rfl, h1⟩
  refine X.xok (fun w12 => ?_)
  replace h := h A12 w12 h1
  change X _ _ _ _ A12 _ _ []
  refine x_aload_n dX21_value_34 rfl ?_
  refine x_iload dX21_value_35 rfl ?_
  refine x_iconst_ (v := (1 : Int32)) dX21_value_37 (by decide) ?_
  refine x_callS hG (Ky := kX6_constant) (As := [.int (1 : Int32)]) dX21_value_38 lk_X21_57 me_X6_constant st_X6_constant rfl rfl (Nat.le_of_ble_eq_true rfl) (MX.post (m_X6_constant hG) ?_)
  rintro _ _ ⟨rfl, rfl⟩
  change X _ _ _ _ _ _ _ (.long (f_X6_constant (1 : Int32)) :: _)
  obtain ⟨o15, h⟩ := h
  obtain ⟨R14, g14, h⟩ := h
  refine x_callV hG (Ky := kX6_move) (As := [.int v10, .long (f_X6_constant (1 : Int32))]) dX21_value_41 o15 rfl lk_X21_60 me_X6_move is_X6_move se_X6_move rfl rfl (Nat.le_of_ble_eq_true rfl) (MX.post (m_X6_move hG hO g14) ?_)
  rintro _ A14 ⟨rfl, h1⟩
  refine X.xok (fun w14 => ?_)
  replace h := h A14 w14 h1
  change X _ _ _ _ A14 _ _ []
  refine x_aload_n dX21_value_44 rfl ?_
  refine x_aloadq dX21_value_45 rfl ?_
  obtain ⟨o17, h⟩ := h
  obtain ⟨R16, g16, h⟩ := h
  refine x_callV hG (Ky := kX6_jump) (As := [va_rf v6]) dX21_value_47 o17 rfl lk_X21_64 me_X6_jump is_X6_jump se_X6_jump rfl rfl (Nat.le_of_ble_eq_true rfl) (MX.post (m_X6_jump hG hO g16) ?_)
  rintro _ A16 ⟨rfl, h1⟩
  refine X.xok (fun w16 => ?_)
  replace h := h A16 w16 h1
  change X _ _ _ _ A16 _ _ []
  refine x_aload_n dX21_value_50 rfl ?_
  refine x_aloadq_n dX21_value_51 rfl ?_
  obtain ⟨o19, h⟩ := h
  obtain ⟨R18, g18, h⟩ := h
  refine x_callV hG (Ky := kX6_at) (As := [va_rf v4]) dX21_value_52 o19 rfl lk_X21_53 me_X6_at is_X6_at se_X6_at rfl rfl (Nat.le_of_ble_eq_true rfl) (MX.post (m_X6_at hG hO g18) ?_)
  rintro _ A18 ⟨rfl, h1⟩
  refine X.xok (fun w18 => ?_)
  replace h := h A18 w18 h1
  change X _ _ _ _ A18 _ _ []
  refine x_aload_n dX21_value_55 rfl ?_
  refine x_iload dX21_value_56 rfl ?_
  refine x_iconst_ (v := (0 : Int32)) dX21_value_58 (by decide) ?_
  refine x_callS hG (Ky := kX6_constant) (As := [.int (0 : Int32)]) dX21_value_59 lk_X21_57 me_X6_constant st_X6_constant rfl rfl (Nat.le_of_ble_eq_true rfl) (MX.post (m_X6_constant hG) ?_)
  rintro _ _ ⟨rfl, rfl⟩
  change X _ _ _ _ _ _ _ (.long (f_X6_constant (0 : Int32)) :: _)
  obtain ⟨o21, h⟩ := h
  obtain ⟨R20, g20, h⟩ := h
  refine x_callV hG (Ky := kX6_move) (As := [.int v10, .long (f_X6_constant (0 : Int32))]) dX21_value_62 o21 rfl lk_X21_60 me_X6_move is_X6_move se_X6_move rfl rfl (Nat.le_of_ble_eq_true rfl) (MX.post (m_X6_move hG hO g20) ?_)
  rintro _ A20 ⟨rfl, h1⟩
  refine X.xok (fun w20 => ?_)
  replace h := h A20 w20 h1
  change X _ _ _ _ A20 _ _ []
  refine x_aload_n dX21_value_65 rfl ?_
  refine x_aloadq dX21_value_66 rfl ?_
  obtain ⟨o23, h⟩ := h
  obtain ⟨R22, g22, h⟩ := h
  refine x_callV hG (Ky := kX6_jump) (As := [va_rf v6]) dX21_value_68 o23 rfl lk_X21_64 me_X6_jump is_X6_jump se_X6_jump rfl rfl (Nat.le_of_ble_eq_true rfl) (MX.post (m_X6_jump hG hO g22) ?_)
  rintro _ A22 ⟨rfl, h1⟩
  refine X.xok (fun w22 => ?_)
  replace h := h A22 w22 h1
  change X _ _ _ _ A22 _ _ []
  refine x_aload_n dX21_value_71 rfl ?_
  refine x_aloadq dX21_value_72 rfl ?_
  obtain ⟨o25, h⟩ := h
  obtain ⟨R24, g24, h⟩ := h
  refine x_callV hG (Ky := kX6_at) (As := [va_rf v6]) dX21_value_74 o25 rfl lk_X21_53 me_X6_at is_X6_at se_X6_at rfl rfl (Nat.le_of_ble_eq_true rfl) (MX.post (m_X6_at hG hO g24) ?_)
  rintro _ A24 ⟨rfl, h1⟩
  refine X.xok (fun w24 => ?_)
  replace h := h A24 w24 h1
  change X _ _ _ _ A24 _ _ []
  refine x_iload dX21_value_77 rfl ?_
  refine x_i2l dX21_value_79 ?_
  exact x_lret dX21_value_80 rfl (Or.inl ⟨_, rfl, h⟩)
def w_X22_value (G : xG) (r0 : Nat → Option Nat → Int32 → (Int64 → xA → Prop) → (Nat → xA → Prop) → xA → Prop) (r1 : Nat → Option Nat → Option Nat → Int32 → (Int64 → xA → Prop) → (Nat → xA → Prop) → xA → Prop) (r2 : Nat → Option Nat → Option Nat → Option Nat → (xA → Prop) → (Nat → xA → Prop) → xA → Prop) (r3 : Nat → Option Nat → Option Nat → Option Nat → (xA → Prop) → (Nat → xA → Prop) → xA → Prop) (r4 : Nat → Option Nat → (Int64 → xA → Prop) → (Nat → xA → Prop) → xA → Prop) (r5 : Nat → Option Nat → Option Nat → Option Nat → (xA → Prop) → (Nat → xA → Prop) → xA → Prop) (p : Nat) (m : Option Nat) (Q : Int64 → xA → Prop) (E : Nat → xA → Prop) (A : xA) : Prop := xok G A → A.tg p = 21 ∧ (∃ b3 : Nat, (A.P p 2) = some b3 ∧ (A.tg b3 = 37 ∧ (∃ R2 : Option Nat → xA → Prop, w_J5_get G b3 (0 : Int32) R2 A ∧ (∀ (v2 : Option Nat) (A2 : xA), xok G A2 → R2 v2 A2 → (∃ b5 : Nat, v2 = some b5 ∧ (xE A2 b5 ∧ (∃ R7 : Int64 → xA → Prop, r4 b5 m R7 E A2 ∧ (∀ (v7 : Int64) (A7 : xA), xok G A7 → R7 v7 A7 → (∃ L8 : Nat → Int64 → Int32 → xA → Prop, (∃ n8 : Nat, L8 n8 v7 (0 : Int32) A7) ∧ (∀ (n8 : Nat) (y8_2 : Int64) (y8_4 : Int32) (A8 : xA), L8 n8 y8_2 y8_4 A8 → A8.tg p = 21 ∧ (∃ b10 : Nat, (A8.P p 1) = some b10 ∧ (A8.tg b10 = 200 ∧ ((((nI (A8.ln b10)) ≤ y8_4 → Q y8_2 A8) ∧ (¬ (nI (A8.ln b10)) ≤ y8_4 → vp_in y8_4 (A8.ln b10) ∧ (∃ b14 : Nat, (A8.P p 2) = some b14 ∧ (A8.tg b14 = 37 ∧ (∃ R13 : Option Nat → xA → Prop, w_J5_get G b14 (y8_4 + (1 : Int32)) R13 A8 ∧ (∀ (v13 : Option Nat) (A13 : xA), xok G A13 → R13 v13 A13 → (∃ b16 : Nat, v13 = some b16 ∧ (xE A13 b16 ∧ (∃ R18 : Int64 → xA → Prop, r4 b16 m R18 E A13 ∧ (∀ (v18 : Int64) (A18 : xA), xok G A18 → R18 v18 A18 → (∃ b20 : Nat, m = some b20 ∧ (A18.tg b20 = 6 ∧ (∃ R19 : Int64 → xA → Prop, g_A_0 G b20 (A8.I b10 (ix y8_4)) y8_2 v18 R19 A18 ∧ (∀ (v19 : Int64) (A19 : xA), xok G A19 → R19 v19 A19 → ((∃ q8 : Nat, q8 < n8 ∧ L8 q8 v19 (y8_4 + (1 : Int32)) A19)))))))))))))))))))))))))))))
theorem m_X22_value (hG : xOK G) (hO : xHO G) {dp : Nat} {r0 : Nat → Option Nat → Int32 → (Int64 → xA → Prop) → (Nat → xA → Prop) → xA → Prop} {r1 : Nat → Option Nat → Option Nat → Int32 → (Int64 → xA → Prop) → (Nat → xA → Prop) → xA → Prop} {r2 : Nat → Option Nat → Option Nat → Option Nat → (xA → Prop) → (Nat → xA → Prop) → xA → Prop} {r3 : Nat → Option Nat → Option Nat → Option Nat → (xA → Prop) → (Nat → xA → Prop) → xA → Prop} {r4 : Nat → Option Nat → (Int64 → xA → Prop) → (Nat → xA → Prop) → xA → Prop} {r5 : Nat → Option Nat → Option Nat → Option Nat → (xA → Prop) → (Nat → xA → Prop) → xA → Prop} (hK : xRC_V G (dp + 810) r0 r1 r2 r3 r4 r5) {p : Nat} {m : Option Nat} {Q : Int64 → xA → Prop} {E : Nat → xA → Prop} {A : xA} (h : w_X22_value G r0 r1 r2 r3 r4 r5 p m Q E A) : MX G (dp + 811) kX22_value [.ref p, va_rf m] A (hX (hL Q) E) := by
  unfold w_X22_value at h
  refine MX.of rfl (by cases m <;> exact Nat.le_of_ble_eq_true rfl) ?_
  refine X.lvs (lv' := [some (.ref p), some (va_rf m), none, none, none]) (by cases m <;> rfl) ?_
  refine X.xok (fun w0 => ?_)
  replace h := h w0
  refine x_aload_n dX22_value_0 rfl ?_
  obtain ⟨o1, h⟩ := h
  refine x_get (v := va_rf (A.P p 2)) hG dX22_value_1 f_X22_25_20 o1 rfl ?_
  refine x_iconst_ (v := (0 : Int32)) dX22_value_4 (by decide) ?_
  obtain ⟨b3, e3, h⟩ := h
  rw [e3]
  obtain ⟨o4, h⟩ := h
  obtain ⟨R2, g2, h⟩ := h
  refine x_callV hG (Ky := kJ5_get) (As := [.int (0 : Int32)]) dX22_value_5 o4 rfl lk_X22_3 me_J5_get is_J5_get se_J5_get rfl rfl (Nat.le_of_ble_eq_true rfl) (MX.post (m_w_J5_get hG hO g2) ?_)
  rintro _ A2 ⟨v2, rfl, h1⟩
  refine X.xok (fun w2 => ?_)
  replace h := h v2 A2 w2 h1
  change X _ _ _ _ A2 _ _ [va_rf v2]
  obtain ⟨b5, e5, h⟩ := h
  rw [e5]
  obtain ⟨o6, h⟩ := h
  refine z_castE hG dX22_value_8 q1432 o6 ?_
  refine x_aloadq_n dX22_value_11 rfl ?_
  obtain ⟨R7, g7, h⟩ := h
  refine z_disp (pc' := 12) (lv' := [some (.ref p), some (va_rf m), none, none, none]) (st' := []) (P := hX (hL R7) E) (kr := ?_) (kc := ?_)
  rotate_left
  · obtain ⟨c, tc, hc⟩ := o6
    simp only [eCl, List.mem_cons, List.not_mem_nil, or_false] at hc
    intro kr
    rcases hc with rfl | rfl | rfl | rfl | rfl | rfl | rfl | rfl
    · exact x_callU hG (Ky := kX16_value) (As := [va_rf m]) dX22_value_12 tc rfl q2041 q2014 (Or.inl q2013) xm_X15_value me_X16_value is_X16_value q2200 rfl rfl (Nat.le_of_ble_eq_true rfl) (MX.post (hK.2.2.2.2.1.1 tc g7) kr)
    · exact x_callU hG (Ky := kX17_value) (As := [va_rf m]) dX22_value_12 tc rfl q2041 q2014 (Or.inl q2013) xm_X15_value me_X17_value is_X17_value q2194 rfl rfl (Nat.le_of_ble_eq_true rfl) (MX.post (hK.2.2.2.2.1.2.1 tc g7) kr)
    · exact x_callU hG (Ky := kX18_value) (As := [va_rf m]) dX22_value_12 tc rfl q2041 q2014 (Or.inl q2013) xm_X15_value me_X18_value is_X18_value q2199 rfl rfl (Nat.le_of_ble_eq_true rfl) (MX.post (hK.2.2.2.2.1.2.2.1 tc g7) kr)
    · exact x_callU hG (Ky := kX19_value) (As := [va_rf m]) dX22_value_12 tc rfl q2041 q2014 (Or.inl q2013) xm_X15_value me_X19_value is_X19_value q2197 rfl rfl (Nat.le_of_ble_eq_true rfl) (MX.post (hK.2.2.2.2.1.2.2.2.1 tc g7) kr)
    · exact x_callU hG (Ky := kX20_value) (As := [va_rf m]) dX22_value_12 tc rfl q2041 q2014 (Or.inl q2013) xm_X15_value me_X20_value is_X20_value q2015 rfl rfl (Nat.le_of_ble_eq_true rfl) (MX.post (hK.2.2.2.2.1.2.2.2.2.1 tc g7) kr)
    · exact x_callU hG (Ky := kX21_value) (As := [va_rf m]) dX22_value_12 tc rfl q2041 q2014 (Or.inl q2013) xm_X15_value me_X21_value is_X21_value q2198 rfl rfl (Nat.le_of_ble_eq_true rfl) (MX.post (hK.2.2.2.2.1.2.2.2.2.2.1 tc g7) kr)
    · exact x_callU hG (Ky := kX22_value) (As := [va_rf m]) dX22_value_12 tc rfl q2041 q2014 (Or.inl q2013) xm_X15_value me_X22_value is_X22_value q2195 rfl rfl (Nat.le_of_ble_eq_true rfl) (MX.post (hK.2.2.2.2.1.2.2.2.2.2.2.1 tc g7) kr)
    · exact x_callU hG (Ky := kX23_value) (As := [va_rf m]) dX22_value_12 tc rfl q2041 q2014 (Or.inl q2013) xm_X15_value me_X23_value is_X23_value q2196 rfl rfl (Nat.le_of_ble_eq_true rfl) (MX.post (hK.2.2.2.2.1.2.2.2.2.2.2.2 tc g7) kr)
  rintro _ A7 (⟨v7, rfl, h1⟩ | ⟨x7, rfl, h1⟩)
  rotate_left
  · exact ⟨rfl, Or.inr ⟨_, rfl, h1⟩⟩
  refine X.xok (fun w7 => ?_)
  replace h := h v7 A7 w7 h1
  change X _ _ _ _ A7 _ _ [.long v7]
  refine x_lstore_n dX22_value_15 (by decide) ?_
  refine X.lvs (lv' := [some (.ref p), some (va_rf m), some (.long v7), none, none]) (by generalize m = z; cases z <;> rfl) ?_
  refine x_iconst_ (v := (0 : Int32)) dX22_value_16 (by decide) ?_
  refine x_istore dX22_value_17 (by decide) ?_
  obtain ⟨L8, ⟨n8, i8⟩, g8⟩ := h
  have kl8 : ∀ n8 : Nat, ∀ (y8_2 : Int64) (y8_4 : Int32) (A8 : xA), L8 n8 y8_2 y8_4 A8 → X G (dp + 811) kX22_value (hX (hL Q) E) A8 19 [some (.ref p), some (va_rf m), some (.long y8_2), none, some (.int y8_4)] [] := by
    intro n8
    induction n8 using Nat.strongRecOn with
    | ind n8 ih8 =>
      intro y8_2 y8_4 A8 h
      replace h := g8 n8 y8_2 y8_4 A8 h
      refine x_iload dX22_value_19 rfl ?_
      refine x_aload_n dX22_value_21 rfl ?_
      obtain ⟨o9, h⟩ := h
      refine x_get (v := va_rf (A8.P p 1)) hG dX22_value_22 f_X22_19_20 o9 rfl ?_
      obtain ⟨b10, e10, h⟩ := h
      rw [e10]
      obtain ⟨o11, h⟩ := h
      refine x_alen hG (j := 0) dX22_value_25 o11 ?_
      refine x_icmp_ge (tgt := 66) dX22_value_26 (by decide) (fun c26 => ?_) (fun c26 => ?_)
      · replace h := h.1 c26
        refine x_lload_n dX22_value_66 rfl ?_
        exact x_lret dX22_value_67 rfl (Or.inl ⟨_, rfl, h⟩)
      · replace h := h.2 c26
        refine x_aloadq_n dX22_value_29 rfl ?_
        refine x_aload_n dX22_value_30 rfl ?_
        refine x_get (v := .ref b10) hG dX22_value_31 f_X22_19_20 o9 (congrArg va_rf e10) ?_
        refine x_iload dX22_value_34 rfl ?_
        obtain ⟨o12, h⟩ := h
        refine x_iald hG dX22_value_36 o11 o12 ?_
        refine x_lload_n dX22_value_37 rfl ?_
        refine x_aload_n dX22_value_38 rfl ?_
        refine x_get (v := va_rf (A8.P p 2)) hG dX22_value_39 f_X22_25_20 o9 rfl ?_
        refine x_iload dX22_value_42 rfl ?_
        refine x_iconst_ (v := (1 : Int32)) dX22_value_44 (by decide) ?_
        refine x_iadd dX22_value_45 ?_
        obtain ⟨b14, e14, h⟩ := h
        rw [e14]
        obtain ⟨o15, h⟩ := h
        obtain ⟨R13, g13, h⟩ := h
        refine x_callV hG (Ky := kJ5_get) (As := [.int (y8_4 + (1 : Int32))]) dX22_value_46 o15 rfl lk_X22_3 me_J5_get is_J5_get se_J5_get rfl rfl (by simp only [List.append_eq, List.nil_append, List.map_cons, va_rf_cat]; exact Nat.le_of_ble_eq_true rfl) (MX.post (m_w_J5_get hG hO g13) ?_)
        rintro _ A13 ⟨v13, rfl, h1⟩
        refine X.xok (fun w13 => ?_)
        replace h := h v13 A13 w13 h1
        change X _ _ _ _ A13 _ _ [va_rf v13, .long y8_2, .int (A8.I b10 (ix y8_4)), va_rf m]
        obtain ⟨b16, e16, h⟩ := h
        rw [e16]
        obtain ⟨o17, h⟩ := h
        refine z_castE hG dX22_value_49 q1432 o17 ?_
        refine x_aloadq_n dX22_value_52 rfl ?_
        obtain ⟨R18, g18, h⟩ := h
        refine z_disp (pc' := 53) (lv' := [some (.ref p), some (va_rf m), some (.long y8_2), none, some (.int y8_4)]) (st' := [.long y8_2, .int (A8.I b10 (ix y8_4)), va_rf m]) (P := hX (hL R18) E) (kr := ?_) (kc := ?_)
        rotate_left
        · obtain ⟨c, tc, hc⟩ := o17
          simp only [eCl, List.mem_cons, List.not_mem_nil, or_false] at hc
          intro kr
          rcases hc with rfl | rfl | rfl | rfl | rfl | rfl | rfl | rfl
          · exact x_callU hG (Ky := kX16_value) (As := [va_rf m]) dX22_value_53 tc rfl q2041 q2014 (Or.inl q2013) xm_X15_value me_X16_value is_X16_value q2200 rfl rfl (by simp only [List.append_eq, List.nil_append, List.map_cons, va_rf_cat]; exact Nat.le_of_ble_eq_true rfl) (MX.post (hK.2.2.2.2.1.1 tc g18) kr)
          · exact x_callU hG (Ky := kX17_value) (As := [va_rf m]) dX22_value_53 tc rfl q2041 q2014 (Or.inl q2013) xm_X15_value me_X17_value is_X17_value q2194 rfl rfl (by simp only [List.append_eq, List.nil_append, List.map_cons, va_rf_cat]; exact Nat.le_of_ble_eq_true rfl) (MX.post (hK.2.2.2.2.1.2.1 tc g18) kr)
          · exact x_callU hG (Ky := kX18_value) (As := [va_rf m]) dX22_value_53 tc rfl q2041 q2014 (Or.inl q2013) xm_X15_value me_X18_value is_X18_value q2199 rfl rfl (by simp only [List.append_eq, List.nil_append, List.map_cons, va_rf_cat]; exact Nat.le_of_ble_eq_true rfl) (MX.post (hK.2.2.2.2.1.2.2.1 tc g18) kr)
          · exact x_callU hG (Ky := kX19_value) (As := [va_rf m]) dX22_value_53 tc rfl q2041 q2014 (Or.inl q2013) xm_X15_value me_X19_value is_X19_value q2197 rfl rfl (by simp only [List.append_eq, List.nil_append, List.map_cons, va_rf_cat]; exact Nat.le_of_ble_eq_true rfl) (MX.post (hK.2.2.2.2.1.2.2.2.1 tc g18) kr)
          · exact x_callU hG (Ky := kX20_value) (As := [va_rf m]) dX22_value_53 tc rfl q2041 q2014 (Or.inl q2013) xm_X15_value me_X20_value is_X20_value q2015 rfl rfl (by simp only [List.append_eq, List.nil_append, List.map_cons, va_rf_cat]; exact Nat.le_of_ble_eq_true rfl) (MX.post (hK.2.2.2.2.1.2.2.2.2.1 tc g18) kr)
          · exact x_callU hG (Ky := kX21_value) (As := [va_rf m]) dX22_value_53 tc rfl q2041 q2014 (Or.inl q2013) xm_X15_value me_X21_value is_X21_value q2198 rfl rfl (by simp only [List.append_eq, List.nil_append, List.map_cons, va_rf_cat]; exact Nat.le_of_ble_eq_true rfl) (MX.post (hK.2.2.2.2.1.2.2.2.2.2.1 tc g18) kr)
          · exact x_callU hG (Ky := kX22_value) (As := [va_rf m]) dX22_value_53 tc rfl q2041 q2014 (Or.inl q2013) xm_X15_value me_X22_value is_X22_value q2195 rfl rfl (by simp only [List.append_eq, List.nil_append, List.map_cons, va_rf_cat]; exact Nat.le_of_ble_eq_true rfl) (MX.post (hK.2.2.2.2.1.2.2.2.2.2.2.1 tc g18) kr)
          · exact x_callU hG (Ky := kX23_value) (As := [va_rf m]) dX22_value_53 tc rfl q2041 q2014 (Or.inl q2013) xm_X15_value me_X23_value is_X23_value q2196 rfl rfl (by simp only [List.append_eq, List.nil_append, List.map_cons, va_rf_cat]; exact Nat.le_of_ble_eq_true rfl) (MX.post (hK.2.2.2.2.1.2.2.2.2.2.2.2 tc g18) kr)
        rintro _ A18 (⟨v18, rfl, h1⟩ | ⟨x18, rfl, h1⟩)
        rotate_left
        · exact ⟨rfl, Or.inr ⟨_, rfl, h1⟩⟩
        refine X.xok (fun w18 => ?_)
        replace h := h v18 A18 w18 h1
        change X _ _ _ _ A18 _ _ [.long v18, .long y8_2, .int (A8.I b10 (ix y8_4)), va_rf m]
        obtain ⟨b20, e20, h⟩ := h
        rw [e20]
        obtain ⟨o21, h⟩ := h
        obtain ⟨R19, g19, h⟩ := h
        refine x_callV hG (Ky := kX6_act) (As := [.int (A8.I b10 (ix y8_4)), .long y8_2, .long v18]) dX22_value_56 o21 rfl lk_X22_45 me_X6_act is_X6_act se_X6_act rfl rfl (Nat.le_of_ble_eq_true rfl) (MX.post ((rc_A hG hO 3) g19) ?_)
        rintro _ A19 ⟨v19, rfl, h1⟩
        refine X.xok (fun w19 => ?_)
        replace h := h v19 A19 w19 h1
        change X _ _ _ _ A19 _ _ [.long v19]
        refine x_lstore_n dX22_value_59 (by decide) ?_
        refine x_iinc (v := (y8_4 + (1 : Int32))) dX22_value_60 rfl rfl (by decide) ?_
        refine x_goto (tgt := 19) dX22_value_63 (by decide) ?_
        obtain ⟨q8, l8, h⟩ := h
        change X _ _ _ _ _ _ [some (.ref p), some (.ref b20), some (.long v19), none, some (.int (y8_4 + (1 : Int32)))] []
        exact X.weak (xle_c rfl (xle_c (congrArg (fun z => some (va_rf z)) e20.symm) (xle_c rfl (xle_n (xle_c rfl xle_nil))))) (ih8 q8 l8 v19 (y8_4 + (1 : Int32)) A19 h)
  change X _ _ _ _ _ _ [some (.ref p), some (va_rf m), some (.long v7), none, some (.int (0 : Int32))] []
  exact X.weak (xle_c rfl (xle_c rfl (xle_c rfl (xle_n (xle_c rfl xle_nil))))) (kl8 n8 v7 (0 : Int32) A7 i8)
def w_X23_value (G : xG) (r0 : Nat → Option Nat → Int32 → (Int64 → xA → Prop) → (Nat → xA → Prop) → xA → Prop) (r1 : Nat → Option Nat → Option Nat → Int32 → (Int64 → xA → Prop) → (Nat → xA → Prop) → xA → Prop) (r2 : Nat → Option Nat → Option Nat → Option Nat → (xA → Prop) → (Nat → xA → Prop) → xA → Prop) (r3 : Nat → Option Nat → Option Nat → Option Nat → (xA → Prop) → (Nat → xA → Prop) → xA → Prop) (r4 : Nat → Option Nat → (Int64 → xA → Prop) → (Nat → xA → Prop) → xA → Prop) (r5 : Nat → Option Nat → Option Nat → Option Nat → (xA → Prop) → (Nat → xA → Prop) → xA → Prop) (p : Nat) (m : Option Nat) (Q : Int64 → xA → Prop) (E : Nat → xA → Prop) (A : xA) : Prop := xok G A → ∃ b2 : Nat, m = some b2 ∧ (A.tg b2 = 6 ∧ (∃ R1 : Option Nat → xA → Prop, w_X6_block G b2 R1 A ∧ (∀ (v1 : Option Nat) (A1 : xA), xok G A1 → R1 v1 A1 → (A1.tg b2 = 6 ∧ (∃ R4 : Option Nat → xA → Prop, w_X6_block G b2 R4 A1 ∧ (∀ (v4 : Option Nat) (A4 : xA), xok G A4 → R4 v4 A4 → (A4.tg b2 = 6 ∧ (∃ R6 : Option Nat → xA → Prop, w_X6_block G b2 R6 A4 ∧ (∀ (v6 : Option Nat) (A6 : xA), xok G A6 → R6 v6 A6 → (A6.tg p = 22 ∧ (∃ b9 : Nat, (A6.P p 1) = some b9 ∧ (xE A6 b9 ∧ (∃ R11 : xA → Prop, r5 b9 (some b2) v1 v4 R11 E A6 ∧ (∀ A11 : xA, xok G A11 → R11 A11 → (A11.tg b2 = 6 ∧ (∃ R12 : Int32 → xA → Prop, w_X6_register G b2 R12 A11 ∧ (∀ (v12 : Int32) (A12 : xA), xok G A12 → R12 v12 A12 → (A12.tg b2 = 6 ∧ (∃ R14 : xA → Prop, w_X6_at G b2 v1 R14 A12 ∧ (∀ A14 : xA, xok G A14 → R14 A14 → (A14.tg p = 22 ∧ (∃ b17 : Nat, (A14.P p 2) = some b17 ∧ (xE A14 b17 ∧ (∃ R19 : Int64 → xA → Prop, r4 b17 (some b2) R19 E A14 ∧ (∀ (v19 : Int64) (A19 : xA), xok G A19 → R19 v19 A19 → (A19.tg b2 = 6 ∧ (∃ R20 : xA → Prop, w_X6_move G b2 v12 v19 R20 A19 ∧ (∀ A20 : xA, xok G A20 → R20 A20 → (A20.tg b2 = 6 ∧ (∃ R22 : xA → Prop, w_X6_jump G b2 v6 R22 A20 ∧ (∀ A22 : xA, xok G A22 → R22 A22 → (A22.tg b2 = 6 ∧ (∃ R24 : xA → Prop, w_X6_at G b2 v4 R24 A22 ∧ (∀ A24 : xA, xok G A24 → R24 A24 → (A24.tg p = 22 ∧ (∃ b27 : Nat, (A24.P p 3) = some b27 ∧ (xE A24 b27 ∧ (∃ R29 : Int64 → xA → Prop, r4 b27 (some b2) R29 E A24 ∧ (∀ (v29 : Int64) (A29 : xA), xok G A29 → R29 v29 A29 → (A29.tg b2 = 6 ∧ (∃ R30 : xA → Prop, w_X6_move G b2 v12 v29 R30 A29 ∧ (∀ A30 : xA, xok G A30 → R30 A30 → (A30.tg b2 = 6 ∧ (∃ R32 : xA → Prop, w_X6_jump G b2 v6 R32 A30 ∧ (∀ A32 : xA, xok G A32 → R32 A32 → (A32.tg b2 = 6 ∧ (∃ R34 : xA → Prop, w_X6_at G b2 v6 R34 A32 ∧ (∀ A34 : xA, xok G A34 → R34 A34 → (Q v12.toInt64 A34)))))))))))))))))))))))))))))))))))))))))))))))))
theorem m_X23_value (hG : xOK G) (hO : xHO G) {dp : Nat} {r0 : Nat → Option Nat → Int32 → (Int64 → xA → Prop) → (Nat → xA → Prop) → xA → Prop} {r1 : Nat → Option Nat → Option Nat → Int32 → (Int64 → xA → Prop) → (Nat → xA → Prop) → xA → Prop} {r2 : Nat → Option Nat → Option Nat → Option Nat → (xA → Prop) → (Nat → xA → Prop) → xA → Prop} {r3 : Nat → Option Nat → Option Nat → Option Nat → (xA → Prop) → (Nat → xA → Prop) → xA → Prop} {r4 : Nat → Option Nat → (Int64 → xA → Prop) → (Nat → xA → Prop) → xA → Prop} {r5 : Nat → Option Nat → Option Nat → Option Nat → (xA → Prop) → (Nat → xA → Prop) → xA → Prop} (hK : xRC_V G (dp + 810) r0 r1 r2 r3 r4 r5) {p : Nat} {m : Option Nat} {Q : Int64 → xA → Prop} {E : Nat → xA → Prop} {A : xA} (h : w_X23_value G r0 r1 r2 r3 r4 r5 p m Q E A) : MX G (dp + 811) kX23_value [.ref p, va_rf m] A (hX (hL Q) E) := by
  unfold w_X23_value at h
  refine MX.of rfl (by cases m <;> exact Nat.le_of_ble_eq_true rfl) ?_
  refine X.lvs (lv' := [some (.ref p), some (va_rf m), none, none, none, none]) (by cases m <;> rfl) ?_
  refine X.xok (fun w0 => ?_)
  replace h := h w0
  refine x_aloadq_n dX23_value_0 rfl ?_
  obtain ⟨b2, e2, h⟩ := h
  rw [e2]
  obtain ⟨o3, h⟩ := h
  obtain ⟨R1, g1, h⟩ := h
  refine x_callV hG (Ky := kX6_block) (As := []) dX23_value_1 o3 rfl lk_X23_33 me_X6_block is_X6_block se_X6_block rfl rfl (Nat.le_of_ble_eq_true rfl) (MX.post (m_X6_block hG hO g1) ?_)
  rintro _ A1 ⟨v1, rfl, h1⟩
  refine X.xok (fun w1 => ?_)
  replace h := h v1 A1 w1 h1
  change X _ _ _ _ A1 _ _ [va_rf v1]
  refine x_astoreq_n dX23_value_4 (by decide) ?_
  refine x_aload_n dX23_value_5 rfl ?_
  obtain ⟨o5, h⟩ := h
  obtain ⟨R4, g4, h⟩ := h
  refine x_callV hG (Ky := kX6_block) (As := []) dX23_value_6 o5 rfl lk_X23_33 me_X6_block is_X6_block se_X6_block rfl rfl (Nat.le_of_ble_eq_true rfl) (MX.post (m_X6_block hG hO g4) ?_)
  rintro _ A4 ⟨v4, rfl, h1⟩
  refine X.xok (fun w4 => ?_)
  replace h := h v4 A4 w4 h1
  change X _ _ _ _ A4 _ _ [va_rf v4]
  refine x_astoreq_n dX23_value_9 (by decide) ?_
  refine X.lvs (lv' := [some (.ref p), some (.ref b2), some (va_rf v1), some (va_rf v4), none, none]) (by generalize v1 = z; cases z <;> rfl) ?_
  refine x_aload_n dX23_value_10 rfl ?_
  obtain ⟨o7, h⟩ := h
  obtain ⟨R6, g6, h⟩ := h
  refine x_callV hG (Ky := kX6_block) (As := []) dX23_value_11 o7 rfl lk_X23_33 me_X6_block is_X6_block se_X6_block rfl rfl (Nat.le_of_ble_eq_true rfl) (MX.post (m_X6_block hG hO g6) ?_)
  rintro _ A6 ⟨v6, rfl, h1⟩
  refine X.xok (fun w6 => ?_)
  replace h := h v6 A6 w6 h1
  change X _ _ _ _ A6 _ _ [va_rf v6]
  refine x_astoreq dX23_value_14 (by decide) ?_
  refine X.lvs (lv' := [some (.ref p), some (.ref b2), some (va_rf v1), some (va_rf v4), some (va_rf v6), none]) (by generalize v4 = z; cases z <;> rfl) ?_
  refine x_aload_n dX23_value_16 rfl ?_
  obtain ⟨o8, h⟩ := h
  refine x_get (v := va_rf (A6.P p 1)) hG dX23_value_17 f_X23_13_21 o8 rfl ?_
  refine x_aload_n dX23_value_20 rfl ?_
  refine x_aloadq_n dX23_value_21 rfl ?_
  refine x_aloadq_n dX23_value_22 rfl ?_
  obtain ⟨b9, e9, h⟩ := h
  rw [e9]
  obtain ⟨o10, h⟩ := h
  obtain ⟨R11, g11, h⟩ := h
  refine z_disp (pc' := 23) (lv' := [some (.ref p), some (.ref b2), some (va_rf v1), some (va_rf v4), some (va_rf v6), none]) (st' := []) (P := hX (hV R11) E) (kr := ?_) (kc := ?_)
  rotate_left
  · obtain ⟨c, tc, hc⟩ := o10
    simp only [eCl, List.mem_cons, List.not_mem_nil, or_false] at hc
    intro kr
    rcases hc with rfl | rfl | rfl | rfl | rfl | rfl | rfl | rfl
    · exact x_callU hG (Ky := kX15_branch) (As := [.ref b2, va_rf v1, va_rf v4]) dX23_value_23 tc rfl q2045 q2047 (Or.inr ⟨is_X15_branch, _, _, _, me_X15_branch.1⟩) xm_X15_branch me_X15_branch is_X15_branch q2127 rfl rfl (Nat.le_of_ble_eq_true rfl) (MX.post (hK.2.2.2.2.2.1 tc g11) kr)
    · exact x_callU hG (Ky := kX15_branch) (As := [.ref b2, va_rf v1, va_rf v4]) dX23_value_23 tc rfl q2045 q2047 (Or.inr ⟨is_X15_branch, _, _, _, me_X15_branch.1⟩) xm_X15_branch me_X15_branch is_X15_branch q2121 rfl rfl (Nat.le_of_ble_eq_true rfl) (MX.post (hK.2.2.2.2.2.2.1 tc g11) kr)
    · exact x_callU hG (Ky := kX15_branch) (As := [.ref b2, va_rf v1, va_rf v4]) dX23_value_23 tc rfl q2045 q2047 (Or.inr ⟨is_X15_branch, _, _, _, me_X15_branch.1⟩) xm_X15_branch me_X15_branch is_X15_branch q2126 rfl rfl (Nat.le_of_ble_eq_true rfl) (MX.post (hK.2.2.2.2.2.2.2.1 tc g11) kr)
    · exact x_callU hG (Ky := kX15_branch) (As := [.ref b2, va_rf v1, va_rf v4]) dX23_value_23 tc rfl q2045 q2047 (Or.inr ⟨is_X15_branch, _, _, _, me_X15_branch.1⟩) xm_X15_branch me_X15_branch is_X15_branch q2124 rfl rfl (Nat.le_of_ble_eq_true rfl) (MX.post (hK.2.2.2.2.2.2.2.2.1 tc g11) kr)
    · exact x_callU hG (Ky := kX20_branch) (As := [.ref b2, va_rf v1, va_rf v4]) dX23_value_23 tc rfl q2045 q2047 (Or.inr ⟨is_X15_branch, _, _, _, me_X15_branch.1⟩) xm_X15_branch me_X20_branch is_X20_branch q2048 rfl rfl (Nat.le_of_ble_eq_true rfl) (MX.post (hK.2.2.2.2.2.2.2.2.2.1 tc g11) kr)
    · exact x_callU hG (Ky := kX21_branch) (As := [.ref b2, va_rf v1, va_rf v4]) dX23_value_23 tc rfl q2045 q2047 (Or.inr ⟨is_X15_branch, _, _, _, me_X15_branch.1⟩) xm_X15_branch me_X21_branch is_X21_branch q2125 rfl rfl (Nat.le_of_ble_eq_true rfl) (MX.post (hK.2.2.2.2.2.2.2.2.2.2.1 tc g11) kr)
    · exact x_callU hG (Ky := kX22_branch) (As := [.ref b2, va_rf v1, va_rf v4]) dX23_value_23 tc rfl q2045 q2047 (Or.inr ⟨is_X15_branch, _, _, _, me_X15_branch.1⟩) xm_X15_branch me_X22_branch is_X22_branch q2122 rfl rfl (Nat.le_of_ble_eq_true rfl) (MX.post (hK.2.2.2.2.2.2.2.2.2.2.2.1 tc g11) kr)
    · exact x_callU hG (Ky := kX15_branch) (As := [.ref b2, va_rf v1, va_rf v4]) dX23_value_23 tc rfl q2045 q2047 (Or.inr ⟨is_X15_branch, _, _, _, me_X15_branch.1⟩) xm_X15_branch me_X15_branch is_X15_branch q2123 rfl rfl (Nat.le_of_ble_eq_true rfl) (MX.post (hK.2.2.2.2.2.2.2.2.2.2.2.2 tc g11) kr)
  rintro _ A11 (⟨rfl, h1⟩ | ⟨x11, rfl, h1⟩)
  rotate_left
  · exact ⟨rfl, Or.inr ⟨_, rfl, h1⟩⟩
  refine X.xok (fun w11 => ?_)
  replace h := h A11 w11 h1
  change X _ _ _ _ A11 _ _ []
  refine x_aload_n dX23_value_26 rfl ?_
  obtain ⟨o13, h⟩ := h
  obtain ⟨R12, g12, h⟩ := h
  refine x_callV hG (Ky := kX6_register) (As := []) dX23_value_27 o13 rfl lk_X23_43 me_X6_register is_X6_register se_X6_register rfl rfl (Nat.le_of_ble_eq_true rfl) (MX.post (m_X6_register hG hO g12) ?_)
  rintro _ A12 ⟨v12, rfl, h1⟩
  refine X.xok (fun w12 => ?_)
  replace h := h v12 A12 w12 h1
  change X _ _ _ _ A12 _ _ [.int v12]
  refine x_istore dX23_value_30 (by decide) ?_
  refine X.lvs (lv' := [some (.ref p), some (.ref b2), some (va_rf v1), some (va_rf v4), some (va_rf v6), some (.int v12)]) (by generalize v6 = z; cases z <;> rfl) ?_
  refine x_aload_n dX23_value_32 rfl ?_
  refine x_aloadq_n dX23_value_33 rfl ?_
  obtain ⟨o15, h⟩ := h
  obtain ⟨R14, g14, h⟩ := h
  refine x_callV hG (Ky := kX6_at) (As := [va_rf v1]) dX23_value_34 o15 rfl lk_X23_46 me_X6_at is_X6_at se_X6_at rfl rfl (Nat.le_of_ble_eq_true rfl) (MX.post (m_X6_at hG hO g14) ?_)
  rintro _ A14 ⟨rfl, h1⟩
  refine X.xok (fun w14 => ?_)
  replace h := h A14 w14 h1
  change X _ _ _ _ A14 _ _ []
  refine x_aload_n dX23_value_37 rfl ?_
  refine x_iload dX23_value_38 rfl ?_
  refine x_aload_n dX23_value_40 rfl ?_
  obtain ⟨o16, h⟩ := h
  refine x_get (v := va_rf (A14.P p 2)) hG dX23_value_41 f_X23_19_21 o16 rfl ?_
  refine x_aload_n dX23_value_44 rfl ?_
  obtain ⟨b17, e17, h⟩ := h
  rw [e17]
  obtain ⟨o18, h⟩ := h
  obtain ⟨R19, g19, h⟩ := h
  refine z_disp (pc' := 45) (lv' := [some (.ref p), some (.ref b2), some (va_rf v1), some (va_rf v4), some (va_rf v6), some (.int v12)]) (st' := [.int v12, .ref b2]) (P := hX (hL R19) E) (kr := ?_) (kc := ?_)
  rotate_left
  · obtain ⟨c, tc, hc⟩ := o18
    simp only [eCl, List.mem_cons, List.not_mem_nil, or_false] at hc
    intro kr
    rcases hc with rfl | rfl | rfl | rfl | rfl | rfl | rfl | rfl
    · exact x_callU hG (Ky := kX16_value) (As := [.ref b2]) dX23_value_45 tc rfl q2134 q2014 (Or.inl q2013) xm_X15_value me_X16_value is_X16_value q2200 rfl rfl (Nat.le_of_ble_eq_true rfl) (MX.post (hK.2.2.2.2.1.1 tc g19) kr)
    · exact x_callU hG (Ky := kX17_value) (As := [.ref b2]) dX23_value_45 tc rfl q2134 q2014 (Or.inl q2013) xm_X15_value me_X17_value is_X17_value q2194 rfl rfl (Nat.le_of_ble_eq_true rfl) (MX.post (hK.2.2.2.2.1.2.1 tc g19) kr)
    · exact x_callU hG (Ky := kX18_value) (As := [.ref b2]) dX23_value_45 tc rfl q2134 q2014 (Or.inl q2013) xm_X15_value me_X18_value is_X18_value q2199 rfl rfl (Nat.le_of_ble_eq_true rfl) (MX.post (hK.2.2.2.2.1.2.2.1 tc g19) kr)
    · exact x_callU hG (Ky := kX19_value) (As := [.ref b2]) dX23_value_45 tc rfl q2134 q2014 (Or.inl q2013) xm_X15_value me_X19_value is_X19_value q2197 rfl rfl (Nat.le_of_ble_eq_true rfl) (MX.post (hK.2.2.2.2.1.2.2.2.1 tc g19) kr)
    · exact x_callU hG (Ky := kX20_value) (As := [.ref b2]) dX23_value_45 tc rfl q2134 q2014 (Or.inl q2013) xm_X15_value me_X20_value is_X20_value q2015 rfl rfl (Nat.le_of_ble_eq_true rfl) (MX.post (hK.2.2.2.2.1.2.2.2.2.1 tc g19) kr)
    · exact x_callU hG (Ky := kX21_value) (As := [.ref b2]) dX23_value_45 tc rfl q2134 q2014 (Or.inl q2013) xm_X15_value me_X21_value is_X21_value q2198 rfl rfl (Nat.le_of_ble_eq_true rfl) (MX.post (hK.2.2.2.2.1.2.2.2.2.2.1 tc g19) kr)
    · exact x_callU hG (Ky := kX22_value) (As := [.ref b2]) dX23_value_45 tc rfl q2134 q2014 (Or.inl q2013) xm_X15_value me_X22_value is_X22_value q2195 rfl rfl (Nat.le_of_ble_eq_true rfl) (MX.post (hK.2.2.2.2.1.2.2.2.2.2.2.1 tc g19) kr)
    · exact x_callU hG (Ky := kX23_value) (As := [.ref b2]) dX23_value_45 tc rfl q2134 q2014 (Or.inl q2013) xm_X15_value me_X23_value is_X23_value q2196 rfl rfl (Nat.le_of_ble_eq_true rfl) (MX.post (hK.2.2.2.2.1.2.2.2.2.2.2.2 tc g19) kr)
  rintro _ A19 (⟨v19, rfl, h1⟩ | ⟨x19, rfl, h1⟩)
  rotate_left
  · exact ⟨rfl, Or.inr ⟨_, rfl, h1⟩⟩
  refine X.xok (fun w19 => ?_)
  replace h := h v19 A19 w19 h1
  change X _ _ _ _ A19 _ _ [.long v19, .int v12, .ref b2]
  obtain ⟨o21, h⟩ := h
  obtain ⟨R20, g20, h⟩ := h
  refine x_callV hG (Ky := kX6_move) (As := [.int v12, .long v19]) dX23_value_48 o21 rfl lk_X23_54 me_X6_move is_X6_move se_X6_move rfl rfl (Nat.le_of_ble_eq_true rfl) (MX.post (m_X6_move hG hO g20) ?_)
  rintro _ A20 ⟨rfl, h1⟩
  refine X.xok (fun w20 => ?_)
  replace h := h A20 w20 h1
  change X _ _ _ _ A20 _ _ []
  refine x_aload_n dX23_value_51 rfl ?_
  refine x_aloadq dX23_value_52 rfl ?_
  obtain ⟨o23, h⟩ := h
  obtain ⟨R22, g22, h⟩ := h
  refine x_callV hG (Ky := kX6_jump) (As := [va_rf v6]) dX23_value_54 o23 rfl lk_X23_58 me_X6_jump is_X6_jump se_X6_jump rfl rfl (Nat.le_of_ble_eq_true rfl) (MX.post (m_X6_jump hG hO g22) ?_)
  rintro _ A22 ⟨rfl, h1⟩
  refine X.xok (fun w22 => ?_)
  replace h := h A22 w22 h1
  change X _ _ _ _ A22 _ _ []
  refine x_aload_n dX23_value_57 rfl ?_
  refine x_aloadq_n dX23_value_58 rfl ?_
  obtain ⟨o25, h⟩ := h
  obtain ⟨R24, g24, h⟩ := h
  refine x_callV hG (Ky := kX6_at) (As := [va_rf v4]) dX23_value_59 o25 rfl lk_X23_46 me_X6_at is_X6_at se_X6_at rfl rfl (Nat.le_of_ble_eq_true rfl) (MX.post (m_X6_at hG hO g24) ?_)
  rintro _ A24 ⟨rfl, h1⟩
  refine X.xok (fun w24 => ?_)
  replace h := h A24 w24 h1
  change X _ _ _ _ A24 _ _ []
  refine x_aload_n dX23_value_62 rfl ?_
  refine x_iload dX23_value_63 rfl ?_
  refine x_aload_n dX23_value_65 rfl ?_
  obtain ⟨o26, h⟩ := h
  refine x_get (v := va_rf (A24.P p 3)) hG dX23_value_66 f_X23_22_21 o26 rfl ?_
  refine x_aload_n dX23_value_69 rfl ?_
  obtain ⟨b27, e27, h⟩ := h
  rw [e27]
  obtain ⟨o28, h⟩ := h
  obtain ⟨R29, g29, h⟩ := h
  refine z_disp (pc' := 70) (lv' := [some (.ref p), some (.ref b2), some (va_rf v1), some (va_rf v4), some (va_rf v6), some (.int v12)]) (st' := [.int v12, .ref b2]) (P := hX (hL R29) E) (kr := ?_) (kc := ?_)
  rotate_left
  · obtain ⟨c, tc, hc⟩ := o28
    simp only [eCl, List.mem_cons, List.not_mem_nil, or_false] at hc
    intro kr
    rcases hc with rfl | rfl | rfl | rfl | rfl | rfl | rfl | rfl
    · exact x_callU hG (Ky := kX16_value) (As := [.ref b2]) dX23_value_70 tc rfl q2134 q2014 (Or.inl q2013) xm_X15_value me_X16_value is_X16_value q2200 rfl rfl (Nat.le_of_ble_eq_true rfl) (MX.post (hK.2.2.2.2.1.1 tc g29) kr)
    · exact x_callU hG (Ky := kX17_value) (As := [.ref b2]) dX23_value_70 tc rfl q2134 q2014 (Or.inl q2013) xm_X15_value me_X17_value is_X17_value q2194 rfl rfl (Nat.le_of_ble_eq_true rfl) (MX.post (hK.2.2.2.2.1.2.1 tc g29) kr)
    · exact x_callU hG (Ky := kX18_value) (As := [.ref b2]) dX23_value_70 tc rfl q2134 q2014 (Or.inl q2013) xm_X15_value me_X18_value is_X18_value q2199 rfl rfl (Nat.le_of_ble_eq_true rfl) (MX.post (hK.2.2.2.2.1.2.2.1 tc g29) kr)
    · exact x_callU hG (Ky := kX19_value) (As := [.ref b2]) dX23_value_70 tc rfl q2134 q2014 (Or.inl q2013) xm_X15_value me_X19_value is_X19_value q2197 rfl rfl (Nat.le_of_ble_eq_true rfl) (MX.post (hK.2.2.2.2.1.2.2.2.1 tc g29) kr)
    · exact x_callU hG (Ky := kX20_value) (As := [.ref b2]) dX23_value_70 tc rfl q2134 q2014 (Or.inl q2013) xm_X15_value me_X20_value is_X20_value q2015 rfl rfl (Nat.le_of_ble_eq_true rfl) (MX.post (hK.2.2.2.2.1.2.2.2.2.1 tc g29) kr)
    · exact x_callU hG (Ky := kX21_value) (As := [.ref b2]) dX23_value_70 tc rfl q2134 q2014 (Or.inl q2013) xm_X15_value me_X21_value is_X21_value q2198 rfl rfl (Nat.le_of_ble_eq_true rfl) (MX.post (hK.2.2.2.2.1.2.2.2.2.2.1 tc g29) kr)
    · exact x_callU hG (Ky := kX22_value) (As := [.ref b2]) dX23_value_70 tc rfl q2134 q2014 (Or.inl q2013) xm_X15_value me_X22_value is_X22_value q2195 rfl rfl (Nat.le_of_ble_eq_true rfl) (MX.post (hK.2.2.2.2.1.2.2.2.2.2.2.1 tc g29) kr)
    · exact x_callU hG (Ky := kX23_value) (As := [.ref b2]) dX23_value_70 tc rfl q2134 q2014 (Or.inl q2013) xm_X15_value me_X23_value is_X23_value q2196 rfl rfl (Nat.le_of_ble_eq_true rfl) (MX.post (hK.2.2.2.2.1.2.2.2.2.2.2.2 tc g29) kr)
  rintro _ A29 (⟨v29, rfl, h1⟩ | ⟨x29, rfl, h1⟩)
  rotate_left
  · exact ⟨rfl, Or.inr ⟨_, rfl, h1⟩⟩
  refine X.xok (fun w29 => ?_)
  replace h := h v29 A29 w29 h1
  change X _ _ _ _ A29 _ _ [.long v29, .int v12, .ref b2]
  obtain ⟨o31, h⟩ := h
  obtain ⟨R30, g30, h⟩ := h
  refine x_callV hG (Ky := kX6_move) (As := [.int v12, .long v29]) dX23_value_73 o31 rfl lk_X23_54 me_X6_move is_X6_move se_X6_move rfl rfl (Nat.le_of_ble_eq_true rfl) (MX.post (m_X6_move hG hO g30) ?_)
  rintro _ A30 ⟨rfl, h1⟩
  refine X.xok (fun w30 => ?_)
  replace h := h A30 w30 h1
  change X _ _ _ _ A30 _ _ []
  refine x_aload_n dX23_value_76 rfl ?_
  refine x_aloadq dX23_value_77 rfl ?_
  obtain ⟨o33, h⟩ := h
  obtain ⟨R32, g32, h⟩ := h
  refine x_callV hG (Ky := kX6_jump) (As := [va_rf v6]) dX23_value_79 o33 rfl lk_X23_58 me_X6_jump is_X6_jump se_X6_jump rfl rfl (Nat.le_of_ble_eq_true rfl) (MX.post (m_X6_jump hG hO g32) ?_)
  rintro _ A32 ⟨rfl, h1⟩
  refine X.xok (fun w32 => ?_)
  replace h := h A32 w32 h1
  change X _ _ _ _ A32 _ _ []
  refine x_aload_n dX23_value_82 rfl ?_
  refine x_aloadq dX23_value_83 rfl ?_
  obtain ⟨o35, h⟩ := h
  obtain ⟨R34, g34, h⟩ := h
  refine x_callV hG (Ky := kX6_at) (As := [va_rf v6]) dX23_value_85 o35 rfl lk_X23_46 me_X6_at is_X6_at se_X6_at rfl rfl (Nat.le_of_ble_eq_true rfl) (MX.post (m_X6_at hG hO g34) ?_)
  rintro _ A34 ⟨rfl, h1⟩
  refine X.xok (fun w34 => ?_)
  replace h := h A34 w34 h1
  change X _ _ _ _ A34 _ _ []
  refine x_iload dX23_value_88 rfl ?_
  refine x_i2l dX23_value_90 ?_
  exact x_lret dX23_value_91 rfl (Or.inl ⟨_, rfl, h⟩)
def w_X20_branch (G : xG) (r0 : Nat → Option Nat → Int32 → (Int64 → xA → Prop) → (Nat → xA → Prop) → xA → Prop) (r1 : Nat → Option Nat → Option Nat → Int32 → (Int64 → xA → Prop) → (Nat → xA → Prop) → xA → Prop) (r2 : Nat → Option Nat → Option Nat → Option Nat → (xA → Prop) → (Nat → xA → Prop) → xA → Prop) (r3 : Nat → Option Nat → Option Nat → Option Nat → (xA → Prop) → (Nat → xA → Prop) → xA → Prop) (r4 : Nat → Option Nat → (Int64 → xA → Prop) → (Nat → xA → Prop) → xA → Prop) (r5 : Nat → Option Nat → Option Nat → Option Nat → (xA → Prop) → (Nat → xA → Prop) → xA → Prop) (p : Nat) (m : Option Nat) (y : Option Nat) (n : Option Nat) (Q : xA → Prop) (E : Nat → xA → Prop) (A : xA) : Prop := xok G A → ∃ L1 : Nat → Int32 → Prop, (∃ n1 : Nat, L1 n1 (0 : Int32)) ∧ (∀ (n1 : Nat) (y1_4 : Int32), L1 n1 y1_4 → A.tg p = 19 ∧ (∃ b3 : Nat, (A.P p 1) = some b3 ∧ (A.tg b3 = 200 ∧ (∃ J5 : Prop, (J5 → (((nI (A.ln b3)) ≤ y1_4 → ∃ J6 : Option Nat → Prop, (∀ (y6_s0 : Option Nat), J6 y6_s0 → ∃ J7 : Option Nat → Prop, (∀ (y7_s0 : Option Nat), J7 y7_s0 → ∃ b8 : Nat, (A.P p 2) = some b8 ∧ (xE A b8 ∧ (∃ R10 : xA → Prop, r5 b8 m y6_s0 y7_s0 R10 E A ∧ (∀ A10 : xA, xok G A10 → R10 A10 → (Q A10))))) ∧ (((irem_ y1_4 (2 : Int32)) = 0 → J7 n) ∧ (¬ (irem_ y1_4 (2 : Int32)) = 0 → J7 y))) ∧ (((irem_ y1_4 (2 : Int32)) = 0 → J6 y) ∧ (¬ (irem_ y1_4 (2 : Int32)) = 0 → J6 n))) ∧ (¬ (nI (A.ln b3)) ≤ y1_4 → ∃ R11 : xA → Prop, r2 p m y n R11 E A ∧ (∀ A11 : xA, xok G A11 → R11 A11 → (Q A11))))) ∧ (((nI (A.ln b3)) ≤ y1_4 → J5) ∧ (¬ (nI (A.ln b3)) ≤ y1_4 → vp_in y1_4 (A.ln b3) ∧ ((((A.I b3 (ix y1_4)) = (84 : Int32) → (∃ q1 : Nat, q1 < n1 ∧ L1 q1 (y1_4 + (1 : Int32)))) ∧ (¬ (A.I b3 (ix y1_4)) = (84 : Int32) → J5)))))))))
theorem m_X20_branch (hG : xOK G) (hO : xHO G) {dp : Nat} {r0 : Nat → Option Nat → Int32 → (Int64 → xA → Prop) → (Nat → xA → Prop) → xA → Prop} {r1 : Nat → Option Nat → Option Nat → Int32 → (Int64 → xA → Prop) → (Nat → xA → Prop) → xA → Prop} {r2 : Nat → Option Nat → Option Nat → Option Nat → (xA → Prop) → (Nat → xA → Prop) → xA → Prop} {r3 : Nat → Option Nat → Option Nat → Option Nat → (xA → Prop) → (Nat → xA → Prop) → xA → Prop} {r4 : Nat → Option Nat → (Int64 → xA → Prop) → (Nat → xA → Prop) → xA → Prop} {r5 : Nat → Option Nat → Option Nat → Option Nat → (xA → Prop) → (Nat → xA → Prop) → xA → Prop} (hK : xRC_V G (dp + 810) r0 r1 r2 r3 r4 r5) {p : Nat} {m : Option Nat} {y : Option Nat} {n : Option Nat} {Q : xA → Prop} {E : Nat → xA → Prop} {A : xA} (h : w_X20_branch G r0 r1 r2 r3 r4 r5 p m y n Q E A) : MX G (dp + 811) kX20_branch [.ref p, va_rf m, va_rf y, va_rf n] A (hX (hV Q) E) := by
  unfold w_X20_branch at h
  refine MX.of rfl (by cases m <;> cases y <;> cases n <;> exact Nat.le_of_ble_eq_true rfl) ?_
  refine X.lvs (lv' := [some (.ref p), some (va_rf m), some (va_rf y), some (va_rf n), none]) (by cases m <;> cases y <;> cases n <;> rfl) ?_
  refine X.xok (fun w0 => ?_)
  replace h := h w0
  refine x_iconst_ (v := (0 : Int32)) dX20_branch_0 (by decide) ?_
  refine x_istore dX20_branch_1 (by decide) ?_
  refine X.lvs (lv' := [some (.ref p), some (va_rf m), some (va_rf y), some (va_rf n), some (.int (0 : Int32))]) (by generalize n = z; cases z <;> rfl) ?_
  obtain ⟨L1, ⟨n1, i1⟩, g1⟩ := h
  have kl1 : ∀ n1 : Nat, ∀ (y1_4 : Int32), L1 n1 y1_4 → X G (dp + 811) kX20_branch (hX (hV Q) E) A 3 [some (.ref p), some (va_rf m), some (va_rf y), some (va_rf n), some (.int y1_4)] [] := by
    intro n1
    induction n1 using Nat.strongRecOn with
    | ind n1 ih1 =>
      intro y1_4 h
      replace h := g1 n1 y1_4 h
      refine x_iload dX20_branch_3 rfl ?_
      refine x_aload_n dX20_branch_5 rfl ?_
      obtain ⟨o2, h⟩ := h
      refine x_get (v := va_rf (A.P p 1)) hG dX20_branch_6 f_X20_9_18 o2 rfl ?_
      obtain ⟨b3, e3, h⟩ := h
      rw [e3]
      obtain ⟨o4, h⟩ := h
      refine x_alen hG (j := 0) dX20_branch_9 o4 ?_
      obtain ⟨J5, g5, h⟩ := h
      have kj5 : J5 → X G (dp + 811) kX20_branch (hX (hV Q) E) A 31 [some (.ref p), some (va_rf m), some (va_rf y), some (va_rf n), some (.int y1_4)] [] := by
        intro h
        replace h := g5 h
        refine x_iload dX20_branch_31 rfl ?_
        refine x_aload_n dX20_branch_33 rfl ?_
        refine x_get (v := .ref b3) hG dX20_branch_34 f_X20_9_18 o2 (congrArg va_rf e3) ?_
        refine x_alen hG (j := 0) dX20_branch_37 o4 ?_
        refine x_icmp_ge (tgt := 49) dX20_branch_38 (by decide) (fun c38 => ?_) (fun c38 => ?_)
        · replace h := h.1 c38
          refine x_aload_n dX20_branch_49 rfl ?_
          refine x_get (v := va_rf (A.P p 2)) hG dX20_branch_50 f_X20_15_18 o2 rfl ?_
          refine x_aloadq_n dX20_branch_53 rfl ?_
          refine x_iload dX20_branch_54 rfl ?_
          refine x_iconst_ (v := (2 : Int32)) dX20_branch_56 (by decide) ?_
          refine x_irem dX20_branch_57 (by decide) ?_
          refine x_eqi (v := (irem_ y1_4 (2 : Int32))) rfl ?_
          obtain ⟨J6, g6, h⟩ := h
          have kj6 : ∀ (y6_s0 : Option Nat), J6 y6_s0 → X G (dp + 811) kX20_branch (hX (hV Q) E) A 66 [none, none, some (va_rf y), some (va_rf n), some (.int y1_4)] [va_rf y6_s0, va_rf m, va_rf (A.P p 2)] := by
            intro y6_s0 h
            replace h := g6 y6_s0 h
            refine x_iload dX20_branch_66 rfl ?_
            refine x_iconst_ (v := (2 : Int32)) dX20_branch_68 (by decide) ?_
            refine x_irem dX20_branch_69 (by decide) ?_
            refine x_eqi (v := (irem_ y1_4 (2 : Int32))) rfl ?_
            obtain ⟨J7, g7, h⟩ := h
            have kj7 : ∀ (y7_s0 : Option Nat), J7 y7_s0 → X G (dp + 811) kX20_branch (hX (hV Q) E) A 78 [none, none, none, none, none] [va_rf y7_s0, va_rf y6_s0, va_rf m, va_rf (A.P p 2)] := by
              intro y7_s0 h
              replace h := g7 y7_s0 h
              obtain ⟨b8, e8, h⟩ := h
              rw [e8]
              obtain ⟨o9, h⟩ := h
              obtain ⟨R10, g10, h⟩ := h
              refine z_disp (pc' := 78) (lv' := [none, none, none, none, none]) (st' := []) (P := hX (hV R10) E) (kr := ?_) (kc := ?_)
              rotate_left
              · obtain ⟨c, tc, hc⟩ := o9
                simp only [eCl, List.mem_cons, List.not_mem_nil, or_false] at hc
                intro kr
                rcases hc with rfl | rfl | rfl | rfl | rfl | rfl | rfl | rfl
                · exact x_callU hG (Ky := kX15_branch) (As := [va_rf m, va_rf y6_s0, va_rf y7_s0]) dX20_branch_78 tc rfl q2051 q2047 (Or.inr ⟨is_X15_branch, _, _, _, me_X15_branch.1⟩) xm_X15_branch me_X15_branch is_X15_branch q2127 rfl rfl (Nat.le_of_ble_eq_true rfl) (MX.post (hK.2.2.2.2.2.1 tc g10) kr)
                · exact x_callU hG (Ky := kX15_branch) (As := [va_rf m, va_rf y6_s0, va_rf y7_s0]) dX20_branch_78 tc rfl q2051 q2047 (Or.inr ⟨is_X15_branch, _, _, _, me_X15_branch.1⟩) xm_X15_branch me_X15_branch is_X15_branch q2121 rfl rfl (Nat.le_of_ble_eq_true rfl) (MX.post (hK.2.2.2.2.2.2.1 tc g10) kr)
                · exact x_callU hG (Ky := kX15_branch) (As := [va_rf m, va_rf y6_s0, va_rf y7_s0]) dX20_branch_78 tc rfl q2051 q2047 (Or.inr ⟨is_X15_branch, _, _, _, me_X15_branch.1⟩) xm_X15_branch me_X15_branch is_X15_branch q2126 rfl rfl (Nat.le_of_ble_eq_true rfl) (MX.post (hK.2.2.2.2.2.2.2.1 tc g10) kr)
                · exact x_callU hG (Ky := kX15_branch) (As := [va_rf m, va_rf y6_s0, va_rf y7_s0]) dX20_branch_78 tc rfl q2051 q2047 (Or.inr ⟨is_X15_branch, _, _, _, me_X15_branch.1⟩) xm_X15_branch me_X15_branch is_X15_branch q2124 rfl rfl (Nat.le_of_ble_eq_true rfl) (MX.post (hK.2.2.2.2.2.2.2.2.1 tc g10) kr)
                · exact x_callU hG (Ky := kX20_branch) (As := [va_rf m, va_rf y6_s0, va_rf y7_s0]) dX20_branch_78 tc rfl q2051 q2047 (Or.inr ⟨is_X15_branch, _, _, _, me_X15_branch.1⟩) xm_X15_branch me_X20_branch is_X20_branch q2048 rfl rfl (Nat.le_of_ble_eq_true rfl) (MX.post (hK.2.2.2.2.2.2.2.2.2.1 tc g10) kr)
                · exact x_callU hG (Ky := kX21_branch) (As := [va_rf m, va_rf y6_s0, va_rf y7_s0]) dX20_branch_78 tc rfl q2051 q2047 (Or.inr ⟨is_X15_branch, _, _, _, me_X15_branch.1⟩) xm_X15_branch me_X21_branch is_X21_branch q2125 rfl rfl (Nat.le_of_ble_eq_true rfl) (MX.post (hK.2.2.2.2.2.2.2.2.2.2.1 tc g10) kr)
                · exact x_callU hG (Ky := kX22_branch) (As := [va_rf m, va_rf y6_s0, va_rf y7_s0]) dX20_branch_78 tc rfl q2051 q2047 (Or.inr ⟨is_X15_branch, _, _, _, me_X15_branch.1⟩) xm_X15_branch me_X22_branch is_X22_branch q2122 rfl rfl (Nat.le_of_ble_eq_true rfl) (MX.post (hK.2.2.2.2.2.2.2.2.2.2.2.1 tc g10) kr)
                · exact x_callU hG (Ky := kX15_branch) (As := [va_rf m, va_rf y6_s0, va_rf y7_s0]) dX20_branch_78 tc rfl q2051 q2047 (Or.inr ⟨is_X15_branch, _, _, _, me_X15_branch.1⟩) xm_X15_branch me_X15_branch is_X15_branch q2123 rfl rfl (Nat.le_of_ble_eq_true rfl) (MX.post (hK.2.2.2.2.2.2.2.2.2.2.2.2 tc g10) kr)
              rintro _ A10 (⟨rfl, h1⟩ | ⟨x10, rfl, h1⟩)
              rotate_left
              · exact ⟨rfl, Or.inr ⟨_, rfl, h1⟩⟩
              refine X.xok (fun w10 => ?_)
              replace h := h A10 w10 h1
              change X _ _ _ _ A10 _ _ []
              exact x_vret dX20_branch_81 rfl (Or.inl ⟨rfl, h⟩)
            refine x_if_ne (tgt := 77) dX20_branch_70 (by decide) (fun c70 => ?_) (fun c70 => ?_)
            · replace h := h.2 c70
              refine x_aloadq_n dX20_branch_77 rfl ?_
              change X _ _ _ _ _ _ [none, none, some (va_rf y), some (va_rf n), some (.int y1_4)] [va_rf y, va_rf y6_s0, va_rf m, va_rf (A.P p 2)]
              exact X.weak (xle_n (xle_n (xle_n (xle_n (xle_n xle_nil))))) (kj7 y h)
            · replace h := h.1 c70
              refine x_aloadq_n dX20_branch_73 rfl ?_
              refine x_goto (tgt := 78) dX20_branch_74 (by decide) ?_
              change X _ _ _ _ _ _ [none, none, some (va_rf y), some (va_rf n), some (.int y1_4)] [va_rf n, va_rf y6_s0, va_rf m, va_rf (A.P p 2)]
              exact X.weak (xle_n (xle_n (xle_n (xle_n (xle_n xle_nil))))) (kj7 n h)
          refine x_if_ne (tgt := 65) dX20_branch_58 (by decide) (fun c58 => ?_) (fun c58 => ?_)
          · replace h := h.2 c58
            refine x_aloadq_n dX20_branch_65 rfl ?_
            change X _ _ _ _ _ _ [some (.ref p), some (va_rf m), some (va_rf y), some (va_rf n), some (.int y1_4)] [va_rf n, va_rf m, va_rf (A.P p 2)]
            exact X.weak (xle_n (xle_n (xle_c rfl (xle_c rfl (xle_c rfl xle_nil))))) (kj6 n h)
          · replace h := h.1 c58
            refine x_aloadq_n dX20_branch_61 rfl ?_
            refine x_goto (tgt := 66) dX20_branch_62 (by decide) ?_
            change X _ _ _ _ _ _ [some (.ref p), some (va_rf m), some (va_rf y), some (va_rf n), some (.int y1_4)] [va_rf y, va_rf m, va_rf (A.P p 2)]
            exact X.weak (xle_n (xle_n (xle_c rfl (xle_c rfl (xle_c rfl xle_nil))))) (kj6 y h)
        · replace h := h.2 c38
          refine x_aload_n dX20_branch_41 rfl ?_
          refine x_aloadq_n dX20_branch_42 rfl ?_
          refine x_aloadq_n dX20_branch_43 rfl ?_
          refine x_aloadq_n dX20_branch_44 rfl ?_
          obtain ⟨R11, g11, h⟩ := h
          refine x_callN hG (Ky := kX15_branch) (As := [va_rf m, va_rf y, va_rf n]) dX20_branch_45 o2 rfl q2051 q2047 q1392 (by decide) me_X15_branch is_X15_branch rfl rfl rfl (Nat.le_of_ble_eq_true rfl) (MX.post (hK.2.2.1 g11) ?_)
          rintro _ A11 (⟨rfl, h1⟩ | ⟨x11, rfl, h1⟩)
          rotate_left
          · exact ⟨rfl, Or.inr ⟨_, rfl, h1⟩⟩
          refine X.xok (fun w11 => ?_)
          replace h := h A11 w11 h1
          change X _ _ _ _ A11 _ _ []
          exact x_vret dX20_branch_48 rfl (Or.inl ⟨rfl, h⟩)
      refine x_icmp_ge (tgt := 31) dX20_branch_10 (by decide) (fun c10 => ?_) (fun c10 => ?_)
      · replace h := h.1 c10
        change X _ _ _ _ _ _ [some (.ref p), some (va_rf m), some (va_rf y), some (va_rf n), some (.int y1_4)] []
        exact X.weak (xle_c rfl (xle_c rfl (xle_c rfl (xle_c rfl (xle_c rfl xle_nil))))) (kj5 h)
      · replace h := h.2 c10
        refine x_aload_n dX20_branch_13 rfl ?_
        refine x_get (v := .ref b3) hG dX20_branch_14 f_X20_9_18 o2 (congrArg va_rf e3) ?_
        refine x_iload dX20_branch_17 rfl ?_
        obtain ⟨o12, h⟩ := h
        refine x_iald hG dX20_branch_19 o4 o12 ?_
        refine x_bipush_ (v := (84 : Int32)) dX20_branch_20 (by decide) ?_
        refine x_icmp_ne (tgt := 31) dX20_branch_22 (by decide) (fun c22 => ?_) (fun c22 => ?_)
        · replace h := h.2 c22
          change X _ _ _ _ _ _ [some (.ref p), some (va_rf m), some (va_rf y), some (va_rf n), some (.int y1_4)] []
          exact X.weak (xle_c rfl (xle_c rfl (xle_c rfl (xle_c rfl (xle_c rfl xle_nil))))) (kj5 h)
        · replace h := h.1 c22
          refine x_iinc (v := (y1_4 + (1 : Int32))) dX20_branch_25 rfl rfl (by decide) ?_
          refine X.lvs (lv' := [some (.ref p), some (va_rf m), some (va_rf y), some (va_rf n), some (.int (y1_4 + (1 : Int32)))]) (by generalize n = z; cases z <;> rfl) ?_
          refine x_goto (tgt := 3) dX20_branch_28 (by decide) ?_
          obtain ⟨q1, l1, h⟩ := h
          change X _ _ _ _ _ _ [some (.ref p), some (va_rf m), some (va_rf y), some (va_rf n), some (.int (y1_4 + (1 : Int32)))] []
          exact X.weak (xle_c rfl (xle_c rfl (xle_c rfl (xle_c rfl (xle_c rfl xle_nil))))) (ih1 q1 l1 (y1_4 + (1 : Int32)) h)
  change X _ _ _ _ _ _ [some (.ref p), some (va_rf m), some (va_rf y), some (va_rf n), some (.int (0 : Int32))] []
  exact X.weak (xle_c rfl (xle_c rfl (xle_c rfl (xle_c rfl (xle_c rfl xle_nil))))) (kl1 n1 (0 : Int32) i1)
def w_X22_branch (G : xG) (r0 : Nat → Option Nat → Int32 → (Int64 → xA → Prop) → (Nat → xA → Prop) → xA → Prop) (r1 : Nat → Option Nat → Option Nat → Int32 → (Int64 → xA → Prop) → (Nat → xA → Prop) → xA → Prop) (r2 : Nat → Option Nat → Option Nat → Option Nat → (xA → Prop) → (Nat → xA → Prop) → xA → Prop) (r3 : Nat → Option Nat → Option Nat → Option Nat → (xA → Prop) → (Nat → xA → Prop) → xA → Prop) (r4 : Nat → Option Nat → (Int64 → xA → Prop) → (Nat → xA → Prop) → xA → Prop) (r5 : Nat → Option Nat → Option Nat → Option Nat → (xA → Prop) → (Nat → xA → Prop) → xA → Prop) (p : Nat) (m : Option Nat) (y : Option Nat) (n : Option Nat) (Q : xA → Prop) (E : Nat → xA → Prop) (A : xA) : Prop := xok G A → A.tg p = 21 ∧ (∃ b2 : Nat, (A.P p 1) = some b2 ∧ (A.tg b2 = 200 ∧ (vp_in ((nI (A.ln b2)) - (1 : Int32)) (A.ln b2) ∧ ((((16 : Int32) < (A.I b2 (ix ((nI (A.ln b2)) - (1 : Int32)))) → ∃ R5 : xA → Prop, r2 p m y n R5 E A ∧ (∀ A5 : xA, xok G A5 → R5 A5 → (Q A5))) ∧ (¬ (16 : Int32) < (A.I b2 (ix ((nI (A.ln b2)) - (1 : Int32)))) → (((11 : Int32) ≤ (A.I b2 (ix ((nI (A.ln b2)) - (1 : Int32)))) → ∃ b7 : Nat, (A.P p 2) = some b7 ∧ (A.tg b7 = 37 ∧ (∃ R6 : Option Nat → xA → Prop, w_J5_get G b7 (0 : Int32) R6 A ∧ (∀ (v6 : Option Nat) (A6 : xA), xok G A6 → R6 v6 A6 → (∃ b9 : Nat, v6 = some b9 ∧ (xE A6 b9 ∧ (∃ R11 : Int64 → xA → Prop, r4 b9 m R11 E A6 ∧ (∀ (v11 : Int64) (A11 : xA), xok G A11 → R11 v11 A11 → (∃ L12 : Nat → Int64 → Int32 → xA → Prop, (∃ n12 : Nat, L12 n12 v11 (0 : Int32) A11) ∧ (∀ (n12 : Nat) (y12_5 : Int64) (y12_7 : Int32) (A12 : xA), L12 n12 y12_5 y12_7 A12 → ((((nI (A.ln b2)) - (1 : Int32)) ≤ y12_7 → A12.tg p = 21 ∧ (∃ b15 : Nat, (A12.P p 2) = some b15 ∧ (A12.tg b15 = 37 ∧ (∃ R14 : Option Nat → xA → Prop, w_J5_get G b15 (((nI (A.ln b2)) - (1 : Int32)) + (1 : Int32)) R14 A12 ∧ (∀ (v14 : Option Nat) (A14 : xA), xok G A14 → R14 v14 A14 → (∃ b17 : Nat, v14 = some b17 ∧ (xE A14 b17 ∧ (∃ R19 : Int64 → xA → Prop, r4 b17 m R19 E A14 ∧ (∀ (v19 : Int64) (A19 : xA), xok G A19 → R19 v19 A19 → (A19.tg p = 21 ∧ (∃ b21 : Nat, (A19.P p 1) = some b21 ∧ (A19.tg b21 = 200 ∧ (vp_in ((nI (A.ln b2)) - (1 : Int32)) (A19.ln b21) ∧ (∃ b25 : Nat, m = some b25 ∧ (A19.tg b25 = 6 ∧ (∃ R24 : xA → Prop, g_B_0 G b25 (A19.I b21 (ix ((nI (A.ln b2)) - (1 : Int32)))) y12_5 v19 y n R24 A19 ∧ (∀ A24 : xA, xok G A24 → R24 A24 → (Q A24)))))))))))))))))) ∧ (¬ ((nI (A.ln b2)) - (1 : Int32)) ≤ y12_7 → A12.tg p = 21 ∧ (∃ b28 : Nat, (A12.P p 1) = some b28 ∧ (A12.tg b28 = 200 ∧ (vp_in y12_7 (A12.ln b28) ∧ (∃ b32 : Nat, (A12.P p 2) = some b32 ∧ (A12.tg b32 = 37 ∧ (∃ R31 : Option Nat → xA → Prop, w_J5_get G b32 (y12_7 + (1 : Int32)) R31 A12 ∧ (∀ (v31 : Option Nat) (A31 : xA), xok G A31 → R31 v31 A31 → (∃ b34 : Nat, v31 = some b34 ∧ (xE A31 b34 ∧ (∃ R36 : Int64 → xA → Prop, r4 b34 m R36 E A31 ∧ (∀ (v36 : Int64) (A36 : xA), xok G A36 → R36 v36 A36 → (∃ b38 : Nat, m = some b38 ∧ (A36.tg b38 = 6 ∧ (∃ R37 : Int64 → xA → Prop, g_A_0 G b38 (A12.I b28 (ix y12_7)) y12_5 v36 R37 A36 ∧ (∀ (v37 : Int64) (A37 : xA), xok G A37 → R37 v37 A37 → ((∃ q12 : Nat, q12 < n12 ∧ L12 q12 v37 (y12_7 + (1 : Int32)) A37))))))))))))))))))))))))))))) ∧ (¬ (11 : Int32) ≤ (A.I b2 (ix ((nI (A.ln b2)) - (1 : Int32)))) → ∃ R40 : xA → Prop, r2 p m y n R40 E A ∧ (∀ A40 : xA, xok G A40 → R40 A40 → (Q A40))))))))))
theorem m_X22_branch (hG : xOK G) (hO : xHO G) {dp : Nat} {r0 : Nat → Option Nat → Int32 → (Int64 → xA → Prop) → (Nat → xA → Prop) → xA → Prop} {r1 : Nat → Option Nat → Option Nat → Int32 → (Int64 → xA → Prop) → (Nat → xA → Prop) → xA → Prop} {r2 : Nat → Option Nat → Option Nat → Option Nat → (xA → Prop) → (Nat → xA → Prop) → xA → Prop} {r3 : Nat → Option Nat → Option Nat → Option Nat → (xA → Prop) → (Nat → xA → Prop) → xA → Prop} {r4 : Nat → Option Nat → (Int64 → xA → Prop) → (Nat → xA → Prop) → xA → Prop} {r5 : Nat → Option Nat → Option Nat → Option Nat → (xA → Prop) → (Nat → xA → Prop) → xA → Prop} (hK : xRC_V G (dp + 810) r0 r1 r2 r3 r4 r5) {p : Nat} {m : Option Nat} {y : Option Nat} {n : Option Nat} {Q : xA → Prop} {E : Nat → xA → Prop} {A : xA} (h : w_X22_branch G r0 r1 r2 r3 r4 r5 p m y n Q E A) : MX G (dp + 811) kX22_branch [.ref p, va_rf m, va_rf y, va_rf n] A (hX (hV Q) E) := by
  unfold w_X22_branch at h
  refine MX.of rfl (by cases m <;> cases y <;> cases n <;> exact Nat.le_of_ble_eq_true rfl) ?_
  refine X.lvs (lv' := [some (.ref p), some (va_rf m), some (va_rf y), some (va_rf n), none, none, none, none, none]) (by cases m <;> cases y <;> cases n <;> rfl) ?_
  refine X.xok (fun w0 => ?_)
  replace h := h w0
  refine x_aload_n dX22_branch_0 rfl ?_
  obtain ⟨o1, h⟩ := h
  refine x_get (v := va_rf (A.P p 1)) hG dX22_branch_1 f_X22_19_20 o1 rfl ?_
  obtain ⟨b2, e2, h⟩ := h
  rw [e2]
  obtain ⟨o3, h⟩ := h
  refine x_alen hG (j := 0) dX22_branch_4 o3 ?_
  refine x_iconst_ (v := (1 : Int32)) dX22_branch_5 (by decide) ?_
  refine x_isub dX22_branch_6 ?_
  refine x_istore dX22_branch_7 (by decide) ?_
  refine X.lvs (lv' := [some (.ref p), some (va_rf m), some (va_rf y), some (va_rf n), some (.int ((nI (A.ln b2)) - (1 : Int32))), none, none, none, none]) (by generalize n = z; cases z <;> rfl) ?_
  refine x_aload_n dX22_branch_9 rfl ?_
  refine x_get (v := .ref b2) hG dX22_branch_10 f_X22_19_20 o1 (congrArg va_rf e2) ?_
  refine x_iload dX22_branch_13 rfl ?_
  obtain ⟨o4, h⟩ := h
  refine x_iald hG dX22_branch_15 o3 o4 ?_
  refine x_bipush_ (v := (16 : Int32)) dX22_branch_16 (by decide) ?_
  refine x_icmp_gt (tgt := 33) dX22_branch_18 (by decide) (fun c18 => ?_) (fun c18 => ?_)
  · replace h := h.1 c18
    refine x_aload_n dX22_branch_33 rfl ?_
    refine x_aloadq_n dX22_branch_34 rfl ?_
    refine x_aloadq_n dX22_branch_35 rfl ?_
    refine x_aloadq_n dX22_branch_36 rfl ?_
    obtain ⟨R5, g5, h⟩ := h
    refine x_callN hG (Ky := kX15_branch) (As := [va_rf m, va_rf y, va_rf n]) dX22_branch_37 o1 rfl q2054 q2047 q1441 (by decide) me_X15_branch is_X15_branch rfl rfl rfl (Nat.le_of_ble_eq_true rfl) (MX.post (hK.2.2.1 g5) ?_)
    rintro _ A5 (⟨rfl, h1⟩ | ⟨x5, rfl, h1⟩)
    rotate_left
    · exact ⟨rfl, Or.inr ⟨_, rfl, h1⟩⟩
    refine X.xok (fun w5 => ?_)
    replace h := h A5 w5 h1
    change X _ _ _ _ A5 _ _ []
    exact x_vret dX22_branch_40 rfl (Or.inl ⟨rfl, h⟩)
  · replace h := h.2 c18
    refine x_aload_n dX22_branch_21 rfl ?_
    refine x_get (v := .ref b2) hG dX22_branch_22 f_X22_19_20 o1 (congrArg va_rf e2) ?_
    refine x_iload dX22_branch_25 rfl ?_
    refine x_iald hG dX22_branch_27 o3 o4 ?_
    refine x_bipush_ (v := (11 : Int32)) dX22_branch_28 (by decide) ?_
    refine x_icmp_ge (tgt := 41) dX22_branch_30 (by decide) (fun c30 => ?_) (fun c30 => ?_)
    · replace h := h.1 c30
      refine x_aload_n dX22_branch_41 rfl ?_
      refine x_get (v := va_rf (A.P p 2)) hG dX22_branch_42 f_X22_25_20 o1 rfl ?_
      refine x_iconst_ (v := (0 : Int32)) dX22_branch_45 (by decide) ?_
      obtain ⟨b7, e7, h⟩ := h
      rw [e7]
      obtain ⟨o8, h⟩ := h
      obtain ⟨R6, g6, h⟩ := h
      refine x_callV hG (Ky := kJ5_get) (As := [.int (0 : Int32)]) dX22_branch_46 o8 rfl lk_X22_3 me_J5_get is_J5_get se_J5_get rfl rfl (Nat.le_of_ble_eq_true rfl) (MX.post (m_w_J5_get hG hO g6) ?_)
      rintro _ A6 ⟨v6, rfl, h1⟩
      refine X.xok (fun w6 => ?_)
      replace h := h v6 A6 w6 h1
      change X _ _ _ _ A6 _ _ [va_rf v6]
      obtain ⟨b9, e9, h⟩ := h
      rw [e9]
      obtain ⟨o10, h⟩ := h
      refine z_castE hG dX22_branch_49 q1432 o10 ?_
      refine x_aloadq_n dX22_branch_52 rfl ?_
      obtain ⟨R11, g11, h⟩ := h
      refine z_disp (pc' := 53) (lv' := [some (.ref p), some (va_rf m), some (va_rf y), some (va_rf n), some (.int ((nI (A.ln b2)) - (1 : Int32))), none, none, none, none]) (st' := []) (P := hX (hL R11) E) (kr := ?_) (kc := ?_)
      rotate_left
      · obtain ⟨c, tc, hc⟩ := o10
        simp only [eCl, List.mem_cons, List.not_mem_nil, or_false] at hc
        intro kr
        rcases hc with rfl | rfl | rfl | rfl | rfl | rfl | rfl | rfl
        · exact x_callU hG (Ky := kX16_value) (As := [va_rf m]) dX22_branch_53 tc rfl q2041 q2014 (Or.inl q2013) xm_X15_value me_X16_value is_X16_value q2200 rfl rfl (Nat.le_of_ble_eq_true rfl) (MX.post (hK.2.2.2.2.1.1 tc g11) kr)
        · exact x_callU hG (Ky := kX17_value) (As := [va_rf m]) dX22_branch_53 tc rfl q2041 q2014 (Or.inl q2013) xm_X15_value me_X17_value is_X17_value q2194 rfl rfl (Nat.le_of_ble_eq_true rfl) (MX.post (hK.2.2.2.2.1.2.1 tc g11) kr)
        · exact x_callU hG (Ky := kX18_value) (As := [va_rf m]) dX22_branch_53 tc rfl q2041 q2014 (Or.inl q2013) xm_X15_value me_X18_value is_X18_value q2199 rfl rfl (Nat.le_of_ble_eq_true rfl) (MX.post (hK.2.2.2.2.1.2.2.1 tc g11) kr)
        · exact x_callU hG (Ky := kX19_value) (As := [va_rf m]) dX22_branch_53 tc rfl q2041 q2014 (Or.inl q2013) xm_X15_value me_X19_value is_X19_value q2197 rfl rfl (Nat.le_of_ble_eq_true rfl) (MX.post (hK.2.2.2.2.1.2.2.2.1 tc g11) kr)
        · exact x_callU hG (Ky := kX20_value) (As := [va_rf m]) dX22_branch_53 tc rfl q2041 q2014 (Or.inl q2013) xm_X15_value me_X20_value is_X20_value q2015 rfl rfl (Nat.le_of_ble_eq_true rfl) (MX.post (hK.2.2.2.2.1.2.2.2.2.1 tc g11) kr)
        · exact x_callU hG (Ky := kX21_value) (As := [va_rf m]) dX22_branch_53 tc rfl q2041 q2014 (Or.inl q2013) xm_X15_value me_X21_value is_X21_value q2198 rfl rfl (Nat.le_of_ble_eq_true rfl) (MX.post (hK.2.2.2.2.1.2.2.2.2.2.1 tc g11) kr)
        · exact x_callU hG (Ky := kX22_value) (As := [va_rf m]) dX22_branch_53 tc rfl q2041 q2014 (Or.inl q2013) xm_X15_value me_X22_value is_X22_value q2195 rfl rfl (Nat.le_of_ble_eq_true rfl) (MX.post (hK.2.2.2.2.1.2.2.2.2.2.2.1 tc g11) kr)
        · exact x_callU hG (Ky := kX23_value) (As := [va_rf m]) dX22_branch_53 tc rfl q2041 q2014 (Or.inl q2013) xm_X15_value me_X23_value is_X23_value q2196 rfl rfl (Nat.le_of_ble_eq_true rfl) (MX.post (hK.2.2.2.2.1.2.2.2.2.2.2.2 tc g11) kr)
      rintro _ A11 (⟨v11, rfl, h1⟩ | ⟨x11, rfl, h1⟩)
      rotate_left
      · exact ⟨rfl, Or.inr ⟨_, rfl, h1⟩⟩
      refine X.xok (fun w11 => ?_)
      replace h := h v11 A11 w11 h1
      change X _ _ _ _ A11 _ _ [.long v11]
      refine x_lstore dX22_branch_56 (by decide) ?_
      refine x_iconst_ (v := (0 : Int32)) dX22_branch_58 (by decide) ?_
      refine x_istore dX22_branch_59 (by decide) ?_
      obtain ⟨L12, ⟨n12, i12⟩, g12⟩ := h
      have kl12 : ∀ n12 : Nat, ∀ (y12_5 : Int64) (y12_7 : Int32) (A12 : xA), L12 n12 y12_5 y12_7 A12 → X G (dp + 811) kX22_branch (hX (hV Q) E) A12 61 [some (.ref p), some (va_rf m), some (va_rf y), some (va_rf n), some (.int ((nI (A.ln b2)) - (1 : Int32))), some (.long y12_5), none, some (.int y12_7), none] [] := by
        intro n12
        induction n12 using Nat.strongRecOn with
        | ind n12 ih12 =>
          intro y12_5 y12_7 A12 h
          replace h := g12 n12 y12_5 y12_7 A12 h
          refine x_iload dX22_branch_61 rfl ?_
          refine x_iload dX22_branch_63 rfl ?_
          refine x_icmp_ge (tgt := 107) dX22_branch_65 (by decide) (fun c65 => ?_) (fun c65 => ?_)
          · replace h := h.1 c65
            refine x_aload_n dX22_branch_107 rfl ?_
            obtain ⟨o13, h⟩ := h
            refine x_get (v := va_rf (A12.P p 2)) hG dX22_branch_108 f_X22_25_20 o13 rfl ?_
            refine x_iload dX22_branch_111 rfl ?_
            refine x_iconst_ (v := (1 : Int32)) dX22_branch_113 (by decide) ?_
            refine x_iadd dX22_branch_114 ?_
            obtain ⟨b15, e15, h⟩ := h
            rw [e15]
            obtain ⟨o16, h⟩ := h
            obtain ⟨R14, g14, h⟩ := h
            refine x_callV hG (Ky := kJ5_get) (As := [.int (((nI (A.ln b2)) - (1 : Int32)) + (1 : Int32))]) dX22_branch_115 o16 rfl lk_X22_3 me_J5_get is_J5_get se_J5_get rfl rfl (Nat.le_of_ble_eq_true rfl) (MX.post (m_w_J5_get hG hO g14) ?_)
            rintro _ A14 ⟨v14, rfl, h1⟩
            refine X.xok (fun w14 => ?_)
            replace h := h v14 A14 w14 h1
            change X _ _ _ _ A14 _ _ [va_rf v14]
            obtain ⟨b17, e17, h⟩ := h
            rw [e17]
            obtain ⟨o18, h⟩ := h
            refine z_castE hG dX22_branch_118 q1432 o18 ?_
            refine x_aloadq_n dX22_branch_121 rfl ?_
            obtain ⟨R19, g19, h⟩ := h
            refine z_disp (pc' := 122) (lv' := [some (.ref p), some (va_rf m), some (va_rf y), some (va_rf n), some (.int ((nI (A.ln b2)) - (1 : Int32))), some (.long y12_5), none, some (.int y12_7), none]) (st' := []) (P := hX (hL R19) E) (kr := ?_) (kc := ?_)
            rotate_left
            · obtain ⟨c, tc, hc⟩ := o18
              simp only [eCl, List.mem_cons, List.not_mem_nil, or_false] at hc
              intro kr
              rcases hc with rfl | rfl | rfl | rfl | rfl | rfl | rfl | rfl
              · exact x_callU hG (Ky := kX16_value) (As := [va_rf m]) dX22_branch_122 tc rfl q2041 q2014 (Or.inl q2013) xm_X15_value me_X16_value is_X16_value q2200 rfl rfl (Nat.le_of_ble_eq_true rfl) (MX.post (hK.2.2.2.2.1.1 tc g19) kr)
              · exact x_callU hG (Ky := kX17_value) (As := [va_rf m]) dX22_branch_122 tc rfl q2041 q2014 (Or.inl q2013) xm_X15_value me_X17_value is_X17_value q2194 rfl rfl (Nat.le_of_ble_eq_true rfl) (MX.post (hK.2.2.2.2.1.2.1 tc g19) kr)
              · exact x_callU hG (Ky := kX18_value) (As := [va_rf m]) dX22_branch_122 tc rfl q2041 q2014 (Or.inl q2013) xm_X15_value me_X18_value is_X18_value q2199 rfl rfl (Nat.le_of_ble_eq_true rfl) (MX.post (hK.2.2.2.2.1.2.2.1 tc g19) kr)
              · exact x_callU hG (Ky := kX19_value) (As := [va_rf m]) dX22_branch_122 tc rfl q2041 q2014 (Or.inl q2013) xm_X15_value me_X19_value is_X19_value q2197 rfl rfl (Nat.le_of_ble_eq_true rfl) (MX.post (hK.2.2.2.2.1.2.2.2.1 tc g19) kr)
              · exact x_callU hG (Ky := kX20_value) (As := [va_rf m]) dX22_branch_122 tc rfl q2041 q2014 (Or.inl q2013) xm_X15_value me_X20_value is_X20_value q2015 rfl rfl (Nat.le_of_ble_eq_true rfl) (MX.post (hK.2.2.2.2.1.2.2.2.2.1 tc g19) kr)
              · exact x_callU hG (Ky := kX21_value) (As := [va_rf m]) dX22_branch_122 tc rfl q2041 q2014 (Or.inl q2013) xm_X15_value me_X21_value is_X21_value q2198 rfl rfl (Nat.le_of_ble_eq_true rfl) (MX.post (hK.2.2.2.2.1.2.2.2.2.2.1 tc g19) kr)
              · exact x_callU hG (Ky := kX22_value) (As := [va_rf m]) dX22_branch_122 tc rfl q2041 q2014 (Or.inl q2013) xm_X15_value me_X22_value is_X22_value q2195 rfl rfl (Nat.le_of_ble_eq_true rfl) (MX.post (hK.2.2.2.2.1.2.2.2.2.2.2.1 tc g19) kr)
              · exact x_callU hG (Ky := kX23_value) (As := [va_rf m]) dX22_branch_122 tc rfl q2041 q2014 (Or.inl q2013) xm_X15_value me_X23_value is_X23_value q2196 rfl rfl (Nat.le_of_ble_eq_true rfl) (MX.post (hK.2.2.2.2.1.2.2.2.2.2.2.2 tc g19) kr)
            rintro _ A19 (⟨v19, rfl, h1⟩ | ⟨x19, rfl, h1⟩)
            rotate_left
            · exact ⟨rfl, Or.inr ⟨_, rfl, h1⟩⟩
            refine X.xok (fun w19 => ?_)
            replace h := h v19 A19 w19 h1
            change X _ _ _ _ A19 _ _ [.long v19]
            refine x_lstore dX22_branch_125 (by decide) ?_
            refine x_aloadq_n dX22_branch_127 rfl ?_
            refine x_aload_n dX22_branch_128 rfl ?_
            obtain ⟨o20, h⟩ := h
            refine x_get (v := va_rf (A19.P p 1)) hG dX22_branch_129 f_X22_19_20 o20 rfl ?_
            refine x_iload dX22_branch_132 rfl ?_
            obtain ⟨b21, e21, h⟩ := h
            rw [e21]
            obtain ⟨o22, h⟩ := h
            obtain ⟨o23, h⟩ := h
            refine x_iald hG dX22_branch_134 o22 o23 ?_
            refine x_lload dX22_branch_135 rfl ?_
            refine x_lload dX22_branch_137 rfl ?_
            refine x_aloadq_n dX22_branch_139 rfl ?_
            refine x_aloadq_n dX22_branch_140 rfl ?_
            obtain ⟨b25, e25, h⟩ := h
            rw [e25]
            obtain ⟨o26, h⟩ := h
            obtain ⟨R24, g24, h⟩ := h
            refine x_callV hG (Ky := kX6_branch) (As := [.int (A19.I b21 (ix ((nI (A.ln b2)) - (1 : Int32)))), .long y12_5, .long v19, va_rf y, va_rf n]) dX22_branch_141 o26 rfl lk_X22_55 me_X6_branch is_X6_branch se_X6_branch rfl rfl (Nat.le_of_ble_eq_true rfl) (MX.post ((rc_B hG hO 3) g24) ?_)
            rintro _ A24 ⟨rfl, h1⟩
            refine X.xok (fun w24 => ?_)
            replace h := h A24 w24 h1
            change X _ _ _ _ A24 _ _ []
            exact x_vret dX22_branch_144 rfl (Or.inl ⟨rfl, h⟩)
          · replace h := h.2 c65
            refine x_aloadq_n dX22_branch_68 rfl ?_
            refine x_aload_n dX22_branch_69 rfl ?_
            obtain ⟨o27, h⟩ := h
            refine x_get (v := va_rf (A12.P p 1)) hG dX22_branch_70 f_X22_19_20 o27 rfl ?_
            refine x_iload dX22_branch_73 rfl ?_
            obtain ⟨b28, e28, h⟩ := h
            rw [e28]
            obtain ⟨o29, h⟩ := h
            obtain ⟨o30, h⟩ := h
            refine x_iald hG dX22_branch_75 o29 o30 ?_
            refine x_lload dX22_branch_76 rfl ?_
            refine x_aload_n dX22_branch_78 rfl ?_
            refine x_get (v := va_rf (A12.P p 2)) hG dX22_branch_79 f_X22_25_20 o27 rfl ?_
            refine x_iload dX22_branch_82 rfl ?_
            refine x_iconst_ (v := (1 : Int32)) dX22_branch_84 (by decide) ?_
            refine x_iadd dX22_branch_85 ?_
            obtain ⟨b32, e32, h⟩ := h
            rw [e32]
            obtain ⟨o33, h⟩ := h
            obtain ⟨R31, g31, h⟩ := h
            refine x_callV hG (Ky := kJ5_get) (As := [.int (y12_7 + (1 : Int32))]) dX22_branch_86 o33 rfl lk_X22_3 me_J5_get is_J5_get se_J5_get rfl rfl (by simp only [List.append_eq, List.nil_append, List.map_cons, va_rf_cat]; exact Nat.le_of_ble_eq_true rfl) (MX.post (m_w_J5_get hG hO g31) ?_)
            rintro _ A31 ⟨v31, rfl, h1⟩
            refine X.xok (fun w31 => ?_)
            replace h := h v31 A31 w31 h1
            change X _ _ _ _ A31 _ _ [va_rf v31, .long y12_5, .int (A12.I b28 (ix y12_7)), va_rf m]
            obtain ⟨b34, e34, h⟩ := h
            rw [e34]
            obtain ⟨o35, h⟩ := h
            refine z_castE hG dX22_branch_89 q1432 o35 ?_
            refine x_aloadq_n dX22_branch_92 rfl ?_
            obtain ⟨R36, g36, h⟩ := h
            refine z_disp (pc' := 93) (lv' := [some (.ref p), some (va_rf m), some (va_rf y), some (va_rf n), some (.int ((nI (A.ln b2)) - (1 : Int32))), some (.long y12_5), none, some (.int y12_7), none]) (st' := [.long y12_5, .int (A12.I b28 (ix y12_7)), va_rf m]) (P := hX (hL R36) E) (kr := ?_) (kc := ?_)
            rotate_left
            · obtain ⟨c, tc, hc⟩ := o35
              simp only [eCl, List.mem_cons, List.not_mem_nil, or_false] at hc
              intro kr
              rcases hc with rfl | rfl | rfl | rfl | rfl | rfl | rfl | rfl
              · exact x_callU hG (Ky := kX16_value) (As := [va_rf m]) dX22_branch_93 tc rfl q2041 q2014 (Or.inl q2013) xm_X15_value me_X16_value is_X16_value q2200 rfl rfl (by simp only [List.append_eq, List.nil_append, List.map_cons, va_rf_cat]; exact Nat.le_of_ble_eq_true rfl) (MX.post (hK.2.2.2.2.1.1 tc g36) kr)
              · exact x_callU hG (Ky := kX17_value) (As := [va_rf m]) dX22_branch_93 tc rfl q2041 q2014 (Or.inl q2013) xm_X15_value me_X17_value is_X17_value q2194 rfl rfl (by simp only [List.append_eq, List.nil_append, List.map_cons, va_rf_cat]; exact Nat.le_of_ble_eq_true rfl) (MX.post (hK.2.2.2.2.1.2.1 tc g36) kr)
              · exact x_callU hG (Ky := kX18_value) (As := [va_rf m]) dX22_branch_93 tc rfl q2041 q2014 (Or.inl q2013) xm_X15_value me_X18_value is_X18_value q2199 rfl rfl (by simp only [List.append_eq, List.nil_append, List.map_cons, va_rf_cat]; exact Nat.le_of_ble_eq_true rfl) (MX.post (hK.2.2.2.2.1.2.2.1 tc g36) kr)
              · exact x_callU hG (Ky := kX19_value) (As := [va_rf m]) dX22_branch_93 tc rfl q2041 q2014 (Or.inl q2013) xm_X15_value me_X19_value is_X19_value q2197 rfl rfl (by simp only [List.append_eq, List.nil_append, List.map_cons, va_rf_cat]; exact Nat.le_of_ble_eq_true rfl) (MX.post (hK.2.2.2.2.1.2.2.2.1 tc g36) kr)
              · exact x_callU hG (Ky := kX20_value) (As := [va_rf m]) dX22_branch_93 tc rfl q2041 q2014 (Or.inl q2013) xm_X15_value me_X20_value is_X20_value q2015 rfl rfl (by simp only [List.append_eq, List.nil_append, List.map_cons, va_rf_cat]; exact Nat.le_of_ble_eq_true rfl) (MX.post (hK.2.2.2.2.1.2.2.2.2.1 tc g36) kr)
              · exact x_callU hG (Ky := kX21_value) (As := [va_rf m]) dX22_branch_93 tc rfl q2041 q2014 (Or.inl q2013) xm_X15_value me_X21_value is_X21_value q2198 rfl rfl (by simp only [List.append_eq, List.nil_append, List.map_cons, va_rf_cat]; exact Nat.le_of_ble_eq_true rfl) (MX.post (hK.2.2.2.2.1.2.2.2.2.2.1 tc g36) kr)
              · exact x_callU hG (Ky := kX22_value) (As := [va_rf m]) dX22_branch_93 tc rfl q2041 q2014 (Or.inl q2013) xm_X15_value me_X22_value is_X22_value q2195 rfl rfl (by simp only [List.append_eq, List.nil_append, List.map_cons, va_rf_cat]; exact Nat.le_of_ble_eq_true rfl) (MX.post (hK.2.2.2.2.1.2.2.2.2.2.2.1 tc g36) kr)
              · exact x_callU hG (Ky := kX23_value) (As := [va_rf m]) dX22_branch_93 tc rfl q2041 q2014 (Or.inl q2013) xm_X15_value me_X23_value is_X23_value q2196 rfl rfl (by simp only [List.append_eq, List.nil_append, List.map_cons, va_rf_cat]; exact Nat.le_of_ble_eq_true rfl) (MX.post (hK.2.2.2.2.1.2.2.2.2.2.2.2 tc g36) kr)
            rintro _ A36 (⟨v36, rfl, h1⟩ | ⟨x36, rfl, h1⟩)
            rotate_left
            · exact ⟨rfl, Or.inr ⟨_, rfl, h1⟩⟩
            refine X.xok (fun w36 => ?_)
            replace h := h v36 A36 w36 h1
            change X _ _ _ _ A36 _ _ [.long v36, .long y12_5, .int (A12.I b28 (ix y12_7)), va_rf m]
            obtain ⟨b38, e38, h⟩ := h
            rw [e38]
            obtain ⟨o39, h⟩ := h
            obtain ⟨R37, g37, h⟩ := h
            refine x_callV hG (Ky := kX6_act) (As := [.int (A12.I b28 (ix y12_7)), .long y12_5, .long v36]) dX22_branch_96 o39 rfl lk_X22_45 me_X6_act is_X6_act se_X6_act rfl rfl (Nat.le_of_ble_eq_true rfl) (MX.post ((rc_A hG hO 3) g37) ?_)
            rintro _ A37 ⟨v37, rfl, h1⟩
            refine X.xok (fun w37 => ?_)
            replace h := h v37 A37 w37 h1
            change X _ _ _ _ A37 _ _ [.long v37]
            refine x_lstore dX22_branch_99 (by decide) ?_
            refine x_iinc (v := (y12_7 + (1 : Int32))) dX22_branch_101 rfl rfl (by decide) ?_
            refine x_goto (tgt := 61) dX22_branch_104 (by decide) ?_
            obtain ⟨q12, l12, h⟩ := h
            change X _ _ _ _ _ _ [some (.ref p), some (.ref b38), some (va_rf y), some (va_rf n), some (.int ((nI (A.ln b2)) - (1 : Int32))), some (.long v37), none, some (.int (y12_7 + (1 : Int32))), none] []
            exact X.weak (xle_c rfl (xle_c (congrArg (fun z => some (va_rf z)) e38.symm) (xle_c rfl (xle_c rfl (xle_c rfl (xle_c rfl (xle_n (xle_c rfl (xle_n xle_nil))))))))) (ih12 q12 l12 v37 (y12_7 + (1 : Int32)) A37 h)
      change X _ _ _ _ _ _ [some (.ref p), some (va_rf m), some (va_rf y), some (va_rf n), some (.int ((nI (A.ln b2)) - (1 : Int32))), some (.long v11), none, some (.int (0 : Int32)), none] []
      exact X.weak (xle_c rfl (xle_c rfl (xle_c rfl (xle_c rfl (xle_c rfl (xle_c rfl (xle_n (xle_c rfl (xle_n xle_nil))))))))) (kl12 n12 v11 (0 : Int32) A11 i12)
    · replace h := h.2 c30
      refine x_aload_n dX22_branch_33 rfl ?_
      refine x_aloadq_n dX22_branch_34 rfl ?_
      refine x_aloadq_n dX22_branch_35 rfl ?_
      refine x_aloadq_n dX22_branch_36 rfl ?_
      obtain ⟨R40, g40, h⟩ := h
      refine x_callN hG (Ky := kX15_branch) (As := [va_rf m, va_rf y, va_rf n]) dX22_branch_37 o1 rfl q2054 q2047 q1441 (by decide) me_X15_branch is_X15_branch rfl rfl rfl (Nat.le_of_ble_eq_true rfl) (MX.post (hK.2.2.1 g40) ?_)
      rintro _ A40 (⟨rfl, h1⟩ | ⟨x40, rfl, h1⟩)
      rotate_left
      · exact ⟨rfl, Or.inr ⟨_, rfl, h1⟩⟩
      refine X.xok (fun w40 => ?_)
      replace h := h A40 w40 h1
      change X _ _ _ _ A40 _ _ []
      exact x_vret dX22_branch_40 rfl (Or.inl ⟨rfl, h⟩)
def rk_V (G : xG) : Nat → (Nat → Option Nat → Int32 → (Int64 → xA → Prop) → (Nat → xA → Prop) → xA → Prop) × (Nat → Option Nat → Option Nat → Int32 → (Int64 → xA → Prop) → (Nat → xA → Prop) → xA → Prop) × (Nat → Option Nat → Option Nat → Option Nat → (xA → Prop) → (Nat → xA → Prop) → xA → Prop) × (Nat → Option Nat → Option Nat → Option Nat → (xA → Prop) → (Nat → xA → Prop) → xA → Prop) × (Nat → Option Nat → (Int64 → xA → Prop) → (Nat → xA → Prop) → xA → Prop) × (Nat → Option Nat → Option Nat → Option Nat → (xA → Prop) → (Nat → xA → Prop) → xA → Prop)
  | 0 => (fun _ _ _ _ _ _ => False, fun _ _ _ _ _ _ _ => False, fun _ _ _ _ _ _ _ => False, fun _ _ _ _ _ _ _ => False, fun _ _ _ _ _ => False, fun _ _ _ _ _ _ _ => False)
  | n + 1 => (fun p a0 a1 Q E A => w_X17_call G (rk_V G n).1 (rk_V G n).2.1 (rk_V G n).2.2.1 (rk_V G n).2.2.2.1 (rk_V G n).2.2.2.2.1 (rk_V G n).2.2.2.2.2 p a0 a1 Q E A,
    fun p a0 a1 a2 Q E A => w_X6_index G (rk_V G n).1 (rk_V G n).2.1 (rk_V G n).2.2.1 (rk_V G n).2.2.2.1 (rk_V G n).2.2.2.2.1 (rk_V G n).2.2.2.2.2 p a0 a1 a2 Q E A,
    fun p a0 a1 a2 Q E A => w_X15_branch G (rk_V G n).1 (rk_V G n).2.1 (rk_V G n).2.2.1 (rk_V G n).2.2.2.1 (rk_V G n).2.2.2.2.1 (rk_V G n).2.2.2.2.2 p a0 a1 a2 Q E A,
    fun p a0 a1 a2 Q E A => w_X21_branch G (rk_V G n).1 (rk_V G n).2.1 (rk_V G n).2.2.1 (rk_V G n).2.2.2.1 (rk_V G n).2.2.2.2.1 (rk_V G n).2.2.2.2.2 p a0 a1 a2 Q E A,
    fun p a0 Q E A => (A.tg p = 15 → w_X16_value G (rk_V G n).1 (rk_V G n).2.1 (rk_V G n).2.2.1 (rk_V G n).2.2.2.1 (rk_V G n).2.2.2.2.1 (rk_V G n).2.2.2.2.2 p a0 Q E A) ∧ (A.tg p = 16 → w_X17_value G (rk_V G n).1 (rk_V G n).2.1 (rk_V G n).2.2.1 (rk_V G n).2.2.2.1 (rk_V G n).2.2.2.2.1 (rk_V G n).2.2.2.2.2 p a0 Q E A) ∧ (A.tg p = 17 → w_X18_value G (rk_V G n).1 (rk_V G n).2.1 (rk_V G n).2.2.1 (rk_V G n).2.2.2.1 (rk_V G n).2.2.2.2.1 (rk_V G n).2.2.2.2.2 p a0 Q E A) ∧ (A.tg p = 18 → w_X19_value G (rk_V G n).1 (rk_V G n).2.1 (rk_V G n).2.2.1 (rk_V G n).2.2.2.1 (rk_V G n).2.2.2.2.1 (rk_V G n).2.2.2.2.2 p a0 Q E A) ∧ (A.tg p = 19 → w_X20_value G (rk_V G n).1 (rk_V G n).2.1 (rk_V G n).2.2.1 (rk_V G n).2.2.2.1 (rk_V G n).2.2.2.2.1 (rk_V G n).2.2.2.2.2 p a0 Q E A) ∧ (A.tg p = 20 → w_X21_value G (rk_V G n).1 (rk_V G n).2.1 (rk_V G n).2.2.1 (rk_V G n).2.2.2.1 (rk_V G n).2.2.2.2.1 (rk_V G n).2.2.2.2.2 p a0 Q E A) ∧ (A.tg p = 21 → w_X22_value G (rk_V G n).1 (rk_V G n).2.1 (rk_V G n).2.2.1 (rk_V G n).2.2.2.1 (rk_V G n).2.2.2.2.1 (rk_V G n).2.2.2.2.2 p a0 Q E A) ∧ (A.tg p = 22 → w_X23_value G (rk_V G n).1 (rk_V G n).2.1 (rk_V G n).2.2.1 (rk_V G n).2.2.2.1 (rk_V G n).2.2.2.2.1 (rk_V G n).2.2.2.2.2 p a0 Q E A),
    fun p a0 a1 a2 Q E A => (A.tg p = 15 → w_X15_branch G (rk_V G n).1 (rk_V G n).2.1 (rk_V G n).2.2.1 (rk_V G n).2.2.2.1 (rk_V G n).2.2.2.2.1 (rk_V G n).2.2.2.2.2 p a0 a1 a2 Q E A) ∧ (A.tg p = 16 → w_X15_branch G (rk_V G n).1 (rk_V G n).2.1 (rk_V G n).2.2.1 (rk_V G n).2.2.2.1 (rk_V G n).2.2.2.2.1 (rk_V G n).2.2.2.2.2 p a0 a1 a2 Q E A) ∧ (A.tg p = 17 → w_X15_branch G (rk_V G n).1 (rk_V G n).2.1 (rk_V G n).2.2.1 (rk_V G n).2.2.2.1 (rk_V G n).2.2.2.2.1 (rk_V G n).2.2.2.2.2 p a0 a1 a2 Q E A) ∧ (A.tg p = 18 → w_X15_branch G (rk_V G n).1 (rk_V G n).2.1 (rk_V G n).2.2.1 (rk_V G n).2.2.2.1 (rk_V G n).2.2.2.2.1 (rk_V G n).2.2.2.2.2 p a0 a1 a2 Q E A) ∧ (A.tg p = 19 → w_X20_branch G (rk_V G n).1 (rk_V G n).2.1 (rk_V G n).2.2.1 (rk_V G n).2.2.2.1 (rk_V G n).2.2.2.2.1 (rk_V G n).2.2.2.2.2 p a0 a1 a2 Q E A) ∧ (A.tg p = 20 → w_X21_branch G (rk_V G n).1 (rk_V G n).2.1 (rk_V G n).2.2.1 (rk_V G n).2.2.2.1 (rk_V G n).2.2.2.2.1 (rk_V G n).2.2.2.2.2 p a0 a1 a2 Q E A) ∧ (A.tg p = 21 → w_X22_branch G (rk_V G n).1 (rk_V G n).2.1 (rk_V G n).2.2.1 (rk_V G n).2.2.2.1 (rk_V G n).2.2.2.2.1 (rk_V G n).2.2.2.2.2 p a0 a1 a2 Q E A) ∧ (A.tg p = 22 → w_X15_branch G (rk_V G n).1 (rk_V G n).2.1 (rk_V G n).2.2.1 (rk_V G n).2.2.2.1 (rk_V G n).2.2.2.2.1 (rk_V G n).2.2.2.2.2 p a0 a1 a2 Q E A))
theorem rc_V (hG : xOK G) (hO : xHO G) {dp : Nat} : ∀ n, xRC_V G (dp + n + 810) (rk_V G n).1 (rk_V G n).2.1 (rk_V G n).2.2.1 (rk_V G n).2.2.2.1 (rk_V G n).2.2.2.2.1 (rk_V G n).2.2.2.2.2
  | 0 => ⟨fun h => False.elim h, fun h => False.elim h, fun h => False.elim h, fun h => False.elim h, ⟨fun _ h => False.elim h, fun _ h => False.elim h, fun _ h => False.elim h, fun _ h => False.elim h, fun _ h => False.elim h, fun _ h => False.elim h, fun _ h => False.elim h, fun _ h => False.elim h⟩, ⟨fun _ h => False.elim h, fun _ h => False.elim h, fun _ h => False.elim h, fun _ h => False.elim h, fun _ h => False.elim h, fun _ h => False.elim h, fun _ h => False.elim h, fun _ h => False.elim h⟩⟩
  | n + 1 => ⟨fun h => m_X17_call (dp := dp + n) hG hO (rc_V hG hO n) h,
    fun h => m_X6_index (dp := dp + n) hG hO (rc_V hG hO n) h,
    fun h => m_X15_branch (dp := dp + n) hG hO (rc_V hG hO n) h,
    fun h => m_X21_branch (dp := dp + n) hG hO (rc_V hG hO n) h,
    ⟨fun t h => m_X16_value (dp := dp + n) hG hO (rc_V hG hO n) (h.1 t), fun t h => m_X17_value (dp := dp + n) hG hO (rc_V hG hO n) (h.2.1 t), fun t h => m_X18_value (dp := dp + n) hG hO (rc_V hG hO n) (h.2.2.1 t), fun t h => m_X19_value (dp := dp + n) hG hO (rc_V hG hO n) (h.2.2.2.1 t), fun t h => m_X20_value (dp := dp + n) hG hO (rc_V hG hO n) (h.2.2.2.2.1 t), fun t h => m_X21_value (dp := dp + n) hG hO (rc_V hG hO n) (h.2.2.2.2.2.1 t), fun t h => m_X22_value (dp := dp + n) hG hO (rc_V hG hO n) (h.2.2.2.2.2.2.1 t), fun t h => m_X23_value (dp := dp + n) hG hO (rc_V hG hO n) (h.2.2.2.2.2.2.2 t)⟩,
    ⟨fun t h => m_X15_branch (dp := dp + n) hG hO (rc_V hG hO n) (h.1 t), fun t h => m_X15_branch (dp := dp + n) hG hO (rc_V hG hO n) (h.2.1 t), fun t h => m_X15_branch (dp := dp + n) hG hO (rc_V hG hO n) (h.2.2.1 t), fun t h => m_X15_branch (dp := dp + n) hG hO (rc_V hG hO n) (h.2.2.2.1 t), fun t h => m_X20_branch (dp := dp + n) hG hO (rc_V hG hO n) (h.2.2.2.2.1 t), fun t h => m_X21_branch (dp := dp + n) hG hO (rc_V hG hO n) (h.2.2.2.2.2.1 t), fun t h => m_X22_branch (dp := dp + n) hG hO (rc_V hG hO n) (h.2.2.2.2.2.2.1 t), fun t h => m_X15_branch (dp := dp + n) hG hO (rc_V hG hO n) (h.2.2.2.2.2.2.2 t)⟩⟩
def g_V_0 (G : xG) : Nat → Option Nat → Int32 → (Int64 → xA → Prop) → (Nat → xA → Prop) → xA → Prop := (rk_V G 900).1
def g_V_1 (G : xG) : Nat → Option Nat → Option Nat → Int32 → (Int64 → xA → Prop) → (Nat → xA → Prop) → xA → Prop := (rk_V G 900).2.1
def g_V_2 (G : xG) : Nat → Option Nat → Option Nat → Option Nat → (xA → Prop) → (Nat → xA → Prop) → xA → Prop := (rk_V G 900).2.2.1
def g_V_3 (G : xG) : Nat → Option Nat → Option Nat → Option Nat → (xA → Prop) → (Nat → xA → Prop) → xA → Prop := (rk_V G 900).2.2.2.1
def g_V_4 (G : xG) : Nat → Option Nat → (Int64 → xA → Prop) → (Nat → xA → Prop) → xA → Prop := (rk_V G 900).2.2.2.2.1
def g_V_5 (G : xG) : Nat → Option Nat → Option Nat → Option Nat → (xA → Prop) → (Nat → xA → Prop) → xA → Prop := (rk_V G 900).2.2.2.2.2
end W097
