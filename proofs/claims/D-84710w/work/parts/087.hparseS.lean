/-! ===== 087.hparseS (tools/h045.py) ===== -/
set_option maxRecDepth 100000
section W087
variable {G : xG}
def xRC_S2 (G : xG) (D : Nat) (r0 : Nat → (Option Nat → xA → Prop) → (Nat → xA → Prop) → xA → Prop) (r1 : Nat → (Option Nat → xA → Prop) → (Nat → xA → Prop) → xA → Prop) (r2 : Nat → (Option Nat → xA → Prop) → (Nat → xA → Prop) → xA → Prop) (r3 : Nat → (Option Nat → xA → Prop) → (Nat → xA → Prop) → xA → Prop) : Prop := (∀ {p : Nat} {Q : Option Nat → xA → Prop} {E : Nat → xA → Prop} {A : xA}, r0 p Q E A → MX G D kX1_statement [.ref p] A (hX (hR Q) E)) ∧ (∀ {p : Nat} {Q : Option Nat → xA → Prop} {E : Nat → xA → Prop} {A : xA}, r1 p Q E A → MX G D kX1_block [.ref p] A (hX (hR Q) E)) ∧ (∀ {p : Nat} {Q : Option Nat → xA → Prop} {E : Nat → xA → Prop} {A : xA}, r2 p Q E A → MX G D kX1_choice [.ref p] A (hX (hR Q) E)) ∧ (∀ {p : Nat} {Q : Option Nat → xA → Prop} {E : Nat → xA → Prop} {A : xA}, r3 p Q E A → MX G D kX1_loop [.ref p] A (hX (hR Q) E))
def w_X1_statement (G : xG) (r0 : Nat → (Option Nat → xA → Prop) → (Nat → xA → Prop) → xA → Prop) (r1 : Nat → (Option Nat → xA → Prop) → (Nat → xA → Prop) → xA → Prop) (r2 : Nat → (Option Nat → xA → Prop) → (Nat → xA → Prop) → xA → Prop) (r3 : Nat → (Option Nat → xA → Prop) → (Nat → xA → Prop) → xA → Prop) (p : Nat) (Q : Option Nat → xA → Prop) (E : Nat → xA → Prop) (A : xA) : Prop := xok G A → A.tg p = 2 ∧ (∃ R1 : Int32 → xA → Prop, w_X1_here G p R1 A ∧ (∀ (v1 : Int32) (A1 : xA), xok G A1 → R1 v1 A1 → (A1.tg p = 2 ∧ (∃ R3 : Int32 → xA → Prop, w_X1_kind G p R3 A1 ∧ (∀ (v3 : Int32) (A3 : xA), xok G A3 → R3 v3 A3 → ((((v3 = (66 : Int32)) → A3.tg p = 2 ∧ (∃ R6 : Option Nat → xA → Prop, r1 p R6 E A3 ∧ (∀ (v6 : Option Nat) (A6 : xA), xok G A6 → R6 v6 A6 → (Q v6 A6)))) ∧ ((v3 = (10 : Int32) ∨ v3 = (11 : Int32)) → A3.tg p = 2 ∧ (∃ R8 : Option Nat → xA → Prop, w_X1_tell G p R8 E A3 ∧ (∀ (v8 : Option Nat) (A8 : xA), xok G A8 → R8 v8 A8 → (Q v8 A8)))) ∧ ((v3 = (14 : Int32)) → A3.tg p = 2 ∧ (∃ R10 : Option Nat → xA → Prop, r2 p R10 E A3 ∧ (∀ (v10 : Option Nat) (A10 : xA), xok G A10 → R10 v10 A10 → (Q v10 A10)))) ∧ ((v3 = (16 : Int32) ∨ v3 = (17 : Int32) ∨ v3 = (18 : Int32)) → A3.tg p = 2 ∧ (∃ R12 : Option Nat → xA → Prop, r3 p R12 E A3 ∧ (∀ (v12 : Option Nat) (A12 : xA), xok G A12 → R12 v12 A12 → (Q v12 A12)))) ∧ ((¬ v3 = (66 : Int32) ∧ ¬ v3 = (10 : Int32) ∧ ¬ v3 = (11 : Int32) ∧ ¬ v3 = (14 : Int32) ∧ ¬ v3 = (16 : Int32) ∧ ¬ v3 = (17 : Int32) ∧ ¬ v3 = (18 : Int32)) → A3.tg p = 2 ∧ (∃ R14 : Int32 → xA → Prop, w_X1_takes G p (19 : Int32) R14 A3 ∧ (∀ (v14 : Int32) (A14 : xA), xok G A14 → (v14 = 0 ∨ v14 = 1) → R14 v14 A14 → (∃ J16 : Option Nat → xA → Prop, (∀ (y16_2 : Option Nat) (A16 : xA), J16 y16_2 A16 → A16.tg p = 2 ∧ (∃ R17 : xA → Prop, w_X1_need G p (69 : Int32) R17 E A16 ∧ (∀ A17 : xA, xok G A17 → R17 A17 → (Q y16_2 A17)))) ∧ ((v14 = 0 → A14.tg p = 2 ∧ (∃ R19 : Int32 → xA → Prop, w_X1_takes G p (20 : Int32) R19 A14 ∧ (∀ (v19 : Int32) (A19 : xA), xok G A19 → (v19 = 0 ∨ v19 = 1) → R19 v19 A19 → (((v19 = 0 → A19.tg p = 2 ∧ (∃ R21 : Int32 → xA → Prop, w_X1_takes G p (21 : Int32) R21 A19 ∧ (∀ (v21 : Int32) (A21 : xA), xok G A21 → (v21 = 0 ∨ v21 = 1) → R21 v21 A21 → (((v21 = 0 → A21.tg p = 2 ∧ (∃ R23 : Int32 → xA → Prop, w_X1_is G p (22 : Int32) R23 A21 ∧ (∀ (v23 : Int32) (A23 : xA), xok G A23 → (v23 = 0 ∨ v23 = 1) → R23 v23 A23 → (((v23 = 0 → A23.tg p = 2 ∧ (∃ R33 : Int32 → xA → Prop, w_X1_is G p (24 : Int32) R33 A23 ∧ (∀ (v33 : Int32) (A33 : xA), xok G A33 → (v33 = 0 ∨ v33 = 1) → R33 v33 A33 → (((v33 = 0 → A33.tg p = 2 ∧ (∃ R35 : Int32 → xA → Prop, w_X1_is G p (69 : Int32) R35 A33 ∧ (∀ (v35 : Int32) (A35 : xA), xok G A35 → (v35 = 0 ∨ v35 = 1) → R35 v35 A35 → (∃ J37 : Option Nat → xA → Prop, (∀ (y37_s0 : Option Nat) (A37 : xA), J37 y37_s0 A37 → J16 y37_s0 A37) ∧ ((v35 = 0 → A35.tg p = 2 ∧ (∃ R38 : Option Nat → xA → Prop, w_X1_simple G p R38 E A35 ∧ (∀ (v38 : Option Nat) (A38 : xA), xok G A38 → R38 v38 A38 → (J37 v38 A38)))) ∧ (¬ v35 = 0 → A35.tg p = 2 ∧ (J37 (A35.P p 2) A35))))))) ∧ (¬ v33 = 0 → A33.tg p = 2 ∧ (∃ R41 : Int32 → xA → Prop, w_X1_is G p (22 : Int32) R41 A33 ∧ (∀ (v41 : Int32) (A41 : xA), xok G A41 → (v41 = 0 ∨ v41 = 1) → R41 v41 A41 → (A41.tg p = 2 ∧ (∀ A44 : xA, A44 = A41.setI p 3 ((A41.I p 3) + (1 : Int32)) → (rmO G A44 2 ∧ (∀ A46 : xA, A46 = A44.new 32 0 2 0 → (∃ R47 : Option Nat → xA → Prop, g_P_4 G p R47 E A46 ∧ (∀ (v47 : Option Nat) (A47 : xA), xok G A47 → R47 v47 A47 → (∃ R48 : xA → Prop, w_X33_init G A44.n v47 v41 R48 A47 ∧ (∀ A48 : xA, xok G A48 → R48 A48 → (J16 (some A44.n) A48))))))))))))))))) ∧ (¬ v23 = 0 → A23.tg p = 2 ∧ (∃ R25 : Int32 → xA → Prop, w_X1_is G p (22 : Int32) R25 A23 ∧ (∀ (v25 : Int32) (A25 : xA), xok G A25 → (v25 = 0 ∨ v25 = 1) → R25 v25 A25 → (A25.tg p = 2 ∧ (∀ A28 : xA, A28 = A25.setI p 3 ((A25.I p 3) + (1 : Int32)) → (rmO G A28 2 ∧ (∀ A30 : xA, A30 = A28.new 32 0 2 0 → (∃ R31 : Option Nat → xA → Prop, g_P_4 G p R31 E A30 ∧ (∀ (v31 : Option Nat) (A31 : xA), xok G A31 → R31 v31 A31 → (∃ R32 : xA → Prop, w_X33_init G A28.n v31 v25 R32 A31 ∧ (∀ A32 : xA, xok G A32 → R32 A32 → (J16 (some A28.n) A32))))))))))))))))) ∧ (¬ v21 = 0 → rmO G A21 2 ∧ (∀ A50 : xA, A50 = A21.new 31 0 2 0 → (A50.tg p = 2 ∧ (∃ R51 : Int32 → xA → Prop, w_X1_here G p R51 A50 ∧ (∀ (v51 : Int32) (A51 : xA), xok G A51 → R51 v51 A51 → (A51.tg p = 2 ∧ (∃ R53 : Int32 → xA → Prop, w_X1_is G p (69 : Int32) R53 A51 ∧ (∀ (v53 : Int32) (A53 : xA), xok G A53 → (v53 = 0 ∨ v53 = 1) → R53 v53 A53 → (∃ J55 : Option Nat → xA → Prop, (∀ (y55_s0 : Option Nat) (A55 : xA), J55 y55_s0 A55 → ∃ R56 : xA → Prop, w_X32_init G A21.n v51 y55_s0 R56 A55 ∧ (∀ A56 : xA, xok G A56 → R56 A56 → (J16 (some A21.n) A56))) ∧ ((v53 = 0 → A53.tg p = 2 ∧ (∃ R57 : Option Nat → xA → Prop, g_P_0 G p R57 E A53 ∧ (∀ (v57 : Option Nat) (A57 : xA), xok G A57 → R57 v57 A57 → (J55 v57 A57)))) ∧ (¬ v53 = 0 → J55 (none : Option Nat) A53)))))))))))))))) ∧ (¬ v19 = 0 → rmO G A19 2 ∧ (∀ A60 : xA, A60 = A19.new 30 0 2 0 → (∃ R61 : xA → Prop, w_X31_init G A19.n v1 (0 : Int32) R61 A60 ∧ (∀ A61 : xA, xok G A61 → R61 A61 → (J16 (some A19.n) A61)))))))))) ∧ (¬ v14 = 0 → rmO G A14 2 ∧ (∀ A63 : xA, A63 = A14.new 30 0 2 0 → (∃ R64 : xA → Prop, w_X31_init G A14.n v1 (1 : Int32) R64 A63 ∧ (∀ A64 : xA, xok G A64 → R64 A64 → (J16 (some A14.n) A64)))))))))))))))))
theorem m_X1_statement (hG : xOK G) (hO : xHO G) {dp : Nat} {r0 : Nat → (Option Nat → xA → Prop) → (Nat → xA → Prop) → xA → Prop} {r1 : Nat → (Option Nat → xA → Prop) → (Nat → xA → Prop) → xA → Prop} {r2 : Nat → (Option Nat → xA → Prop) → (Nat → xA → Prop) → xA → Prop} {r3 : Nat → (Option Nat → xA → Prop) → (Nat → xA → Prop) → xA → Prop} (hK : xRC_S2 G (dp + 718) r0 r1 r2 r3) {p : Nat} {Q : Option Nat → xA → Prop} {E : Nat → xA → Prop} {A : xA} (h : w_X1_statement G r0 r1 r2 r3 p Q E A) : MX G (dp + 719) kX1_statement [.ref p] A (hX (hR Q) E) := by
  unfold w_X1_statement at h
  refine MX.of rfl (Nat.le_of_ble_eq_true rfl) ?_
  change X _ _ _ _ _ _ [some (.ref p), none, none, none] _
  refine X.xok (fun w0 => ?_)
  replace h := h w0
  refine x_aload_n dX1_statement_0 rfl ?_
  obtain ⟨o2, h⟩ := h
  obtain ⟨R1, g1, h⟩ := h
  refine x_callV hG (Ky := kX1_here) (As := []) dX1_statement_1 o2 rfl lk_X1_66 me_X1_here is_X1_here se_X1_here rfl rfl (Nat.le_of_ble_eq_true rfl) (MX.post (m_X1_here hG hO g1) ?_)
  rintro _ A1 ⟨v1, rfl, h1⟩
  refine X.xok (fun w1 => ?_)
  replace h := h v1 A1 w1 h1
  change X _ _ _ _ A1 _ _ [.int v1]
  refine x_istore_n dX1_statement_4 (by decide) ?_
  refine x_aload_n dX1_statement_5 rfl ?_
  obtain ⟨o4, h⟩ := h
  obtain ⟨R3, g3, h⟩ := h
  refine x_callV hG (Ky := kX1_kind) (As := []) dX1_statement_6 o4 rfl lk_X1_53 me_X1_kind is_X1_kind se_X1_kind rfl rfl (Nat.le_of_ble_eq_true rfl) (MX.post (m_X1_kind hG hO g3) ?_)
  rintro _ A3 ⟨v3, rfl, h1⟩
  refine X.xok (fun w3 => ?_)
  replace h := h v3 A3 w3 h1
  change X _ _ _ _ A3 _ _ [.int v3]
  have kt5_0 : (v3 = (66 : Int32)) → X G (dp + 719) kX1_statement (hX (hR Q) E) A3 76 [some (.ref p), some (.int v1), none, none] [] := by
    intro c9
    replace h := h.1 c9
    refine x_aload_n dX1_statement_76 rfl ?_
    obtain ⟨o7, h⟩ := h
    obtain ⟨R6, g6, h⟩ := h
    refine x_callV hG (Ky := kX1_block) (As := []) dX1_statement_77 o7 rfl lk_X1_157 me_X1_block is_X1_block se_X1_block rfl rfl (Nat.le_of_ble_eq_true rfl) (MX.post (hK.2.1 g6) ?_)
    rintro _ A6 (⟨v6, rfl, h1⟩ | ⟨x6, rfl, h1⟩)
    rotate_left
    · exact ⟨rfl, Or.inr ⟨_, rfl, h1⟩⟩
    refine X.xok (fun w6 => ?_)
    replace h := h v6 A6 w6 h1
    change X _ _ _ _ A6 _ _ [va_rf v6]
    exact x_aret (r := v6) dX1_statement_80 rfl (Or.inl ⟨_, rfl⟩) (Or.inl ⟨_, rfl, h⟩)
  have kt5_1 : (v3 = (10 : Int32) ∨ v3 = (11 : Int32)) → X G (dp + 719) kX1_statement (hX (hR Q) E) A3 81 [some (.ref p), some (.int v1), none, none] [] := by
    intro c9
    replace h := h.2.1 c9
    refine x_aload_n dX1_statement_81 rfl ?_
    obtain ⟨o9, h⟩ := h
    obtain ⟨R8, g8, h⟩ := h
    refine x_callV hG (Ky := kX1_tell) (As := []) dX1_statement_82 o9 rfl lk_X1_176 me_X1_tell is_X1_tell se_X1_tell rfl rfl (Nat.le_of_ble_eq_true rfl) (MX.post (m_X1_tell hG hO g8) ?_)
    rintro _ A8 (⟨v8, rfl, h1⟩ | ⟨x8, rfl, h1⟩)
    rotate_left
    · exact ⟨rfl, Or.inr ⟨_, rfl, h1⟩⟩
    refine X.xok (fun w8 => ?_)
    replace h := h v8 A8 w8 h1
    change X _ _ _ _ A8 _ _ [va_rf v8]
    exact x_aret (r := v8) dX1_statement_85 rfl (Or.inl ⟨_, rfl⟩) (Or.inl ⟨_, rfl, h⟩)
  have kt5_2 : (v3 = (14 : Int32)) → X G (dp + 719) kX1_statement (hX (hR Q) E) A3 86 [some (.ref p), some (.int v1), none, none] [] := by
    intro c9
    replace h := h.2.2.1 c9
    refine x_aload_n dX1_statement_86 rfl ?_
    obtain ⟨o11, h⟩ := h
    obtain ⟨R10, g10, h⟩ := h
    refine x_callV hG (Ky := kX1_choice) (As := []) dX1_statement_87 o11 rfl lk_X1_179 me_X1_choice is_X1_choice se_X1_choice rfl rfl (Nat.le_of_ble_eq_true rfl) (MX.post (hK.2.2.1 g10) ?_)
    rintro _ A10 (⟨v10, rfl, h1⟩ | ⟨x10, rfl, h1⟩)
    rotate_left
    · exact ⟨rfl, Or.inr ⟨_, rfl, h1⟩⟩
    refine X.xok (fun w10 => ?_)
    replace h := h v10 A10 w10 h1
    change X _ _ _ _ A10 _ _ [va_rf v10]
    exact x_aret (r := v10) dX1_statement_90 rfl (Or.inl ⟨_, rfl⟩) (Or.inl ⟨_, rfl, h⟩)
  have kt5_3 : (v3 = (16 : Int32) ∨ v3 = (17 : Int32) ∨ v3 = (18 : Int32)) → X G (dp + 719) kX1_statement (hX (hR Q) E) A3 91 [some (.ref p), some (.int v1), none, none] [] := by
    intro c9
    replace h := h.2.2.2.1 c9
    refine x_aload_n dX1_statement_91 rfl ?_
    obtain ⟨o13, h⟩ := h
    obtain ⟨R12, g12, h⟩ := h
    refine x_callV hG (Ky := kX1_loop) (As := []) dX1_statement_92 o13 rfl lk_X1_182 me_X1_loop is_X1_loop se_X1_loop rfl rfl (Nat.le_of_ble_eq_true rfl) (MX.post (hK.2.2.2 g12) ?_)
    rintro _ A12 (⟨v12, rfl, h1⟩ | ⟨x12, rfl, h1⟩)
    rotate_left
    · exact ⟨rfl, Or.inr ⟨_, rfl, h1⟩⟩
    refine X.xok (fun w12 => ?_)
    replace h := h v12 A12 w12 h1
    change X _ _ _ _ A12 _ _ [va_rf v12]
    exact x_aret (r := v12) dX1_statement_95 rfl (Or.inl ⟨_, rfl⟩) (Or.inl ⟨_, rfl, h⟩)
  have kd5 : (¬ v3 = (66 : Int32) ∧ ¬ v3 = (10 : Int32) ∧ ¬ v3 = (11 : Int32) ∧ ¬ v3 = (14 : Int32) ∧ ¬ v3 = (16 : Int32) ∧ ¬ v3 = (17 : Int32) ∧ ¬ v3 = (18 : Int32)) → X G (dp + 719) kX1_statement (hX (hR Q) E) A3 96 [some (.ref p), some (.int v1), none, none] [] := by
    intro c9
    replace h := h.2.2.2.2 c9
    refine x_aload_n dX1_statement_96 rfl ?_
    refine x_bipush_ (v := (19 : Int32)) dX1_statement_97 (by decide) ?_
    obtain ⟨o15, h⟩ := h
    obtain ⟨R14, g14, h⟩ := h
    refine x_callV hG (Ky := kX1_takes) (As := [.int (19 : Int32)]) dX1_statement_99 o15 rfl lk_X1_79 me_X1_takes is_X1_takes se_X1_takes rfl rfl (Nat.le_of_ble_eq_true rfl) (MX.post (m_X1_takes hG hO g14) ?_)
    rintro _ A14 ⟨v14, rfl, zv14, h1⟩
    refine X.xok (fun w14 => ?_)
    replace h := h v14 A14 w14 zv14 h1
    change X _ _ _ _ A14 _ _ [.int v14]
    obtain ⟨J16, g16, h⟩ := h
    have kj16 : ∀ (y16_2 : Option Nat) (A16 : xA), J16 y16_2 A16 → X G (dp + 719) kX1_statement (hX (hR Q) E) A16 253 [some (.ref p), none, some (va_rf y16_2), none] [] := by
      intro y16_2 A16 h
      replace h := g16 y16_2 A16 h
      refine x_aload_n dX1_statement_253 rfl ?_
      refine x_bipush_ (v := (69 : Int32)) dX1_statement_254 (by decide) ?_
      obtain ⟨o18, h⟩ := h
      obtain ⟨R17, g17, h⟩ := h
      refine x_callV hG (Ky := kX1_need) (As := [.int (69 : Int32)]) dX1_statement_256 o18 rfl lk_X1_89 me_X1_need is_X1_need se_X1_need rfl rfl (Nat.le_of_ble_eq_true rfl) (MX.post (m_X1_need hG hO g17) ?_)
      rintro _ A17 (⟨rfl, h1⟩ | ⟨x17, rfl, h1⟩)
      rotate_left
      · exact ⟨rfl, Or.inr ⟨_, rfl, h1⟩⟩
      refine X.xok (fun w17 => ?_)
      replace h := h A17 w17 h1
      change X _ _ _ _ A17 _ _ []
      refine x_aloadq_n dX1_statement_259 rfl ?_
      exact x_aret (r := y16_2) dX1_statement_260 rfl (Or.inl ⟨_, rfl⟩) (Or.inl ⟨_, rfl, h⟩)
    refine x_if_eq (tgt := 118) dX1_statement_102 (by decide) (fun c102 => ?_) (fun c102 => ?_)
    · replace h := h.1 c102
      refine x_aload_n dX1_statement_118 rfl ?_
      refine x_bipush_ (v := (20 : Int32)) dX1_statement_119 (by decide) ?_
      obtain ⟨o20, h⟩ := h
      obtain ⟨R19, g19, h⟩ := h
      refine x_callV hG (Ky := kX1_takes) (As := [.int (20 : Int32)]) dX1_statement_121 o20 rfl lk_X1_79 me_X1_takes is_X1_takes se_X1_takes rfl rfl (Nat.le_of_ble_eq_true rfl) (MX.post (m_X1_takes hG hO g19) ?_)
      rintro _ A19 ⟨v19, rfl, zv19, h1⟩
      refine X.xok (fun w19 => ?_)
      replace h := h v19 A19 w19 zv19 h1
      change X _ _ _ _ A19 _ _ [.int v19]
      refine x_if_eq (tgt := 140) dX1_statement_124 (by decide) (fun c124 => ?_) (fun c124 => ?_)
      · replace h := h.1 c124
        refine x_aload_n dX1_statement_140 rfl ?_
        refine x_bipush_ (v := (21 : Int32)) dX1_statement_141 (by decide) ?_
        obtain ⟨o22, h⟩ := h
        obtain ⟨R21, g21, h⟩ := h
        refine x_callV hG (Ky := kX1_takes) (As := [.int (21 : Int32)]) dX1_statement_143 o22 rfl lk_X1_79 me_X1_takes is_X1_takes se_X1_takes rfl rfl (Nat.le_of_ble_eq_true rfl) (MX.post (m_X1_takes hG hO g21) ?_)
        rintro _ A21 ⟨v21, rfl, zv21, h1⟩
        refine X.xok (fun w21 => ?_)
        replace h := h v21 A21 w21 zv21 h1
        change X _ _ _ _ A21 _ _ [.int v21]
        refine x_if_eq (tgt := 181) dX1_statement_146 (by decide) (fun c146 => ?_) (fun c146 => ?_)
        · replace h := h.1 c146
          refine x_aload_n dX1_statement_181 rfl ?_
          refine x_bipush_ (v := (22 : Int32)) dX1_statement_182 (by decide) ?_
          obtain ⟨o24, h⟩ := h
          obtain ⟨R23, g23, h⟩ := h
          refine x_callV hG (Ky := kX1_is) (As := [.int (22 : Int32)]) dX1_statement_184 o24 rfl lk_X1_71 me_X1_is is_X1_is se_X1_is rfl rfl (Nat.le_of_ble_eq_true rfl) (MX.post (m_X1_is hG hO g23) ?_)
          rintro _ A23 ⟨v23, rfl, zv23, h1⟩
          refine X.xok (fun w23 => ?_)
          replace h := h v23 A23 w23 zv23 h1
          change X _ _ _ _ A23 _ _ [.int v23]
          refine x_if_ne (tgt := 199) dX1_statement_187 (by decide) (fun c187 => ?_) (fun c187 => ?_)
          · replace h := h.2 c187
            refine x_aload_n dX1_statement_199 rfl ?_
            refine x_bipush_ (v := (22 : Int32)) dX1_statement_200 (by decide) ?_
            obtain ⟨o26, h⟩ := h
            obtain ⟨R25, g25, h⟩ := h
            refine x_callV hG (Ky := kX1_is) (As := [.int (22 : Int32)]) dX1_statement_202 o26 rfl lk_X1_71 me_X1_is is_X1_is se_X1_is rfl rfl (Nat.le_of_ble_eq_true rfl) (MX.post (m_X1_is hG hO g25) ?_)
            rintro _ A25 ⟨v25, rfl, zv25, h1⟩
            refine X.xok (fun w25 => ?_)
            replace h := h v25 A25 w25 zv25 h1
            change X _ _ _ _ A25 _ _ [.int v25]
            refine x_istore_n dX1_statement_205 (by decide) ?_
            refine x_aload_n dX1_statement_206 rfl ?_
            refine x_dup dX1_statement_207 rfl ?_
            obtain ⟨o27, h⟩ := h
            refine x_get (v := .int (A25.I p 3)) hG dX1_statement_208 f_X1_36_1 o27 rfl ?_
            refine x_iconst_ (v := (1 : Int32)) dX1_statement_211 (by decide) ?_
            refine x_iadd dX1_statement_212 ?_
            refine z_putI hG hO.1 dX1_statement_213 f_X1_36_1 ⟨_, rfl, Or.inl rfl⟩ o27 (by decide) rfl rfl ⟨_, rfl⟩ (fun A28 e28 => ?_)
            replace h := h A28 e28
            obtain ⟨o29, h⟩ := h
            refine z_new hG (c := 31) dX1_statement_216 rfl q1661 (by decide) rfl o29 (fun A30 e30 w30 => ?_)
            replace h := h A30 e30
            refine x_dup dX1_statement_219 rfl ?_
            refine x_aload_n dX1_statement_220 rfl ?_
            obtain ⟨R31, g31, h⟩ := h
            refine x_callV hG (Ky := kX1_inside) (As := []) dX1_statement_221 (kN e30 w30 (kI e28 o27)) rfl lk_X1_197 me_X1_inside is_X1_inside se_X1_inside rfl rfl (Nat.le_of_ble_eq_true rfl) (MX.post ((rc_P hG hO 700).2.2.2.2.1 g31) ?_)
            rintro _ A31 (⟨v31, rfl, h1⟩ | ⟨x31, rfl, h1⟩)
            rotate_left
            · exact ⟨rfl, Or.inr ⟨_, rfl, h1⟩⟩
            refine X.xok (fun w31 => ?_)
            replace h := h v31 A31 w31 h1
            change X _ _ _ _ A31 _ _ [va_rf v31, .ref A28.n, .ref A28.n]
            refine x_iload_n dX1_statement_224 rfl ?_
            obtain ⟨R32, g32, h⟩ := h
            refine x_callI hG (Ky := kX33_init) (As := [va_rf v31, .int v25]) dX1_statement_225 lk_X1_200 me_X33_init is_X33_init rfl rfl rfl rfl rfl (Nat.le_of_ble_eq_true rfl) (MX.post (m_X33_init hG hO g32) ?_)
            rintro _ A32 ⟨rfl, h1⟩
            refine X.xok (fun w32 => ?_)
            replace h := h A32 w32 h1
            change X _ _ _ _ A32 _ _ [.ref A28.n]
            refine x_astore_n dX1_statement_228 (by decide) ?_
            refine x_goto (tgt := 253) dX1_statement_229 (by decide) ?_
            change X _ _ _ _ _ _ [some (.ref p), some (.int v1), some (.ref A28.n), some (.int v25)] []
            exact X.weak (xle_c rfl (xle_n (xle_c rfl (xle_n xle_nil)))) (kj16 (some A28.n) A32 h)
          · replace h := h.1 c187
            refine x_aload_n dX1_statement_190 rfl ?_
            refine x_bipush_ (v := (24 : Int32)) dX1_statement_191 (by decide) ?_
            obtain ⟨o34, h⟩ := h
            obtain ⟨R33, g33, h⟩ := h
            refine x_callV hG (Ky := kX1_is) (As := [.int (24 : Int32)]) dX1_statement_193 o34 rfl lk_X1_71 me_X1_is is_X1_is se_X1_is rfl rfl (Nat.le_of_ble_eq_true rfl) (MX.post (m_X1_is hG hO g33) ?_)
            rintro _ A33 ⟨v33, rfl, zv33, h1⟩
            refine X.xok (fun w33 => ?_)
            replace h := h v33 A33 w33 zv33 h1
            change X _ _ _ _ A33 _ _ [.int v33]
            refine x_if_eq (tgt := 232) dX1_statement_196 (by decide) (fun c196 => ?_) (fun c196 => ?_)
            · replace h := h.1 c196
              refine x_aload_n dX1_statement_232 rfl ?_
              refine x_bipush_ (v := (69 : Int32)) dX1_statement_233 (by decide) ?_
              obtain ⟨o36, h⟩ := h
              obtain ⟨R35, g35, h⟩ := h
              refine x_callV hG (Ky := kX1_is) (As := [.int (69 : Int32)]) dX1_statement_235 o36 rfl lk_X1_71 me_X1_is is_X1_is se_X1_is rfl rfl (Nat.le_of_ble_eq_true rfl) (MX.post (m_X1_is hG hO g35) ?_)
              rintro _ A35 ⟨v35, rfl, zv35, h1⟩
              refine X.xok (fun w35 => ?_)
              replace h := h v35 A35 w35 zv35 h1
              change X _ _ _ _ A35 _ _ [.int v35]
              obtain ⟨J37, g37, h⟩ := h
              have kj37 : ∀ (y37_s0 : Option Nat) (A37 : xA), J37 y37_s0 A37 → X G (dp + 719) kX1_statement (hX (hR Q) E) A37 252 [some (.ref p), none, none, none] [va_rf y37_s0] := by
                intro y37_s0 A37 h
                replace h := g37 y37_s0 A37 h
                refine x_astoreq_n dX1_statement_252 (by decide) ?_
                change X _ _ _ _ _ _ [some (.ref p), none, some (va_rf y37_s0), none] []
                exact X.weak (xle_c rfl (xle_n (xle_c rfl (xle_n xle_nil)))) (kj16 y37_s0 A37 h)
              refine x_if_eq (tgt := 248) dX1_statement_238 (by decide) (fun c238 => ?_) (fun c238 => ?_)
              · replace h := h.1 c238
                refine x_aload_n dX1_statement_248 rfl ?_
                obtain ⟨o39, h⟩ := h
                obtain ⟨R38, g38, h⟩ := h
                refine x_callV hG (Ky := kX1_simple) (As := []) dX1_statement_249 o39 rfl lk_X1_203 me_X1_simple is_X1_simple se_X1_simple rfl rfl (Nat.le_of_ble_eq_true rfl) (MX.post (m_X1_simple hG hO g38) ?_)
                rintro _ A38 (⟨v38, rfl, h1⟩ | ⟨x38, rfl, h1⟩)
                rotate_left
                · exact ⟨rfl, Or.inr ⟨_, rfl, h1⟩⟩
                refine X.xok (fun w38 => ?_)
                replace h := h v38 A38 w38 h1
                change X _ _ _ _ A38 _ _ [va_rf v38]
                change X _ _ _ _ _ _ [some (.ref p), some (.int v1), none, none] [va_rf v38]
                exact X.weak (xle_c rfl (xle_n (xle_n (xle_n xle_nil)))) (kj37 v38 A38 h)
              · replace h := h.2 c238
                refine x_aload_n dX1_statement_241 rfl ?_
                obtain ⟨o40, h⟩ := h
                refine x_get (v := va_rf (A35.P p 2)) hG dX1_statement_242 f_X1_28_1 o40 rfl ?_
                refine x_goto (tgt := 252) dX1_statement_245 (by decide) ?_
                change X _ _ _ _ _ _ [some (.ref p), some (.int v1), none, none] [va_rf (A35.P p 2)]
                exact X.weak (xle_c rfl (xle_n (xle_n (xle_n xle_nil)))) (kj37 (A35.P p 2) A35 h)
            · replace h := h.2 c196
              refine x_aload_n dX1_statement_199 rfl ?_
              refine x_bipush_ (v := (22 : Int32)) dX1_statement_200 (by decide) ?_
              obtain ⟨o42, h⟩ := h
              obtain ⟨R41, g41, h⟩ := h
              refine x_callV hG (Ky := kX1_is) (As := [.int (22 : Int32)]) dX1_statement_202 o42 rfl lk_X1_71 me_X1_is is_X1_is se_X1_is rfl rfl (Nat.le_of_ble_eq_true rfl) (MX.post (m_X1_is hG hO g41) ?_)
              rintro _ A41 ⟨v41, rfl, zv41, h1⟩
              refine X.xok (fun w41 => ?_)
              replace h := h v41 A41 w41 zv41 h1
              change X _ _ _ _ A41 _ _ [.int v41]
              refine x_istore_n dX1_statement_205 (by decide) ?_
              refine x_aload_n dX1_statement_206 rfl ?_
              refine x_dup dX1_statement_207 rfl ?_
              obtain ⟨o43, h⟩ := h
              refine x_get (v := .int (A41.I p 3)) hG dX1_statement_208 f_X1_36_1 o43 rfl ?_
              refine x_iconst_ (v := (1 : Int32)) dX1_statement_211 (by decide) ?_
              refine x_iadd dX1_statement_212 ?_
              refine z_putI hG hO.1 dX1_statement_213 f_X1_36_1 ⟨_, rfl, Or.inl rfl⟩ o43 (by decide) rfl rfl ⟨_, rfl⟩ (fun A44 e44 => ?_)
              replace h := h A44 e44
              obtain ⟨o45, h⟩ := h
              refine z_new hG (c := 31) dX1_statement_216 rfl q1661 (by decide) rfl o45 (fun A46 e46 w46 => ?_)
              replace h := h A46 e46
              refine x_dup dX1_statement_219 rfl ?_
              refine x_aload_n dX1_statement_220 rfl ?_
              obtain ⟨R47, g47, h⟩ := h
              refine x_callV hG (Ky := kX1_inside) (As := []) dX1_statement_221 (kN e46 w46 (kI e44 o43)) rfl lk_X1_197 me_X1_inside is_X1_inside se_X1_inside rfl rfl (Nat.le_of_ble_eq_true rfl) (MX.post ((rc_P hG hO 700).2.2.2.2.1 g47) ?_)
              rintro _ A47 (⟨v47, rfl, h1⟩ | ⟨x47, rfl, h1⟩)
              rotate_left
              · exact ⟨rfl, Or.inr ⟨_, rfl, h1⟩⟩
              refine X.xok (fun w47 => ?_)
              replace h := h v47 A47 w47 h1
              change X _ _ _ _ A47 _ _ [va_rf v47, .ref A44.n, .ref A44.n]
              refine x_iload_n dX1_statement_224 rfl ?_
              obtain ⟨R48, g48, h⟩ := h
              refine x_callI hG (Ky := kX33_init) (As := [va_rf v47, .int v41]) dX1_statement_225 lk_X1_200 me_X33_init is_X33_init rfl rfl rfl rfl rfl (Nat.le_of_ble_eq_true rfl) (MX.post (m_X33_init hG hO g48) ?_)
              rintro _ A48 ⟨rfl, h1⟩
              refine X.xok (fun w48 => ?_)
              replace h := h A48 w48 h1
              change X _ _ _ _ A48 _ _ [.ref A44.n]
              refine x_astore_n dX1_statement_228 (by decide) ?_
              refine x_goto (tgt := 253) dX1_statement_229 (by decide) ?_
              change X _ _ _ _ _ _ [some (.ref p), some (.int v1), some (.ref A44.n), some (.int v41)] []
              exact X.weak (xle_c rfl (xle_n (xle_c rfl (xle_n xle_nil)))) (kj16 (some A44.n) A48 h)
        · replace h := h.2 c146
          obtain ⟨o49, h⟩ := h
          refine z_new hG (c := 30) dX1_statement_149 rfl q1648 (by decide) rfl o49 (fun A50 e50 w50 => ?_)
          replace h := h A50 e50
          refine x_dup dX1_statement_152 rfl ?_
          refine x_aload_n dX1_statement_153 rfl ?_
          obtain ⟨o52, h⟩ := h
          obtain ⟨R51, g51, h⟩ := h
          refine x_callV hG (Ky := kX1_here) (As := []) dX1_statement_154 o52 rfl lk_X1_66 me_X1_here is_X1_here se_X1_here rfl rfl (Nat.le_of_ble_eq_true rfl) (MX.post (m_X1_here hG hO g51) ?_)
          rintro _ A51 ⟨v51, rfl, h1⟩
          refine X.xok (fun w51 => ?_)
          replace h := h v51 A51 w51 h1
          change X _ _ _ _ A51 _ _ [.int v51, .ref A21.n, .ref A21.n]
          refine x_aload_n dX1_statement_157 rfl ?_
          refine x_bipush_ (v := (69 : Int32)) dX1_statement_158 (by decide) ?_
          obtain ⟨o54, h⟩ := h
          obtain ⟨R53, g53, h⟩ := h
          refine x_callV hG (Ky := kX1_is) (As := [.int (69 : Int32)]) dX1_statement_160 o54 rfl lk_X1_71 me_X1_is is_X1_is se_X1_is rfl rfl (Nat.le_of_ble_eq_true rfl) (MX.post (m_X1_is hG hO g53) ?_)
          rintro _ A53 ⟨v53, rfl, zv53, h1⟩
          refine X.xok (fun w53 => ?_)
          replace h := h v53 A53 w53 zv53 h1
          change X _ _ _ _ A53 _ _ [.int v53, .int v51, .ref A21.n, .ref A21.n]
          obtain ⟨J55, g55, h⟩ := h
          have kj55 : ∀ (y55_s0 : Option Nat) (A55 : xA), J55 y55_s0 A55 → X G (dp + 719) kX1_statement (hX (hR Q) E) A55 174 [some (.ref p), none, none, none] [va_rf y55_s0, .int v51, .ref A21.n, .ref A21.n] := by
            intro y55_s0 A55 h
            replace h := g55 y55_s0 A55 h
            obtain ⟨R56, g56, h⟩ := h
            refine x_callI hG (Ky := kX32_init) (As := [.int v51, va_rf y55_s0]) dX1_statement_174 lk_X1_192 me_X32_init is_X32_init rfl rfl rfl rfl rfl (Nat.le_of_ble_eq_true rfl) (MX.post (m_X32_init hG hO g56) ?_)
            rintro _ A56 ⟨rfl, h1⟩
            refine X.xok (fun w56 => ?_)
            replace h := h A56 w56 h1
            change X _ _ _ _ A56 _ _ [.ref A21.n]
            refine x_astore_n dX1_statement_177 (by decide) ?_
            refine x_goto (tgt := 253) dX1_statement_178 (by decide) ?_
            change X _ _ _ _ _ _ [some (.ref p), none, some (.ref A21.n), none] []
            exact X.weak (xle_c rfl (xle_n (xle_c rfl (xle_n xle_nil)))) (kj16 (some A21.n) A56 h)
          refine x_if_eq (tgt := 170) dX1_statement_163 (by decide) (fun c163 => ?_) (fun c163 => ?_)
          · replace h := h.1 c163
            refine x_aload_n dX1_statement_170 rfl ?_
            obtain ⟨o58, h⟩ := h
            obtain ⟨R57, g57, h⟩ := h
            refine x_callV hG (Ky := kX1_expr) (As := []) dX1_statement_171 o58 rfl lk_X1_101 me_X1_expr is_X1_expr se_X1_expr rfl rfl (Nat.le_of_ble_eq_true rfl) (MX.post ((rc_P hG hO 700).1 g57) ?_)
            rintro _ A57 (⟨v57, rfl, h1⟩ | ⟨x57, rfl, h1⟩)
            rotate_left
            · exact ⟨rfl, Or.inr ⟨_, rfl, h1⟩⟩
            refine X.xok (fun w57 => ?_)
            replace h := h v57 A57 w57 h1
            change X _ _ _ _ A57 _ _ [va_rf v57, .int v51, .ref A21.n, .ref A21.n]
            change X _ _ _ _ _ _ [some (.ref p), some (.int v1), none, none] [va_rf v57, .int v51, .ref A21.n, .ref A21.n]
            exact X.weak (xle_c rfl (xle_n (xle_n (xle_n xle_nil)))) (kj55 v57 A57 h)
          · replace h := h.2 c163
            refine x_null dX1_statement_166 ?_
            refine x_goto (tgt := 174) dX1_statement_167 (by decide) ?_
            change X _ _ _ _ _ _ [some (.ref p), some (.int v1), none, none] [.null, .int v51, .ref A21.n, .ref A21.n]
            exact X.weak (xle_c rfl (xle_n (xle_n (xle_n xle_nil)))) (kj55 (none : Option Nat) A53 h)
      · replace h := h.2 c124
        obtain ⟨o59, h⟩ := h
        refine z_new hG (c := 29) dX1_statement_127 rfl q1635 (by decide) rfl o59 (fun A60 e60 w60 => ?_)
        replace h := h A60 e60
        refine x_dup dX1_statement_130 rfl ?_
        refine x_iload_n dX1_statement_131 rfl ?_
        refine x_iconst_ (v := (0 : Int32)) dX1_statement_132 (by decide) ?_
        obtain ⟨R61, g61, h⟩ := h
        refine x_callI hG (Ky := kX31_init) (As := [.int v1, .int (0 : Int32)]) dX1_statement_133 lk_X1_187 me_X31_init is_X31_init rfl rfl rfl rfl rfl (Nat.le_of_ble_eq_true rfl) (MX.post (m_X31_init hG hO g61) ?_)
        rintro _ A61 ⟨rfl, h1⟩
        refine X.xok (fun w61 => ?_)
        replace h := h A61 w61 h1
        change X _ _ _ _ A61 _ _ [.ref A19.n]
        refine x_astore_n dX1_statement_136 (by decide) ?_
        refine x_goto (tgt := 253) dX1_statement_137 (by decide) ?_
        change X _ _ _ _ _ _ [some (.ref p), some (.int v1), some (.ref A19.n), none] []
        exact X.weak (xle_c rfl (xle_n (xle_c rfl (xle_n xle_nil)))) (kj16 (some A19.n) A61 h)
    · replace h := h.2 c102
      obtain ⟨o62, h⟩ := h
      refine z_new hG (c := 29) dX1_statement_105 rfl q1635 (by decide) rfl o62 (fun A63 e63 w63 => ?_)
      replace h := h A63 e63
      refine x_dup dX1_statement_108 rfl ?_
      refine x_iload_n dX1_statement_109 rfl ?_
      refine x_iconst_ (v := (1 : Int32)) dX1_statement_110 (by decide) ?_
      obtain ⟨R64, g64, h⟩ := h
      refine x_callI hG (Ky := kX31_init) (As := [.int v1, .int (1 : Int32)]) dX1_statement_111 lk_X1_187 me_X31_init is_X31_init rfl rfl rfl rfl rfl (Nat.le_of_ble_eq_true rfl) (MX.post (m_X31_init hG hO g64) ?_)
      rintro _ A64 ⟨rfl, h1⟩
      refine X.xok (fun w64 => ?_)
      replace h := h A64 w64 h1
      change X _ _ _ _ A64 _ _ [.ref A14.n]
      refine x_astore_n dX1_statement_114 (by decide) ?_
      refine x_goto (tgt := 253) dX1_statement_115 (by decide) ?_
      change X _ _ _ _ _ _ [some (.ref p), some (.int v1), some (.ref A14.n), none] []
      exact X.weak (xle_c rfl (xle_n (xle_c rfl (xle_n xle_nil)))) (kj16 (some A14.n) A64 h)
  refine x_sw (10 : Int32) (fun s9_0 => ?_) (fun s9_0 => ?_)
  · refine x_lookup (off := 72) (tgt := 81) dX1_statement_9 (by decide) (by rw [s9_0]; rfl) (by decide) ?_
    exact kt5_1 (by simp only [s9_0]; decide)
  refine x_sw (11 : Int32) (fun s9_1 => ?_) (fun s9_1 => ?_)
  · refine x_lookup (off := 72) (tgt := 81) dX1_statement_9 (by decide) (by rw [s9_1]; rfl) (by decide) ?_
    exact kt5_1 (by simp only [s9_1]; decide)
  refine x_sw (14 : Int32) (fun s9_2 => ?_) (fun s9_2 => ?_)
  · refine x_lookup (off := 77) (tgt := 86) dX1_statement_9 (by decide) (by rw [s9_2]; rfl) (by decide) ?_
    exact kt5_2 s9_2
  refine x_sw (16 : Int32) (fun s9_3 => ?_) (fun s9_3 => ?_)
  · refine x_lookup (off := 82) (tgt := 91) dX1_statement_9 (by decide) (by rw [s9_3]; rfl) (by decide) ?_
    exact kt5_3 (by simp only [s9_3]; decide)
  refine x_sw (17 : Int32) (fun s9_4 => ?_) (fun s9_4 => ?_)
  · refine x_lookup (off := 82) (tgt := 91) dX1_statement_9 (by decide) (by rw [s9_4]; rfl) (by decide) ?_
    exact kt5_3 (by simp only [s9_4]; decide)
  refine x_sw (18 : Int32) (fun s9_5 => ?_) (fun s9_5 => ?_)
  · refine x_lookup (off := 82) (tgt := 91) dX1_statement_9 (by decide) (by rw [s9_5]; rfl) (by decide) ?_
    exact kt5_3 (by simp only [s9_5]; decide)
  refine x_sw (66 : Int32) (fun s9_6 => ?_) (fun s9_6 => ?_)
  · refine x_lookup (off := 67) (tgt := 76) dX1_statement_9 (by decide) (by rw [s9_6]; rfl) (by decide) ?_
    exact kt5_0 s9_6
  refine x_lookup (off := 87) (tgt := 96) dX1_statement_9 (by decide) (by show Op.lookupswitch.offset [(10, 72), (11, 72), (14, 77), (16, 82), (17, 82), (18, 82), (66, 67)] _ _ = _; rw [lv_osw s9_0 (by decide), lv_osw s9_1 (by decide), lv_osw s9_2 (by decide), lv_osw s9_3 (by decide), lv_osw s9_4 (by decide), lv_osw s9_5 (by decide), lv_osw s9_6 (by decide)]; rfl) (by decide) ?_
  exact kd5 ⟨s9_6, s9_0, s9_1, s9_2, s9_3, s9_4, s9_5⟩
def w_X1_block (G : xG) (r0 : Nat → (Option Nat → xA → Prop) → (Nat → xA → Prop) → xA → Prop) (r1 : Nat → (Option Nat → xA → Prop) → (Nat → xA → Prop) → xA → Prop) (r2 : Nat → (Option Nat → xA → Prop) → (Nat → xA → Prop) → xA → Prop) (r3 : Nat → (Option Nat → xA → Prop) → (Nat → xA → Prop) → xA → Prop) (p : Nat) (Q : Option Nat → xA → Prop) (E : Nat → xA → Prop) (A : xA) : Prop := xok G A → A.tg p = 2 ∧ (∃ R1 : xA → Prop, w_X1_opens G p (66 : Int32) R1 E A ∧ (∀ A1 : xA, xok G A1 → R1 A1 → (rmO G A1 1 ∧ (∀ A4 : xA, A4 = A1.new 5 0 1 0 → (∃ R5 : xA → Prop, w_X5_init G A1.n R5 A4 ∧ (∀ A5 : xA, xok G A5 → R5 A5 → (∃ L6 : Nat → xA → Prop, (∃ n6 : Nat, L6 n6 A5) ∧ (∀ (n6 : Nat) (A6 : xA), L6 n6 A6 → A6.tg p = 2 ∧ (∃ R7 : Int32 → xA → Prop, w_X1_is G p (67 : Int32) R7 A6 ∧ (∀ (v7 : Int32) (A7 : xA), xok G A7 → (v7 = 0 ∨ v7 = 1) → R7 v7 A7 → (((v7 = 0 → A7.tg A1.n = 5 ∧ (A7.tg p = 2 ∧ (∃ R12 : Option Nat → xA → Prop, r0 p R12 E A7 ∧ (∀ (v12 : Option Nat) (A12 : xA), xok G A12 → R12 v12 A12 → (∃ b15 : Nat, (A7.P A1.n 0) = some b15 ∧ (A12.tg b15 = 37 ∧ (∃ R14 : Int32 → xA → Prop, w_J5_add G b15 v12 R14 A12 ∧ (∀ (v14 : Int32) (A14 : xA), xok G A14 → (v14 = 0 ∨ v14 = 1) → R14 v14 A14 → ((∃ q6 : Nat, q6 < n6 ∧ L6 q6 A14)))))))))) ∧ (¬ v7 = 0 → A7.tg p = 2 ∧ (∃ R9 : xA → Prop, w_X1_closes G p (67 : Int32) R9 E A7 ∧ (∀ A9 : xA, xok G A9 → R9 A9 → (Q (some A1.n) A9))))))))))))))))
theorem m_X1_block (hG : xOK G) (hO : xHO G) {dp : Nat} {r0 : Nat → (Option Nat → xA → Prop) → (Nat → xA → Prop) → xA → Prop} {r1 : Nat → (Option Nat → xA → Prop) → (Nat → xA → Prop) → xA → Prop} {r2 : Nat → (Option Nat → xA → Prop) → (Nat → xA → Prop) → xA → Prop} {r3 : Nat → (Option Nat → xA → Prop) → (Nat → xA → Prop) → xA → Prop} (hK : xRC_S2 G (dp + 718) r0 r1 r2 r3) {p : Nat} {Q : Option Nat → xA → Prop} {E : Nat → xA → Prop} {A : xA} (h : w_X1_block G r0 r1 r2 r3 p Q E A) : MX G (dp + 719) kX1_block [.ref p] A (hX (hR Q) E) := by
  unfold w_X1_block at h
  refine MX.of rfl (Nat.le_of_ble_eq_true rfl) ?_
  change X _ _ _ _ _ _ [some (.ref p), none] _
  refine X.xok (fun w0 => ?_)
  replace h := h w0
  refine x_aload_n dX1_block_0 rfl ?_
  refine x_bipush_ (v := (66 : Int32)) dX1_block_1 (by decide) ?_
  obtain ⟨o2, h⟩ := h
  obtain ⟨R1, g1, h⟩ := h
  refine x_callV hG (Ky := kX1_opens) (As := [.int (66 : Int32)]) dX1_block_3 o2 rfl lk_X1_128 me_X1_opens is_X1_opens se_X1_opens rfl rfl (Nat.le_of_ble_eq_true rfl) (MX.post (m_X1_opens hG hO g1) ?_)
  rintro _ A1 (⟨rfl, h1⟩ | ⟨x1, rfl, h1⟩)
  rotate_left
  · exact ⟨rfl, Or.inr ⟨_, rfl, h1⟩⟩
  refine X.xok (fun w1 => ?_)
  replace h := h A1 w1 h1
  change X _ _ _ _ A1 _ _ []
  obtain ⟨o3, h⟩ := h
  refine z_new hG (c := 4) dX1_block_6 rfl q444 (by decide) rfl o3 (fun A4 e4 w4 => ?_)
  replace h := h A4 e4
  refine x_dup dX1_block_9 rfl ?_
  obtain ⟨R5, g5, h⟩ := h
  refine x_callI hG (Ky := kX5_init) (As := []) dX1_block_10 lk_X1_27 me_X5_init is_X5_init rfl rfl rfl rfl rfl (Nat.le_of_ble_eq_true rfl) (MX.post (m_X5_init hG hO g5) ?_)
  rintro _ A5 ⟨rfl, h1⟩
  refine X.xok (fun w5 => ?_)
  replace h := h A5 w5 h1
  change X _ _ _ _ A5 _ _ [.ref A1.n]
  refine x_astore_n dX1_block_13 (by decide) ?_
  obtain ⟨L6, ⟨n6, i6⟩, g6⟩ := h
  have kl6 : ∀ n6 : Nat, ∀ (A6 : xA), L6 n6 A6 → X G (dp + 719) kX1_block (hX (hR Q) E) A6 14 [some (.ref p), some (.ref A1.n)] [] := by
    intro n6
    induction n6 using Nat.strongRecOn with
    | ind n6 ih6 =>
      intro A6 h
      replace h := g6 n6 A6 h
      refine x_aload_n dX1_block_14 rfl ?_
      refine x_bipush_ (v := (67 : Int32)) dX1_block_15 (by decide) ?_
      obtain ⟨o8, h⟩ := h
      obtain ⟨R7, g7, h⟩ := h
      refine x_callV hG (Ky := kX1_is) (As := [.int (67 : Int32)]) dX1_block_17 o8 rfl lk_X1_71 me_X1_is is_X1_is se_X1_is rfl rfl (Nat.le_of_ble_eq_true rfl) (MX.post (m_X1_is hG hO g7) ?_)
      rintro _ A7 ⟨v7, rfl, zv7, h1⟩
      refine X.xok (fun w7 => ?_)
      replace h := h v7 A7 w7 zv7 h1
      change X _ _ _ _ A7 _ _ [.int v7]
      refine x_if_ne (tgt := 38) dX1_block_20 (by decide) (fun c20 => ?_) (fun c20 => ?_)
      · replace h := h.2 c20
        refine x_aload_n dX1_block_38 rfl ?_
        refine x_bipush_ (v := (67 : Int32)) dX1_block_39 (by decide) ?_
        obtain ⟨o10, h⟩ := h
        obtain ⟨R9, g9, h⟩ := h
        refine x_callV hG (Ky := kX1_closes) (As := [.int (67 : Int32)]) dX1_block_41 o10 rfl lk_X1_131 me_X1_closes is_X1_closes se_X1_closes rfl rfl (Nat.le_of_ble_eq_true rfl) (MX.post (m_X1_closes hG hO g9) ?_)
        rintro _ A9 (⟨rfl, h1⟩ | ⟨x9, rfl, h1⟩)
        rotate_left
        · exact ⟨rfl, Or.inr ⟨_, rfl, h1⟩⟩
        refine X.xok (fun w9 => ?_)
        replace h := h A9 w9 h1
        change X _ _ _ _ A9 _ _ []
        refine x_aload_n dX1_block_44 rfl ?_
        exact x_aret (r := (some A1.n)) dX1_block_45 rfl (Or.inl ⟨_, rfl⟩) (Or.inl ⟨_, rfl, h⟩)
      · replace h := h.1 c20
        refine x_aload_n dX1_block_23 rfl ?_
        obtain ⟨o11, h⟩ := h
        refine x_get (v := va_rf (A7.P A1.n 0)) hG dX1_block_24 f_X1_169_4 o11 rfl ?_
        refine x_aload_n dX1_block_27 rfl ?_
        obtain ⟨o13, h⟩ := h
        obtain ⟨R12, g12, h⟩ := h
        refine x_callV hG (Ky := kX1_statement) (As := []) dX1_block_28 o13 rfl lk_X1_172 me_X1_statement is_X1_statement se_X1_statement rfl rfl (by simp only [List.append_eq, List.nil_append, List.map_cons, va_rf_cat]; exact Nat.le_of_ble_eq_true rfl) (MX.post (hK.1 g12) ?_)
        rintro _ A12 (⟨v12, rfl, h1⟩ | ⟨x12, rfl, h1⟩)
        rotate_left
        · exact ⟨rfl, Or.inr ⟨_, rfl, h1⟩⟩
        refine X.xok (fun w12 => ?_)
        replace h := h v12 A12 w12 h1
        change X _ _ _ _ A12 _ _ [va_rf v12, va_rf (A7.P A1.n 0)]
        obtain ⟨b15, e15, h⟩ := h
        rw [e15]
        obtain ⟨o16, h⟩ := h
        obtain ⟨R14, g14, h⟩ := h
        refine x_callV hG (Ky := kJ5_add) (As := [va_rf v12]) dX1_block_31 o16 rfl lk_X1_120 me_J5_add is_J5_add se_J5_add rfl rfl (Nat.le_of_ble_eq_true rfl) (MX.post (m_w_J5_add hG hO g14) ?_)
        rintro _ A14 ⟨v14, rfl, zv14, h1⟩
        refine X.xok (fun w14 => ?_)
        replace h := h v14 A14 w14 zv14 h1
        change X _ _ _ _ A14 _ _ [.int v14]
        refine x_pop dX1_block_34 rfl ?_
        refine x_goto (tgt := 14) dX1_block_35 (by decide) ?_
        obtain ⟨q6, l6, h⟩ := h
        change X _ _ _ _ _ _ [some (.ref p), some (.ref A1.n)] []
        exact X.weak (xle_c rfl (xle_c rfl xle_nil)) (ih6 q6 l6 A14 h)
  change X _ _ _ _ _ _ [some (.ref p), some (.ref A1.n)] []
  exact X.weak (xle_c rfl (xle_c rfl xle_nil)) (kl6 n6 A5 i6)
def w_X1_choice (G : xG) (r0 : Nat → (Option Nat → xA → Prop) → (Nat → xA → Prop) → xA → Prop) (r1 : Nat → (Option Nat → xA → Prop) → (Nat → xA → Prop) → xA → Prop) (r2 : Nat → (Option Nat → xA → Prop) → (Nat → xA → Prop) → xA → Prop) (r3 : Nat → (Option Nat → xA → Prop) → (Nat → xA → Prop) → xA → Prop) (p : Nat) (Q : Option Nat → xA → Prop) (E : Nat → xA → Prop) (A : xA) : Prop := xok G A → A.tg p = 2 ∧ (∃ R1 : xA → Prop, w_X1_opens G p (14 : Int32) R1 E A ∧ (∀ A1 : xA, xok G A1 → R1 A1 → (A1.tg p = 2 ∧ (∃ R3 : Option Nat → xA → Prop, g_P_4 G p R3 E A1 ∧ (∀ (v3 : Option Nat) (A3 : xA), xok G A3 → R3 v3 A3 → (A3.tg p = 2 ∧ (∃ R5 : Option Nat → xA → Prop, r0 p R5 E A3 ∧ (∀ (v5 : Option Nat) (A5 : xA), xok G A5 → R5 v5 A5 → (A5.tg p = 2 ∧ (∃ R7 : Int32 → xA → Prop, w_X1_takes G p (15 : Int32) R7 A5 ∧ (∀ (v7 : Int32) (A7 : xA), xok G A7 → (v7 = 0 ∨ v7 = 1) → R7 v7 A7 → (∃ J9 : Option Nat → xA → Prop, (∀ (y9_s0 : Option Nat) (A9 : xA), J9 y9_s0 A9 → A9.tg p = 2 ∧ (∀ A11 : xA, A11 = A9.setI p 4 ((A9.I p 4) - (1 : Int32)) → (rmO G A11 3 ∧ (∀ A13 : xA, A13 = A11.new 26 0 3 0 → (∃ R14 : xA → Prop, w_X27_init G A11.n v3 v5 y9_s0 R14 A13 ∧ (∀ A14 : xA, xok G A14 → R14 A14 → (Q (some A11.n) A14))))))) ∧ ((v7 = 0 → J9 (none : Option Nat) A7) ∧ (¬ v7 = 0 → A7.tg p = 2 ∧ (∃ R15 : Option Nat → xA → Prop, r0 p R15 E A7 ∧ (∀ (v15 : Option Nat) (A15 : xA), xok G A15 → R15 v15 A15 → (J9 v15 A15)))))))))))))))))
theorem m_X1_choice (hG : xOK G) (hO : xHO G) {dp : Nat} {r0 : Nat → (Option Nat → xA → Prop) → (Nat → xA → Prop) → xA → Prop} {r1 : Nat → (Option Nat → xA → Prop) → (Nat → xA → Prop) → xA → Prop} {r2 : Nat → (Option Nat → xA → Prop) → (Nat → xA → Prop) → xA → Prop} {r3 : Nat → (Option Nat → xA → Prop) → (Nat → xA → Prop) → xA → Prop} (hK : xRC_S2 G (dp + 718) r0 r1 r2 r3) {p : Nat} {Q : Option Nat → xA → Prop} {E : Nat → xA → Prop} {A : xA} (h : w_X1_choice G r0 r1 r2 r3 p Q E A) : MX G (dp + 719) kX1_choice [.ref p] A (hX (hR Q) E) := by
  unfold w_X1_choice at h
  refine MX.of rfl (Nat.le_of_ble_eq_true rfl) ?_
  change X _ _ _ _ _ _ [some (.ref p), none, none, none] _
  refine X.xok (fun w0 => ?_)
  replace h := h w0
  refine x_aload_n dX1_choice_0 rfl ?_
  refine x_bipush_ (v := (14 : Int32)) dX1_choice_1 (by decide) ?_
  obtain ⟨o2, h⟩ := h
  obtain ⟨R1, g1, h⟩ := h
  refine x_callV hG (Ky := kX1_opens) (As := [.int (14 : Int32)]) dX1_choice_3 o2 rfl lk_X1_128 me_X1_opens is_X1_opens se_X1_opens rfl rfl (Nat.le_of_ble_eq_true rfl) (MX.post (m_X1_opens hG hO g1) ?_)
  rintro _ A1 (⟨rfl, h1⟩ | ⟨x1, rfl, h1⟩)
  rotate_left
  · exact ⟨rfl, Or.inr ⟨_, rfl, h1⟩⟩
  refine X.xok (fun w1 => ?_)
  replace h := h A1 w1 h1
  change X _ _ _ _ A1 _ _ []
  refine x_aload_n dX1_choice_6 rfl ?_
  obtain ⟨o4, h⟩ := h
  obtain ⟨R3, g3, h⟩ := h
  refine x_callV hG (Ky := kX1_inside) (As := []) dX1_choice_7 o4 rfl lk_X1_197 me_X1_inside is_X1_inside se_X1_inside rfl rfl (Nat.le_of_ble_eq_true rfl) (MX.post ((rc_P hG hO 700).2.2.2.2.1 g3) ?_)
  rintro _ A3 (⟨v3, rfl, h1⟩ | ⟨x3, rfl, h1⟩)
  rotate_left
  · exact ⟨rfl, Or.inr ⟨_, rfl, h1⟩⟩
  refine X.xok (fun w3 => ?_)
  replace h := h v3 A3 w3 h1
  change X _ _ _ _ A3 _ _ [va_rf v3]
  refine x_astoreq_n dX1_choice_10 (by decide) ?_
  refine x_aload_n dX1_choice_11 rfl ?_
  obtain ⟨o6, h⟩ := h
  obtain ⟨R5, g5, h⟩ := h
  refine x_callV hG (Ky := kX1_statement) (As := []) dX1_choice_12 o6 rfl lk_X1_172 me_X1_statement is_X1_statement se_X1_statement rfl rfl (Nat.le_of_ble_eq_true rfl) (MX.post (hK.1 g5) ?_)
  rintro _ A5 (⟨v5, rfl, h1⟩ | ⟨x5, rfl, h1⟩)
  rotate_left
  · exact ⟨rfl, Or.inr ⟨_, rfl, h1⟩⟩
  refine X.xok (fun w5 => ?_)
  replace h := h v5 A5 w5 h1
  change X _ _ _ _ A5 _ _ [va_rf v5]
  refine x_astoreq_n dX1_choice_15 (by decide) ?_
  refine X.lvs (lv' := [some (.ref p), some (va_rf v3), some (va_rf v5), none]) (by generalize v3 = z; cases z <;> rfl) ?_
  refine x_aload_n dX1_choice_16 rfl ?_
  refine x_bipush_ (v := (15 : Int32)) dX1_choice_17 (by decide) ?_
  obtain ⟨o8, h⟩ := h
  obtain ⟨R7, g7, h⟩ := h
  refine x_callV hG (Ky := kX1_takes) (As := [.int (15 : Int32)]) dX1_choice_19 o8 rfl lk_X1_79 me_X1_takes is_X1_takes se_X1_takes rfl rfl (Nat.le_of_ble_eq_true rfl) (MX.post (m_X1_takes hG hO g7) ?_)
  rintro _ A7 ⟨v7, rfl, zv7, h1⟩
  refine X.xok (fun w7 => ?_)
  replace h := h v7 A7 w7 zv7 h1
  change X _ _ _ _ A7 _ _ [.int v7]
  obtain ⟨J9, g9, h⟩ := h
  have kj9 : ∀ (y9_s0 : Option Nat) (A9 : xA), J9 y9_s0 A9 → X G (dp + 719) kX1_choice (hX (hR Q) E) A9 33 [some (.ref p), some (va_rf v3), some (va_rf v5), none] [va_rf y9_s0] := by
    intro y9_s0 A9 h
    replace h := g9 y9_s0 A9 h
    refine x_astoreq_n dX1_choice_33 (by decide) ?_
    refine X.lvs (lv' := [some (.ref p), some (va_rf v3), some (va_rf v5), some (va_rf y9_s0)]) (by generalize v5 = z; cases z <;> rfl) ?_
    refine x_aload_n dX1_choice_34 rfl ?_
    refine x_dup dX1_choice_35 rfl ?_
    obtain ⟨o10, h⟩ := h
    refine x_get (v := .int (A9.I p 4)) hG dX1_choice_36 f_X1_40_1 o10 rfl ?_
    refine x_iconst_ (v := (1 : Int32)) dX1_choice_39 (by decide) ?_
    refine x_isub dX1_choice_40 ?_
    refine z_putI hG hO.1 dX1_choice_41 f_X1_40_1 ⟨_, rfl, Or.inl rfl⟩ o10 (by decide) rfl rfl ⟨_, rfl⟩ (fun A11 e11 => ?_)
    replace h := h A11 e11
    obtain ⟨o12, h⟩ := h
    refine z_new hG (c := 25) dX1_choice_44 rfl q1557 (by decide) rfl o12 (fun A13 e13 w13 => ?_)
    replace h := h A13 e13
    refine x_dup dX1_choice_47 rfl ?_
    refine x_aloadq_n dX1_choice_48 rfl ?_
    refine x_aloadq_n dX1_choice_49 rfl ?_
    refine x_aloadq_n dX1_choice_50 rfl ?_
    obtain ⟨R14, g14, h⟩ := h
    refine x_callI hG (Ky := kX27_init) (As := [va_rf v3, va_rf v5, va_rf y9_s0]) dX1_choice_51 lk_X1_218 me_X27_init is_X27_init rfl rfl rfl rfl rfl (Nat.le_of_ble_eq_true rfl) (MX.post (m_X27_init hG hO g14) ?_)
    rintro _ A14 ⟨rfl, h1⟩
    refine X.xok (fun w14 => ?_)
    replace h := h A14 w14 h1
    change X _ _ _ _ A14 _ _ [.ref A11.n]
    exact x_aret (r := (some A11.n)) dX1_choice_54 rfl (Or.inl ⟨_, rfl⟩) (Or.inl ⟨_, rfl, h⟩)
  refine x_if_eq (tgt := 32) dX1_choice_22 (by decide) (fun c22 => ?_) (fun c22 => ?_)
  · replace h := h.1 c22
    refine x_null dX1_choice_32 ?_
    change X _ _ _ _ _ _ [some (.ref p), some (va_rf v3), some (va_rf v5), none] [.null]
    exact X.weak (xle_c rfl (xle_c rfl (xle_c rfl (xle_n xle_nil)))) (kj9 (none : Option Nat) A7 h)
  · replace h := h.2 c22
    refine x_aload_n dX1_choice_25 rfl ?_
    obtain ⟨o16, h⟩ := h
    obtain ⟨R15, g15, h⟩ := h
    refine x_callV hG (Ky := kX1_statement) (As := []) dX1_choice_26 o16 rfl lk_X1_172 me_X1_statement is_X1_statement se_X1_statement rfl rfl (Nat.le_of_ble_eq_true rfl) (MX.post (hK.1 g15) ?_)
    rintro _ A15 (⟨v15, rfl, h1⟩ | ⟨x15, rfl, h1⟩)
    rotate_left
    · exact ⟨rfl, Or.inr ⟨_, rfl, h1⟩⟩
    refine X.xok (fun w15 => ?_)
    replace h := h v15 A15 w15 h1
    change X _ _ _ _ A15 _ _ [va_rf v15]
    refine x_goto (tgt := 33) dX1_choice_29 (by decide) ?_
    change X _ _ _ _ _ _ [some (.ref p), some (va_rf v3), some (va_rf v5), none] [va_rf v15]
    exact X.weak (xle_c rfl (xle_c rfl (xle_c rfl (xle_n xle_nil)))) (kj9 v15 A15 h)
def w_X1_loop (G : xG) (r0 : Nat → (Option Nat → xA → Prop) → (Nat → xA → Prop) → xA → Prop) (r1 : Nat → (Option Nat → xA → Prop) → (Nat → xA → Prop) → xA → Prop) (r2 : Nat → (Option Nat → xA → Prop) → (Nat → xA → Prop) → xA → Prop) (r3 : Nat → (Option Nat → xA → Prop) → (Nat → xA → Prop) → xA → Prop) (p : Nat) (Q : Option Nat → xA → Prop) (E : Nat → xA → Prop) (A : xA) : Prop := xok G A → A.tg p = 2 ∧ (∃ R1 : Int32 → xA → Prop, w_X1_kind G p R1 A ∧ (∀ (v1 : Int32) (A1 : xA), xok G A1 → R1 v1 A1 → (A1.tg p = 2 ∧ (∃ R3 : xA → Prop, w_X1_opens G p v1 R3 E A1 ∧ (∀ A3 : xA, xok G A3 → R3 A3 → (((v1 = (17 : Int32) → A3.tg p = 2 ∧ (∃ R42 : Option Nat → xA → Prop, r0 p R42 E A3 ∧ (∀ (v42 : Option Nat) (A42 : xA), xok G A42 → R42 v42 A42 → (A42.tg p = 2 ∧ (∃ R44 : xA → Prop, w_X1_need G p (16 : Int32) R44 E A42 ∧ (∀ A44 : xA, xok G A44 → R44 A44 → (A44.tg p = 2 ∧ (∃ R46 : Option Nat → xA → Prop, g_P_4 G p R46 E A44 ∧ (∀ (v46 : Option Nat) (A46 : xA), xok G A46 → R46 v46 A46 → (A46.tg p = 2 ∧ (∃ R48 : xA → Prop, w_X1_need G p (69 : Int32) R48 E A46 ∧ (∀ A48 : xA, xok G A48 → R48 A48 → (A48.tg p = 2 ∧ (∀ A51 : xA, A51 = A48.setI p 4 ((A48.I p 4) - (1 : Int32)) → (rmO G A51 5 ∧ (∀ A53 : xA, A53 = A51.new 27 0 5 0 → (∃ R54 : xA → Prop, w_X28_init G A51.n (none : Option Nat) v46 (none : Option Nat) v42 (1 : Int32) R54 A53 ∧ (∀ A54 : xA, xok G A54 → R54 A54 → (Q (some A51.n) A54))))))))))))))))))) ∧ (¬ v1 = (17 : Int32) → ∃ J5 : Option Nat → Option Nat → Option Nat → xA → Prop, (∀ (y5_2 : Option Nat) (y5_3 : Option Nat) (y5_4 : Option Nat) (A5 : xA), J5 y5_2 y5_3 y5_4 A5 → A5.tg p = 2 ∧ (∃ R6 : Option Nat → xA → Prop, r0 p R6 E A5 ∧ (∀ (v6 : Option Nat) (A6 : xA), xok G A6 → R6 v6 A6 → (A6.tg p = 2 ∧ (∀ A9 : xA, A9 = A6.setI p 4 ((A6.I p 4) - (1 : Int32)) → (rmO G A9 5 ∧ (∀ A11 : xA, A11 = A9.new 27 0 5 0 → (∃ R12 : xA → Prop, w_X28_init G A9.n y5_2 y5_4 y5_3 v6 (0 : Int32) R12 A11 ∧ (∀ A12 : xA, xok G A12 → R12 A12 → (Q (some A9.n) A12)))))))))) ∧ ((v1 = (16 : Int32) → A3.tg p = 2 ∧ (∃ R40 : Option Nat → xA → Prop, g_P_4 G p R40 E A3 ∧ (∀ (v40 : Option Nat) (A40 : xA), xok G A40 → R40 v40 A40 → (J5 (none : Option Nat) (none : Option Nat) v40 A40)))) ∧ (¬ v1 = (16 : Int32) → A3.tg p = 2 ∧ (∃ R13 : xA → Prop, w_X1_opens G p (62 : Int32) R13 E A3 ∧ (∀ A13 : xA, xok G A13 → R13 A13 → (A13.tg p = 2 ∧ (∃ R15 : Int32 → xA → Prop, w_X1_is G p (69 : Int32) R15 A13 ∧ (∀ (v15 : Int32) (A15 : xA), xok G A15 → (v15 = 0 ∨ v15 = 1) → R15 v15 A15 → (∃ J17 : Option Nat → xA → Prop, (∀ (y17_s0 : Option Nat) (A17 : xA), J17 y17_s0 A17 → A17.tg p = 2 ∧ (∃ R18 : xA → Prop, w_X1_need G p (69 : Int32) R18 E A17 ∧ (∀ A18 : xA, xok G A18 → R18 A18 → (A18.tg p = 2 ∧ (∃ R20 : Int32 → xA → Prop, w_X1_is G p (69 : Int32) R20 A18 ∧ (∀ (v20 : Int32) (A20 : xA), xok G A20 → (v20 = 0 ∨ v20 = 1) → R20 v20 A20 → (∃ J22 : Option Nat → xA → Prop, (∀ (y22_s0 : Option Nat) (A22 : xA), J22 y22_s0 A22 → A22.tg p = 2 ∧ (∃ R23 : xA → Prop, w_X1_need G p (69 : Int32) R23 E A22 ∧ (∀ A23 : xA, xok G A23 → R23 A23 → (A23.tg p = 2 ∧ (∃ R25 : Int32 → xA → Prop, w_X1_is G p (63 : Int32) R25 A23 ∧ (∀ (v25 : Int32) (A25 : xA), xok G A25 → (v25 = 0 ∨ v25 = 1) → R25 v25 A25 → (∃ J27 : Option Nat → xA → Prop, (∀ (y27_s0 : Option Nat) (A27 : xA), J27 y27_s0 A27 → A27.tg p = 2 ∧ (∃ R28 : xA → Prop, w_X1_closes G p (63 : Int32) R28 E A27 ∧ (∀ A28 : xA, xok G A28 → R28 A28 → (J5 y17_s0 y27_s0 y22_s0 A28)))) ∧ ((v25 = 0 → A25.tg p = 2 ∧ (∃ R30 : Option Nat → xA → Prop, w_X1_simple G p R30 E A25 ∧ (∀ (v30 : Option Nat) (A30 : xA), xok G A30 → R30 v30 A30 → (J27 v30 A30)))) ∧ (¬ v25 = 0 → J27 (none : Option Nat) A25))))))))) ∧ ((v20 = 0 → A20.tg p = 2 ∧ (∃ R32 : Option Nat → xA → Prop, g_P_0 G p R32 E A20 ∧ (∀ (v32 : Option Nat) (A32 : xA), xok G A32 → R32 v32 A32 → (J22 v32 A32)))) ∧ (¬ v20 = 0 → J22 (none : Option Nat) A20))))))))) ∧ ((v15 = 0 → A15.tg p = 2 ∧ (∃ R34 : Int32 → xA → Prop, w_X1_takes G p (10 : Int32) R34 A15 ∧ (∀ (v34 : Int32) (A34 : xA), xok G A34 → (v34 = 0 ∨ v34 = 1) → R34 v34 A34 → (((v34 = 0 → A34.tg p = 2 ∧ (∃ R36 : Option Nat → xA → Prop, w_X1_simple G p R36 E A34 ∧ (∀ (v36 : Option Nat) (A36 : xA), xok G A36 → R36 v36 A36 → (J17 v36 A36)))) ∧ (¬ v34 = 0 → A34.tg p = 2 ∧ (∃ R38 : Option Nat → xA → Prop, w_X1_startTell G p R38 E A34 ∧ (∀ (v38 : Option Nat) (A38 : xA), xok G A38 → R38 v38 A38 → (J17 v38 A38))))))))) ∧ (¬ v15 = 0 → J17 (none : Option Nat) A15))))))))))))))))))
theorem m_X1_loop (hG : xOK G) (hO : xHO G) {dp : Nat} {r0 : Nat → (Option Nat → xA → Prop) → (Nat → xA → Prop) → xA → Prop} {r1 : Nat → (Option Nat → xA → Prop) → (Nat → xA → Prop) → xA → Prop} {r2 : Nat → (Option Nat → xA → Prop) → (Nat → xA → Prop) → xA → Prop} {r3 : Nat → (Option Nat → xA → Prop) → (Nat → xA → Prop) → xA → Prop} (hK : xRC_S2 G (dp + 718) r0 r1 r2 r3) {p : Nat} {Q : Option Nat → xA → Prop} {E : Nat → xA → Prop} {A : xA} (h : w_X1_loop G r0 r1 r2 r3 p Q E A) : MX G (dp + 719) kX1_loop [.ref p] A (hX (hR Q) E) := by
  unfold w_X1_loop at h
  refine MX.of rfl (Nat.le_of_ble_eq_true rfl) ?_
  change X _ _ _ _ _ _ [some (.ref p), none, none, none, none, none] _
  refine X.xok (fun w0 => ?_)
  replace h := h w0
  refine x_aload_n dX1_loop_0 rfl ?_
  obtain ⟨o2, h⟩ := h
  obtain ⟨R1, g1, h⟩ := h
  refine x_callV hG (Ky := kX1_kind) (As := []) dX1_loop_1 o2 rfl lk_X1_53 me_X1_kind is_X1_kind se_X1_kind rfl rfl (Nat.le_of_ble_eq_true rfl) (MX.post (m_X1_kind hG hO g1) ?_)
  rintro _ A1 ⟨v1, rfl, h1⟩
  refine X.xok (fun w1 => ?_)
  replace h := h v1 A1 w1 h1
  change X _ _ _ _ A1 _ _ [.int v1]
  refine x_istore_n dX1_loop_4 (by decide) ?_
  refine x_aload_n dX1_loop_5 rfl ?_
  refine x_iload_n dX1_loop_6 rfl ?_
  obtain ⟨o4, h⟩ := h
  obtain ⟨R3, g3, h⟩ := h
  refine x_callV hG (Ky := kX1_opens) (As := [.int v1]) dX1_loop_7 o4 rfl lk_X1_128 me_X1_opens is_X1_opens se_X1_opens rfl rfl (Nat.le_of_ble_eq_true rfl) (MX.post (m_X1_opens hG hO g3) ?_)
  rintro _ A3 (⟨rfl, h1⟩ | ⟨x3, rfl, h1⟩)
  rotate_left
  · exact ⟨rfl, Or.inr ⟨_, rfl, h1⟩⟩
  refine X.xok (fun w3 => ?_)
  replace h := h A3 w3 h1
  change X _ _ _ _ A3 _ _ []
  refine x_null dX1_loop_10 ?_
  refine x_astoreN_n dX1_loop_11 (by decide) ?_
  refine x_null dX1_loop_12 ?_
  refine x_astoreN_n dX1_loop_13 (by decide) ?_
  refine x_null dX1_loop_14 ?_
  refine x_astoreN dX1_loop_15 (by decide) ?_
  refine x_iload_n dX1_loop_17 rfl ?_
  refine x_bipush_ (v := (17 : Int32)) dX1_loop_18 (by decide) ?_
  refine x_icmp_ne (tgt := 72) dX1_loop_20 (by decide) (fun c20 => ?_) (fun c20 => ?_)
  · replace h := h.2 c20
    refine x_iload_n dX1_loop_72 rfl ?_
    refine x_bipush_ (v := (16 : Int32)) dX1_loop_73 (by decide) ?_
    obtain ⟨J5, g5, h⟩ := h
    have kj5 : ∀ (y5_2 : Option Nat) (y5_3 : Option Nat) (y5_4 : Option Nat) (A5 : xA), J5 y5_2 y5_3 y5_4 A5 → X G (dp + 719) kX1_loop (hX (hR Q) E) A5 182 [some (.ref p), none, some (va_rf y5_2), some (va_rf y5_3), some (va_rf y5_4), none] [] := by
      intro y5_2 y5_3 y5_4 A5 h
      replace h := g5 y5_2 y5_3 y5_4 A5 h
      refine x_aload_n dX1_loop_182 rfl ?_
      obtain ⟨o7, h⟩ := h
      obtain ⟨R6, g6, h⟩ := h
      refine x_callV hG (Ky := kX1_statement) (As := []) dX1_loop_183 o7 rfl lk_X1_172 me_X1_statement is_X1_statement se_X1_statement rfl rfl (Nat.le_of_ble_eq_true rfl) (MX.post (hK.1 g6) ?_)
      rintro _ A6 (⟨v6, rfl, h1⟩ | ⟨x6, rfl, h1⟩)
      rotate_left
      · exact ⟨rfl, Or.inr ⟨_, rfl, h1⟩⟩
      refine X.xok (fun w6 => ?_)
      replace h := h v6 A6 w6 h1
      change X _ _ _ _ A6 _ _ [va_rf v6]
      refine x_astoreq dX1_loop_186 (by decide) ?_
      refine X.lvs (lv' := [some (.ref p), none, some (va_rf y5_2), some (va_rf y5_3), some (va_rf y5_4), some (va_rf v6)]) (by generalize y5_4 = z; cases z <;> rfl) ?_
      refine x_aload_n dX1_loop_188 rfl ?_
      refine x_dup dX1_loop_189 rfl ?_
      obtain ⟨o8, h⟩ := h
      refine x_get (v := .int (A6.I p 4)) hG dX1_loop_190 f_X1_40_1 o8 rfl ?_
      refine x_iconst_ (v := (1 : Int32)) dX1_loop_193 (by decide) ?_
      refine x_isub dX1_loop_194 ?_
      refine z_putI hG hO.1 dX1_loop_195 f_X1_40_1 ⟨_, rfl, Or.inl rfl⟩ o8 (by decide) rfl rfl ⟨_, rfl⟩ (fun A9 e9 => ?_)
      replace h := h A9 e9
      obtain ⟨o10, h⟩ := h
      refine z_new hG (c := 26) dX1_loop_198 rfl q1577 (by decide) rfl o10 (fun A11 e11 w11 => ?_)
      replace h := h A11 e11
      refine x_dup dX1_loop_201 rfl ?_
      refine x_aloadq_n dX1_loop_202 rfl ?_
      refine x_aloadq dX1_loop_203 rfl ?_
      refine x_aloadq_n dX1_loop_205 rfl ?_
      refine x_aloadq dX1_loop_206 rfl ?_
      refine x_iconst_ (v := (0 : Int32)) dX1_loop_208 (by decide) ?_
      obtain ⟨R12, g12, h⟩ := h
      refine x_callI hG (Ky := kX28_init) (As := [va_rf y5_2, va_rf y5_4, va_rf y5_3, va_rf v6, .int (0 : Int32)]) dX1_loop_209 lk_X1_223 me_X28_init is_X28_init rfl rfl rfl rfl rfl (Nat.le_of_ble_eq_true rfl) (MX.post (m_X28_init hG hO g12) ?_)
      rintro _ A12 ⟨rfl, h1⟩
      refine X.xok (fun w12 => ?_)
      replace h := h A12 w12 h1
      change X _ _ _ _ A12 _ _ [.ref A9.n]
      exact x_aret (r := (some A9.n)) dX1_loop_212 rfl (Or.inl ⟨_, rfl⟩) (Or.inl ⟨_, rfl, h⟩)
    refine x_icmp_ne (tgt := 87) dX1_loop_75 (by decide) (fun c75 => ?_) (fun c75 => ?_)
    · replace h := h.2 c75
      refine x_aload_n dX1_loop_87 rfl ?_
      refine x_bipush_ (v := (62 : Int32)) dX1_loop_88 (by decide) ?_
      obtain ⟨o14, h⟩ := h
      obtain ⟨R13, g13, h⟩ := h
      refine x_callV hG (Ky := kX1_opens) (As := [.int (62 : Int32)]) dX1_loop_90 o14 rfl lk_X1_128 me_X1_opens is_X1_opens se_X1_opens rfl rfl (Nat.le_of_ble_eq_true rfl) (MX.post (m_X1_opens hG hO g13) ?_)
      rintro _ A13 (⟨rfl, h1⟩ | ⟨x13, rfl, h1⟩)
      rotate_left
      · exact ⟨rfl, Or.inr ⟨_, rfl, h1⟩⟩
      refine X.xok (fun w13 => ?_)
      replace h := h A13 w13 h1
      change X _ _ _ _ A13 _ _ []
      refine x_aload_n dX1_loop_93 rfl ?_
      refine x_bipush_ (v := (69 : Int32)) dX1_loop_94 (by decide) ?_
      obtain ⟨o16, h⟩ := h
      obtain ⟨R15, g15, h⟩ := h
      refine x_callV hG (Ky := kX1_is) (As := [.int (69 : Int32)]) dX1_loop_96 o16 rfl lk_X1_71 me_X1_is is_X1_is se_X1_is rfl rfl (Nat.le_of_ble_eq_true rfl) (MX.post (m_X1_is hG hO g15) ?_)
      rintro _ A15 ⟨v15, rfl, zv15, h1⟩
      refine X.xok (fun w15 => ?_)
      replace h := h v15 A15 w15 zv15 h1
      change X _ _ _ _ A15 _ _ [.int v15]
      obtain ⟨J17, g17, h⟩ := h
      have kj17 : ∀ (y17_s0 : Option Nat) (A17 : xA), J17 y17_s0 A17 → X G (dp + 719) kX1_loop (hX (hR Q) E) A17 126 [some (.ref p), none, none, none, none, none] [va_rf y17_s0] := by
        intro y17_s0 A17 h
        replace h := g17 y17_s0 A17 h
        refine x_astoreq_n dX1_loop_126 (by decide) ?_
        refine x_aload_n dX1_loop_127 rfl ?_
        refine x_bipush_ (v := (69 : Int32)) dX1_loop_128 (by decide) ?_
        obtain ⟨o19, h⟩ := h
        obtain ⟨R18, g18, h⟩ := h
        refine x_callV hG (Ky := kX1_need) (As := [.int (69 : Int32)]) dX1_loop_130 o19 rfl lk_X1_89 me_X1_need is_X1_need se_X1_need rfl rfl (Nat.le_of_ble_eq_true rfl) (MX.post (m_X1_need hG hO g18) ?_)
        rintro _ A18 (⟨rfl, h1⟩ | ⟨x18, rfl, h1⟩)
        rotate_left
        · exact ⟨rfl, Or.inr ⟨_, rfl, h1⟩⟩
        refine X.xok (fun w18 => ?_)
        replace h := h A18 w18 h1
        change X _ _ _ _ A18 _ _ []
        refine x_aload_n dX1_loop_133 rfl ?_
        refine x_bipush_ (v := (69 : Int32)) dX1_loop_134 (by decide) ?_
        obtain ⟨o21, h⟩ := h
        obtain ⟨R20, g20, h⟩ := h
        refine x_callV hG (Ky := kX1_is) (As := [.int (69 : Int32)]) dX1_loop_136 o21 rfl lk_X1_71 me_X1_is is_X1_is se_X1_is rfl rfl (Nat.le_of_ble_eq_true rfl) (MX.post (m_X1_is hG hO g20) ?_)
        rintro _ A20 ⟨v20, rfl, zv20, h1⟩
        refine X.xok (fun w20 => ?_)
        replace h := h v20 A20 w20 zv20 h1
        change X _ _ _ _ A20 _ _ [.int v20]
        obtain ⟨J22, g22, h⟩ := h
        have kj22 : ∀ (y22_s0 : Option Nat) (A22 : xA), J22 y22_s0 A22 → X G (dp + 719) kX1_loop (hX (hR Q) E) A22 150 [some (.ref p), none, some (va_rf y17_s0), none, none, none] [va_rf y22_s0] := by
          intro y22_s0 A22 h
          replace h := g22 y22_s0 A22 h
          refine x_astoreq dX1_loop_150 (by decide) ?_
          refine x_aload_n dX1_loop_152 rfl ?_
          refine x_bipush_ (v := (69 : Int32)) dX1_loop_153 (by decide) ?_
          obtain ⟨o24, h⟩ := h
          obtain ⟨R23, g23, h⟩ := h
          refine x_callV hG (Ky := kX1_need) (As := [.int (69 : Int32)]) dX1_loop_155 o24 rfl lk_X1_89 me_X1_need is_X1_need se_X1_need rfl rfl (Nat.le_of_ble_eq_true rfl) (MX.post (m_X1_need hG hO g23) ?_)
          rintro _ A23 (⟨rfl, h1⟩ | ⟨x23, rfl, h1⟩)
          rotate_left
          · exact ⟨rfl, Or.inr ⟨_, rfl, h1⟩⟩
          refine X.xok (fun w23 => ?_)
          replace h := h A23 w23 h1
          change X _ _ _ _ A23 _ _ []
          refine x_aload_n dX1_loop_158 rfl ?_
          refine x_bipush_ (v := (63 : Int32)) dX1_loop_159 (by decide) ?_
          obtain ⟨o26, h⟩ := h
          obtain ⟨R25, g25, h⟩ := h
          refine x_callV hG (Ky := kX1_is) (As := [.int (63 : Int32)]) dX1_loop_161 o26 rfl lk_X1_71 me_X1_is is_X1_is se_X1_is rfl rfl (Nat.le_of_ble_eq_true rfl) (MX.post (m_X1_is hG hO g25) ?_)
          rintro _ A25 ⟨v25, rfl, zv25, h1⟩
          refine X.xok (fun w25 => ?_)
          replace h := h v25 A25 w25 zv25 h1
          change X _ _ _ _ A25 _ _ [.int v25]
          obtain ⟨J27, g27, h⟩ := h
          have kj27 : ∀ (y27_s0 : Option Nat) (A27 : xA), J27 y27_s0 A27 → X G (dp + 719) kX1_loop (hX (hR Q) E) A27 175 [some (.ref p), none, some (va_rf y17_s0), none, some (va_rf y22_s0), none] [va_rf y27_s0] := by
            intro y27_s0 A27 h
            replace h := g27 y27_s0 A27 h
            refine x_astoreq_n dX1_loop_175 (by decide) ?_
            refine X.lvs (lv' := [some (.ref p), none, some (va_rf y17_s0), some (va_rf y27_s0), some (va_rf y22_s0), none]) (by generalize y17_s0 = z; cases z <;> rfl) ?_
            refine x_aload_n dX1_loop_176 rfl ?_
            refine x_bipush_ (v := (63 : Int32)) dX1_loop_177 (by decide) ?_
            obtain ⟨o29, h⟩ := h
            obtain ⟨R28, g28, h⟩ := h
            refine x_callV hG (Ky := kX1_closes) (As := [.int (63 : Int32)]) dX1_loop_179 o29 rfl lk_X1_131 me_X1_closes is_X1_closes se_X1_closes rfl rfl (Nat.le_of_ble_eq_true rfl) (MX.post (m_X1_closes hG hO g28) ?_)
            rintro _ A28 (⟨rfl, h1⟩ | ⟨x28, rfl, h1⟩)
            rotate_left
            · exact ⟨rfl, Or.inr ⟨_, rfl, h1⟩⟩
            refine X.xok (fun w28 => ?_)
            replace h := h A28 w28 h1
            change X _ _ _ _ A28 _ _ []
            change X _ _ _ _ _ _ [some (.ref p), none, some (va_rf y17_s0), some (va_rf y27_s0), some (va_rf y22_s0), none] []
            exact X.weak (xle_c rfl (xle_n (xle_c rfl (xle_c rfl (xle_c rfl (xle_n xle_nil)))))) (kj5 y17_s0 y27_s0 y22_s0 A28 h)
          refine x_if_eq (tgt := 171) dX1_loop_164 (by decide) (fun c164 => ?_) (fun c164 => ?_)
          · replace h := h.1 c164
            refine x_aload_n dX1_loop_171 rfl ?_
            obtain ⟨o31, h⟩ := h
            obtain ⟨R30, g30, h⟩ := h
            refine x_callV hG (Ky := kX1_simple) (As := []) dX1_loop_172 o31 rfl lk_X1_203 me_X1_simple is_X1_simple se_X1_simple rfl rfl (Nat.le_of_ble_eq_true rfl) (MX.post (m_X1_simple hG hO g30) ?_)
            rintro _ A30 (⟨v30, rfl, h1⟩ | ⟨x30, rfl, h1⟩)
            rotate_left
            · exact ⟨rfl, Or.inr ⟨_, rfl, h1⟩⟩
            refine X.xok (fun w30 => ?_)
            replace h := h v30 A30 w30 h1
            change X _ _ _ _ A30 _ _ [va_rf v30]
            change X _ _ _ _ _ _ [some (.ref p), none, some (va_rf y17_s0), none, some (va_rf y22_s0), none] [va_rf v30]
            exact X.weak (xle_c rfl (xle_n (xle_c rfl (xle_n (xle_c rfl (xle_n xle_nil)))))) (kj27 v30 A30 h)
          · replace h := h.2 c164
            refine x_null dX1_loop_167 ?_
            refine x_goto (tgt := 175) dX1_loop_168 (by decide) ?_
            change X _ _ _ _ _ _ [some (.ref p), none, some (va_rf y17_s0), none, some (va_rf y22_s0), none] [.null]
            exact X.weak (xle_c rfl (xle_n (xle_c rfl (xle_n (xle_c rfl (xle_n xle_nil)))))) (kj27 (none : Option Nat) A25 h)
        refine x_if_eq (tgt := 146) dX1_loop_139 (by decide) (fun c139 => ?_) (fun c139 => ?_)
        · replace h := h.1 c139
          refine x_aload_n dX1_loop_146 rfl ?_
          obtain ⟨o33, h⟩ := h
          obtain ⟨R32, g32, h⟩ := h
          refine x_callV hG (Ky := kX1_expr) (As := []) dX1_loop_147 o33 rfl lk_X1_101 me_X1_expr is_X1_expr se_X1_expr rfl rfl (Nat.le_of_ble_eq_true rfl) (MX.post ((rc_P hG hO 700).1 g32) ?_)
          rintro _ A32 (⟨v32, rfl, h1⟩ | ⟨x32, rfl, h1⟩)
          rotate_left
          · exact ⟨rfl, Or.inr ⟨_, rfl, h1⟩⟩
          refine X.xok (fun w32 => ?_)
          replace h := h v32 A32 w32 h1
          change X _ _ _ _ A32 _ _ [va_rf v32]
          change X _ _ _ _ _ _ [some (.ref p), none, some (va_rf y17_s0), none, none, none] [va_rf v32]
          exact X.weak (xle_c rfl (xle_n (xle_c rfl (xle_n (xle_n (xle_n xle_nil)))))) (kj22 v32 A32 h)
        · replace h := h.2 c139
          refine x_null dX1_loop_142 ?_
          refine x_goto (tgt := 150) dX1_loop_143 (by decide) ?_
          change X _ _ _ _ _ _ [some (.ref p), none, some (va_rf y17_s0), none, none, none] [.null]
          exact X.weak (xle_c rfl (xle_n (xle_c rfl (xle_n (xle_n (xle_n xle_nil)))))) (kj22 (none : Option Nat) A20 h)
      refine x_if_eq (tgt := 106) dX1_loop_99 (by decide) (fun c99 => ?_) (fun c99 => ?_)
      · replace h := h.1 c99
        refine x_aload_n dX1_loop_106 rfl ?_
        refine x_bipush_ (v := (10 : Int32)) dX1_loop_107 (by decide) ?_
        obtain ⟨o35, h⟩ := h
        obtain ⟨R34, g34, h⟩ := h
        refine x_callV hG (Ky := kX1_takes) (As := [.int (10 : Int32)]) dX1_loop_109 o35 rfl lk_X1_79 me_X1_takes is_X1_takes se_X1_takes rfl rfl (Nat.le_of_ble_eq_true rfl) (MX.post (m_X1_takes hG hO g34) ?_)
        rintro _ A34 ⟨v34, rfl, zv34, h1⟩
        refine X.xok (fun w34 => ?_)
        replace h := h v34 A34 w34 zv34 h1
        change X _ _ _ _ A34 _ _ [.int v34]
        refine x_if_eq (tgt := 122) dX1_loop_112 (by decide) (fun c112 => ?_) (fun c112 => ?_)
        · replace h := h.1 c112
          refine x_aload_n dX1_loop_122 rfl ?_
          obtain ⟨o37, h⟩ := h
          obtain ⟨R36, g36, h⟩ := h
          refine x_callV hG (Ky := kX1_simple) (As := []) dX1_loop_123 o37 rfl lk_X1_203 me_X1_simple is_X1_simple se_X1_simple rfl rfl (Nat.le_of_ble_eq_true rfl) (MX.post (m_X1_simple hG hO g36) ?_)
          rintro _ A36 (⟨v36, rfl, h1⟩ | ⟨x36, rfl, h1⟩)
          rotate_left
          · exact ⟨rfl, Or.inr ⟨_, rfl, h1⟩⟩
          refine X.xok (fun w36 => ?_)
          replace h := h v36 A36 w36 h1
          change X _ _ _ _ A36 _ _ [va_rf v36]
          change X _ _ _ _ _ _ [some (.ref p), some (.int v1), some (.null), some (.null), some (.null), none] [va_rf v36]
          exact X.weak (xle_c rfl (xle_n (xle_n (xle_n (xle_n (xle_n xle_nil)))))) (kj17 v36 A36 h)
        · replace h := h.2 c112
          refine x_aload_n dX1_loop_115 rfl ?_
          obtain ⟨o39, h⟩ := h
          obtain ⟨R38, g38, h⟩ := h
          refine x_callV hG (Ky := kX1_startTell) (As := []) dX1_loop_116 o39 rfl lk_X1_226 me_X1_startTell is_X1_startTell se_X1_startTell rfl rfl (Nat.le_of_ble_eq_true rfl) (MX.post (m_X1_startTell hG hO g38) ?_)
          rintro _ A38 (⟨v38, rfl, h1⟩ | ⟨x38, rfl, h1⟩)
          rotate_left
          · exact ⟨rfl, Or.inr ⟨_, rfl, h1⟩⟩
          refine X.xok (fun w38 => ?_)
          replace h := h v38 A38 w38 h1
          change X _ _ _ _ A38 _ _ [va_rf v38]
          refine x_goto (tgt := 126) dX1_loop_119 (by decide) ?_
          change X _ _ _ _ _ _ [some (.ref p), some (.int v1), some (.null), some (.null), some (.null), none] [va_rf v38]
          exact X.weak (xle_c rfl (xle_n (xle_n (xle_n (xle_n (xle_n xle_nil)))))) (kj17 v38 A38 h)
      · replace h := h.2 c99
        refine x_null dX1_loop_102 ?_
        refine x_goto (tgt := 126) dX1_loop_103 (by decide) ?_
        change X _ _ _ _ _ _ [some (.ref p), some (.int v1), some (.null), some (.null), some (.null), none] [.null]
        exact X.weak (xle_c rfl (xle_n (xle_n (xle_n (xle_n (xle_n xle_nil)))))) (kj17 (none : Option Nat) A15 h)
    · replace h := h.1 c75
      refine x_aload_n dX1_loop_78 rfl ?_
      obtain ⟨o41, h⟩ := h
      obtain ⟨R40, g40, h⟩ := h
      refine x_callV hG (Ky := kX1_inside) (As := []) dX1_loop_79 o41 rfl lk_X1_197 me_X1_inside is_X1_inside se_X1_inside rfl rfl (Nat.le_of_ble_eq_true rfl) (MX.post ((rc_P hG hO 700).2.2.2.2.1 g40) ?_)
      rintro _ A40 (⟨v40, rfl, h1⟩ | ⟨x40, rfl, h1⟩)
      rotate_left
      · exact ⟨rfl, Or.inr ⟨_, rfl, h1⟩⟩
      refine X.xok (fun w40 => ?_)
      replace h := h v40 A40 w40 h1
      change X _ _ _ _ A40 _ _ [va_rf v40]
      refine x_astoreq dX1_loop_82 (by decide) ?_
      refine x_goto (tgt := 182) dX1_loop_84 (by decide) ?_
      change X _ _ _ _ _ _ [some (.ref p), some (.int v1), some (.null), some (.null), some (va_rf v40), none] []
      exact X.weak (xle_c rfl (xle_n (xle_c rfl (xle_c rfl (xle_c rfl (xle_n xle_nil)))))) (kj5 (none : Option Nat) (none : Option Nat) v40 A40 h)
  · replace h := h.1 c20
    refine x_aload_n dX1_loop_23 rfl ?_
    obtain ⟨o43, h⟩ := h
    obtain ⟨R42, g42, h⟩ := h
    refine x_callV hG (Ky := kX1_statement) (As := []) dX1_loop_24 o43 rfl lk_X1_172 me_X1_statement is_X1_statement se_X1_statement rfl rfl (Nat.le_of_ble_eq_true rfl) (MX.post (hK.1 g42) ?_)
    rintro _ A42 (⟨v42, rfl, h1⟩ | ⟨x42, rfl, h1⟩)
    rotate_left
    · exact ⟨rfl, Or.inr ⟨_, rfl, h1⟩⟩
    refine X.xok (fun w42 => ?_)
    replace h := h v42 A42 w42 h1
    change X _ _ _ _ A42 _ _ [va_rf v42]
    refine x_astoreq dX1_loop_27 (by decide) ?_
    refine x_aload_n dX1_loop_29 rfl ?_
    refine x_bipush_ (v := (16 : Int32)) dX1_loop_30 (by decide) ?_
    obtain ⟨o45, h⟩ := h
    obtain ⟨R44, g44, h⟩ := h
    refine x_callV hG (Ky := kX1_need) (As := [.int (16 : Int32)]) dX1_loop_32 o45 rfl lk_X1_89 me_X1_need is_X1_need se_X1_need rfl rfl (Nat.le_of_ble_eq_true rfl) (MX.post (m_X1_need hG hO g44) ?_)
    rintro _ A44 (⟨rfl, h1⟩ | ⟨x44, rfl, h1⟩)
    rotate_left
    · exact ⟨rfl, Or.inr ⟨_, rfl, h1⟩⟩
    refine X.xok (fun w44 => ?_)
    replace h := h A44 w44 h1
    change X _ _ _ _ A44 _ _ []
    refine x_aload_n dX1_loop_35 rfl ?_
    obtain ⟨o47, h⟩ := h
    obtain ⟨R46, g46, h⟩ := h
    refine x_callV hG (Ky := kX1_inside) (As := []) dX1_loop_36 o47 rfl lk_X1_197 me_X1_inside is_X1_inside se_X1_inside rfl rfl (Nat.le_of_ble_eq_true rfl) (MX.post ((rc_P hG hO 700).2.2.2.2.1 g46) ?_)
    rintro _ A46 (⟨v46, rfl, h1⟩ | ⟨x46, rfl, h1⟩)
    rotate_left
    · exact ⟨rfl, Or.inr ⟨_, rfl, h1⟩⟩
    refine X.xok (fun w46 => ?_)
    replace h := h v46 A46 w46 h1
    change X _ _ _ _ A46 _ _ [va_rf v46]
    refine x_astoreq dX1_loop_39 (by decide) ?_
    refine x_aload_n dX1_loop_41 rfl ?_
    refine x_bipush_ (v := (69 : Int32)) dX1_loop_42 (by decide) ?_
    obtain ⟨o49, h⟩ := h
    obtain ⟨R48, g48, h⟩ := h
    refine x_callV hG (Ky := kX1_need) (As := [.int (69 : Int32)]) dX1_loop_44 o49 rfl lk_X1_89 me_X1_need is_X1_need se_X1_need rfl rfl (Nat.le_of_ble_eq_true rfl) (MX.post (m_X1_need hG hO g48) ?_)
    rintro _ A48 (⟨rfl, h1⟩ | ⟨x48, rfl, h1⟩)
    rotate_left
    · exact ⟨rfl, Or.inr ⟨_, rfl, h1⟩⟩
    refine X.xok (fun w48 => ?_)
    replace h := h A48 w48 h1
    change X _ _ _ _ A48 _ _ []
    refine x_aload_n dX1_loop_47 rfl ?_
    refine x_dup dX1_loop_48 rfl ?_
    obtain ⟨o50, h⟩ := h
    refine x_get (v := .int (A48.I p 4)) hG dX1_loop_49 f_X1_40_1 o50 rfl ?_
    refine x_iconst_ (v := (1 : Int32)) dX1_loop_52 (by decide) ?_
    refine x_isub dX1_loop_53 ?_
    refine z_putI hG hO.1 dX1_loop_54 f_X1_40_1 ⟨_, rfl, Or.inl rfl⟩ o50 (by decide) rfl rfl ⟨_, rfl⟩ (fun A51 e51 => ?_)
    replace h := h A51 e51
    obtain ⟨o52, h⟩ := h
    refine z_new hG (c := 26) dX1_loop_57 rfl q1577 (by decide) rfl o52 (fun A53 e53 w53 => ?_)
    replace h := h A53 e53
    refine x_dup dX1_loop_60 rfl ?_
    refine x_null dX1_loop_61 ?_
    refine x_aloadq dX1_loop_62 rfl ?_
    refine x_null dX1_loop_64 ?_
    refine x_aloadq dX1_loop_65 rfl ?_
    refine x_iconst_ (v := (1 : Int32)) dX1_loop_67 (by decide) ?_
    obtain ⟨R54, g54, h⟩ := h
    refine x_callI hG (Ky := kX28_init) (As := [.null, va_rf v46, .null, va_rf v42, .int (1 : Int32)]) dX1_loop_68 lk_X1_223 me_X28_init is_X28_init rfl rfl rfl rfl rfl (Nat.le_of_ble_eq_true rfl) (MX.post (m_X28_init hG hO g54) ?_)
    rintro _ A54 ⟨rfl, h1⟩
    refine X.xok (fun w54 => ?_)
    replace h := h A54 w54 h1
    change X _ _ _ _ A54 _ _ [.ref A51.n]
    exact x_aret (r := (some A51.n)) dX1_loop_71 rfl (Or.inl ⟨_, rfl⟩) (Or.inl ⟨_, rfl, h⟩)
def rk_S2 (G : xG) : Nat → (Nat → (Option Nat → xA → Prop) → (Nat → xA → Prop) → xA → Prop) × (Nat → (Option Nat → xA → Prop) → (Nat → xA → Prop) → xA → Prop) × (Nat → (Option Nat → xA → Prop) → (Nat → xA → Prop) → xA → Prop) × (Nat → (Option Nat → xA → Prop) → (Nat → xA → Prop) → xA → Prop)
  | 0 => (fun _ _ _ _ => False, fun _ _ _ _ => False, fun _ _ _ _ => False, fun _ _ _ _ => False)
  | n + 1 => (fun p Q E A => w_X1_statement G (rk_S2 G n).1 (rk_S2 G n).2.1 (rk_S2 G n).2.2.1 (rk_S2 G n).2.2.2 p Q E A,
    fun p Q E A => w_X1_block G (rk_S2 G n).1 (rk_S2 G n).2.1 (rk_S2 G n).2.2.1 (rk_S2 G n).2.2.2 p Q E A,
    fun p Q E A => w_X1_choice G (rk_S2 G n).1 (rk_S2 G n).2.1 (rk_S2 G n).2.2.1 (rk_S2 G n).2.2.2 p Q E A,
    fun p Q E A => w_X1_loop G (rk_S2 G n).1 (rk_S2 G n).2.1 (rk_S2 G n).2.2.1 (rk_S2 G n).2.2.2 p Q E A)
theorem rc_S2 (hG : xOK G) (hO : xHO G) {dp : Nat} : ∀ n, xRC_S2 G (dp + n + 718) (rk_S2 G n).1 (rk_S2 G n).2.1 (rk_S2 G n).2.2.1 (rk_S2 G n).2.2.2
  | 0 => ⟨fun h => False.elim h, fun h => False.elim h, fun h => False.elim h, fun h => False.elim h⟩
  | n + 1 => ⟨fun h => m_X1_statement (dp := dp + n) hG hO (rc_S2 hG hO n) h,
    fun h => m_X1_block (dp := dp + n) hG hO (rc_S2 hG hO n) h,
    fun h => m_X1_choice (dp := dp + n) hG hO (rc_S2 hG hO n) h,
    fun h => m_X1_loop (dp := dp + n) hG hO (rc_S2 hG hO n) h⟩
def g_S2_0 (G : xG) : Nat → (Option Nat → xA → Prop) → (Nat → xA → Prop) → xA → Prop := (rk_S2 G 200).1
def g_S2_1 (G : xG) : Nat → (Option Nat → xA → Prop) → (Nat → xA → Prop) → xA → Prop := (rk_S2 G 200).2.1
def g_S2_2 (G : xG) : Nat → (Option Nat → xA → Prop) → (Nat → xA → Prop) → xA → Prop := (rk_S2 G 200).2.2.1
def g_S2_3 (G : xG) : Nat → (Option Nat → xA → Prop) → (Nat → xA → Prop) → xA → Prop := (rk_S2 G 200).2.2.2
end W087
