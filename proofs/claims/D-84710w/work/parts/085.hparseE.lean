/-! ===== 085.hparseE (tools/h045.py) ===== -/
set_option maxRecDepth 100000
section W085
variable {G : xG}
theorem fE_X1_304 : ∀ c, c ∈ eCl → xF RX1 304 c 0 := by
  intro c h
  simp only [eCl, List.mem_cons, List.not_mem_nil, or_false] at h
  rcases h with rfl | rfl | rfl | rfl | rfl | rfl | rfl | rfl
  · exact f_X1_304_14
  · exact f_X1_304_15
  · exact f_X1_304_16
  · exact f_X1_304_17
  · exact f_X1_304_18
  · exact f_X1_304_19
  · exact f_X1_304_20
  · exact f_X1_304_21
def xRC_P (G : xG) (D : Nat) (r0 : Nat → (Option Nat → xA → Prop) → (Nat → xA → Prop) → xA → Prop) (r1 : Nat → Int32 → (Option Nat → xA → Prop) → (Nat → xA → Prop) → xA → Prop) (r2 : Nat → (Option Nat → xA → Prop) → (Nat → xA → Prop) → xA → Prop) (r3 : Nat → (Option Nat → xA → Prop) → (Nat → xA → Prop) → xA → Prop) (r4 : Nat → (Option Nat → xA → Prop) → (Nat → xA → Prop) → xA → Prop) (r5 : Nat → Int32 → Int32 → (Option Nat → xA → Prop) → (Nat → xA → Prop) → xA → Prop) (r6 : Nat → Int32 → Int32 → (Option Nat → xA → Prop) → (Nat → xA → Prop) → xA → Prop) : Prop := (∀ {p : Nat} {Q : Option Nat → xA → Prop} {E : Nat → xA → Prop} {A : xA}, r0 p Q E A → MX G D kX1_expr [.ref p] A (hX (hR Q) E)) ∧ (∀ {p : Nat} {a0 : Int32} {Q : Option Nat → xA → Prop} {E : Nat → xA → Prop} {A : xA}, r1 p a0 Q E A → MX G D kX1_row [.ref p, .int a0] A (hX (hR Q) E)) ∧ (∀ {p : Nat} {Q : Option Nat → xA → Prop} {E : Nat → xA → Prop} {A : xA}, r2 p Q E A → MX G D kX1_ahead [.ref p] A (hX (hR Q) E)) ∧ (∀ {p : Nat} {Q : Option Nat → xA → Prop} {E : Nat → xA → Prop} {A : xA}, r3 p Q E A → MX G D kX1_operand [.ref p] A (hX (hR Q) E)) ∧ (∀ {p : Nat} {Q : Option Nat → xA → Prop} {E : Nat → xA → Prop} {A : xA}, r4 p Q E A → MX G D kX1_inside [.ref p] A (hX (hR Q) E)) ∧ (∀ {p : Nat} {a0 : Int32} {a1 : Int32} {Q : Option Nat → xA → Prop} {E : Nat → xA → Prop} {A : xA}, r5 p a0 a1 Q E A → MX G D kX1_place [.ref p, .int a0, .int a1] A (hX (hR Q) E)) ∧ (∀ {p : Nat} {a0 : Int32} {a1 : Int32} {Q : Option Nat → xA → Prop} {E : Nat → xA → Prop} {A : xA}, r6 p a0 a1 Q E A → MX G D kX1_call [.ref p, .int a0, .int a1] A (hX (hR Q) E))
def w_X1_expr (G : xG) (r0 : Nat → (Option Nat → xA → Prop) → (Nat → xA → Prop) → xA → Prop) (r1 : Nat → Int32 → (Option Nat → xA → Prop) → (Nat → xA → Prop) → xA → Prop) (r2 : Nat → (Option Nat → xA → Prop) → (Nat → xA → Prop) → xA → Prop) (r3 : Nat → (Option Nat → xA → Prop) → (Nat → xA → Prop) → xA → Prop) (r4 : Nat → (Option Nat → xA → Prop) → (Nat → xA → Prop) → xA → Prop) (r5 : Nat → Int32 → Int32 → (Option Nat → xA → Prop) → (Nat → xA → Prop) → xA → Prop) (r6 : Nat → Int32 → Int32 → (Option Nat → xA → Prop) → (Nat → xA → Prop) → xA → Prop) (p : Nat) (Q : Option Nat → xA → Prop) (E : Nat → xA → Prop) (A : xA) : Prop := xok G A → A.tg p = 2 ∧ (∃ R1 : Option Nat → xA → Prop, r1 p (0 : Int32) R1 E A ∧ (∀ (v1 : Option Nat) (A1 : xA), xok G A1 → R1 v1 A1 → (A1.tg p = 2 ∧ (∃ R3 : Int32 → xA → Prop, w_X1_is G p (70 : Int32) R3 A1 ∧ (∀ (v3 : Int32) (A3 : xA), xok G A3 → (v3 = 0 ∨ v3 = 1) → R3 v3 A3 → (((v3 = 0 → Q v1 A3) ∧ (¬ v3 = 0 → A3.tg p = 2 ∧ (∃ R5 : xA → Prop, w_X1_opens G p (70 : Int32) R5 E A3 ∧ (∀ A5 : xA, xok G A5 → R5 A5 → (A5.tg p = 2 ∧ (∃ R7 : Option Nat → xA → Prop, r0 p R7 E A5 ∧ (∀ (v7 : Option Nat) (A7 : xA), xok G A7 → R7 v7 A7 → (A7.tg p = 2 ∧ (∃ R9 : xA → Prop, w_X1_need G p (71 : Int32) R9 E A7 ∧ (∀ A9 : xA, xok G A9 → R9 A9 → (A9.tg p = 2 ∧ (∃ R11 : Option Nat → xA → Prop, r0 p R11 E A9 ∧ (∀ (v11 : Option Nat) (A11 : xA), xok G A11 → R11 v11 A11 → (A11.tg p = 2 ∧ (∀ A14 : xA, A14 = A11.setI p 4 ((A11.I p 4) - (1 : Int32)) → (rmO G A14 4 ∧ (∀ A16 : xA, A16 = A14.new 22 0 4 0 → (∃ R17 : xA → Prop, w_X23_init G A14.n v1 v7 v11 R17 A16 ∧ (∀ A17 : xA, xok G A17 → R17 A17 → (Q (some A14.n) A17))))))))))))))))))))))))))
theorem m_X1_expr (hG : xOK G) (hO : xHO G) {dp : Nat} {r0 : Nat → (Option Nat → xA → Prop) → (Nat → xA → Prop) → xA → Prop} {r1 : Nat → Int32 → (Option Nat → xA → Prop) → (Nat → xA → Prop) → xA → Prop} {r2 : Nat → (Option Nat → xA → Prop) → (Nat → xA → Prop) → xA → Prop} {r3 : Nat → (Option Nat → xA → Prop) → (Nat → xA → Prop) → xA → Prop} {r4 : Nat → (Option Nat → xA → Prop) → (Nat → xA → Prop) → xA → Prop} {r5 : Nat → Int32 → Int32 → (Option Nat → xA → Prop) → (Nat → xA → Prop) → xA → Prop} {r6 : Nat → Int32 → Int32 → (Option Nat → xA → Prop) → (Nat → xA → Prop) → xA → Prop} (hK : xRC_P G (dp + 14) r0 r1 r2 r3 r4 r5 r6) {p : Nat} {Q : Option Nat → xA → Prop} {E : Nat → xA → Prop} {A : xA} (h : w_X1_expr G r0 r1 r2 r3 r4 r5 r6 p Q E A) : MX G (dp + 15) kX1_expr [.ref p] A (hX (hR Q) E) := by
  unfold w_X1_expr at h
  refine MX.of rfl (Nat.le_of_ble_eq_true rfl) ?_
  change X _ _ _ _ _ _ [some (.ref p), none, none, none] _
  refine X.xok (fun w0 => ?_)
  replace h := h w0
  refine x_aload_n dX1_expr_0 rfl ?_
  refine x_iconst_ (v := (0 : Int32)) dX1_expr_1 (by decide) ?_
  obtain ⟨o2, h⟩ := h
  obtain ⟨R1, g1, h⟩ := h
  refine x_callV hG (Ky := kX1_row) (As := [.int (0 : Int32)]) dX1_expr_2 o2 rfl lk_X1_259 me_X1_row is_X1_row se_X1_row rfl rfl (Nat.le_of_ble_eq_true rfl) (MX.post (hK.2.1 g1) ?_)
  rintro _ A1 (⟨v1, rfl, h1⟩ | ⟨x1, rfl, h1⟩)
  rotate_left
  · exact ⟨rfl, Or.inr ⟨_, rfl, h1⟩⟩
  refine X.xok (fun w1 => ?_)
  replace h := h v1 A1 w1 h1
  change X _ _ _ _ A1 _ _ [va_rf v1]
  refine x_astoreq_n dX1_expr_5 (by decide) ?_
  refine x_aload_n dX1_expr_6 rfl ?_
  refine x_bipush_ (v := (70 : Int32)) dX1_expr_7 (by decide) ?_
  obtain ⟨o4, h⟩ := h
  obtain ⟨R3, g3, h⟩ := h
  refine x_callV hG (Ky := kX1_is) (As := [.int (70 : Int32)]) dX1_expr_9 o4 rfl lk_X1_71 me_X1_is is_X1_is se_X1_is rfl rfl (Nat.le_of_ble_eq_true rfl) (MX.post (m_X1_is hG hO g3) ?_)
  rintro _ A3 ⟨v3, rfl, zv3, h1⟩
  refine X.xok (fun w3 => ?_)
  replace h := h v3 A3 w3 zv3 h1
  change X _ _ _ _ A3 _ _ [.int v3]
  refine x_if_ne (tgt := 17) dX1_expr_12 (by decide) (fun c12 => ?_) (fun c12 => ?_)
  · replace h := h.2 c12
    refine x_aload_n dX1_expr_17 rfl ?_
    refine x_bipush_ (v := (70 : Int32)) dX1_expr_18 (by decide) ?_
    obtain ⟨o6, h⟩ := h
    obtain ⟨R5, g5, h⟩ := h
    refine x_callV hG (Ky := kX1_opens) (As := [.int (70 : Int32)]) dX1_expr_20 o6 rfl lk_X1_128 me_X1_opens is_X1_opens se_X1_opens rfl rfl (Nat.le_of_ble_eq_true rfl) (MX.post (m_X1_opens hG hO g5) ?_)
    rintro _ A5 (⟨rfl, h1⟩ | ⟨x5, rfl, h1⟩)
    rotate_left
    · exact ⟨rfl, Or.inr ⟨_, rfl, h1⟩⟩
    refine X.xok (fun w5 => ?_)
    replace h := h A5 w5 h1
    change X _ _ _ _ A5 _ _ []
    refine x_aload_n dX1_expr_23 rfl ?_
    obtain ⟨o8, h⟩ := h
    obtain ⟨R7, g7, h⟩ := h
    refine x_callV hG (Ky := kX1_expr) (As := []) dX1_expr_24 o8 rfl lk_X1_101 me_X1_expr is_X1_expr se_X1_expr rfl rfl (Nat.le_of_ble_eq_true rfl) (MX.post (hK.1 g7) ?_)
    rintro _ A7 (⟨v7, rfl, h1⟩ | ⟨x7, rfl, h1⟩)
    rotate_left
    · exact ⟨rfl, Or.inr ⟨_, rfl, h1⟩⟩
    refine X.xok (fun w7 => ?_)
    replace h := h v7 A7 w7 h1
    change X _ _ _ _ A7 _ _ [va_rf v7]
    refine x_astoreq_n dX1_expr_27 (by decide) ?_
    refine X.lvs (lv' := [some (.ref p), some (va_rf v1), some (va_rf v7), none]) (by generalize v1 = z; cases z <;> rfl) ?_
    refine x_aload_n dX1_expr_28 rfl ?_
    refine x_bipush_ (v := (71 : Int32)) dX1_expr_29 (by decide) ?_
    obtain ⟨o10, h⟩ := h
    obtain ⟨R9, g9, h⟩ := h
    refine x_callV hG (Ky := kX1_need) (As := [.int (71 : Int32)]) dX1_expr_31 o10 rfl lk_X1_89 me_X1_need is_X1_need se_X1_need rfl rfl (Nat.le_of_ble_eq_true rfl) (MX.post (m_X1_need hG hO g9) ?_)
    rintro _ A9 (⟨rfl, h1⟩ | ⟨x9, rfl, h1⟩)
    rotate_left
    · exact ⟨rfl, Or.inr ⟨_, rfl, h1⟩⟩
    refine X.xok (fun w9 => ?_)
    replace h := h A9 w9 h1
    change X _ _ _ _ A9 _ _ []
    refine x_aload_n dX1_expr_34 rfl ?_
    obtain ⟨o12, h⟩ := h
    obtain ⟨R11, g11, h⟩ := h
    refine x_callV hG (Ky := kX1_expr) (As := []) dX1_expr_35 o12 rfl lk_X1_101 me_X1_expr is_X1_expr se_X1_expr rfl rfl (Nat.le_of_ble_eq_true rfl) (MX.post (hK.1 g11) ?_)
    rintro _ A11 (⟨v11, rfl, h1⟩ | ⟨x11, rfl, h1⟩)
    rotate_left
    · exact ⟨rfl, Or.inr ⟨_, rfl, h1⟩⟩
    refine X.xok (fun w11 => ?_)
    replace h := h v11 A11 w11 h1
    change X _ _ _ _ A11 _ _ [va_rf v11]
    refine x_astoreq_n dX1_expr_38 (by decide) ?_
    refine X.lvs (lv' := [some (.ref p), some (va_rf v1), some (va_rf v7), some (va_rf v11)]) (by generalize v7 = z; cases z <;> rfl) ?_
    refine x_aload_n dX1_expr_39 rfl ?_
    refine x_dup dX1_expr_40 rfl ?_
    obtain ⟨o13, h⟩ := h
    refine x_get (v := .int (A11.I p 4)) hG dX1_expr_41 f_X1_40_1 o13 rfl ?_
    refine x_iconst_ (v := (1 : Int32)) dX1_expr_44 (by decide) ?_
    refine x_isub dX1_expr_45 ?_
    refine z_putI hG hO.1 dX1_expr_46 f_X1_40_1 ⟨_, rfl, Or.inl rfl⟩ o13 (by decide) rfl rfl ⟨_, rfl⟩ (fun A14 e14 => ?_)
    replace h := h A14 e14
    obtain ⟨o15, h⟩ := h
    refine z_new hG (c := 21) dX1_expr_49 rfl q1442 (by decide) rfl o15 (fun A16 e16 w16 => ?_)
    replace h := h A16 e16
    refine x_dup dX1_expr_52 rfl ?_
    refine x_aloadq_n dX1_expr_53 rfl ?_
    refine x_aloadq_n dX1_expr_54 rfl ?_
    refine x_aloadq_n dX1_expr_55 rfl ?_
    obtain ⟨R17, g17, h⟩ := h
    refine x_callI hG (Ky := kX23_init) (As := [va_rf v1, va_rf v7, va_rf v11]) dX1_expr_56 lk_X1_264 me_X23_init is_X23_init rfl rfl rfl rfl rfl (Nat.le_of_ble_eq_true rfl) (MX.post (m_X23_init hG hO g17) ?_)
    rintro _ A17 ⟨rfl, h1⟩
    refine X.xok (fun w17 => ?_)
    replace h := h A17 w17 h1
    change X _ _ _ _ A17 _ _ [.ref A14.n]
    exact x_aret (r := (some A14.n)) dX1_expr_59 rfl (Or.inl ⟨_, rfl⟩) (Or.inl ⟨_, rfl, h⟩)
  · replace h := h.1 c12
    refine x_aloadq_n dX1_expr_15 rfl ?_
    exact x_aret (r := v1) dX1_expr_16 rfl (Or.inl ⟨_, rfl⟩) (Or.inl ⟨_, rfl, h⟩)
def w_X1_row (G : xG) (r0 : Nat → (Option Nat → xA → Prop) → (Nat → xA → Prop) → xA → Prop) (r1 : Nat → Int32 → (Option Nat → xA → Prop) → (Nat → xA → Prop) → xA → Prop) (r2 : Nat → (Option Nat → xA → Prop) → (Nat → xA → Prop) → xA → Prop) (r3 : Nat → (Option Nat → xA → Prop) → (Nat → xA → Prop) → xA → Prop) (r4 : Nat → (Option Nat → xA → Prop) → (Nat → xA → Prop) → xA → Prop) (r5 : Nat → Int32 → Int32 → (Option Nat → xA → Prop) → (Nat → xA → Prop) → xA → Prop) (r6 : Nat → Int32 → Int32 → (Option Nat → xA → Prop) → (Nat → xA → Prop) → xA → Prop) (p : Nat) (r : Int32) (Q : Option Nat → xA → Prop) (E : Nat → xA → Prop) (A : xA) : Prop := xok G A → ((r = (10 : Int32) → A.tg p = 2 ∧ (∃ R44 : Option Nat → xA → Prop, r2 p R44 E A ∧ (∀ (v44 : Option Nat) (A44 : xA), xok G A44 → R44 v44 A44 → (Q v44 A44)))) ∧ (¬ r = (10 : Int32) → A.tg p = 2 ∧ (∃ R1 : Option Nat → xA → Prop, r1 p (r + (1 : Int32)) R1 E A ∧ (∀ (v1 : Option Nat) (A1 : xA), xok G A1 → R1 v1 A1 → (A1.tg p = 2 ∧ (∃ R3 : Int32 → xA → Prop, w_X1_kind G p R3 A1 ∧ (∀ (v3 : Int32) (A3 : xA), xok G A3 → R3 v3 A3 → (((0 ≤ (f_X1_actOf v3 r) → rmO G A3 3 ∧ (∀ A6 : xA, A6 = A3.new 37 0 3 0 → (∃ R7 : xA → Prop, w_J5_init_2 G A3.n (2 : Int32) R7 A6 ∧ (∀ A7 : xA, xok G A7 → R7 A7 → (A7.tg A3.n = 37 ∧ (∃ R8 : Int32 → xA → Prop, w_J5_add G A3.n v1 R8 A7 ∧ (∀ (v8 : Int32) (A8 : xA), xok G A8 → (v8 = 0 ∨ v8 = 1) → R8 v8 A8 → (rmA G A8 (2 : Int32) ∧ (∀ A11 : xA, A11 = A8.new 200 (ix (2 : Int32)) (ix (2 : Int32)) 0 → (∃ L12 : Nat → Int32 → Option Nat → Int32 → xA → Prop, (∃ n12 : Nat, L12 n12 (f_X1_actOf v3 r) (some A8.n) (0 : Int32) A11) ∧ (∀ (n12 : Nat) (y12_3 : Int32) (y12_5 : Option Nat) (y12_6 : Int32) (A12 : xA), L12 n12 y12_3 y12_5 y12_6 A12 → ((y12_3 < 0 → (((2 : Int32) ≤ r → rmO G A12 3 ∧ (∀ A14 : xA, A14 = A12.new 21 0 3 0 → (∃ R15 : Option Nat → xA → Prop, w_X1_cut G y12_5 y12_6 R15 A14 ∧ (∀ (v15 : Option Nat) (A15 : xA), xok G A15 → R15 v15 A15 → (∃ R16 : xA → Prop, w_X22_init G A12.n v15 (some A3.n) R16 A15 ∧ (∀ A16 : xA, xok G A16 → R16 A16 → (Q (some A12.n) A16))))))) ∧ (¬ (2 : Int32) ≤ r → rmO G A12 3 ∧ (∀ A18 : xA, A18 = A12.new 20 0 3 0 → (∃ R19 : xA → Prop, w_X21_init G A12.n (if r = (1 : Int32) then (1 : Int32) else (0 : Int32)) (some A3.n) R19 A18 ∧ (∀ A19 : xA, xok G A19 → R19 A19 → (Q (some A12.n) A19))))))) ∧ (¬ y12_3 < 0 → ∃ b20 : Nat, y12_5 = some b20 ∧ (A12.tg b20 = 200 ∧ (∃ J22 : Option Nat → xA → Prop, (∀ (y22_5 : Option Nat) (A22 : xA), J22 y22_5 A22 → ∃ b23 : Nat, y22_5 = some b23 ∧ (A22.tg b23 = 200 ∧ (G.N ≤ b23 ∧ (vp_in y12_6 (A22.ln b23) ∧ (∀ A27 : xA, A27 = A22.setI b23 (ix y12_6) y12_3 → (A27.tg p = 2 ∧ (∀ A29 : xA, A29 = A27.setI p 3 ((A27.I p 3) + (1 : Int32)) → (∃ R30 : Option Nat → xA → Prop, r1 p (r + (1 : Int32)) R30 E A29 ∧ (∀ (v30 : Option Nat) (A30 : xA), xok G A30 → R30 v30 A30 → (A30.tg A3.n = 37 ∧ (∃ R31 : Int32 → xA → Prop, w_J5_add G A3.n v30 R31 A30 ∧ (∀ (v31 : Int32) (A31 : xA), xok G A31 → (v31 = 0 ∨ v31 = 1) → R31 v31 A31 → (A31.tg p = 2 ∧ (∃ R33 : Int32 → xA → Prop, w_X1_kind G p R33 A31 ∧ (∀ (v33 : Int32) (A33 : xA), xok G A33 → R33 v33 A33 → ((∃ q12 : Nat, q12 < n12 ∧ L12 q12 (f_X1_actOf v33 r) (some b23) (y12_6 + (1 : Int32)) A33))))))))))))))))) ∧ ((y12_6 = (nI (A12.ln b20)) → rmA G A12 ((2 : Int32) * y12_6) ∧ (∀ A36 : xA, A36 = A12.new 200 (ix ((2 : Int32) * y12_6)) (ix ((2 : Int32) * y12_6)) 0 → (∃ L37 : Nat → Int32 → xA → Prop, (∃ n37 : Nat, L37 n37 (0 : Int32) A36) ∧ (∀ (n37 : Nat) (y37_8 : Int32) (A37 : xA), L37 n37 y37_8 A37 → ((y12_6 ≤ y37_8 → J22 (some A12.n) A37) ∧ (¬ y12_6 ≤ y37_8 → A37.tg b20 = 200 ∧ (vp_in y37_8 (A37.ln b20) ∧ (A37.tg A12.n = 200 ∧ (G.N ≤ A12.n ∧ (vp_in y37_8 (A37.ln A12.n) ∧ (∀ A43 : xA, A43 = A37.setI A12.n (ix y37_8) (A37.I b20 (ix y37_8)) → ((∃ q37 : Nat, q37 < n37 ∧ L37 q37 (y37_8 + (1 : Int32)) A43))))))))))))) ∧ (¬ y12_6 = (nI (A12.ln b20)) → J22 (some b20) A12))))))))))))))))) ∧ (¬ 0 ≤ (f_X1_actOf v3 r) → Q v1 A3))))))))))
theorem m_X1_row (hG : xOK G) (hO : xHO G) {dp : Nat} {r0 : Nat → (Option Nat → xA → Prop) → (Nat → xA → Prop) → xA → Prop} {r1 : Nat → Int32 → (Option Nat → xA → Prop) → (Nat → xA → Prop) → xA → Prop} {r2 : Nat → (Option Nat → xA → Prop) → (Nat → xA → Prop) → xA → Prop} {r3 : Nat → (Option Nat → xA → Prop) → (Nat → xA → Prop) → xA → Prop} {r4 : Nat → (Option Nat → xA → Prop) → (Nat → xA → Prop) → xA → Prop} {r5 : Nat → Int32 → Int32 → (Option Nat → xA → Prop) → (Nat → xA → Prop) → xA → Prop} {r6 : Nat → Int32 → Int32 → (Option Nat → xA → Prop) → (Nat → xA → Prop) → xA → Prop} (hK : xRC_P G (dp + 14) r0 r1 r2 r3 r4 r5 r6) {p : Nat} {r : Int32} {Q : Option Nat → xA → Prop} {E : Nat → xA → Prop} {A : xA} (h : w_X1_row G r0 r1 r2 r3 r4 r5 r6 p r Q E A) : MX G (dp + 15) kX1_row [.ref p, .int r] A (hX (hR Q) E) := by
  unfold w_X1_row at h
  refine MX.of rfl (Nat.le_of_ble_eq_true rfl) ?_
  change X _ _ _ _ _ _ [some (.ref p), some (.int r), none, none, none, none, none, none, none] _
  refine X.xok (fun w0 => ?_)
  replace h := h w0
  refine x_iload_n dX1_row_0 rfl ?_
  refine x_bipush_ (v := (10 : Int32)) dX1_row_1 (by decide) ?_
  refine x_icmp_ne (tgt := 11) dX1_row_3 (by decide) (fun c3 => ?_) (fun c3 => ?_)
  · replace h := h.2 c3
    refine x_aload_n dX1_row_11 rfl ?_
    refine x_iload_n dX1_row_12 rfl ?_
    refine x_iconst_ (v := (1 : Int32)) dX1_row_13 (by decide) ?_
    refine x_iadd dX1_row_14 ?_
    obtain ⟨o2, h⟩ := h
    obtain ⟨R1, g1, h⟩ := h
    refine x_callV hG (Ky := kX1_row) (As := [.int (r + (1 : Int32))]) dX1_row_15 o2 rfl lk_X1_259 me_X1_row is_X1_row se_X1_row rfl rfl (Nat.le_of_ble_eq_true rfl) (MX.post (hK.2.1 g1) ?_)
    rintro _ A1 (⟨v1, rfl, h1⟩ | ⟨x1, rfl, h1⟩)
    rotate_left
    · exact ⟨rfl, Or.inr ⟨_, rfl, h1⟩⟩
    refine X.xok (fun w1 => ?_)
    replace h := h v1 A1 w1 h1
    change X _ _ _ _ A1 _ _ [va_rf v1]
    refine x_astoreq_n dX1_row_18 (by decide) ?_
    refine x_aload_n dX1_row_19 rfl ?_
    obtain ⟨o4, h⟩ := h
    obtain ⟨R3, g3, h⟩ := h
    refine x_callV hG (Ky := kX1_kind) (As := []) dX1_row_20 o4 rfl lk_X1_53 me_X1_kind is_X1_kind se_X1_kind rfl rfl (Nat.le_of_ble_eq_true rfl) (MX.post (m_X1_kind hG hO g3) ?_)
    rintro _ A3 ⟨v3, rfl, h1⟩
    refine X.xok (fun w3 => ?_)
    replace h := h v3 A3 w3 h1
    change X _ _ _ _ A3 _ _ [.int v3]
    refine x_iload_n dX1_row_23 rfl ?_
    refine x_callS hG (Ky := kX1_actOf) (As := [.int v3, .int r]) dX1_row_24 lk_X1_270 me_X1_actOf st_X1_actOf rfl rfl (Nat.le_of_ble_eq_true rfl) (MX.post (m_X1_actOf hG) ?_)
    rintro _ _ ⟨rfl, rfl⟩
    change X _ _ _ _ _ _ _ (.int (f_X1_actOf v3 r) :: _)
    refine x_istore_n dX1_row_27 (by decide) ?_
    refine X.lvs (lv' := [some (.ref p), some (.int r), some (va_rf v1), some (.int (f_X1_actOf v3 r)), none, none, none, none, none]) (by generalize v1 = z; cases z <;> rfl) ?_
    refine x_iload_n dX1_row_28 rfl ?_
    refine x_if_ge (tgt := 34) dX1_row_29 (by decide) (fun c29 => ?_) (fun c29 => ?_)
    · replace h := h.1 c29
      obtain ⟨o5, h⟩ := h
      refine z_new hG (c := 36) dX1_row_34 rfl q1062 (by decide) rfl o5 (fun A6 e6 w6 => ?_)
      replace h := h A6 e6
      refine x_dup dX1_row_37 rfl ?_
      refine x_iconst_ (v := (2 : Int32)) dX1_row_38 (by decide) ?_
      obtain ⟨R7, g7, h⟩ := h
      refine x_callI hG (Ky := kJ5_init_2) (As := [.int (2 : Int32)]) dX1_row_39 lk_X1_134 me_J5_init_2 is_J5_init_2 rfl rfl rfl rfl rfl (Nat.le_of_ble_eq_true rfl) (MX.post (m_w_J5_init_2 hG hO g7) ?_)
      rintro _ A7 ⟨rfl, h1⟩
      refine X.xok (fun w7 => ?_)
      replace h := h A7 w7 h1
      change X _ _ _ _ A7 _ _ [.ref A3.n]
      refine x_astore dX1_row_42 (by decide) ?_
      refine x_aload dX1_row_44 rfl ?_
      refine x_aloadq_n dX1_row_46 rfl ?_
      obtain ⟨o9, h⟩ := h
      obtain ⟨R8, g8, h⟩ := h
      refine x_callV hG (Ky := kJ5_add) (As := [va_rf v1]) dX1_row_47 o9 rfl lk_X1_120 me_J5_add is_J5_add se_J5_add rfl rfl (Nat.le_of_ble_eq_true rfl) (MX.post (m_w_J5_add hG hO g8) ?_)
      rintro _ A8 ⟨v8, rfl, zv8, h1⟩
      refine X.xok (fun w8 => ?_)
      replace h := h v8 A8 w8 zv8 h1
      change X _ _ _ _ A8 _ _ [.int v8]
      refine x_pop dX1_row_50 rfl ?_
      refine x_iconst_ (v := (2 : Int32)) dX1_row_51 (by decide) ?_
      obtain ⟨o10, h⟩ := h
      refine z_newa hG (j := 0) dX1_row_52 (by decide) rfl o10 q378 (fun A11 e11 w11 => ?_)
      replace h := h A11 e11
      refine x_astore dX1_row_54 (by decide) ?_
      refine x_iconst_ (v := (0 : Int32)) dX1_row_56 (by decide) ?_
      refine x_istore dX1_row_57 (by decide) ?_
      obtain ⟨L12, ⟨n12, i12⟩, g12⟩ := h
      have kl12 : ∀ n12 : Nat, ∀ (y12_3 : Int32) (y12_5 : Option Nat) (y12_6 : Int32) (A12 : xA), L12 n12 y12_3 y12_5 y12_6 A12 → X G (dp + 15) kX1_row (hX (hR Q) E) A12 59 [some (.ref p), some (.int r), none, some (.int y12_3), some (.ref A3.n), some (va_rf y12_5), some (.int y12_6), none, none] [] := by
        intro n12
        induction n12 using Nat.strongRecOn with
        | ind n12 ih12 =>
          intro y12_3 y12_5 y12_6 A12 h
          replace h := g12 n12 y12_3 y12_5 y12_6 A12 h
          refine x_iload_n dX1_row_59 rfl ?_
          refine x_if_lt (tgt := 153) dX1_row_60 (by decide) (fun c60 => ?_) (fun c60 => ?_)
          · replace h := h.1 c60
            refine x_iload_n dX1_row_153 rfl ?_
            refine x_iconst_ (v := (2 : Int32)) dX1_row_154 (by decide) ?_
            refine x_icmp_ge (tgt := 178) dX1_row_155 (by decide) (fun c155 => ?_) (fun c155 => ?_)
            · replace h := h.1 c155
              obtain ⟨o13, h⟩ := h
              refine z_new hG (c := 20) dX1_row_178 rfl q1423 (by decide) rfl o13 (fun A14 e14 w14 => ?_)
              replace h := h A14 e14
              refine x_dup dX1_row_181 rfl ?_
              refine x_aloadq dX1_row_182 rfl ?_
              refine x_iload dX1_row_184 rfl ?_
              obtain ⟨R15, g15, h⟩ := h
              refine x_callS hG (Ky := kX1_cut) (As := [va_rf y12_5, .int y12_6]) dX1_row_186 lk_X1_281 me_X1_cut st_X1_cut rfl rfl (Nat.le_of_ble_eq_true rfl) (MX.post (m_X1_cut hG hO g15) ?_)
              rintro _ A15 ⟨v15, rfl, h1⟩
              refine X.xok (fun w15 => ?_)
              replace h := h v15 A15 w15 h1
              change X _ _ _ _ A15 _ _ [va_rf v15, .ref A12.n, .ref A12.n]
              refine x_aload dX1_row_189 rfl ?_
              obtain ⟨R16, g16, h⟩ := h
              refine x_callI hG (Ky := kX22_init) (As := [va_rf v15, .ref A3.n]) dX1_row_191 lk_X1_285 me_X22_init is_X22_init rfl rfl rfl rfl rfl (Nat.le_of_ble_eq_true rfl) (MX.post (m_X22_init hG hO g16) ?_)
              rintro _ A16 ⟨rfl, h1⟩
              refine X.xok (fun w16 => ?_)
              replace h := h A16 w16 h1
              change X _ _ _ _ A16 _ _ [.ref A12.n]
              exact x_aret (r := (some A12.n)) dX1_row_194 rfl (Or.inl ⟨_, rfl⟩) (Or.inl ⟨_, rfl, h⟩)
            · replace h := h.2 c155
              obtain ⟨o17, h⟩ := h
              refine z_new hG (c := 19) dX1_row_158 rfl q1396 (by decide) rfl o17 (fun A18 e18 w18 => ?_)
              replace h := h A18 e18
              refine x_dup dX1_row_161 rfl ?_
              refine x_iload_n dX1_row_162 rfl ?_
              refine x_iconst_ (v := (1 : Int32)) dX1_row_163 (by decide) ?_
              refine x_via 172 (A' := A18) (lv' := [none, none, none, none, some (.ref A3.n), none, none, none, none]) (st' := [.int (if r = (1 : Int32) then (1 : Int32) else (0 : Int32)), .ref A12.n, .ref A12.n]) ?_ (fun k172 => ?_)
              rotate_left
              · refine x_icmp_ne (tgt := 171) dX1_row_164 (by decide) (fun c164 => ?_) (fun c164 => ?_)
                · refine x_iconst_ (v := (0 : Int32)) dX1_row_171 (by decide) ?_
                  change X _ _ _ _ _ _ [some (.ref p), some (.int r), none, some (.int y12_3), some (.ref A3.n), some (va_rf y12_5), some (.int y12_6), none, none] [.int (0 : Int32), .ref A12.n, .ref A12.n]
                  simp only [if_neg c164] at k172 ⊢
                  exact X.weak (xle_n (xle_n (xle_n (xle_n (xle_c rfl (xle_n (xle_n (xle_n (xle_n xle_nil))))))))) k172
                · refine x_iconst_ (v := (1 : Int32)) dX1_row_167 (by decide) ?_
                  refine x_goto (tgt := 172) dX1_row_168 (by decide) ?_
                  change X _ _ _ _ _ _ [some (.ref p), some (.int r), none, some (.int y12_3), some (.ref A3.n), some (va_rf y12_5), some (.int y12_6), none, none] [.int (1 : Int32), .ref A12.n, .ref A12.n]
                  simp only [if_pos c164] at k172 ⊢
                  exact X.weak (xle_n (xle_n (xle_n (xle_n (xle_c rfl (xle_n (xle_n (xle_n (xle_n xle_nil))))))))) k172
              refine x_aload dX1_row_172 rfl ?_
              obtain ⟨R19, g19, h⟩ := h
              refine x_callI hG (Ky := kX21_init) (As := [.int (if r = (1 : Int32) then (1 : Int32) else (0 : Int32)), .ref A3.n]) dX1_row_174 lk_X1_276 me_X21_init is_X21_init rfl rfl rfl rfl rfl (Nat.le_of_ble_eq_true rfl) (MX.post (m_X21_init hG hO g19) ?_)
              rintro _ A19 ⟨rfl, h1⟩
              refine X.xok (fun w19 => ?_)
              replace h := h A19 w19 h1
              change X _ _ _ _ A19 _ _ [.ref A12.n]
              exact x_aret (r := (some A12.n)) dX1_row_177 rfl (Or.inl ⟨_, rfl⟩) (Or.inl ⟨_, rfl, h⟩)
          · replace h := h.2 c60
            refine x_iload dX1_row_63 rfl ?_
            refine x_aloadq dX1_row_65 rfl ?_
            obtain ⟨b20, e20, h⟩ := h
            rw [e20]
            obtain ⟨o21, h⟩ := h
            refine x_alen hG (j := 0) dX1_row_67 o21 ?_
            obtain ⟨J22, g22, h⟩ := h
            have kj22 : ∀ (y22_5 : Option Nat) (A22 : xA), J22 y22_5 A22 → X G (dp + 15) kX1_row (hX (hR Q) E) A22 109 [some (.ref p), some (.int r), none, some (.int y12_3), some (.ref A3.n), some (va_rf y22_5), some (.int y12_6), none, none] [] := by
              intro y22_5 A22 h
              replace h := g22 y22_5 A22 h
              refine x_aloadq dX1_row_109 rfl ?_
              refine x_iload dX1_row_111 rfl ?_
              refine x_iload_n dX1_row_113 rfl ?_
              obtain ⟨b23, e23, h⟩ := h
              rw [e23]
              obtain ⟨o24, h⟩ := h
              obtain ⟨o25, h⟩ := h
              obtain ⟨o26, h⟩ := h
              refine z_iast hG dX1_row_114 o24 o25 o26 (fun A27 e27 => ?_)
              replace h := h A27 e27
              refine x_iinc (v := (y12_6 + (1 : Int32))) dX1_row_115 rfl rfl (by decide) ?_
              refine x_aload_n dX1_row_118 rfl ?_
              refine x_dup dX1_row_119 rfl ?_
              obtain ⟨o28, h⟩ := h
              refine x_get (v := .int (A27.I p 3)) hG dX1_row_120 f_X1_36_1 o28 rfl ?_
              refine x_iconst_ (v := (1 : Int32)) dX1_row_123 (by decide) ?_
              refine x_iadd dX1_row_124 ?_
              refine z_putI hG hO.1 dX1_row_125 f_X1_36_1 ⟨_, rfl, Or.inl rfl⟩ o28 (by decide) rfl rfl ⟨_, rfl⟩ (fun A29 e29 => ?_)
              replace h := h A29 e29
              refine x_aload dX1_row_128 rfl ?_
              refine x_aload_n dX1_row_130 rfl ?_
              refine x_iload_n dX1_row_131 rfl ?_
              refine x_iconst_ (v := (1 : Int32)) dX1_row_132 (by decide) ?_
              refine x_iadd dX1_row_133 ?_
              obtain ⟨R30, g30, h⟩ := h
              refine x_callV hG (Ky := kX1_row) (As := [.int (r + (1 : Int32))]) dX1_row_134 (kI e29 o28) rfl lk_X1_259 me_X1_row is_X1_row se_X1_row rfl rfl (Nat.le_of_ble_eq_true rfl) (MX.post (hK.2.1 g30) ?_)
              rintro _ A30 (⟨v30, rfl, h1⟩ | ⟨x30, rfl, h1⟩)
              rotate_left
              · exact ⟨rfl, Or.inr ⟨_, rfl, h1⟩⟩
              refine X.xok (fun w30 => ?_)
              replace h := h v30 A30 w30 h1
              change X _ _ _ _ A30 _ _ [va_rf v30, .ref A3.n]
              obtain ⟨o32, h⟩ := h
              obtain ⟨R31, g31, h⟩ := h
              refine x_callV hG (Ky := kJ5_add) (As := [va_rf v30]) dX1_row_137 o32 rfl lk_X1_120 me_J5_add is_J5_add se_J5_add rfl rfl (Nat.le_of_ble_eq_true rfl) (MX.post (m_w_J5_add hG hO g31) ?_)
              rintro _ A31 ⟨v31, rfl, zv31, h1⟩
              refine X.xok (fun w31 => ?_)
              replace h := h v31 A31 w31 zv31 h1
              change X _ _ _ _ A31 _ _ [.int v31]
              refine x_pop dX1_row_140 rfl ?_
              refine x_aload_n dX1_row_141 rfl ?_
              obtain ⟨o34, h⟩ := h
              obtain ⟨R33, g33, h⟩ := h
              refine x_callV hG (Ky := kX1_kind) (As := []) dX1_row_142 o34 rfl lk_X1_53 me_X1_kind is_X1_kind se_X1_kind rfl rfl (Nat.le_of_ble_eq_true rfl) (MX.post (m_X1_kind hG hO g33) ?_)
              rintro _ A33 ⟨v33, rfl, h1⟩
              refine X.xok (fun w33 => ?_)
              replace h := h v33 A33 w33 h1
              change X _ _ _ _ A33 _ _ [.int v33]
              refine x_iload_n dX1_row_145 rfl ?_
              refine x_callS hG (Ky := kX1_actOf) (As := [.int v33, .int r]) dX1_row_146 lk_X1_270 me_X1_actOf st_X1_actOf rfl rfl (Nat.le_of_ble_eq_true rfl) (MX.post (m_X1_actOf hG) ?_)
              rintro _ _ ⟨rfl, rfl⟩
              change X _ _ _ _ _ _ _ (.int (f_X1_actOf v33 r) :: _)
              refine x_istore_n dX1_row_149 (by decide) ?_
              refine x_goto (tgt := 59) dX1_row_150 (by decide) ?_
              obtain ⟨q12, l12, h⟩ := h
              change X _ _ _ _ _ _ [some (.ref p), some (.int r), none, some (.int (f_X1_actOf v33 r)), some (.ref A3.n), some (.ref b23), some (.int (y12_6 + (1 : Int32))), none, none] []
              exact X.weak (xle_c rfl (xle_c rfl (xle_n (xle_c rfl (xle_c rfl (xle_c rfl (xle_c rfl (xle_n (xle_n xle_nil))))))))) (ih12 q12 l12 (f_X1_actOf v33 r) (some b23) (y12_6 + (1 : Int32)) A33 h)
            refine x_icmp_ne (tgt := 109) dX1_row_68 (by decide) (fun c68 => ?_) (fun c68 => ?_)
            · replace h := h.2 c68
              change X _ _ _ _ _ _ [some (.ref p), some (.int r), none, some (.int y12_3), some (.ref A3.n), some (.ref b20), some (.int y12_6), none, none] []
              exact X.weak (xle_c rfl (xle_c rfl (xle_n (xle_c rfl (xle_c rfl (xle_c rfl (xle_c rfl (xle_n (xle_n xle_nil))))))))) (kj22 (some b20) A12 h)
            · replace h := h.1 c68
              refine x_iconst_ (v := (2 : Int32)) dX1_row_71 (by decide) ?_
              refine x_iload dX1_row_72 rfl ?_
              refine x_imul dX1_row_74 ?_
              obtain ⟨o35, h⟩ := h
              refine z_newa hG (j := 0) dX1_row_75 (by decide) rfl o35 q378 (fun A36 e36 w36 => ?_)
              replace h := h A36 e36
              refine x_astore dX1_row_77 (by decide) ?_
              refine x_iconst_ (v := (0 : Int32)) dX1_row_79 (by decide) ?_
              refine x_istore dX1_row_80 (by decide) ?_
              obtain ⟨L37, ⟨n37, i37⟩, g37⟩ := h
              have kl37 : ∀ n37 : Nat, ∀ (y37_8 : Int32) (A37 : xA), L37 n37 y37_8 A37 → X G (dp + 15) kX1_row (hX (hR Q) E) A37 82 [some (.ref p), some (.int r), none, some (.int y12_3), some (.ref A3.n), some (.ref b20), some (.int y12_6), some (.ref A12.n), some (.int y37_8)] [] := by
                intro n37
                induction n37 using Nat.strongRecOn with
                | ind n37 ih37 =>
                  intro y37_8 A37 h
                  replace h := g37 n37 y37_8 A37 h
                  refine x_iload dX1_row_82 rfl ?_
                  refine x_iload dX1_row_84 rfl ?_
                  refine x_icmp_ge (tgt := 105) dX1_row_86 (by decide) (fun c86 => ?_) (fun c86 => ?_)
                  · replace h := h.1 c86
                    refine x_aload dX1_row_105 rfl ?_
                    refine x_astore dX1_row_107 (by decide) ?_
                    change X _ _ _ _ _ _ [some (.ref p), some (.int r), none, some (.int y12_3), some (.ref A3.n), some (.ref A12.n), some (.int y12_6), some (.ref A12.n), some (.int y37_8)] []
                    exact X.weak (xle_c rfl (xle_c rfl (xle_n (xle_c rfl (xle_c rfl (xle_c rfl (xle_c rfl (xle_n (xle_n xle_nil))))))))) (kj22 (some A12.n) A37 h)
                  · replace h := h.2 c86
                    refine x_aload dX1_row_89 rfl ?_
                    refine x_iload dX1_row_91 rfl ?_
                    refine x_aload dX1_row_93 rfl ?_
                    refine x_iload dX1_row_95 rfl ?_
                    obtain ⟨o38, h⟩ := h
                    obtain ⟨o39, h⟩ := h
                    refine x_iald hG dX1_row_97 o38 o39 ?_
                    obtain ⟨o40, h⟩ := h
                    obtain ⟨o41, h⟩ := h
                    obtain ⟨o42, h⟩ := h
                    refine z_iast hG dX1_row_98 o40 o41 o42 (fun A43 e43 => ?_)
                    replace h := h A43 e43
                    refine x_iinc (v := (y37_8 + (1 : Int32))) dX1_row_99 rfl rfl (by decide) ?_
                    refine x_goto (tgt := 82) dX1_row_102 (by decide) ?_
                    obtain ⟨q37, l37, h⟩ := h
                    change X _ _ _ _ _ _ [some (.ref p), some (.int r), none, some (.int y12_3), some (.ref A3.n), some (.ref b20), some (.int y12_6), some (.ref A12.n), some (.int (y37_8 + (1 : Int32)))] []
                    exact X.weak (xle_c rfl (xle_c rfl (xle_n (xle_c rfl (xle_c rfl (xle_c rfl (xle_c rfl (xle_c rfl (xle_c rfl xle_nil))))))))) (ih37 q37 l37 (y37_8 + (1 : Int32)) A43 h)
              change X _ _ _ _ _ _ [some (.ref p), some (.int r), none, some (.int y12_3), some (.ref A3.n), some (.ref b20), some (.int y12_6), some (.ref A12.n), some (.int (0 : Int32))] []
              exact X.weak (xle_c rfl (xle_c rfl (xle_n (xle_c rfl (xle_c rfl (xle_c rfl (xle_c rfl (xle_c rfl (xle_c rfl xle_nil))))))))) (kl37 n37 (0 : Int32) A36 i37)
      change X _ _ _ _ _ _ [some (.ref p), some (.int r), some (va_rf v1), some (.int (f_X1_actOf v3 r)), some (.ref A3.n), some (.ref A8.n), some (.int (0 : Int32)), none, none] []
      exact X.weak (xle_c rfl (xle_c rfl (xle_n (xle_c rfl (xle_c rfl (xle_c rfl (xle_c rfl (xle_n (xle_n xle_nil))))))))) (kl12 n12 (f_X1_actOf v3 r) (some A8.n) (0 : Int32) A11 i12)
    · replace h := h.2 c29
      refine x_aloadq_n dX1_row_32 rfl ?_
      exact x_aret (r := v1) dX1_row_33 rfl (Or.inl ⟨_, rfl⟩) (Or.inl ⟨_, rfl, h⟩)
  · replace h := h.1 c3
    refine x_aload_n dX1_row_6 rfl ?_
    obtain ⟨o45, h⟩ := h
    obtain ⟨R44, g44, h⟩ := h
    refine x_callV hG (Ky := kX1_ahead) (As := []) dX1_row_7 o45 rfl lk_X1_267 me_X1_ahead is_X1_ahead se_X1_ahead rfl rfl (Nat.le_of_ble_eq_true rfl) (MX.post (hK.2.2.1 g44) ?_)
    rintro _ A44 (⟨v44, rfl, h1⟩ | ⟨x44, rfl, h1⟩)
    rotate_left
    · exact ⟨rfl, Or.inr ⟨_, rfl, h1⟩⟩
    refine X.xok (fun w44 => ?_)
    replace h := h v44 A44 w44 h1
    change X _ _ _ _ A44 _ _ [va_rf v44]
    exact x_aret (r := v44) dX1_row_10 rfl (Or.inl ⟨_, rfl⟩) (Or.inl ⟨_, rfl, h⟩)
def w_X1_ahead (G : xG) (r0 : Nat → (Option Nat → xA → Prop) → (Nat → xA → Prop) → xA → Prop) (r1 : Nat → Int32 → (Option Nat → xA → Prop) → (Nat → xA → Prop) → xA → Prop) (r2 : Nat → (Option Nat → xA → Prop) → (Nat → xA → Prop) → xA → Prop) (r3 : Nat → (Option Nat → xA → Prop) → (Nat → xA → Prop) → xA → Prop) (r4 : Nat → (Option Nat → xA → Prop) → (Nat → xA → Prop) → xA → Prop) (r5 : Nat → Int32 → Int32 → (Option Nat → xA → Prop) → (Nat → xA → Prop) → xA → Prop) (r6 : Nat → Int32 → Int32 → (Option Nat → xA → Prop) → (Nat → xA → Prop) → xA → Prop) (p : Nat) (Q : Option Nat → xA → Prop) (E : Nat → xA → Prop) (A : xA) : Prop := xok G A → A.tg p = 2 ∧ (∃ R1 : Int32 → xA → Prop, w_X1_here G p R1 A ∧ (∀ (v1 : Int32) (A1 : xA), xok G A1 → R1 v1 A1 → (A1.tg p = 2 ∧ (∃ L4 : Nat → xA → Prop, (∃ n4 : Nat, L4 n4 A1) ∧ (∀ (n4 : Nat) (A4 : xA), L4 n4 A4 → A4.tg p = 2 ∧ (∃ R5 : Int32 → xA → Prop, w_X1_is G p (79 : Int32) R5 A4 ∧ (∀ (v5 : Int32) (A5 : xA), xok G A5 → (v5 = 0 ∨ v5 = 1) → R5 v5 A5 → (((v5 = 0 → A5.tg p = 2 ∧ (∃ R9 : Int32 → xA → Prop, w_X1_is G p (83 : Int32) R9 A5 ∧ (∀ (v9 : Int32) (A9 : xA), xok G A9 → (v9 = 0 ∨ v9 = 1) → R9 v9 A9 → (((v9 = 0 → A9.tg p = 2 ∧ (∃ R13 : Int32 → xA → Prop, w_X1_is G p (84 : Int32) R13 A9 ∧ (∀ (v13 : Int32) (A13 : xA), xok G A13 → (v13 = 0 ∨ v13 = 1) → R13 v13 A13 → (((v13 = 0 → A13.tg p = 2 ∧ (((((A13.I p 3) - (A1.I p 3)) = 0 → ∃ R34 : Option Nat → xA → Prop, r3 p R34 E A13 ∧ (∀ (v34 : Option Nat) (A34 : xA), xok G A34 → R34 v34 A34 → (Q v34 A34))) ∧ (¬ ((A13.I p 3) - (A1.I p 3)) = 0 → rmA G A13 ((A13.I p 3) - (A1.I p 3)) ∧ (∀ A17 : xA, A17 = A13.new 200 (ix ((A13.I p 3) - (A1.I p 3))) (ix ((A13.I p 3) - (A1.I p 3))) 0 → (∃ L18 : Nat → Int32 → xA → Prop, (∃ n18 : Nat, L18 n18 (0 : Int32) A17) ∧ (∀ (n18 : Nat) (y18_5 : Int32) (A18 : xA), L18 n18 y18_5 A18 → ((((A13.I p 3) - (A1.I p 3)) ≤ y18_5 → rmO G A18 3 ∧ (∀ A20 : xA, A20 = A18.new 19 0 3 0 → (A20.tg p = 2 ∧ (∃ R21 : Option Nat → xA → Prop, r3 p R21 E A20 ∧ (∀ (v21 : Option Nat) (A21 : xA), xok G A21 → R21 v21 A21 → (∃ R23 : xA → Prop, w_X20_init G A18.n v1 (some A13.n) v21 R23 A21 ∧ (∀ A23 : xA, xok G A23 → R23 A23 → (Q (some A18.n) A23)))))))) ∧ (¬ ((A13.I p 3) - (A1.I p 3)) ≤ y18_5 → A18.tg p = 2 ∧ (∃ b25 : Nat, (A18.P p 0) = some b25 ∧ (A18.tg b25 = 3 ∧ (∃ b27 : Nat, (A18.P b25 2) = some b27 ∧ (A18.tg b27 = 200 ∧ (vp_in ((A1.I p 3) + y18_5) (A18.ln b27) ∧ (A18.tg A13.n = 200 ∧ (G.N ≤ A13.n ∧ (vp_in y18_5 (A18.ln A13.n) ∧ (∀ A33 : xA, A33 = A18.setI A13.n (ix y18_5) (A18.I b27 (ix ((A1.I p 3) + y18_5))) → ((∃ q18 : Nat, q18 < n18 ∧ L18 q18 (y18_5 + (1 : Int32)) A33)))))))))))))))))))) ∧ (¬ v13 = 0 → A13.tg p = 2 ∧ (∀ A36 : xA, A36 = A13.setI p 3 ((A13.I p 3) + (1 : Int32)) → ((∃ q4 : Nat, q4 < n4 ∧ L4 q4 A36))))))))) ∧ (¬ v9 = 0 → A9.tg p = 2 ∧ (∀ A12 : xA, A12 = A9.setI p 3 ((A9.I p 3) + (1 : Int32)) → ((∃ q4 : Nat, q4 < n4 ∧ L4 q4 A12))))))))) ∧ (¬ v5 = 0 → A5.tg p = 2 ∧ (∀ A8 : xA, A8 = A5.setI p 3 ((A5.I p 3) + (1 : Int32)) → ((∃ q4 : Nat, q4 < n4 ∧ L4 q4 A8)))))))))))))
theorem m_X1_ahead (hG : xOK G) (hO : xHO G) {dp : Nat} {r0 : Nat → (Option Nat → xA → Prop) → (Nat → xA → Prop) → xA → Prop} {r1 : Nat → Int32 → (Option Nat → xA → Prop) → (Nat → xA → Prop) → xA → Prop} {r2 : Nat → (Option Nat → xA → Prop) → (Nat → xA → Prop) → xA → Prop} {r3 : Nat → (Option Nat → xA → Prop) → (Nat → xA → Prop) → xA → Prop} {r4 : Nat → (Option Nat → xA → Prop) → (Nat → xA → Prop) → xA → Prop} {r5 : Nat → Int32 → Int32 → (Option Nat → xA → Prop) → (Nat → xA → Prop) → xA → Prop} {r6 : Nat → Int32 → Int32 → (Option Nat → xA → Prop) → (Nat → xA → Prop) → xA → Prop} (hK : xRC_P G (dp + 14) r0 r1 r2 r3 r4 r5 r6) {p : Nat} {Q : Option Nat → xA → Prop} {E : Nat → xA → Prop} {A : xA} (h : w_X1_ahead G r0 r1 r2 r3 r4 r5 r6 p Q E A) : MX G (dp + 15) kX1_ahead [.ref p] A (hX (hR Q) E) := by
  unfold w_X1_ahead at h
  refine MX.of rfl (Nat.le_of_ble_eq_true rfl) ?_
  change X _ _ _ _ _ _ [some (.ref p), none, none, none, none, none] _
  refine X.xok (fun w0 => ?_)
  replace h := h w0
  refine x_aload_n dX1_ahead_0 rfl ?_
  obtain ⟨o2, h⟩ := h
  obtain ⟨R1, g1, h⟩ := h
  refine x_callV hG (Ky := kX1_here) (As := []) dX1_ahead_1 o2 rfl lk_X1_66 me_X1_here is_X1_here se_X1_here rfl rfl (Nat.le_of_ble_eq_true rfl) (MX.post (m_X1_here hG hO g1) ?_)
  rintro _ A1 ⟨v1, rfl, h1⟩
  refine X.xok (fun w1 => ?_)
  replace h := h v1 A1 w1 h1
  change X _ _ _ _ A1 _ _ [.int v1]
  refine x_istore_n dX1_ahead_4 (by decide) ?_
  refine x_aload_n dX1_ahead_5 rfl ?_
  obtain ⟨o3, h⟩ := h
  refine x_get (v := .int (A1.I p 3)) hG dX1_ahead_6 f_X1_36_1 o3 rfl ?_
  refine x_istore_n dX1_ahead_9 (by decide) ?_
  obtain ⟨L4, ⟨n4, i4⟩, g4⟩ := h
  have kl4 : ∀ n4 : Nat, ∀ (A4 : xA), L4 n4 A4 → X G (dp + 15) kX1_ahead (hX (hR Q) E) A4 10 [some (.ref p), some (.int v1), some (.int (A1.I p 3)), none, none, none] [] := by
    intro n4
    induction n4 using Nat.strongRecOn with
    | ind n4 ih4 =>
      intro A4 h
      replace h := g4 n4 A4 h
      refine x_aload_n dX1_ahead_10 rfl ?_
      refine x_bipush_ (v := (79 : Int32)) dX1_ahead_11 (by decide) ?_
      obtain ⟨o6, h⟩ := h
      obtain ⟨R5, g5, h⟩ := h
      refine x_callV hG (Ky := kX1_is) (As := [.int (79 : Int32)]) dX1_ahead_13 o6 rfl lk_X1_71 me_X1_is is_X1_is se_X1_is rfl rfl (Nat.le_of_ble_eq_true rfl) (MX.post (m_X1_is hG hO g5) ?_)
      rintro _ A5 ⟨v5, rfl, zv5, h1⟩
      refine X.xok (fun w5 => ?_)
      replace h := h v5 A5 w5 zv5 h1
      change X _ _ _ _ A5 _ _ [.int v5]
      refine x_if_ne (tgt := 37) dX1_ahead_16 (by decide) (fun c16 => ?_) (fun c16 => ?_)
      · replace h := h.2 c16
        refine x_aload_n dX1_ahead_37 rfl ?_
        refine x_dup dX1_ahead_38 rfl ?_
        obtain ⟨o7, h⟩ := h
        refine x_get (v := .int (A5.I p 3)) hG dX1_ahead_39 f_X1_36_1 o7 rfl ?_
        refine x_iconst_ (v := (1 : Int32)) dX1_ahead_42 (by decide) ?_
        refine x_iadd dX1_ahead_43 ?_
        refine z_putI hG hO.1 dX1_ahead_44 f_X1_36_1 ⟨_, rfl, Or.inl rfl⟩ o7 (by decide) rfl rfl ⟨_, rfl⟩ (fun A8 e8 => ?_)
        replace h := h A8 e8
        refine x_goto (tgt := 10) dX1_ahead_47 (by decide) ?_
        obtain ⟨q4, l4, h⟩ := h
        change X _ _ _ _ _ _ [some (.ref p), some (.int v1), some (.int (A1.I p 3)), none, none, none] []
        exact X.weak (xle_c rfl (xle_c rfl (xle_c rfl (xle_n (xle_n (xle_n xle_nil)))))) (ih4 q4 l4 A8 h)
      · replace h := h.1 c16
        refine x_aload_n dX1_ahead_19 rfl ?_
        refine x_bipush_ (v := (83 : Int32)) dX1_ahead_20 (by decide) ?_
        obtain ⟨o10, h⟩ := h
        obtain ⟨R9, g9, h⟩ := h
        refine x_callV hG (Ky := kX1_is) (As := [.int (83 : Int32)]) dX1_ahead_22 o10 rfl lk_X1_71 me_X1_is is_X1_is se_X1_is rfl rfl (Nat.le_of_ble_eq_true rfl) (MX.post (m_X1_is hG hO g9) ?_)
        rintro _ A9 ⟨v9, rfl, zv9, h1⟩
        refine X.xok (fun w9 => ?_)
        replace h := h v9 A9 w9 zv9 h1
        change X _ _ _ _ A9 _ _ [.int v9]
        refine x_if_ne (tgt := 37) dX1_ahead_25 (by decide) (fun c25 => ?_) (fun c25 => ?_)
        · replace h := h.2 c25
          refine x_aload_n dX1_ahead_37 rfl ?_
          refine x_dup dX1_ahead_38 rfl ?_
          obtain ⟨o11, h⟩ := h
          refine x_get (v := .int (A9.I p 3)) hG dX1_ahead_39 f_X1_36_1 o11 rfl ?_
          refine x_iconst_ (v := (1 : Int32)) dX1_ahead_42 (by decide) ?_
          refine x_iadd dX1_ahead_43 ?_
          refine z_putI hG hO.1 dX1_ahead_44 f_X1_36_1 ⟨_, rfl, Or.inl rfl⟩ o11 (by decide) rfl rfl ⟨_, rfl⟩ (fun A12 e12 => ?_)
          replace h := h A12 e12
          refine x_goto (tgt := 10) dX1_ahead_47 (by decide) ?_
          obtain ⟨q4, l4, h⟩ := h
          change X _ _ _ _ _ _ [some (.ref p), some (.int v1), some (.int (A1.I p 3)), none, none, none] []
          exact X.weak (xle_c rfl (xle_c rfl (xle_c rfl (xle_n (xle_n (xle_n xle_nil)))))) (ih4 q4 l4 A12 h)
        · replace h := h.1 c25
          refine x_aload_n dX1_ahead_28 rfl ?_
          refine x_bipush_ (v := (84 : Int32)) dX1_ahead_29 (by decide) ?_
          obtain ⟨o14, h⟩ := h
          obtain ⟨R13, g13, h⟩ := h
          refine x_callV hG (Ky := kX1_is) (As := [.int (84 : Int32)]) dX1_ahead_31 o14 rfl lk_X1_71 me_X1_is is_X1_is se_X1_is rfl rfl (Nat.le_of_ble_eq_true rfl) (MX.post (m_X1_is hG hO g13) ?_)
          rintro _ A13 ⟨v13, rfl, zv13, h1⟩
          refine X.xok (fun w13 => ?_)
          replace h := h v13 A13 w13 zv13 h1
          change X _ _ _ _ A13 _ _ [.int v13]
          refine x_if_eq (tgt := 50) dX1_ahead_34 (by decide) (fun c34 => ?_) (fun c34 => ?_)
          · replace h := h.1 c34
            refine x_aload_n dX1_ahead_50 rfl ?_
            obtain ⟨o15, h⟩ := h
            refine x_get (v := .int (A13.I p 3)) hG dX1_ahead_51 f_X1_36_1 o15 rfl ?_
            refine x_iload_n dX1_ahead_54 rfl ?_
            refine x_isub dX1_ahead_55 ?_
            refine x_istore_n dX1_ahead_56 (by decide) ?_
            refine x_iload_n dX1_ahead_57 rfl ?_
            refine x_if_ne (tgt := 66) dX1_ahead_58 (by decide) (fun c58 => ?_) (fun c58 => ?_)
            · replace h := h.2 c58
              refine x_iload_n dX1_ahead_66 rfl ?_
              obtain ⟨o16, h⟩ := h
              refine z_newa hG (j := 0) dX1_ahead_67 (by decide) rfl o16 q378 (fun A17 e17 w17 => ?_)
              replace h := h A17 e17
              refine x_astore dX1_ahead_69 (by decide) ?_
              refine x_iconst_ (v := (0 : Int32)) dX1_ahead_71 (by decide) ?_
              refine x_istore dX1_ahead_72 (by decide) ?_
              obtain ⟨L18, ⟨n18, i18⟩, g18⟩ := h
              have kl18 : ∀ n18 : Nat, ∀ (y18_5 : Int32) (A18 : xA), L18 n18 y18_5 A18 → X G (dp + 15) kX1_ahead (hX (hR Q) E) A18 74 [some (.ref p), some (.int v1), some (.int (A1.I p 3)), some (.int ((A13.I p 3) - (A1.I p 3))), some (.ref A13.n), some (.int y18_5)] [] := by
                intro n18
                induction n18 using Nat.strongRecOn with
                | ind n18 ih18 =>
                  intro y18_5 A18 h
                  replace h := g18 n18 y18_5 A18 h
                  refine x_iload dX1_ahead_74 rfl ?_
                  refine x_iload_n dX1_ahead_76 rfl ?_
                  refine x_icmp_ge (tgt := 103) dX1_ahead_77 (by decide) (fun c77 => ?_) (fun c77 => ?_)
                  · replace h := h.1 c77
                    obtain ⟨o19, h⟩ := h
                    refine z_new hG (c := 18) dX1_ahead_103 rfl q1379 (by decide) rfl o19 (fun A20 e20 w20 => ?_)
                    replace h := h A20 e20
                    refine x_dup dX1_ahead_106 rfl ?_
                    refine x_iload_n dX1_ahead_107 rfl ?_
                    refine x_aload dX1_ahead_108 rfl ?_
                    refine x_aload_n dX1_ahead_110 rfl ?_
                    obtain ⟨o22, h⟩ := h
                    obtain ⟨R21, g21, h⟩ := h
                    refine x_callV hG (Ky := kX1_operand) (As := []) dX1_ahead_111 o22 rfl lk_X1_288 me_X1_operand is_X1_operand se_X1_operand rfl rfl (Nat.le_of_ble_eq_true rfl) (MX.post (hK.2.2.2.1 g21) ?_)
                    rintro _ A21 (⟨v21, rfl, h1⟩ | ⟨x21, rfl, h1⟩)
                    rotate_left
                    · exact ⟨rfl, Or.inr ⟨_, rfl, h1⟩⟩
                    refine X.xok (fun w21 => ?_)
                    replace h := h v21 A21 w21 h1
                    change X _ _ _ _ A21 _ _ [va_rf v21, .ref A13.n, .int v1, .ref A18.n, .ref A18.n]
                    obtain ⟨R23, g23, h⟩ := h
                    refine x_callI hG (Ky := kX20_init) (As := [.int v1, .ref A13.n, va_rf v21]) dX1_ahead_114 lk_X1_293 me_X20_init is_X20_init rfl rfl rfl rfl rfl (Nat.le_of_ble_eq_true rfl) (MX.post (m_X20_init hG hO g23) ?_)
                    rintro _ A23 ⟨rfl, h1⟩
                    refine X.xok (fun w23 => ?_)
                    replace h := h A23 w23 h1
                    change X _ _ _ _ A23 _ _ [.ref A18.n]
                    exact x_aret (r := (some A18.n)) dX1_ahead_117 rfl (Or.inl ⟨_, rfl⟩) (Or.inl ⟨_, rfl, h⟩)
                  · replace h := h.2 c77
                    refine x_aload dX1_ahead_80 rfl ?_
                    refine x_iload dX1_ahead_82 rfl ?_
                    refine x_aload_n dX1_ahead_84 rfl ?_
                    obtain ⟨o24, h⟩ := h
                    refine x_get (v := va_rf (A18.P p 0)) hG dX1_ahead_85 f_X1_12_1 o24 rfl ?_
                    obtain ⟨b25, e25, h⟩ := h
                    rw [e25]
                    obtain ⟨o26, h⟩ := h
                    refine x_get (v := va_rf (A18.P b25 2)) hG dX1_ahead_88 f_X1_60_2 o26 rfl ?_
                    refine x_iload_n dX1_ahead_91 rfl ?_
                    refine x_iload dX1_ahead_92 rfl ?_
                    refine x_iadd dX1_ahead_94 ?_
                    obtain ⟨b27, e27, h⟩ := h
                    rw [e27]
                    obtain ⟨o28, h⟩ := h
                    obtain ⟨o29, h⟩ := h
                    refine x_iald hG dX1_ahead_95 o28 o29 ?_
                    obtain ⟨o30, h⟩ := h
                    obtain ⟨o31, h⟩ := h
                    obtain ⟨o32, h⟩ := h
                    refine z_iast hG dX1_ahead_96 o30 o31 o32 (fun A33 e33 => ?_)
                    replace h := h A33 e33
                    refine x_iinc (v := (y18_5 + (1 : Int32))) dX1_ahead_97 rfl rfl (by decide) ?_
                    refine x_goto (tgt := 74) dX1_ahead_100 (by decide) ?_
                    obtain ⟨q18, l18, h⟩ := h
                    change X _ _ _ _ _ _ [some (.ref p), some (.int v1), some (.int (A1.I p 3)), some (.int ((A13.I p 3) - (A1.I p 3))), some (.ref A13.n), some (.int (y18_5 + (1 : Int32)))] []
                    exact X.weak (xle_c rfl (xle_c rfl (xle_c rfl (xle_c rfl (xle_c rfl (xle_c rfl xle_nil)))))) (ih18 q18 l18 (y18_5 + (1 : Int32)) A33 h)
              change X _ _ _ _ _ _ [some (.ref p), some (.int v1), some (.int (A1.I p 3)), some (.int ((A13.I p 3) - (A1.I p 3))), some (.ref A13.n), some (.int (0 : Int32))] []
              exact X.weak (xle_c rfl (xle_c rfl (xle_c rfl (xle_c rfl (xle_c rfl (xle_c rfl xle_nil)))))) (kl18 n18 (0 : Int32) A17 i18)
            · replace h := h.1 c58
              refine x_aload_n dX1_ahead_61 rfl ?_
              obtain ⟨R34, g34, h⟩ := h
              refine x_callV hG (Ky := kX1_operand) (As := []) dX1_ahead_62 o15 rfl lk_X1_288 me_X1_operand is_X1_operand se_X1_operand rfl rfl (Nat.le_of_ble_eq_true rfl) (MX.post (hK.2.2.2.1 g34) ?_)
              rintro _ A34 (⟨v34, rfl, h1⟩ | ⟨x34, rfl, h1⟩)
              rotate_left
              · exact ⟨rfl, Or.inr ⟨_, rfl, h1⟩⟩
              refine X.xok (fun w34 => ?_)
              replace h := h v34 A34 w34 h1
              change X _ _ _ _ A34 _ _ [va_rf v34]
              exact x_aret (r := v34) dX1_ahead_65 rfl (Or.inl ⟨_, rfl⟩) (Or.inl ⟨_, rfl, h⟩)
          · replace h := h.2 c34
            refine x_aload_n dX1_ahead_37 rfl ?_
            refine x_dup dX1_ahead_38 rfl ?_
            obtain ⟨o35, h⟩ := h
            refine x_get (v := .int (A13.I p 3)) hG dX1_ahead_39 f_X1_36_1 o35 rfl ?_
            refine x_iconst_ (v := (1 : Int32)) dX1_ahead_42 (by decide) ?_
            refine x_iadd dX1_ahead_43 ?_
            refine z_putI hG hO.1 dX1_ahead_44 f_X1_36_1 ⟨_, rfl, Or.inl rfl⟩ o35 (by decide) rfl rfl ⟨_, rfl⟩ (fun A36 e36 => ?_)
            replace h := h A36 e36
            refine x_goto (tgt := 10) dX1_ahead_47 (by decide) ?_
            obtain ⟨q4, l4, h⟩ := h
            change X _ _ _ _ _ _ [some (.ref p), some (.int v1), some (.int (A1.I p 3)), none, none, none] []
            exact X.weak (xle_c rfl (xle_c rfl (xle_c rfl (xle_n (xle_n (xle_n xle_nil)))))) (ih4 q4 l4 A36 h)
  change X _ _ _ _ _ _ [some (.ref p), some (.int v1), some (.int (A1.I p 3)), none, none, none] []
  exact X.weak (xle_c rfl (xle_c rfl (xle_c rfl (xle_n (xle_n (xle_n xle_nil)))))) (kl4 n4 A1 i4)
def w_X1_operand (G : xG) (r0 : Nat → (Option Nat → xA → Prop) → (Nat → xA → Prop) → xA → Prop) (r1 : Nat → Int32 → (Option Nat → xA → Prop) → (Nat → xA → Prop) → xA → Prop) (r2 : Nat → (Option Nat → xA → Prop) → (Nat → xA → Prop) → xA → Prop) (r3 : Nat → (Option Nat → xA → Prop) → (Nat → xA → Prop) → xA → Prop) (r4 : Nat → (Option Nat → xA → Prop) → (Nat → xA → Prop) → xA → Prop) (r5 : Nat → Int32 → Int32 → (Option Nat → xA → Prop) → (Nat → xA → Prop) → xA → Prop) (r6 : Nat → Int32 → Int32 → (Option Nat → xA → Prop) → (Nat → xA → Prop) → xA → Prop) (p : Nat) (Q : Option Nat → xA → Prop) (E : Nat → xA → Prop) (A : xA) : Prop := xok G A → A.tg p = 2 ∧ (∃ R1 : Int32 → xA → Prop, w_X1_here G p R1 A ∧ (∀ (v1 : Int32) (A1 : xA), xok G A1 → R1 v1 A1 → (A1.tg p = 2 ∧ (∃ R3 : Int32 → xA → Prop, w_X1_takes G p (3 : Int32) R3 A1 ∧ (∀ (v3 : Int32) (A3 : xA), xok G A3 → (v3 = 0 ∨ v3 = 1) → R3 v3 A3 → (((v3 = 0 → A3.tg p = 2 ∧ (∃ R5 : Int32 → xA → Prop, w_X1_takes G p (2 : Int32) R5 A3 ∧ (∀ (v5 : Int32) (A5 : xA), xok G A5 → (v5 = 0 ∨ v5 = 1) → R5 v5 A5 → (((v5 = 0 → A5.tg p = 2 ∧ (∃ R7 : Int32 → xA → Prop, w_X1_takes G p (23 : Int32) R7 A5 ∧ (∀ (v7 : Int32) (A7 : xA), xok G A7 → (v7 = 0 ∨ v7 = 1) → R7 v7 A7 → (((v7 = 0 → A7.tg p = 2 ∧ (∃ R9 : Option Nat → xA → Prop, r4 p R9 E A7 ∧ (∀ (v9 : Option Nat) (A9 : xA), xok G A9 → R9 v9 A9 → (∃ b11 : Nat, v9 = some b11 ∧ (xE A9 b11 ∧ (∀ A13 : xA, A13 = A9.setI b11 0 v1 → (Q (some b11) A13))))))) ∧ (¬ v7 = 0 → A7.tg p = 2 ∧ (∃ R14 : xA → Prop, w_X1_opens G p (62 : Int32) R14 E A7 ∧ (∀ A14 : xA, xok G A14 → R14 A14 → (A14.tg p = 2 ∧ (∃ R16 : xA → Prop, w_X1_closes G p (63 : Int32) R16 E A14 ∧ (∀ A16 : xA, xok G A16 → R16 A16 → (rmO G A16 2 ∧ (∀ A19 : xA, A19 = A16.new 18 0 2 0 → (∃ R20 : xA → Prop, w_X19_init G A16.n v1 R20 A19 ∧ (∀ A20 : xA, xok G A20 → R20 A20 → (Q (some A16.n) A20)))))))))))))))) ∧ (¬ v5 = 0 → A5.tg p = 2 ∧ (∃ b22 : Nat, (A5.P p 0) = some b22 ∧ (A5.tg b22 = 3 ∧ (∃ b24 : Nat, (A5.P b22 4) = some b24 ∧ (A5.tg b24 = 200 ∧ (vp_in ((A5.I p 3) - (1 : Int32)) (A5.ln b24) ∧ (∃ R27 : Int32 → xA → Prop, w_X1_is G p (62 : Int32) R27 A5 ∧ (∀ (v27 : Int32) (A27 : xA), xok G A27 → (v27 = 0 ∨ v27 = 1) → R27 v27 A27 → (((v27 = 0 → A27.tg p = 2 ∧ (∃ R28 : Option Nat → xA → Prop, r5 p v1 (A5.I b24 (ix ((A5.I p 3) - (1 : Int32)))) R28 E A27 ∧ (∀ (v28 : Option Nat) (A28 : xA), xok G A28 → R28 v28 A28 → (Q v28 A28)))) ∧ (¬ v27 = 0 → A27.tg p = 2 ∧ (∃ R30 : Option Nat → xA → Prop, r6 p v1 (A5.I b24 (ix ((A5.I p 3) - (1 : Int32)))) R30 E A27 ∧ (∀ (v30 : Option Nat) (A30 : xA), xok G A30 → R30 v30 A30 → (Q v30 A30))))))))))))))))))) ∧ (¬ v3 = 0 → rmO G A3 2 ∧ (∀ A33 : xA, A33 = A3.new 15 0 2 0 → (A33.tg p = 2 ∧ (∃ b35 : Nat, (A33.P p 0) = some b35 ∧ (A33.tg b35 = 3 ∧ (∃ b37 : Nat, (A33.P b35 4) = some b37 ∧ (A33.tg b37 = 200 ∧ (vp_in ((A33.I p 3) - (1 : Int32)) (A33.ln b37) ∧ (∃ R40 : xA → Prop, w_X16_init G A3.n v1 (A33.I b37 (ix ((A33.I p 3) - (1 : Int32)))) R40 A33 ∧ (∀ A40 : xA, xok G A40 → R40 A40 → (Q (some A3.n) A40))))))))))))))))))
theorem m_X1_operand (hG : xOK G) (hO : xHO G) {dp : Nat} {r0 : Nat → (Option Nat → xA → Prop) → (Nat → xA → Prop) → xA → Prop} {r1 : Nat → Int32 → (Option Nat → xA → Prop) → (Nat → xA → Prop) → xA → Prop} {r2 : Nat → (Option Nat → xA → Prop) → (Nat → xA → Prop) → xA → Prop} {r3 : Nat → (Option Nat → xA → Prop) → (Nat → xA → Prop) → xA → Prop} {r4 : Nat → (Option Nat → xA → Prop) → (Nat → xA → Prop) → xA → Prop} {r5 : Nat → Int32 → Int32 → (Option Nat → xA → Prop) → (Nat → xA → Prop) → xA → Prop} {r6 : Nat → Int32 → Int32 → (Option Nat → xA → Prop) → (Nat → xA → Prop) → xA → Prop} (hK : xRC_P G (dp + 14) r0 r1 r2 r3 r4 r5 r6) {p : Nat} {Q : Option Nat → xA → Prop} {E : Nat → xA → Prop} {A : xA} (h : w_X1_operand G r0 r1 r2 r3 r4 r5 r6 p Q E A) : MX G (dp + 15) kX1_operand [.ref p] A (hX (hR Q) E) := by
  unfold w_X1_operand at h
  refine MX.of rfl (Nat.le_of_ble_eq_true rfl) ?_
  change X _ _ _ _ _ _ [some (.ref p), none, none] _
  refine X.xok (fun w0 => ?_)
  replace h := h w0
  refine x_aload_n dX1_operand_0 rfl ?_
  obtain ⟨o2, h⟩ := h
  obtain ⟨R1, g1, h⟩ := h
  refine x_callV hG (Ky := kX1_here) (As := []) dX1_operand_1 o2 rfl lk_X1_66 me_X1_here is_X1_here se_X1_here rfl rfl (Nat.le_of_ble_eq_true rfl) (MX.post (m_X1_here hG hO g1) ?_)
  rintro _ A1 ⟨v1, rfl, h1⟩
  refine X.xok (fun w1 => ?_)
  replace h := h v1 A1 w1 h1
  change X _ _ _ _ A1 _ _ [.int v1]
  refine x_istore_n dX1_operand_4 (by decide) ?_
  refine x_aload_n dX1_operand_5 rfl ?_
  refine x_iconst_ (v := (3 : Int32)) dX1_operand_6 (by decide) ?_
  obtain ⟨o4, h⟩ := h
  obtain ⟨R3, g3, h⟩ := h
  refine x_callV hG (Ky := kX1_takes) (As := [.int (3 : Int32)]) dX1_operand_7 o4 rfl lk_X1_79 me_X1_takes is_X1_takes se_X1_takes rfl rfl (Nat.le_of_ble_eq_true rfl) (MX.post (m_X1_takes hG hO g3) ?_)
  rintro _ A3 ⟨v3, rfl, zv3, h1⟩
  refine X.xok (fun w3 => ?_)
  replace h := h v3 A3 w3 zv3 h1
  change X _ _ _ _ A3 _ _ [.int v3]
  refine x_if_eq (tgt := 36) dX1_operand_10 (by decide) (fun c10 => ?_) (fun c10 => ?_)
  · replace h := h.1 c10
    refine x_aload_n dX1_operand_36 rfl ?_
    refine x_iconst_ (v := (2 : Int32)) dX1_operand_37 (by decide) ?_
    obtain ⟨o6, h⟩ := h
    obtain ⟨R5, g5, h⟩ := h
    refine x_callV hG (Ky := kX1_takes) (As := [.int (2 : Int32)]) dX1_operand_38 o6 rfl lk_X1_79 me_X1_takes is_X1_takes se_X1_takes rfl rfl (Nat.le_of_ble_eq_true rfl) (MX.post (m_X1_takes hG hO g5) ?_)
    rintro _ A5 ⟨v5, rfl, zv5, h1⟩
    refine X.xok (fun w5 => ?_)
    replace h := h v5 A5 w5 zv5 h1
    change X _ _ _ _ A5 _ _ [.int v5]
    refine x_if_eq (tgt := 84) dX1_operand_41 (by decide) (fun c41 => ?_) (fun c41 => ?_)
    · replace h := h.1 c41
      refine x_aload_n dX1_operand_84 rfl ?_
      refine x_bipush_ (v := (23 : Int32)) dX1_operand_85 (by decide) ?_
      obtain ⟨o8, h⟩ := h
      obtain ⟨R7, g7, h⟩ := h
      refine x_callV hG (Ky := kX1_takes) (As := [.int (23 : Int32)]) dX1_operand_87 o8 rfl lk_X1_79 me_X1_takes is_X1_takes se_X1_takes rfl rfl (Nat.le_of_ble_eq_true rfl) (MX.post (m_X1_takes hG hO g7) ?_)
      rintro _ A7 ⟨v7, rfl, zv7, h1⟩
      refine X.xok (fun w7 => ?_)
      replace h := h v7 A7 w7 zv7 h1
      change X _ _ _ _ A7 _ _ [.int v7]
      refine x_if_eq (tgt := 114) dX1_operand_90 (by decide) (fun c90 => ?_) (fun c90 => ?_)
      · replace h := h.1 c90
        refine x_aload_n dX1_operand_114 rfl ?_
        obtain ⟨o10, h⟩ := h
        obtain ⟨R9, g9, h⟩ := h
        refine x_callV hG (Ky := kX1_inside) (As := []) dX1_operand_115 o10 rfl lk_X1_197 me_X1_inside is_X1_inside se_X1_inside rfl rfl (Nat.le_of_ble_eq_true rfl) (MX.post (hK.2.2.2.2.1 g9) ?_)
        rintro _ A9 (⟨v9, rfl, h1⟩ | ⟨x9, rfl, h1⟩)
        rotate_left
        · exact ⟨rfl, Or.inr ⟨_, rfl, h1⟩⟩
        refine X.xok (fun w9 => ?_)
        replace h := h v9 A9 w9 h1
        change X _ _ _ _ A9 _ _ [va_rf v9]
        refine x_astoreq_n dX1_operand_118 (by decide) ?_
        refine x_aloadq_n dX1_operand_119 rfl ?_
        refine x_iload_n dX1_operand_120 rfl ?_
        obtain ⟨b11, e11, h⟩ := h
        rw [e11]
        obtain ⟨o12, h⟩ := h
        refine z_putE hG hO.1 dX1_operand_121 fE_X1_304 o12 (fun A13 e13 => ?_)
        replace h := h A13 e13
        refine x_aload_n dX1_operand_124 rfl ?_
        exact x_aret (r := (some b11)) dX1_operand_125 rfl (Or.inl ⟨_, rfl⟩) (Or.inl ⟨_, rfl, h⟩)
      · replace h := h.2 c90
        refine x_aload_n dX1_operand_93 rfl ?_
        refine x_bipush_ (v := (62 : Int32)) dX1_operand_94 (by decide) ?_
        obtain ⟨o15, h⟩ := h
        obtain ⟨R14, g14, h⟩ := h
        refine x_callV hG (Ky := kX1_opens) (As := [.int (62 : Int32)]) dX1_operand_96 o15 rfl lk_X1_128 me_X1_opens is_X1_opens se_X1_opens rfl rfl (Nat.le_of_ble_eq_true rfl) (MX.post (m_X1_opens hG hO g14) ?_)
        rintro _ A14 (⟨rfl, h1⟩ | ⟨x14, rfl, h1⟩)
        rotate_left
        · exact ⟨rfl, Or.inr ⟨_, rfl, h1⟩⟩
        refine X.xok (fun w14 => ?_)
        replace h := h A14 w14 h1
        change X _ _ _ _ A14 _ _ []
        refine x_aload_n dX1_operand_99 rfl ?_
        refine x_bipush_ (v := (63 : Int32)) dX1_operand_100 (by decide) ?_
        obtain ⟨o17, h⟩ := h
        obtain ⟨R16, g16, h⟩ := h
        refine x_callV hG (Ky := kX1_closes) (As := [.int (63 : Int32)]) dX1_operand_102 o17 rfl lk_X1_131 me_X1_closes is_X1_closes se_X1_closes rfl rfl (Nat.le_of_ble_eq_true rfl) (MX.post (m_X1_closes hG hO g16) ?_)
        rintro _ A16 (⟨rfl, h1⟩ | ⟨x16, rfl, h1⟩)
        rotate_left
        · exact ⟨rfl, Or.inr ⟨_, rfl, h1⟩⟩
        refine X.xok (fun w16 => ?_)
        replace h := h A16 w16 h1
        change X _ _ _ _ A16 _ _ []
        obtain ⟨o18, h⟩ := h
        refine z_new hG (c := 17) dX1_operand_105 rfl q1364 (by decide) rfl o18 (fun A19 e19 w19 => ?_)
        replace h := h A19 e19
        refine x_dup dX1_operand_108 rfl ?_
        refine x_iload_n dX1_operand_109 rfl ?_
        obtain ⟨R20, g20, h⟩ := h
        refine x_callI hG (Ky := kX19_init) (As := [.int v1]) dX1_operand_110 lk_X1_303 me_X19_init is_X19_init rfl rfl rfl rfl rfl (Nat.le_of_ble_eq_true rfl) (MX.post (m_X19_init hG hO g20) ?_)
        rintro _ A20 ⟨rfl, h1⟩
        refine X.xok (fun w20 => ?_)
        replace h := h A20 w20 h1
        change X _ _ _ _ A20 _ _ [.ref A16.n]
        exact x_aret (r := (some A16.n)) dX1_operand_113 rfl (Or.inl ⟨_, rfl⟩) (Or.inl ⟨_, rfl, h⟩)
    · replace h := h.2 c41
      refine x_aload_n dX1_operand_44 rfl ?_
      obtain ⟨o21, h⟩ := h
      refine x_get (v := va_rf (A5.P p 0)) hG dX1_operand_45 f_X1_12_1 o21 rfl ?_
      obtain ⟨b22, e22, h⟩ := h
      rw [e22]
      obtain ⟨o23, h⟩ := h
      refine x_get (v := va_rf (A5.P b22 4)) hG dX1_operand_48 f_X1_86_2 o23 rfl ?_
      refine x_aload_n dX1_operand_51 rfl ?_
      refine x_get (v := .int (A5.I p 3)) hG dX1_operand_52 f_X1_36_1 o21 rfl ?_
      refine x_iconst_ (v := (1 : Int32)) dX1_operand_55 (by decide) ?_
      refine x_isub dX1_operand_56 ?_
      obtain ⟨b24, e24, h⟩ := h
      rw [e24]
      obtain ⟨o25, h⟩ := h
      obtain ⟨o26, h⟩ := h
      refine x_iald hG dX1_operand_57 o25 o26 ?_
      refine x_istore_n dX1_operand_58 (by decide) ?_
      refine x_aload_n dX1_operand_59 rfl ?_
      refine x_bipush_ (v := (62 : Int32)) dX1_operand_60 (by decide) ?_
      obtain ⟨R27, g27, h⟩ := h
      refine x_callV hG (Ky := kX1_is) (As := [.int (62 : Int32)]) dX1_operand_62 o21 rfl lk_X1_71 me_X1_is is_X1_is se_X1_is rfl rfl (Nat.le_of_ble_eq_true rfl) (MX.post (m_X1_is hG hO g27) ?_)
      rintro _ A27 ⟨v27, rfl, zv27, h1⟩
      refine X.xok (fun w27 => ?_)
      replace h := h v27 A27 w27 zv27 h1
      change X _ _ _ _ A27 _ _ [.int v27]
      refine x_if_eq (tgt := 77) dX1_operand_65 (by decide) (fun c65 => ?_) (fun c65 => ?_)
      · replace h := h.1 c65
        refine x_aload_n dX1_operand_77 rfl ?_
        refine x_iload_n dX1_operand_78 rfl ?_
        refine x_iload_n dX1_operand_79 rfl ?_
        obtain ⟨o29, h⟩ := h
        obtain ⟨R28, g28, h⟩ := h
        refine x_callV hG (Ky := kX1_place) (As := [.int v1, .int (A5.I b24 (ix ((A5.I p 3) - (1 : Int32))))]) dX1_operand_80 o29 rfl lk_X1_238 me_X1_place is_X1_place se_X1_place rfl rfl (Nat.le_of_ble_eq_true rfl) (MX.post (hK.2.2.2.2.2.1 g28) ?_)
        rintro _ A28 (⟨v28, rfl, h1⟩ | ⟨x28, rfl, h1⟩)
        rotate_left
        · exact ⟨rfl, Or.inr ⟨_, rfl, h1⟩⟩
        refine X.xok (fun w28 => ?_)
        replace h := h v28 A28 w28 h1
        change X _ _ _ _ A28 _ _ [va_rf v28]
        exact x_aret (r := v28) dX1_operand_83 rfl (Or.inl ⟨_, rfl⟩) (Or.inl ⟨_, rfl, h⟩)
      · replace h := h.2 c65
        refine x_aload_n dX1_operand_68 rfl ?_
        refine x_iload_n dX1_operand_69 rfl ?_
        refine x_iload_n dX1_operand_70 rfl ?_
        obtain ⟨o31, h⟩ := h
        obtain ⟨R30, g30, h⟩ := h
        refine x_callV hG (Ky := kX1_call) (As := [.int v1, .int (A5.I b24 (ix ((A5.I p 3) - (1 : Int32))))]) dX1_operand_71 o31 rfl lk_X1_231 me_X1_call is_X1_call se_X1_call rfl rfl (Nat.le_of_ble_eq_true rfl) (MX.post (hK.2.2.2.2.2.2 g30) ?_)
        rintro _ A30 (⟨v30, rfl, h1⟩ | ⟨x30, rfl, h1⟩)
        rotate_left
        · exact ⟨rfl, Or.inr ⟨_, rfl, h1⟩⟩
        refine X.xok (fun w30 => ?_)
        replace h := h v30 A30 w30 h1
        change X _ _ _ _ A30 _ _ [va_rf v30]
        refine x_goto (tgt := 83) dX1_operand_74 (by decide) ?_
        exact x_aret (r := v30) dX1_operand_83 rfl (Or.inl ⟨_, rfl⟩) (Or.inl ⟨_, rfl, h⟩)
  · replace h := h.2 c10
    obtain ⟨o32, h⟩ := h
    refine z_new hG (c := 14) dX1_operand_13 rfl q1189 (by decide) rfl o32 (fun A33 e33 w33 => ?_)
    replace h := h A33 e33
    refine x_dup dX1_operand_16 rfl ?_
    refine x_iload_n dX1_operand_17 rfl ?_
    refine x_aload_n dX1_operand_18 rfl ?_
    obtain ⟨o34, h⟩ := h
    refine x_get (v := va_rf (A33.P p 0)) hG dX1_operand_19 f_X1_12_1 o34 rfl ?_
    obtain ⟨b35, e35, h⟩ := h
    rw [e35]
    obtain ⟨o36, h⟩ := h
    refine x_get (v := va_rf (A33.P b35 4)) hG dX1_operand_22 f_X1_86_2 o36 rfl ?_
    refine x_aload_n dX1_operand_25 rfl ?_
    refine x_get (v := .int (A33.I p 3)) hG dX1_operand_26 f_X1_36_1 o34 rfl ?_
    refine x_iconst_ (v := (1 : Int32)) dX1_operand_29 (by decide) ?_
    refine x_isub dX1_operand_30 ?_
    obtain ⟨b37, e37, h⟩ := h
    rw [e37]
    obtain ⟨o38, h⟩ := h
    obtain ⟨o39, h⟩ := h
    refine x_iald hG dX1_operand_31 o38 o39 ?_
    obtain ⟨R40, g40, h⟩ := h
    refine x_callI hG (Ky := kX16_init) (As := [.int v1, .int (A33.I b37 (ix ((A33.I p 3) - (1 : Int32))))]) dX1_operand_32 lk_X1_298 me_X16_init is_X16_init rfl rfl rfl rfl rfl (Nat.le_of_ble_eq_true rfl) (MX.post (m_X16_init hG hO g40) ?_)
    rintro _ A40 ⟨rfl, h1⟩
    refine X.xok (fun w40 => ?_)
    replace h := h A40 w40 h1
    change X _ _ _ _ A40 _ _ [.ref A3.n]
    exact x_aret (r := (some A3.n)) dX1_operand_35 rfl (Or.inl ⟨_, rfl⟩) (Or.inl ⟨_, rfl, h⟩)
def w_X1_inside (G : xG) (r0 : Nat → (Option Nat → xA → Prop) → (Nat → xA → Prop) → xA → Prop) (r1 : Nat → Int32 → (Option Nat → xA → Prop) → (Nat → xA → Prop) → xA → Prop) (r2 : Nat → (Option Nat → xA → Prop) → (Nat → xA → Prop) → xA → Prop) (r3 : Nat → (Option Nat → xA → Prop) → (Nat → xA → Prop) → xA → Prop) (r4 : Nat → (Option Nat → xA → Prop) → (Nat → xA → Prop) → xA → Prop) (r5 : Nat → Int32 → Int32 → (Option Nat → xA → Prop) → (Nat → xA → Prop) → xA → Prop) (r6 : Nat → Int32 → Int32 → (Option Nat → xA → Prop) → (Nat → xA → Prop) → xA → Prop) (p : Nat) (Q : Option Nat → xA → Prop) (E : Nat → xA → Prop) (A : xA) : Prop := xok G A → A.tg p = 2 ∧ (∃ R1 : xA → Prop, w_X1_opens G p (62 : Int32) R1 E A ∧ (∀ A1 : xA, xok G A1 → R1 A1 → (A1.tg p = 2 ∧ (∃ R3 : Option Nat → xA → Prop, r0 p R3 E A1 ∧ (∀ (v3 : Option Nat) (A3 : xA), xok G A3 → R3 v3 A3 → (A3.tg p = 2 ∧ (∃ R5 : xA → Prop, w_X1_closes G p (63 : Int32) R5 E A3 ∧ (∀ A5 : xA, xok G A5 → R5 A5 → (Q v3 A5)))))))))
theorem m_X1_inside (hG : xOK G) (hO : xHO G) {dp : Nat} {r0 : Nat → (Option Nat → xA → Prop) → (Nat → xA → Prop) → xA → Prop} {r1 : Nat → Int32 → (Option Nat → xA → Prop) → (Nat → xA → Prop) → xA → Prop} {r2 : Nat → (Option Nat → xA → Prop) → (Nat → xA → Prop) → xA → Prop} {r3 : Nat → (Option Nat → xA → Prop) → (Nat → xA → Prop) → xA → Prop} {r4 : Nat → (Option Nat → xA → Prop) → (Nat → xA → Prop) → xA → Prop} {r5 : Nat → Int32 → Int32 → (Option Nat → xA → Prop) → (Nat → xA → Prop) → xA → Prop} {r6 : Nat → Int32 → Int32 → (Option Nat → xA → Prop) → (Nat → xA → Prop) → xA → Prop} (hK : xRC_P G (dp + 14) r0 r1 r2 r3 r4 r5 r6) {p : Nat} {Q : Option Nat → xA → Prop} {E : Nat → xA → Prop} {A : xA} (h : w_X1_inside G r0 r1 r2 r3 r4 r5 r6 p Q E A) : MX G (dp + 15) kX1_inside [.ref p] A (hX (hR Q) E) := by
  unfold w_X1_inside at h
  refine MX.of rfl (Nat.le_of_ble_eq_true rfl) ?_
  change X _ _ _ _ _ _ [some (.ref p), none] _
  refine X.xok (fun w0 => ?_)
  replace h := h w0
  refine x_aload_n dX1_inside_0 rfl ?_
  refine x_bipush_ (v := (62 : Int32)) dX1_inside_1 (by decide) ?_
  obtain ⟨o2, h⟩ := h
  obtain ⟨R1, g1, h⟩ := h
  refine x_callV hG (Ky := kX1_opens) (As := [.int (62 : Int32)]) dX1_inside_3 o2 rfl lk_X1_128 me_X1_opens is_X1_opens se_X1_opens rfl rfl (Nat.le_of_ble_eq_true rfl) (MX.post (m_X1_opens hG hO g1) ?_)
  rintro _ A1 (⟨rfl, h1⟩ | ⟨x1, rfl, h1⟩)
  rotate_left
  · exact ⟨rfl, Or.inr ⟨_, rfl, h1⟩⟩
  refine X.xok (fun w1 => ?_)
  replace h := h A1 w1 h1
  change X _ _ _ _ A1 _ _ []
  refine x_aload_n dX1_inside_6 rfl ?_
  obtain ⟨o4, h⟩ := h
  obtain ⟨R3, g3, h⟩ := h
  refine x_callV hG (Ky := kX1_expr) (As := []) dX1_inside_7 o4 rfl lk_X1_101 me_X1_expr is_X1_expr se_X1_expr rfl rfl (Nat.le_of_ble_eq_true rfl) (MX.post (hK.1 g3) ?_)
  rintro _ A3 (⟨v3, rfl, h1⟩ | ⟨x3, rfl, h1⟩)
  rotate_left
  · exact ⟨rfl, Or.inr ⟨_, rfl, h1⟩⟩
  refine X.xok (fun w3 => ?_)
  replace h := h v3 A3 w3 h1
  change X _ _ _ _ A3 _ _ [va_rf v3]
  refine x_astoreq_n dX1_inside_10 (by decide) ?_
  refine x_aload_n dX1_inside_11 rfl ?_
  refine x_bipush_ (v := (63 : Int32)) dX1_inside_12 (by decide) ?_
  obtain ⟨o6, h⟩ := h
  obtain ⟨R5, g5, h⟩ := h
  refine x_callV hG (Ky := kX1_closes) (As := [.int (63 : Int32)]) dX1_inside_14 o6 rfl lk_X1_131 me_X1_closes is_X1_closes se_X1_closes rfl rfl (Nat.le_of_ble_eq_true rfl) (MX.post (m_X1_closes hG hO g5) ?_)
  rintro _ A5 (⟨rfl, h1⟩ | ⟨x5, rfl, h1⟩)
  rotate_left
  · exact ⟨rfl, Or.inr ⟨_, rfl, h1⟩⟩
  refine X.xok (fun w5 => ?_)
  replace h := h A5 w5 h1
  change X _ _ _ _ A5 _ _ []
  refine x_aloadq_n dX1_inside_17 rfl ?_
  exact x_aret (r := v3) dX1_inside_18 rfl (Or.inl ⟨_, rfl⟩) (Or.inl ⟨_, rfl, h⟩)
def w_X1_place (G : xG) (r0 : Nat → (Option Nat → xA → Prop) → (Nat → xA → Prop) → xA → Prop) (r1 : Nat → Int32 → (Option Nat → xA → Prop) → (Nat → xA → Prop) → xA → Prop) (r2 : Nat → (Option Nat → xA → Prop) → (Nat → xA → Prop) → xA → Prop) (r3 : Nat → (Option Nat → xA → Prop) → (Nat → xA → Prop) → xA → Prop) (r4 : Nat → (Option Nat → xA → Prop) → (Nat → xA → Prop) → xA → Prop) (r5 : Nat → Int32 → Int32 → (Option Nat → xA → Prop) → (Nat → xA → Prop) → xA → Prop) (r6 : Nat → Int32 → Int32 → (Option Nat → xA → Prop) → (Nat → xA → Prop) → xA → Prop) (p : Nat) (q : Int32) (n : Int32) (Q : Option Nat → xA → Prop) (E : Nat → xA → Prop) (A : xA) : Prop := xok G A → A.tg p = 2 ∧ (∃ R1 : Int32 → xA → Prop, w_X1_is G p (64 : Int32) R1 A ∧ (∀ (v1 : Int32) (A1 : xA), xok G A1 → (v1 = 0 ∨ v1 = 1) → R1 v1 A1 → (((v1 = 0 → rmO G A1 5 ∧ (∀ A15 : xA, A15 = A1.new 17 0 5 0 → (∃ R16 : xA → Prop, w_X18_init G A1.n q n (none : Option Nat) (-1 : Int32) R16 A15 ∧ (∀ A16 : xA, xok G A16 → R16 A16 → (Q (some A1.n) A16))))) ∧ (¬ v1 = 0 → A1.tg p = 2 ∧ (∃ R3 : Int32 → xA → Prop, w_X1_here G p R3 A1 ∧ (∀ (v3 : Int32) (A3 : xA), xok G A3 → R3 v3 A3 → (A3.tg p = 2 ∧ (∃ R5 : xA → Prop, w_X1_opens G p (64 : Int32) R5 E A3 ∧ (∀ A5 : xA, xok G A5 → R5 A5 → (A5.tg p = 2 ∧ (∃ R7 : Option Nat → xA → Prop, r0 p R7 E A5 ∧ (∀ (v7 : Option Nat) (A7 : xA), xok G A7 → R7 v7 A7 → (A7.tg p = 2 ∧ (∃ R9 : xA → Prop, w_X1_closes G p (65 : Int32) R9 E A7 ∧ (∀ A9 : xA, xok G A9 → R9 A9 → (rmO G A9 5 ∧ (∀ A12 : xA, A12 = A9.new 17 0 5 0 → (∃ R13 : xA → Prop, w_X18_init G A9.n q n v7 v3 R13 A12 ∧ (∀ A13 : xA, xok G A13 → R13 A13 → (Q (some A9.n) A13)))))))))))))))))))))
theorem m_X1_place (hG : xOK G) (hO : xHO G) {dp : Nat} {r0 : Nat → (Option Nat → xA → Prop) → (Nat → xA → Prop) → xA → Prop} {r1 : Nat → Int32 → (Option Nat → xA → Prop) → (Nat → xA → Prop) → xA → Prop} {r2 : Nat → (Option Nat → xA → Prop) → (Nat → xA → Prop) → xA → Prop} {r3 : Nat → (Option Nat → xA → Prop) → (Nat → xA → Prop) → xA → Prop} {r4 : Nat → (Option Nat → xA → Prop) → (Nat → xA → Prop) → xA → Prop} {r5 : Nat → Int32 → Int32 → (Option Nat → xA → Prop) → (Nat → xA → Prop) → xA → Prop} {r6 : Nat → Int32 → Int32 → (Option Nat → xA → Prop) → (Nat → xA → Prop) → xA → Prop} (hK : xRC_P G (dp + 14) r0 r1 r2 r3 r4 r5 r6) {p : Nat} {q : Int32} {n : Int32} {Q : Option Nat → xA → Prop} {E : Nat → xA → Prop} {A : xA} (h : w_X1_place G r0 r1 r2 r3 r4 r5 r6 p q n Q E A) : MX G (dp + 15) kX1_place [.ref p, .int q, .int n] A (hX (hR Q) E) := by
  unfold w_X1_place at h
  refine MX.of rfl (Nat.le_of_ble_eq_true rfl) ?_
  change X _ _ _ _ _ _ [some (.ref p), some (.int q), some (.int n), none, none] _
  refine X.xok (fun w0 => ?_)
  replace h := h w0
  refine x_aload_n dX1_place_0 rfl ?_
  refine x_bipush_ (v := (64 : Int32)) dX1_place_1 (by decide) ?_
  obtain ⟨o2, h⟩ := h
  obtain ⟨R1, g1, h⟩ := h
  refine x_callV hG (Ky := kX1_is) (As := [.int (64 : Int32)]) dX1_place_3 o2 rfl lk_X1_71 me_X1_is is_X1_is se_X1_is rfl rfl (Nat.le_of_ble_eq_true rfl) (MX.post (m_X1_is hG hO g1) ?_)
  rintro _ A1 ⟨v1, rfl, zv1, h1⟩
  refine X.xok (fun w1 => ?_)
  replace h := h v1 A1 w1 zv1 h1
  change X _ _ _ _ A1 _ _ [.int v1]
  refine x_if_ne (tgt := 21) dX1_place_6 (by decide) (fun c6 => ?_) (fun c6 => ?_)
  · replace h := h.2 c6
    refine x_aload_n dX1_place_21 rfl ?_
    obtain ⟨o4, h⟩ := h
    obtain ⟨R3, g3, h⟩ := h
    refine x_callV hG (Ky := kX1_here) (As := []) dX1_place_22 o4 rfl lk_X1_66 me_X1_here is_X1_here se_X1_here rfl rfl (Nat.le_of_ble_eq_true rfl) (MX.post (m_X1_here hG hO g3) ?_)
    rintro _ A3 ⟨v3, rfl, h1⟩
    refine X.xok (fun w3 => ?_)
    replace h := h v3 A3 w3 h1
    change X _ _ _ _ A3 _ _ [.int v3]
    refine x_istore_n dX1_place_25 (by decide) ?_
    refine x_aload_n dX1_place_26 rfl ?_
    refine x_bipush_ (v := (64 : Int32)) dX1_place_27 (by decide) ?_
    obtain ⟨o6, h⟩ := h
    obtain ⟨R5, g5, h⟩ := h
    refine x_callV hG (Ky := kX1_opens) (As := [.int (64 : Int32)]) dX1_place_29 o6 rfl lk_X1_128 me_X1_opens is_X1_opens se_X1_opens rfl rfl (Nat.le_of_ble_eq_true rfl) (MX.post (m_X1_opens hG hO g5) ?_)
    rintro _ A5 (⟨rfl, h1⟩ | ⟨x5, rfl, h1⟩)
    rotate_left
    · exact ⟨rfl, Or.inr ⟨_, rfl, h1⟩⟩
    refine X.xok (fun w5 => ?_)
    replace h := h A5 w5 h1
    change X _ _ _ _ A5 _ _ []
    refine x_aload_n dX1_place_32 rfl ?_
    obtain ⟨o8, h⟩ := h
    obtain ⟨R7, g7, h⟩ := h
    refine x_callV hG (Ky := kX1_expr) (As := []) dX1_place_33 o8 rfl lk_X1_101 me_X1_expr is_X1_expr se_X1_expr rfl rfl (Nat.le_of_ble_eq_true rfl) (MX.post (hK.1 g7) ?_)
    rintro _ A7 (⟨v7, rfl, h1⟩ | ⟨x7, rfl, h1⟩)
    rotate_left
    · exact ⟨rfl, Or.inr ⟨_, rfl, h1⟩⟩
    refine X.xok (fun w7 => ?_)
    replace h := h v7 A7 w7 h1
    change X _ _ _ _ A7 _ _ [va_rf v7]
    refine x_astoreq dX1_place_36 (by decide) ?_
    refine x_aload_n dX1_place_38 rfl ?_
    refine x_bipush_ (v := (65 : Int32)) dX1_place_39 (by decide) ?_
    obtain ⟨o10, h⟩ := h
    obtain ⟨R9, g9, h⟩ := h
    refine x_callV hG (Ky := kX1_closes) (As := [.int (65 : Int32)]) dX1_place_41 o10 rfl lk_X1_131 me_X1_closes is_X1_closes se_X1_closes rfl rfl (Nat.le_of_ble_eq_true rfl) (MX.post (m_X1_closes hG hO g9) ?_)
    rintro _ A9 (⟨rfl, h1⟩ | ⟨x9, rfl, h1⟩)
    rotate_left
    · exact ⟨rfl, Or.inr ⟨_, rfl, h1⟩⟩
    refine X.xok (fun w9 => ?_)
    replace h := h A9 w9 h1
    change X _ _ _ _ A9 _ _ []
    obtain ⟨o11, h⟩ := h
    refine z_new hG (c := 16) dX1_place_44 rfl q1340 (by decide) rfl o11 (fun A12 e12 w12 => ?_)
    replace h := h A12 e12
    refine x_dup dX1_place_47 rfl ?_
    refine x_iload_n dX1_place_48 rfl ?_
    refine x_iload_n dX1_place_49 rfl ?_
    refine x_aloadq dX1_place_50 rfl ?_
    refine x_iload_n dX1_place_52 rfl ?_
    obtain ⟨R13, g13, h⟩ := h
    refine x_callI hG (Ky := kX18_init) (As := [.int q, .int n, va_rf v7, .int v3]) dX1_place_53 lk_X1_251 me_X18_init is_X18_init rfl rfl rfl rfl rfl (Nat.le_of_ble_eq_true rfl) (MX.post (m_X18_init hG hO g13) ?_)
    rintro _ A13 ⟨rfl, h1⟩
    refine X.xok (fun w13 => ?_)
    replace h := h A13 w13 h1
    change X _ _ _ _ A13 _ _ [.ref A9.n]
    exact x_aret (r := (some A9.n)) dX1_place_56 rfl (Or.inl ⟨_, rfl⟩) (Or.inl ⟨_, rfl, h⟩)
  · replace h := h.1 c6
    obtain ⟨o14, h⟩ := h
    refine z_new hG (c := 16) dX1_place_9 rfl q1340 (by decide) rfl o14 (fun A15 e15 w15 => ?_)
    replace h := h A15 e15
    refine x_dup dX1_place_12 rfl ?_
    refine x_iload_n dX1_place_13 rfl ?_
    refine x_iload_n dX1_place_14 rfl ?_
    refine x_null dX1_place_15 ?_
    refine x_iconst_ (v := (-1 : Int32)) dX1_place_16 (by decide) ?_
    obtain ⟨R16, g16, h⟩ := h
    refine x_callI hG (Ky := kX18_init) (As := [.int q, .int n, .null, .int (-1 : Int32)]) dX1_place_17 lk_X1_251 me_X18_init is_X18_init rfl rfl rfl rfl rfl (Nat.le_of_ble_eq_true rfl) (MX.post (m_X18_init hG hO g16) ?_)
    rintro _ A16 ⟨rfl, h1⟩
    refine X.xok (fun w16 => ?_)
    replace h := h A16 w16 h1
    change X _ _ _ _ A16 _ _ [.ref A1.n]
    exact x_aret (r := (some A1.n)) dX1_place_20 rfl (Or.inl ⟨_, rfl⟩) (Or.inl ⟨_, rfl, h⟩)
def w_X1_call (G : xG) (r0 : Nat → (Option Nat → xA → Prop) → (Nat → xA → Prop) → xA → Prop) (r1 : Nat → Int32 → (Option Nat → xA → Prop) → (Nat → xA → Prop) → xA → Prop) (r2 : Nat → (Option Nat → xA → Prop) → (Nat → xA → Prop) → xA → Prop) (r3 : Nat → (Option Nat → xA → Prop) → (Nat → xA → Prop) → xA → Prop) (r4 : Nat → (Option Nat → xA → Prop) → (Nat → xA → Prop) → xA → Prop) (r5 : Nat → Int32 → Int32 → (Option Nat → xA → Prop) → (Nat → xA → Prop) → xA → Prop) (r6 : Nat → Int32 → Int32 → (Option Nat → xA → Prop) → (Nat → xA → Prop) → xA → Prop) (p : Nat) (q : Int32) (n : Int32) (Q : Option Nat → xA → Prop) (E : Nat → xA → Prop) (A : xA) : Prop := xok G A → rmO G A 3 ∧ (∀ A2 : xA, A2 = A.new 37 0 3 0 → (∃ R3 : xA → Prop, w_J5_init_2 G A.n (2 : Int32) R3 A2 ∧ (∀ A3 : xA, xok G A3 → R3 A3 → (A3.tg p = 2 ∧ (∃ R4 : xA → Prop, w_X1_opens G p (62 : Int32) R4 E A3 ∧ (∀ A4 : xA, xok G A4 → R4 A4 → (A4.tg p = 2 ∧ (∃ R6 : Int32 → xA → Prop, w_X1_is G p (63 : Int32) R6 A4 ∧ (∀ (v6 : Int32) (A6 : xA), xok G A6 → (v6 = 0 ∨ v6 = 1) → R6 v6 A6 → (∃ J8 : xA → Prop, (∀ (A8 : xA), J8 A8 → A8.tg p = 2 ∧ (∃ R9 : Int32 → xA → Prop, w_X1_here G p R9 A8 ∧ (∀ (v9 : Int32) (A9 : xA), xok G A9 → R9 v9 A9 → (A9.tg p = 2 ∧ (∃ R11 : xA → Prop, w_X1_closes G p (63 : Int32) R11 E A9 ∧ (∀ A11 : xA, xok G A11 → R11 A11 → (rmO G A11 5 ∧ (∀ A14 : xA, A14 = A11.new 16 0 5 0 → (∃ R15 : xA → Prop, w_X17_init G A11.n q n (some A.n) v9 R15 A14 ∧ (∀ A15 : xA, xok G A15 → R15 A15 → (Q (some A11.n) A15))))))))))) ∧ ((v6 = 0 → ∃ L16 : Nat → xA → Prop, (∃ n16 : Nat, L16 n16 A6) ∧ (∀ (n16 : Nat) (A16 : xA), L16 n16 A16 → A16.tg p = 2 ∧ (∃ R17 : Option Nat → xA → Prop, r0 p R17 E A16 ∧ (∀ (v17 : Option Nat) (A17 : xA), xok G A17 → R17 v17 A17 → (A17.tg A.n = 37 ∧ (∃ R19 : Int32 → xA → Prop, w_J5_add G A.n v17 R19 A17 ∧ (∀ (v19 : Int32) (A19 : xA), xok G A19 → (v19 = 0 ∨ v19 = 1) → R19 v19 A19 → (A19.tg p = 2 ∧ (∃ R21 : Int32 → xA → Prop, w_X1_takes G p (68 : Int32) R21 A19 ∧ (∀ (v21 : Int32) (A21 : xA), xok G A21 → (v21 = 0 ∨ v21 = 1) → R21 v21 A21 → (((v21 = 0 → J8 A21) ∧ (¬ v21 = 0 → (∃ q16 : Nat, q16 < n16 ∧ L16 q16 A21)))))))))))))) ∧ (¬ v6 = 0 → J8 A6))))))))))))
theorem m_X1_call (hG : xOK G) (hO : xHO G) {dp : Nat} {r0 : Nat → (Option Nat → xA → Prop) → (Nat → xA → Prop) → xA → Prop} {r1 : Nat → Int32 → (Option Nat → xA → Prop) → (Nat → xA → Prop) → xA → Prop} {r2 : Nat → (Option Nat → xA → Prop) → (Nat → xA → Prop) → xA → Prop} {r3 : Nat → (Option Nat → xA → Prop) → (Nat → xA → Prop) → xA → Prop} {r4 : Nat → (Option Nat → xA → Prop) → (Nat → xA → Prop) → xA → Prop} {r5 : Nat → Int32 → Int32 → (Option Nat → xA → Prop) → (Nat → xA → Prop) → xA → Prop} {r6 : Nat → Int32 → Int32 → (Option Nat → xA → Prop) → (Nat → xA → Prop) → xA → Prop} (hK : xRC_P G (dp + 14) r0 r1 r2 r3 r4 r5 r6) {p : Nat} {q : Int32} {n : Int32} {Q : Option Nat → xA → Prop} {E : Nat → xA → Prop} {A : xA} (h : w_X1_call G r0 r1 r2 r3 r4 r5 r6 p q n Q E A) : MX G (dp + 15) kX1_call [.ref p, .int q, .int n] A (hX (hR Q) E) := by
  unfold w_X1_call at h
  refine MX.of rfl (Nat.le_of_ble_eq_true rfl) ?_
  change X _ _ _ _ _ _ [some (.ref p), some (.int q), some (.int n), none, none] _
  refine X.xok (fun w0 => ?_)
  replace h := h w0
  obtain ⟨o1, h⟩ := h
  refine z_new hG (c := 36) dX1_call_0 rfl q1062 (by decide) rfl o1 (fun A2 e2 w2 => ?_)
  replace h := h A2 e2
  refine x_dup dX1_call_3 rfl ?_
  refine x_iconst_ (v := (2 : Int32)) dX1_call_4 (by decide) ?_
  obtain ⟨R3, g3, h⟩ := h
  refine x_callI hG (Ky := kJ5_init_2) (As := [.int (2 : Int32)]) dX1_call_5 lk_X1_134 me_J5_init_2 is_J5_init_2 rfl rfl rfl rfl rfl (Nat.le_of_ble_eq_true rfl) (MX.post (m_w_J5_init_2 hG hO g3) ?_)
  rintro _ A3 ⟨rfl, h1⟩
  refine X.xok (fun w3 => ?_)
  replace h := h A3 w3 h1
  change X _ _ _ _ A3 _ _ [.ref A.n]
  refine x_astore_n dX1_call_8 (by decide) ?_
  refine x_aload_n dX1_call_9 rfl ?_
  refine x_bipush_ (v := (62 : Int32)) dX1_call_10 (by decide) ?_
  obtain ⟨o5, h⟩ := h
  obtain ⟨R4, g4, h⟩ := h
  refine x_callV hG (Ky := kX1_opens) (As := [.int (62 : Int32)]) dX1_call_12 o5 rfl lk_X1_128 me_X1_opens is_X1_opens se_X1_opens rfl rfl (Nat.le_of_ble_eq_true rfl) (MX.post (m_X1_opens hG hO g4) ?_)
  rintro _ A4 (⟨rfl, h1⟩ | ⟨x4, rfl, h1⟩)
  rotate_left
  · exact ⟨rfl, Or.inr ⟨_, rfl, h1⟩⟩
  refine X.xok (fun w4 => ?_)
  replace h := h A4 w4 h1
  change X _ _ _ _ A4 _ _ []
  refine x_aload_n dX1_call_15 rfl ?_
  refine x_bipush_ (v := (63 : Int32)) dX1_call_16 (by decide) ?_
  obtain ⟨o7, h⟩ := h
  obtain ⟨R6, g6, h⟩ := h
  refine x_callV hG (Ky := kX1_is) (As := [.int (63 : Int32)]) dX1_call_18 o7 rfl lk_X1_71 me_X1_is is_X1_is se_X1_is rfl rfl (Nat.le_of_ble_eq_true rfl) (MX.post (m_X1_is hG hO g6) ?_)
  rintro _ A6 ⟨v6, rfl, zv6, h1⟩
  refine X.xok (fun w6 => ?_)
  replace h := h v6 A6 w6 zv6 h1
  change X _ _ _ _ A6 _ _ [.int v6]
  obtain ⟨J8, g8, h⟩ := h
  have kj8 : ∀ (A8 : xA), J8 A8 → X G (dp + 15) kX1_call (hX (hR Q) E) A8 42 [some (.ref p), some (.int q), some (.int n), some (.ref A.n), none] [] := by
    intro A8 h
    replace h := g8 A8 h
    refine x_aload_n dX1_call_42 rfl ?_
    obtain ⟨o10, h⟩ := h
    obtain ⟨R9, g9, h⟩ := h
    refine x_callV hG (Ky := kX1_here) (As := []) dX1_call_43 o10 rfl lk_X1_66 me_X1_here is_X1_here se_X1_here rfl rfl (Nat.le_of_ble_eq_true rfl) (MX.post (m_X1_here hG hO g9) ?_)
    rintro _ A9 ⟨v9, rfl, h1⟩
    refine X.xok (fun w9 => ?_)
    replace h := h v9 A9 w9 h1
    change X _ _ _ _ A9 _ _ [.int v9]
    refine x_istore dX1_call_46 (by decide) ?_
    refine x_aload_n dX1_call_48 rfl ?_
    refine x_bipush_ (v := (63 : Int32)) dX1_call_49 (by decide) ?_
    obtain ⟨o12, h⟩ := h
    obtain ⟨R11, g11, h⟩ := h
    refine x_callV hG (Ky := kX1_closes) (As := [.int (63 : Int32)]) dX1_call_51 o12 rfl lk_X1_131 me_X1_closes is_X1_closes se_X1_closes rfl rfl (Nat.le_of_ble_eq_true rfl) (MX.post (m_X1_closes hG hO g11) ?_)
    rintro _ A11 (⟨rfl, h1⟩ | ⟨x11, rfl, h1⟩)
    rotate_left
    · exact ⟨rfl, Or.inr ⟨_, rfl, h1⟩⟩
    refine X.xok (fun w11 => ?_)
    replace h := h A11 w11 h1
    change X _ _ _ _ A11 _ _ []
    obtain ⟨o13, h⟩ := h
    refine z_new hG (c := 15) dX1_call_54 rfl q1316 (by decide) rfl o13 (fun A14 e14 w14 => ?_)
    replace h := h A14 e14
    refine x_dup dX1_call_57 rfl ?_
    refine x_iload_n dX1_call_58 rfl ?_
    refine x_iload_n dX1_call_59 rfl ?_
    refine x_aload_n dX1_call_60 rfl ?_
    refine x_iload dX1_call_61 rfl ?_
    obtain ⟨R15, g15, h⟩ := h
    refine x_callI hG (Ky := kX17_init) (As := [.int q, .int n, .ref A.n, .int v9]) dX1_call_63 lk_X1_256 me_X17_init is_X17_init rfl rfl rfl rfl rfl (Nat.le_of_ble_eq_true rfl) (MX.post (m_X17_init hG hO g15) ?_)
    rintro _ A15 ⟨rfl, h1⟩
    refine X.xok (fun w15 => ?_)
    replace h := h A15 w15 h1
    change X _ _ _ _ A15 _ _ [.ref A11.n]
    exact x_aret (r := (some A11.n)) dX1_call_66 rfl (Or.inl ⟨_, rfl⟩) (Or.inl ⟨_, rfl, h⟩)
  refine x_if_ne (tgt := 42) dX1_call_21 (by decide) (fun c21 => ?_) (fun c21 => ?_)
  · replace h := h.2 c21
    change X _ _ _ _ _ _ [some (.ref p), some (.int q), some (.int n), some (.ref A.n), none] []
    exact X.weak (xle_c rfl (xle_c rfl (xle_c rfl (xle_c rfl (xle_n xle_nil))))) (kj8 A6 h)
  · replace h := h.1 c21
    obtain ⟨L16, ⟨n16, i16⟩, g16⟩ := h
    have kl16 : ∀ n16 : Nat, ∀ (A16 : xA), L16 n16 A16 → X G (dp + 15) kX1_call (hX (hR Q) E) A16 24 [some (.ref p), some (.int q), some (.int n), some (.ref A.n), none] [] := by
      intro n16
      induction n16 using Nat.strongRecOn with
      | ind n16 ih16 =>
        intro A16 h
        replace h := g16 n16 A16 h
        refine x_aload_n dX1_call_24 rfl ?_
        refine x_aload_n dX1_call_25 rfl ?_
        obtain ⟨o18, h⟩ := h
        obtain ⟨R17, g17, h⟩ := h
        refine x_callV hG (Ky := kX1_expr) (As := []) dX1_call_26 o18 rfl lk_X1_101 me_X1_expr is_X1_expr se_X1_expr rfl rfl (Nat.le_of_ble_eq_true rfl) (MX.post (hK.1 g17) ?_)
        rintro _ A17 (⟨v17, rfl, h1⟩ | ⟨x17, rfl, h1⟩)
        rotate_left
        · exact ⟨rfl, Or.inr ⟨_, rfl, h1⟩⟩
        refine X.xok (fun w17 => ?_)
        replace h := h v17 A17 w17 h1
        change X _ _ _ _ A17 _ _ [va_rf v17, .ref A.n]
        obtain ⟨o20, h⟩ := h
        obtain ⟨R19, g19, h⟩ := h
        refine x_callV hG (Ky := kJ5_add) (As := [va_rf v17]) dX1_call_29 o20 rfl lk_X1_120 me_J5_add is_J5_add se_J5_add rfl rfl (Nat.le_of_ble_eq_true rfl) (MX.post (m_w_J5_add hG hO g19) ?_)
        rintro _ A19 ⟨v19, rfl, zv19, h1⟩
        refine X.xok (fun w19 => ?_)
        replace h := h v19 A19 w19 zv19 h1
        change X _ _ _ _ A19 _ _ [.int v19]
        refine x_pop dX1_call_32 rfl ?_
        refine x_aload_n dX1_call_33 rfl ?_
        refine x_bipush_ (v := (68 : Int32)) dX1_call_34 (by decide) ?_
        obtain ⟨o22, h⟩ := h
        obtain ⟨R21, g21, h⟩ := h
        refine x_callV hG (Ky := kX1_takes) (As := [.int (68 : Int32)]) dX1_call_36 o22 rfl lk_X1_79 me_X1_takes is_X1_takes se_X1_takes rfl rfl (Nat.le_of_ble_eq_true rfl) (MX.post (m_X1_takes hG hO g21) ?_)
        rintro _ A21 ⟨v21, rfl, zv21, h1⟩
        refine X.xok (fun w21 => ?_)
        replace h := h v21 A21 w21 zv21 h1
        change X _ _ _ _ A21 _ _ [.int v21]
        refine x_if_ne (tgt := 24) dX1_call_39 (by decide) (fun c39 => ?_) (fun c39 => ?_)
        · replace h := h.2 c39
          obtain ⟨q16, l16, h⟩ := h
          change X _ _ _ _ _ _ [some (.ref p), some (.int q), some (.int n), some (.ref A.n), none] []
          exact X.weak (xle_c rfl (xle_c rfl (xle_c rfl (xle_c rfl (xle_n xle_nil))))) (ih16 q16 l16 A21 h)
        · replace h := h.1 c39
          change X _ _ _ _ _ _ [some (.ref p), some (.int q), some (.int n), some (.ref A.n), none] []
          exact X.weak (xle_c rfl (xle_c rfl (xle_c rfl (xle_c rfl (xle_n xle_nil))))) (kj8 A21 h)
    change X _ _ _ _ _ _ [some (.ref p), some (.int q), some (.int n), some (.ref A.n), none] []
    exact X.weak (xle_c rfl (xle_c rfl (xle_c rfl (xle_c rfl (xle_n xle_nil))))) (kl16 n16 A6 i16)
def rk_P (G : xG) : Nat → (Nat → (Option Nat → xA → Prop) → (Nat → xA → Prop) → xA → Prop) × (Nat → Int32 → (Option Nat → xA → Prop) → (Nat → xA → Prop) → xA → Prop) × (Nat → (Option Nat → xA → Prop) → (Nat → xA → Prop) → xA → Prop) × (Nat → (Option Nat → xA → Prop) → (Nat → xA → Prop) → xA → Prop) × (Nat → (Option Nat → xA → Prop) → (Nat → xA → Prop) → xA → Prop) × (Nat → Int32 → Int32 → (Option Nat → xA → Prop) → (Nat → xA → Prop) → xA → Prop) × (Nat → Int32 → Int32 → (Option Nat → xA → Prop) → (Nat → xA → Prop) → xA → Prop)
  | 0 => (fun _ _ _ _ => False, fun _ _ _ _ _ => False, fun _ _ _ _ => False, fun _ _ _ _ => False, fun _ _ _ _ => False, fun _ _ _ _ _ _ => False, fun _ _ _ _ _ _ => False)
  | n + 1 => (fun p Q E A => w_X1_expr G (rk_P G n).1 (rk_P G n).2.1 (rk_P G n).2.2.1 (rk_P G n).2.2.2.1 (rk_P G n).2.2.2.2.1 (rk_P G n).2.2.2.2.2.1 (rk_P G n).2.2.2.2.2.2 p Q E A,
    fun p a0 Q E A => w_X1_row G (rk_P G n).1 (rk_P G n).2.1 (rk_P G n).2.2.1 (rk_P G n).2.2.2.1 (rk_P G n).2.2.2.2.1 (rk_P G n).2.2.2.2.2.1 (rk_P G n).2.2.2.2.2.2 p a0 Q E A,
    fun p Q E A => w_X1_ahead G (rk_P G n).1 (rk_P G n).2.1 (rk_P G n).2.2.1 (rk_P G n).2.2.2.1 (rk_P G n).2.2.2.2.1 (rk_P G n).2.2.2.2.2.1 (rk_P G n).2.2.2.2.2.2 p Q E A,
    fun p Q E A => w_X1_operand G (rk_P G n).1 (rk_P G n).2.1 (rk_P G n).2.2.1 (rk_P G n).2.2.2.1 (rk_P G n).2.2.2.2.1 (rk_P G n).2.2.2.2.2.1 (rk_P G n).2.2.2.2.2.2 p Q E A,
    fun p Q E A => w_X1_inside G (rk_P G n).1 (rk_P G n).2.1 (rk_P G n).2.2.1 (rk_P G n).2.2.2.1 (rk_P G n).2.2.2.2.1 (rk_P G n).2.2.2.2.2.1 (rk_P G n).2.2.2.2.2.2 p Q E A,
    fun p a0 a1 Q E A => w_X1_place G (rk_P G n).1 (rk_P G n).2.1 (rk_P G n).2.2.1 (rk_P G n).2.2.2.1 (rk_P G n).2.2.2.2.1 (rk_P G n).2.2.2.2.2.1 (rk_P G n).2.2.2.2.2.2 p a0 a1 Q E A,
    fun p a0 a1 Q E A => w_X1_call G (rk_P G n).1 (rk_P G n).2.1 (rk_P G n).2.2.1 (rk_P G n).2.2.2.1 (rk_P G n).2.2.2.2.1 (rk_P G n).2.2.2.2.2.1 (rk_P G n).2.2.2.2.2.2 p a0 a1 Q E A)
theorem rc_P (hG : xOK G) (hO : xHO G) {dp : Nat} : ∀ n, xRC_P G (dp + n + 14) (rk_P G n).1 (rk_P G n).2.1 (rk_P G n).2.2.1 (rk_P G n).2.2.2.1 (rk_P G n).2.2.2.2.1 (rk_P G n).2.2.2.2.2.1 (rk_P G n).2.2.2.2.2.2
  | 0 => ⟨fun h => False.elim h, fun h => False.elim h, fun h => False.elim h, fun h => False.elim h, fun h => False.elim h, fun h => False.elim h, fun h => False.elim h⟩
  | n + 1 => ⟨fun h => m_X1_expr (dp := dp + n) hG hO (rc_P hG hO n) h,
    fun h => m_X1_row (dp := dp + n) hG hO (rc_P hG hO n) h,
    fun h => m_X1_ahead (dp := dp + n) hG hO (rc_P hG hO n) h,
    fun h => m_X1_operand (dp := dp + n) hG hO (rc_P hG hO n) h,
    fun h => m_X1_inside (dp := dp + n) hG hO (rc_P hG hO n) h,
    fun h => m_X1_place (dp := dp + n) hG hO (rc_P hG hO n) h,
    fun h => m_X1_call (dp := dp + n) hG hO (rc_P hG hO n) h⟩
def g_P_0 (G : xG) : Nat → (Option Nat → xA → Prop) → (Nat → xA → Prop) → xA → Prop := (rk_P G 700).1
def g_P_1 (G : xG) : Nat → Int32 → (Option Nat → xA → Prop) → (Nat → xA → Prop) → xA → Prop := (rk_P G 700).2.1
def g_P_2 (G : xG) : Nat → (Option Nat → xA → Prop) → (Nat → xA → Prop) → xA → Prop := (rk_P G 700).2.2.1
def g_P_3 (G : xG) : Nat → (Option Nat → xA → Prop) → (Nat → xA → Prop) → xA → Prop := (rk_P G 700).2.2.2.1
def g_P_4 (G : xG) : Nat → (Option Nat → xA → Prop) → (Nat → xA → Prop) → xA → Prop := (rk_P G 700).2.2.2.2.1
def g_P_5 (G : xG) : Nat → Int32 → Int32 → (Option Nat → xA → Prop) → (Nat → xA → Prop) → xA → Prop := (rk_P G 700).2.2.2.2.2.1
def g_P_6 (G : xG) : Nat → Int32 → Int32 → (Option Nat → xA → Prop) → (Nat → xA → Prop) → xA → Prop := (rk_P G 700).2.2.2.2.2.2
end W085
