/-! ===== 088.hparseF (tools/h045.py) ===== -/
set_option maxRecDepth 100000
section W088
variable {G : xG}
def w_X1_end (G : xG) (p : Nat) (t : Option Nat) (Q : xA → Prop) (E : Nat → xA → Prop) (A : xA) : Prop := xok G A → A.tg p = 2 ∧ (∃ R1 : xA → Prop, w_X1_need G p (69 : Int32) R1 E A ∧ (∀ A1 : xA, xok G A1 → R1 A1 → (A1.tg p = 2 ∧ (∃ b5 : Nat, (A1.P p 7) = some b5 ∧ (A1.tg b5 = 37 ∧ (∃ R4 : Int32 → xA → Prop, w_J5_add G b5 t R4 A1 ∧ (∀ (v4 : Int32) (A4 : xA), xok G A4 → (v4 = 0 ∨ v4 = 1) → R4 v4 A4 → (Q A4))))))))
theorem m_X1_end (hG : xOK G) (hO : xHO G) {dp : Nat} {p : Nat} {t : Option Nat} {Q : xA → Prop} {E : Nat → xA → Prop} {A : xA} (h : w_X1_end G p t Q E A) : MX G (dp + 7) kX1_end [.ref p, va_rf t] A (hX (hV Q) E) := by
  unfold w_X1_end at h
  refine MX.of rfl (by cases t <;> exact Nat.le_of_ble_eq_true rfl) ?_
  refine X.lvs (lv' := [some (.ref p), some (va_rf t)]) (by cases t <;> rfl) ?_
  refine X.xok (fun w0 => ?_)
  replace h := h w0
  refine x_aload_n dX1_end_0 rfl ?_
  refine x_bipush_ (v := (69 : Int32)) dX1_end_1 (by decide) ?_
  obtain ⟨o2, h⟩ := h
  obtain ⟨R1, g1, h⟩ := h
  refine x_callV hG (Ky := kX1_need) (As := [.int (69 : Int32)]) dX1_end_3 o2 rfl lk_X1_89 me_X1_need is_X1_need se_X1_need rfl rfl (Nat.le_of_ble_eq_true rfl) (MX.post (m_X1_need hG hO g1) ?_)
  rintro _ A1 (⟨rfl, h1⟩ | ⟨x1, rfl, h1⟩)
  rotate_left
  · exact ⟨rfl, Or.inr ⟨_, rfl, h1⟩⟩
  refine X.xok (fun w1 => ?_)
  replace h := h A1 w1 h1
  change X _ _ _ _ A1 _ _ []
  refine x_aload_n dX1_end_6 rfl ?_
  obtain ⟨o3, h⟩ := h
  refine x_get (v := va_rf (A1.P p 7)) hG dX1_end_7 f_X1_49_1 o3 rfl ?_
  refine x_aloadq_n dX1_end_10 rfl ?_
  obtain ⟨b5, e5, h⟩ := h
  rw [e5]
  obtain ⟨o6, h⟩ := h
  obtain ⟨R4, g4, h⟩ := h
  refine x_callV hG (Ky := kJ5_add) (As := [va_rf t]) dX1_end_11 o6 rfl lk_X1_120 me_J5_add is_J5_add se_J5_add rfl rfl (Nat.le_of_ble_eq_true rfl) (MX.post (m_w_J5_add hG hO g4) ?_)
  rintro _ A4 ⟨v4, rfl, zv4, h1⟩
  refine X.xok (fun w4 => ?_)
  replace h := h v4 A4 w4 zv4 h1
  change X _ _ _ _ A4 _ _ [.int v4]
  refine x_pop dX1_end_14 rfl ?_
  exact x_vret dX1_end_15 rfl (Or.inl ⟨rfl, h⟩)
def w_X1_row_2 (G : xG) (p : Nat) (t : Option Nat) (b : Int32) (Q : xA → Prop) (E : Nat → xA → Prop) (A : xA) : Prop := xok G A → ∃ b1 : Nat, t = some b1 ∧ (A.tg b1 = 14 ∧ ((b = 0 ∨ b = 1) ∧ (∀ A4 : xA, A4 = A.setI b1 3 b → (A4.tg p = 2 ∧ (∃ R5 : xA → Prop, w_X1_opens G p (64 : Int32) R5 E A4 ∧ (∀ A5 : xA, xok G A5 → R5 A5 → (A5.tg p = 2 ∧ (∃ R7 : Option Nat → xA → Prop, g_P_0 G p R7 E A5 ∧ (∀ (v7 : Option Nat) (A7 : xA), xok G A7 → R7 v7 A7 → (A7.tg b1 = 14 ∧ (∀ A10 : xA, A10 = A7.setP b1 6 v7 → (A10.tg p = 2 ∧ (∃ R11 : xA → Prop, w_X1_closes G p (65 : Int32) R11 E A10 ∧ (∀ A11 : xA, xok G A11 → R11 A11 → (rmO G A11 3 ∧ (∀ A14 : xA, A14 = A11.new 37 0 3 0 → (∃ R15 : xA → Prop, w_J5_init_2 G A11.n (0 : Int32) R15 A14 ∧ (∀ A15 : xA, xok G A15 → R15 A15 → (A15.tg b1 = 14 ∧ (∀ A17 : xA, A17 = A15.setP b1 7 (some A11.n) → (A17.tg p = 2 ∧ (∃ R18 : Int32 → xA → Prop, w_X1_takes G p (72 : Int32) R18 A17 ∧ (∀ (v18 : Int32) (A18 : xA), xok G A18 → (v18 = 0 ∨ v18 = 1) → R18 v18 A18 → (∃ J20 : xA → Prop, (∀ (A20 : xA), J20 A20 → A20.tg p = 2 ∧ (∃ R21 : xA → Prop, w_X1_end G p (some b1) R21 E A20 ∧ (∀ A21 : xA, xok G A21 → R21 A21 → (Q A21)))) ∧ ((v18 = 0 → J20 A18) ∧ (¬ v18 = 0 → A18.tg p = 2 ∧ (∃ R23 : xA → Prop, w_X1_opens G p (66 : Int32) R23 E A18 ∧ (∀ A23 : xA, xok G A23 → R23 A23 → (∃ L25 : Nat → xA → Prop, (∃ n25 : Nat, L25 n25 A23) ∧ (∀ (n25 : Nat) (A25 : xA), L25 n25 A25 → A25.tg b1 = 14 ∧ (A25.tg p = 2 ∧ (∃ R27 : Option Nat → xA → Prop, g_P_0 G p R27 E A25 ∧ (∀ (v27 : Option Nat) (A27 : xA), xok G A27 → R27 v27 A27 → (∃ b30 : Nat, (A25.P b1 7) = some b30 ∧ (A27.tg b30 = 37 ∧ (∃ R29 : Int32 → xA → Prop, w_J5_add G b30 v27 R29 A27 ∧ (∀ (v29 : Int32) (A29 : xA), xok G A29 → (v29 = 0 ∨ v29 = 1) → R29 v29 A29 → (A29.tg p = 2 ∧ (∃ R32 : Int32 → xA → Prop, w_X1_takes G p (68 : Int32) R32 A29 ∧ (∀ (v32 : Int32) (A32 : xA), xok G A32 → (v32 = 0 ∨ v32 = 1) → R32 v32 A32 → (((v32 = 0 → A32.tg p = 2 ∧ (∃ R34 : xA → Prop, w_X1_closes G p (67 : Int32) R34 E A32 ∧ (∀ A34 : xA, xok G A34 → R34 A34 → (J20 A34)))) ∧ (¬ v32 = 0 → (∃ q25 : Nat, q25 < n25 ∧ L25 q25 A32))))))))))))))))))))))))))))))))))))))))))))
theorem m_X1_row_2 (hG : xOK G) (hO : xHO G) {dp : Nat} {p : Nat} {t : Option Nat} {b : Int32} {Q : xA → Prop} {E : Nat → xA → Prop} {A : xA} (h : w_X1_row_2 G p t b Q E A) : MX G (dp + 715) kX1_row_2 [.ref p, va_rf t, .int b] A (hX (hV Q) E) := by
  unfold w_X1_row_2 at h
  refine MX.of rfl (by cases t <;> exact Nat.le_of_ble_eq_true rfl) ?_
  refine X.lvs (lv' := [some (.ref p), some (va_rf t), some (.int b)]) (by cases t <;> rfl) ?_
  refine X.xok (fun w0 => ?_)
  replace h := h w0
  refine x_aloadq_n dX1_row_2_0 rfl ?_
  refine x_iload_n dX1_row_2_1 rfl ?_
  obtain ⟨b1, e1, h⟩ := h
  rw [e1]
  obtain ⟨o2, h⟩ := h
  obtain ⟨o3, h⟩ := h
  refine z_putI hG hO.1 dX1_row_2_2 f_X1_124_13 ⟨_, rfl, Or.inl rfl⟩ o2 (by decide) (narrow01 o3) (fits01 o3) ⟨_, rfl⟩ (fun A4 e4 => ?_)
  replace h := h A4 e4
  refine x_aload_n dX1_row_2_5 rfl ?_
  refine x_bipush_ (v := (64 : Int32)) dX1_row_2_6 (by decide) ?_
  obtain ⟨o6, h⟩ := h
  obtain ⟨R5, g5, h⟩ := h
  refine x_callV hG (Ky := kX1_opens) (As := [.int (64 : Int32)]) dX1_row_2_8 o6 rfl lk_X1_128 me_X1_opens is_X1_opens se_X1_opens rfl rfl (Nat.le_of_ble_eq_true rfl) (MX.post (m_X1_opens hG hO g5) ?_)
  rintro _ A5 (⟨rfl, h1⟩ | ⟨x5, rfl, h1⟩)
  rotate_left
  · exact ⟨rfl, Or.inr ⟨_, rfl, h1⟩⟩
  refine X.xok (fun w5 => ?_)
  replace h := h A5 w5 h1
  change X _ _ _ _ A5 _ _ []
  refine x_aload_n dX1_row_2_11 rfl ?_
  refine x_aload_n dX1_row_2_12 rfl ?_
  obtain ⟨o8, h⟩ := h
  obtain ⟨R7, g7, h⟩ := h
  refine x_callV hG (Ky := kX1_expr) (As := []) dX1_row_2_13 o8 rfl lk_X1_101 me_X1_expr is_X1_expr se_X1_expr rfl rfl (Nat.le_of_ble_eq_true rfl) (MX.post ((rc_P hG hO 700).1 g7) ?_)
  rintro _ A7 (⟨v7, rfl, h1⟩ | ⟨x7, rfl, h1⟩)
  rotate_left
  · exact ⟨rfl, Or.inr ⟨_, rfl, h1⟩⟩
  refine X.xok (fun w7 => ?_)
  replace h := h v7 A7 w7 h1
  change X _ _ _ _ A7 _ _ [va_rf v7, .ref b1]
  obtain ⟨o9, h⟩ := h
  refine z_putP hG hO.1 v7 dX1_row_2_16 f_X1_105_13 ⟨_, rfl, Or.inl rfl⟩ o9 (by decide) (Or.inl ⟨_, rfl⟩) (fun A10 e10 => ?_)
  replace h := h A10 e10
  refine x_aload_n dX1_row_2_19 rfl ?_
  refine x_bipush_ (v := (65 : Int32)) dX1_row_2_20 (by decide) ?_
  obtain ⟨o12, h⟩ := h
  obtain ⟨R11, g11, h⟩ := h
  refine x_callV hG (Ky := kX1_closes) (As := [.int (65 : Int32)]) dX1_row_2_22 o12 rfl lk_X1_131 me_X1_closes is_X1_closes se_X1_closes rfl rfl (Nat.le_of_ble_eq_true rfl) (MX.post (m_X1_closes hG hO g11) ?_)
  rintro _ A11 (⟨rfl, h1⟩ | ⟨x11, rfl, h1⟩)
  rotate_left
  · exact ⟨rfl, Or.inr ⟨_, rfl, h1⟩⟩
  refine X.xok (fun w11 => ?_)
  replace h := h A11 w11 h1
  change X _ _ _ _ A11 _ _ []
  refine x_aload_n dX1_row_2_25 rfl ?_
  obtain ⟨o13, h⟩ := h
  refine z_new hG (c := 36) dX1_row_2_26 rfl q1062 (by decide) rfl o13 (fun A14 e14 w14 => ?_)
  replace h := h A14 e14
  refine x_dup dX1_row_2_29 rfl ?_
  refine x_iconst_ (v := (0 : Int32)) dX1_row_2_30 (by decide) ?_
  obtain ⟨R15, g15, h⟩ := h
  refine x_callI hG (Ky := kJ5_init_2) (As := [.int (0 : Int32)]) dX1_row_2_31 lk_X1_134 me_J5_init_2 is_J5_init_2 rfl rfl rfl rfl rfl (Nat.le_of_ble_eq_true rfl) (MX.post (m_w_J5_init_2 hG hO g15) ?_)
  rintro _ A15 ⟨rfl, h1⟩
  refine X.xok (fun w15 => ?_)
  replace h := h A15 w15 h1
  change X _ _ _ _ A15 _ _ [.ref A11.n, .ref b1]
  obtain ⟨o16, h⟩ := h
  refine z_putP hG hO.1 (some A11.n) dX1_row_2_34 f_X1_136_13 ⟨_, rfl, Or.inl rfl⟩ o16 (by decide) (Or.inl ⟨_, rfl⟩) (fun A17 e17 => ?_)
  replace h := h A17 e17
  refine x_aload_n dX1_row_2_37 rfl ?_
  refine x_bipush_ (v := (72 : Int32)) dX1_row_2_38 (by decide) ?_
  obtain ⟨o19, h⟩ := h
  obtain ⟨R18, g18, h⟩ := h
  refine x_callV hG (Ky := kX1_takes) (As := [.int (72 : Int32)]) dX1_row_2_40 o19 rfl lk_X1_79 me_X1_takes is_X1_takes se_X1_takes rfl rfl (Nat.le_of_ble_eq_true rfl) (MX.post (m_X1_takes hG hO g18) ?_)
  rintro _ A18 ⟨v18, rfl, zv18, h1⟩
  refine X.xok (fun w18 => ?_)
  replace h := h v18 A18 w18 zv18 h1
  change X _ _ _ _ A18 _ _ [.int v18]
  obtain ⟨J20, g20, h⟩ := h
  have kj20 : ∀ (A20 : xA), J20 A20 → X G (dp + 715) kX1_row_2 (hX (hV Q) E) A20 79 [some (.ref p), some (.ref b1), none] [] := by
    intro A20 h
    replace h := g20 A20 h
    refine x_aload_n dX1_row_2_79 rfl ?_
    refine x_aload_n dX1_row_2_80 rfl ?_
    obtain ⟨o22, h⟩ := h
    obtain ⟨R21, g21, h⟩ := h
    refine x_callV hG (Ky := kX1_end) (As := [.ref b1]) dX1_row_2_81 o22 rfl lk_X1_109 me_X1_end is_X1_end se_X1_end rfl rfl (Nat.le_of_ble_eq_true rfl) (MX.post (m_X1_end hG hO g21) ?_)
    rintro _ A21 (⟨rfl, h1⟩ | ⟨x21, rfl, h1⟩)
    rotate_left
    · exact ⟨rfl, Or.inr ⟨_, rfl, h1⟩⟩
    refine X.xok (fun w21 => ?_)
    replace h := h A21 w21 h1
    change X _ _ _ _ A21 _ _ []
    exact x_vret dX1_row_2_84 rfl (Or.inl ⟨rfl, h⟩)
  refine x_if_eq (tgt := 79) dX1_row_2_43 (by decide) (fun c43 => ?_) (fun c43 => ?_)
  · replace h := h.1 c43
    change X _ _ _ _ _ _ [some (.ref p), some (.ref b1), some (.int b)] []
    exact X.weak (xle_c rfl (xle_c rfl (xle_n xle_nil))) (kj20 A18 h)
  · replace h := h.2 c43
    refine x_aload_n dX1_row_2_46 rfl ?_
    refine x_bipush_ (v := (66 : Int32)) dX1_row_2_47 (by decide) ?_
    obtain ⟨o24, h⟩ := h
    obtain ⟨R23, g23, h⟩ := h
    refine x_callV hG (Ky := kX1_opens) (As := [.int (66 : Int32)]) dX1_row_2_49 o24 rfl lk_X1_128 me_X1_opens is_X1_opens se_X1_opens rfl rfl (Nat.le_of_ble_eq_true rfl) (MX.post (m_X1_opens hG hO g23) ?_)
    rintro _ A23 (⟨rfl, h1⟩ | ⟨x23, rfl, h1⟩)
    rotate_left
    · exact ⟨rfl, Or.inr ⟨_, rfl, h1⟩⟩
    refine X.xok (fun w23 => ?_)
    replace h := h A23 w23 h1
    change X _ _ _ _ A23 _ _ []
    obtain ⟨L25, ⟨n25, i25⟩, g25⟩ := h
    have kl25 : ∀ n25 : Nat, ∀ (A25 : xA), L25 n25 A25 → X G (dp + 715) kX1_row_2 (hX (hV Q) E) A25 52 [some (.ref p), some (.ref b1), none] [] := by
      intro n25
      induction n25 using Nat.strongRecOn with
      | ind n25 ih25 =>
        intro A25 h
        replace h := g25 n25 A25 h
        refine x_aload_n dX1_row_2_52 rfl ?_
        obtain ⟨o26, h⟩ := h
        refine x_get (v := va_rf (A25.P b1 7)) hG dX1_row_2_53 f_X1_136_13 o26 rfl ?_
        refine x_aload_n dX1_row_2_56 rfl ?_
        obtain ⟨o28, h⟩ := h
        obtain ⟨R27, g27, h⟩ := h
        refine x_callV hG (Ky := kX1_expr) (As := []) dX1_row_2_57 o28 rfl lk_X1_101 me_X1_expr is_X1_expr se_X1_expr rfl rfl (by simp only [List.append_eq, List.nil_append, List.map_cons, va_rf_cat]; exact Nat.le_of_ble_eq_true rfl) (MX.post ((rc_P hG hO 700).1 g27) ?_)
        rintro _ A27 (⟨v27, rfl, h1⟩ | ⟨x27, rfl, h1⟩)
        rotate_left
        · exact ⟨rfl, Or.inr ⟨_, rfl, h1⟩⟩
        refine X.xok (fun w27 => ?_)
        replace h := h v27 A27 w27 h1
        change X _ _ _ _ A27 _ _ [va_rf v27, va_rf (A25.P b1 7)]
        obtain ⟨b30, e30, h⟩ := h
        rw [e30]
        obtain ⟨o31, h⟩ := h
        obtain ⟨R29, g29, h⟩ := h
        refine x_callV hG (Ky := kJ5_add) (As := [va_rf v27]) dX1_row_2_60 o31 rfl lk_X1_120 me_J5_add is_J5_add se_J5_add rfl rfl (Nat.le_of_ble_eq_true rfl) (MX.post (m_w_J5_add hG hO g29) ?_)
        rintro _ A29 ⟨v29, rfl, zv29, h1⟩
        refine X.xok (fun w29 => ?_)
        replace h := h v29 A29 w29 zv29 h1
        change X _ _ _ _ A29 _ _ [.int v29]
        refine x_pop dX1_row_2_63 rfl ?_
        refine x_aload_n dX1_row_2_64 rfl ?_
        refine x_bipush_ (v := (68 : Int32)) dX1_row_2_65 (by decide) ?_
        obtain ⟨o33, h⟩ := h
        obtain ⟨R32, g32, h⟩ := h
        refine x_callV hG (Ky := kX1_takes) (As := [.int (68 : Int32)]) dX1_row_2_67 o33 rfl lk_X1_79 me_X1_takes is_X1_takes se_X1_takes rfl rfl (Nat.le_of_ble_eq_true rfl) (MX.post (m_X1_takes hG hO g32) ?_)
        rintro _ A32 ⟨v32, rfl, zv32, h1⟩
        refine X.xok (fun w32 => ?_)
        replace h := h v32 A32 w32 zv32 h1
        change X _ _ _ _ A32 _ _ [.int v32]
        refine x_if_ne (tgt := 52) dX1_row_2_70 (by decide) (fun c70 => ?_) (fun c70 => ?_)
        · replace h := h.2 c70
          obtain ⟨q25, l25, h⟩ := h
          change X _ _ _ _ _ _ [some (.ref p), some (.ref b1), none] []
          exact X.weak (xle_c rfl (xle_c rfl (xle_n xle_nil))) (ih25 q25 l25 A32 h)
        · replace h := h.1 c70
          refine x_aload_n dX1_row_2_73 rfl ?_
          refine x_bipush_ (v := (67 : Int32)) dX1_row_2_74 (by decide) ?_
          obtain ⟨o35, h⟩ := h
          obtain ⟨R34, g34, h⟩ := h
          refine x_callV hG (Ky := kX1_closes) (As := [.int (67 : Int32)]) dX1_row_2_76 o35 rfl lk_X1_131 me_X1_closes is_X1_closes se_X1_closes rfl rfl (Nat.le_of_ble_eq_true rfl) (MX.post (m_X1_closes hG hO g34) ?_)
          rintro _ A34 (⟨rfl, h1⟩ | ⟨x34, rfl, h1⟩)
          rotate_left
          · exact ⟨rfl, Or.inr ⟨_, rfl, h1⟩⟩
          refine X.xok (fun w34 => ?_)
          replace h := h A34 w34 h1
          change X _ _ _ _ A34 _ _ []
          change X _ _ _ _ _ _ [some (.ref p), some (.ref b1), none] []
          exact X.weak (xle_c rfl (xle_c rfl (xle_n xle_nil))) (kj20 A34 h)
    change X _ _ _ _ _ _ [some (.ref p), some (.ref b1), some (.int b)] []
    exact X.weak (xle_c rfl (xle_c rfl (xle_n xle_nil))) (kl25 n25 A23 i25)
def w_X1_formal (G : xG) (p : Nat) (Q : Option Nat → xA → Prop) (E : Nat → xA → Prop) (A : xA) : Prop := xok G A → A.tg p = 2 ∧ (∃ R1 : Int32 → xA → Prop, w_X1_here G p R1 A ∧ (∀ (v1 : Int32) (A1 : xA), xok G A1 → R1 v1 A1 → (A1.tg p = 2 ∧ (∃ R3 : Int32 → xA → Prop, w_X1_is G p (11 : Int32) R3 A1 ∧ (∀ (v3 : Int32) (A3 : xA), xok G A3 → (v3 = 0 ∨ v3 = 1) → R3 v3 A3 → (((v3 = 0 → A3.tg p = 2 ∧ (∃ R17 : Int32 → xA → Prop, w_X1_is G p (10 : Int32) R17 A3 ∧ (∀ (v17 : Int32) (A17 : xA), xok G A17 → (v17 = 0 ∨ v17 = 1) → R17 v17 A17 → (((v17 = 0 → A17.tg p = 2 ∧ (∃ R34 : Option Nat → xA → Prop, w_X1_wrong G p R34 A17 ∧ (∀ (v34 : Option Nat) (A34 : xA), xok G A34 → R34 v34 A34 → (∃ b36 : Nat, v34 = some b36 ∧ (E b36 A34))))) ∧ (¬ v17 = 0 → A17.tg p = 2 ∧ (∀ A20 : xA, A20 = A17.setI p 3 ((A17.I p 3) + (1 : Int32)) → (∃ R21 : Int32 → xA → Prop, w_X1_here G p R21 A20 ∧ (∀ (v21 : Int32) (A21 : xA), xok G A21 → R21 v21 A21 → (A21.tg p = 2 ∧ (∃ R22 : Int32 → xA → Prop, w_X1_needName G p R22 E A21 ∧ (∀ (v22 : Int32) (A22 : xA), xok G A22 → R22 v22 A22 → (A22.tg p = 2 ∧ (∃ R24 : Int32 → xA → Prop, w_X1_is G p (64 : Int32) R24 A22 ∧ (∀ (v24 : Int32) (A24 : xA), xok G A24 → (v24 = 0 ∨ v24 = 1) → R24 v24 A24 → (∃ J26 : xA → Prop, (∀ (A26 : xA), J26 A26 → rmO G A26 5 ∧ (∀ A28 : xA, A28 = A26.new 23 0 5 0 → (∃ R29 : xA → Prop, w_X24_init G A26.n v1 v21 v22 (if v24 = 0 then (0 : Int32) else (1 : Int32)) v3 R29 A28 ∧ (∀ A29 : xA, xok G A29 → R29 A29 → (Q (some A26.n) A29))))) ∧ (((if v24 = 0 then (0 : Int32) else (1 : Int32)) = 0 → J26 A24) ∧ (¬ (if v24 = 0 then (0 : Int32) else (1 : Int32)) = 0 → A24.tg p = 2 ∧ (∃ R30 : xA → Prop, w_X1_opens G p (64 : Int32) R30 E A24 ∧ (∀ A30 : xA, xok G A30 → R30 A30 → (A30.tg p = 2 ∧ (∃ R32 : xA → Prop, w_X1_closes G p (65 : Int32) R32 E A30 ∧ (∀ A32 : xA, xok G A32 → R32 A32 → (J26 A32)))))))))))))))))))))))) ∧ (¬ v3 = 0 → A3.tg p = 2 ∧ (∀ A6 : xA, A6 = A3.setI p 3 ((A3.I p 3) + (1 : Int32)) → (∃ R7 : Int32 → xA → Prop, w_X1_here G p R7 A6 ∧ (∀ (v7 : Int32) (A7 : xA), xok G A7 → R7 v7 A7 → (A7.tg p = 2 ∧ (∃ R8 : Int32 → xA → Prop, w_X1_needName G p R8 E A7 ∧ (∀ (v8 : Int32) (A8 : xA), xok G A8 → R8 v8 A8 → (A8.tg p = 2 ∧ (∃ R10 : xA → Prop, w_X1_opens G p (64 : Int32) R10 E A8 ∧ (∀ A10 : xA, xok G A10 → R10 A10 → (A10.tg p = 2 ∧ (∃ R12 : xA → Prop, w_X1_closes G p (65 : Int32) R12 E A10 ∧ (∀ A12 : xA, xok G A12 → R12 A12 → (rmO G A12 5 ∧ (∀ A15 : xA, A15 = A12.new 23 0 5 0 → (∃ R16 : xA → Prop, w_X24_init G A12.n v1 v7 v8 (1 : Int32) v3 R16 A15 ∧ (∀ A16 : xA, xok G A16 → R16 A16 → (Q (some A12.n) A16)))))))))))))))))))))))))
theorem m_X1_formal (hG : xOK G) (hO : xHO G) {dp : Nat} {p : Nat} {Q : Option Nat → xA → Prop} {E : Nat → xA → Prop} {A : xA} (h : w_X1_formal G p Q E A) : MX G (dp + 5) kX1_formal [.ref p] A (hX (hR Q) E) := by
  unfold w_X1_formal at h
  refine MX.of rfl (Nat.le_of_ble_eq_true rfl) ?_
  change X _ _ _ _ _ _ [some (.ref p), none, none, none, none, none] _
  refine X.xok (fun w0 => ?_)
  replace h := h w0
  refine x_aload_n dX1_formal_0 rfl ?_
  obtain ⟨o2, h⟩ := h
  obtain ⟨R1, g1, h⟩ := h
  refine x_callV hG (Ky := kX1_here) (As := []) dX1_formal_1 o2 rfl lk_X1_66 me_X1_here is_X1_here se_X1_here rfl rfl (Nat.le_of_ble_eq_true rfl) (MX.post (m_X1_here hG hO g1) ?_)
  rintro _ A1 ⟨v1, rfl, h1⟩
  refine X.xok (fun w1 => ?_)
  replace h := h v1 A1 w1 h1
  change X _ _ _ _ A1 _ _ [.int v1]
  refine x_istore_n dX1_formal_4 (by decide) ?_
  refine x_aload_n dX1_formal_5 rfl ?_
  refine x_bipush_ (v := (11 : Int32)) dX1_formal_6 (by decide) ?_
  obtain ⟨o4, h⟩ := h
  obtain ⟨R3, g3, h⟩ := h
  refine x_callV hG (Ky := kX1_is) (As := [.int (11 : Int32)]) dX1_formal_8 o4 rfl lk_X1_71 me_X1_is is_X1_is se_X1_is rfl rfl (Nat.le_of_ble_eq_true rfl) (MX.post (m_X1_is hG hO g3) ?_)
  rintro _ A3 ⟨v3, rfl, zv3, h1⟩
  refine X.xok (fun w3 => ?_)
  replace h := h v3 A3 w3 zv3 h1
  change X _ _ _ _ A3 _ _ [.int v3]
  refine x_istore_n dX1_formal_11 (by decide) ?_
  refine x_iload_n dX1_formal_12 rfl ?_
  refine x_if_ne (tgt := 30) dX1_formal_13 (by decide) (fun c13 => ?_) (fun c13 => ?_)
  · replace h := h.2 c13
    refine x_aload_n dX1_formal_30 rfl ?_
    refine x_dup dX1_formal_31 rfl ?_
    obtain ⟨o5, h⟩ := h
    refine x_get (v := .int (A3.I p 3)) hG dX1_formal_32 f_X1_36_1 o5 rfl ?_
    refine x_iconst_ (v := (1 : Int32)) dX1_formal_35 (by decide) ?_
    refine x_iadd dX1_formal_36 ?_
    refine z_putI hG hO.1 dX1_formal_37 f_X1_36_1 ⟨_, rfl, Or.inl rfl⟩ o5 (by decide) rfl rfl ⟨_, rfl⟩ (fun A6 e6 => ?_)
    replace h := h A6 e6
    refine x_aload_n dX1_formal_40 rfl ?_
    obtain ⟨R7, g7, h⟩ := h
    refine x_callV hG (Ky := kX1_here) (As := []) dX1_formal_41 (kI e6 o5) rfl lk_X1_66 me_X1_here is_X1_here se_X1_here rfl rfl (Nat.le_of_ble_eq_true rfl) (MX.post (m_X1_here hG hO g7) ?_)
    rintro _ A7 ⟨v7, rfl, h1⟩
    refine X.xok (fun w7 => ?_)
    replace h := h v7 A7 w7 h1
    change X _ _ _ _ A7 _ _ [.int v7]
    refine x_istore_n dX1_formal_44 (by decide) ?_
    refine x_aload_n dX1_formal_45 rfl ?_
    obtain ⟨o9, h⟩ := h
    obtain ⟨R8, g8, h⟩ := h
    refine x_callV hG (Ky := kX1_needName) (As := []) dX1_formal_46 o9 rfl lk_X1_95 me_X1_needName is_X1_needName se_X1_needName rfl rfl (Nat.le_of_ble_eq_true rfl) (MX.post (m_X1_needName hG hO g8) ?_)
    rintro _ A8 (⟨v8, rfl, h1⟩ | ⟨x8, rfl, h1⟩)
    rotate_left
    · exact ⟨rfl, Or.inr ⟨_, rfl, h1⟩⟩
    refine X.xok (fun w8 => ?_)
    replace h := h v8 A8 w8 h1
    change X _ _ _ _ A8 _ _ [.int v8]
    refine x_istore dX1_formal_49 (by decide) ?_
    refine x_iload_n dX1_formal_51 rfl ?_
    refine x_if_ne (tgt := 64) dX1_formal_52 (by decide) (fun _ => ?_) (fun h => absurd h c13)
    refine x_iconst_ (v := (1 : Int32)) dX1_formal_64 (by decide) ?_
    refine x_goto (tgt := 69) dX1_formal_65 (by decide) ?_
    refine x_istore dX1_formal_69 (by decide) ?_
    refine x_iload dX1_formal_71 rfl ?_
    refine x_if_eq (tgt := 88) dX1_formal_73 (by decide) (fun h => absurd h (by decide)) (fun _ => ?_)
    refine x_aload_n dX1_formal_76 rfl ?_
    refine x_bipush_ (v := (64 : Int32)) dX1_formal_77 (by decide) ?_
    obtain ⟨o11, h⟩ := h
    obtain ⟨R10, g10, h⟩ := h
    refine x_callV hG (Ky := kX1_opens) (As := [.int (64 : Int32)]) dX1_formal_79 o11 rfl lk_X1_128 me_X1_opens is_X1_opens se_X1_opens rfl rfl (Nat.le_of_ble_eq_true rfl) (MX.post (m_X1_opens hG hO g10) ?_)
    rintro _ A10 (⟨rfl, h1⟩ | ⟨x10, rfl, h1⟩)
    rotate_left
    · exact ⟨rfl, Or.inr ⟨_, rfl, h1⟩⟩
    refine X.xok (fun w10 => ?_)
    replace h := h A10 w10 h1
    change X _ _ _ _ A10 _ _ []
    refine x_aload_n dX1_formal_82 rfl ?_
    refine x_bipush_ (v := (65 : Int32)) dX1_formal_83 (by decide) ?_
    obtain ⟨o13, h⟩ := h
    obtain ⟨R12, g12, h⟩ := h
    refine x_callV hG (Ky := kX1_closes) (As := [.int (65 : Int32)]) dX1_formal_85 o13 rfl lk_X1_131 me_X1_closes is_X1_closes se_X1_closes rfl rfl (Nat.le_of_ble_eq_true rfl) (MX.post (m_X1_closes hG hO g12) ?_)
    rintro _ A12 (⟨rfl, h1⟩ | ⟨x12, rfl, h1⟩)
    rotate_left
    · exact ⟨rfl, Or.inr ⟨_, rfl, h1⟩⟩
    refine X.xok (fun w12 => ?_)
    replace h := h A12 w12 h1
    change X _ _ _ _ A12 _ _ []
    obtain ⟨o14, h⟩ := h
    refine z_new hG (c := 22) dX1_formal_88 rfl q1476 (by decide) rfl o14 (fun A15 e15 w15 => ?_)
    replace h := h A15 e15
    refine x_dup dX1_formal_91 rfl ?_
    refine x_iload_n dX1_formal_92 rfl ?_
    refine x_iload_n dX1_formal_93 rfl ?_
    refine x_iload dX1_formal_94 rfl ?_
    refine x_iload dX1_formal_96 rfl ?_
    refine x_iload_n dX1_formal_98 rfl ?_
    obtain ⟨R16, g16, h⟩ := h
    refine x_callI hG (Ky := kX24_init) (As := [.int v1, .int v7, .int v8, .int (1 : Int32), .int v3]) dX1_formal_99 lk_X1_166 me_X24_init is_X24_init rfl rfl rfl rfl rfl (Nat.le_of_ble_eq_true rfl) (MX.post (m_X24_init hG hO g16) ?_)
    rintro _ A16 ⟨rfl, h1⟩
    refine X.xok (fun w16 => ?_)
    replace h := h A16 w16 h1
    change X _ _ _ _ A16 _ _ [.ref A12.n]
    exact x_aret (r := (some A12.n)) dX1_formal_102 rfl (Or.inl ⟨_, rfl⟩) (Or.inl ⟨_, rfl, h⟩)
  · replace h := h.1 c13
    refine x_aload_n dX1_formal_16 rfl ?_
    refine x_bipush_ (v := (10 : Int32)) dX1_formal_17 (by decide) ?_
    obtain ⟨o18, h⟩ := h
    obtain ⟨R17, g17, h⟩ := h
    refine x_callV hG (Ky := kX1_is) (As := [.int (10 : Int32)]) dX1_formal_19 o18 rfl lk_X1_71 me_X1_is is_X1_is se_X1_is rfl rfl (Nat.le_of_ble_eq_true rfl) (MX.post (m_X1_is hG hO g17) ?_)
    rintro _ A17 ⟨v17, rfl, zv17, h1⟩
    refine X.xok (fun w17 => ?_)
    replace h := h v17 A17 w17 zv17 h1
    change X _ _ _ _ A17 _ _ [.int v17]
    refine x_if_ne (tgt := 30) dX1_formal_22 (by decide) (fun c22 => ?_) (fun c22 => ?_)
    · replace h := h.2 c22
      refine x_aload_n dX1_formal_30 rfl ?_
      refine x_dup dX1_formal_31 rfl ?_
      obtain ⟨o19, h⟩ := h
      refine x_get (v := .int (A17.I p 3)) hG dX1_formal_32 f_X1_36_1 o19 rfl ?_
      refine x_iconst_ (v := (1 : Int32)) dX1_formal_35 (by decide) ?_
      refine x_iadd dX1_formal_36 ?_
      refine z_putI hG hO.1 dX1_formal_37 f_X1_36_1 ⟨_, rfl, Or.inl rfl⟩ o19 (by decide) rfl rfl ⟨_, rfl⟩ (fun A20 e20 => ?_)
      replace h := h A20 e20
      refine x_aload_n dX1_formal_40 rfl ?_
      obtain ⟨R21, g21, h⟩ := h
      refine x_callV hG (Ky := kX1_here) (As := []) dX1_formal_41 (kI e20 o19) rfl lk_X1_66 me_X1_here is_X1_here se_X1_here rfl rfl (Nat.le_of_ble_eq_true rfl) (MX.post (m_X1_here hG hO g21) ?_)
      rintro _ A21 ⟨v21, rfl, h1⟩
      refine X.xok (fun w21 => ?_)
      replace h := h v21 A21 w21 h1
      change X _ _ _ _ A21 _ _ [.int v21]
      refine x_istore_n dX1_formal_44 (by decide) ?_
      refine x_aload_n dX1_formal_45 rfl ?_
      obtain ⟨o23, h⟩ := h
      obtain ⟨R22, g22, h⟩ := h
      refine x_callV hG (Ky := kX1_needName) (As := []) dX1_formal_46 o23 rfl lk_X1_95 me_X1_needName is_X1_needName se_X1_needName rfl rfl (Nat.le_of_ble_eq_true rfl) (MX.post (m_X1_needName hG hO g22) ?_)
      rintro _ A22 (⟨v22, rfl, h1⟩ | ⟨x22, rfl, h1⟩)
      rotate_left
      · exact ⟨rfl, Or.inr ⟨_, rfl, h1⟩⟩
      refine X.xok (fun w22 => ?_)
      replace h := h v22 A22 w22 h1
      change X _ _ _ _ A22 _ _ [.int v22]
      refine x_istore dX1_formal_49 (by decide) ?_
      refine x_iload_n dX1_formal_51 rfl ?_
      refine x_if_ne (tgt := 64) dX1_formal_52 (by decide) (fun h => absurd c13 h) (fun _ => ?_)
      refine x_aload_n dX1_formal_55 rfl ?_
      refine x_bipush_ (v := (64 : Int32)) dX1_formal_56 (by decide) ?_
      obtain ⟨o25, h⟩ := h
      obtain ⟨R24, g24, h⟩ := h
      refine x_callV hG (Ky := kX1_is) (As := [.int (64 : Int32)]) dX1_formal_58 o25 rfl lk_X1_71 me_X1_is is_X1_is se_X1_is rfl rfl (Nat.le_of_ble_eq_true rfl) (MX.post (m_X1_is hG hO g24) ?_)
      rintro _ A24 ⟨v24, rfl, zv24, h1⟩
      refine X.xok (fun w24 => ?_)
      replace h := h v24 A24 w24 zv24 h1
      change X _ _ _ _ A24 _ _ [.int v24]
      refine x_via 69 (A' := A24) (lv' := [some (.ref p), some (.int v1), some (.int v3), some (.int v21), some (.int v22), none]) (st' := [.int (if v24 = 0 then (0 : Int32) else (1 : Int32))]) ?_ (fun k69 => ?_)
      rotate_left
      · refine x_if_eq (tgt := 68) dX1_formal_61 (by decide) (fun c61 => ?_) (fun c61 => ?_)
        · refine x_iconst_ (v := (0 : Int32)) dX1_formal_68 (by decide) ?_
          change X _ _ _ _ _ _ [some (.ref p), some (.int v1), some (.int v3), some (.int v21), some (.int v22), none] [.int (0 : Int32)]
          simp only [if_pos c61] at k69 ⊢
          exact X.weak (xle_c rfl (xle_c rfl (xle_c rfl (xle_c rfl (xle_c rfl (xle_n xle_nil)))))) k69
        · refine x_iconst_ (v := (1 : Int32)) dX1_formal_64 (by decide) ?_
          refine x_goto (tgt := 69) dX1_formal_65 (by decide) ?_
          change X _ _ _ _ _ _ [some (.ref p), some (.int v1), some (.int v3), some (.int v21), some (.int v22), none] [.int (1 : Int32)]
          simp only [if_neg c61] at k69 ⊢
          exact X.weak (xle_c rfl (xle_c rfl (xle_c rfl (xle_c rfl (xle_c rfl (xle_n xle_nil)))))) k69
      refine x_istore dX1_formal_69 (by decide) ?_
      refine x_iload dX1_formal_71 rfl ?_
      obtain ⟨J26, g26, h⟩ := h
      have kj26 : ∀ (A26 : xA), J26 A26 → X G (dp + 5) kX1_formal (hX (hR Q) E) A26 88 [none, some (.int v1), some (.int v3), some (.int v21), some (.int v22), some (.int (if v24 = 0 then (0 : Int32) else (1 : Int32)))] [] := by
        intro A26 h
        replace h := g26 A26 h
        obtain ⟨o27, h⟩ := h
        refine z_new hG (c := 22) dX1_formal_88 rfl q1476 (by decide) rfl o27 (fun A28 e28 w28 => ?_)
        replace h := h A28 e28
        refine x_dup dX1_formal_91 rfl ?_
        refine x_iload_n dX1_formal_92 rfl ?_
        refine x_iload_n dX1_formal_93 rfl ?_
        refine x_iload dX1_formal_94 rfl ?_
        refine x_iload dX1_formal_96 rfl ?_
        refine x_iload_n dX1_formal_98 rfl ?_
        obtain ⟨R29, g29, h⟩ := h
        refine x_callI hG (Ky := kX24_init) (As := [.int v1, .int v21, .int v22, .int (if v24 = 0 then (0 : Int32) else (1 : Int32)), .int v3]) dX1_formal_99 lk_X1_166 me_X24_init is_X24_init rfl rfl rfl rfl rfl (Nat.le_of_ble_eq_true rfl) (MX.post (m_X24_init hG hO g29) ?_)
        rintro _ A29 ⟨rfl, h1⟩
        refine X.xok (fun w29 => ?_)
        replace h := h A29 w29 h1
        change X _ _ _ _ A29 _ _ [.ref A26.n]
        exact x_aret (r := (some A26.n)) dX1_formal_102 rfl (Or.inl ⟨_, rfl⟩) (Or.inl ⟨_, rfl, h⟩)
      refine x_if_eq (tgt := 88) dX1_formal_73 (by decide) (fun c73 => ?_) (fun c73 => ?_)
      · replace h := h.1 c73
        change X _ _ _ _ _ _ [some (.ref p), some (.int v1), some (.int v3), some (.int v21), some (.int v22), some (.int (if v24 = 0 then (0 : Int32) else (1 : Int32)))] []
        exact X.weak (xle_n (xle_c rfl (xle_c rfl (xle_c rfl (xle_c rfl (xle_c rfl xle_nil)))))) (kj26 A24 h)
      · replace h := h.2 c73
        refine x_aload_n dX1_formal_76 rfl ?_
        refine x_bipush_ (v := (64 : Int32)) dX1_formal_77 (by decide) ?_
        obtain ⟨o31, h⟩ := h
        obtain ⟨R30, g30, h⟩ := h
        refine x_callV hG (Ky := kX1_opens) (As := [.int (64 : Int32)]) dX1_formal_79 o31 rfl lk_X1_128 me_X1_opens is_X1_opens se_X1_opens rfl rfl (Nat.le_of_ble_eq_true rfl) (MX.post (m_X1_opens hG hO g30) ?_)
        rintro _ A30 (⟨rfl, h1⟩ | ⟨x30, rfl, h1⟩)
        rotate_left
        · exact ⟨rfl, Or.inr ⟨_, rfl, h1⟩⟩
        refine X.xok (fun w30 => ?_)
        replace h := h A30 w30 h1
        change X _ _ _ _ A30 _ _ []
        refine x_aload_n dX1_formal_82 rfl ?_
        refine x_bipush_ (v := (65 : Int32)) dX1_formal_83 (by decide) ?_
        obtain ⟨o33, h⟩ := h
        obtain ⟨R32, g32, h⟩ := h
        refine x_callV hG (Ky := kX1_closes) (As := [.int (65 : Int32)]) dX1_formal_85 o33 rfl lk_X1_131 me_X1_closes is_X1_closes se_X1_closes rfl rfl (Nat.le_of_ble_eq_true rfl) (MX.post (m_X1_closes hG hO g32) ?_)
        rintro _ A32 (⟨rfl, h1⟩ | ⟨x32, rfl, h1⟩)
        rotate_left
        · exact ⟨rfl, Or.inr ⟨_, rfl, h1⟩⟩
        refine X.xok (fun w32 => ?_)
        replace h := h A32 w32 h1
        change X _ _ _ _ A32 _ _ []
        change X _ _ _ _ _ _ [some (.ref p), some (.int v1), some (.int v3), some (.int v21), some (.int v22), some (.int (if v24 = 0 then (0 : Int32) else (1 : Int32)))] []
        exact X.weak (xle_n (xle_c rfl (xle_c rfl (xle_c rfl (xle_c rfl (xle_c rfl xle_nil)))))) (kj26 A32 h)
    · replace h := h.1 c22
      refine x_aload_n dX1_formal_25 rfl ?_
      obtain ⟨o35, h⟩ := h
      obtain ⟨R34, g34, h⟩ := h
      refine x_callV hG (Ky := kX1_wrong) (As := []) dX1_formal_26 o35 rfl lk_X1_82 me_X1_wrong is_X1_wrong se_X1_wrong rfl rfl (Nat.le_of_ble_eq_true rfl) (MX.post (m_X1_wrong hG hO g34) ?_)
      rintro _ A34 ⟨v34, rfl, h1⟩
      refine X.xok (fun w34 => ?_)
      replace h := h v34 A34 w34 h1
      change X _ _ _ _ A34 _ _ [va_rf v34]
      obtain ⟨b36, e36, h⟩ := h
      rw [e36]
      exact x_athrow dX1_formal_29 rfl (Or.inr ⟨_, rfl, h⟩)
end W088
