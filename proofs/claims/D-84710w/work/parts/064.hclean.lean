/-! ===== 064.hclean (tools/h045.py) ===== -/
set_option maxRecDepth 100000
section W064
variable {G : xG}
def w_X8_init (G : xG) (p : Nat) (l : Option Nat) (Q : xA → Prop) (A : xA) : Prop := xok G A → rmA G A (64 : Int32) ∧ (∀ A2 : xA, A2 = A.new 200 (ix (64 : Int32)) (ix (64 : Int32)) 0 → (A2.tg p = 8 ∧ (∀ A4 : xA, A4 = A2.setP p 2 (some A.n) → (rmO G A4 3 ∧ (∀ A6 : xA, A6 = A4.new 37 0 3 0 → (∃ R7 : xA → Prop, w_J5_init G A4.n R7 A6 ∧ (∀ A7 : xA, xok G A7 → R7 A7 → (A7.tg p = 8 ∧ (∀ A9 : xA, A9 = A7.setP p 3 (some A4.n) → (rmA G A9 (64 : Int32) ∧ (∀ A11 : xA, A11 = A9.new 200 (ix (64 : Int32)) (ix (64 : Int32)) 0 → (∀ A12 : xA, A12 = A11.setP p 4 (some A9.n) → (rmA G A12 (64 : Int32) ∧ (∀ A14 : xA, A14 = A12.new 200 (ix (64 : Int32)) (ix (64 : Int32)) 0 → (∀ A15 : xA, A15 = A14.setP p 5 (some A12.n) → (rmA G A15 (64 : Int32) ∧ (∀ A17 : xA, A17 = A15.new 200 (ix (64 : Int32)) (ix (64 : Int32)) 0 → (∀ A18 : xA, A18 = A17.setP p 6 (some A15.n) → (rmA G A18 (64 : Int32) ∧ (∀ A20 : xA, A20 = A18.new 200 (ix (64 : Int32)) (ix (64 : Int32)) 0 → (∀ A21 : xA, A21 = A20.setP p 7 (some A18.n) → (rmA G A21 (64 : Int32) ∧ (∀ A23 : xA, A23 = A21.new 200 (ix (64 : Int32)) (ix (64 : Int32)) 0 → (∀ A24 : xA, A24 = A23.setP p 8 (some A21.n) → (rmA G A24 (64 : Int32) ∧ (∀ A26 : xA, A26 = A24.new 200 (ix (64 : Int32)) (ix (64 : Int32)) 0 → (∀ A27 : xA, A27 = A26.setP p 9 (some A24.n) → (rmA G A27 (64 : Int32) ∧ (∀ A29 : xA, A29 = A27.new 200 (ix (64 : Int32)) (ix (64 : Int32)) 0 → (∀ A30 : xA, A30 = A29.setP p 10 (some A27.n) → (rmA G A30 (64 : Int32) ∧ (∀ A32 : xA, A32 = A30.new 200 (ix (64 : Int32)) (ix (64 : Int32)) 0 → (∀ A33 : xA, A33 = A32.setP p 19 (some A30.n) → (rmA G A33 (64 : Int32) ∧ (∀ A35 : xA, A35 = A33.new 200 (ix (64 : Int32)) (ix (64 : Int32)) 0 → (∀ A36 : xA, A36 = A35.setP p 20 (some A33.n) → (rmA G A36 (0 : Int32) ∧ (∀ A38 : xA, A38 = A36.new 200 (ix (0 : Int32)) (ix (0 : Int32)) 0 → (∀ A39 : xA, A39 = A38.setP p 21 (some A36.n) → (∀ A40 : xA, A40 = A39.setP p 0 l → (Q A40)))))))))))))))))))))))))))))))))))))))))
theorem m_X8_init (hG : xOK G) (hO : xHO G) {dp : Nat} {p : Nat} {l : Option Nat} {Q : xA → Prop} {A : xA} (h : w_X8_init G p l Q A) : MX G (dp + 4) kX8_init [.ref p, va_rf l] A (hV Q) := by
  unfold w_X8_init at h
  refine MX.of rfl (by cases l <;> exact Nat.le_of_ble_eq_true rfl) ?_
  refine X.lvs (lv' := [some (.ref p), some (va_rf l)]) (by cases l <;> rfl) ?_
  refine X.xok (fun w0 => ?_)
  replace h := h w0
  refine x_aload_n dX8_init_0 rfl ?_
  refine x_objInit hG dX8_init_1 q605 q261 q262 (Nat.le_of_ble_eq_true rfl) ?_
  refine x_aload_n dX8_init_4 rfl ?_
  refine x_bipush_ (v := (64 : Int32)) dX8_init_5 (by decide) ?_
  obtain ⟨o1, h⟩ := h
  refine z_newa hG (j := 0) dX8_init_7 (by decide) rfl o1 q378 (fun A2 e2 w2 => ?_)
  replace h := h A2 e2
  obtain ⟨o3, h⟩ := h
  refine z_putP hG hO.1 (some A.n) dX8_init_9 f_X8_9_7 ⟨_, rfl, Or.inl rfl⟩ o3 (by decide) (Or.inr ⟨_, rfl⟩) (fun A4 e4 => ?_)
  replace h := h A4 e4
  refine x_aload_n dX8_init_12 rfl ?_
  obtain ⟨o5, h⟩ := h
  refine z_new hG (c := 36) dX8_init_13 rfl q606 (by decide) rfl o5 (fun A6 e6 w6 => ?_)
  replace h := h A6 e6
  refine x_dup dX8_init_16 rfl ?_
  obtain ⟨R7, g7, h⟩ := h
  refine x_callI hG (Ky := kJ5_init) (As := []) dX8_init_17 lk_X8_17 me_J5_init is_J5_init rfl rfl rfl rfl rfl (Nat.le_of_ble_eq_true rfl) (MX.post (m_w_J5_init hG hO g7) ?_)
  rintro _ A7 ⟨rfl, h1⟩
  refine X.xok (fun w7 => ?_)
  replace h := h A7 w7 h1
  change X _ _ _ _ A7 _ _ [.ref A4.n, .ref p]
  obtain ⟨o8, h⟩ := h
  refine z_putP hG hO.1 (some A4.n) dX8_init_20 f_X8_18_7 ⟨_, rfl, Or.inr ⟨rfl, rfl, rfl⟩⟩ o8 (by decide) (Or.inl ⟨_, rfl⟩) (fun A9 e9 => ?_)
  replace h := h A9 e9
  refine x_aload_n dX8_init_23 rfl ?_
  refine x_bipush_ (v := (64 : Int32)) dX8_init_24 (by decide) ?_
  obtain ⟨o10, h⟩ := h
  refine z_newa hG (j := 0) dX8_init_26 (by decide) rfl o10 q378 (fun A11 e11 w11 => ?_)
  replace h := h A11 e11
  refine z_putP hG hO.1 (some A9.n) dX8_init_28 f_X8_22_7 ⟨_, rfl, Or.inl rfl⟩ (kN e11 w11 (kP e9 o8)) (by decide) (Or.inr ⟨_, rfl⟩) (fun A12 e12 => ?_)
  replace h := h A12 e12
  refine x_aload_n dX8_init_31 rfl ?_
  refine x_bipush_ (v := (64 : Int32)) dX8_init_32 (by decide) ?_
  obtain ⟨o13, h⟩ := h
  refine z_newa hG (j := 0) dX8_init_34 (by decide) rfl o13 q378 (fun A14 e14 w14 => ?_)
  replace h := h A14 e14
  refine z_putP hG hO.1 (some A12.n) dX8_init_36 f_X8_25_7 ⟨_, rfl, Or.inl rfl⟩ (kN e14 w14 (kP e12 (kN e11 w11 (kP e9 o8)))) (by decide) (Or.inr ⟨_, rfl⟩) (fun A15 e15 => ?_)
  replace h := h A15 e15
  refine x_aload_n dX8_init_39 rfl ?_
  refine x_bipush_ (v := (64 : Int32)) dX8_init_40 (by decide) ?_
  obtain ⟨o16, h⟩ := h
  refine z_newa hG (j := 0) dX8_init_42 (by decide) rfl o16 q378 (fun A17 e17 w17 => ?_)
  replace h := h A17 e17
  refine z_putP hG hO.1 (some A15.n) dX8_init_44 f_X8_28_7 ⟨_, rfl, Or.inl rfl⟩ (kN e17 w17 (kP e15 (kN e14 w14 (kP e12 (kN e11 w11 (kP e9 o8)))))) (by decide) (Or.inr ⟨_, rfl⟩) (fun A18 e18 => ?_)
  replace h := h A18 e18
  refine x_aload_n dX8_init_47 rfl ?_
  refine x_bipush_ (v := (64 : Int32)) dX8_init_48 (by decide) ?_
  obtain ⟨o19, h⟩ := h
  refine z_newa hG (j := 0) dX8_init_50 (by decide) rfl o19 q378 (fun A20 e20 w20 => ?_)
  replace h := h A20 e20
  refine z_putP hG hO.1 (some A18.n) dX8_init_52 f_X8_31_7 ⟨_, rfl, Or.inl rfl⟩ (kN e20 w20 (kP e18 (kN e17 w17 (kP e15 (kN e14 w14 (kP e12 (kN e11 w11 (kP e9 o8)))))))) (by decide) (Or.inr ⟨_, rfl⟩) (fun A21 e21 => ?_)
  replace h := h A21 e21
  refine x_aload_n dX8_init_55 rfl ?_
  refine x_bipush_ (v := (64 : Int32)) dX8_init_56 (by decide) ?_
  obtain ⟨o22, h⟩ := h
  refine z_newa hG (j := 0) dX8_init_58 (by decide) rfl o22 q378 (fun A23 e23 w23 => ?_)
  replace h := h A23 e23
  refine z_putP hG hO.1 (some A21.n) dX8_init_60 f_X8_34_7 ⟨_, rfl, Or.inl rfl⟩ (kN e23 w23 (kP e21 (kN e20 w20 (kP e18 (kN e17 w17 (kP e15 (kN e14 w14 (kP e12 (kN e11 w11 (kP e9 o8)))))))))) (by decide) (Or.inr ⟨_, rfl⟩) (fun A24 e24 => ?_)
  replace h := h A24 e24
  refine x_aload_n dX8_init_63 rfl ?_
  refine x_bipush_ (v := (64 : Int32)) dX8_init_64 (by decide) ?_
  obtain ⟨o25, h⟩ := h
  refine z_newa hG (j := 0) dX8_init_66 (by decide) rfl o25 q378 (fun A26 e26 w26 => ?_)
  replace h := h A26 e26
  refine z_putP hG hO.1 (some A24.n) dX8_init_68 f_X8_37_7 ⟨_, rfl, Or.inl rfl⟩ (kN e26 w26 (kP e24 (kN e23 w23 (kP e21 (kN e20 w20 (kP e18 (kN e17 w17 (kP e15 (kN e14 w14 (kP e12 (kN e11 w11 (kP e9 o8)))))))))))) (by decide) (Or.inr ⟨_, rfl⟩) (fun A27 e27 => ?_)
  replace h := h A27 e27
  refine x_aload_n dX8_init_71 rfl ?_
  refine x_bipush_ (v := (64 : Int32)) dX8_init_72 (by decide) ?_
  obtain ⟨o28, h⟩ := h
  refine z_newa hG (j := 0) dX8_init_74 (by decide) rfl o28 q378 (fun A29 e29 w29 => ?_)
  replace h := h A29 e29
  refine z_putP hG hO.1 (some A27.n) dX8_init_76 f_X8_40_7 ⟨_, rfl, Or.inl rfl⟩ (kN e29 w29 (kP e27 (kN e26 w26 (kP e24 (kN e23 w23 (kP e21 (kN e20 w20 (kP e18 (kN e17 w17 (kP e15 (kN e14 w14 (kP e12 (kN e11 w11 (kP e9 o8)))))))))))))) (by decide) (Or.inr ⟨_, rfl⟩) (fun A30 e30 => ?_)
  replace h := h A30 e30
  refine x_aload_n dX8_init_79 rfl ?_
  refine x_bipush_ (v := (64 : Int32)) dX8_init_80 (by decide) ?_
  obtain ⟨o31, h⟩ := h
  refine z_newa hG (j := 0) dX8_init_82 (by decide) rfl o31 q378 (fun A32 e32 w32 => ?_)
  replace h := h A32 e32
  refine z_putP hG hO.1 (some A30.n) dX8_init_84 f_X8_43_7 ⟨_, rfl, Or.inl rfl⟩ (kN e32 w32 (kP e30 (kN e29 w29 (kP e27 (kN e26 w26 (kP e24 (kN e23 w23 (kP e21 (kN e20 w20 (kP e18 (kN e17 w17 (kP e15 (kN e14 w14 (kP e12 (kN e11 w11 (kP e9 o8)))))))))))))))) (by decide) (Or.inr ⟨_, rfl⟩) (fun A33 e33 => ?_)
  replace h := h A33 e33
  refine x_aload_n dX8_init_87 rfl ?_
  refine x_bipush_ (v := (64 : Int32)) dX8_init_88 (by decide) ?_
  obtain ⟨o34, h⟩ := h
  refine z_newa hG (j := 0) dX8_init_90 (by decide) rfl o34 q378 (fun A35 e35 w35 => ?_)
  replace h := h A35 e35
  refine z_putP hG hO.1 (some A33.n) dX8_init_92 f_X8_46_7 ⟨_, rfl, Or.inl rfl⟩ (kN e35 w35 (kP e33 (kN e32 w32 (kP e30 (kN e29 w29 (kP e27 (kN e26 w26 (kP e24 (kN e23 w23 (kP e21 (kN e20 w20 (kP e18 (kN e17 w17 (kP e15 (kN e14 w14 (kP e12 (kN e11 w11 (kP e9 o8)))))))))))))))))) (by decide) (Or.inr ⟨_, rfl⟩) (fun A36 e36 => ?_)
  replace h := h A36 e36
  refine x_aload_n dX8_init_95 rfl ?_
  refine x_iconst_ (v := (0 : Int32)) dX8_init_96 (by decide) ?_
  obtain ⟨o37, h⟩ := h
  refine z_newa hG (j := 0) dX8_init_97 (by decide) rfl o37 q378 (fun A38 e38 w38 => ?_)
  replace h := h A38 e38
  refine z_putP hG hO.1 (some A36.n) dX8_init_99 f_X8_49_7 ⟨_, rfl, Or.inl rfl⟩ (kN e38 w38 (kP e36 (kN e35 w35 (kP e33 (kN e32 w32 (kP e30 (kN e29 w29 (kP e27 (kN e26 w26 (kP e24 (kN e23 w23 (kP e21 (kN e20 w20 (kP e18 (kN e17 w17 (kP e15 (kN e14 w14 (kP e12 (kN e11 w11 (kP e9 o8)))))))))))))))))))) (by decide) (Or.inr ⟨_, rfl⟩) (fun A39 e39 => ?_)
  replace h := h A39 e39
  refine x_aload_n dX8_init_102 rfl ?_
  refine x_aloadq_n dX8_init_103 rfl ?_
  refine z_putP hG hO.1 l dX8_init_104 f_X8_52_7 ⟨_, rfl, Or.inr ⟨rfl, rfl, rfl⟩⟩ (kP e39 (kN e38 w38 (kP e36 (kN e35 w35 (kP e33 (kN e32 w32 (kP e30 (kN e29 w29 (kP e27 (kN e26 w26 (kP e24 (kN e23 w23 (kP e21 (kN e20 w20 (kP e18 (kN e17 w17 (kP e15 (kN e14 w14 (kP e12 (kN e11 w11 (kP e9 o8))))))))))))))))))))) (by decide) (Or.inl ⟨_, rfl⟩) (fun A40 e40 => ?_)
  replace h := h A40 e40
  exact x_vret dX8_init_107 rfl ⟨rfl, h⟩
def w_X8_come (G : xG) (p : Nat) (b : Option Nat) (Q : xA → Prop) (A : xA) : Prop := xok G A → ∃ b1 : Nat, b = some b1 ∧ (A.tg b1 = 35 ∧ (∀ A3 : xA, A3 = A.setI b1 9 ((A.I b1 9) + (1 : Int32)) → ((((A.I b1 10) = 0 → ∀ A4 : xA, A4 = A3.setI b1 10 (1 : Int32) → (A4.tg p = 8 ∧ (∃ b7 : Nat, (A.P p 3) = some b7 ∧ (A4.tg b7 = 37 ∧ (∃ R6 : Int32 → xA → Prop, w_J5_add G b7 (some b1) R6 A4 ∧ (∀ (v6 : Int32) (A6 : xA), xok G A6 → (v6 = 0 ∨ v6 = 1) → R6 v6 A6 → (Q A6))))))) ∧ (¬ (A.I b1 10) = 0 → Q A3)))))
theorem m_X8_come (hG : xOK G) (hO : xHO G) {dp : Nat} {p : Nat} {b : Option Nat} {Q : xA → Prop} {A : xA} (h : w_X8_come G p b Q A) : MX G (dp + 7) kX8_come [.ref p, va_rf b] A (hV Q) := by
  unfold w_X8_come at h
  refine MX.of rfl (by cases b <;> exact Nat.le_of_ble_eq_true rfl) ?_
  refine X.lvs (lv' := [some (.ref p), some (va_rf b)]) (by cases b <;> rfl) ?_
  refine X.xok (fun w0 => ?_)
  replace h := h w0
  refine x_aloadq_n dX8_come_0 rfl ?_
  refine x_dup dX8_come_1 (va_rf_cat _) ?_
  obtain ⟨b1, e1, h⟩ := h
  rw [e1]
  obtain ⟨o2, h⟩ := h
  refine x_get (v := .int (A.I b1 9)) hG dX8_come_2 f_X8_110_34 o2 rfl ?_
  refine x_iconst_ (v := (1 : Int32)) dX8_come_5 (by decide) ?_
  refine x_iadd dX8_come_6 ?_
  refine z_putI hG hO.1 dX8_come_7 f_X8_110_34 ⟨_, rfl, Or.inl rfl⟩ o2 (by decide) rfl rfl ⟨_, rfl⟩ (fun A3 e3 => ?_)
  replace h := h A3 e3
  refine x_aload_n dX8_come_10 rfl ?_
  refine x_get (v := .int (A.I b1 10)) hG dX8_come_11 f_X8_106_34 (kI e3 o2) (congrArg Value.int (sI_k e3 (by decide))) ?_
  refine x_if_eq (tgt := 18) dX8_come_14 (by decide) (fun c14 => ?_) (fun c14 => ?_)
  · replace h := h.1 c14
    refine x_aload_n dX8_come_18 rfl ?_
    refine x_iconst_ (v := (1 : Int32)) dX8_come_19 (by decide) ?_
    refine z_putI hG hO.1 dX8_come_20 f_X8_106_34 ⟨_, rfl, Or.inl rfl⟩ (kI e3 o2) (by decide) (narrow01 (by decide)) (fits01 (by decide)) ⟨_, rfl⟩ (fun A4 e4 => ?_)
    replace h := h A4 e4
    refine x_aload_n dX8_come_23 rfl ?_
    obtain ⟨o5, h⟩ := h
    refine x_get (v := va_rf (A.P p 3)) hG dX8_come_24 f_X8_18_7 o5 (congrArg va_rf ((sI_P e4).trans (sI_P e3))) ?_
    refine x_aload_n dX8_come_27 rfl ?_
    obtain ⟨b7, e7, h⟩ := h
    rw [e7]
    obtain ⟨o8, h⟩ := h
    obtain ⟨R6, g6, h⟩ := h
    refine x_callV hG (Ky := kJ5_add) (As := [.ref b1]) dX8_come_28 o8 rfl lk_X8_156 me_J5_add is_J5_add se_J5_add rfl rfl (Nat.le_of_ble_eq_true rfl) (MX.post (m_w_J5_add hG hO g6) ?_)
    rintro _ A6 ⟨v6, rfl, zv6, h1⟩
    refine X.xok (fun w6 => ?_)
    replace h := h v6 A6 w6 zv6 h1
    change X _ _ _ _ A6 _ _ [.int v6]
    refine x_pop dX8_come_31 rfl ?_
    exact x_vret dX8_come_32 rfl ⟨rfl, h⟩
  · replace h := h.2 c14
    exact x_vret dX8_come_17 rfl ⟨rfl, h⟩
def w_X8_through (G : xG) (b : Option Nat) (Q : Option Nat → xA → Prop) (A : xA) : Prop := xok G A → ∃ L1 : Nat → Option Nat → Int32 → xA → Prop, (∃ n1 : Nat, L1 n1 b (5000 : Int32) A) ∧ (∀ (n1 : Nat) (y1_1 : Option Nat) (y1_2 : Int32) (A1 : xA), L1 n1 y1_1 y1_2 A1 → ∃ b2 : Nat, y1_1 = some b2 ∧ (A1.tg b2 = 35 ∧ (∃ b5 : Nat, (A1.P b2 0) = some b5 ∧ (A1.tg b5 = 37 ∧ (∃ R4 : Int32 → xA → Prop, w_J5_isEmpty G b5 R4 A1 ∧ (∀ (v4 : Int32) (A4 : xA), xok G A4 → (v4 = 0 ∨ v4 = 1) → R4 v4 A4 → (((v4 = 0 → Q (some b2) A4) ∧ (¬ v4 = 0 → A4.tg b2 = 35 ∧ ((((A4.I b2 1) = (1 : Int32) → (((A4.P b2 5) = (some b2) → Q (some b2) A4) ∧ (¬ (A4.P b2 5) = (some b2) → ((y1_2 ≤ 0 → Q (some b2) A4) ∧ (¬ y1_2 ≤ 0 → (∃ q1 : Nat, q1 < n1 ∧ L1 q1 (A4.P b2 5) (y1_2 + (-1 : Int32)) A4)))))) ∧ (¬ (A4.I b2 1) = (1 : Int32) → Q (some b2) A4))))))))))))
theorem m_X8_through (hG : xOK G) (hO : xHO G) {dp : Nat} {b : Option Nat} {Q : Option Nat → xA → Prop} {A : xA} (h : w_X8_through G b Q A) : MX G (dp + 1) kX8_through [va_rf b] A (hR Q) := by
  unfold w_X8_through at h
  refine MX.of rfl (by cases b <;> exact Nat.le_of_ble_eq_true rfl) ?_
  refine X.lvs (lv' := [some (va_rf b), none, none]) (by cases b <;> rfl) ?_
  refine X.xok (fun w0 => ?_)
  replace h := h w0
  refine x_aloadq_n dX8_through_0 rfl ?_
  refine x_astoreq_n dX8_through_1 (by decide) ?_
  refine X.lvs (lv' := [some (va_rf b), some (va_rf b), none]) (by generalize b = z; cases z <;> rfl) ?_
  refine x_sipush_ (v := (5000 : Int32)) dX8_through_2 (by decide) ?_
  refine x_istore_n dX8_through_5 (by decide) ?_
  refine X.lvs (lv' := [some (va_rf b), some (va_rf b), some (.int (5000 : Int32))]) (by generalize b = z; cases z <;> rfl) ?_
  obtain ⟨L1, ⟨n1, i1⟩, g1⟩ := h
  have kl1 : ∀ n1 : Nat, ∀ (y1_1 : Option Nat) (y1_2 : Int32) (A1 : xA), L1 n1 y1_1 y1_2 A1 → X G (dp + 1) kX8_through (hR Q) A1 6 [none, some (va_rf y1_1), some (.int y1_2)] [] := by
    intro n1
    induction n1 using Nat.strongRecOn with
    | ind n1 ih1 =>
      intro y1_1 y1_2 A1 h
      replace h := g1 n1 y1_1 y1_2 A1 h
      refine x_aloadq_n dX8_through_6 rfl ?_
      obtain ⟨b2, e2, h⟩ := h
      rw [e2]
      obtain ⟨o3, h⟩ := h
      refine x_get (v := va_rf (A1.P b2 0)) hG dX8_through_7 f_X8_153_34 o3 rfl ?_
      obtain ⟨b5, e5, h⟩ := h
      rw [e5]
      obtain ⟨o6, h⟩ := h
      obtain ⟨R4, g4, h⟩ := h
      refine x_callV hG (Ky := kJ5_isEmpty) (As := []) dX8_through_10 o6 rfl lk_X8_117 me_J5_isEmpty is_J5_isEmpty se_J5_isEmpty rfl rfl (Nat.le_of_ble_eq_true rfl) (MX.post (m_w_J5_isEmpty hG hO g4) ?_)
      rintro _ A4 ⟨v4, rfl, zv4, h1⟩
      refine X.xok (fun w4 => ?_)
      replace h := h v4 A4 w4 zv4 h1
      change X _ _ _ _ A4 _ _ [.int v4]
      refine x_if_eq (tgt := 47) dX8_through_13 (by decide) (fun c13 => ?_) (fun c13 => ?_)
      · replace h := h.1 c13
        refine x_aload_n dX8_through_47 rfl ?_
        exact x_aret (r := (some b2)) dX8_through_48 rfl (Or.inl ⟨_, rfl⟩) ⟨_, rfl, h⟩
      · replace h := h.2 c13
        refine x_aload_n dX8_through_16 rfl ?_
        obtain ⟨o7, h⟩ := h
        refine x_get (v := .int (A4.I b2 1)) hG dX8_through_17 f_X8_124_34 o7 rfl ?_
        refine x_iconst_ (v := (1 : Int32)) dX8_through_20 (by decide) ?_
        refine x_icmp_ne (tgt := 47) dX8_through_21 (by decide) (fun c21 => ?_) (fun c21 => ?_)
        · replace h := h.2 c21
          refine x_aload_n dX8_through_47 rfl ?_
          exact x_aret (r := (some b2)) dX8_through_48 rfl (Or.inl ⟨_, rfl⟩) ⟨_, rfl, h⟩
        · replace h := h.1 c21
          refine x_aload_n dX8_through_24 rfl ?_
          refine x_get (v := va_rf (A4.P b2 5)) hG dX8_through_25 f_X8_127_34 o7 rfl ?_
          refine x_aload_n dX8_through_28 rfl ?_
          refine x_acmp_eq (rx := (A4.P b2 5)) (ry := (some b2)) (tgt := 47) dX8_through_29 (by decide) (fun c29 => ?_) (fun c29 => ?_)
          · replace h := h.1 c29
            refine x_aload_n dX8_through_47 rfl ?_
            exact x_aret (r := (some b2)) dX8_through_48 rfl (Or.inl ⟨_, rfl⟩) ⟨_, rfl, h⟩
          · replace h := h.2 c29
            refine x_iload_n dX8_through_32 rfl ?_
            refine x_if_le (tgt := 47) dX8_through_33 (by decide) (fun c33 => ?_) (fun c33 => ?_)
            · replace h := h.1 c33
              refine x_aload_n dX8_through_47 rfl ?_
              exact x_aret (r := (some b2)) dX8_through_48 rfl (Or.inl ⟨_, rfl⟩) ⟨_, rfl, h⟩
            · replace h := h.2 c33
              refine x_aload_n dX8_through_36 rfl ?_
              refine x_get (v := va_rf (A4.P b2 5)) hG dX8_through_37 f_X8_127_34 o7 rfl ?_
              refine x_astoreq_n dX8_through_40 (by decide) ?_
              refine x_iinc (v := (y1_2 + (-1 : Int32))) dX8_through_41 rfl rfl (by decide) ?_
              refine X.lvs (lv' := [none, some (va_rf (A4.P b2 5)), some (.int (y1_2 + (-1 : Int32)))]) (by generalize (A4.P b2 5) = z; cases z <;> rfl) ?_
              refine x_goto (tgt := 6) dX8_through_44 (by decide) ?_
              obtain ⟨q1, l1, h⟩ := h
              change X _ _ _ _ _ _ [none, some (va_rf (A4.P b2 5)), some (.int (y1_2 + (-1 : Int32)))] []
              exact X.weak (xle_n (xle_c rfl (xle_c rfl xle_nil))) (ih1 q1 l1 (A4.P b2 5) (y1_2 + (-1 : Int32)) A4 h)
  change X _ _ _ _ _ _ [some (va_rf b), some (va_rf b), some (.int (5000 : Int32))] []
  exact X.weak (xle_n (xle_c rfl (xle_c rfl xle_nil))) (kl1 n1 b (5000 : Int32) A i1)
def w_X8_reach (G : xG) (p : Nat) (Q : xA → Prop) (A : xA) : Prop := xok G A → ∃ L1 : Nat → Int32 → xA → Prop, (∃ n1 : Nat, L1 n1 (0 : Int32) A) ∧ (∀ (n1 : Nat) (y1_1 : Int32) (A1 : xA), L1 n1 y1_1 A1 → A1.tg p = 8 ∧ (∃ b3 : Nat, (A1.P p 1) = some b3 ∧ (A1.tg b3 = 34 ∧ (∃ b6 : Nat, (A1.P b3 1) = some b6 ∧ (A1.tg b6 = 37 ∧ (∃ R5 : Int32 → xA → Prop, w_J5_size G b6 R5 A1 ∧ (∀ (v5 : Int32) (A5 : xA), xok G A5 → R5 v5 A5 → (((v5 ≤ y1_1 → A5.tg p = 8 ∧ (∃ b9 : Nat, (A5.P p 1) = some b9 ∧ (A5.tg b9 = 34 ∧ (∃ b12 : Nat, (A5.P b9 1) = some b12 ∧ (A5.tg b12 = 37 ∧ (∃ R11 : Option Nat → xA → Prop, w_J5_get G b12 (0 : Int32) R11 A5 ∧ (∀ (v11 : Option Nat) (A11 : xA), xok G A11 → R11 v11 A11 → (∃ b14 : Nat, v11 = some b14 ∧ (A11.tg b14 = 35 ∧ (A11.tg p = 8 ∧ (∃ R16 : xA → Prop, w_X8_come G p (some b14) R16 A11 ∧ (∀ A16 : xA, xok G A16 → R16 A16 → (∃ L18 : Nat → xA → Prop, (∃ n18 : Nat, L18 n18 A16) ∧ (∀ (n18 : Nat) (A18 : xA), L18 n18 A18 → A18.tg p = 8 ∧ (∃ b21 : Nat, (A18.P p 3) = some b21 ∧ (A18.tg b21 = 37 ∧ (∃ R20 : Int32 → xA → Prop, w_J5_isEmpty G b21 R20 A18 ∧ (∀ (v20 : Int32) (A20 : xA), xok G A20 → (v20 = 0 ∨ v20 = 1) → R20 v20 A20 → (((v20 = 0 → A20.tg p = 8 ∧ (∃ b52 : Nat, (A20.P p 3) = some b52 ∧ (A20.tg b52 = 37 ∧ (∃ R51 : Int32 → xA → Prop, w_J5_size G b52 R51 A20 ∧ (∀ (v51 : Int32) (A51 : xA), xok G A51 → R51 v51 A51 → (A51.tg b52 = 37 ∧ (∃ R54 : Option Nat → xA → Prop, w_J5_remove G b52 (v51 - (1 : Int32)) R54 A51 ∧ (∀ (v54 : Option Nat) (A54 : xA), xok G A54 → R54 v54 A54 → (∃ b56 : Nat, v54 = some b56 ∧ (A54.tg b56 = 35 ∧ (∃ J58 : xA → Prop, (∀ (A58 : xA), J58 A58 → A58.tg b56 = 35 ∧ (∃ J60 : xA → Prop, (∀ (A60 : xA), J60 A60 → A60.tg b56 = 35 ∧ (∃ J62 : xA → Prop, (∀ (A62 : xA), J62 A62 → (∃ q18 : Nat, q18 < n18 ∧ L18 q18 A62)) ∧ (((A60.P b56 6) = none → J62 A60) ∧ (∀ b63 : Nat, (A60.P b56 6) = some b63 → ∃ R64 : Option Nat → xA → Prop, w_X8_through G (some b63) R64 A60 ∧ (∀ (v64 : Option Nat) (A64 : xA), xok G A64 → R64 v64 A64 → (A64.tg b56 = 35 ∧ (∀ A66 : xA, A66 = A64.setP b56 6 v64 → (A66.tg p = 8 ∧ (∃ R67 : xA → Prop, w_X8_come G p v64 R67 A66 ∧ (∀ A67 : xA, xok G A67 → R67 A67 → (J62 A67))))))))))) ∧ (((A58.P b56 5) = none → J60 A58) ∧ (∀ b69 : Nat, (A58.P b56 5) = some b69 → ∃ R70 : Option Nat → xA → Prop, w_X8_through G (some b69) R70 A58 ∧ (∀ (v70 : Option Nat) (A70 : xA), xok G A70 → R70 v70 A70 → (A70.tg b56 = 35 ∧ (∀ A72 : xA, A72 = A70.setP b56 5 v70 → (A72.tg p = 8 ∧ (∃ R73 : xA → Prop, w_X8_come G p v70 R73 A72 ∧ (∀ A73 : xA, xok G A73 → R73 A73 → (J60 A73))))))))))) ∧ (((A54.I b56 1) = (2 : Int32) → (((A54.P b56 5) = (A54.P b56 6) → ∃ R75 : xA → Prop, w_X36_settle G b56 (1 : Int32) R75 A54 ∧ (∀ A75 : xA, xok G A75 → R75 A75 → (J58 A75))) ∧ (¬ (A54.P b56 5) = (A54.P b56 6) → J58 A54))) ∧ (¬ (A54.I b56 1) = (2 : Int32) → J58 A54))))))))))))) ∧ (¬ v20 = 0 → ∃ L23 : Nat → Int32 → Int32 → xA → Prop, (∃ n23 : Nat, L23 n23 (0 : Int32) (0 : Int32) A20) ∧ (∀ (n23 : Nat) (y23_1 : Int32) (y23_2 : Int32) (A23 : xA), L23 n23 y23_1 y23_2 A23 → A23.tg p = 8 ∧ (∃ b25 : Nat, (A23.P p 1) = some b25 ∧ (A23.tg b25 = 34 ∧ (∃ b28 : Nat, (A23.P b25 1) = some b28 ∧ (A23.tg b28 = 37 ∧ (∃ R27 : Int32 → xA → Prop, w_J5_size G b28 R27 A23 ∧ (∀ (v27 : Int32) (A27 : xA), xok G A27 → R27 v27 A27 → (((v27 ≤ y23_2 → A27.tg p = 8 ∧ (∃ b31 : Nat, (A27.P p 1) = some b31 ∧ (A27.tg b31 = 34 ∧ (∃ R33 : xA → Prop, w_X0_cut G (A27.P b31 1) y23_1 R33 A27 ∧ (∀ A33 : xA, xok G A33 → R33 A33 → (Q A33)))))) ∧ (¬ v27 ≤ y23_2 → A27.tg p = 8 ∧ (∃ b35 : Nat, (A27.P p 1) = some b35 ∧ (A27.tg b35 = 34 ∧ (∃ b38 : Nat, (A27.P b35 1) = some b38 ∧ (A27.tg b38 = 37 ∧ (∃ R37 : Option Nat → xA → Prop, w_J5_get G b38 y23_2 R37 A27 ∧ (∀ (v37 : Option Nat) (A37 : xA), xok G A37 → R37 v37 A37 → (∃ b40 : Nat, v37 = some b40 ∧ (A37.tg b40 = 35 ∧ (∃ J42 : Int32 → xA → Prop, (∀ (y42_1 : Int32) (A42 : xA), J42 y42_1 A42 → (∃ q23 : Nat, q23 < n23 ∧ L23 q23 y42_1 (y23_2 + (1 : Int32)) A42)) ∧ (((A37.I b40 10) = 0 → J42 y23_1 A37) ∧ (¬ (A37.I b40 10) = 0 → ∀ A43 : xA, A43 = A37.setI b40 8 y23_1 → (A43.tg p = 8 ∧ (∃ b45 : Nat, (A37.P p 1) = some b45 ∧ (A43.tg b45 = 34 ∧ (∃ b48 : Nat, (A37.P b45 1) = some b48 ∧ (A43.tg b48 = 37 ∧ (∃ R47 : Option Nat → xA → Prop, w_J5_set G b48 y23_1 (some b40) R47 A43 ∧ (∀ (v47 : Option Nat) (A47 : xA), xok G A47 → R47 v47 A47 → (J42 (y23_1 + (1 : Int32)) A47)))))))))))))))))))))))))))))))))))))))))))))))))) ∧ (¬ v5 ≤ y1_1 → A5.tg p = 8 ∧ (∃ b77 : Nat, (A5.P p 1) = some b77 ∧ (A5.tg b77 = 34 ∧ (∃ b80 : Nat, (A5.P b77 1) = some b80 ∧ (A5.tg b80 = 37 ∧ (∃ R79 : Option Nat → xA → Prop, w_J5_get G b80 y1_1 R79 A5 ∧ (∀ (v79 : Option Nat) (A79 : xA), xok G A79 → R79 v79 A79 → (∃ b82 : Nat, v79 = some b82 ∧ (A79.tg b82 = 35 ∧ (∀ A84 : xA, A84 = A79.setI b82 10 (0 : Int32) → (A84.tg p = 8 ∧ (∃ b86 : Nat, (A79.P p 1) = some b86 ∧ (A84.tg b86 = 34 ∧ (∃ b89 : Nat, (A79.P b86 1) = some b89 ∧ (A84.tg b89 = 37 ∧ (∃ R88 : Option Nat → xA → Prop, w_J5_get G b89 y1_1 R88 A84 ∧ (∀ (v88 : Option Nat) (A88 : xA), xok G A88 → R88 v88 A88 → (∃ b91 : Nat, v88 = some b91 ∧ (A88.tg b91 = 35 ∧ (∀ A93 : xA, A93 = A88.setI b91 9 (0 : Int32) → ((∃ q1 : Nat, q1 < n1 ∧ L1 q1 (y1_1 + (1 : Int32)) A93)))))))))))))))))))))))))))))))
theorem m_X8_reach (hG : xOK G) (hO : xHO G) {dp : Nat} {p : Nat} {Q : xA → Prop} {A : xA} (h : w_X8_reach G p Q A) : MX G (dp + 8) kX8_reach [.ref p] A (hV Q) := by
  unfold w_X8_reach at h
  refine MX.of rfl (Nat.le_of_ble_eq_true rfl) ?_
  change X _ _ _ _ _ _ [some (.ref p), none, none, none] _
  refine X.xok (fun w0 => ?_)
  replace h := h w0
  refine x_iconst_ (v := (0 : Int32)) dX8_reach_0 (by decide) ?_
  refine x_istore_n dX8_reach_1 (by decide) ?_
  obtain ⟨L1, ⟨n1, i1⟩, g1⟩ := h
  have kl1 : ∀ n1 : Nat, ∀ (y1_1 : Int32) (A1 : xA), L1 n1 y1_1 A1 → X G (dp + 8) kX8_reach (hV Q) A1 2 [some (.ref p), some (.int y1_1), none, none] [] := by
    intro n1
    induction n1 using Nat.strongRecOn with
    | ind n1 ih1 =>
      intro y1_1 A1 h
      replace h := g1 n1 y1_1 A1 h
      refine x_iload_n dX8_reach_2 rfl ?_
      refine x_aload_n dX8_reach_3 rfl ?_
      obtain ⟨o2, h⟩ := h
      refine x_get (v := va_rf (A1.P p 1)) hG dX8_reach_4 f_X8_56_7 o2 rfl ?_
      obtain ⟨b3, e3, h⟩ := h
      rw [e3]
      obtain ⟨o4, h⟩ := h
      refine x_get (v := va_rf (A1.P b3 1)) hG dX8_reach_7 f_X8_101_33 o4 rfl ?_
      obtain ⟨b6, e6, h⟩ := h
      rw [e6]
      obtain ⟨o7, h⟩ := h
      obtain ⟨R5, g5, h⟩ := h
      refine x_callV hG (Ky := kJ5_size) (As := []) dX8_reach_10 o7 rfl lk_X8_73 me_J5_size is_J5_size se_J5_size rfl rfl (Nat.le_of_ble_eq_true rfl) (MX.post (m_w_J5_size hG hO g5) ?_)
      rintro _ A5 ⟨v5, rfl, h1⟩
      refine X.xok (fun w5 => ?_)
      replace h := h v5 A5 w5 h1
      change X _ _ _ _ A5 _ _ [.int v5, .int y1_1]
      refine x_icmp_ge (tgt := 58) dX8_reach_13 (by decide) (fun c13 => ?_) (fun c13 => ?_)
      · replace h := h.1 c13
        refine x_aload_n dX8_reach_58 rfl ?_
        refine x_aload_n dX8_reach_59 rfl ?_
        obtain ⟨o8, h⟩ := h
        refine x_get (v := va_rf (A5.P p 1)) hG dX8_reach_60 f_X8_56_7 o8 rfl ?_
        obtain ⟨b9, e9, h⟩ := h
        rw [e9]
        obtain ⟨o10, h⟩ := h
        refine x_get (v := va_rf (A5.P b9 1)) hG dX8_reach_63 f_X8_101_33 o10 rfl ?_
        refine x_iconst_ (v := (0 : Int32)) dX8_reach_66 (by decide) ?_
        obtain ⟨b12, e12, h⟩ := h
        rw [e12]
        obtain ⟨o13, h⟩ := h
        obtain ⟨R11, g11, h⟩ := h
        refine x_callV hG (Ky := kJ5_get) (As := [.int (0 : Int32)]) dX8_reach_67 o13 rfl lk_X8_77 me_J5_get is_J5_get se_J5_get rfl rfl (Nat.le_of_ble_eq_true rfl) (MX.post (m_w_J5_get hG hO g11) ?_)
        rintro _ A11 ⟨v11, rfl, h1⟩
        refine X.xok (fun w11 => ?_)
        replace h := h v11 A11 w11 h1
        change X _ _ _ _ A11 _ _ [va_rf v11, .ref p]
        obtain ⟨b14, e14, h⟩ := h
        rw [e14]
        obtain ⟨o15, h⟩ := h
        refine x_cast hG dX8_reach_70 q2452 o15 rfl (Or.inl rfl) ?_
        obtain ⟨o17, h⟩ := h
        obtain ⟨R16, g16, h⟩ := h
        refine x_callV hG (Ky := kX8_come) (As := [.ref b14]) dX8_reach_73 o17 rfl lk_X8_113 me_X8_come is_X8_come se_X8_come rfl rfl (Nat.le_of_ble_eq_true rfl) (MX.post (m_X8_come hG hO g16) ?_)
        rintro _ A16 ⟨rfl, h1⟩
        refine X.xok (fun w16 => ?_)
        replace h := h A16 w16 h1
        change X _ _ _ _ A16 _ _ []
        obtain ⟨L18, ⟨n18, i18⟩, g18⟩ := h
        have kl18 : ∀ n18 : Nat, ∀ (A18 : xA), L18 n18 A18 → X G (dp + 8) kX8_reach (hV Q) A18 76 [some (.ref p), none, none, none] [] := by
          intro n18
          induction n18 using Nat.strongRecOn with
          | ind n18 ih18 =>
            intro A18 h
            replace h := g18 n18 A18 h
            refine x_aload_n dX8_reach_76 rfl ?_
            obtain ⟨o19, h⟩ := h
            refine x_get (v := va_rf (A18.P p 3)) hG dX8_reach_77 f_X8_18_7 o19 rfl ?_
            obtain ⟨b21, e21, h⟩ := h
            rw [e21]
            obtain ⟨o22, h⟩ := h
            obtain ⟨R20, g20, h⟩ := h
            refine x_callV hG (Ky := kJ5_isEmpty) (As := []) dX8_reach_80 o22 rfl lk_X8_117 me_J5_isEmpty is_J5_isEmpty se_J5_isEmpty rfl rfl (Nat.le_of_ble_eq_true rfl) (MX.post (m_w_J5_isEmpty hG hO g20) ?_)
            rintro _ A20 ⟨v20, rfl, zv20, h1⟩
            refine X.xok (fun w20 => ?_)
            replace h := h v20 A20 w20 zv20 h1
            change X _ _ _ _ A20 _ _ [.int v20]
            refine x_if_ne (tgt := 185) dX8_reach_83 (by decide) (fun c83 => ?_) (fun c83 => ?_)
            · replace h := h.2 c83
              refine x_iconst_ (v := (0 : Int32)) dX8_reach_185 (by decide) ?_
              refine x_istore_n dX8_reach_186 (by decide) ?_
              refine x_iconst_ (v := (0 : Int32)) dX8_reach_187 (by decide) ?_
              refine x_istore_n dX8_reach_188 (by decide) ?_
              obtain ⟨L23, ⟨n23, i23⟩, g23⟩ := h
              have kl23 : ∀ n23 : Nat, ∀ (y23_1 : Int32) (y23_2 : Int32) (A23 : xA), L23 n23 y23_1 y23_2 A23 → X G (dp + 8) kX8_reach (hV Q) A23 189 [some (.ref p), some (.int y23_1), some (.int y23_2), none] [] := by
                intro n23
                induction n23 using Nat.strongRecOn with
                | ind n23 ih23 =>
                  intro y23_1 y23_2 A23 h
                  replace h := g23 n23 y23_1 y23_2 A23 h
                  refine x_iload_n dX8_reach_189 rfl ?_
                  refine x_aload_n dX8_reach_190 rfl ?_
                  obtain ⟨o24, h⟩ := h
                  refine x_get (v := va_rf (A23.P p 1)) hG dX8_reach_191 f_X8_56_7 o24 rfl ?_
                  obtain ⟨b25, e25, h⟩ := h
                  rw [e25]
                  obtain ⟨o26, h⟩ := h
                  refine x_get (v := va_rf (A23.P b25 1)) hG dX8_reach_194 f_X8_101_33 o26 rfl ?_
                  obtain ⟨b28, e28, h⟩ := h
                  rw [e28]
                  obtain ⟨o29, h⟩ := h
                  obtain ⟨R27, g27, h⟩ := h
                  refine x_callV hG (Ky := kJ5_size) (As := []) dX8_reach_197 o29 rfl lk_X8_73 me_J5_size is_J5_size se_J5_size rfl rfl (Nat.le_of_ble_eq_true rfl) (MX.post (m_w_J5_size hG hO g27) ?_)
                  rintro _ A27 ⟨v27, rfl, h1⟩
                  refine X.xok (fun w27 => ?_)
                  replace h := h v27 A27 w27 h1
                  change X _ _ _ _ A27 _ _ [.int v27, .int y23_2]
                  refine x_icmp_ge (tgt := 255) dX8_reach_200 (by decide) (fun c200 => ?_) (fun c200 => ?_)
                  · replace h := h.1 c200
                    refine x_aload_n dX8_reach_255 rfl ?_
                    obtain ⟨o30, h⟩ := h
                    refine x_get (v := va_rf (A27.P p 1)) hG dX8_reach_256 f_X8_56_7 o30 rfl ?_
                    obtain ⟨b31, e31, h⟩ := h
                    rw [e31]
                    obtain ⟨o32, h⟩ := h
                    refine x_get (v := va_rf (A27.P b31 1)) hG dX8_reach_259 f_X8_101_33 o32 rfl ?_
                    refine x_iload_n dX8_reach_262 rfl ?_
                    obtain ⟨R33, g33, h⟩ := h
                    refine x_callS hG (Ky := kX0_cut) (As := [va_rf (A27.P b31 1), .int y23_1]) dX8_reach_263 lk_X8_149 me_X0_cut st_X0_cut rfl rfl (Nat.le_of_ble_eq_true rfl) (MX.post (m_X0_cut hG hO g33) ?_)
                    rintro _ A33 ⟨rfl, h1⟩
                    refine X.xok (fun w33 => ?_)
                    replace h := h A33 w33 h1
                    change X _ _ _ _ A33 _ _ []
                    exact x_vret dX8_reach_266 rfl ⟨rfl, h⟩
                  · replace h := h.2 c200
                    refine x_aload_n dX8_reach_203 rfl ?_
                    obtain ⟨o34, h⟩ := h
                    refine x_get (v := va_rf (A27.P p 1)) hG dX8_reach_204 f_X8_56_7 o34 rfl ?_
                    obtain ⟨b35, e35, h⟩ := h
                    rw [e35]
                    obtain ⟨o36, h⟩ := h
                    refine x_get (v := va_rf (A27.P b35 1)) hG dX8_reach_207 f_X8_101_33 o36 rfl ?_
                    refine x_iload_n dX8_reach_210 rfl ?_
                    obtain ⟨b38, e38, h⟩ := h
                    rw [e38]
                    obtain ⟨o39, h⟩ := h
                    obtain ⟨R37, g37, h⟩ := h
                    refine x_callV hG (Ky := kJ5_get) (As := [.int y23_2]) dX8_reach_211 o39 rfl lk_X8_77 me_J5_get is_J5_get se_J5_get rfl rfl (Nat.le_of_ble_eq_true rfl) (MX.post (m_w_J5_get hG hO g37) ?_)
                    rintro _ A37 ⟨v37, rfl, h1⟩
                    refine X.xok (fun w37 => ?_)
                    replace h := h v37 A37 w37 h1
                    change X _ _ _ _ A37 _ _ [va_rf v37]
                    obtain ⟨b40, e40, h⟩ := h
                    rw [e40]
                    obtain ⟨o41, h⟩ := h
                    refine x_cast hG dX8_reach_214 q2452 o41 rfl (Or.inl rfl) ?_
                    refine x_astore_n dX8_reach_217 (by decide) ?_
                    refine x_aload_n dX8_reach_218 rfl ?_
                    refine x_get (v := .int (A37.I b40 10)) hG dX8_reach_219 f_X8_106_34 o41 rfl ?_
                    obtain ⟨J42, g42, h⟩ := h
                    have kj42 : ∀ (y42_1 : Int32) (A42 : xA), J42 y42_1 A42 → X G (dp + 8) kX8_reach (hV Q) A42 249 [some (.ref p), some (.int y42_1), some (.int y23_2), none] [] := by
                      intro y42_1 A42 h
                      replace h := g42 y42_1 A42 h
                      refine x_iinc (v := (y23_2 + (1 : Int32))) dX8_reach_249 rfl rfl (by decide) ?_
                      refine x_goto (tgt := 189) dX8_reach_252 (by decide) ?_
                      obtain ⟨q23, l23, h⟩ := h
                      change X _ _ _ _ _ _ [some (.ref p), some (.int y42_1), some (.int (y23_2 + (1 : Int32))), none] []
                      exact X.weak (xle_c rfl (xle_c rfl (xle_c rfl (xle_n xle_nil)))) (ih23 q23 l23 y42_1 (y23_2 + (1 : Int32)) A42 h)
                    refine x_if_ne (tgt := 228) dX8_reach_222 (by decide) (fun c222 => ?_) (fun c222 => ?_)
                    · replace h := h.2 c222
                      refine x_aload_n dX8_reach_228 rfl ?_
                      refine x_iload_n dX8_reach_229 rfl ?_
                      refine z_putI hG hO.1 dX8_reach_230 f_X8_142_34 ⟨_, rfl, Or.inl rfl⟩ o41 (by decide) rfl rfl ⟨_, rfl⟩ (fun A43 e43 => ?_)
                      replace h := h A43 e43
                      refine x_aload_n dX8_reach_233 rfl ?_
                      obtain ⟨o44, h⟩ := h
                      refine x_get (v := va_rf (A37.P p 1)) hG dX8_reach_234 f_X8_56_7 o44 (congrArg va_rf (sI_P e43)) ?_
                      obtain ⟨b45, e45, h⟩ := h
                      rw [e45]
                      obtain ⟨o46, h⟩ := h
                      refine x_get (v := va_rf (A37.P b45 1)) hG dX8_reach_237 f_X8_101_33 o46 (congrArg va_rf (sI_P e43)) ?_
                      refine x_iload_n dX8_reach_240 rfl ?_
                      refine x_aload_n dX8_reach_241 rfl ?_
                      obtain ⟨b48, e48, h⟩ := h
                      rw [e48]
                      obtain ⟨o49, h⟩ := h
                      obtain ⟨R47, g47, h⟩ := h
                      refine x_callV hG (Ky := kJ5_set) (As := [.int y23_1, .ref b40]) dX8_reach_242 o49 rfl lk_X8_145 me_J5_set is_J5_set se_J5_set rfl rfl (Nat.le_of_ble_eq_true rfl) (MX.post (m_w_J5_set hG hO g47) ?_)
                      rintro _ A47 ⟨v47, rfl, h1⟩
                      refine X.xok (fun w47 => ?_)
                      replace h := h v47 A47 w47 h1
                      change X _ _ _ _ A47 _ _ [va_rf v47]
                      refine x_pop dX8_reach_245 (va_rf_cat _) ?_
                      refine x_iinc (v := (y23_1 + (1 : Int32))) dX8_reach_246 rfl rfl (by decide) ?_
                      change X _ _ _ _ _ _ [some (.ref p), some (.int (y23_1 + (1 : Int32))), some (.int y23_2), some (.ref b40)] []
                      exact X.weak (xle_c rfl (xle_c rfl (xle_c rfl (xle_n xle_nil)))) (kj42 (y23_1 + (1 : Int32)) A47 h)
                    · replace h := h.1 c222
                      refine x_goto (tgt := 249) dX8_reach_225 (by decide) ?_
                      change X _ _ _ _ _ _ [some (.ref p), some (.int y23_1), some (.int y23_2), some (.ref b40)] []
                      exact X.weak (xle_c rfl (xle_c rfl (xle_c rfl (xle_n xle_nil)))) (kj42 y23_1 A37 h)
              change X _ _ _ _ _ _ [some (.ref p), some (.int (0 : Int32)), some (.int (0 : Int32)), none] []
              exact X.weak (xle_c rfl (xle_c rfl (xle_c rfl (xle_n xle_nil)))) (kl23 n23 (0 : Int32) (0 : Int32) A20 i23)
            · replace h := h.1 c83
              refine x_aload_n dX8_reach_86 rfl ?_
              obtain ⟨o50, h⟩ := h
              refine x_get (v := va_rf (A20.P p 3)) hG dX8_reach_87 f_X8_18_7 o50 rfl ?_
              refine x_aload_n dX8_reach_90 rfl ?_
              refine x_get (v := va_rf (A20.P p 3)) hG dX8_reach_91 f_X8_18_7 o50 rfl ?_
              obtain ⟨b52, e52, h⟩ := h
              rw [e52]
              obtain ⟨o53, h⟩ := h
              obtain ⟨R51, g51, h⟩ := h
              refine x_callV hG (Ky := kJ5_size) (As := []) dX8_reach_94 o53 rfl lk_X8_73 me_J5_size is_J5_size se_J5_size rfl rfl (Nat.le_of_ble_eq_true rfl) (MX.post (m_w_J5_size hG hO g51) ?_)
              rintro _ A51 ⟨v51, rfl, h1⟩
              refine X.xok (fun w51 => ?_)
              replace h := h v51 A51 w51 h1
              change X _ _ _ _ A51 _ _ [.int v51, .ref b52]
              refine x_iconst_ (v := (1 : Int32)) dX8_reach_97 (by decide) ?_
              refine x_isub dX8_reach_98 ?_
              obtain ⟨o55, h⟩ := h
              obtain ⟨R54, g54, h⟩ := h
              refine x_callV hG (Ky := kJ5_remove) (As := [.int (v51 - (1 : Int32))]) dX8_reach_99 o55 rfl lk_X8_121 me_J5_remove is_J5_remove se_J5_remove rfl rfl (Nat.le_of_ble_eq_true rfl) (MX.post (m_w_J5_remove hG hO g54) ?_)
              rintro _ A54 ⟨v54, rfl, h1⟩
              refine X.xok (fun w54 => ?_)
              replace h := h v54 A54 w54 h1
              change X _ _ _ _ A54 _ _ [va_rf v54]
              obtain ⟨b56, e56, h⟩ := h
              rw [e56]
              obtain ⟨o57, h⟩ := h
              refine x_cast hG dX8_reach_102 q2452 o57 rfl (Or.inl rfl) ?_
              refine x_astore_n dX8_reach_105 (by decide) ?_
              refine x_aload_n dX8_reach_106 rfl ?_
              refine x_get (v := .int (A54.I b56 1)) hG dX8_reach_107 f_X8_124_34 o57 rfl ?_
              refine x_iconst_ (v := (2 : Int32)) dX8_reach_110 (by decide) ?_
              obtain ⟨J58, g58, h⟩ := h
              have kj58 : ∀ (A58 : xA), J58 A58 → X G (dp + 8) kX8_reach (hV Q) A58 130 [some (.ref p), some (.ref b56), none, none] [] := by
                intro A58 h
                replace h := g58 A58 h
                refine x_aload_n dX8_reach_130 rfl ?_
                obtain ⟨o59, h⟩ := h
                refine x_get (v := va_rf (A58.P b56 5)) hG dX8_reach_131 f_X8_127_34 o59 rfl ?_
                obtain ⟨J60, g60, h⟩ := h
                have kj60 : ∀ (A60 : xA), J60 A60 → X G (dp + 8) kX8_reach (hV Q) A60 156 [some (.ref p), some (.ref b56), none, none] [] := by
                  intro A60 h
                  replace h := g60 A60 h
                  refine x_aload_n dX8_reach_156 rfl ?_
                  obtain ⟨o61, h⟩ := h
                  refine x_get (v := va_rf (A60.P b56 6)) hG dX8_reach_157 f_X8_131_34 o61 rfl ?_
                  obtain ⟨J62, g62, h⟩ := h
                  have kj62 : ∀ (A62 : xA), J62 A62 → X G (dp + 8) kX8_reach (hV Q) A62 182 [some (.ref p), none, none, none] [] := by
                    intro A62 h
                    replace h := g62 A62 h
                    refine x_goto (tgt := 76) dX8_reach_182 (by decide) ?_
                    obtain ⟨q18, l18, h⟩ := h
                    change X _ _ _ _ _ _ [some (.ref p), none, none, none] []
                    exact X.weak (xle_c rfl (xle_n (xle_n (xle_n xle_nil)))) (ih18 q18 l18 A62 h)
                  refine x_ifnull (tgt := 182) dX8_reach_160 (by decide) (fun c160 => ?_) (fun b63 c160 => ?_)
                  · replace h := h.1 c160
                    change X _ _ _ _ _ _ [some (.ref p), some (.ref b56), none, none] []
                    exact X.weak (xle_c rfl (xle_n (xle_n (xle_n xle_nil)))) (kj62 A60 h)
                  · replace h := h.2 b63 c160
                    refine x_aload_n dX8_reach_163 rfl ?_
                    refine x_aload_n dX8_reach_164 rfl ?_
                    refine x_get (v := .ref b63) hG dX8_reach_165 f_X8_131_34 o61 (congrArg va_rf c160) ?_
                    obtain ⟨R64, g64, h⟩ := h
                    refine x_callS hG (Ky := kX8_through) (As := [.ref b63]) dX8_reach_168 lk_X8_138 me_X8_through st_X8_through rfl rfl (Nat.le_of_ble_eq_true rfl) (MX.post (m_X8_through hG hO g64) ?_)
                    rintro _ A64 ⟨v64, rfl, h1⟩
                    refine X.xok (fun w64 => ?_)
                    replace h := h v64 A64 w64 h1
                    change X _ _ _ _ A64 _ _ [va_rf v64, .ref b56]
                    obtain ⟨o65, h⟩ := h
                    refine z_putP hG hO.1 v64 dX8_reach_171 f_X8_131_34 ⟨_, rfl, Or.inl rfl⟩ o65 (by decide) (Or.inl ⟨_, rfl⟩) (fun A66 e66 => ?_)
                    replace h := h A66 e66
                    refine x_aload_n dX8_reach_174 rfl ?_
                    refine x_aload_n dX8_reach_175 rfl ?_
                    refine x_get (v := va_rf v64) hG dX8_reach_176 f_X8_131_34 (kP e66 o65) (congrArg va_rf (sP_s e66)) ?_
                    obtain ⟨o68, h⟩ := h
                    obtain ⟨R67, g67, h⟩ := h
                    refine x_callV hG (Ky := kX8_come) (As := [va_rf v64]) dX8_reach_179 o68 rfl lk_X8_113 me_X8_come is_X8_come se_X8_come rfl rfl (Nat.le_of_ble_eq_true rfl) (MX.post (m_X8_come hG hO g67) ?_)
                    rintro _ A67 ⟨rfl, h1⟩
                    refine X.xok (fun w67 => ?_)
                    replace h := h A67 w67 h1
                    change X _ _ _ _ A67 _ _ []
                    change X _ _ _ _ _ _ [some (.ref p), some (.ref b56), none, none] []
                    exact X.weak (xle_c rfl (xle_n (xle_n (xle_n xle_nil)))) (kj62 A67 h)
                refine x_ifnull (tgt := 156) dX8_reach_134 (by decide) (fun c134 => ?_) (fun b69 c134 => ?_)
                · replace h := h.1 c134
                  change X _ _ _ _ _ _ [some (.ref p), some (.ref b56), none, none] []
                  exact X.weak (xle_c rfl (xle_c rfl (xle_n (xle_n xle_nil)))) (kj60 A58 h)
                · replace h := h.2 b69 c134
                  refine x_aload_n dX8_reach_137 rfl ?_
                  refine x_aload_n dX8_reach_138 rfl ?_
                  refine x_get (v := .ref b69) hG dX8_reach_139 f_X8_127_34 o59 (congrArg va_rf c134) ?_
                  obtain ⟨R70, g70, h⟩ := h
                  refine x_callS hG (Ky := kX8_through) (As := [.ref b69]) dX8_reach_142 lk_X8_138 me_X8_through st_X8_through rfl rfl (Nat.le_of_ble_eq_true rfl) (MX.post (m_X8_through hG hO g70) ?_)
                  rintro _ A70 ⟨v70, rfl, h1⟩
                  refine X.xok (fun w70 => ?_)
                  replace h := h v70 A70 w70 h1
                  change X _ _ _ _ A70 _ _ [va_rf v70, .ref b56]
                  obtain ⟨o71, h⟩ := h
                  refine z_putP hG hO.1 v70 dX8_reach_145 f_X8_127_34 ⟨_, rfl, Or.inl rfl⟩ o71 (by decide) (Or.inl ⟨_, rfl⟩) (fun A72 e72 => ?_)
                  replace h := h A72 e72
                  refine x_aload_n dX8_reach_148 rfl ?_
                  refine x_aload_n dX8_reach_149 rfl ?_
                  refine x_get (v := va_rf v70) hG dX8_reach_150 f_X8_127_34 (kP e72 o71) (congrArg va_rf (sP_s e72)) ?_
                  obtain ⟨o74, h⟩ := h
                  obtain ⟨R73, g73, h⟩ := h
                  refine x_callV hG (Ky := kX8_come) (As := [va_rf v70]) dX8_reach_153 o74 rfl lk_X8_113 me_X8_come is_X8_come se_X8_come rfl rfl (Nat.le_of_ble_eq_true rfl) (MX.post (m_X8_come hG hO g73) ?_)
                  rintro _ A73 ⟨rfl, h1⟩
                  refine X.xok (fun w73 => ?_)
                  replace h := h A73 w73 h1
                  change X _ _ _ _ A73 _ _ []
                  change X _ _ _ _ _ _ [some (.ref p), some (.ref b56), none, none] []
                  exact X.weak (xle_c rfl (xle_c rfl (xle_n (xle_n xle_nil)))) (kj60 A73 h)
              refine x_icmp_ne (tgt := 130) dX8_reach_111 (by decide) (fun c111 => ?_) (fun c111 => ?_)
              · replace h := h.2 c111
                change X _ _ _ _ _ _ [some (.ref p), some (.ref b56), none, none] []
                exact X.weak (xle_c rfl (xle_c rfl (xle_n (xle_n xle_nil)))) (kj58 A54 h)
              · replace h := h.1 c111
                refine x_aload_n dX8_reach_114 rfl ?_
                refine x_get (v := va_rf (A54.P b56 5)) hG dX8_reach_115 f_X8_127_34 o57 rfl ?_
                refine x_aload_n dX8_reach_118 rfl ?_
                refine x_get (v := va_rf (A54.P b56 6)) hG dX8_reach_119 f_X8_131_34 o57 rfl ?_
                refine x_acmp_ne (rx := (A54.P b56 5)) (ry := (A54.P b56 6)) (tgt := 130) dX8_reach_122 (by decide) (fun c122 => ?_) (fun c122 => ?_)
                · replace h := h.2 c122
                  change X _ _ _ _ _ _ [some (.ref p), some (.ref b56), none, none] []
                  exact X.weak (xle_c rfl (xle_c rfl (xle_n (xle_n xle_nil)))) (kj58 A54 h)
                · replace h := h.1 c122
                  refine x_aload_n dX8_reach_125 rfl ?_
                  refine x_iconst_ (v := (1 : Int32)) dX8_reach_126 (by decide) ?_
                  obtain ⟨R75, g75, h⟩ := h
                  refine x_callV hG (Ky := kX36_settle) (As := [.int (1 : Int32)]) dX8_reach_127 o57 rfl lk_X8_134 me_X36_settle is_X36_settle se_X36_settle rfl rfl (Nat.le_of_ble_eq_true rfl) (MX.post (m_X36_settle hG hO g75) ?_)
                  rintro _ A75 ⟨rfl, h1⟩
                  refine X.xok (fun w75 => ?_)
                  replace h := h A75 w75 h1
                  change X _ _ _ _ A75 _ _ []
                  change X _ _ _ _ _ _ [some (.ref p), some (.ref b56), none, none] []
                  exact X.weak (xle_c rfl (xle_c rfl (xle_n (xle_n xle_nil)))) (kj58 A75 h)
        change X _ _ _ _ _ _ [some (.ref p), some (.int y1_1), none, none] []
        exact X.weak (xle_c rfl (xle_n (xle_n (xle_n xle_nil)))) (kl18 n18 A16 i18)
      · replace h := h.2 c13
        refine x_aload_n dX8_reach_16 rfl ?_
        obtain ⟨o76, h⟩ := h
        refine x_get (v := va_rf (A5.P p 1)) hG dX8_reach_17 f_X8_56_7 o76 rfl ?_
        obtain ⟨b77, e77, h⟩ := h
        rw [e77]
        obtain ⟨o78, h⟩ := h
        refine x_get (v := va_rf (A5.P b77 1)) hG dX8_reach_20 f_X8_101_33 o78 rfl ?_
        refine x_iload_n dX8_reach_23 rfl ?_
        obtain ⟨b80, e80, h⟩ := h
        rw [e80]
        obtain ⟨o81, h⟩ := h
        obtain ⟨R79, g79, h⟩ := h
        refine x_callV hG (Ky := kJ5_get) (As := [.int y1_1]) dX8_reach_24 o81 rfl lk_X8_77 me_J5_get is_J5_get se_J5_get rfl rfl (Nat.le_of_ble_eq_true rfl) (MX.post (m_w_J5_get hG hO g79) ?_)
        rintro _ A79 ⟨v79, rfl, h1⟩
        refine X.xok (fun w79 => ?_)
        replace h := h v79 A79 w79 h1
        change X _ _ _ _ A79 _ _ [va_rf v79]
        obtain ⟨b82, e82, h⟩ := h
        rw [e82]
        obtain ⟨o83, h⟩ := h
        refine x_cast hG dX8_reach_27 q2452 o83 rfl (Or.inl rfl) ?_
        refine x_iconst_ (v := (0 : Int32)) dX8_reach_30 (by decide) ?_
        refine z_putI hG hO.1 dX8_reach_31 f_X8_106_34 ⟨_, rfl, Or.inl rfl⟩ o83 (by decide) (narrow01 (by decide)) (fits01 (by decide)) ⟨_, rfl⟩ (fun A84 e84 => ?_)
        replace h := h A84 e84
        refine x_aload_n dX8_reach_34 rfl ?_
        obtain ⟨o85, h⟩ := h
        refine x_get (v := va_rf (A79.P p 1)) hG dX8_reach_35 f_X8_56_7 o85 (congrArg va_rf (sI_P e84)) ?_
        obtain ⟨b86, e86, h⟩ := h
        rw [e86]
        obtain ⟨o87, h⟩ := h
        refine x_get (v := va_rf (A79.P b86 1)) hG dX8_reach_38 f_X8_101_33 o87 (congrArg va_rf (sI_P e84)) ?_
        refine x_iload_n dX8_reach_41 rfl ?_
        obtain ⟨b89, e89, h⟩ := h
        rw [e89]
        obtain ⟨o90, h⟩ := h
        obtain ⟨R88, g88, h⟩ := h
        refine x_callV hG (Ky := kJ5_get) (As := [.int y1_1]) dX8_reach_42 o90 rfl lk_X8_77 me_J5_get is_J5_get se_J5_get rfl rfl (Nat.le_of_ble_eq_true rfl) (MX.post (m_w_J5_get hG hO g88) ?_)
        rintro _ A88 ⟨v88, rfl, h1⟩
        refine X.xok (fun w88 => ?_)
        replace h := h v88 A88 w88 h1
        change X _ _ _ _ A88 _ _ [va_rf v88]
        obtain ⟨b91, e91, h⟩ := h
        rw [e91]
        obtain ⟨o92, h⟩ := h
        refine x_cast hG dX8_reach_45 q2452 o92 rfl (Or.inl rfl) ?_
        refine x_iconst_ (v := (0 : Int32)) dX8_reach_48 (by decide) ?_
        refine z_putI hG hO.1 dX8_reach_49 f_X8_110_34 ⟨_, rfl, Or.inl rfl⟩ o92 (by decide) rfl rfl ⟨_, rfl⟩ (fun A93 e93 => ?_)
        replace h := h A93 e93
        refine x_iinc (v := (y1_1 + (1 : Int32))) dX8_reach_52 rfl rfl (by decide) ?_
        refine x_goto (tgt := 2) dX8_reach_55 (by decide) ?_
        obtain ⟨q1, l1, h⟩ := h
        change X _ _ _ _ _ _ [some (.ref p), some (.int (y1_1 + (1 : Int32))), none, none] []
        exact X.weak (xle_c rfl (xle_c rfl (xle_n (xle_n xle_nil)))) (ih1 q1 l1 (y1_1 + (1 : Int32)) A93 h)
  change X _ _ _ _ _ _ [some (.ref p), some (.int (0 : Int32)), none, none] []
  exact X.weak (xle_c rfl (xle_c rfl (xle_n (xle_n xle_nil)))) (kl1 n1 (0 : Int32) A i1)
def w_X8_join (G : xG) (p : Nat) (Q : xA → Prop) (A : xA) : Prop := xok G A → A.tg p = 8 ∧ (∃ b2 : Nat, (A.P p 1) = some b2 ∧ (A.tg b2 = 34 ∧ (∃ b5 : Nat, (A.P b2 1) = some b5 ∧ (A.tg b5 = 37 ∧ (∃ R4 : Option Nat → xA → Prop, w_J5_get G b5 (0 : Int32) R4 A ∧ (∀ (v4 : Option Nat) (A4 : xA), xok G A4 → R4 v4 A4 → (∃ b7 : Nat, v4 = some b7 ∧ (A4.tg b7 = 35 ∧ (∃ L9 : Nat → Int32 → xA → Prop, (∃ n9 : Nat, L9 n9 (0 : Int32) A4) ∧ (∀ (n9 : Nat) (y9_2 : Int32) (A9 : xA), L9 n9 y9_2 A9 → A9.tg p = 8 ∧ (∃ b11 : Nat, (A9.P p 1) = some b11 ∧ (A9.tg b11 = 34 ∧ (∃ b14 : Nat, (A9.P b11 1) = some b14 ∧ (A9.tg b14 = 37 ∧ (∃ R13 : Int32 → xA → Prop, w_J5_size G b14 R13 A9 ∧ (∀ (v13 : Int32) (A13 : xA), xok G A13 → R13 v13 A13 → (((v13 ≤ y9_2 → Q A13) ∧ (¬ v13 ≤ y9_2 → A13.tg p = 8 ∧ (∃ b17 : Nat, (A13.P p 1) = some b17 ∧ (A13.tg b17 = 34 ∧ (∃ b20 : Nat, (A13.P b17 1) = some b20 ∧ (A13.tg b20 = 37 ∧ (∃ R19 : Option Nat → xA → Prop, w_J5_get G b20 y9_2 R19 A13 ∧ (∀ (v19 : Option Nat) (A19 : xA), xok G A19 → R19 v19 A19 → (∃ b22 : Nat, v19 = some b22 ∧ (A19.tg b22 = 35 ∧ (∃ L24 : Nat → xA → Prop, (∃ n24 : Nat, L24 n24 A19) ∧ (∀ (n24 : Nat) (A24 : xA), L24 n24 A24 → A24.tg b22 = 35 ∧ (∃ J26 : Prop, (J26 → (∃ q9 : Nat, q9 < n9 ∧ L9 q9 (y9_2 + (1 : Int32)) A24)) ∧ (((A24.I b22 1) = (1 : Int32) → ∃ b27 : Nat, (A24.P b22 5) = some b27 ∧ (A24.tg b27 = 35 ∧ ((((A24.I b27 9) = (1 : Int32) → (((some b27) = (some b7) → J26) ∧ (¬ (some b27) = (some b7) → (((some b27) = (some b22) → J26) ∧ (¬ (some b27) = (some b22) → ∃ L29 : Nat → Int32 → xA → Prop, (∃ n29 : Nat, L29 n29 (0 : Int32) A24) ∧ (∀ (n29 : Nat) (y29_5 : Int32) (A29 : xA), L29 n29 y29_5 A29 → A29.tg b27 = 35 ∧ (∃ b32 : Nat, (A29.P b27 0) = some b32 ∧ (A29.tg b32 = 37 ∧ (∃ R31 : Int32 → xA → Prop, w_J5_size G b32 R31 A29 ∧ (∀ (v31 : Int32) (A31 : xA), xok G A31 → R31 v31 A31 → (((v31 ≤ y29_5 → A31.tg b27 = 35 ∧ (A31.tg b22 = 35 ∧ (∀ A36 : xA, A36 = A31.setI b22 1 (A31.I b27 1) → (∀ A37 : xA, A37 = A36.setI b22 2 (A36.I b27 2) → (∀ A38 : xA, A38 = A37.setL b22 3 (A31.L b27 3) → (∀ A39 : xA, A39 = A38.setL b22 4 (A38.L b27 4) → (∀ A40 : xA, A40 = A39.setP b22 5 (A31.P b27 5) → (∀ A41 : xA, A41 = A40.setP b22 6 (A40.P b27 6) → (∃ b43 : Nat, (A41.P b27 0) = some b43 ∧ (A41.tg b43 = 37 ∧ (∃ R42 : xA → Prop, w_J5_clear G b43 R42 A41 ∧ (∀ A42 : xA, xok G A42 → R42 A42 → (A42.tg b27 = 35 ∧ (∃ R45 : xA → Prop, w_X36_ends G b27 (4 : Int32) (0 : Int64) (none : Option Nat) R45 A42 ∧ (∀ A45 : xA, xok G A45 → R45 A45 → (A45.tg b27 = 35 ∧ (∀ A48 : xA, A48 = A45.setI b27 9 (0 : Int32) → ((∃ q24 : Nat, q24 < n24 ∧ L24 q24 A48))))))))))))))))))) ∧ (¬ v31 ≤ y29_5 → A31.tg b22 = 35 ∧ (A31.tg b27 = 35 ∧ (∃ b52 : Nat, (A31.P b27 0) = some b52 ∧ (A31.tg b52 = 37 ∧ (∃ R51 : Option Nat → xA → Prop, w_J5_get G b52 y29_5 R51 A31 ∧ (∀ (v51 : Option Nat) (A51 : xA), xok G A51 → R51 v51 A51 → (∃ b54 : Nat, v51 = some b54 ∧ (A51.tg b54 = 36 ∧ (∃ b57 : Nat, (A31.P b22 0) = some b57 ∧ (A51.tg b57 = 37 ∧ (∃ R56 : Int32 → xA → Prop, w_J5_add G b57 (some b54) R56 A51 ∧ (∀ (v56 : Int32) (A56 : xA), xok G A56 → (v56 = 0 ∨ v56 = 1) → R56 v56 A56 → ((∃ q29 : Nat, q29 < n29 ∧ L29 q29 (y29_5 + (1 : Int32)) A56)))))))))))))))))))))))))) ∧ (¬ (A24.I b27 9) = (1 : Int32) → J26))))) ∧ (¬ (A24.I b22 1) = (1 : Int32) → J26))))))))))))))))))))))))))))))))
theorem m_X8_join (hG : xOK G) (hO : xHO G) {dp : Nat} {p : Nat} {Q : xA → Prop} {A : xA} (h : w_X8_join G p Q A) : MX G (dp + 7) kX8_join [.ref p] A (hV Q) := by
  unfold w_X8_join at h
  refine MX.of rfl (Nat.le_of_ble_eq_true rfl) ?_
  change X _ _ _ _ _ _ [some (.ref p), none, none, none, none, none] _
  refine X.xok (fun w0 => ?_)
  replace h := h w0
  refine x_aload_n dX8_join_0 rfl ?_
  obtain ⟨o1, h⟩ := h
  refine x_get (v := va_rf (A.P p 1)) hG dX8_join_1 f_X8_56_7 o1 rfl ?_
  obtain ⟨b2, e2, h⟩ := h
  rw [e2]
  obtain ⟨o3, h⟩ := h
  refine x_get (v := va_rf (A.P b2 1)) hG dX8_join_4 f_X8_101_33 o3 rfl ?_
  refine x_iconst_ (v := (0 : Int32)) dX8_join_7 (by decide) ?_
  obtain ⟨b5, e5, h⟩ := h
  rw [e5]
  obtain ⟨o6, h⟩ := h
  obtain ⟨R4, g4, h⟩ := h
  refine x_callV hG (Ky := kJ5_get) (As := [.int (0 : Int32)]) dX8_join_8 o6 rfl lk_X8_77 me_J5_get is_J5_get se_J5_get rfl rfl (Nat.le_of_ble_eq_true rfl) (MX.post (m_w_J5_get hG hO g4) ?_)
  rintro _ A4 ⟨v4, rfl, h1⟩
  refine X.xok (fun w4 => ?_)
  replace h := h v4 A4 w4 h1
  change X _ _ _ _ A4 _ _ [va_rf v4]
  obtain ⟨b7, e7, h⟩ := h
  rw [e7]
  obtain ⟨o8, h⟩ := h
  refine x_cast hG dX8_join_11 q2452 o8 rfl (Or.inl rfl) ?_
  refine x_astore_n dX8_join_14 (by decide) ?_
  refine x_iconst_ (v := (0 : Int32)) dX8_join_15 (by decide) ?_
  refine x_istore_n dX8_join_16 (by decide) ?_
  obtain ⟨L9, ⟨n9, i9⟩, g9⟩ := h
  have kl9 : ∀ n9 : Nat, ∀ (y9_2 : Int32) (A9 : xA), L9 n9 y9_2 A9 → X G (dp + 7) kX8_join (hV Q) A9 17 [some (.ref p), some (.ref b7), some (.int y9_2), none, none, none] [] := by
    intro n9
    induction n9 using Nat.strongRecOn with
    | ind n9 ih9 =>
      intro y9_2 A9 h
      replace h := g9 n9 y9_2 A9 h
      refine x_iload_n dX8_join_17 rfl ?_
      refine x_aload_n dX8_join_18 rfl ?_
      obtain ⟨o10, h⟩ := h
      refine x_get (v := va_rf (A9.P p 1)) hG dX8_join_19 f_X8_56_7 o10 rfl ?_
      obtain ⟨b11, e11, h⟩ := h
      rw [e11]
      obtain ⟨o12, h⟩ := h
      refine x_get (v := va_rf (A9.P b11 1)) hG dX8_join_22 f_X8_101_33 o12 rfl ?_
      obtain ⟨b14, e14, h⟩ := h
      rw [e14]
      obtain ⟨o15, h⟩ := h
      obtain ⟨R13, g13, h⟩ := h
      refine x_callV hG (Ky := kJ5_size) (As := []) dX8_join_25 o15 rfl lk_X8_73 me_J5_size is_J5_size se_J5_size rfl rfl (Nat.le_of_ble_eq_true rfl) (MX.post (m_w_J5_size hG hO g13) ?_)
      rintro _ A13 ⟨v13, rfl, h1⟩
      refine X.xok (fun w13 => ?_)
      replace h := h v13 A13 w13 h1
      change X _ _ _ _ A13 _ _ [.int v13, .int y9_2]
      refine x_icmp_ge (tgt := 215) dX8_join_28 (by decide) (fun c28 => ?_) (fun c28 => ?_)
      · replace h := h.1 c28
        exact x_vret dX8_join_215 rfl ⟨rfl, h⟩
      · replace h := h.2 c28
        refine x_aload_n dX8_join_31 rfl ?_
        obtain ⟨o16, h⟩ := h
        refine x_get (v := va_rf (A13.P p 1)) hG dX8_join_32 f_X8_56_7 o16 rfl ?_
        obtain ⟨b17, e17, h⟩ := h
        rw [e17]
        obtain ⟨o18, h⟩ := h
        refine x_get (v := va_rf (A13.P b17 1)) hG dX8_join_35 f_X8_101_33 o18 rfl ?_
        refine x_iload_n dX8_join_38 rfl ?_
        obtain ⟨b20, e20, h⟩ := h
        rw [e20]
        obtain ⟨o21, h⟩ := h
        obtain ⟨R19, g19, h⟩ := h
        refine x_callV hG (Ky := kJ5_get) (As := [.int y9_2]) dX8_join_39 o21 rfl lk_X8_77 me_J5_get is_J5_get se_J5_get rfl rfl (Nat.le_of_ble_eq_true rfl) (MX.post (m_w_J5_get hG hO g19) ?_)
        rintro _ A19 ⟨v19, rfl, h1⟩
        refine X.xok (fun w19 => ?_)
        replace h := h v19 A19 w19 h1
        change X _ _ _ _ A19 _ _ [va_rf v19]
        obtain ⟨b22, e22, h⟩ := h
        rw [e22]
        obtain ⟨o23, h⟩ := h
        refine x_cast hG dX8_join_42 q2452 o23 rfl (Or.inl rfl) ?_
        refine x_astore_n dX8_join_45 (by decide) ?_
        obtain ⟨L24, ⟨n24, i24⟩, g24⟩ := h
        have kl24 : ∀ n24 : Nat, ∀ (A24 : xA), L24 n24 A24 → X G (dp + 7) kX8_join (hV Q) A24 46 [some (.ref p), some (.ref b7), some (.int y9_2), some (.ref b22), none, none] [] := by
          intro n24
          induction n24 using Nat.strongRecOn with
          | ind n24 ih24 =>
            intro A24 h
            replace h := g24 n24 A24 h
            refine x_aload_n dX8_join_46 rfl ?_
            obtain ⟨o25, h⟩ := h
            refine x_get (v := .int (A24.I b22 1)) hG dX8_join_47 f_X8_124_34 o25 rfl ?_
            refine x_iconst_ (v := (1 : Int32)) dX8_join_50 (by decide) ?_
            obtain ⟨J26, g26, h⟩ := h
            have kj26 : J26 → X G (dp + 7) kX8_join (hV Q) A24 209 [some (.ref p), some (.ref b7), some (.int y9_2), none, none, none] [] := by
              intro h
              replace h := g26 h
              refine x_iinc (v := (y9_2 + (1 : Int32))) dX8_join_209 rfl rfl (by decide) ?_
              refine x_goto (tgt := 17) dX8_join_212 (by decide) ?_
              obtain ⟨q9, l9, h⟩ := h
              change X _ _ _ _ _ _ [some (.ref p), some (.ref b7), some (.int (y9_2 + (1 : Int32))), none, none, none] []
              exact X.weak (xle_c rfl (xle_c rfl (xle_c rfl (xle_n (xle_n (xle_n xle_nil)))))) (ih9 q9 l9 (y9_2 + (1 : Int32)) A24 h)
            refine x_icmp_ne (tgt := 209) dX8_join_51 (by decide) (fun c51 => ?_) (fun c51 => ?_)
            · replace h := h.2 c51
              change X _ _ _ _ _ _ [some (.ref p), some (.ref b7), some (.int y9_2), some (.ref b22), none, none] []
              exact X.weak (xle_c rfl (xle_c rfl (xle_c rfl (xle_n (xle_n (xle_n xle_nil)))))) (kj26 h)
            · replace h := h.1 c51
              refine x_aload_n dX8_join_54 rfl ?_
              refine x_get (v := va_rf (A24.P b22 5)) hG dX8_join_55 f_X8_127_34 o25 rfl ?_
              obtain ⟨b27, e27, h⟩ := h
              rw [e27]
              obtain ⟨o28, h⟩ := h
              refine x_get (v := .int (A24.I b27 9)) hG dX8_join_58 f_X8_110_34 o28 rfl ?_
              refine x_iconst_ (v := (1 : Int32)) dX8_join_61 (by decide) ?_
              refine x_icmp_ne (tgt := 209) dX8_join_62 (by decide) (fun c62 => ?_) (fun c62 => ?_)
              · replace h := h.2 c62
                change X _ _ _ _ _ _ [some (.ref p), some (.ref b7), some (.int y9_2), some (.ref b22), none, none] []
                exact X.weak (xle_c rfl (xle_c rfl (xle_c rfl (xle_n (xle_n (xle_n xle_nil)))))) (kj26 h)
              · replace h := h.1 c62
                refine x_aload_n dX8_join_65 rfl ?_
                refine x_get (v := .ref b27) hG dX8_join_66 f_X8_127_34 o25 (congrArg va_rf e27) ?_
                refine x_aload_n dX8_join_69 rfl ?_
                refine x_acmp_eq (rx := (some b27)) (ry := (some b7)) (tgt := 209) dX8_join_70 (by decide) (fun c70 => ?_) (fun c70 => ?_)
                · replace h := h.1 c70
                  change X _ _ _ _ _ _ [some (.ref p), some (.ref b7), some (.int y9_2), some (.ref b22), none, none] []
                  exact X.weak (xle_c rfl (xle_c rfl (xle_c rfl (xle_n (xle_n (xle_n xle_nil)))))) (kj26 h)
                · replace h := h.2 c70
                  refine x_aload_n dX8_join_73 rfl ?_
                  refine x_get (v := .ref b27) hG dX8_join_74 f_X8_127_34 o25 (congrArg va_rf e27) ?_
                  refine x_aload_n dX8_join_77 rfl ?_
                  refine x_acmp_eq (rx := (some b27)) (ry := (some b22)) (tgt := 209) dX8_join_78 (by decide) (fun c78 => ?_) (fun c78 => ?_)
                  · replace h := h.1 c78
                    change X _ _ _ _ _ _ [some (.ref p), some (.ref b7), some (.int y9_2), some (.ref b22), none, none] []
                    exact X.weak (xle_c rfl (xle_c rfl (xle_c rfl (xle_n (xle_n (xle_n xle_nil)))))) (kj26 h)
                  · replace h := h.2 c78
                    refine x_aload_n dX8_join_81 rfl ?_
                    refine x_get (v := .ref b27) hG dX8_join_82 f_X8_127_34 o25 (congrArg va_rf e27) ?_
                    refine x_astore dX8_join_85 (by decide) ?_
                    refine x_iconst_ (v := (0 : Int32)) dX8_join_87 (by decide) ?_
                    refine x_istore dX8_join_88 (by decide) ?_
                    obtain ⟨L29, ⟨n29, i29⟩, g29⟩ := h
                    have kl29 : ∀ n29 : Nat, ∀ (y29_5 : Int32) (A29 : xA), L29 n29 y29_5 A29 → X G (dp + 7) kX8_join (hV Q) A29 90 [some (.ref p), some (.ref b7), some (.int y9_2), some (.ref b22), some (.ref b27), some (.int y29_5)] [] := by
                      intro n29
                      induction n29 using Nat.strongRecOn with
                      | ind n29 ih29 =>
                        intro y29_5 A29 h
                        replace h := g29 n29 y29_5 A29 h
                        refine x_iload dX8_join_90 rfl ?_
                        refine x_aload dX8_join_92 rfl ?_
                        obtain ⟨o30, h⟩ := h
                        refine x_get (v := va_rf (A29.P b27 0)) hG dX8_join_94 f_X8_153_34 o30 rfl ?_
                        obtain ⟨b32, e32, h⟩ := h
                        rw [e32]
                        obtain ⟨o33, h⟩ := h
                        obtain ⟨R31, g31, h⟩ := h
                        refine x_callV hG (Ky := kJ5_size) (As := []) dX8_join_97 o33 rfl lk_X8_73 me_J5_size is_J5_size se_J5_size rfl rfl (Nat.le_of_ble_eq_true rfl) (MX.post (m_w_J5_size hG hO g31) ?_)
                        rintro _ A31 ⟨v31, rfl, h1⟩
                        refine X.xok (fun w31 => ?_)
                        replace h := h v31 A31 w31 h1
                        change X _ _ _ _ A31 _ _ [.int v31, .int y29_5]
                        refine x_icmp_ge (tgt := 130) dX8_join_100 (by decide) (fun c100 => ?_) (fun c100 => ?_)
                        · replace h := h.1 c100
                          refine x_aload_n dX8_join_130 rfl ?_
                          refine x_aload dX8_join_131 rfl ?_
                          obtain ⟨o34, h⟩ := h
                          refine x_get (v := .int (A31.I b27 1)) hG dX8_join_133 f_X8_124_34 o34 rfl ?_
                          obtain ⟨o35, h⟩ := h
                          refine z_putI hG hO.1 dX8_join_136 f_X8_124_34 ⟨_, rfl, Or.inl rfl⟩ o35 (by decide) rfl rfl ⟨_, rfl⟩ (fun A36 e36 => ?_)
                          replace h := h A36 e36
                          refine x_aload_n dX8_join_139 rfl ?_
                          refine x_aload dX8_join_140 rfl ?_
                          refine x_get (v := .int (A36.I b27 2)) hG dX8_join_142 f_X8_162_34 (kI e36 o34) rfl ?_
                          refine z_putI hG hO.1 dX8_join_145 f_X8_162_34 ⟨_, rfl, Or.inl rfl⟩ (kI e36 o35) (by decide) rfl rfl ⟨_, rfl⟩ (fun A37 e37 => ?_)
                          replace h := h A37 e37
                          refine x_aload_n dX8_join_148 rfl ?_
                          refine x_aload dX8_join_149 rfl ?_
                          refine x_get (v := .long (A31.L b27 3)) hG dX8_join_151 f_X8_165_34 (kI e37 (kI e36 o34)) (congrArg Value.long ((sI_L e37).trans (sI_L e36))) ?_
                          refine z_putL hG hO.1 dX8_join_154 f_X8_165_34 ⟨_, rfl, Or.inl rfl⟩ (kI e37 (kI e36 o35)) (by decide) rfl rfl ⟨_, rfl⟩ (fun A38 e38 => ?_)
                          replace h := h A38 e38
                          refine x_aload_n dX8_join_157 rfl ?_
                          refine x_aload dX8_join_158 rfl ?_
                          refine x_get (v := .long (A38.L b27 4)) hG dX8_join_160 f_X8_169_34 (kL e38 (kI e37 (kI e36 o34))) rfl ?_
                          refine z_putL hG hO.1 dX8_join_163 f_X8_169_34 ⟨_, rfl, Or.inl rfl⟩ (kL e38 (kI e37 (kI e36 o35))) (by decide) rfl rfl ⟨_, rfl⟩ (fun A39 e39 => ?_)
                          replace h := h A39 e39
                          refine x_aload_n dX8_join_166 rfl ?_
                          refine x_aload dX8_join_167 rfl ?_
                          refine x_get (v := va_rf (A31.P b27 5)) hG dX8_join_169 f_X8_127_34 (kL e39 (kL e38 (kI e37 (kI e36 o34)))) (congrArg va_rf ((sL_P e39).trans ((sL_P e38).trans ((sI_P e37).trans (sI_P e36))))) ?_
                          refine z_putP hG hO.1 (A31.P b27 5) dX8_join_172 f_X8_127_34 ⟨_, rfl, Or.inl rfl⟩ (kL e39 (kL e38 (kI e37 (kI e36 o35)))) (by decide) (Or.inl ⟨_, rfl⟩) (fun A40 e40 => ?_)
                          replace h := h A40 e40
                          refine x_aload_n dX8_join_175 rfl ?_
                          refine x_aload dX8_join_176 rfl ?_
                          refine x_get (v := va_rf (A40.P b27 6)) hG dX8_join_178 f_X8_131_34 (kP e40 (kL e39 (kL e38 (kI e37 (kI e36 o34))))) rfl ?_
                          refine z_putP hG hO.1 (A40.P b27 6) dX8_join_181 f_X8_131_34 ⟨_, rfl, Or.inl rfl⟩ (kP e40 (kL e39 (kL e38 (kI e37 (kI e36 o35))))) (by decide) (Or.inl ⟨_, rfl⟩) (fun A41 e41 => ?_)
                          replace h := h A41 e41
                          refine x_aload dX8_join_184 rfl ?_
                          refine x_get (v := va_rf (A41.P b27 0)) hG dX8_join_186 f_X8_153_34 (kP e41 (kP e40 (kL e39 (kL e38 (kI e37 (kI e36 o34)))))) rfl ?_
                          obtain ⟨b43, e43, h⟩ := h
                          rw [e43]
                          obtain ⟨o44, h⟩ := h
                          obtain ⟨R42, g42, h⟩ := h
                          refine x_callV hG (Ky := kJ5_clear) (As := []) dX8_join_189 o44 rfl lk_X8_172 me_J5_clear is_J5_clear se_J5_clear rfl rfl (Nat.le_of_ble_eq_true rfl) (MX.post (m_w_J5_clear hG hO g42) ?_)
                          rintro _ A42 ⟨rfl, h1⟩
                          refine X.xok (fun w42 => ?_)
                          replace h := h A42 w42 h1
                          change X _ _ _ _ A42 _ _ []
                          refine x_aload dX8_join_192 rfl ?_
                          refine x_iconst_ (v := (4 : Int32)) dX8_join_194 (by decide) ?_
                          refine x_lconst_ (v := (0 : Int64)) dX8_join_195 (by decide) ?_
                          refine x_null dX8_join_196 ?_
                          obtain ⟨o46, h⟩ := h
                          obtain ⟨R45, g45, h⟩ := h
                          refine x_callV hG (Ky := kX36_ends) (As := [.int (4 : Int32), .long (0 : Int64), .null]) dX8_join_197 o46 rfl lk_X8_175 me_X36_ends is_X36_ends se_X36_ends rfl rfl (Nat.le_of_ble_eq_true rfl) (MX.post (m_X36_ends hG hO g45) ?_)
                          rintro _ A45 ⟨rfl, h1⟩
                          refine X.xok (fun w45 => ?_)
                          replace h := h A45 w45 h1
                          change X _ _ _ _ A45 _ _ []
                          refine x_aload dX8_join_200 rfl ?_
                          refine x_iconst_ (v := (0 : Int32)) dX8_join_202 (by decide) ?_
                          obtain ⟨o47, h⟩ := h
                          refine z_putI hG hO.1 dX8_join_203 f_X8_110_34 ⟨_, rfl, Or.inl rfl⟩ o47 (by decide) rfl rfl ⟨_, rfl⟩ (fun A48 e48 => ?_)
                          replace h := h A48 e48
                          refine x_goto (tgt := 46) dX8_join_206 (by decide) ?_
                          obtain ⟨q24, l24, h⟩ := h
                          change X _ _ _ _ _ _ [some (.ref p), some (.ref b7), some (.int y9_2), some (.ref b22), some (.ref b27), some (.int y29_5)] []
                          exact X.weak (xle_c rfl (xle_c rfl (xle_c rfl (xle_c rfl (xle_n (xle_n xle_nil)))))) (ih24 q24 l24 A48 h)
                        · replace h := h.2 c100
                          refine x_aload_n dX8_join_103 rfl ?_
                          obtain ⟨o49, h⟩ := h
                          refine x_get (v := va_rf (A31.P b22 0)) hG dX8_join_104 f_X8_153_34 o49 rfl ?_
                          refine x_aload dX8_join_107 rfl ?_
                          obtain ⟨o50, h⟩ := h
                          refine x_get (v := va_rf (A31.P b27 0)) hG dX8_join_109 f_X8_153_34 o50 rfl ?_
                          refine x_iload dX8_join_112 rfl ?_
                          obtain ⟨b52, e52, h⟩ := h
                          rw [e52]
                          obtain ⟨o53, h⟩ := h
                          obtain ⟨R51, g51, h⟩ := h
                          refine x_callV hG (Ky := kJ5_get) (As := [.int y29_5]) dX8_join_114 o53 rfl lk_X8_77 me_J5_get is_J5_get se_J5_get rfl rfl (by simp only [List.append_eq, List.nil_append, List.map_cons, va_rf_cat]; exact Nat.le_of_ble_eq_true rfl) (MX.post (m_w_J5_get hG hO g51) ?_)
                          rintro _ A51 ⟨v51, rfl, h1⟩
                          refine X.xok (fun w51 => ?_)
                          replace h := h v51 A51 w51 h1
                          change X _ _ _ _ A51 _ _ [va_rf v51, va_rf (A31.P b22 0)]
                          obtain ⟨b54, e54, h⟩ := h
                          rw [e54]
                          obtain ⟨o55, h⟩ := h
                          refine x_cast hG dX8_join_117 q2487 o55 rfl (Or.inl rfl) ?_
                          obtain ⟨b57, e57, h⟩ := h
                          rw [e57]
                          obtain ⟨o58, h⟩ := h
                          obtain ⟨R56, g56, h⟩ := h
                          refine x_callV hG (Ky := kJ5_add) (As := [.ref b54]) dX8_join_120 o58 rfl lk_X8_156 me_J5_add is_J5_add se_J5_add rfl rfl (Nat.le_of_ble_eq_true rfl) (MX.post (m_w_J5_add hG hO g56) ?_)
                          rintro _ A56 ⟨v56, rfl, zv56, h1⟩
                          refine X.xok (fun w56 => ?_)
                          replace h := h v56 A56 w56 zv56 h1
                          change X _ _ _ _ A56 _ _ [.int v56]
                          refine x_pop dX8_join_123 rfl ?_
                          refine x_iinc (v := (y29_5 + (1 : Int32))) dX8_join_124 rfl rfl (by decide) ?_
                          refine x_goto (tgt := 90) dX8_join_127 (by decide) ?_
                          obtain ⟨q29, l29, h⟩ := h
                          change X _ _ _ _ _ _ [some (.ref p), some (.ref b7), some (.int y9_2), some (.ref b22), some (.ref b27), some (.int (y29_5 + (1 : Int32)))] []
                          exact X.weak (xle_c rfl (xle_c rfl (xle_c rfl (xle_c rfl (xle_c rfl (xle_c rfl xle_nil)))))) (ih29 q29 l29 (y29_5 + (1 : Int32)) A56 h)
                    change X _ _ _ _ _ _ [some (.ref p), some (.ref b7), some (.int y9_2), some (.ref b22), some (.ref b27), some (.int (0 : Int32))] []
                    exact X.weak (xle_c rfl (xle_c rfl (xle_c rfl (xle_c rfl (xle_c rfl (xle_c rfl xle_nil)))))) (kl29 n29 (0 : Int32) A24 i29)
        change X _ _ _ _ _ _ [some (.ref p), some (.ref b7), some (.int y9_2), some (.ref b22), none, none] []
        exact X.weak (xle_c rfl (xle_c rfl (xle_c rfl (xle_c rfl (xle_n (xle_n xle_nil)))))) (kl24 n24 A19 i24)
  change X _ _ _ _ _ _ [some (.ref p), some (.ref b7), some (.int (0 : Int32)), none, none, none] []
  exact X.weak (xle_c rfl (xle_c rfl (xle_c rfl (xle_n (xle_n (xle_n xle_nil)))))) (kl9 n9 (0 : Int32) A4 i9)
def w_X8_how (G : xG) (p : Nat) (o : Int64) (Q : Int32 → xA → Prop) (A : xA) : Prop := xok G A → (((f_X0_isConstant o) = 0 → A.tg p = 8 ∧ (∃ b2 : Nat, (A.P p 2) = some b2 ∧ (A.tg b2 = 200 ∧ (vp_in o.toInt32 (A.ln b2) ∧ ((((A.I b2 (ix o.toInt32)) < 0 → ∃ b5 : Nat, (A.P p 8) = some b5 ∧ (A.tg b5 = 200 ∧ (vp_in o.toInt32 (A.ln b5) ∧ ((((A.I b5 (ix o.toInt32)) = (A.I p 11) → ∃ b8 : Nat, (A.P p 9) = some b8 ∧ (A.tg b8 = 200 ∧ (vp_in o.toInt32 (A.ln b8) ∧ (Q (A.I b8 (ix o.toInt32)) A)))) ∧ (¬ (A.I b5 (ix o.toInt32)) = (A.I p 11) → Q (2 : Int32) A)))))) ∧ (¬ (A.I b2 (ix o.toInt32)) < 0 → ∃ b11 : Nat, (A.P p 6) = some b11 ∧ (A.tg b11 = 200 ∧ (vp_in (A.I b2 (ix o.toInt32)) (A.ln b11) ∧ (Q (A.I b11 (ix (A.I b2 (ix o.toInt32)))) A)))))))))) ∧ (¬ (f_X0_isConstant o) = 0 → Q (1 : Int32) A))
theorem m_X8_how (hG : xOK G) (hO : xHO G) {dp : Nat} {p : Nat} {o : Int64} {Q : Int32 → xA → Prop} {A : xA} (h : w_X8_how G p o Q A) : MX G (dp + 1) kX8_how [.ref p, .long o] A (hI Q) := by
  unfold w_X8_how at h
  refine MX.of rfl (Nat.le_of_ble_eq_true rfl) ?_
  change X _ _ _ _ _ _ [some (.ref p), some (.long o), none, none] _
  refine X.xok (fun w0 => ?_)
  replace h := h w0
  refine x_lload_n dX8_how_0 rfl ?_
  refine x_callS hG (Ky := kX0_isConstant) (As := [.long o]) dX8_how_1 lk_X8_205 me_X0_isConstant st_X0_isConstant rfl rfl (Nat.le_of_ble_eq_true rfl) (MX.post (m_X0_isConstant hG) ?_)
  rintro _ _ ⟨rfl, rfl⟩
  change X _ _ _ _ _ _ _ (.int (f_X0_isConstant o) :: _)
  refine x_if_eq (tgt := 9) dX8_how_4 (by decide) (fun c4 => ?_) (fun c4 => ?_)
  · replace h := h.1 c4
    refine x_lload_n dX8_how_9 rfl ?_
    refine x_l2i dX8_how_10 ?_
    refine x_istore_n dX8_how_11 (by decide) ?_
    refine x_aload_n dX8_how_12 rfl ?_
    obtain ⟨o1, h⟩ := h
    refine x_get (v := va_rf (A.P p 2)) hG dX8_how_13 f_X8_9_7 o1 rfl ?_
    refine x_iload_n dX8_how_16 rfl ?_
    obtain ⟨b2, e2, h⟩ := h
    rw [e2]
    obtain ⟨o3, h⟩ := h
    obtain ⟨o4, h⟩ := h
    refine x_iald hG dX8_how_17 o3 o4 ?_
    refine x_if_lt (tgt := 35) dX8_how_18 (by decide) (fun c18 => ?_) (fun c18 => ?_)
    · replace h := h.1 c18
      refine x_aload_n dX8_how_35 rfl ?_
      refine x_get (v := va_rf (A.P p 8)) hG dX8_how_36 f_X8_34_7 o1 rfl ?_
      refine x_iload_n dX8_how_39 rfl ?_
      obtain ⟨b5, e5, h⟩ := h
      rw [e5]
      obtain ⟨o6, h⟩ := h
      obtain ⟨o7, h⟩ := h
      refine x_iald hG dX8_how_40 o6 o7 ?_
      refine x_aload_n dX8_how_41 rfl ?_
      refine x_get (v := .int (A.I p 11)) hG dX8_how_42 f_X8_187_7 o1 rfl ?_
      refine x_icmp_ne (tgt := 57) dX8_how_45 (by decide) (fun c45 => ?_) (fun c45 => ?_)
      · replace h := h.2 c45
        refine x_iconst_ (v := (2 : Int32)) dX8_how_57 (by decide) ?_
        exact x_iret dX8_how_58 rfl ⟨_, rfl, h⟩
      · replace h := h.1 c45
        refine x_aload_n dX8_how_48 rfl ?_
        refine x_get (v := va_rf (A.P p 9)) hG dX8_how_49 f_X8_37_7 o1 rfl ?_
        refine x_iload_n dX8_how_52 rfl ?_
        obtain ⟨b8, e8, h⟩ := h
        rw [e8]
        obtain ⟨o9, h⟩ := h
        obtain ⟨o10, h⟩ := h
        refine x_iald hG dX8_how_53 o9 o10 ?_
        refine x_goto (tgt := 58) dX8_how_54 (by decide) ?_
        exact x_iret dX8_how_58 rfl ⟨_, rfl, h⟩
    · replace h := h.2 c18
      refine x_aload_n dX8_how_21 rfl ?_
      refine x_get (v := va_rf (A.P p 6)) hG dX8_how_22 f_X8_28_7 o1 rfl ?_
      refine x_aload_n dX8_how_25 rfl ?_
      refine x_get (v := .ref b2) hG dX8_how_26 f_X8_9_7 o1 (congrArg va_rf e2) ?_
      refine x_iload_n dX8_how_29 rfl ?_
      refine x_iald hG dX8_how_30 o3 o4 ?_
      obtain ⟨b11, e11, h⟩ := h
      rw [e11]
      obtain ⟨o12, h⟩ := h
      obtain ⟨o13, h⟩ := h
      refine x_iald hG dX8_how_31 o12 o13 ?_
      refine x_goto (tgt := 58) dX8_how_32 (by decide) ?_
      exact x_iret dX8_how_58 rfl ⟨_, rfl, h⟩
  · replace h := h.2 c4
    refine x_iconst_ (v := (1 : Int32)) dX8_how_7 (by decide) ?_
    exact x_iret dX8_how_8 rfl ⟨_, rfl, h⟩
def w_X8_what (G : xG) (p : Nat) (o : Int64) (Q : Int32 → xA → Prop) (A : xA) : Prop := xok G A → (((f_X0_isConstant o) = 0 → A.tg p = 8 ∧ (∃ b2 : Nat, (A.P p 2) = some b2 ∧ (A.tg b2 = 200 ∧ (vp_in o.toInt32 (A.ln b2) ∧ ((((A.I b2 (ix o.toInt32)) < 0 → ∃ b5 : Nat, (A.P p 10) = some b5 ∧ (A.tg b5 = 200 ∧ (vp_in o.toInt32 (A.ln b5) ∧ (Q (A.I b5 (ix o.toInt32)) A)))) ∧ (¬ (A.I b2 (ix o.toInt32)) < 0 → ∃ b8 : Nat, (A.P p 7) = some b8 ∧ (A.tg b8 = 200 ∧ (vp_in (A.I b2 (ix o.toInt32)) (A.ln b8) ∧ (Q (A.I b8 (ix (A.I b2 (ix o.toInt32)))) A)))))))))) ∧ (¬ (f_X0_isConstant o) = 0 → Q o.toInt32 A))
theorem m_X8_what (hG : xOK G) (hO : xHO G) {dp : Nat} {p : Nat} {o : Int64} {Q : Int32 → xA → Prop} {A : xA} (h : w_X8_what G p o Q A) : MX G (dp + 1) kX8_what [.ref p, .long o] A (hI Q) := by
  unfold w_X8_what at h
  refine MX.of rfl (Nat.le_of_ble_eq_true rfl) ?_
  change X _ _ _ _ _ _ [some (.ref p), some (.long o), none, none] _
  refine X.xok (fun w0 => ?_)
  replace h := h w0
  refine x_lload_n dX8_what_0 rfl ?_
  refine x_callS hG (Ky := kX0_isConstant) (As := [.long o]) dX8_what_1 lk_X8_205 me_X0_isConstant st_X0_isConstant rfl rfl (Nat.le_of_ble_eq_true rfl) (MX.post (m_X0_isConstant hG) ?_)
  rintro _ _ ⟨rfl, rfl⟩
  change X _ _ _ _ _ _ _ (.int (f_X0_isConstant o) :: _)
  refine x_if_eq (tgt := 10) dX8_what_4 (by decide) (fun c4 => ?_) (fun c4 => ?_)
  · replace h := h.1 c4
    refine x_lload_n dX8_what_10 rfl ?_
    refine x_l2i dX8_what_11 ?_
    refine x_istore_n dX8_what_12 (by decide) ?_
    refine x_aload_n dX8_what_13 rfl ?_
    obtain ⟨o1, h⟩ := h
    refine x_get (v := va_rf (A.P p 2)) hG dX8_what_14 f_X8_9_7 o1 rfl ?_
    refine x_iload_n dX8_what_17 rfl ?_
    obtain ⟨b2, e2, h⟩ := h
    rw [e2]
    obtain ⟨o3, h⟩ := h
    obtain ⟨o4, h⟩ := h
    refine x_iald hG dX8_what_18 o3 o4 ?_
    refine x_if_lt (tgt := 36) dX8_what_19 (by decide) (fun c19 => ?_) (fun c19 => ?_)
    · replace h := h.1 c19
      refine x_aload_n dX8_what_36 rfl ?_
      refine x_get (v := va_rf (A.P p 10)) hG dX8_what_37 f_X8_40_7 o1 rfl ?_
      refine x_iload_n dX8_what_40 rfl ?_
      obtain ⟨b5, e5, h⟩ := h
      rw [e5]
      obtain ⟨o6, h⟩ := h
      obtain ⟨o7, h⟩ := h
      refine x_iald hG dX8_what_41 o6 o7 ?_
      exact x_iret dX8_what_42 rfl ⟨_, rfl, h⟩
    · replace h := h.2 c19
      refine x_aload_n dX8_what_22 rfl ?_
      refine x_get (v := va_rf (A.P p 7)) hG dX8_what_23 f_X8_31_7 o1 rfl ?_
      refine x_aload_n dX8_what_26 rfl ?_
      refine x_get (v := .ref b2) hG dX8_what_27 f_X8_9_7 o1 (congrArg va_rf e2) ?_
      refine x_iload_n dX8_what_30 rfl ?_
      refine x_iald hG dX8_what_31 o3 o4 ?_
      obtain ⟨b8, e8, h⟩ := h
      rw [e8]
      obtain ⟨o9, h⟩ := h
      obtain ⟨o10, h⟩ := h
      refine x_iald hG dX8_what_32 o9 o10 ?_
      refine x_goto (tgt := 42) dX8_what_33 (by decide) ?_
      exact x_iret dX8_what_42 rfl ⟨_, rfl, h⟩
  · replace h := h.2 c4
    refine x_lload_n dX8_what_7 rfl ?_
    refine x_l2i dX8_what_8 ?_
    exact x_iret dX8_what_9 rfl ⟨_, rfl, h⟩
def w_X8_judge (G : xG) (p : Nat) (x : Option Nat) (Q : xA → Prop) (A : xA) : Prop := xok G A → ∃ b1 : Nat, x = some b1 ∧ (A.tg b1 = 36 ∧ (((0 ≤ (A.I b1 1) → ∃ J3 : Int32 → Int32 → xA → Prop, (∀ (y3_2 : Int32) (y3_3 : Int32) (A3 : xA), J3 y3_2 y3_3 A3 → A3.tg p = 8 ∧ (A3.tg b1 = 36 ∧ (∃ b6 : Nat, (A3.P p 2) = some b6 ∧ (A3.tg b6 = 200 ∧ (vp_in (A3.I b1 1) (A3.ln b6) ∧ ((((A3.I b6 (ix (A3.I b1 1))) < 0 → ∃ b9 : Nat, (A3.P p 8) = some b9 ∧ (A3.tg b9 = 200 ∧ (G.N ≤ b9 ∧ (vp_in (A3.I b1 1) (A3.ln b9) ∧ (∀ A13 : xA, A13 = A3.setI b9 (ix (A3.I b1 1)) (A3.I p 11) → (∃ b14 : Nat, (A3.P p 9) = some b14 ∧ (A13.tg b14 = 200 ∧ (G.N ≤ b14 ∧ (vp_in (A3.I b1 1) (A13.ln b14) ∧ (∀ A18 : xA, A18 = A13.setI b14 (ix (A3.I b1 1)) y3_2 → (∃ b19 : Nat, (A3.P p 10) = some b19 ∧ (A18.tg b19 = 200 ∧ (G.N ≤ b19 ∧ (vp_in (A3.I b1 1) (A18.ln b19) ∧ (∀ A23 : xA, A23 = A18.setI b19 (ix (A3.I b1 1)) y3_3 → (Q A23)))))))))))))))) ∧ (¬ (A3.I b6 (ix (A3.I b1 1))) < 0 → ∃ b24 : Nat, (A3.P p 6) = some b24 ∧ (A3.tg b24 = 200 ∧ (G.N ≤ b24 ∧ (vp_in (A3.I b6 (ix (A3.I b1 1))) (A3.ln b24) ∧ (∀ A28 : xA, A28 = A3.setI b24 (ix (A3.I b6 (ix (A3.I b1 1)))) y3_2 → (vp_in (A3.I b1 1) (A28.ln b6) ∧ (∃ b30 : Nat, (A3.P p 7) = some b30 ∧ (A28.tg b30 = 200 ∧ (G.N ≤ b30 ∧ (vp_in (A28.I b6 (ix (A3.I b1 1))) (A28.ln b30) ∧ (∀ A34 : xA, A34 = A28.setI b30 (ix (A28.I b6 (ix (A3.I b1 1)))) y3_3 → (Q A34))))))))))))))))))) ∧ (((A.I b1 0) = (20 : Int32) → A.tg p = 8 ∧ (∃ R48 : Int32 → xA → Prop, w_X8_how G p (A.L b1 2) R48 A ∧ (∀ (v48 : Int32) (A48 : xA), xok G A48 → R48 v48 A48 → (∃ J50 : Int32 → xA → Prop, (∀ (y50_s0 : Int32) (A50 : xA), J50 y50_s0 A50 → J3 v48 y50_s0 A50) ∧ ((v48 = (1 : Int32) → A48.tg b1 = 36 ∧ (A48.tg p = 8 ∧ (∃ R52 : Int32 → xA → Prop, w_X8_what G p (A48.L b1 2) R52 A48 ∧ (∀ (v52 : Int32) (A52 : xA), xok G A52 → R52 v52 A52 → (J50 v52 A52))))) ∧ (¬ v48 = (1 : Int32) → J50 (0 : Int32) A48)))))) ∧ (¬ (A.I b1 0) = (20 : Int32) → (((f_X0_below (A.I b1 0)) = 0 → J3 (2 : Int32) (0 : Int32) A) ∧ (¬ (f_X0_below (A.I b1 0)) = 0 → A.tg p = 8 ∧ (∃ R35 : Int32 → xA → Prop, w_X8_how G p (A.L b1 2) R35 A ∧ (∀ (v35 : Int32) (A35 : xA), xok G A35 → R35 v35 A35 → (∃ J37 : Int32 → xA → Prop, (∀ (y37_s0 : Int32) (A37 : xA), J37 y37_s0 A37 → ∃ J38 : Int32 → xA → Prop, (∀ (y38_s0 : Int32) (A38 : xA), J38 y38_s0 A38 → J3 (if y37_s0 = 0 then (2 : Int32) else (1 : Int32)) y38_s0 A38) ∧ ((y37_s0 = 0 → J38 (0 : Int32) A37) ∧ (¬ y37_s0 = 0 → A37.tg b1 = 36 ∧ (A37.tg p = 8 ∧ (∃ R40 : Int32 → xA → Prop, w_X8_what G p (A37.L b1 2) R40 A37 ∧ (∀ (v40 : Int32) (A40 : xA), xok G A40 → R40 v40 A40 → (A40.tg b1 = 36 ∧ (A40.tg p = 8 ∧ (∃ R43 : Int32 → xA → Prop, w_X8_what G p (A40.L b1 3) R43 A40 ∧ (∀ (v43 : Int32) (A43 : xA), xok G A43 → R43 v43 A43 → (J38 (f_X0_done (A37.I b1 0) v40 v43) A43))))))))))) ∧ ((v35 = (1 : Int32) → A35.tg b1 = 36 ∧ (A35.tg p = 8 ∧ (∃ R46 : Int32 → xA → Prop, w_X8_how G p (A35.L b1 3) R46 A35 ∧ (∀ (v46 : Int32) (A46 : xA), xok G A46 → R46 v46 A46 → (((v46 = (1 : Int32) → J37 (1 : Int32) A46) ∧ (¬ v46 = (1 : Int32) → J37 (0 : Int32) A46))))))) ∧ (¬ v35 = (1 : Int32) → J37 (0 : Int32) A35)))))))))) ∧ (¬ 0 ≤ (A.I b1 1) → Q A))))
theorem m_X8_judge (hG : xOK G) (hO : xHO G) {dp : Nat} {p : Nat} {x : Option Nat} {Q : xA → Prop} {A : xA} (h : w_X8_judge G p x Q A) : MX G (dp + 2) kX8_judge [.ref p, va_rf x] A (hV Q) := by
  unfold w_X8_judge at h
  refine MX.of rfl (by cases x <;> exact Nat.le_of_ble_eq_true rfl) ?_
  refine X.lvs (lv' := [some (.ref p), some (va_rf x), none, none, none]) (by cases x <;> rfl) ?_
  refine X.xok (fun w0 => ?_)
  replace h := h w0
  refine x_aloadq_n dX8_judge_0 rfl ?_
  obtain ⟨b1, e1, h⟩ := h
  rw [e1]
  obtain ⟨o2, h⟩ := h
  refine x_get (v := .int (A.I b1 1)) hG dX8_judge_1 f_X8_209_35 o2 rfl ?_
  refine x_if_ge (tgt := 8) dX8_judge_4 (by decide) (fun c4 => ?_) (fun c4 => ?_)
  · replace h := h.1 c4
    refine x_iconst_ (v := (2 : Int32)) dX8_judge_8 (by decide) ?_
    refine x_istore_n dX8_judge_9 (by decide) ?_
    refine x_iconst_ (v := (0 : Int32)) dX8_judge_10 (by decide) ?_
    refine x_istore_n dX8_judge_11 (by decide) ?_
    refine x_aload_n dX8_judge_12 rfl ?_
    refine x_get (v := .int (A.I b1 0)) hG dX8_judge_13 f_X8_212_35 o2 rfl ?_
    refine x_bipush_ (v := (20 : Int32)) dX8_judge_16 (by decide) ?_
    obtain ⟨J3, g3, h⟩ := h
    have kj3 : ∀ (y3_2 : Int32) (y3_3 : Int32) (A3 : xA), J3 y3_2 y3_3 A3 → X G (dp + 2) kX8_judge (hV Q) A3 136 [some (.ref p), some (.ref b1), some (.int y3_2), some (.int y3_3), none] [] := by
      intro y3_2 y3_3 A3 h
      replace h := g3 y3_2 y3_3 A3 h
      refine x_aload_n dX8_judge_136 rfl ?_
      obtain ⟨o4, h⟩ := h
      refine x_get (v := va_rf (A3.P p 2)) hG dX8_judge_137 f_X8_9_7 o4 rfl ?_
      refine x_aload_n dX8_judge_140 rfl ?_
      obtain ⟨o5, h⟩ := h
      refine x_get (v := .int (A3.I b1 1)) hG dX8_judge_141 f_X8_209_35 o5 rfl ?_
      obtain ⟨b6, e6, h⟩ := h
      rw [e6]
      obtain ⟨o7, h⟩ := h
      obtain ⟨o8, h⟩ := h
      refine x_iald hG dX8_judge_144 o7 o8 ?_
      refine x_if_lt (tgt := 181) dX8_judge_145 (by decide) (fun c145 => ?_) (fun c145 => ?_)
      · replace h := h.1 c145
        refine x_aload_n dX8_judge_181 rfl ?_
        refine x_get (v := va_rf (A3.P p 8)) hG dX8_judge_182 f_X8_34_7 o4 rfl ?_
        refine x_aload_n dX8_judge_185 rfl ?_
        refine x_get (v := .int (A3.I b1 1)) hG dX8_judge_186 f_X8_209_35 o5 rfl ?_
        refine x_aload_n dX8_judge_189 rfl ?_
        refine x_get (v := .int (A3.I p 11)) hG dX8_judge_190 f_X8_187_7 o4 rfl ?_
        obtain ⟨b9, e9, h⟩ := h
        rw [e9]
        obtain ⟨o10, h⟩ := h
        obtain ⟨o11, h⟩ := h
        obtain ⟨o12, h⟩ := h
        refine z_iast hG dX8_judge_193 o10 o11 o12 (fun A13 e13 => ?_)
        replace h := h A13 e13
        refine x_aload_n dX8_judge_194 rfl ?_
        refine x_get (v := va_rf (A3.P p 9)) hG dX8_judge_195 f_X8_37_7 (kI e13 o4) (congrArg va_rf (sI_P e13)) ?_
        refine x_aload_n dX8_judge_198 rfl ?_
        refine x_get (v := .int (A3.I b1 1)) hG dX8_judge_199 f_X8_209_35 (kI e13 o5) (congrArg Value.int (sI_a e13 (tne o5 o10 (by decide)))) ?_
        refine x_iload_n dX8_judge_202 rfl ?_
        obtain ⟨b14, e14, h⟩ := h
        rw [e14]
        obtain ⟨o15, h⟩ := h
        obtain ⟨o16, h⟩ := h
        obtain ⟨o17, h⟩ := h
        refine z_iast hG dX8_judge_203 o15 o16 o17 (fun A18 e18 => ?_)
        replace h := h A18 e18
        refine x_aload_n dX8_judge_204 rfl ?_
        refine x_get (v := va_rf (A3.P p 10)) hG dX8_judge_205 f_X8_40_7 (kI e18 (kI e13 o4)) (congrArg va_rf ((sI_P e18).trans (sI_P e13))) ?_
        refine x_aload_n dX8_judge_208 rfl ?_
        refine x_get (v := .int (A3.I b1 1)) hG dX8_judge_209 f_X8_209_35 (kI e18 (kI e13 o5)) (congrArg Value.int ((sI_a e18 (tne (kI e13 o5) o15 (by decide))).trans (sI_a e13 (tne o5 o10 (by decide))))) ?_
        refine x_iload_n dX8_judge_212 rfl ?_
        obtain ⟨b19, e19, h⟩ := h
        rw [e19]
        obtain ⟨o20, h⟩ := h
        obtain ⟨o21, h⟩ := h
        obtain ⟨o22, h⟩ := h
        refine z_iast hG dX8_judge_213 o20 o21 o22 (fun A23 e23 => ?_)
        replace h := h A23 e23
        exact x_vret dX8_judge_214 rfl ⟨rfl, h⟩
      · replace h := h.2 c145
        refine x_aload_n dX8_judge_148 rfl ?_
        refine x_get (v := va_rf (A3.P p 6)) hG dX8_judge_149 f_X8_28_7 o4 rfl ?_
        refine x_aload_n dX8_judge_152 rfl ?_
        refine x_get (v := .ref b6) hG dX8_judge_153 f_X8_9_7 o4 (congrArg va_rf e6) ?_
        refine x_aload_n dX8_judge_156 rfl ?_
        refine x_get (v := .int (A3.I b1 1)) hG dX8_judge_157 f_X8_209_35 o5 rfl ?_
        refine x_iald hG dX8_judge_160 o7 o8 ?_
        refine x_iload_n dX8_judge_161 rfl ?_
        obtain ⟨b24, e24, h⟩ := h
        rw [e24]
        obtain ⟨o25, h⟩ := h
        obtain ⟨o26, h⟩ := h
        obtain ⟨o27, h⟩ := h
        refine z_iast hG dX8_judge_162 o25 o26 o27 (fun A28 e28 => ?_)
        replace h := h A28 e28
        refine x_aload_n dX8_judge_163 rfl ?_
        refine x_get (v := va_rf (A3.P p 7)) hG dX8_judge_164 f_X8_31_7 (kI e28 o4) (congrArg va_rf (sI_P e28)) ?_
        refine x_aload_n dX8_judge_167 rfl ?_
        refine x_get (v := .ref b6) hG dX8_judge_168 f_X8_9_7 (kI e28 o4) (congrArg va_rf ((sI_P e28).trans e6)) ?_
        refine x_aload_n dX8_judge_171 rfl ?_
        refine x_get (v := .int (A3.I b1 1)) hG dX8_judge_172 f_X8_209_35 (kI e28 o5) (congrArg Value.int (sI_a e28 (tne o5 o25 (by decide)))) ?_
        obtain ⟨o29, h⟩ := h
        refine x_iald hG dX8_judge_175 (kI e28 o7) o29 ?_
        refine x_iload_n dX8_judge_176 rfl ?_
        obtain ⟨b30, e30, h⟩ := h
        rw [e30]
        obtain ⟨o31, h⟩ := h
        obtain ⟨o32, h⟩ := h
        obtain ⟨o33, h⟩ := h
        refine z_iast hG dX8_judge_177 o31 o32 o33 (fun A34 e34 => ?_)
        replace h := h A34 e34
        refine x_goto (tgt := 214) dX8_judge_178 (by decide) ?_
        exact x_vret dX8_judge_214 rfl ⟨rfl, h⟩
    refine x_icmp_ne (tgt := 51) dX8_judge_18 (by decide) (fun c18 => ?_) (fun c18 => ?_)
    · replace h := h.2 c18
      refine x_aload_n dX8_judge_51 rfl ?_
      refine x_get (v := .int (A.I b1 0)) hG dX8_judge_52 f_X8_212_35 o2 rfl ?_
      refine x_callS hG (Ky := kX0_below) (As := [.int (A.I b1 0)]) dX8_judge_55 lk_X8_214 me_X0_below st_X0_below rfl rfl (Nat.le_of_ble_eq_true rfl) (MX.post (m_X0_below hG) ?_)
      rintro _ _ ⟨rfl, rfl⟩
      change X _ _ _ _ _ _ _ (.int (f_X0_below (A.I b1 0)) :: _)
      refine x_if_eq (tgt := 136) dX8_judge_58 (by decide) (fun c58 => ?_) (fun c58 => ?_)
      · replace h := h.1 c58
        change X _ _ _ _ _ _ [some (.ref p), some (.ref b1), some (.int (2 : Int32)), some (.int (0 : Int32)), none] []
        exact X.weak (xle_c rfl (xle_c rfl (xle_c rfl (xle_c rfl (xle_n xle_nil))))) (kj3 (2 : Int32) (0 : Int32) A h)
      · replace h := h.2 c58
        refine x_aload_n dX8_judge_61 rfl ?_
        refine x_aload_n dX8_judge_62 rfl ?_
        refine x_get (v := .long (A.L b1 2)) hG dX8_judge_63 f_X8_213_35 o2 rfl ?_
        obtain ⟨o36, h⟩ := h
        obtain ⟨R35, g35, h⟩ := h
        refine x_callV hG (Ky := kX8_how) (As := [.long (A.L b1 2)]) dX8_judge_66 o36 rfl lk_X8_194 me_X8_how is_X8_how se_X8_how rfl rfl (Nat.le_of_ble_eq_true rfl) (MX.post (m_X8_how hG hO g35) ?_)
        rintro _ A35 ⟨v35, rfl, h1⟩
        refine X.xok (fun w35 => ?_)
        replace h := h v35 A35 w35 h1
        change X _ _ _ _ A35 _ _ [.int v35]
        refine x_iconst_ (v := (1 : Int32)) dX8_judge_69 (by decide) ?_
        obtain ⟨J37, g37, h⟩ := h
        have kj37 : ∀ (y37_s0 : Int32) (A37 : xA), J37 y37_s0 A37 → X G (dp + 2) kX8_judge (hV Q) A37 90 [some (.ref p), some (.ref b1), none, none, none] [.int y37_s0] := by
          intro y37_s0 A37 h
          replace h := g37 y37_s0 A37 h
          refine x_istore dX8_judge_90 (by decide) ?_
          refine x_iload dX8_judge_92 rfl ?_
          refine x_via 102 (A' := A37) (lv' := [some (.ref p), some (.ref b1), none, none, some (.int y37_s0)]) (st' := [.int (if y37_s0 = 0 then (2 : Int32) else (1 : Int32))]) ?_ (fun k102 => ?_)
          rotate_left
          · refine x_if_eq (tgt := 101) dX8_judge_94 (by decide) (fun c94 => ?_) (fun c94 => ?_)
            · refine x_iconst_ (v := (2 : Int32)) dX8_judge_101 (by decide) ?_
              change X _ _ _ _ _ _ [some (.ref p), some (.ref b1), none, none, some (.int y37_s0)] [.int (2 : Int32)]
              simp only [if_pos c94] at k102 ⊢
              exact X.weak (xle_c rfl (xle_c rfl (xle_n (xle_n (xle_c rfl xle_nil))))) k102
            · refine x_iconst_ (v := (1 : Int32)) dX8_judge_97 (by decide) ?_
              refine x_goto (tgt := 102) dX8_judge_98 (by decide) ?_
              change X _ _ _ _ _ _ [some (.ref p), some (.ref b1), none, none, some (.int y37_s0)] [.int (1 : Int32)]
              simp only [if_neg c94] at k102 ⊢
              exact X.weak (xle_c rfl (xle_c rfl (xle_n (xle_n (xle_c rfl xle_nil))))) k102
          refine x_istore_n dX8_judge_102 (by decide) ?_
          refine x_iload dX8_judge_103 rfl ?_
          obtain ⟨J38, g38, h⟩ := h
          have kj38 : ∀ (y38_s0 : Int32) (A38 : xA), J38 y38_s0 A38 → X G (dp + 2) kX8_judge (hV Q) A38 135 [some (.ref p), some (.ref b1), some (.int (if y37_s0 = 0 then (2 : Int32) else (1 : Int32))), none, none] [.int y38_s0] := by
            intro y38_s0 A38 h
            replace h := g38 y38_s0 A38 h
            refine x_istore_n dX8_judge_135 (by decide) ?_
            change X _ _ _ _ _ _ [some (.ref p), some (.ref b1), some (.int (if y37_s0 = 0 then (2 : Int32) else (1 : Int32))), some (.int y38_s0), none] []
            exact X.weak (xle_c rfl (xle_c rfl (xle_c rfl (xle_c rfl (xle_n xle_nil))))) (kj3 (if y37_s0 = 0 then (2 : Int32) else (1 : Int32)) y38_s0 A38 h)
          refine x_if_eq (tgt := 134) dX8_judge_105 (by decide) (fun c105 => ?_) (fun c105 => ?_)
          · replace h := h.1 c105
            refine x_iconst_ (v := (0 : Int32)) dX8_judge_134 (by decide) ?_
            change X _ _ _ _ _ _ [some (.ref p), some (.ref b1), some (.int (if y37_s0 = 0 then (2 : Int32) else (1 : Int32))), none, some (.int y37_s0)] [.int (0 : Int32)]
            exact X.weak (xle_c rfl (xle_c rfl (xle_c rfl (xle_n (xle_n xle_nil))))) (kj38 (0 : Int32) A37 h)
          · replace h := h.2 c105
            refine x_aload_n dX8_judge_108 rfl ?_
            obtain ⟨o39, h⟩ := h
            refine x_get (v := .int (A37.I b1 0)) hG dX8_judge_109 f_X8_212_35 o39 rfl ?_
            refine x_aload_n dX8_judge_112 rfl ?_
            refine x_aload_n dX8_judge_113 rfl ?_
            refine x_get (v := .long (A37.L b1 2)) hG dX8_judge_114 f_X8_213_35 o39 rfl ?_
            obtain ⟨o41, h⟩ := h
            obtain ⟨R40, g40, h⟩ := h
            refine x_callV hG (Ky := kX8_what) (As := [.long (A37.L b1 2)]) dX8_judge_117 o41 rfl lk_X8_198 me_X8_what is_X8_what se_X8_what rfl rfl (Nat.le_of_ble_eq_true rfl) (MX.post (m_X8_what hG hO g40) ?_)
            rintro _ A40 ⟨v40, rfl, h1⟩
            refine X.xok (fun w40 => ?_)
            replace h := h v40 A40 w40 h1
            change X _ _ _ _ A40 _ _ [.int v40, .int (A37.I b1 0)]
            refine x_aload_n dX8_judge_120 rfl ?_
            refine x_aload_n dX8_judge_121 rfl ?_
            obtain ⟨o42, h⟩ := h
            refine x_get (v := .long (A40.L b1 3)) hG dX8_judge_122 f_X8_218_35 o42 rfl ?_
            obtain ⟨o44, h⟩ := h
            obtain ⟨R43, g43, h⟩ := h
            refine x_callV hG (Ky := kX8_what) (As := [.long (A40.L b1 3)]) dX8_judge_125 o44 rfl lk_X8_198 me_X8_what is_X8_what se_X8_what rfl rfl (Nat.le_of_ble_eq_true rfl) (MX.post (m_X8_what hG hO g43) ?_)
            rintro _ A43 ⟨v43, rfl, h1⟩
            refine X.xok (fun w43 => ?_)
            replace h := h v43 A43 w43 h1
            change X _ _ _ _ A43 _ _ [.int v43, .int v40, .int (A37.I b1 0)]
            refine x_callS hG (Ky := kX0_done) (As := [.int (A37.I b1 0), .int v40, .int v43]) dX8_judge_128 lk_X8_201 me_X0_done st_X0_done rfl rfl (Nat.le_of_ble_eq_true rfl) (MX.post (m_X0_done hG pp_X0_done) ?_)
            rintro _ _ ⟨rfl, rfl⟩
            change X _ _ _ _ _ _ _ (.int (f_X0_done (A37.I b1 0) v40 v43) :: _)
            refine x_goto (tgt := 135) dX8_judge_131 (by decide) ?_
            change X _ _ _ _ _ _ [some (.ref p), some (.ref b1), some (.int (if y37_s0 = 0 then (2 : Int32) else (1 : Int32))), none, some (.int y37_s0)] [.int (f_X0_done (A37.I b1 0) v40 v43)]
            exact X.weak (xle_c rfl (xle_c rfl (xle_c rfl (xle_n (xle_n xle_nil))))) (kj38 (f_X0_done (A37.I b1 0) v40 v43) A43 h)
        refine x_icmp_ne (tgt := 89) dX8_judge_70 (by decide) (fun c70 => ?_) (fun c70 => ?_)
        · replace h := h.2 c70
          refine x_iconst_ (v := (0 : Int32)) dX8_judge_89 (by decide) ?_
          change X _ _ _ _ _ _ [some (.ref p), some (.ref b1), some (.int (2 : Int32)), some (.int (0 : Int32)), none] [.int (0 : Int32)]
          exact X.weak (xle_c rfl (xle_c rfl (xle_n (xle_n (xle_n xle_nil))))) (kj37 (0 : Int32) A35 h)
        · replace h := h.1 c70
          refine x_aload_n dX8_judge_73 rfl ?_
          refine x_aload_n dX8_judge_74 rfl ?_
          obtain ⟨o45, h⟩ := h
          refine x_get (v := .long (A35.L b1 3)) hG dX8_judge_75 f_X8_218_35 o45 rfl ?_
          obtain ⟨o47, h⟩ := h
          obtain ⟨R46, g46, h⟩ := h
          refine x_callV hG (Ky := kX8_how) (As := [.long (A35.L b1 3)]) dX8_judge_78 o47 rfl lk_X8_194 me_X8_how is_X8_how se_X8_how rfl rfl (Nat.le_of_ble_eq_true rfl) (MX.post (m_X8_how hG hO g46) ?_)
          rintro _ A46 ⟨v46, rfl, h1⟩
          refine X.xok (fun w46 => ?_)
          replace h := h v46 A46 w46 h1
          change X _ _ _ _ A46 _ _ [.int v46]
          refine x_iconst_ (v := (1 : Int32)) dX8_judge_81 (by decide) ?_
          refine x_icmp_ne (tgt := 89) dX8_judge_82 (by decide) (fun c82 => ?_) (fun c82 => ?_)
          · replace h := h.2 c82
            refine x_iconst_ (v := (0 : Int32)) dX8_judge_89 (by decide) ?_
            change X _ _ _ _ _ _ [some (.ref p), some (.ref b1), some (.int (2 : Int32)), some (.int (0 : Int32)), none] [.int (0 : Int32)]
            exact X.weak (xle_c rfl (xle_c rfl (xle_n (xle_n (xle_n xle_nil))))) (kj37 (0 : Int32) A46 h)
          · replace h := h.1 c82
            refine x_iconst_ (v := (1 : Int32)) dX8_judge_85 (by decide) ?_
            refine x_goto (tgt := 90) dX8_judge_86 (by decide) ?_
            change X _ _ _ _ _ _ [some (.ref p), some (.ref b1), some (.int (2 : Int32)), some (.int (0 : Int32)), none] [.int (1 : Int32)]
            exact X.weak (xle_c rfl (xle_c rfl (xle_n (xle_n (xle_n xle_nil))))) (kj37 (1 : Int32) A46 h)
    · replace h := h.1 c18
      refine x_aload_n dX8_judge_21 rfl ?_
      refine x_aload_n dX8_judge_22 rfl ?_
      refine x_get (v := .long (A.L b1 2)) hG dX8_judge_23 f_X8_213_35 o2 rfl ?_
      obtain ⟨o49, h⟩ := h
      obtain ⟨R48, g48, h⟩ := h
      refine x_callV hG (Ky := kX8_how) (As := [.long (A.L b1 2)]) dX8_judge_26 o49 rfl lk_X8_194 me_X8_how is_X8_how se_X8_how rfl rfl (Nat.le_of_ble_eq_true rfl) (MX.post (m_X8_how hG hO g48) ?_)
      rintro _ A48 ⟨v48, rfl, h1⟩
      refine X.xok (fun w48 => ?_)
      replace h := h v48 A48 w48 h1
      change X _ _ _ _ A48 _ _ [.int v48]
      refine x_istore_n dX8_judge_29 (by decide) ?_
      refine x_iload_n dX8_judge_30 rfl ?_
      refine x_iconst_ (v := (1 : Int32)) dX8_judge_31 (by decide) ?_
      obtain ⟨J50, g50, h⟩ := h
      have kj50 : ∀ (y50_s0 : Int32) (A50 : xA), J50 y50_s0 A50 → X G (dp + 2) kX8_judge (hV Q) A50 47 [some (.ref p), some (.ref b1), some (.int v48), none, none] [.int y50_s0] := by
        intro y50_s0 A50 h
        replace h := g50 y50_s0 A50 h
        refine x_istore_n dX8_judge_47 (by decide) ?_
        refine x_goto (tgt := 136) dX8_judge_48 (by decide) ?_
        change X _ _ _ _ _ _ [some (.ref p), some (.ref b1), some (.int v48), some (.int y50_s0), none] []
        exact X.weak (xle_c rfl (xle_c rfl (xle_c rfl (xle_c rfl (xle_n xle_nil))))) (kj3 v48 y50_s0 A50 h)
      refine x_icmp_ne (tgt := 46) dX8_judge_32 (by decide) (fun c32 => ?_) (fun c32 => ?_)
      · replace h := h.2 c32
        refine x_iconst_ (v := (0 : Int32)) dX8_judge_46 (by decide) ?_
        change X _ _ _ _ _ _ [some (.ref p), some (.ref b1), some (.int v48), some (.int (0 : Int32)), none] [.int (0 : Int32)]
        exact X.weak (xle_c rfl (xle_c rfl (xle_c rfl (xle_n (xle_n xle_nil))))) (kj50 (0 : Int32) A48 h)
      · replace h := h.1 c32
        refine x_aload_n dX8_judge_35 rfl ?_
        refine x_aload_n dX8_judge_36 rfl ?_
        obtain ⟨o51, h⟩ := h
        refine x_get (v := .long (A48.L b1 2)) hG dX8_judge_37 f_X8_213_35 o51 rfl ?_
        obtain ⟨o53, h⟩ := h
        obtain ⟨R52, g52, h⟩ := h
        refine x_callV hG (Ky := kX8_what) (As := [.long (A48.L b1 2)]) dX8_judge_40 o53 rfl lk_X8_198 me_X8_what is_X8_what se_X8_what rfl rfl (Nat.le_of_ble_eq_true rfl) (MX.post (m_X8_what hG hO g52) ?_)
        rintro _ A52 ⟨v52, rfl, h1⟩
        refine X.xok (fun w52 => ?_)
        replace h := h v52 A52 w52 h1
        change X _ _ _ _ A52 _ _ [.int v52]
        refine x_goto (tgt := 47) dX8_judge_43 (by decide) ?_
        change X _ _ _ _ _ _ [some (.ref p), some (.ref b1), some (.int v48), some (.int (0 : Int32)), none] [.int v52]
        exact X.weak (xle_c rfl (xle_c rfl (xle_c rfl (xle_n (xle_n xle_nil))))) (kj50 v52 A52 h)
  · replace h := h.2 c4
    exact x_vret dX8_judge_7 rfl ⟨rfl, h⟩
def w_X8_flow (G : xG) (p : Nat) (b : Option Nat) (Q : xA → Prop) (A : xA) : Prop := xok G A → A.tg p = 8 ∧ (∃ b2 : Nat, b = some b2 ∧ (A.tg b2 = 35 ∧ (∃ J4 : xA → Prop, (∀ (A4 : xA), J4 A4 → A4.tg b2 = 35 ∧ (∀ A6 : xA, A6 = A4.setI b2 11 (1 : Int32) → (∃ L7 : Nat → Int32 → Int32 → xA → Prop, (∃ n7 : Nat, L7 n7 (if (A.I b2 11) = 0 then (1 : Int32) else (0 : Int32)) (0 : Int32) A6) ∧ (∀ (n7 : Nat) (y7_3 : Int32) (y7_4 : Int32) (A7 : xA), L7 n7 y7_3 y7_4 A7 → A7.tg p = 8 ∧ ((((A7.I p 12) ≤ y7_4 → ((y7_3 = 0 → Q A7) ∧ (¬ y7_3 = 0 → A7.tg b2 = 35 ∧ ((((A7.I b2 10) = 0 → ∀ A10 : xA, A10 = A7.setI b2 10 (1 : Int32) → (∃ b12 : Nat, (A7.P p 3) = some b12 ∧ (A10.tg b12 = 37 ∧ (∃ R11 : Int32 → xA → Prop, w_J5_add G b12 (some b2) R11 A10 ∧ (∀ (v11 : Int32) (A11 : xA), xok G A11 → (v11 = 0 ∨ v11 = 1) → R11 v11 A11 → (Q A11)))))) ∧ (¬ (A7.I b2 10) = 0 → Q A7)))))) ∧ (¬ (A7.I p 12) ≤ y7_4 → ∃ b14 : Nat, (A7.P p 4) = some b14 ∧ (A7.tg b14 = 200 ∧ (vp_in (((A.I p 12) * (A.I b2 8)) + y7_4) (A7.ln b14) ∧ (∃ b17 : Nat, (A7.P p 6) = some b17 ∧ (A7.tg b17 = 200 ∧ (vp_in y7_4 (A7.ln b17) ∧ (∃ J20 : Int32 → xA → Prop, (∀ (y20_3 : Int32) (A20 : xA), J20 y20_3 A20 → (∃ q7 : Nat, q7 < n7 ∧ L7 q7 y20_3 (y7_4 + (1 : Int32)) A20)) ∧ (((A7.I b17 (ix y7_4)) = 0 → J20 y7_3 A7) ∧ (¬ (A7.I b17 (ix y7_4)) = 0 → (((A7.I b14 (ix (((A.I p 12) * (A.I b2 8)) + y7_4))) = (2 : Int32) → J20 y7_3 A7) ∧ (¬ (A7.I b14 (ix (((A.I p 12) * (A.I b2 8)) + y7_4))) = (2 : Int32) → ∃ J21 : Int32 → Prop, (∀ (y21_s0 : Int32), J21 y21_s0 → ((y21_s0 = 0 → G.N ≤ b14 ∧ (∀ A23 : xA, A23 = A7.setI b14 (ix (((A.I p 12) * (A.I b2 8)) + y7_4)) (if (A7.I b14 (ix (((A.I p 12) * (A.I b2 8)) + y7_4))) = 0 then (A7.I b17 (ix y7_4)) else (2 : Int32)) → (∃ b24 : Nat, (A7.P p 7) = some b24 ∧ (A23.tg b24 = 200 ∧ (vp_in y7_4 (A23.ln b24) ∧ (∃ b27 : Nat, (A7.P p 5) = some b27 ∧ (A23.tg b27 = 200 ∧ (G.N ≤ b27 ∧ (vp_in (((A.I p 12) * (A.I b2 8)) + y7_4) (A23.ln b27) ∧ (∀ A31 : xA, A31 = A23.setI b27 (ix (((A.I p 12) * (A.I b2 8)) + y7_4)) (A23.I b24 (ix y7_4)) → (J20 (1 : Int32) A31))))))))))) ∧ (¬ y21_s0 = 0 → J20 y7_3 A7))) ∧ (((A7.I b14 (ix (((A.I p 12) * (A.I b2 8)) + y7_4))) = (1 : Int32) → (((A7.I b17 (ix y7_4)) = (1 : Int32) → ∃ b32 : Nat, (A7.P p 7) = some b32 ∧ (A7.tg b32 = 200 ∧ (vp_in y7_4 (A7.ln b32) ∧ (∃ b35 : Nat, (A7.P p 5) = some b35 ∧ (A7.tg b35 = 200 ∧ (vp_in (((A.I p 12) * (A.I b2 8)) + y7_4) (A7.ln b35) ∧ ((((A7.I b32 (ix y7_4)) = (A7.I b35 (ix (((A.I p 12) * (A.I b2 8)) + y7_4))) → J21 (1 : Int32)) ∧ (¬ (A7.I b32 (ix y7_4)) = (A7.I b35 (ix (((A.I p 12) * (A.I b2 8)) + y7_4))) → J21 (0 : Int32)))))))))) ∧ (¬ (A7.I b17 (ix y7_4)) = (1 : Int32) → J21 (0 : Int32)))) ∧ (¬ (A7.I b14 (ix (((A.I p 12) * (A.I b2 8)) + y7_4))) = (1 : Int32) → J21 (0 : Int32)))))))))))))))))))) ∧ (((if (A.I b2 11) = 0 then (1 : Int32) else (0 : Int32)) = 0 → J4 A) ∧ (¬ (if (A.I b2 11) = 0 then (1 : Int32) else (0 : Int32)) = 0 → ∃ L38 : Nat → Int32 → xA → Prop, (∃ n38 : Nat, L38 n38 (0 : Int32) A) ∧ (∀ (n38 : Nat) (y38_4 : Int32) (A38 : xA), L38 n38 y38_4 A38 → A38.tg p = 8 ∧ ((((A38.I p 12) ≤ y38_4 → J4 A38) ∧ (¬ (A38.I p 12) ≤ y38_4 → ∃ b40 : Nat, (A38.P p 4) = some b40 ∧ (A38.tg b40 = 200 ∧ (G.N ≤ b40 ∧ (vp_in (((A.I p 12) * (A.I b2 8)) + y38_4) (A38.ln b40) ∧ (∀ A44 : xA, A44 = A38.setI b40 (ix (((A.I p 12) * (A.I b2 8)) + y38_4)) (0 : Int32) → ((∃ q38 : Nat, q38 < n38 ∧ L38 q38 (y38_4 + (1 : Int32)) A44)))))))))))))))
theorem m_X8_flow (hG : xOK G) (hO : xHO G) {dp : Nat} {p : Nat} {b : Option Nat} {Q : xA → Prop} {A : xA} (h : w_X8_flow G p b Q A) : MX G (dp + 7) kX8_flow [.ref p, va_rf b] A (hV Q) := by
  unfold w_X8_flow at h
  refine MX.of rfl (by cases b <;> exact Nat.le_of_ble_eq_true rfl) ?_
  refine X.lvs (lv' := [some (.ref p), some (va_rf b), none, none, none, none, none]) (by cases b <;> rfl) ?_
  refine X.xok (fun w0 => ?_)
  replace h := h w0
  refine x_aload_n dX8_flow_0 rfl ?_
  obtain ⟨o1, h⟩ := h
  refine x_get (v := .int (A.I p 12)) hG dX8_flow_1 f_X8_179_7 o1 rfl ?_
  refine x_aloadq_n dX8_flow_4 rfl ?_
  obtain ⟨b2, e2, h⟩ := h
  rw [e2]
  obtain ⟨o3, h⟩ := h
  refine x_get (v := .int (A.I b2 8)) hG dX8_flow_5 f_X8_142_34 o3 rfl ?_
  refine x_imul dX8_flow_8 ?_
  refine x_istore_n dX8_flow_9 (by decide) ?_
  refine x_aload_n dX8_flow_10 rfl ?_
  refine x_get (v := .int (A.I b2 11)) hG dX8_flow_11 f_X8_181_34 o3 rfl ?_
  refine x_via 22 (A' := A) (lv' := [some (.ref p), some (.ref b2), some (.int ((A.I p 12) * (A.I b2 8))), none, none, none, none]) (st' := [.int (if (A.I b2 11) = 0 then (1 : Int32) else (0 : Int32))]) ?_ (fun k22 => ?_)
  rotate_left
  · refine x_if_ne (tgt := 21) dX8_flow_14 (by decide) (fun c14 => ?_) (fun c14 => ?_)
    · refine x_iconst_ (v := (0 : Int32)) dX8_flow_21 (by decide) ?_
      change X _ _ _ _ _ _ [some (.ref p), some (.ref b2), some (.int ((A.I p 12) * (A.I b2 8))), none, none, none, none] [.int (0 : Int32)]
      simp only [if_neg c14] at k22 ⊢
      exact X.weak (xle_c rfl (xle_c rfl (xle_c rfl (xle_n (xle_n (xle_n (xle_n xle_nil))))))) k22
    · refine x_iconst_ (v := (1 : Int32)) dX8_flow_17 (by decide) ?_
      refine x_goto (tgt := 22) dX8_flow_18 (by decide) ?_
      change X _ _ _ _ _ _ [some (.ref p), some (.ref b2), some (.int ((A.I p 12) * (A.I b2 8))), none, none, none, none] [.int (1 : Int32)]
      simp only [if_pos c14] at k22 ⊢
      exact X.weak (xle_c rfl (xle_c rfl (xle_c rfl (xle_n (xle_n (xle_n (xle_n xle_nil))))))) k22
  refine x_istore_n dX8_flow_22 (by decide) ?_
  refine x_iload_n dX8_flow_23 rfl ?_
  obtain ⟨J4, g4, h⟩ := h
  have kj4 : ∀ (A4 : xA), J4 A4 → X G (dp + 7) kX8_flow (hV Q) A4 55 [some (.ref p), some (.ref b2), some (.int ((A.I p 12) * (A.I b2 8))), some (.int (if (A.I b2 11) = 0 then (1 : Int32) else (0 : Int32))), none, none, none] [] := by
    intro A4 h
    replace h := g4 A4 h
    refine x_aload_n dX8_flow_55 rfl ?_
    refine x_iconst_ (v := (1 : Int32)) dX8_flow_56 (by decide) ?_
    obtain ⟨o5, h⟩ := h
    refine z_putI hG hO.1 dX8_flow_57 f_X8_181_34 ⟨_, rfl, Or.inl rfl⟩ o5 (by decide) (narrow01 (by decide)) (fits01 (by decide)) ⟨_, rfl⟩ (fun A6 e6 => ?_)
    replace h := h A6 e6
    refine x_iconst_ (v := (0 : Int32)) dX8_flow_60 (by decide) ?_
    refine x_istore dX8_flow_61 (by decide) ?_
    obtain ⟨L7, ⟨n7, i7⟩, g7⟩ := h
    have kl7 : ∀ n7 : Nat, ∀ (y7_3 : Int32) (y7_4 : Int32) (A7 : xA), L7 n7 y7_3 y7_4 A7 → X G (dp + 7) kX8_flow (hV Q) A7 63 [some (.ref p), some (.ref b2), some (.int ((A.I p 12) * (A.I b2 8))), some (.int y7_3), some (.int y7_4), none, none] [] := by
      intro n7
      induction n7 using Nat.strongRecOn with
      | ind n7 ih7 =>
        intro y7_3 y7_4 A7 h
        replace h := g7 n7 y7_3 y7_4 A7 h
        refine x_iload dX8_flow_63 rfl ?_
        refine x_aload_n dX8_flow_65 rfl ?_
        obtain ⟨o8, h⟩ := h
        refine x_get (v := .int (A7.I p 12)) hG dX8_flow_66 f_X8_179_7 o8 rfl ?_
        refine x_icmp_ge (tgt := 202) dX8_flow_69 (by decide) (fun c69 => ?_) (fun c69 => ?_)
        · replace h := h.1 c69
          refine x_iload_n dX8_flow_202 rfl ?_
          refine x_if_eq (tgt := 213) dX8_flow_203 (by decide) (fun c203 => ?_) (fun c203 => ?_)
          · replace h := h.1 c203
            exact x_vret dX8_flow_213 rfl ⟨rfl, h⟩
          · replace h := h.2 c203
            refine x_aload_n dX8_flow_206 rfl ?_
            obtain ⟨o9, h⟩ := h
            refine x_get (v := .int (A7.I b2 10)) hG dX8_flow_207 f_X8_106_34 o9 rfl ?_
            refine x_if_eq (tgt := 214) dX8_flow_210 (by decide) (fun c210 => ?_) (fun c210 => ?_)
            · replace h := h.1 c210
              refine x_aload_n dX8_flow_214 rfl ?_
              refine x_iconst_ (v := (1 : Int32)) dX8_flow_215 (by decide) ?_
              refine z_putI hG hO.1 dX8_flow_216 f_X8_106_34 ⟨_, rfl, Or.inl rfl⟩ o9 (by decide) (narrow01 (by decide)) (fits01 (by decide)) ⟨_, rfl⟩ (fun A10 e10 => ?_)
              replace h := h A10 e10
              refine x_aload_n dX8_flow_219 rfl ?_
              refine x_get (v := va_rf (A7.P p 3)) hG dX8_flow_220 f_X8_18_7 (kI e10 o8) (congrArg va_rf (sI_P e10)) ?_
              refine x_aload_n dX8_flow_223 rfl ?_
              obtain ⟨b12, e12, h⟩ := h
              rw [e12]
              obtain ⟨o13, h⟩ := h
              obtain ⟨R11, g11, h⟩ := h
              refine x_callV hG (Ky := kJ5_add) (As := [.ref b2]) dX8_flow_224 o13 rfl lk_X8_156 me_J5_add is_J5_add se_J5_add rfl rfl (Nat.le_of_ble_eq_true rfl) (MX.post (m_w_J5_add hG hO g11) ?_)
              rintro _ A11 ⟨v11, rfl, zv11, h1⟩
              refine X.xok (fun w11 => ?_)
              replace h := h v11 A11 w11 zv11 h1
              change X _ _ _ _ A11 _ _ [.int v11]
              refine x_pop dX8_flow_227 rfl ?_
              exact x_vret dX8_flow_228 rfl ⟨rfl, h⟩
            · replace h := h.2 c210
              exact x_vret dX8_flow_213 rfl ⟨rfl, h⟩
        · replace h := h.2 c69
          refine x_aload_n dX8_flow_72 rfl ?_
          refine x_get (v := va_rf (A7.P p 4)) hG dX8_flow_73 f_X8_22_7 o8 rfl ?_
          refine x_iload_n dX8_flow_76 rfl ?_
          refine x_iload dX8_flow_77 rfl ?_
          refine x_iadd dX8_flow_79 ?_
          obtain ⟨b14, e14, h⟩ := h
          rw [e14]
          obtain ⟨o15, h⟩ := h
          obtain ⟨o16, h⟩ := h
          refine x_iald hG dX8_flow_80 o15 o16 ?_
          refine x_istore dX8_flow_81 (by decide) ?_
          refine x_aload_n dX8_flow_83 rfl ?_
          refine x_get (v := va_rf (A7.P p 6)) hG dX8_flow_84 f_X8_28_7 o8 rfl ?_
          refine x_iload dX8_flow_87 rfl ?_
          obtain ⟨b17, e17, h⟩ := h
          rw [e17]
          obtain ⟨o18, h⟩ := h
          obtain ⟨o19, h⟩ := h
          refine x_iald hG dX8_flow_89 o18 o19 ?_
          obtain ⟨J20, g20, h⟩ := h
          have kj20 : ∀ (y20_3 : Int32) (A20 : xA), J20 y20_3 A20 → X G (dp + 7) kX8_flow (hV Q) A20 196 [some (.ref p), some (.ref b2), some (.int ((A.I p 12) * (A.I b2 8))), some (.int y20_3), some (.int y7_4), none, none] [] := by
            intro y20_3 A20 h
            replace h := g20 y20_3 A20 h
            refine x_iinc (v := (y7_4 + (1 : Int32))) dX8_flow_196 rfl rfl (by decide) ?_
            refine x_goto (tgt := 63) dX8_flow_199 (by decide) ?_
            obtain ⟨q7, l7, h⟩ := h
            change X _ _ _ _ _ _ [some (.ref p), some (.ref b2), some (.int ((A.I p 12) * (A.I b2 8))), some (.int y20_3), some (.int (y7_4 + (1 : Int32))), none, none] []
            exact X.weak (xle_c rfl (xle_c rfl (xle_c rfl (xle_c rfl (xle_c rfl (xle_n (xle_n xle_nil))))))) (ih7 q7 l7 y20_3 (y7_4 + (1 : Int32)) A20 h)
          refine x_if_eq (tgt := 196) dX8_flow_90 (by decide) (fun c90 => ?_) (fun c90 => ?_)
          · replace h := h.1 c90
            change X _ _ _ _ _ _ [some (.ref p), some (.ref b2), some (.int ((A.I p 12) * (A.I b2 8))), some (.int y7_3), some (.int y7_4), some (.int (A7.I b14 (ix (((A.I p 12) * (A.I b2 8)) + y7_4)))), none] []
            exact X.weak (xle_c rfl (xle_c rfl (xle_c rfl (xle_c rfl (xle_c rfl (xle_n (xle_n xle_nil))))))) (kj20 y7_3 A7 h)
          · replace h := h.2 c90
            refine x_iload dX8_flow_93 rfl ?_
            refine x_iconst_ (v := (2 : Int32)) dX8_flow_95 (by decide) ?_
            refine x_icmp_ne (tgt := 102) dX8_flow_96 (by decide) (fun c96 => ?_) (fun c96 => ?_)
            · replace h := h.2 c96
              refine x_iload dX8_flow_102 rfl ?_
              refine x_iconst_ (v := (1 : Int32)) dX8_flow_104 (by decide) ?_
              obtain ⟨J21, g21, h⟩ := h
              have kj21 : ∀ (y21_s0 : Int32), J21 y21_s0 → X G (dp + 7) kX8_flow (hV Q) A7 143 [some (.ref p), some (.ref b2), some (.int ((A.I p 12) * (A.I b2 8))), some (.int y7_3), some (.int y7_4), some (.int (A7.I b14 (ix (((A.I p 12) * (A.I b2 8)) + y7_4)))), none] [.int y21_s0] := by
                intro y21_s0 h
                replace h := g21 y21_s0 h
                refine x_istore dX8_flow_143 (by decide) ?_
                refine x_iload dX8_flow_145 rfl ?_
                refine x_if_eq (tgt := 153) dX8_flow_147 (by decide) (fun c147 => ?_) (fun c147 => ?_)
                · replace h := h.1 c147
                  refine x_aload_n dX8_flow_153 rfl ?_
                  refine x_get (v := .ref b14) hG dX8_flow_154 f_X8_22_7 o8 (congrArg va_rf e14) ?_
                  refine x_iload_n dX8_flow_157 rfl ?_
                  refine x_iload dX8_flow_158 rfl ?_
                  refine x_iadd dX8_flow_160 ?_
                  refine x_iload dX8_flow_161 rfl ?_
                  refine x_via 177 (A' := A7) (lv' := [some (.ref p), some (.ref b2), some (.int ((A.I p 12) * (A.I b2 8))), none, some (.int y7_4), none, none]) (st' := [.int (if (A7.I b14 (ix (((A.I p 12) * (A.I b2 8)) + y7_4))) = 0 then (A7.I b17 (ix y7_4)) else (2 : Int32)), .int (((A.I p 12) * (A.I b2 8)) + y7_4), .ref b14]) ?_ (fun k177 => ?_)
                  rotate_left
                  · refine x_if_ne (tgt := 176) dX8_flow_163 (by decide) (fun c163 => ?_) (fun c163 => ?_)
                    · refine x_iconst_ (v := (2 : Int32)) dX8_flow_176 (by decide) ?_
                      change X _ _ _ _ _ _ [some (.ref p), some (.ref b2), some (.int ((A.I p 12) * (A.I b2 8))), some (.int y7_3), some (.int y7_4), some (.int (A7.I b14 (ix (((A.I p 12) * (A.I b2 8)) + y7_4)))), some (.int y21_s0)] [.int (2 : Int32), .int (((A.I p 12) * (A.I b2 8)) + y7_4), .ref b14]
                      simp only [if_neg c163] at k177 ⊢
                      exact X.weak (xle_c rfl (xle_c rfl (xle_c rfl (xle_n (xle_c rfl (xle_n (xle_n xle_nil))))))) k177
                    · refine x_aload_n dX8_flow_166 rfl ?_
                      refine x_get (v := .ref b17) hG dX8_flow_167 f_X8_28_7 o8 (congrArg va_rf e17) ?_
                      refine x_iload dX8_flow_170 rfl ?_
                      refine x_iald hG dX8_flow_172 o18 o19 ?_
                      refine x_goto (tgt := 177) dX8_flow_173 (by decide) ?_
                      change X _ _ _ _ _ _ [some (.ref p), some (.ref b2), some (.int ((A.I p 12) * (A.I b2 8))), some (.int y7_3), some (.int y7_4), some (.int (A7.I b14 (ix (((A.I p 12) * (A.I b2 8)) + y7_4)))), some (.int y21_s0)] [.int (A7.I b17 (ix y7_4)), .int (((A.I p 12) * (A.I b2 8)) + y7_4), .ref b14]
                      simp only [if_pos c163] at k177 ⊢
                      exact X.weak (xle_c rfl (xle_c rfl (xle_c rfl (xle_n (xle_c rfl (xle_n (xle_n xle_nil))))))) k177
                  obtain ⟨o22, h⟩ := h
                  refine z_iast hG dX8_flow_177 o15 o22 o16 (fun A23 e23 => ?_)
                  replace h := h A23 e23
                  refine x_aload_n dX8_flow_178 rfl ?_
                  refine x_get (v := va_rf (A7.P p 5)) hG dX8_flow_179 f_X8_25_7 (kI e23 o8) (congrArg va_rf (sI_P e23)) ?_
                  refine x_iload_n dX8_flow_182 rfl ?_
                  refine x_iload dX8_flow_183 rfl ?_
                  refine x_iadd dX8_flow_185 ?_
                  refine x_aload_n dX8_flow_186 rfl ?_
                  refine x_get (v := va_rf (A7.P p 7)) hG dX8_flow_187 f_X8_31_7 (kI e23 o8) (congrArg va_rf (sI_P e23)) ?_
                  refine x_iload dX8_flow_190 rfl ?_
                  obtain ⟨b24, e24, h⟩ := h
                  rw [e24]
                  obtain ⟨o25, h⟩ := h
                  obtain ⟨o26, h⟩ := h
                  refine x_iald hG dX8_flow_192 o25 o26 ?_
                  obtain ⟨b27, e27, h⟩ := h
                  rw [e27]
                  obtain ⟨o28, h⟩ := h
                  obtain ⟨o29, h⟩ := h
                  obtain ⟨o30, h⟩ := h
                  refine z_iast hG dX8_flow_193 o28 o29 o30 (fun A31 e31 => ?_)
                  replace h := h A31 e31
                  refine x_iconst_ (v := (1 : Int32)) dX8_flow_194 (by decide) ?_
                  refine x_istore_n dX8_flow_195 (by decide) ?_
                  change X _ _ _ _ _ _ [some (.ref p), some (.ref b2), some (.int ((A.I p 12) * (A.I b2 8))), some (.int (1 : Int32)), some (.int y7_4), none, none] []
                  exact X.weak (xle_c rfl (xle_c rfl (xle_c rfl (xle_c rfl (xle_c rfl (xle_n (xle_n xle_nil))))))) (kj20 (1 : Int32) A31 h)
                · replace h := h.2 c147
                  refine x_goto (tgt := 196) dX8_flow_150 (by decide) ?_
                  change X _ _ _ _ _ _ [some (.ref p), some (.ref b2), some (.int ((A.I p 12) * (A.I b2 8))), some (.int y7_3), some (.int y7_4), some (.int (A7.I b14 (ix (((A.I p 12) * (A.I b2 8)) + y7_4)))), some (.int y21_s0)] []
                  exact X.weak (xle_c rfl (xle_c rfl (xle_c rfl (xle_c rfl (xle_c rfl (xle_n (xle_n xle_nil))))))) (kj20 y7_3 A7 h)
              refine x_icmp_ne (tgt := 142) dX8_flow_105 (by decide) (fun c105 => ?_) (fun c105 => ?_)
              · replace h := h.2 c105
                refine x_iconst_ (v := (0 : Int32)) dX8_flow_142 (by decide) ?_
                change X _ _ _ _ _ _ [some (.ref p), some (.ref b2), some (.int ((A.I p 12) * (A.I b2 8))), some (.int y7_3), some (.int y7_4), some (.int (A7.I b14 (ix (((A.I p 12) * (A.I b2 8)) + y7_4)))), none] [.int (0 : Int32)]
                exact X.weak (xle_c rfl (xle_c rfl (xle_c rfl (xle_c rfl (xle_c rfl (xle_c rfl (xle_n xle_nil))))))) (kj21 (0 : Int32) h)
              · replace h := h.1 c105
                refine x_aload_n dX8_flow_108 rfl ?_
                refine x_get (v := .ref b17) hG dX8_flow_109 f_X8_28_7 o8 (congrArg va_rf e17) ?_
                refine x_iload dX8_flow_112 rfl ?_
                refine x_iald hG dX8_flow_114 o18 o19 ?_
                refine x_iconst_ (v := (1 : Int32)) dX8_flow_115 (by decide) ?_
                refine x_icmp_ne (tgt := 142) dX8_flow_116 (by decide) (fun c116 => ?_) (fun c116 => ?_)
                · replace h := h.2 c116
                  refine x_iconst_ (v := (0 : Int32)) dX8_flow_142 (by decide) ?_
                  change X _ _ _ _ _ _ [some (.ref p), some (.ref b2), some (.int ((A.I p 12) * (A.I b2 8))), some (.int y7_3), some (.int y7_4), some (.int (A7.I b14 (ix (((A.I p 12) * (A.I b2 8)) + y7_4)))), none] [.int (0 : Int32)]
                  exact X.weak (xle_c rfl (xle_c rfl (xle_c rfl (xle_c rfl (xle_c rfl (xle_c rfl (xle_n xle_nil))))))) (kj21 (0 : Int32) h)
                · replace h := h.1 c116
                  refine x_aload_n dX8_flow_119 rfl ?_
                  refine x_get (v := va_rf (A7.P p 7)) hG dX8_flow_120 f_X8_31_7 o8 rfl ?_
                  refine x_iload dX8_flow_123 rfl ?_
                  obtain ⟨b32, e32, h⟩ := h
                  rw [e32]
                  obtain ⟨o33, h⟩ := h
                  obtain ⟨o34, h⟩ := h
                  refine x_iald hG dX8_flow_125 o33 o34 ?_
                  refine x_aload_n dX8_flow_126 rfl ?_
                  refine x_get (v := va_rf (A7.P p 5)) hG dX8_flow_127 f_X8_25_7 o8 rfl ?_
                  refine x_iload_n dX8_flow_130 rfl ?_
                  refine x_iload dX8_flow_131 rfl ?_
                  refine x_iadd dX8_flow_133 ?_
                  obtain ⟨b35, e35, h⟩ := h
                  rw [e35]
                  obtain ⟨o36, h⟩ := h
                  obtain ⟨o37, h⟩ := h
                  refine x_iald hG dX8_flow_134 o36 o37 ?_
                  refine x_icmp_ne (tgt := 142) dX8_flow_135 (by decide) (fun c135 => ?_) (fun c135 => ?_)
                  · replace h := h.2 c135
                    refine x_iconst_ (v := (0 : Int32)) dX8_flow_142 (by decide) ?_
                    change X _ _ _ _ _ _ [some (.ref p), some (.ref b2), some (.int ((A.I p 12) * (A.I b2 8))), some (.int y7_3), some (.int y7_4), some (.int (A7.I b14 (ix (((A.I p 12) * (A.I b2 8)) + y7_4)))), none] [.int (0 : Int32)]
                    exact X.weak (xle_c rfl (xle_c rfl (xle_c rfl (xle_c rfl (xle_c rfl (xle_c rfl (xle_n xle_nil))))))) (kj21 (0 : Int32) h)
                  · replace h := h.1 c135
                    refine x_iconst_ (v := (1 : Int32)) dX8_flow_138 (by decide) ?_
                    refine x_goto (tgt := 143) dX8_flow_139 (by decide) ?_
                    change X _ _ _ _ _ _ [some (.ref p), some (.ref b2), some (.int ((A.I p 12) * (A.I b2 8))), some (.int y7_3), some (.int y7_4), some (.int (A7.I b14 (ix (((A.I p 12) * (A.I b2 8)) + y7_4)))), none] [.int (1 : Int32)]
                    exact X.weak (xle_c rfl (xle_c rfl (xle_c rfl (xle_c rfl (xle_c rfl (xle_c rfl (xle_n xle_nil))))))) (kj21 (1 : Int32) h)
            · replace h := h.1 c96
              refine x_goto (tgt := 196) dX8_flow_99 (by decide) ?_
              change X _ _ _ _ _ _ [some (.ref p), some (.ref b2), some (.int ((A.I p 12) * (A.I b2 8))), some (.int y7_3), some (.int y7_4), some (.int (A7.I b14 (ix (((A.I p 12) * (A.I b2 8)) + y7_4)))), none] []
              exact X.weak (xle_c rfl (xle_c rfl (xle_c rfl (xle_c rfl (xle_c rfl (xle_n (xle_n xle_nil))))))) (kj20 y7_3 A7 h)
    change X _ _ _ _ _ _ [some (.ref p), some (.ref b2), some (.int ((A.I p 12) * (A.I b2 8))), some (.int (if (A.I b2 11) = 0 then (1 : Int32) else (0 : Int32))), some (.int (0 : Int32)), none, none] []
    exact X.weak (xle_c rfl (xle_c rfl (xle_c rfl (xle_c rfl (xle_c rfl (xle_n (xle_n xle_nil))))))) (kl7 n7 (if (A.I b2 11) = 0 then (1 : Int32) else (0 : Int32)) (0 : Int32) A6 i7)
  refine x_if_eq (tgt := 55) dX8_flow_24 (by decide) (fun c24 => ?_) (fun c24 => ?_)
  · replace h := h.1 c24
    change X _ _ _ _ _ _ [some (.ref p), some (.ref b2), some (.int ((A.I p 12) * (A.I b2 8))), some (.int (if (A.I b2 11) = 0 then (1 : Int32) else (0 : Int32))), none, none, none] []
    exact X.weak (xle_c rfl (xle_c rfl (xle_c rfl (xle_c rfl (xle_n (xle_n (xle_n xle_nil))))))) (kj4 A h)
  · replace h := h.2 c24
    refine x_iconst_ (v := (0 : Int32)) dX8_flow_27 (by decide) ?_
    refine x_istore dX8_flow_28 (by decide) ?_
    obtain ⟨L38, ⟨n38, i38⟩, g38⟩ := h
    have kl38 : ∀ n38 : Nat, ∀ (y38_4 : Int32) (A38 : xA), L38 n38 y38_4 A38 → X G (dp + 7) kX8_flow (hV Q) A38 30 [some (.ref p), some (.ref b2), some (.int ((A.I p 12) * (A.I b2 8))), some (.int (if (A.I b2 11) = 0 then (1 : Int32) else (0 : Int32))), some (.int y38_4), none, none] [] := by
      intro n38
      induction n38 using Nat.strongRecOn with
      | ind n38 ih38 =>
        intro y38_4 A38 h
        replace h := g38 n38 y38_4 A38 h
        refine x_iload dX8_flow_30 rfl ?_
        refine x_aload_n dX8_flow_32 rfl ?_
        obtain ⟨o39, h⟩ := h
        refine x_get (v := .int (A38.I p 12)) hG dX8_flow_33 f_X8_179_7 o39 rfl ?_
        refine x_icmp_ge (tgt := 55) dX8_flow_36 (by decide) (fun c36 => ?_) (fun c36 => ?_)
        · replace h := h.1 c36
          change X _ _ _ _ _ _ [some (.ref p), some (.ref b2), some (.int ((A.I p 12) * (A.I b2 8))), some (.int (if (A.I b2 11) = 0 then (1 : Int32) else (0 : Int32))), some (.int y38_4), none, none] []
          exact X.weak (xle_c rfl (xle_c rfl (xle_c rfl (xle_c rfl (xle_n (xle_n (xle_n xle_nil))))))) (kj4 A38 h)
        · replace h := h.2 c36
          refine x_aload_n dX8_flow_39 rfl ?_
          refine x_get (v := va_rf (A38.P p 4)) hG dX8_flow_40 f_X8_22_7 o39 rfl ?_
          refine x_iload_n dX8_flow_43 rfl ?_
          refine x_iload dX8_flow_44 rfl ?_
          refine x_iadd dX8_flow_46 ?_
          refine x_iconst_ (v := (0 : Int32)) dX8_flow_47 (by decide) ?_
          obtain ⟨b40, e40, h⟩ := h
          rw [e40]
          obtain ⟨o41, h⟩ := h
          obtain ⟨o42, h⟩ := h
          obtain ⟨o43, h⟩ := h
          refine z_iast hG dX8_flow_48 o41 o42 o43 (fun A44 e44 => ?_)
          replace h := h A44 e44
          refine x_iinc (v := (y38_4 + (1 : Int32))) dX8_flow_49 rfl rfl (by decide) ?_
          refine x_goto (tgt := 30) dX8_flow_52 (by decide) ?_
          obtain ⟨q38, l38, h⟩ := h
          change X _ _ _ _ _ _ [some (.ref p), some (.ref b2), some (.int ((A.I p 12) * (A.I b2 8))), some (.int (if (A.I b2 11) = 0 then (1 : Int32) else (0 : Int32))), some (.int (y38_4 + (1 : Int32))), none, none] []
          exact X.weak (xle_c rfl (xle_c rfl (xle_c rfl (xle_c rfl (xle_c rfl (xle_n (xle_n xle_nil))))))) (ih38 q38 l38 (y38_4 + (1 : Int32)) A44 h)
    change X _ _ _ _ _ _ [some (.ref p), some (.ref b2), some (.int ((A.I p 12) * (A.I b2 8))), some (.int (if (A.I b2 11) = 0 then (1 : Int32) else (0 : Int32))), some (.int (0 : Int32)), none, none] []
    exact X.weak (xle_c rfl (xle_c rfl (xle_c rfl (xle_c rfl (xle_c rfl (xle_n (xle_n xle_nil))))))) (kl38 n38 (0 : Int32) A i38)
def w_X8_propagate (G : xG) (p : Nat) (Q : xA → Prop) (A : xA) : Prop := xok G A → A.tg p = 8 ∧ (∃ b2 : Nat, (A.P p 1) = some b2 ∧ (A.tg b2 = 34 ∧ (∃ b5 : Nat, (A.P b2 4) = some b5 ∧ (A.tg b5 = 37 ∧ (∃ R4 : Int32 → xA → Prop, w_J5_size G b5 R4 A ∧ (∀ (v4 : Int32) (A4 : xA), xok G A4 → R4 v4 A4 → (A4.tg p = 8 ∧ (∀ A8 : xA, A8 = A4.setI p 12 v4 → (∃ R9 : Option Nat → xA → Prop, w_X0_roomFor G (A4.P p 6) v4 R9 A8 ∧ (∀ (v9 : Option Nat) (A9 : xA), xok G A9 → R9 v9 A9 → (A9.tg p = 8 ∧ (∀ A11 : xA, A11 = A9.setP p 6 v9 → (∃ R12 : Option Nat → xA → Prop, w_X0_roomFor G (A9.P p 7) v4 R12 A11 ∧ (∀ (v12 : Option Nat) (A12 : xA), xok G A12 → R12 v12 A12 → (A12.tg p = 8 ∧ (∀ A14 : xA, A14 = A12.setP p 7 v12 → (∃ b15 : Nat, (A12.P p 1) = some b15 ∧ (A14.tg b15 = 34 ∧ (∃ b18 : Nat, (A14.P b15 1) = some b18 ∧ (A14.tg b18 = 37 ∧ (∃ R17 : Int32 → xA → Prop, w_J5_size G b18 R17 A14 ∧ (∀ (v17 : Int32) (A17 : xA), xok G A17 → R17 v17 A17 → (∃ R20 : Option Nat → xA → Prop, w_X0_roomFor G (A12.P p 4) (v4 * v17) R20 A17 ∧ (∀ (v20 : Option Nat) (A20 : xA), xok G A20 → R20 v20 A20 → (A20.tg p = 8 ∧ (∀ A22 : xA, A22 = A20.setP p 4 v20 → (∃ b23 : Nat, (A20.P p 1) = some b23 ∧ (A22.tg b23 = 34 ∧ (∃ b26 : Nat, (A22.P b23 1) = some b26 ∧ (A22.tg b26 = 37 ∧ (∃ R25 : Int32 → xA → Prop, w_J5_size G b26 R25 A22 ∧ (∀ (v25 : Int32) (A25 : xA), xok G A25 → R25 v25 A25 → (∃ R28 : Option Nat → xA → Prop, w_X0_roomFor G (A20.P p 5) (v4 * v25) R28 A25 ∧ (∀ (v28 : Option Nat) (A28 : xA), xok G A28 → R28 v28 A28 → (A28.tg p = 8 ∧ (∀ A30 : xA, A30 = A28.setP p 5 v28 → (∃ b31 : Nat, (A28.P p 1) = some b31 ∧ (A30.tg b31 = 34 ∧ (∃ R33 : Option Nat → xA → Prop, w_X0_roomFor G (A28.P p 8) (A28.I b31 2) R33 A30 ∧ (∀ (v33 : Option Nat) (A33 : xA), xok G A33 → R33 v33 A33 → (A33.tg p = 8 ∧ (∀ A35 : xA, A35 = A33.setP p 8 v33 → (∃ b36 : Nat, (A33.P p 1) = some b36 ∧ (A35.tg b36 = 34 ∧ (∃ R38 : Option Nat → xA → Prop, w_X0_roomFor G (A33.P p 9) (A33.I b36 2) R38 A35 ∧ (∀ (v38 : Option Nat) (A38 : xA), xok G A38 → R38 v38 A38 → (A38.tg p = 8 ∧ (∀ A40 : xA, A40 = A38.setP p 9 v38 → (∃ b41 : Nat, (A38.P p 1) = some b41 ∧ (A40.tg b41 = 34 ∧ (∃ R43 : Option Nat → xA → Prop, w_X0_roomFor G (A38.P p 10) (A38.I b41 2) R43 A40 ∧ (∀ (v43 : Option Nat) (A43 : xA), xok G A43 → R43 v43 A43 → (A43.tg p = 8 ∧ (∀ A45 : xA, A45 = A43.setP p 10 v43 → (∃ L46 : Nat → Int32 → xA → Prop, (∃ n46 : Nat, L46 n46 (0 : Int32) A45) ∧ (∀ (n46 : Nat) (y46_2 : Int32) (A46 : xA), L46 n46 y46_2 A46 → ((v4 ≤ y46_2 → ∃ L47 : Nat → Int32 → xA → Prop, (∃ n47 : Nat, L47 n47 (0 : Int32) A46) ∧ (∀ (n47 : Nat) (y47_2 : Int32) (A47 : xA), L47 n47 y47_2 A47 → A47.tg p = 8 ∧ (∃ b49 : Nat, (A47.P p 1) = some b49 ∧ (A47.tg b49 = 34 ∧ (∃ b52 : Nat, (A47.P b49 1) = some b52 ∧ (A47.tg b52 = 37 ∧ (∃ R51 : Int32 → xA → Prop, w_J5_size G b52 R51 A47 ∧ (∀ (v51 : Int32) (A51 : xA), xok G A51 → R51 v51 A51 → (((v51 ≤ y47_2 → A51.tg p = 8 ∧ (∃ b55 : Nat, (A51.P p 1) = some b55 ∧ (A51.tg b55 = 34 ∧ (∃ b58 : Nat, (A51.P b55 1) = some b58 ∧ (A51.tg b58 = 37 ∧ (∃ R57 : Option Nat → xA → Prop, w_J5_get G b58 (0 : Int32) R57 A51 ∧ (∀ (v57 : Option Nat) (A57 : xA), xok G A57 → R57 v57 A57 → (∃ b60 : Nat, v57 = some b60 ∧ (A57.tg b60 = 35 ∧ (A57.tg p = 8 ∧ (∃ R62 : xA → Prop, w_X8_flow G p (some b60) R62 A57 ∧ (∀ A62 : xA, xok G A62 → R62 A62 → (∃ L64 : Nat → xA → Prop, (∃ n64 : Nat, L64 n64 A62) ∧ (∀ (n64 : Nat) (A64 : xA), L64 n64 A64 → A64.tg p = 8 ∧ (∃ b67 : Nat, (A64.P p 3) = some b67 ∧ (A64.tg b67 = 37 ∧ (∃ R66 : Int32 → xA → Prop, w_J5_isEmpty G b67 R66 A64 ∧ (∀ (v66 : Int32) (A66 : xA), xok G A66 → (v66 = 0 ∨ v66 = 1) → R66 v66 A66 → (((v66 = 0 → A66.tg p = 8 ∧ (∃ b71 : Nat, (A66.P p 3) = some b71 ∧ (A66.tg b71 = 37 ∧ (∃ R70 : Int32 → xA → Prop, w_J5_size G b71 R70 A66 ∧ (∀ (v70 : Int32) (A70 : xA), xok G A70 → R70 v70 A70 → (A70.tg b71 = 37 ∧ (∃ R73 : Option Nat → xA → Prop, w_J5_remove G b71 (v70 - (1 : Int32)) R73 A70 ∧ (∀ (v73 : Option Nat) (A73 : xA), xok G A73 → R73 v73 A73 → (∃ b75 : Nat, v73 = some b75 ∧ (A73.tg b75 = 35 ∧ (∀ A77 : xA, A77 = A73.setI b75 10 (0 : Int32) → (A77.tg p = 8 ∧ (∀ A79 : xA, A79 = A77.setI p 11 ((A77.I p 11) + (1 : Int32)) → (∃ L80 : Nat → Int32 → xA → Prop, (∃ n80 : Nat, L80 n80 (0 : Int32) A79) ∧ (∀ (n80 : Nat) (y80_3 : Int32) (A80 : xA), L80 n80 y80_3 A80 → ((v4 ≤ y80_3 → ∃ L81 : Nat → Int32 → xA → Prop, (∃ n81 : Nat, L81 n81 (0 : Int32) A80) ∧ (∀ (n81 : Nat) (y81_3 : Int32) (A81 : xA), L81 n81 y81_3 A81 → A81.tg b75 = 35 ∧ (∃ b84 : Nat, (A81.P b75 0) = some b84 ∧ (A81.tg b84 = 37 ∧ (∃ R83 : Int32 → xA → Prop, w_J5_size G b84 R83 A81 ∧ (∀ (v83 : Int32) (A83 : xA), xok G A83 → R83 v83 A83 → (((v83 ≤ y81_3 → A83.tg b75 = 35 ∧ (∃ J87 : xA → Prop, (∀ (A87 : xA), J87 A87 → A87.tg b75 = 35 ∧ ((((A87.I b75 1) = (2 : Int32) → A87.tg p = 8 ∧ (∃ R89 : Int32 → xA → Prop, w_X8_how G p (A87.L b75 3) R89 A87 ∧ (∀ (v89 : Int32) (A89 : xA), xok G A89 → R89 v89 A89 → (∃ J91 : Int32 → xA → Prop, (∀ (y91_s0 : Int32) (A91 : xA), J91 y91_s0 A91 → ∃ J92 : Int32 → xA → Prop, (∀ (y92_s0 : Int32) (A92 : xA), J92 y92_s0 A92 → ∃ J93 : xA → Prop, (∀ (A93 : xA), J93 A93 → ∃ J94 : xA → Prop, (∀ (A94 : xA), J94 A94 → (∃ q64 : Nat, q64 < n64 ∧ L64 q64 A94)) ∧ ((y91_s0 = 0 → A93.tg b75 = 35 ∧ (A93.tg p = 8 ∧ (∃ R96 : xA → Prop, w_X8_flow G p (A93.P b75 6) R96 A93 ∧ (∀ A96 : xA, xok G A96 → R96 A96 → (J94 A96))))) ∧ (¬ y91_s0 = 0 → ((y92_s0 = 0 → A93.tg b75 = 35 ∧ (A93.tg p = 8 ∧ (∃ R99 : xA → Prop, w_X8_flow G p (A93.P b75 6) R99 A93 ∧ (∀ A99 : xA, xok G A99 → R99 A99 → (J94 A99))))) ∧ (¬ y92_s0 = 0 → J94 A93))))) ∧ ((y91_s0 = 0 → A92.tg b75 = 35 ∧ (A92.tg p = 8 ∧ (∃ R102 : xA → Prop, w_X8_flow G p (A92.P b75 5) R102 A92 ∧ (∀ A102 : xA, xok G A102 → R102 A102 → (J93 A102))))) ∧ (¬ y91_s0 = 0 → ((y92_s0 = 0 → J93 A92) ∧ (¬ y92_s0 = 0 → A92.tg b75 = 35 ∧ (A92.tg p = 8 ∧ (∃ R105 : xA → Prop, w_X8_flow G p (A92.P b75 5) R105 A92 ∧ (∀ A105 : xA, xok G A105 → R105 A105 → (J93 A105))))))))) ∧ ((y91_s0 = 0 → J92 (0 : Int32) A91) ∧ (¬ y91_s0 = 0 → A91.tg b75 = 35 ∧ (A91.tg p = 8 ∧ (∃ R108 : Int32 → xA → Prop, w_X8_what G p (A91.L b75 3) R108 A91 ∧ (∀ (v108 : Int32) (A108 : xA), xok G A108 → R108 v108 A108 → (A108.tg b75 = 35 ∧ (A108.tg p = 8 ∧ (∃ R111 : Int32 → xA → Prop, w_X8_what G p (A108.L b75 4) R111 A108 ∧ (∀ (v111 : Int32) (A111 : xA), xok G A111 → R111 v111 A111 → ((((f_X0_done (A91.I b75 2) v108 v111) = 0 → J92 (0 : Int32) A111) ∧ (¬ (f_X0_done (A91.I b75 2) v108 v111) = 0 → J92 (1 : Int32) A111))))))))))))) ∧ ((v89 = (1 : Int32) → A89.tg b75 = 35 ∧ (A89.tg p = 8 ∧ (∃ R114 : Int32 → xA → Prop, w_X8_how G p (A89.L b75 4) R114 A89 ∧ (∀ (v114 : Int32) (A114 : xA), xok G A114 → R114 v114 A114 → (((v114 = (1 : Int32) → J91 (1 : Int32) A114) ∧ (¬ v114 = (1 : Int32) → J91 (0 : Int32) A114))))))) ∧ (¬ v89 = (1 : Int32) → J91 (0 : Int32) A89)))))) ∧ (¬ (A87.I b75 1) = (2 : Int32) → (∃ q64 : Nat, q64 < n64 ∧ L64 q64 A87))))) ∧ (((A83.I b75 1) = (1 : Int32) → A83.tg p = 8 ∧ (∃ R116 : xA → Prop, w_X8_flow G p (A83.P b75 5) R116 A83 ∧ (∀ A116 : xA, xok G A116 → R116 A116 → (J87 A116)))) ∧ (¬ (A83.I b75 1) = (1 : Int32) → J87 A83)))) ∧ (¬ v83 ≤ y81_3 → A83.tg b75 = 35 ∧ (∃ b120 : Nat, (A83.P b75 0) = some b120 ∧ (A83.tg b120 = 37 ∧ (∃ R119 : Option Nat → xA → Prop, w_J5_get G b120 y81_3 R119 A83 ∧ (∀ (v119 : Option Nat) (A119 : xA), xok G A119 → R119 v119 A119 → (∃ b122 : Nat, v119 = some b122 ∧ (A119.tg b122 = 36 ∧ (A119.tg p = 8 ∧ (∃ R124 : xA → Prop, w_X8_judge G p (some b122) R124 A119 ∧ (∀ A124 : xA, xok G A124 → R124 A124 → ((∃ q81 : Nat, q81 < n81 ∧ L81 q81 (y81_3 + (1 : Int32)) A124)))))))))))))))))))) ∧ (¬ v4 ≤ y80_3 → A80.tg p = 8 ∧ (A80.tg b75 = 35 ∧ (∃ b128 : Nat, (A80.P p 4) = some b128 ∧ (A80.tg b128 = 200 ∧ (vp_in ((v4 * (A80.I b75 8)) + y80_3) (A80.ln b128) ∧ (∃ b131 : Nat, (A80.P p 6) = some b131 ∧ (A80.tg b131 = 200 ∧ (G.N ≤ b131 ∧ (vp_in y80_3 (A80.ln b131) ∧ (∀ A135 : xA, A135 = A80.setI b131 (ix y80_3) (A80.I b128 (ix ((v4 * (A80.I b75 8)) + y80_3))) → (∃ b136 : Nat, (A80.P p 5) = some b136 ∧ (A135.tg b136 = 200 ∧ (vp_in ((v4 * (A80.I b75 8)) + y80_3) (A135.ln b136) ∧ (∃ b139 : Nat, (A80.P p 7) = some b139 ∧ (A135.tg b139 = 200 ∧ (G.N ≤ b139 ∧ (vp_in y80_3 (A135.ln b139) ∧ (∀ A143 : xA, A143 = A135.setI b139 (ix y80_3) (A135.I b136 (ix ((v4 * (A80.I b75 8)) + y80_3))) → ((∃ q80 : Nat, q80 < n80 ∧ L80 q80 (y80_3 + (1 : Int32)) A143)))))))))))))))))))))))))))))))))))) ∧ (¬ v66 = 0 → Q A66))))))))))))))))))))) ∧ (¬ v51 ≤ y47_2 → A51.tg p = 8 ∧ (∃ b145 : Nat, (A51.P p 1) = some b145 ∧ (A51.tg b145 = 34 ∧ (∃ b148 : Nat, (A51.P b145 1) = some b148 ∧ (A51.tg b148 = 37 ∧ (∃ R147 : Option Nat → xA → Prop, w_J5_get G b148 y47_2 R147 A51 ∧ (∀ (v147 : Option Nat) (A147 : xA), xok G A147 → R147 v147 A147 → (∃ b150 : Nat, v147 = some b150 ∧ (A147.tg b150 = 35 ∧ (∀ A152 : xA, A152 = A147.setI b150 11 (0 : Int32) → (A152.tg p = 8 ∧ (∃ b154 : Nat, (A147.P p 1) = some b154 ∧ (A152.tg b154 = 34 ∧ (∃ b157 : Nat, (A147.P b154 1) = some b157 ∧ (A152.tg b157 = 37 ∧ (∃ R156 : Option Nat → xA → Prop, w_J5_get G b157 y47_2 R156 A152 ∧ (∀ (v156 : Option Nat) (A156 : xA), xok G A156 → R156 v156 A156 → (∃ b159 : Nat, v156 = some b159 ∧ (A156.tg b159 = 35 ∧ (∀ A161 : xA, A161 = A156.setI b159 10 (0 : Int32) → ((∃ q47 : Nat, q47 < n47 ∧ L47 q47 (y47_2 + (1 : Int32)) A161)))))))))))))))))))))))))))))))) ∧ (¬ v4 ≤ y46_2 → A46.tg p = 8 ∧ (∃ b163 : Nat, (A46.P p 6) = some b163 ∧ (A46.tg b163 = 200 ∧ (G.N ≤ b163 ∧ (vp_in y46_2 (A46.ln b163) ∧ (∀ A167 : xA, A167 = A46.setI b163 (ix y46_2) (0 : Int32) → ((∃ q46 : Nat, q46 < n46 ∧ L46 q46 (y46_2 + (1 : Int32)) A167)))))))))))))))))))))))))))))))))))))))))))))))))))))))))))))))))
theorem m_X8_propagate (hG : xOK G) (hO : xHO G) {dp : Nat} {p : Nat} {Q : xA → Prop} {A : xA} (h : w_X8_propagate G p Q A) : MX G (dp + 8) kX8_propagate [.ref p] A (hV Q) := by
  unfold w_X8_propagate at h
  refine MX.of rfl (Nat.le_of_ble_eq_true rfl) ?_
  change X _ _ _ _ _ _ [some (.ref p), none, none, none, none] _
  refine X.xok (fun w0 => ?_)
  replace h := h w0
  refine x_aload_n dX8_propagate_0 rfl ?_
  refine x_aload_n dX8_propagate_1 rfl ?_
  obtain ⟨o1, h⟩ := h
  refine x_get (v := va_rf (A.P p 1)) hG dX8_propagate_2 f_X8_56_7 o1 rfl ?_
  obtain ⟨b2, e2, h⟩ := h
  rw [e2]
  obtain ⟨o3, h⟩ := h
  refine x_get (v := va_rf (A.P b2 4)) hG dX8_propagate_5 f_X8_70_33 o3 rfl ?_
  obtain ⟨b5, e5, h⟩ := h
  rw [e5]
  obtain ⟨o6, h⟩ := h
  obtain ⟨R4, g4, h⟩ := h
  refine x_callV hG (Ky := kJ5_size) (As := []) dX8_propagate_8 o6 rfl lk_X8_73 me_J5_size is_J5_size se_J5_size rfl rfl (Nat.le_of_ble_eq_true rfl) (MX.post (m_w_J5_size hG hO g4) ?_)
  rintro _ A4 ⟨v4, rfl, h1⟩
  refine X.xok (fun w4 => ?_)
  replace h := h v4 A4 w4 h1
  change X _ _ _ _ A4 _ _ [.int v4, .ref p]
  obtain ⟨o7, h⟩ := h
  refine z_putI hG hO.1 dX8_propagate_11 f_X8_179_7 ⟨_, rfl, Or.inl rfl⟩ o7 (by decide) rfl rfl ⟨_, rfl⟩ (fun A8 e8 => ?_)
  replace h := h A8 e8
  refine x_aload_n dX8_propagate_14 rfl ?_
  refine x_get (v := .int v4) hG dX8_propagate_15 f_X8_179_7 (kI e8 o7) (congrArg Value.int (sI_s e8)) ?_
  refine x_istore_n dX8_propagate_18 (by decide) ?_
  refine x_aload_n dX8_propagate_19 rfl ?_
  refine x_aload_n dX8_propagate_20 rfl ?_
  refine x_get (v := va_rf (A4.P p 6)) hG dX8_propagate_21 f_X8_28_7 (kI e8 o7) (congrArg va_rf (sI_P e8)) ?_
  refine x_iload_n dX8_propagate_24 rfl ?_
  obtain ⟨R9, g9, h⟩ := h
  refine x_callS hG (Ky := kX0_roomFor) (As := [va_rf (A4.P p 6), .int v4]) dX8_propagate_25 lk_X8_66 me_X0_roomFor st_X0_roomFor rfl rfl (Nat.le_of_ble_eq_true rfl) (MX.post (m_X0_roomFor hG hO g9) ?_)
  rintro _ A9 ⟨v9, rfl, h1⟩
  refine X.xok (fun w9 => ?_)
  replace h := h v9 A9 w9 h1
  change X _ _ _ _ A9 _ _ [va_rf v9, .ref p]
  obtain ⟨o10, h⟩ := h
  refine z_putP hG hO.1 v9 dX8_propagate_28 f_X8_28_7 ⟨_, rfl, Or.inl rfl⟩ o10 (by decide) (Or.inr ⟨_, rfl⟩) (fun A11 e11 => ?_)
  replace h := h A11 e11
  refine x_aload_n dX8_propagate_31 rfl ?_
  refine x_aload_n dX8_propagate_32 rfl ?_
  refine x_get (v := va_rf (A9.P p 7)) hG dX8_propagate_33 f_X8_31_7 (kP e11 o10) (congrArg va_rf (sP_k e11 (by decide))) ?_
  refine x_iload_n dX8_propagate_36 rfl ?_
  obtain ⟨R12, g12, h⟩ := h
  refine x_callS hG (Ky := kX0_roomFor) (As := [va_rf (A9.P p 7), .int v4]) dX8_propagate_37 lk_X8_66 me_X0_roomFor st_X0_roomFor rfl rfl (Nat.le_of_ble_eq_true rfl) (MX.post (m_X0_roomFor hG hO g12) ?_)
  rintro _ A12 ⟨v12, rfl, h1⟩
  refine X.xok (fun w12 => ?_)
  replace h := h v12 A12 w12 h1
  change X _ _ _ _ A12 _ _ [va_rf v12, .ref p]
  obtain ⟨o13, h⟩ := h
  refine z_putP hG hO.1 v12 dX8_propagate_40 f_X8_31_7 ⟨_, rfl, Or.inl rfl⟩ o13 (by decide) (Or.inr ⟨_, rfl⟩) (fun A14 e14 => ?_)
  replace h := h A14 e14
  refine x_aload_n dX8_propagate_43 rfl ?_
  refine x_aload_n dX8_propagate_44 rfl ?_
  refine x_get (v := va_rf (A12.P p 4)) hG dX8_propagate_45 f_X8_22_7 (kP e14 o13) (congrArg va_rf (sP_k e14 (by decide))) ?_
  refine x_iload_n dX8_propagate_48 rfl ?_
  refine x_aload_n dX8_propagate_49 rfl ?_
  refine x_get (v := va_rf (A12.P p 1)) hG dX8_propagate_50 f_X8_56_7 (kP e14 o13) (congrArg va_rf (sP_k e14 (by decide))) ?_
  obtain ⟨b15, e15, h⟩ := h
  rw [e15]
  obtain ⟨o16, h⟩ := h
  refine x_get (v := va_rf (A14.P b15 1)) hG dX8_propagate_53 f_X8_101_33 o16 rfl ?_
  obtain ⟨b18, e18, h⟩ := h
  rw [e18]
  obtain ⟨o19, h⟩ := h
  obtain ⟨R17, g17, h⟩ := h
  refine x_callV hG (Ky := kJ5_size) (As := []) dX8_propagate_56 o19 rfl lk_X8_73 me_J5_size is_J5_size se_J5_size rfl rfl (by simp only [List.append_eq, List.nil_append, List.map_cons, va_rf_cat]; exact Nat.le_of_ble_eq_true rfl) (MX.post (m_w_J5_size hG hO g17) ?_)
  rintro _ A17 ⟨v17, rfl, h1⟩
  refine X.xok (fun w17 => ?_)
  replace h := h v17 A17 w17 h1
  change X _ _ _ _ A17 _ _ [.int v17, .int v4, va_rf (A12.P p 4), .ref p]
  refine x_imul dX8_propagate_59 ?_
  obtain ⟨R20, g20, h⟩ := h
  refine x_callS hG (Ky := kX0_roomFor) (As := [va_rf (A12.P p 4), .int (v4 * v17)]) dX8_propagate_60 lk_X8_66 me_X0_roomFor st_X0_roomFor rfl rfl (Nat.le_of_ble_eq_true rfl) (MX.post (m_X0_roomFor hG hO g20) ?_)
  rintro _ A20 ⟨v20, rfl, h1⟩
  refine X.xok (fun w20 => ?_)
  replace h := h v20 A20 w20 h1
  change X _ _ _ _ A20 _ _ [va_rf v20, .ref p]
  obtain ⟨o21, h⟩ := h
  refine z_putP hG hO.1 v20 dX8_propagate_63 f_X8_22_7 ⟨_, rfl, Or.inl rfl⟩ o21 (by decide) (Or.inr ⟨_, rfl⟩) (fun A22 e22 => ?_)
  replace h := h A22 e22
  refine x_aload_n dX8_propagate_66 rfl ?_
  refine x_aload_n dX8_propagate_67 rfl ?_
  refine x_get (v := va_rf (A20.P p 5)) hG dX8_propagate_68 f_X8_25_7 (kP e22 o21) (congrArg va_rf (sP_k e22 (by decide))) ?_
  refine x_iload_n dX8_propagate_71 rfl ?_
  refine x_aload_n dX8_propagate_72 rfl ?_
  refine x_get (v := va_rf (A20.P p 1)) hG dX8_propagate_73 f_X8_56_7 (kP e22 o21) (congrArg va_rf (sP_k e22 (by decide))) ?_
  obtain ⟨b23, e23, h⟩ := h
  rw [e23]
  obtain ⟨o24, h⟩ := h
  refine x_get (v := va_rf (A22.P b23 1)) hG dX8_propagate_76 f_X8_101_33 o24 rfl ?_
  obtain ⟨b26, e26, h⟩ := h
  rw [e26]
  obtain ⟨o27, h⟩ := h
  obtain ⟨R25, g25, h⟩ := h
  refine x_callV hG (Ky := kJ5_size) (As := []) dX8_propagate_79 o27 rfl lk_X8_73 me_J5_size is_J5_size se_J5_size rfl rfl (by simp only [List.append_eq, List.nil_append, List.map_cons, va_rf_cat]; exact Nat.le_of_ble_eq_true rfl) (MX.post (m_w_J5_size hG hO g25) ?_)
  rintro _ A25 ⟨v25, rfl, h1⟩
  refine X.xok (fun w25 => ?_)
  replace h := h v25 A25 w25 h1
  change X _ _ _ _ A25 _ _ [.int v25, .int v4, va_rf (A20.P p 5), .ref p]
  refine x_imul dX8_propagate_82 ?_
  obtain ⟨R28, g28, h⟩ := h
  refine x_callS hG (Ky := kX0_roomFor) (As := [va_rf (A20.P p 5), .int (v4 * v25)]) dX8_propagate_83 lk_X8_66 me_X0_roomFor st_X0_roomFor rfl rfl (Nat.le_of_ble_eq_true rfl) (MX.post (m_X0_roomFor hG hO g28) ?_)
  rintro _ A28 ⟨v28, rfl, h1⟩
  refine X.xok (fun w28 => ?_)
  replace h := h v28 A28 w28 h1
  change X _ _ _ _ A28 _ _ [va_rf v28, .ref p]
  obtain ⟨o29, h⟩ := h
  refine z_putP hG hO.1 v28 dX8_propagate_86 f_X8_25_7 ⟨_, rfl, Or.inl rfl⟩ o29 (by decide) (Or.inr ⟨_, rfl⟩) (fun A30 e30 => ?_)
  replace h := h A30 e30
  refine x_aload_n dX8_propagate_89 rfl ?_
  refine x_aload_n dX8_propagate_90 rfl ?_
  refine x_get (v := va_rf (A28.P p 8)) hG dX8_propagate_91 f_X8_34_7 (kP e30 o29) (congrArg va_rf (sP_k e30 (by decide))) ?_
  refine x_aload_n dX8_propagate_94 rfl ?_
  refine x_get (v := va_rf (A28.P p 1)) hG dX8_propagate_95 f_X8_56_7 (kP e30 o29) (congrArg va_rf (sP_k e30 (by decide))) ?_
  obtain ⟨b31, e31, h⟩ := h
  rw [e31]
  obtain ⟨o32, h⟩ := h
  refine x_get (v := .int (A28.I b31 2)) hG dX8_propagate_98 f_X8_60_33 o32 (congrArg Value.int (sP_I e30)) ?_
  obtain ⟨R33, g33, h⟩ := h
  refine x_callS hG (Ky := kX0_roomFor) (As := [va_rf (A28.P p 8), .int (A28.I b31 2)]) dX8_propagate_101 lk_X8_66 me_X0_roomFor st_X0_roomFor rfl rfl (Nat.le_of_ble_eq_true rfl) (MX.post (m_X0_roomFor hG hO g33) ?_)
  rintro _ A33 ⟨v33, rfl, h1⟩
  refine X.xok (fun w33 => ?_)
  replace h := h v33 A33 w33 h1
  change X _ _ _ _ A33 _ _ [va_rf v33, .ref p]
  obtain ⟨o34, h⟩ := h
  refine z_putP hG hO.1 v33 dX8_propagate_104 f_X8_34_7 ⟨_, rfl, Or.inl rfl⟩ o34 (by decide) (Or.inr ⟨_, rfl⟩) (fun A35 e35 => ?_)
  replace h := h A35 e35
  refine x_aload_n dX8_propagate_107 rfl ?_
  refine x_aload_n dX8_propagate_108 rfl ?_
  refine x_get (v := va_rf (A33.P p 9)) hG dX8_propagate_109 f_X8_37_7 (kP e35 o34) (congrArg va_rf (sP_k e35 (by decide))) ?_
  refine x_aload_n dX8_propagate_112 rfl ?_
  refine x_get (v := va_rf (A33.P p 1)) hG dX8_propagate_113 f_X8_56_7 (kP e35 o34) (congrArg va_rf (sP_k e35 (by decide))) ?_
  obtain ⟨b36, e36, h⟩ := h
  rw [e36]
  obtain ⟨o37, h⟩ := h
  refine x_get (v := .int (A33.I b36 2)) hG dX8_propagate_116 f_X8_60_33 o37 (congrArg Value.int (sP_I e35)) ?_
  obtain ⟨R38, g38, h⟩ := h
  refine x_callS hG (Ky := kX0_roomFor) (As := [va_rf (A33.P p 9), .int (A33.I b36 2)]) dX8_propagate_119 lk_X8_66 me_X0_roomFor st_X0_roomFor rfl rfl (Nat.le_of_ble_eq_true rfl) (MX.post (m_X0_roomFor hG hO g38) ?_)
  rintro _ A38 ⟨v38, rfl, h1⟩
  refine X.xok (fun w38 => ?_)
  replace h := h v38 A38 w38 h1
  change X _ _ _ _ A38 _ _ [va_rf v38, .ref p]
  obtain ⟨o39, h⟩ := h
  refine z_putP hG hO.1 v38 dX8_propagate_122 f_X8_37_7 ⟨_, rfl, Or.inl rfl⟩ o39 (by decide) (Or.inr ⟨_, rfl⟩) (fun A40 e40 => ?_)
  replace h := h A40 e40
  refine x_aload_n dX8_propagate_125 rfl ?_
  refine x_aload_n dX8_propagate_126 rfl ?_
  refine x_get (v := va_rf (A38.P p 10)) hG dX8_propagate_127 f_X8_40_7 (kP e40 o39) (congrArg va_rf (sP_k e40 (by decide))) ?_
  refine x_aload_n dX8_propagate_130 rfl ?_
  refine x_get (v := va_rf (A38.P p 1)) hG dX8_propagate_131 f_X8_56_7 (kP e40 o39) (congrArg va_rf (sP_k e40 (by decide))) ?_
  obtain ⟨b41, e41, h⟩ := h
  rw [e41]
  obtain ⟨o42, h⟩ := h
  refine x_get (v := .int (A38.I b41 2)) hG dX8_propagate_134 f_X8_60_33 o42 (congrArg Value.int (sP_I e40)) ?_
  obtain ⟨R43, g43, h⟩ := h
  refine x_callS hG (Ky := kX0_roomFor) (As := [va_rf (A38.P p 10), .int (A38.I b41 2)]) dX8_propagate_137 lk_X8_66 me_X0_roomFor st_X0_roomFor rfl rfl (Nat.le_of_ble_eq_true rfl) (MX.post (m_X0_roomFor hG hO g43) ?_)
  rintro _ A43 ⟨v43, rfl, h1⟩
  refine X.xok (fun w43 => ?_)
  replace h := h v43 A43 w43 h1
  change X _ _ _ _ A43 _ _ [va_rf v43, .ref p]
  obtain ⟨o44, h⟩ := h
  refine z_putP hG hO.1 v43 dX8_propagate_140 f_X8_40_7 ⟨_, rfl, Or.inl rfl⟩ o44 (by decide) (Or.inr ⟨_, rfl⟩) (fun A45 e45 => ?_)
  replace h := h A45 e45
  refine x_iconst_ (v := (0 : Int32)) dX8_propagate_143 (by decide) ?_
  refine x_istore_n dX8_propagate_144 (by decide) ?_
  obtain ⟨L46, ⟨n46, i46⟩, g46⟩ := h
  have kl46 : ∀ n46 : Nat, ∀ (y46_2 : Int32) (A46 : xA), L46 n46 y46_2 A46 → X G (dp + 8) kX8_propagate (hV Q) A46 145 [some (.ref p), some (.int v4), some (.int y46_2), none, none] [] := by
    intro n46
    induction n46 using Nat.strongRecOn with
    | ind n46 ih46 =>
      intro y46_2 A46 h
      replace h := g46 n46 y46_2 A46 h
      refine x_iload_n dX8_propagate_145 rfl ?_
      refine x_iload_n dX8_propagate_146 rfl ?_
      refine x_icmp_ge (tgt := 163) dX8_propagate_147 (by decide) (fun c147 => ?_) (fun c147 => ?_)
      · replace h := h.1 c147
        refine x_iconst_ (v := (0 : Int32)) dX8_propagate_163 (by decide) ?_
        refine x_istore_n dX8_propagate_164 (by decide) ?_
        obtain ⟨L47, ⟨n47, i47⟩, g47⟩ := h
        have kl47 : ∀ n47 : Nat, ∀ (y47_2 : Int32) (A47 : xA), L47 n47 y47_2 A47 → X G (dp + 8) kX8_propagate (hV Q) A47 165 [some (.ref p), some (.int v4), some (.int y47_2), none, none] [] := by
          intro n47
          induction n47 using Nat.strongRecOn with
          | ind n47 ih47 =>
            intro y47_2 A47 h
            replace h := g47 n47 y47_2 A47 h
            refine x_iload_n dX8_propagate_165 rfl ?_
            refine x_aload_n dX8_propagate_166 rfl ?_
            obtain ⟨o48, h⟩ := h
            refine x_get (v := va_rf (A47.P p 1)) hG dX8_propagate_167 f_X8_56_7 o48 rfl ?_
            obtain ⟨b49, e49, h⟩ := h
            rw [e49]
            obtain ⟨o50, h⟩ := h
            refine x_get (v := va_rf (A47.P b49 1)) hG dX8_propagate_170 f_X8_101_33 o50 rfl ?_
            obtain ⟨b52, e52, h⟩ := h
            rw [e52]
            obtain ⟨o53, h⟩ := h
            obtain ⟨R51, g51, h⟩ := h
            refine x_callV hG (Ky := kJ5_size) (As := []) dX8_propagate_173 o53 rfl lk_X8_73 me_J5_size is_J5_size se_J5_size rfl rfl (Nat.le_of_ble_eq_true rfl) (MX.post (m_w_J5_size hG hO g51) ?_)
            rintro _ A51 ⟨v51, rfl, h1⟩
            refine X.xok (fun w51 => ?_)
            replace h := h v51 A51 w51 h1
            change X _ _ _ _ A51 _ _ [.int v51, .int y47_2]
            refine x_icmp_ge (tgt := 221) dX8_propagate_176 (by decide) (fun c176 => ?_) (fun c176 => ?_)
            · replace h := h.1 c176
              refine x_aload_n dX8_propagate_221 rfl ?_
              refine x_aload_n dX8_propagate_222 rfl ?_
              obtain ⟨o54, h⟩ := h
              refine x_get (v := va_rf (A51.P p 1)) hG dX8_propagate_223 f_X8_56_7 o54 rfl ?_
              obtain ⟨b55, e55, h⟩ := h
              rw [e55]
              obtain ⟨o56, h⟩ := h
              refine x_get (v := va_rf (A51.P b55 1)) hG dX8_propagate_226 f_X8_101_33 o56 rfl ?_
              refine x_iconst_ (v := (0 : Int32)) dX8_propagate_229 (by decide) ?_
              obtain ⟨b58, e58, h⟩ := h
              rw [e58]
              obtain ⟨o59, h⟩ := h
              obtain ⟨R57, g57, h⟩ := h
              refine x_callV hG (Ky := kJ5_get) (As := [.int (0 : Int32)]) dX8_propagate_230 o59 rfl lk_X8_77 me_J5_get is_J5_get se_J5_get rfl rfl (Nat.le_of_ble_eq_true rfl) (MX.post (m_w_J5_get hG hO g57) ?_)
              rintro _ A57 ⟨v57, rfl, h1⟩
              refine X.xok (fun w57 => ?_)
              replace h := h v57 A57 w57 h1
              change X _ _ _ _ A57 _ _ [va_rf v57, .ref p]
              obtain ⟨b60, e60, h⟩ := h
              rw [e60]
              obtain ⟨o61, h⟩ := h
              refine x_cast hG dX8_propagate_233 q2452 o61 rfl (Or.inl rfl) ?_
              obtain ⟨o63, h⟩ := h
              obtain ⟨R62, g62, h⟩ := h
              refine x_callV hG (Ky := kX8_flow) (As := [.ref b60]) dX8_propagate_236 o63 rfl lk_X8_184 me_X8_flow is_X8_flow se_X8_flow rfl rfl (Nat.le_of_ble_eq_true rfl) (MX.post (m_X8_flow hG hO g62) ?_)
              rintro _ A62 ⟨rfl, h1⟩
              refine X.xok (fun w62 => ?_)
              replace h := h A62 w62 h1
              change X _ _ _ _ A62 _ _ []
              obtain ⟨L64, ⟨n64, i64⟩, g64⟩ := h
              have kl64 : ∀ n64 : Nat, ∀ (A64 : xA), L64 n64 A64 → X G (dp + 8) kX8_propagate (hV Q) A64 239 [some (.ref p), some (.int v4), none, none, none] [] := by
                intro n64
                induction n64 using Nat.strongRecOn with
                | ind n64 ih64 =>
                  intro A64 h
                  replace h := g64 n64 A64 h
                  refine x_aload_n dX8_propagate_239 rfl ?_
                  obtain ⟨o65, h⟩ := h
                  refine x_get (v := va_rf (A64.P p 3)) hG dX8_propagate_240 f_X8_18_7 o65 rfl ?_
                  obtain ⟨b67, e67, h⟩ := h
                  rw [e67]
                  obtain ⟨o68, h⟩ := h
                  obtain ⟨R66, g66, h⟩ := h
                  refine x_callV hG (Ky := kJ5_isEmpty) (As := []) dX8_propagate_243 o68 rfl lk_X8_117 me_J5_isEmpty is_J5_isEmpty se_J5_isEmpty rfl rfl (Nat.le_of_ble_eq_true rfl) (MX.post (m_w_J5_isEmpty hG hO g66) ?_)
                  rintro _ A66 ⟨v66, rfl, zv66, h1⟩
                  refine X.xok (fun w66 => ?_)
                  replace h := h v66 A66 w66 zv66 h1
                  change X _ _ _ _ A66 _ _ [.int v66]
                  refine x_if_ne (tgt := 500) dX8_propagate_246 (by decide) (fun c246 => ?_) (fun c246 => ?_)
                  · replace h := h.2 c246
                    exact x_vret dX8_propagate_500 rfl ⟨rfl, h⟩
                  · replace h := h.1 c246
                    refine x_aload_n dX8_propagate_249 rfl ?_
                    obtain ⟨o69, h⟩ := h
                    refine x_get (v := va_rf (A66.P p 3)) hG dX8_propagate_250 f_X8_18_7 o69 rfl ?_
                    refine x_aload_n dX8_propagate_253 rfl ?_
                    refine x_get (v := va_rf (A66.P p 3)) hG dX8_propagate_254 f_X8_18_7 o69 rfl ?_
                    obtain ⟨b71, e71, h⟩ := h
                    rw [e71]
                    obtain ⟨o72, h⟩ := h
                    obtain ⟨R70, g70, h⟩ := h
                    refine x_callV hG (Ky := kJ5_size) (As := []) dX8_propagate_257 o72 rfl lk_X8_73 me_J5_size is_J5_size se_J5_size rfl rfl (Nat.le_of_ble_eq_true rfl) (MX.post (m_w_J5_size hG hO g70) ?_)
                    rintro _ A70 ⟨v70, rfl, h1⟩
                    refine X.xok (fun w70 => ?_)
                    replace h := h v70 A70 w70 h1
                    change X _ _ _ _ A70 _ _ [.int v70, .ref b71]
                    refine x_iconst_ (v := (1 : Int32)) dX8_propagate_260 (by decide) ?_
                    refine x_isub dX8_propagate_261 ?_
                    obtain ⟨o74, h⟩ := h
                    obtain ⟨R73, g73, h⟩ := h
                    refine x_callV hG (Ky := kJ5_remove) (As := [.int (v70 - (1 : Int32))]) dX8_propagate_262 o74 rfl lk_X8_121 me_J5_remove is_J5_remove se_J5_remove rfl rfl (Nat.le_of_ble_eq_true rfl) (MX.post (m_w_J5_remove hG hO g73) ?_)
                    rintro _ A73 ⟨v73, rfl, h1⟩
                    refine X.xok (fun w73 => ?_)
                    replace h := h v73 A73 w73 h1
                    change X _ _ _ _ A73 _ _ [va_rf v73]
                    obtain ⟨b75, e75, h⟩ := h
                    rw [e75]
                    obtain ⟨o76, h⟩ := h
                    refine x_cast hG dX8_propagate_265 q2452 o76 rfl (Or.inl rfl) ?_
                    refine x_astore_n dX8_propagate_268 (by decide) ?_
                    refine x_aload_n dX8_propagate_269 rfl ?_
                    refine x_iconst_ (v := (0 : Int32)) dX8_propagate_270 (by decide) ?_
                    refine z_putI hG hO.1 dX8_propagate_271 f_X8_106_34 ⟨_, rfl, Or.inl rfl⟩ o76 (by decide) (narrow01 (by decide)) (fits01 (by decide)) ⟨_, rfl⟩ (fun A77 e77 => ?_)
                    replace h := h A77 e77
                    refine x_aload_n dX8_propagate_274 rfl ?_
                    refine x_dup dX8_propagate_275 rfl ?_
                    obtain ⟨o78, h⟩ := h
                    refine x_get (v := .int (A77.I p 11)) hG dX8_propagate_276 f_X8_187_7 o78 rfl ?_
                    refine x_iconst_ (v := (1 : Int32)) dX8_propagate_279 (by decide) ?_
                    refine x_iadd dX8_propagate_280 ?_
                    refine z_putI hG hO.1 dX8_propagate_281 f_X8_187_7 ⟨_, rfl, Or.inl rfl⟩ o78 (by decide) rfl rfl ⟨_, rfl⟩ (fun A79 e79 => ?_)
                    replace h := h A79 e79
                    refine x_iconst_ (v := (0 : Int32)) dX8_propagate_284 (by decide) ?_
                    refine x_istore_n dX8_propagate_285 (by decide) ?_
                    obtain ⟨L80, ⟨n80, i80⟩, g80⟩ := h
                    have kl80 : ∀ n80 : Nat, ∀ (y80_3 : Int32) (A80 : xA), L80 n80 y80_3 A80 → X G (dp + 8) kX8_propagate (hV Q) A80 286 [some (.ref p), some (.int v4), some (.ref b75), some (.int y80_3), none] [] := by
                      intro n80
                      induction n80 using Nat.strongRecOn with
                      | ind n80 ih80 =>
                        intro y80_3 A80 h
                        replace h := g80 n80 y80_3 A80 h
                        refine x_iload_n dX8_propagate_286 rfl ?_
                        refine x_iload_n dX8_propagate_287 rfl ?_
                        refine x_icmp_ge (tgt := 335) dX8_propagate_288 (by decide) (fun c288 => ?_) (fun c288 => ?_)
                        · replace h := h.1 c288
                          refine x_iconst_ (v := (0 : Int32)) dX8_propagate_335 (by decide) ?_
                          refine x_istore_n dX8_propagate_336 (by decide) ?_
                          obtain ⟨L81, ⟨n81, i81⟩, g81⟩ := h
                          have kl81 : ∀ n81 : Nat, ∀ (y81_3 : Int32) (A81 : xA), L81 n81 y81_3 A81 → X G (dp + 8) kX8_propagate (hV Q) A81 337 [some (.ref p), some (.int v4), some (.ref b75), some (.int y81_3), none] [] := by
                            intro n81
                            induction n81 using Nat.strongRecOn with
                            | ind n81 ih81 =>
                              intro y81_3 A81 h
                              replace h := g81 n81 y81_3 A81 h
                              refine x_iload_n dX8_propagate_337 rfl ?_
                              refine x_aload_n dX8_propagate_338 rfl ?_
                              obtain ⟨o82, h⟩ := h
                              refine x_get (v := va_rf (A81.P b75 0)) hG dX8_propagate_339 f_X8_153_34 o82 rfl ?_
                              obtain ⟨b84, e84, h⟩ := h
                              rw [e84]
                              obtain ⟨o85, h⟩ := h
                              obtain ⟨R83, g83, h⟩ := h
                              refine x_callV hG (Ky := kJ5_size) (As := []) dX8_propagate_342 o85 rfl lk_X8_73 me_J5_size is_J5_size se_J5_size rfl rfl (Nat.le_of_ble_eq_true rfl) (MX.post (m_w_J5_size hG hO g83) ?_)
                              rintro _ A83 ⟨v83, rfl, h1⟩
                              refine X.xok (fun w83 => ?_)
                              replace h := h v83 A83 w83 h1
                              change X _ _ _ _ A83 _ _ [.int v83, .int y81_3]
                              refine x_icmp_ge (tgt := 369) dX8_propagate_345 (by decide) (fun c345 => ?_) (fun c345 => ?_)
                              · replace h := h.1 c345
                                refine x_aload_n dX8_propagate_369 rfl ?_
                                obtain ⟨o86, h⟩ := h
                                refine x_get (v := .int (A83.I b75 1)) hG dX8_propagate_370 f_X8_124_34 o86 rfl ?_
                                refine x_iconst_ (v := (1 : Int32)) dX8_propagate_373 (by decide) ?_
                                obtain ⟨J87, g87, h⟩ := h
                                have kj87 : ∀ (A87 : xA), J87 A87 → X G (dp + 8) kX8_propagate (hV Q) A87 385 [some (.ref p), some (.int v4), some (.ref b75), none, none] [] := by
                                  intro A87 h
                                  replace h := g87 A87 h
                                  refine x_aload_n dX8_propagate_385 rfl ?_
                                  obtain ⟨o88, h⟩ := h
                                  refine x_get (v := .int (A87.I b75 1)) hG dX8_propagate_386 f_X8_124_34 o88 rfl ?_
                                  refine x_iconst_ (v := (2 : Int32)) dX8_propagate_389 (by decide) ?_
                                  refine x_icmp_eq (tgt := 396) dX8_propagate_390 (by decide) (fun c390 => ?_) (fun c390 => ?_)
                                  · replace h := h.1 c390
                                    refine x_aload_n dX8_propagate_396 rfl ?_
                                    refine x_aload_n dX8_propagate_397 rfl ?_
                                    refine x_get (v := .long (A87.L b75 3)) hG dX8_propagate_398 f_X8_165_34 o88 rfl ?_
                                    obtain ⟨o90, h⟩ := h
                                    obtain ⟨R89, g89, h⟩ := h
                                    refine x_callV hG (Ky := kX8_how) (As := [.long (A87.L b75 3)]) dX8_propagate_401 o90 rfl lk_X8_194 me_X8_how is_X8_how se_X8_how rfl rfl (Nat.le_of_ble_eq_true rfl) (MX.post (m_X8_how hG hO g89) ?_)
                                    rintro _ A89 ⟨v89, rfl, h1⟩
                                    refine X.xok (fun w89 => ?_)
                                    replace h := h v89 A89 w89 h1
                                    change X _ _ _ _ A89 _ _ [.int v89]
                                    refine x_iconst_ (v := (1 : Int32)) dX8_propagate_404 (by decide) ?_
                                    obtain ⟨J91, g91, h⟩ := h
                                    have kj91 : ∀ (y91_s0 : Int32) (A91 : xA), J91 y91_s0 A91 → X G (dp + 8) kX8_propagate (hV Q) A91 425 [some (.ref p), some (.int v4), some (.ref b75), none, none] [.int y91_s0] := by
                                      intro y91_s0 A91 h
                                      replace h := g91 y91_s0 A91 h
                                      refine x_istore_n dX8_propagate_425 (by decide) ?_
                                      refine x_iload_n dX8_propagate_426 rfl ?_
                                      obtain ⟨J92, g92, h⟩ := h
                                      have kj92 : ∀ (y92_s0 : Int32) (A92 : xA), J92 y92_s0 A92 → X G (dp + 8) kX8_propagate (hV Q) A92 461 [some (.ref p), some (.int v4), some (.ref b75), some (.int y91_s0), none] [.int y92_s0] := by
                                        intro y92_s0 A92 h
                                        replace h := g92 y92_s0 A92 h
                                        refine x_istore dX8_propagate_461 (by decide) ?_
                                        refine x_iload_n dX8_propagate_463 rfl ?_
                                        obtain ⟨J93, g93, h⟩ := h
                                        have kj93 : ∀ (A93 : xA), J93 A93 → X G (dp + 8) kX8_propagate (hV Q) A93 480 [some (.ref p), some (.int v4), some (.ref b75), some (.int y91_s0), some (.int y92_s0)] [] := by
                                          intro A93 h
                                          replace h := g93 A93 h
                                          refine x_iload_n dX8_propagate_480 rfl ?_
                                          obtain ⟨J94, g94, h⟩ := h
                                          have kj94 : ∀ (A94 : xA), J94 A94 → X G (dp + 8) kX8_propagate (hV Q) A94 497 [some (.ref p), some (.int v4), none, none, none] [] := by
                                            intro A94 h
                                            replace h := g94 A94 h
                                            refine x_goto (tgt := 239) dX8_propagate_497 (by decide) ?_
                                            obtain ⟨q64, l64, h⟩ := h
                                            change X _ _ _ _ _ _ [some (.ref p), some (.int v4), none, none, none] []
                                            exact X.weak (xle_c rfl (xle_c rfl (xle_n (xle_n (xle_n xle_nil))))) (ih64 q64 l64 A94 h)
                                          refine x_if_eq (tgt := 489) dX8_propagate_481 (by decide) (fun c481 => ?_) (fun c481 => ?_)
                                          · replace h := h.1 c481
                                            refine x_aload_n dX8_propagate_489 rfl ?_
                                            refine x_aload_n dX8_propagate_490 rfl ?_
                                            obtain ⟨o95, h⟩ := h
                                            refine x_get (v := va_rf (A93.P b75 6)) hG dX8_propagate_491 f_X8_131_34 o95 rfl ?_
                                            obtain ⟨o97, h⟩ := h
                                            obtain ⟨R96, g96, h⟩ := h
                                            refine x_callV hG (Ky := kX8_flow) (As := [va_rf (A93.P b75 6)]) dX8_propagate_494 o97 rfl lk_X8_184 me_X8_flow is_X8_flow se_X8_flow rfl rfl (Nat.le_of_ble_eq_true rfl) (MX.post (m_X8_flow hG hO g96) ?_)
                                            rintro _ A96 ⟨rfl, h1⟩
                                            refine X.xok (fun w96 => ?_)
                                            replace h := h A96 w96 h1
                                            change X _ _ _ _ A96 _ _ []
                                            change X _ _ _ _ _ _ [some (.ref p), some (.int v4), some (.ref b75), some (.int y91_s0), some (.int y92_s0)] []
                                            exact X.weak (xle_c rfl (xle_c rfl (xle_n (xle_n (xle_n xle_nil))))) (kj94 A96 h)
                                          · replace h := h.2 c481
                                            refine x_iload dX8_propagate_484 rfl ?_
                                            refine x_if_ne (tgt := 497) dX8_propagate_486 (by decide) (fun c486 => ?_) (fun c486 => ?_)
                                            · replace h := h.2 c486
                                              change X _ _ _ _ _ _ [some (.ref p), some (.int v4), some (.ref b75), some (.int y91_s0), some (.int y92_s0)] []
                                              exact X.weak (xle_c rfl (xle_c rfl (xle_n (xle_n (xle_n xle_nil))))) (kj94 A93 h)
                                            · replace h := h.1 c486
                                              refine x_aload_n dX8_propagate_489 rfl ?_
                                              refine x_aload_n dX8_propagate_490 rfl ?_
                                              obtain ⟨o98, h⟩ := h
                                              refine x_get (v := va_rf (A93.P b75 6)) hG dX8_propagate_491 f_X8_131_34 o98 rfl ?_
                                              obtain ⟨o100, h⟩ := h
                                              obtain ⟨R99, g99, h⟩ := h
                                              refine x_callV hG (Ky := kX8_flow) (As := [va_rf (A93.P b75 6)]) dX8_propagate_494 o100 rfl lk_X8_184 me_X8_flow is_X8_flow se_X8_flow rfl rfl (Nat.le_of_ble_eq_true rfl) (MX.post (m_X8_flow hG hO g99) ?_)
                                              rintro _ A99 ⟨rfl, h1⟩
                                              refine X.xok (fun w99 => ?_)
                                              replace h := h A99 w99 h1
                                              change X _ _ _ _ A99 _ _ []
                                              change X _ _ _ _ _ _ [some (.ref p), some (.int v4), some (.ref b75), some (.int y91_s0), some (.int y92_s0)] []
                                              exact X.weak (xle_c rfl (xle_c rfl (xle_n (xle_n (xle_n xle_nil))))) (kj94 A99 h)
                                        refine x_if_eq (tgt := 472) dX8_propagate_464 (by decide) (fun c464 => ?_) (fun c464 => ?_)
                                        · replace h := h.1 c464
                                          refine x_aload_n dX8_propagate_472 rfl ?_
                                          refine x_aload_n dX8_propagate_473 rfl ?_
                                          obtain ⟨o101, h⟩ := h
                                          refine x_get (v := va_rf (A92.P b75 5)) hG dX8_propagate_474 f_X8_127_34 o101 rfl ?_
                                          obtain ⟨o103, h⟩ := h
                                          obtain ⟨R102, g102, h⟩ := h
                                          refine x_callV hG (Ky := kX8_flow) (As := [va_rf (A92.P b75 5)]) dX8_propagate_477 o103 rfl lk_X8_184 me_X8_flow is_X8_flow se_X8_flow rfl rfl (Nat.le_of_ble_eq_true rfl) (MX.post (m_X8_flow hG hO g102) ?_)
                                          rintro _ A102 ⟨rfl, h1⟩
                                          refine X.xok (fun w102 => ?_)
                                          replace h := h A102 w102 h1
                                          change X _ _ _ _ A102 _ _ []
                                          change X _ _ _ _ _ _ [some (.ref p), some (.int v4), some (.ref b75), some (.int y91_s0), some (.int y92_s0)] []
                                          exact X.weak (xle_c rfl (xle_c rfl (xle_c rfl (xle_c rfl (xle_c rfl xle_nil))))) (kj93 A102 h)
                                        · replace h := h.2 c464
                                          refine x_iload dX8_propagate_467 rfl ?_
                                          refine x_if_eq (tgt := 480) dX8_propagate_469 (by decide) (fun c469 => ?_) (fun c469 => ?_)
                                          · replace h := h.1 c469
                                            change X _ _ _ _ _ _ [some (.ref p), some (.int v4), some (.ref b75), some (.int y91_s0), some (.int y92_s0)] []
                                            exact X.weak (xle_c rfl (xle_c rfl (xle_c rfl (xle_c rfl (xle_c rfl xle_nil))))) (kj93 A92 h)
                                          · replace h := h.2 c469
                                            refine x_aload_n dX8_propagate_472 rfl ?_
                                            refine x_aload_n dX8_propagate_473 rfl ?_
                                            obtain ⟨o104, h⟩ := h
                                            refine x_get (v := va_rf (A92.P b75 5)) hG dX8_propagate_474 f_X8_127_34 o104 rfl ?_
                                            obtain ⟨o106, h⟩ := h
                                            obtain ⟨R105, g105, h⟩ := h
                                            refine x_callV hG (Ky := kX8_flow) (As := [va_rf (A92.P b75 5)]) dX8_propagate_477 o106 rfl lk_X8_184 me_X8_flow is_X8_flow se_X8_flow rfl rfl (Nat.le_of_ble_eq_true rfl) (MX.post (m_X8_flow hG hO g105) ?_)
                                            rintro _ A105 ⟨rfl, h1⟩
                                            refine X.xok (fun w105 => ?_)
                                            replace h := h A105 w105 h1
                                            change X _ _ _ _ A105 _ _ []
                                            change X _ _ _ _ _ _ [some (.ref p), some (.int v4), some (.ref b75), some (.int y91_s0), some (.int y92_s0)] []
                                            exact X.weak (xle_c rfl (xle_c rfl (xle_c rfl (xle_c rfl (xle_c rfl xle_nil))))) (kj93 A105 h)
                                      refine x_if_eq (tgt := 460) dX8_propagate_427 (by decide) (fun c427 => ?_) (fun c427 => ?_)
                                      · replace h := h.1 c427
                                        refine x_iconst_ (v := (0 : Int32)) dX8_propagate_460 (by decide) ?_
                                        change X _ _ _ _ _ _ [some (.ref p), some (.int v4), some (.ref b75), some (.int y91_s0), none] [.int (0 : Int32)]
                                        exact X.weak (xle_c rfl (xle_c rfl (xle_c rfl (xle_c rfl (xle_n xle_nil))))) (kj92 (0 : Int32) A91 h)
                                      · replace h := h.2 c427
                                        refine x_aload_n dX8_propagate_430 rfl ?_
                                        obtain ⟨o107, h⟩ := h
                                        refine x_get (v := .int (A91.I b75 2)) hG dX8_propagate_431 f_X8_162_34 o107 rfl ?_
                                        refine x_aload_n dX8_propagate_434 rfl ?_
                                        refine x_aload_n dX8_propagate_435 rfl ?_
                                        refine x_get (v := .long (A91.L b75 3)) hG dX8_propagate_436 f_X8_165_34 o107 rfl ?_
                                        obtain ⟨o109, h⟩ := h
                                        obtain ⟨R108, g108, h⟩ := h
                                        refine x_callV hG (Ky := kX8_what) (As := [.long (A91.L b75 3)]) dX8_propagate_439 o109 rfl lk_X8_198 me_X8_what is_X8_what se_X8_what rfl rfl (Nat.le_of_ble_eq_true rfl) (MX.post (m_X8_what hG hO g108) ?_)
                                        rintro _ A108 ⟨v108, rfl, h1⟩
                                        refine X.xok (fun w108 => ?_)
                                        replace h := h v108 A108 w108 h1
                                        change X _ _ _ _ A108 _ _ [.int v108, .int (A91.I b75 2)]
                                        refine x_aload_n dX8_propagate_442 rfl ?_
                                        refine x_aload_n dX8_propagate_443 rfl ?_
                                        obtain ⟨o110, h⟩ := h
                                        refine x_get (v := .long (A108.L b75 4)) hG dX8_propagate_444 f_X8_169_34 o110 rfl ?_
                                        obtain ⟨o112, h⟩ := h
                                        obtain ⟨R111, g111, h⟩ := h
                                        refine x_callV hG (Ky := kX8_what) (As := [.long (A108.L b75 4)]) dX8_propagate_447 o112 rfl lk_X8_198 me_X8_what is_X8_what se_X8_what rfl rfl (Nat.le_of_ble_eq_true rfl) (MX.post (m_X8_what hG hO g111) ?_)
                                        rintro _ A111 ⟨v111, rfl, h1⟩
                                        refine X.xok (fun w111 => ?_)
                                        replace h := h v111 A111 w111 h1
                                        change X _ _ _ _ A111 _ _ [.int v111, .int v108, .int (A91.I b75 2)]
                                        refine x_callS hG (Ky := kX0_done) (As := [.int (A91.I b75 2), .int v108, .int v111]) dX8_propagate_450 lk_X8_201 me_X0_done st_X0_done rfl rfl (Nat.le_of_ble_eq_true rfl) (MX.post (m_X0_done hG pp_X0_done) ?_)
                                        rintro _ _ ⟨rfl, rfl⟩
                                        change X _ _ _ _ _ _ _ (.int (f_X0_done (A91.I b75 2) v108 v111) :: _)
                                        refine x_if_eq (tgt := 460) dX8_propagate_453 (by decide) (fun c453 => ?_) (fun c453 => ?_)
                                        · replace h := h.1 c453
                                          refine x_iconst_ (v := (0 : Int32)) dX8_propagate_460 (by decide) ?_
                                          change X _ _ _ _ _ _ [some (.ref p), some (.int v4), some (.ref b75), some (.int y91_s0), none] [.int (0 : Int32)]
                                          exact X.weak (xle_c rfl (xle_c rfl (xle_c rfl (xle_c rfl (xle_n xle_nil))))) (kj92 (0 : Int32) A111 h)
                                        · replace h := h.2 c453
                                          refine x_iconst_ (v := (1 : Int32)) dX8_propagate_456 (by decide) ?_
                                          refine x_goto (tgt := 461) dX8_propagate_457 (by decide) ?_
                                          change X _ _ _ _ _ _ [some (.ref p), some (.int v4), some (.ref b75), some (.int y91_s0), none] [.int (1 : Int32)]
                                          exact X.weak (xle_c rfl (xle_c rfl (xle_c rfl (xle_c rfl (xle_n xle_nil))))) (kj92 (1 : Int32) A111 h)
                                    refine x_icmp_ne (tgt := 424) dX8_propagate_405 (by decide) (fun c405 => ?_) (fun c405 => ?_)
                                    · replace h := h.2 c405
                                      refine x_iconst_ (v := (0 : Int32)) dX8_propagate_424 (by decide) ?_
                                      change X _ _ _ _ _ _ [some (.ref p), some (.int v4), some (.ref b75), none, none] [.int (0 : Int32)]
                                      exact X.weak (xle_c rfl (xle_c rfl (xle_c rfl (xle_n (xle_n xle_nil))))) (kj91 (0 : Int32) A89 h)
                                    · replace h := h.1 c405
                                      refine x_aload_n dX8_propagate_408 rfl ?_
                                      refine x_aload_n dX8_propagate_409 rfl ?_
                                      obtain ⟨o113, h⟩ := h
                                      refine x_get (v := .long (A89.L b75 4)) hG dX8_propagate_410 f_X8_169_34 o113 rfl ?_
                                      obtain ⟨o115, h⟩ := h
                                      obtain ⟨R114, g114, h⟩ := h
                                      refine x_callV hG (Ky := kX8_how) (As := [.long (A89.L b75 4)]) dX8_propagate_413 o115 rfl lk_X8_194 me_X8_how is_X8_how se_X8_how rfl rfl (Nat.le_of_ble_eq_true rfl) (MX.post (m_X8_how hG hO g114) ?_)
                                      rintro _ A114 ⟨v114, rfl, h1⟩
                                      refine X.xok (fun w114 => ?_)
                                      replace h := h v114 A114 w114 h1
                                      change X _ _ _ _ A114 _ _ [.int v114]
                                      refine x_iconst_ (v := (1 : Int32)) dX8_propagate_416 (by decide) ?_
                                      refine x_icmp_ne (tgt := 424) dX8_propagate_417 (by decide) (fun c417 => ?_) (fun c417 => ?_)
                                      · replace h := h.2 c417
                                        refine x_iconst_ (v := (0 : Int32)) dX8_propagate_424 (by decide) ?_
                                        change X _ _ _ _ _ _ [some (.ref p), some (.int v4), some (.ref b75), none, none] [.int (0 : Int32)]
                                        exact X.weak (xle_c rfl (xle_c rfl (xle_c rfl (xle_n (xle_n xle_nil))))) (kj91 (0 : Int32) A114 h)
                                      · replace h := h.1 c417
                                        refine x_iconst_ (v := (1 : Int32)) dX8_propagate_420 (by decide) ?_
                                        refine x_goto (tgt := 425) dX8_propagate_421 (by decide) ?_
                                        change X _ _ _ _ _ _ [some (.ref p), some (.int v4), some (.ref b75), none, none] [.int (1 : Int32)]
                                        exact X.weak (xle_c rfl (xle_c rfl (xle_c rfl (xle_n (xle_n xle_nil))))) (kj91 (1 : Int32) A114 h)
                                  · replace h := h.2 c390
                                    refine x_goto (tgt := 239) dX8_propagate_393 (by decide) ?_
                                    obtain ⟨q64, l64, h⟩ := h
                                    change X _ _ _ _ _ _ [some (.ref p), some (.int v4), some (.ref b75), none, none] []
                                    exact X.weak (xle_c rfl (xle_c rfl (xle_n (xle_n (xle_n xle_nil))))) (ih64 q64 l64 A87 h)
                                refine x_icmp_ne (tgt := 385) dX8_propagate_374 (by decide) (fun c374 => ?_) (fun c374 => ?_)
                                · replace h := h.2 c374
                                  change X _ _ _ _ _ _ [some (.ref p), some (.int v4), some (.ref b75), some (.int y81_3), none] []
                                  exact X.weak (xle_c rfl (xle_c rfl (xle_c rfl (xle_n (xle_n xle_nil))))) (kj87 A83 h)
                                · replace h := h.1 c374
                                  refine x_aload_n dX8_propagate_377 rfl ?_
                                  refine x_aload_n dX8_propagate_378 rfl ?_
                                  refine x_get (v := va_rf (A83.P b75 5)) hG dX8_propagate_379 f_X8_127_34 o86 rfl ?_
                                  obtain ⟨o117, h⟩ := h
                                  obtain ⟨R116, g116, h⟩ := h
                                  refine x_callV hG (Ky := kX8_flow) (As := [va_rf (A83.P b75 5)]) dX8_propagate_382 o117 rfl lk_X8_184 me_X8_flow is_X8_flow se_X8_flow rfl rfl (Nat.le_of_ble_eq_true rfl) (MX.post (m_X8_flow hG hO g116) ?_)
                                  rintro _ A116 ⟨rfl, h1⟩
                                  refine X.xok (fun w116 => ?_)
                                  replace h := h A116 w116 h1
                                  change X _ _ _ _ A116 _ _ []
                                  change X _ _ _ _ _ _ [some (.ref p), some (.int v4), some (.ref b75), some (.int y81_3), none] []
                                  exact X.weak (xle_c rfl (xle_c rfl (xle_c rfl (xle_n (xle_n xle_nil))))) (kj87 A116 h)
                              · replace h := h.2 c345
                                refine x_aload_n dX8_propagate_348 rfl ?_
                                refine x_aload_n dX8_propagate_349 rfl ?_
                                obtain ⟨o118, h⟩ := h
                                refine x_get (v := va_rf (A83.P b75 0)) hG dX8_propagate_350 f_X8_153_34 o118 rfl ?_
                                refine x_iload_n dX8_propagate_353 rfl ?_
                                obtain ⟨b120, e120, h⟩ := h
                                rw [e120]
                                obtain ⟨o121, h⟩ := h
                                obtain ⟨R119, g119, h⟩ := h
                                refine x_callV hG (Ky := kJ5_get) (As := [.int y81_3]) dX8_propagate_354 o121 rfl lk_X8_77 me_J5_get is_J5_get se_J5_get rfl rfl (Nat.le_of_ble_eq_true rfl) (MX.post (m_w_J5_get hG hO g119) ?_)
                                rintro _ A119 ⟨v119, rfl, h1⟩
                                refine X.xok (fun w119 => ?_)
                                replace h := h v119 A119 w119 h1
                                change X _ _ _ _ A119 _ _ [va_rf v119, .ref p]
                                obtain ⟨b122, e122, h⟩ := h
                                rw [e122]
                                obtain ⟨o123, h⟩ := h
                                refine x_cast hG dX8_propagate_357 q2487 o123 rfl (Or.inl rfl) ?_
                                obtain ⟨o125, h⟩ := h
                                obtain ⟨R124, g124, h⟩ := h
                                refine x_callV hG (Ky := kX8_judge) (As := [.ref b122]) dX8_propagate_360 o125 rfl lk_X8_190 me_X8_judge is_X8_judge se_X8_judge rfl rfl (Nat.le_of_ble_eq_true rfl) (MX.post (m_X8_judge hG hO g124) ?_)
                                rintro _ A124 ⟨rfl, h1⟩
                                refine X.xok (fun w124 => ?_)
                                replace h := h A124 w124 h1
                                change X _ _ _ _ A124 _ _ []
                                refine x_iinc (v := (y81_3 + (1 : Int32))) dX8_propagate_363 rfl rfl (by decide) ?_
                                refine x_goto (tgt := 337) dX8_propagate_366 (by decide) ?_
                                obtain ⟨q81, l81, h⟩ := h
                                change X _ _ _ _ _ _ [some (.ref p), some (.int v4), some (.ref b75), some (.int (y81_3 + (1 : Int32))), none] []
                                exact X.weak (xle_c rfl (xle_c rfl (xle_c rfl (xle_c rfl (xle_n xle_nil))))) (ih81 q81 l81 (y81_3 + (1 : Int32)) A124 h)
                          change X _ _ _ _ _ _ [some (.ref p), some (.int v4), some (.ref b75), some (.int (0 : Int32)), none] []
                          exact X.weak (xle_c rfl (xle_c rfl (xle_c rfl (xle_c rfl (xle_n xle_nil))))) (kl81 n81 (0 : Int32) A80 i81)
                        · replace h := h.2 c288
                          refine x_aload_n dX8_propagate_291 rfl ?_
                          obtain ⟨o126, h⟩ := h
                          refine x_get (v := va_rf (A80.P p 6)) hG dX8_propagate_292 f_X8_28_7 o126 rfl ?_
                          refine x_iload_n dX8_propagate_295 rfl ?_
                          refine x_aload_n dX8_propagate_296 rfl ?_
                          refine x_get (v := va_rf (A80.P p 4)) hG dX8_propagate_297 f_X8_22_7 o126 rfl ?_
                          refine x_iload_n dX8_propagate_300 rfl ?_
                          refine x_aload_n dX8_propagate_301 rfl ?_
                          obtain ⟨o127, h⟩ := h
                          refine x_get (v := .int (A80.I b75 8)) hG dX8_propagate_302 f_X8_142_34 o127 rfl ?_
                          refine x_imul dX8_propagate_305 ?_
                          refine x_iload_n dX8_propagate_306 rfl ?_
                          refine x_iadd dX8_propagate_307 ?_
                          obtain ⟨b128, e128, h⟩ := h
                          rw [e128]
                          obtain ⟨o129, h⟩ := h
                          obtain ⟨o130, h⟩ := h
                          refine x_iald hG dX8_propagate_308 o129 o130 ?_
                          obtain ⟨b131, e131, h⟩ := h
                          rw [e131]
                          obtain ⟨o132, h⟩ := h
                          obtain ⟨o133, h⟩ := h
                          obtain ⟨o134, h⟩ := h
                          refine z_iast hG dX8_propagate_309 o132 o133 o134 (fun A135 e135 => ?_)
                          replace h := h A135 e135
                          refine x_aload_n dX8_propagate_310 rfl ?_
                          refine x_get (v := va_rf (A80.P p 7)) hG dX8_propagate_311 f_X8_31_7 (kI e135 o126) (congrArg va_rf (sI_P e135)) ?_
                          refine x_iload_n dX8_propagate_314 rfl ?_
                          refine x_aload_n dX8_propagate_315 rfl ?_
                          refine x_get (v := va_rf (A80.P p 5)) hG dX8_propagate_316 f_X8_25_7 (kI e135 o126) (congrArg va_rf (sI_P e135)) ?_
                          refine x_iload_n dX8_propagate_319 rfl ?_
                          refine x_aload_n dX8_propagate_320 rfl ?_
                          refine x_get (v := .int (A80.I b75 8)) hG dX8_propagate_321 f_X8_142_34 (kI e135 o127) (congrArg Value.int (sI_a e135 (tne o127 o132 (by decide)))) ?_
                          refine x_imul dX8_propagate_324 ?_
                          refine x_iload_n dX8_propagate_325 rfl ?_
                          refine x_iadd dX8_propagate_326 ?_
                          obtain ⟨b136, e136, h⟩ := h
                          rw [e136]
                          obtain ⟨o137, h⟩ := h
                          obtain ⟨o138, h⟩ := h
                          refine x_iald hG dX8_propagate_327 o137 o138 ?_
                          obtain ⟨b139, e139, h⟩ := h
                          rw [e139]
                          obtain ⟨o140, h⟩ := h
                          obtain ⟨o141, h⟩ := h
                          obtain ⟨o142, h⟩ := h
                          refine z_iast hG dX8_propagate_328 o140 o141 o142 (fun A143 e143 => ?_)
                          replace h := h A143 e143
                          refine x_iinc (v := (y80_3 + (1 : Int32))) dX8_propagate_329 rfl rfl (by decide) ?_
                          refine x_goto (tgt := 286) dX8_propagate_332 (by decide) ?_
                          obtain ⟨q80, l80, h⟩ := h
                          change X _ _ _ _ _ _ [some (.ref p), some (.int v4), some (.ref b75), some (.int (y80_3 + (1 : Int32))), none] []
                          exact X.weak (xle_c rfl (xle_c rfl (xle_c rfl (xle_c rfl (xle_n xle_nil))))) (ih80 q80 l80 (y80_3 + (1 : Int32)) A143 h)
                    change X _ _ _ _ _ _ [some (.ref p), some (.int v4), some (.ref b75), some (.int (0 : Int32)), none] []
                    exact X.weak (xle_c rfl (xle_c rfl (xle_c rfl (xle_c rfl (xle_n xle_nil))))) (kl80 n80 (0 : Int32) A79 i80)
              change X _ _ _ _ _ _ [some (.ref p), some (.int v4), some (.int y47_2), none, none] []
              exact X.weak (xle_c rfl (xle_c rfl (xle_n (xle_n (xle_n xle_nil))))) (kl64 n64 A62 i64)
            · replace h := h.2 c176
              refine x_aload_n dX8_propagate_179 rfl ?_
              obtain ⟨o144, h⟩ := h
              refine x_get (v := va_rf (A51.P p 1)) hG dX8_propagate_180 f_X8_56_7 o144 rfl ?_
              obtain ⟨b145, e145, h⟩ := h
              rw [e145]
              obtain ⟨o146, h⟩ := h
              refine x_get (v := va_rf (A51.P b145 1)) hG dX8_propagate_183 f_X8_101_33 o146 rfl ?_
              refine x_iload_n dX8_propagate_186 rfl ?_
              obtain ⟨b148, e148, h⟩ := h
              rw [e148]
              obtain ⟨o149, h⟩ := h
              obtain ⟨R147, g147, h⟩ := h
              refine x_callV hG (Ky := kJ5_get) (As := [.int y47_2]) dX8_propagate_187 o149 rfl lk_X8_77 me_J5_get is_J5_get se_J5_get rfl rfl (Nat.le_of_ble_eq_true rfl) (MX.post (m_w_J5_get hG hO g147) ?_)
              rintro _ A147 ⟨v147, rfl, h1⟩
              refine X.xok (fun w147 => ?_)
              replace h := h v147 A147 w147 h1
              change X _ _ _ _ A147 _ _ [va_rf v147]
              obtain ⟨b150, e150, h⟩ := h
              rw [e150]
              obtain ⟨o151, h⟩ := h
              refine x_cast hG dX8_propagate_190 q2452 o151 rfl (Or.inl rfl) ?_
              refine x_iconst_ (v := (0 : Int32)) dX8_propagate_193 (by decide) ?_
              refine z_putI hG hO.1 dX8_propagate_194 f_X8_181_34 ⟨_, rfl, Or.inl rfl⟩ o151 (by decide) (narrow01 (by decide)) (fits01 (by decide)) ⟨_, rfl⟩ (fun A152 e152 => ?_)
              replace h := h A152 e152
              refine x_aload_n dX8_propagate_197 rfl ?_
              obtain ⟨o153, h⟩ := h
              refine x_get (v := va_rf (A147.P p 1)) hG dX8_propagate_198 f_X8_56_7 o153 (congrArg va_rf (sI_P e152)) ?_
              obtain ⟨b154, e154, h⟩ := h
              rw [e154]
              obtain ⟨o155, h⟩ := h
              refine x_get (v := va_rf (A147.P b154 1)) hG dX8_propagate_201 f_X8_101_33 o155 (congrArg va_rf (sI_P e152)) ?_
              refine x_iload_n dX8_propagate_204 rfl ?_
              obtain ⟨b157, e157, h⟩ := h
              rw [e157]
              obtain ⟨o158, h⟩ := h
              obtain ⟨R156, g156, h⟩ := h
              refine x_callV hG (Ky := kJ5_get) (As := [.int y47_2]) dX8_propagate_205 o158 rfl lk_X8_77 me_J5_get is_J5_get se_J5_get rfl rfl (Nat.le_of_ble_eq_true rfl) (MX.post (m_w_J5_get hG hO g156) ?_)
              rintro _ A156 ⟨v156, rfl, h1⟩
              refine X.xok (fun w156 => ?_)
              replace h := h v156 A156 w156 h1
              change X _ _ _ _ A156 _ _ [va_rf v156]
              obtain ⟨b159, e159, h⟩ := h
              rw [e159]
              obtain ⟨o160, h⟩ := h
              refine x_cast hG dX8_propagate_208 q2452 o160 rfl (Or.inl rfl) ?_
              refine x_iconst_ (v := (0 : Int32)) dX8_propagate_211 (by decide) ?_
              refine z_putI hG hO.1 dX8_propagate_212 f_X8_106_34 ⟨_, rfl, Or.inl rfl⟩ o160 (by decide) (narrow01 (by decide)) (fits01 (by decide)) ⟨_, rfl⟩ (fun A161 e161 => ?_)
              replace h := h A161 e161
              refine x_iinc (v := (y47_2 + (1 : Int32))) dX8_propagate_215 rfl rfl (by decide) ?_
              refine x_goto (tgt := 165) dX8_propagate_218 (by decide) ?_
              obtain ⟨q47, l47, h⟩ := h
              change X _ _ _ _ _ _ [some (.ref p), some (.int v4), some (.int (y47_2 + (1 : Int32))), none, none] []
              exact X.weak (xle_c rfl (xle_c rfl (xle_c rfl (xle_n (xle_n xle_nil))))) (ih47 q47 l47 (y47_2 + (1 : Int32)) A161 h)
        change X _ _ _ _ _ _ [some (.ref p), some (.int v4), some (.int (0 : Int32)), none, none] []
        exact X.weak (xle_c rfl (xle_c rfl (xle_c rfl (xle_n (xle_n xle_nil))))) (kl47 n47 (0 : Int32) A46 i47)
      · replace h := h.2 c147
        refine x_aload_n dX8_propagate_150 rfl ?_
        obtain ⟨o162, h⟩ := h
        refine x_get (v := va_rf (A46.P p 6)) hG dX8_propagate_151 f_X8_28_7 o162 rfl ?_
        refine x_iload_n dX8_propagate_154 rfl ?_
        refine x_iconst_ (v := (0 : Int32)) dX8_propagate_155 (by decide) ?_
        obtain ⟨b163, e163, h⟩ := h
        rw [e163]
        obtain ⟨o164, h⟩ := h
        obtain ⟨o165, h⟩ := h
        obtain ⟨o166, h⟩ := h
        refine z_iast hG dX8_propagate_156 o164 o165 o166 (fun A167 e167 => ?_)
        replace h := h A167 e167
        refine x_iinc (v := (y46_2 + (1 : Int32))) dX8_propagate_157 rfl rfl (by decide) ?_
        refine x_goto (tgt := 145) dX8_propagate_160 (by decide) ?_
        obtain ⟨q46, l46, h⟩ := h
        change X _ _ _ _ _ _ [some (.ref p), some (.int v4), some (.int (y46_2 + (1 : Int32))), none, none] []
        exact X.weak (xle_c rfl (xle_c rfl (xle_c rfl (xle_n (xle_n xle_nil))))) (ih46 q46 l46 (y46_2 + (1 : Int32)) A167 h)
  change X _ _ _ _ _ _ [some (.ref p), some (.int v4), some (.int (0 : Int32)), none, none] []
  exact X.weak (xle_c rfl (xle_c rfl (xle_c rfl (xle_n (xle_n xle_nil))))) (kl46 n46 (0 : Int32) A45 i46)
end W064
