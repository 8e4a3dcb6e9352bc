/-! ===== 113.hinit (tools/h045.py) ===== -/
set_option maxRecDepth 100000
section W113
variable {G : xG}
def w_X1_init (G : xG) (p : Nat) (Q : xA → Prop) (A : xA) : Prop := xok G A → rmO G A 12 ∧ (∀ A2 : xA, A2 = A.new 3 0 12 0 → (∃ R3 : xA → Prop, w_X2_init G A.n R3 A2 ∧ (∀ A3 : xA, xok G A3 → R3 A3 → (A3.tg p = 2 ∧ (∀ A5 : xA, A5 = A3.setP p 0 (some A.n) → (rmO G A5 6 ∧ (∀ A7 : xA, A7 = A5.new 4 0 6 0 → (∃ R8 : xA → Prop, w_X3_init G A5.n R8 A7 ∧ (∀ A8 : xA, xok G A8 → R8 A8 → (A8.tg p = 2 ∧ (∀ A10 : xA, A10 = A8.setP p 1 (some A5.n) → (rmO G A10 1 ∧ (∀ A12 : xA, A12 = A10.new 5 0 1 0 → (∃ R13 : xA → Prop, w_X5_init G A10.n R13 A12 ∧ (∀ A13 : xA, xok G A13 → R13 A13 → (A13.tg p = 2 ∧ (∀ A15 : xA, A15 = A13.setP p 2 (some A10.n) → (Q A15))))))))))))))))))
theorem m_X1_init (hG : xOK G) (hO : xHO G) {dp : Nat} {p : Nat} {Q : xA → Prop} {A : xA} (h : w_X1_init G p Q A) : MX G (dp + 5) kX1_init [.ref p] A (hV Q) := by
  unfold w_X1_init at h
  refine MX.of rfl (Nat.le_of_ble_eq_true rfl) ?_
  change X _ _ _ _ _ _ [some (.ref p)] _
  refine X.xok (fun w0 => ?_)
  replace h := h w0
  refine x_aload_n dX1_init_0 rfl ?_
  refine x_objInit hG dX1_init_1 q268 q261 q262 (Nat.le_of_ble_eq_true rfl) ?_
  refine x_aload_n dX1_init_4 rfl ?_
  obtain ⟨o1, h⟩ := h
  refine z_new hG (c := 2) dX1_init_5 rfl q269 (by decide) rfl o1 (fun A2 e2 w2 => ?_)
  replace h := h A2 e2
  refine x_dup dX1_init_8 rfl ?_
  obtain ⟨R3, g3, h⟩ := h
  refine x_callI hG (Ky := kX2_init) (As := []) dX1_init_9 lk_X1_11 me_X2_init is_X2_init rfl rfl rfl rfl rfl (Nat.le_of_ble_eq_true rfl) (MX.post (m_X2_init hG hO g3) ?_)
  rintro _ A3 ⟨rfl, h1⟩
  refine X.xok (fun w3 => ?_)
  replace h := h A3 w3 h1
  change X _ _ _ _ A3 _ _ [.ref A.n, .ref p]
  obtain ⟨o4, h⟩ := h
  refine z_putP hG hO.1 (some A.n) dX1_init_12 f_X1_12_1 ⟨_, rfl, Or.inr ⟨rfl, rfl, rfl⟩⟩ o4 (by decide) (Or.inl ⟨_, rfl⟩) (fun A5 e5 => ?_)
  replace h := h A5 e5
  refine x_aload_n dX1_init_15 rfl ?_
  obtain ⟨o6, h⟩ := h
  refine z_new hG (c := 3) dX1_init_16 rfl q379 (by decide) rfl o6 (fun A7 e7 w7 => ?_)
  replace h := h A7 e7
  refine x_dup dX1_init_19 rfl ?_
  obtain ⟨R8, g8, h⟩ := h
  refine x_callI hG (Ky := kX3_init) (As := []) dX1_init_20 lk_X1_20 me_X3_init is_X3_init rfl rfl rfl rfl rfl (Nat.le_of_ble_eq_true rfl) (MX.post (m_X3_init hG hO g8) ?_)
  rintro _ A8 ⟨rfl, h1⟩
  refine X.xok (fun w8 => ?_)
  replace h := h A8 w8 h1
  change X _ _ _ _ A8 _ _ [.ref A5.n, .ref p]
  obtain ⟨o9, h⟩ := h
  refine z_putP hG hO.1 (some A5.n) dX1_init_23 f_X1_21_1 ⟨_, rfl, Or.inr ⟨rfl, rfl, rfl⟩⟩ o9 (by decide) (Or.inl ⟨_, rfl⟩) (fun A10 e10 => ?_)
  replace h := h A10 e10
  refine x_aload_n dX1_init_26 rfl ?_
  obtain ⟨o11, h⟩ := h
  refine z_new hG (c := 4) dX1_init_27 rfl q444 (by decide) rfl o11 (fun A12 e12 w12 => ?_)
  replace h := h A12 e12
  refine x_dup dX1_init_30 rfl ?_
  obtain ⟨R13, g13, h⟩ := h
  refine x_callI hG (Ky := kX5_init) (As := []) dX1_init_31 lk_X1_27 me_X5_init is_X5_init rfl rfl rfl rfl rfl (Nat.le_of_ble_eq_true rfl) (MX.post (m_X5_init hG hO g13) ?_)
  rintro _ A13 ⟨rfl, h1⟩
  refine X.xok (fun w13 => ?_)
  replace h := h A13 w13 h1
  change X _ _ _ _ A13 _ _ [.ref A10.n, .ref p]
  obtain ⟨o14, h⟩ := h
  refine z_putP hG hO.1 (some A10.n) dX1_init_34 f_X1_28_1 ⟨_, rfl, Or.inr ⟨rfl, rfl, rfl⟩⟩ o14 (by decide) (Or.inl ⟨_, rfl⟩) (fun A15 e15 => ?_)
  replace h := h A15 e15
  exact x_vret dX1_init_37 rfl ⟨rfl, h⟩
def w_X6_init (G : xG) (p : Nat) (Q : xA → Prop) (A : xA) : Prop := xok G A → rmO G A 6 ∧ (∀ A2 : xA, A2 = A.new 4 0 6 0 → (∃ R3 : xA → Prop, w_X3_init G A.n R3 A2 ∧ (∀ A3 : xA, xok G A3 → R3 A3 → (A3.tg p = 6 ∧ (∀ A5 : xA, A5 = A3.setP p 0 (some A.n) → (rmO G A5 3 ∧ (∀ A7 : xA, A7 = A5.new 37 0 3 0 → (∃ R8 : xA → Prop, w_J5_init G A5.n R8 A7 ∧ (∀ A8 : xA, xok G A8 → R8 A8 → (A8.tg p = 6 ∧ (∀ A10 : xA, A10 = A8.setP p 1 (some A5.n) → (rmA G A10 (2000 : Int32) ∧ (∀ A12 : xA, A12 = A10.new 200 (ix (2000 : Int32)) (ix (2000 : Int32)) 0 → (∀ A13 : xA, A13 = A12.setP p 15 (some A10.n) → (Q A13)))))))))))))))
theorem m_X6_init (hG : xOK G) (hO : xHO G) {dp : Nat} {p : Nat} {Q : xA → Prop} {A : xA} (h : w_X6_init G p Q A) : MX G (dp + 5) kX6_init [.ref p] A (hV Q) := by
  unfold w_X6_init at h
  refine MX.of rfl (Nat.le_of_ble_eq_true rfl) ?_
  change X _ _ _ _ _ _ [some (.ref p)] _
  refine X.xok (fun w0 => ?_)
  replace h := h w0
  refine x_aload_n dX6_init_0 rfl ?_
  refine x_objInit hG dX6_init_1 q516 q261 q262 (Nat.le_of_ble_eq_true rfl) ?_
  refine x_aload_n dX6_init_4 rfl ?_
  obtain ⟨o1, h⟩ := h
  refine z_new hG (c := 3) dX6_init_5 rfl q517 (by decide) rfl o1 (fun A2 e2 w2 => ?_)
  replace h := h A2 e2
  refine x_dup dX6_init_8 rfl ?_
  obtain ⟨R3, g3, h⟩ := h
  refine x_callI hG (Ky := kX3_init) (As := []) dX6_init_9 lk_X6_11 me_X3_init is_X3_init rfl rfl rfl rfl rfl (Nat.le_of_ble_eq_true rfl) (MX.post (m_X3_init hG hO g3) ?_)
  rintro _ A3 ⟨rfl, h1⟩
  refine X.xok (fun w3 => ?_)
  replace h := h A3 w3 h1
  change X _ _ _ _ A3 _ _ [.ref A.n, .ref p]
  obtain ⟨o4, h⟩ := h
  refine z_putP hG hO.1 (some A.n) dX6_init_12 f_X6_12_5 ⟨_, rfl, Or.inr ⟨rfl, rfl, rfl⟩⟩ o4 (by decide) (Or.inl ⟨_, rfl⟩) (fun A5 e5 => ?_)
  replace h := h A5 e5
  refine x_aload_n dX6_init_15 rfl ?_
  obtain ⟨o6, h⟩ := h
  refine z_new hG (c := 36) dX6_init_16 rfl q519 (by decide) rfl o6 (fun A7 e7 w7 => ?_)
  replace h := h A7 e7
  refine x_dup dX6_init_19 rfl ?_
  obtain ⟨R8, g8, h⟩ := h
  refine x_callI hG (Ky := kJ5_init) (As := []) dX6_init_20 lk_X6_20 me_J5_init is_J5_init rfl rfl rfl rfl rfl (Nat.le_of_ble_eq_true rfl) (MX.post (m_w_J5_init hG hO g8) ?_)
  rintro _ A8 ⟨rfl, h1⟩
  refine X.xok (fun w8 => ?_)
  replace h := h A8 w8 h1
  change X _ _ _ _ A8 _ _ [.ref A5.n, .ref p]
  obtain ⟨o9, h⟩ := h
  refine z_putP hG hO.1 (some A5.n) dX6_init_23 f_X6_21_5 ⟨_, rfl, Or.inr ⟨rfl, rfl, rfl⟩⟩ o9 (by decide) (Or.inl ⟨_, rfl⟩) (fun A10 e10 => ?_)
  replace h := h A10 e10
  refine x_aload_n dX6_init_26 rfl ?_
  refine x_sipush_ (v := (2000 : Int32)) dX6_init_27 (by decide) ?_
  obtain ⟨o11, h⟩ := h
  refine z_newa hG (j := 0) dX6_init_30 (by decide) rfl o11 q378 (fun A12 e12 w12 => ?_)
  replace h := h A12 e12
  refine z_putP hG hO.1 (some A10.n) dX6_init_32 f_X6_25_5 ⟨_, rfl, Or.inr ⟨rfl, rfl, rfl⟩⟩ (kN e12 w12 (kP e10 o9)) (by decide) (Or.inr ⟨_, rfl⟩) (fun A13 e13 => ?_)
  replace h := h A13 e13
  exact x_vret dX6_init_35 rfl ⟨rfl, h⟩
def w_X0_init (G : xG) (p : Nat) (Q : xA → Prop) (A : xA) : Prop := xok G A → rmA G A (4000 : Int32) ∧ (∀ A2 : xA, A2 = A.new 202 (ix (4000 : Int32)) (ix (4000 : Int32)) 0 → (A2.tg p = 1 ∧ (∀ A4 : xA, A4 = A2.setP p 0 (some A.n) → (rmO G A4 8 ∧ (∀ A6 : xA, A6 = A4.new 2 0 8 0 → (∃ R7 : xA → Prop, w_X1_init G A4.n R7 A6 ∧ (∀ A7 : xA, xok G A7 → R7 A7 → (A7.tg p = 1 ∧ (∀ A9 : xA, A9 = A7.setP p 2 (some A4.n) → (rmO G A9 16 ∧ (∀ A11 : xA, A11 = A9.new 6 0 16 0 → (∃ R12 : xA → Prop, w_X6_init G A9.n R12 A11 ∧ (∀ A12 : xA, xok G A12 → R12 A12 → (A12.tg p = 1 ∧ (∀ A14 : xA, A14 = A12.setP p 3 (some A9.n) → (rmO G A14 4 ∧ (∀ A16 : xA, A16 = A14.new 7 0 4 0 → (∃ R17 : xA → Prop, w_X7_init G A14.n R17 A16 ∧ (∀ A17 : xA, xok G A17 → R17 A17 → (A17.tg p = 1 ∧ (∀ A19 : xA, A19 = A17.setP p 4 (some A14.n) → (rmO G A19 38 ∧ (∀ A21 : xA, A21 = A19.new 8 0 38 0 → (∃ R22 : xA → Prop, w_X8_init G A19.n (A21.P p 4) R22 A21 ∧ (∀ A22 : xA, xok G A22 → R22 A22 → (A22.tg p = 1 ∧ (∀ A24 : xA, A24 = A22.setP p 5 (some A19.n) → (rmO G A24 7 ∧ (∀ A26 : xA, A26 = A24.new 9 0 7 0 → (∃ R27 : xA → Prop, w_X9_init G A24.n R27 A26 ∧ (∀ A27 : xA, xok G A27 → R27 A27 → (A27.tg p = 1 ∧ (∀ A29 : xA, A29 = A27.setP p 6 (some A24.n) → (rmO G A29 8 ∧ (∀ A31 : xA, A31 = A29.new 10 0 8 0 → (∃ R32 : xA → Prop, w_X10_init G A29.n (A31.P p 6) (A31.P p 4) R32 A31 ∧ (∀ A32 : xA, xok G A32 → R32 A32 → (A32.tg p = 1 ∧ (∀ A34 : xA, A34 = A32.setP p 7 (some A29.n) → (rmO G A34 3 ∧ (∀ A36 : xA, A36 = A34.new 37 0 3 0 → (∃ R37 : xA → Prop, w_J5_init G A34.n R37 A36 ∧ (∀ A37 : xA, xok G A37 → R37 A37 → (A37.tg p = 1 ∧ (∀ A39 : xA, A39 = A37.setP p 9 (some A34.n) → (rmA G A39 (500 : Int32) ∧ (∀ A41 : xA, A41 = A39.new 200 (ix (500 : Int32)) (ix (500 : Int32)) 0 → (∀ A42 : xA, A42 = A41.setP p 13 (some A39.n) → (rmA G A42 (2000 : Int32) ∧ (∀ A44 : xA, A44 = A42.new 200 (ix (2000 : Int32)) (ix (2000 : Int32)) 0 → (∀ A45 : xA, A45 = A44.setP p 14 (some A42.n) → (rmO G A45 4 ∧ (∀ A47 : xA, A47 = A45.new 12 0 4 0 → (∃ R48 : xA → Prop, w_X12_init G A45.n R48 A47 ∧ (∀ A48 : xA, xok G A48 → R48 A48 → (A48.tg p = 1 ∧ (∀ A50 : xA, A50 = A48.setP p 17 (some A45.n) → (rmO G A50 4 ∧ (∀ A52 : xA, A52 = A50.new 12 0 4 0 → (∃ R53 : xA → Prop, w_X12_init G A50.n R53 A52 ∧ (∀ A53 : xA, xok G A53 → R53 A53 → (A53.tg p = 1 ∧ (∀ A55 : xA, A55 = A53.setP p 18 (some A50.n) → (rmA G A55 (2048 : Int32) ∧ (∀ A57 : xA, A57 = A55.new 200 (ix (2048 : Int32)) (ix (2048 : Int32)) 0 → (∃ b58 : Nat, (A53.P p 17) = some b58 ∧ (A57.tg b58 = 12 ∧ (∀ A60 : xA, A60 = A57.setP b58 0 (some A55.n) → (rmA G A60 (4096 : Int32) ∧ (∀ A62 : xA, A62 = A60.new 200 (ix (4096 : Int32)) (ix (4096 : Int32)) 0 → (∃ b63 : Nat, (A57.P p 18) = some b63 ∧ (A62.tg b63 = 12 ∧ (∀ A65 : xA, A65 = A62.setP b63 0 (some A60.n) → (Q A65))))))))))))))))))))))))))))))))))))))))))))))))))))))))))))))))))))))))))
theorem m_X0_init (hG : xOK G) (hO : xHO G) {dp : Nat} {p : Nat} {Q : xA → Prop} {A : xA} (h : w_X0_init G p Q A) : MX G (dp + 6) kX0_init [.ref p] A (hV Q) := by
  unfold w_X0_init at h
  refine MX.of rfl (Nat.le_of_ble_eq_true rfl) ?_
  change X _ _ _ _ _ _ [some (.ref p)] _
  refine X.xok (fun w0 => ?_)
  replace h := h w0
  refine x_aload_n dX0_init_0 rfl ?_
  refine x_objInit hG dX0_init_1 q260 q261 q262 (Nat.le_of_ble_eq_true rfl) ?_
  refine x_aload_n dX0_init_4 rfl ?_
  refine x_sipush_ (v := (4000 : Int32)) dX0_init_5 (by decide) ?_
  obtain ⟨o1, h⟩ := h
  refine z_newa hG (j := 2) dX0_init_8 (by decide) rfl o1 q377 (fun A2 e2 w2 => ?_)
  replace h := h A2 e2
  obtain ⟨o3, h⟩ := h
  refine z_putP hG hO.1 (some A.n) dX0_init_10 f_X0_27_0 ⟨_, rfl, Or.inr ⟨rfl, rfl, rfl⟩⟩ o3 (by decide) (Or.inr ⟨_, rfl⟩) (fun A4 e4 => ?_)
  replace h := h A4 e4
  refine x_aload_n dX0_init_13 rfl ?_
  obtain ⟨o5, h⟩ := h
  refine z_new hG (c := 1) dX0_init_14 rfl q263 (by decide) rfl o5 (fun A6 e6 w6 => ?_)
  replace h := h A6 e6
  refine x_dup dX0_init_17 rfl ?_
  obtain ⟨R7, g7, h⟩ := h
  refine x_callI hG (Ky := kX1_init) (As := []) dX0_init_18 lk_X0_33 me_X1_init is_X1_init rfl rfl rfl rfl rfl (Nat.le_of_ble_eq_true rfl) (MX.post (m_X1_init hG hO g7) ?_)
  rintro _ A7 ⟨rfl, h1⟩
  refine X.xok (fun w7 => ?_)
  replace h := h A7 w7 h1
  change X _ _ _ _ A7 _ _ [.ref A4.n, .ref p]
  obtain ⟨o8, h⟩ := h
  refine z_putP hG hO.1 (some A4.n) dX0_init_21 f_X0_34_0 ⟨_, rfl, Or.inr ⟨rfl, rfl, rfl⟩⟩ o8 (by decide) (Or.inl ⟨_, rfl⟩) (fun A9 e9 => ?_)
  replace h := h A9 e9
  refine x_aload_n dX0_init_24 rfl ?_
  obtain ⟨o10, h⟩ := h
  refine z_new hG (c := 5) dX0_init_25 rfl q511 (by decide) rfl o10 (fun A11 e11 w11 => ?_)
  replace h := h A11 e11
  refine x_dup dX0_init_28 rfl ?_
  obtain ⟨R12, g12, h⟩ := h
  refine x_callI hG (Ky := kX6_init) (As := []) dX0_init_29 lk_X0_40 me_X6_init is_X6_init rfl rfl rfl rfl rfl (Nat.le_of_ble_eq_true rfl) (MX.post (m_X6_init hG hO g12) ?_)
  rintro _ A12 ⟨rfl, h1⟩
  refine X.xok (fun w12 => ?_)
  replace h := h A12 w12 h1
  change X _ _ _ _ A12 _ _ [.ref A9.n, .ref p]
  obtain ⟨o13, h⟩ := h
  refine z_putP hG hO.1 (some A9.n) dX0_init_32 f_X0_41_0 ⟨_, rfl, Or.inr ⟨rfl, rfl, rfl⟩⟩ o13 (by decide) (Or.inl ⟨_, rfl⟩) (fun A14 e14 => ?_)
  replace h := h A14 e14
  refine x_aload_n dX0_init_35 rfl ?_
  obtain ⟨o15, h⟩ := h
  refine z_new hG (c := 6) dX0_init_36 rfl q579 (by decide) rfl o15 (fun A16 e16 w16 => ?_)
  replace h := h A16 e16
  refine x_dup dX0_init_39 rfl ?_
  obtain ⟨R17, g17, h⟩ := h
  refine x_callI hG (Ky := kX7_init) (As := []) dX0_init_40 lk_X0_47 me_X7_init is_X7_init rfl rfl rfl rfl rfl (Nat.le_of_ble_eq_true rfl) (MX.post (m_X7_init hG hO g17) ?_)
  rintro _ A17 ⟨rfl, h1⟩
  refine X.xok (fun w17 => ?_)
  replace h := h A17 w17 h1
  change X _ _ _ _ A17 _ _ [.ref A14.n, .ref p]
  obtain ⟨o18, h⟩ := h
  refine z_putP hG hO.1 (some A14.n) dX0_init_43 f_X0_48_0 ⟨_, rfl, Or.inr ⟨rfl, rfl, rfl⟩⟩ o18 (by decide) (Or.inl ⟨_, rfl⟩) (fun A19 e19 => ?_)
  replace h := h A19 e19
  refine x_aload_n dX0_init_46 rfl ?_
  obtain ⟨o20, h⟩ := h
  refine z_new hG (c := 7) dX0_init_47 rfl q600 (by decide) rfl o20 (fun A21 e21 w21 => ?_)
  replace h := h A21 e21
  refine x_dup dX0_init_50 rfl ?_
  refine x_aload_n dX0_init_51 rfl ?_
  refine x_get (v := va_rf (A21.P p 4)) hG dX0_init_52 f_X0_48_0 (kN e21 w21 (kP e19 o18)) rfl ?_
  obtain ⟨R22, g22, h⟩ := h
  refine x_callI hG (Ky := kX8_init) (As := [va_rf (A21.P p 4)]) dX0_init_55 lk_X0_54 me_X8_init is_X8_init rfl rfl rfl rfl rfl (Nat.le_of_ble_eq_true rfl) (MX.post (m_X8_init hG hO g22) ?_)
  rintro _ A22 ⟨rfl, h1⟩
  refine X.xok (fun w22 => ?_)
  replace h := h A22 w22 h1
  change X _ _ _ _ A22 _ _ [.ref A19.n, .ref p]
  obtain ⟨o23, h⟩ := h
  refine z_putP hG hO.1 (some A19.n) dX0_init_58 f_X0_57_0 ⟨_, rfl, Or.inr ⟨rfl, rfl, rfl⟩⟩ o23 (by decide) (Or.inl ⟨_, rfl⟩) (fun A24 e24 => ?_)
  replace h := h A24 e24
  refine x_aload_n dX0_init_61 rfl ?_
  obtain ⟨o25, h⟩ := h
  refine z_new hG (c := 8) dX0_init_62 rfl q723 (by decide) rfl o25 (fun A26 e26 w26 => ?_)
  replace h := h A26 e26
  refine x_dup dX0_init_65 rfl ?_
  obtain ⟨R27, g27, h⟩ := h
  refine x_callI hG (Ky := kX9_init) (As := []) dX0_init_66 lk_X0_63 me_X9_init is_X9_init rfl rfl rfl rfl rfl (Nat.le_of_ble_eq_true rfl) (MX.post (m_X9_init hG hO g27) ?_)
  rintro _ A27 ⟨rfl, h1⟩
  refine X.xok (fun w27 => ?_)
  replace h := h A27 w27 h1
  change X _ _ _ _ A27 _ _ [.ref A24.n, .ref p]
  obtain ⟨o28, h⟩ := h
  refine z_putP hG hO.1 (some A24.n) dX0_init_69 f_X0_64_0 ⟨_, rfl, Or.inr ⟨rfl, rfl, rfl⟩⟩ o28 (by decide) (Or.inl ⟨_, rfl⟩) (fun A29 e29 => ?_)
  replace h := h A29 e29
  refine x_aload_n dX0_init_72 rfl ?_
  obtain ⟨o30, h⟩ := h
  refine z_new hG (c := 9) dX0_init_73 rfl q757 (by decide) rfl o30 (fun A31 e31 w31 => ?_)
  replace h := h A31 e31
  refine x_dup dX0_init_76 rfl ?_
  refine x_aload_n dX0_init_77 rfl ?_
  refine x_get (v := va_rf (A31.P p 6)) hG dX0_init_78 f_X0_64_0 (kN e31 w31 (kP e29 o28)) rfl ?_
  refine x_aload_n dX0_init_81 rfl ?_
  refine x_get (v := va_rf (A31.P p 4)) hG dX0_init_82 f_X0_48_0 (kN e31 w31 (kP e29 o28)) rfl ?_
  obtain ⟨R32, g32, h⟩ := h
  refine x_callI hG (Ky := kX10_init) (As := [va_rf (A31.P p 6), va_rf (A31.P p 4)]) dX0_init_85 lk_X0_70 me_X10_init is_X10_init rfl rfl rfl rfl rfl (Nat.le_of_ble_eq_true rfl) (MX.post (m_X10_init hG hO g32) ?_)
  rintro _ A32 ⟨rfl, h1⟩
  refine X.xok (fun w32 => ?_)
  replace h := h A32 w32 h1
  change X _ _ _ _ A32 _ _ [.ref A29.n, .ref p]
  obtain ⟨o33, h⟩ := h
  refine z_putP hG hO.1 (some A29.n) dX0_init_88 f_X0_73_0 ⟨_, rfl, Or.inr ⟨rfl, rfl, rfl⟩⟩ o33 (by decide) (Or.inl ⟨_, rfl⟩) (fun A34 e34 => ?_)
  replace h := h A34 e34
  refine x_aload_n dX0_init_91 rfl ?_
  obtain ⟨o35, h⟩ := h
  refine z_new hG (c := 36) dX0_init_92 rfl q838 (by decide) rfl o35 (fun A36 e36 w36 => ?_)
  replace h := h A36 e36
  refine x_dup dX0_init_95 rfl ?_
  obtain ⟨R37, g37, h⟩ := h
  refine x_callI hG (Ky := kJ5_init) (As := []) dX0_init_96 lk_X0_77 me_J5_init is_J5_init rfl rfl rfl rfl rfl (Nat.le_of_ble_eq_true rfl) (MX.post (m_w_J5_init hG hO g37) ?_)
  rintro _ A37 ⟨rfl, h1⟩
  refine X.xok (fun w37 => ?_)
  replace h := h A37 w37 h1
  change X _ _ _ _ A37 _ _ [.ref A34.n, .ref p]
  obtain ⟨o38, h⟩ := h
  refine z_putP hG hO.1 (some A34.n) dX0_init_99 f_X0_78_0 ⟨_, rfl, Or.inr ⟨rfl, rfl, rfl⟩⟩ o38 (by decide) (Or.inl ⟨_, rfl⟩) (fun A39 e39 => ?_)
  replace h := h A39 e39
  refine x_aload_n dX0_init_102 rfl ?_
  refine x_sipush_ (v := (500 : Int32)) dX0_init_103 (by decide) ?_
  obtain ⟨o40, h⟩ := h
  refine z_newa hG (j := 0) dX0_init_106 (by decide) rfl o40 q378 (fun A41 e41 w41 => ?_)
  replace h := h A41 e41
  refine z_putP hG hO.1 (some A39.n) dX0_init_108 f_X0_82_0 ⟨_, rfl, Or.inr ⟨rfl, rfl, rfl⟩⟩ (kN e41 w41 (kP e39 o38)) (by decide) (Or.inr ⟨_, rfl⟩) (fun A42 e42 => ?_)
  replace h := h A42 e42
  refine x_aload_n dX0_init_111 rfl ?_
  refine x_sipush_ (v := (2000 : Int32)) dX0_init_112 (by decide) ?_
  obtain ⟨o43, h⟩ := h
  refine z_newa hG (j := 0) dX0_init_115 (by decide) rfl o43 q378 (fun A44 e44 w44 => ?_)
  replace h := h A44 e44
  refine z_putP hG hO.1 (some A42.n) dX0_init_117 f_X0_86_0 ⟨_, rfl, Or.inr ⟨rfl, rfl, rfl⟩⟩ (kN e44 w44 (kP e42 (kN e41 w41 (kP e39 o38)))) (by decide) (Or.inr ⟨_, rfl⟩) (fun A45 e45 => ?_)
  replace h := h A45 e45
  refine x_aload_n dX0_init_120 rfl ?_
  obtain ⟨o46, h⟩ := h
  refine z_new hG (c := 11) dX0_init_121 rfl q840 (by decide) rfl o46 (fun A47 e47 w47 => ?_)
  replace h := h A47 e47
  refine x_dup dX0_init_124 rfl ?_
  obtain ⟨R48, g48, h⟩ := h
  refine x_callI hG (Ky := kX12_init) (As := []) dX0_init_125 lk_X0_91 me_X12_init is_X12_init rfl rfl rfl rfl rfl (Nat.le_of_ble_eq_true rfl) (MX.post (m_X12_init hG hO g48) ?_)
  rintro _ A48 ⟨rfl, h1⟩
  refine X.xok (fun w48 => ?_)
  replace h := h A48 w48 h1
  change X _ _ _ _ A48 _ _ [.ref A45.n, .ref p]
  obtain ⟨o49, h⟩ := h
  refine z_putP hG hO.1 (some A45.n) dX0_init_128 f_X0_92_0 ⟨_, rfl, Or.inr ⟨rfl, rfl, rfl⟩⟩ o49 (by decide) (Or.inl ⟨_, rfl⟩) (fun A50 e50 => ?_)
  replace h := h A50 e50
  refine x_aload_n dX0_init_131 rfl ?_
  obtain ⟨o51, h⟩ := h
  refine z_new hG (c := 11) dX0_init_132 rfl q840 (by decide) rfl o51 (fun A52 e52 w52 => ?_)
  replace h := h A52 e52
  refine x_dup dX0_init_135 rfl ?_
  obtain ⟨R53, g53, h⟩ := h
  refine x_callI hG (Ky := kX12_init) (As := []) dX0_init_136 lk_X0_91 me_X12_init is_X12_init rfl rfl rfl rfl rfl (Nat.le_of_ble_eq_true rfl) (MX.post (m_X12_init hG hO g53) ?_)
  rintro _ A53 ⟨rfl, h1⟩
  refine X.xok (fun w53 => ?_)
  replace h := h A53 w53 h1
  change X _ _ _ _ A53 _ _ [.ref A50.n, .ref p]
  obtain ⟨o54, h⟩ := h
  refine z_putP hG hO.1 (some A50.n) dX0_init_139 f_X0_96_0 ⟨_, rfl, Or.inr ⟨rfl, rfl, rfl⟩⟩ o54 (by decide) (Or.inl ⟨_, rfl⟩) (fun A55 e55 => ?_)
  replace h := h A55 e55
  refine x_aload_n dX0_init_142 rfl ?_
  refine x_get (v := va_rf (A53.P p 17)) hG dX0_init_143 f_X0_92_0 (kP e55 o54) (congrArg va_rf (sP_k e55 (by decide))) ?_
  refine x_sipush_ (v := (2048 : Int32)) dX0_init_146 (by decide) ?_
  obtain ⟨o56, h⟩ := h
  refine z_newa hG (j := 0) dX0_init_149 (by decide) rfl o56 q378 (fun A57 e57 w57 => ?_)
  replace h := h A57 e57
  obtain ⟨b58, e58, h⟩ := h
  rw [e58]
  obtain ⟨o59, h⟩ := h
  refine z_putP hG hO.1 (some A55.n) dX0_init_151 f_X0_99_11 ⟨_, rfl, Or.inl rfl⟩ o59 (by decide) (Or.inr ⟨_, rfl⟩) (fun A60 e60 => ?_)
  replace h := h A60 e60
  refine x_aload_n dX0_init_154 rfl ?_
  refine x_get (v := va_rf (A57.P p 18)) hG dX0_init_155 f_X0_96_0 (kP e60 (kN e57 w57 (kP e55 o54))) (congrArg va_rf (sP_a e60 (tne (kN e57 w57 (kP e55 o54)) o59 (by decide)))) ?_
  refine x_sipush_ (v := (4096 : Int32)) dX0_init_158 (by decide) ?_
  obtain ⟨o61, h⟩ := h
  refine z_newa hG (j := 0) dX0_init_161 (by decide) rfl o61 q378 (fun A62 e62 w62 => ?_)
  replace h := h A62 e62
  obtain ⟨b63, e63, h⟩ := h
  rw [e63]
  obtain ⟨o64, h⟩ := h
  refine z_putP hG hO.1 (some A60.n) dX0_init_163 f_X0_99_11 ⟨_, rfl, Or.inl rfl⟩ o64 (by decide) (Or.inr ⟨_, rfl⟩) (fun A65 e65 => ?_)
  replace h := h A65 e65
  exact x_vret dX0_init_166 rfl ⟨rfl, h⟩
end W113
