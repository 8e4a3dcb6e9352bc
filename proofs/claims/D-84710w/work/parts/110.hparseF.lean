/-! ===== 110.hparseF (tools/h045.py) ===== -/
set_option maxRecDepth 100000
section W110
variable {G : xG}
def w_X1_function (G : xG) (p : Nat) (t : Option Nat) (v : Int32) (Q : xA → Prop) (E : Nat → xA → Prop) (A : xA) : Prop := xok G A → ∃ b1 : Nat, t = some b1 ∧ (A.tg b1 = 14 ∧ ((v = 0 ∨ v = 1) ∧ (∀ A4 : xA, A4 = A.setI b1 4 v → (A4.tg p = 2 ∧ (∃ b7 : Nat, (A.P p 0) = some b7 ∧ (A4.tg b7 = 3 ∧ (∃ R6 : Int32 → xA → Prop, w_X2_isMain G b7 (A.I b1 1) R6 A4 ∧ (∀ (v6 : Int32) (A6 : xA), xok G A6 → (v6 = 0 ∨ v6 = 1) → R6 v6 A6 → (A6.tg b1 = 14 ∧ (∀ A10 : xA, A10 = A6.setI b1 5 v6 → (rmO G A10 3 ∧ (∀ A12 : xA, A12 = A10.new 37 0 3 0 → (∃ R13 : xA → Prop, w_J5_init_2 G A10.n (2 : Int32) R13 A12 ∧ (∀ A13 : xA, xok G A13 → R13 A13 → (A13.tg b1 = 14 ∧ (∀ A15 : xA, A15 = A13.setP b1 8 (some A10.n) → (A15.tg p = 2 ∧ (∃ R16 : xA → Prop, w_X1_opens G p (62 : Int32) R16 E A15 ∧ (∀ A16 : xA, xok G A16 → R16 A16 → (A16.tg p = 2 ∧ (∃ R18 : Int32 → xA → Prop, w_X1_is G p (63 : Int32) R18 A16 ∧ (∀ (v18 : Int32) (A18 : xA), xok G A18 → (v18 = 0 ∨ v18 = 1) → R18 v18 A18 → (∃ J20 : xA → Prop, (∀ (A20 : xA), J20 A20 → A20.tg p = 2 ∧ (∃ R21 : xA → Prop, w_X1_closes G p (63 : Int32) R21 E A20 ∧ (∀ A21 : xA, xok G A21 → R21 A21 → (A21.tg p = 2 ∧ (∃ R23 : Option Nat → xA → Prop, g_S2_1 G p R23 E A21 ∧ (∀ (v23 : Option Nat) (A23 : xA), xok G A23 → R23 v23 A23 → (A23.tg b1 = 14 ∧ (∀ A26 : xA, A26 = A23.setP b1 9 v23 → (A26.tg p = 2 ∧ (∃ b29 : Nat, (A26.P p 7) = some b29 ∧ (A26.tg b29 = 37 ∧ (∃ R28 : Int32 → xA → Prop, w_J5_add G b29 (some b1) R28 A26 ∧ (∀ (v28 : Int32) (A28 : xA), xok G A28 → (v28 = 0 ∨ v28 = 1) → R28 v28 A28 → (Q A28)))))))))))))) ∧ ((v18 = 0 → ∃ L31 : Nat → xA → Prop, (∃ n31 : Nat, L31 n31 A18) ∧ (∀ (n31 : Nat) (A31 : xA), L31 n31 A31 → A31.tg b1 = 14 ∧ (A31.tg p = 2 ∧ (∃ R33 : Option Nat → xA → Prop, w_X1_formal G p R33 E A31 ∧ (∀ (v33 : Option Nat) (A33 : xA), xok G A33 → R33 v33 A33 → (∃ b36 : Nat, (A31.P b1 8) = some b36 ∧ (A33.tg b36 = 37 ∧ (∃ R35 : Int32 → xA → Prop, w_J5_add G b36 v33 R35 A33 ∧ (∀ (v35 : Int32) (A35 : xA), xok G A35 → (v35 = 0 ∨ v35 = 1) → R35 v35 A35 → (A35.tg p = 2 ∧ (∃ R38 : Int32 → xA → Prop, w_X1_takes G p (68 : Int32) R38 A35 ∧ (∀ (v38 : Int32) (A38 : xA), xok G A38 → (v38 = 0 ∨ v38 = 1) → R38 v38 A38 → (((v38 = 0 → J20 A38) ∧ (¬ v38 = 0 → (∃ q31 : Nat, q31 < n31 ∧ L31 q31 A38)))))))))))))))) ∧ (¬ v18 = 0 → J20 A18)))))))))))))))))))))))))
theorem m_X1_function (hG : xOK G) (hO : xHO G) {dp : Nat} {p : Nat} {t : Option Nat} {v : Int32} {Q : xA → Prop} {E : Nat → xA → Prop} {A : xA} (h : w_X1_function G p t v Q E A) : MX G (dp + 919) kX1_function [.ref p, va_rf t, .int v] A (hX (hV Q) E) := by
  unfold w_X1_function at h
  refine MX.of rfl (by cases t <;> exact Nat.le_of_ble_eq_true rfl) ?_
  refine X.lvs (lv' := [some (.ref p), some (va_rf t), some (.int v)]) (by cases t <;> rfl) ?_
  refine X.xok (fun w0 => ?_)
  replace h := h w0
  refine x_aloadq_n dX1_function_0 rfl ?_
  refine x_iload_n dX1_function_1 rfl ?_
  obtain ⟨b1, e1, h⟩ := h
  rw [e1]
  obtain ⟨o2, h⟩ := h
  obtain ⟨o3, h⟩ := h
  refine z_putI hG hO.1 dX1_function_2 f_X1_139_13 ⟨_, rfl, Or.inl rfl⟩ o2 (by decide) (narrow01 o3) (fits01 o3) ⟨_, rfl⟩ (fun A4 e4 => ?_)
  replace h := h A4 e4
  refine x_aload_n dX1_function_5 rfl ?_
  refine x_aload_n dX1_function_6 rfl ?_
  obtain ⟨o5, h⟩ := h
  refine x_get (v := va_rf (A.P p 0)) hG dX1_function_7 f_X1_12_1 o5 (congrArg va_rf (sI_P e4)) ?_
  refine x_aload_n dX1_function_10 rfl ?_
  refine x_get (v := .int (A.I b1 1)) hG dX1_function_11 f_X1_142_13 (kI e4 o2) (congrArg Value.int (sI_k e4 (by decide))) ?_
  obtain ⟨b7, e7, h⟩ := h
  rw [e7]
  obtain ⟨o8, h⟩ := h
  obtain ⟨R6, g6, h⟩ := h
  refine x_callV hG (Ky := kX2_isMain) (As := [.int (A.I b1 1)]) dX1_function_14 o8 rfl lk_X1_145 me_X2_isMain is_X2_isMain se_X2_isMain rfl rfl (Nat.le_of_ble_eq_true rfl) (MX.post (m_X2_isMain hG hO g6) ?_)
  rintro _ A6 ⟨v6, rfl, zv6, h1⟩
  refine X.xok (fun w6 => ?_)
  replace h := h v6 A6 w6 zv6 h1
  change X _ _ _ _ A6 _ _ [.int v6, .ref b1]
  obtain ⟨o9, h⟩ := h
  refine z_putI hG hO.1 dX1_function_17 f_X1_148_13 ⟨_, rfl, Or.inl rfl⟩ o9 (by decide) (narrow01 zv6) (fits01 zv6) ⟨_, rfl⟩ (fun A10 e10 => ?_)
  replace h := h A10 e10
  refine x_aload_n dX1_function_20 rfl ?_
  obtain ⟨o11, h⟩ := h
  refine z_new hG (c := 36) dX1_function_21 rfl q1062 (by decide) rfl o11 (fun A12 e12 w12 => ?_)
  replace h := h A12 e12
  refine x_dup dX1_function_24 rfl ?_
  refine x_iconst_ (v := (2 : Int32)) dX1_function_25 (by decide) ?_
  obtain ⟨R13, g13, h⟩ := h
  refine x_callI hG (Ky := kJ5_init_2) (As := [.int (2 : Int32)]) dX1_function_26 lk_X1_134 me_J5_init_2 is_J5_init_2 rfl rfl rfl rfl rfl (Nat.le_of_ble_eq_true rfl) (MX.post (m_w_J5_init_2 hG hO g13) ?_)
  rintro _ A13 ⟨rfl, h1⟩
  refine X.xok (fun w13 => ?_)
  replace h := h A13 w13 h1
  change X _ _ _ _ A13 _ _ [.ref A10.n, .ref b1]
  obtain ⟨o14, h⟩ := h
  refine z_putP hG hO.1 (some A10.n) dX1_function_29 f_X1_150_13 ⟨_, rfl, Or.inl rfl⟩ o14 (by decide) (Or.inl ⟨_, rfl⟩) (fun A15 e15 => ?_)
  replace h := h A15 e15
  refine x_aload_n dX1_function_32 rfl ?_
  refine x_bipush_ (v := (62 : Int32)) dX1_function_33 (by decide) ?_
  obtain ⟨o17, h⟩ := h
  obtain ⟨R16, g16, h⟩ := h
  refine x_callV hG (Ky := kX1_opens) (As := [.int (62 : Int32)]) dX1_function_35 o17 rfl lk_X1_128 me_X1_opens is_X1_opens se_X1_opens rfl rfl (Nat.le_of_ble_eq_true rfl) (MX.post (m_X1_opens hG hO g16) ?_)
  rintro _ A16 (⟨rfl, h1⟩ | ⟨x16, rfl, h1⟩)
  rotate_left
  · exact ⟨rfl, Or.inr ⟨_, rfl, h1⟩⟩
  refine X.xok (fun w16 => ?_)
  replace h := h A16 w16 h1
  change X _ _ _ _ A16 _ _ []
  refine x_aload_n dX1_function_38 rfl ?_
  refine x_bipush_ (v := (63 : Int32)) dX1_function_39 (by decide) ?_
  obtain ⟨o19, h⟩ := h
  obtain ⟨R18, g18, h⟩ := h
  refine x_callV hG (Ky := kX1_is) (As := [.int (63 : Int32)]) dX1_function_41 o19 rfl lk_X1_71 me_X1_is is_X1_is se_X1_is rfl rfl (Nat.le_of_ble_eq_true rfl) (MX.post (m_X1_is hG hO g18) ?_)
  rintro _ A18 ⟨v18, rfl, zv18, h1⟩
  refine X.xok (fun w18 => ?_)
  replace h := h v18 A18 w18 zv18 h1
  change X _ _ _ _ A18 _ _ [.int v18]
  obtain ⟨J20, g20, h⟩ := h
  have kj20 : ∀ (A20 : xA), J20 A20 → X G (dp + 919) kX1_function (hX (hV Q) E) A20 68 [some (.ref p), some (.ref b1), none] [] := by
    intro A20 h
    replace h := g20 A20 h
    refine x_aload_n dX1_function_68 rfl ?_
    refine x_bipush_ (v := (63 : Int32)) dX1_function_69 (by decide) ?_
    obtain ⟨o22, h⟩ := h
    obtain ⟨R21, g21, h⟩ := h
    refine x_callV hG (Ky := kX1_closes) (As := [.int (63 : Int32)]) dX1_function_71 o22 rfl lk_X1_131 me_X1_closes is_X1_closes se_X1_closes rfl rfl (Nat.le_of_ble_eq_true rfl) (MX.post (m_X1_closes hG hO g21) ?_)
    rintro _ A21 (⟨rfl, h1⟩ | ⟨x21, rfl, h1⟩)
    rotate_left
    · exact ⟨rfl, Or.inr ⟨_, rfl, h1⟩⟩
    refine X.xok (fun w21 => ?_)
    replace h := h A21 w21 h1
    change X _ _ _ _ A21 _ _ []
    refine x_aload_n dX1_function_74 rfl ?_
    refine x_aload_n dX1_function_75 rfl ?_
    obtain ⟨o24, h⟩ := h
    obtain ⟨R23, g23, h⟩ := h
    refine x_callV hG (Ky := kX1_block) (As := []) dX1_function_76 o24 rfl lk_X1_157 me_X1_block is_X1_block se_X1_block rfl rfl (Nat.le_of_ble_eq_true rfl) (MX.post ((rc_S2 hG hO 200).2.1 g23) ?_)
    rintro _ A23 (⟨v23, rfl, h1⟩ | ⟨x23, rfl, h1⟩)
    rotate_left
    · exact ⟨rfl, Or.inr ⟨_, rfl, h1⟩⟩
    refine X.xok (fun w23 => ?_)
    replace h := h v23 A23 w23 h1
    change X _ _ _ _ A23 _ _ [va_rf v23, .ref b1]
    obtain ⟨o25, h⟩ := h
    refine z_putP hG hO.1 v23 dX1_function_79 f_X1_161_13 ⟨_, rfl, Or.inl rfl⟩ o25 (by decide) (Or.inl ⟨_, rfl⟩) (fun A26 e26 => ?_)
    replace h := h A26 e26
    refine x_aload_n dX1_function_82 rfl ?_
    obtain ⟨o27, h⟩ := h
    refine x_get (v := va_rf (A26.P p 7)) hG dX1_function_83 f_X1_49_1 o27 rfl ?_
    refine x_aload_n dX1_function_86 rfl ?_
    obtain ⟨b29, e29, h⟩ := h
    rw [e29]
    obtain ⟨o30, h⟩ := h
    obtain ⟨R28, g28, h⟩ := h
    refine x_callV hG (Ky := kJ5_add) (As := [.ref b1]) dX1_function_87 o30 rfl lk_X1_120 me_J5_add is_J5_add se_J5_add rfl rfl (Nat.le_of_ble_eq_true rfl) (MX.post (m_w_J5_add hG hO g28) ?_)
    rintro _ A28 ⟨v28, rfl, zv28, h1⟩
    refine X.xok (fun w28 => ?_)
    replace h := h v28 A28 w28 zv28 h1
    change X _ _ _ _ A28 _ _ [.int v28]
    refine x_pop dX1_function_90 rfl ?_
    exact x_vret dX1_function_91 rfl (Or.inl ⟨rfl, h⟩)
  refine x_if_ne (tgt := 68) dX1_function_44 (by decide) (fun c44 => ?_) (fun c44 => ?_)
  · replace h := h.2 c44
    change X _ _ _ _ _ _ [some (.ref p), some (.ref b1), some (.int v)] []
    exact X.weak (xle_c rfl (xle_c rfl (xle_n xle_nil))) (kj20 A18 h)
  · replace h := h.1 c44
    obtain ⟨L31, ⟨n31, i31⟩, g31⟩ := h
    have kl31 : ∀ n31 : Nat, ∀ (A31 : xA), L31 n31 A31 → X G (dp + 919) kX1_function (hX (hV Q) E) A31 47 [some (.ref p), some (.ref b1), none] [] := by
      intro n31
      induction n31 using Nat.strongRecOn with
      | ind n31 ih31 =>
        intro A31 h
        replace h := g31 n31 A31 h
        refine x_aload_n dX1_function_47 rfl ?_
        obtain ⟨o32, h⟩ := h
        refine x_get (v := va_rf (A31.P b1 8)) hG dX1_function_48 f_X1_150_13 o32 rfl ?_
        refine x_aload_n dX1_function_51 rfl ?_
        obtain ⟨o34, h⟩ := h
        obtain ⟨R33, g33, h⟩ := h
        refine x_callV hG (Ky := kX1_formal) (As := []) dX1_function_52 o34 rfl lk_X1_153 me_X1_formal is_X1_formal se_X1_formal rfl rfl (by simp only [List.append_eq, List.nil_append, List.map_cons, va_rf_cat]; exact Nat.le_of_ble_eq_true rfl) (MX.post (m_X1_formal hG hO g33) ?_)
        rintro _ A33 (⟨v33, rfl, h1⟩ | ⟨x33, rfl, h1⟩)
        rotate_left
        · exact ⟨rfl, Or.inr ⟨_, rfl, h1⟩⟩
        refine X.xok (fun w33 => ?_)
        replace h := h v33 A33 w33 h1
        change X _ _ _ _ A33 _ _ [va_rf v33, va_rf (A31.P b1 8)]
        obtain ⟨b36, e36, h⟩ := h
        rw [e36]
        obtain ⟨o37, h⟩ := h
        obtain ⟨R35, g35, h⟩ := h
        refine x_callV hG (Ky := kJ5_add) (As := [va_rf v33]) dX1_function_55 o37 rfl lk_X1_120 me_J5_add is_J5_add se_J5_add rfl rfl (Nat.le_of_ble_eq_true rfl) (MX.post (m_w_J5_add hG hO g35) ?_)
        rintro _ A35 ⟨v35, rfl, zv35, h1⟩
        refine X.xok (fun w35 => ?_)
        replace h := h v35 A35 w35 zv35 h1
        change X _ _ _ _ A35 _ _ [.int v35]
        refine x_pop dX1_function_58 rfl ?_
        refine x_aload_n dX1_function_59 rfl ?_
        refine x_bipush_ (v := (68 : Int32)) dX1_function_60 (by decide) ?_
        obtain ⟨o39, h⟩ := h
        obtain ⟨R38, g38, h⟩ := h
        refine x_callV hG (Ky := kX1_takes) (As := [.int (68 : Int32)]) dX1_function_62 o39 rfl lk_X1_79 me_X1_takes is_X1_takes se_X1_takes rfl rfl (Nat.le_of_ble_eq_true rfl) (MX.post (m_X1_takes hG hO g38) ?_)
        rintro _ A38 ⟨v38, rfl, zv38, h1⟩
        refine X.xok (fun w38 => ?_)
        replace h := h v38 A38 w38 zv38 h1
        change X _ _ _ _ A38 _ _ [.int v38]
        refine x_if_ne (tgt := 47) dX1_function_65 (by decide) (fun c65 => ?_) (fun c65 => ?_)
        · replace h := h.2 c65
          obtain ⟨q31, l31, h⟩ := h
          change X _ _ _ _ _ _ [some (.ref p), some (.ref b1), none] []
          exact X.weak (xle_c rfl (xle_c rfl (xle_n xle_nil))) (ih31 q31 l31 A38 h)
        · replace h := h.1 c65
          change X _ _ _ _ _ _ [some (.ref p), some (.ref b1), none] []
          exact X.weak (xle_c rfl (xle_c rfl (xle_n xle_nil))) (kj20 A38 h)
    change X _ _ _ _ _ _ [some (.ref p), some (.ref b1), some (.int v)] []
    exact X.weak (xle_c rfl (xle_c rfl (xle_n xle_nil))) (kl31 n31 A18 i31)
def w_X1_told (G : xG) (p : Nat) (Q : xA → Prop) (E : Nat → xA → Prop) (A : xA) : Prop := xok G A → A.tg p = 2 ∧ (∃ R1 : Int32 → xA → Prop, w_X1_takes G p (13 : Int32) R1 A ∧ (∀ (v1 : Int32) (A1 : xA), xok G A1 → (v1 = 0 ∨ v1 = 1) → R1 v1 A1 → (((v1 = 0 → A1.tg p = 2 ∧ (∃ R3 : Int32 → xA → Prop, w_X1_is G p (12 : Int32) R3 A1 ∧ (∀ (v3 : Int32) (A3 : xA), xok G A3 → (v3 = 0 ∨ v3 = 1) → R3 v3 A3 → (A3.tg p = 2 ∧ (∃ R5 : Int32 → xA → Prop, w_X1_is G p (11 : Int32) R5 A3 ∧ (∀ (v5 : Int32) (A5 : xA), xok G A5 → (v5 = 0 ∨ v5 = 1) → R5 v5 A5 → (((v3 = 0 → ((v5 = 0 → A5.tg p = 2 ∧ (∃ R32 : Int32 → xA → Prop, w_X1_is G p (10 : Int32) R32 A5 ∧ (∀ (v32 : Int32) (A32 : xA), xok G A32 → (v32 = 0 ∨ v32 = 1) → R32 v32 A32 → (((v32 = 0 → A32.tg p = 2 ∧ (∃ R65 : Option Nat → xA → Prop, w_X1_wrong G p R65 A32 ∧ (∀ (v65 : Option Nat) (A65 : xA), xok G A65 → R65 v65 A65 → (∃ b67 : Nat, v65 = some b67 ∧ (E b67 A65))))) ∧ (¬ v32 = 0 → A32.tg p = 2 ∧ (∀ A35 : xA, A35 = A32.setI p 3 ((A32.I p 3) + (1 : Int32)) → (∃ R36 : Int32 → xA → Prop, w_X1_here G p R36 A35 ∧ (∀ (v36 : Int32) (A36 : xA), xok G A36 → R36 v36 A36 → (A36.tg p = 2 ∧ (∃ R37 : Int32 → xA → Prop, w_X1_needName G p R37 E A36 ∧ (∀ (v37 : Int32) (A37 : xA), xok G A37 → R37 v37 A37 → (A37.tg p = 2 ∧ (∃ R39 : Int32 → xA → Prop, w_X1_is G p (62 : Int32) R39 A37 ∧ (∀ (v39 : Int32) (A39 : xA), xok G A39 → (v39 = 0 ∨ v39 = 1) → R39 v39 A39 → (((v39 = 0 → A39.tg p = 2 ∧ (∃ R41 : Int32 → xA → Prop, w_X1_is G p (64 : Int32) R41 A39 ∧ (∀ (v41 : Int32) (A41 : xA), xok G A41 → (v41 = 0 ∨ v41 = 1) → R41 v41 A41 → (((v41 = 0 → rmO G A41 14 ∧ (∀ A44 : xA, A44 = A41.new 14 0 14 0 → (∃ R45 : xA → Prop, w_X14_init G A41.n (1 : Int32) v36 v37 R45 A44 ∧ (∀ A45 : xA, xok G A45 → R45 A45 → (A45.tg p = 2 ∧ (∃ R46 : Int32 → xA → Prop, w_X1_takes G p (72 : Int32) R46 A45 ∧ (∀ (v46 : Int32) (A46 : xA), xok G A46 → (v46 = 0 ∨ v46 = 1) → R46 v46 A46 → (∃ J48 : Option Nat → xA → Prop, (∀ (y48_s0 : Option Nat) (A48 : xA), J48 y48_s0 A48 → A48.tg A41.n = 14 ∧ (∀ A50 : xA, A50 = A48.setP A41.n 6 y48_s0 → (A50.tg p = 2 ∧ (∃ R51 : xA → Prop, w_X1_end G p (some A41.n) R51 E A50 ∧ (∀ A51 : xA, xok G A51 → R51 A51 → (Q A51)))))) ∧ ((v46 = 0 → J48 (none : Option Nat) A46) ∧ (¬ v46 = 0 → A46.tg p = 2 ∧ (∃ R53 : Option Nat → xA → Prop, g_P_0 G p R53 E A46 ∧ (∀ (v53 : Option Nat) (A53 : xA), xok G A53 → R53 v53 A53 → (J48 v53 A53))))))))))))) ∧ (¬ v41 = 0 → rmO G A41 14 ∧ (∀ A56 : xA, A56 = A41.new 14 0 14 0 → (∃ R57 : xA → Prop, w_X14_init G A41.n (2 : Int32) v36 v37 R57 A56 ∧ (∀ A57 : xA, xok G A57 → R57 A57 → (A57.tg p = 2 ∧ (∃ R58 : xA → Prop, w_X1_row_2 G p (some A41.n) v5 R58 E A57 ∧ (∀ A58 : xA, xok G A58 → R58 A58 → (Q A58))))))))))))) ∧ (¬ v39 = 0 → rmO G A39 14 ∧ (∀ A61 : xA, A61 = A39.new 14 0 14 0 → (∃ R62 : xA → Prop, w_X14_init G A39.n (6 : Int32) v36 v37 R62 A61 ∧ (∀ A62 : xA, xok G A62 → R62 A62 → (A62.tg p = 2 ∧ (∃ R63 : xA → Prop, w_X1_function G p (some A39.n) v3 R63 E A62 ∧ (∀ A63 : xA, xok G A63 → R63 A63 → (Q A63))))))))))))))))))))))))) ∧ (¬ v5 = 0 → A5.tg p = 2 ∧ (∀ A23 : xA, A23 = A5.setI p 3 ((A5.I p 3) + (1 : Int32)) → (∃ R24 : Int32 → xA → Prop, w_X1_here G p R24 A23 ∧ (∀ (v24 : Int32) (A24 : xA), xok G A24 → R24 v24 A24 → (A24.tg p = 2 ∧ (∃ R25 : Int32 → xA → Prop, w_X1_needName G p R25 E A24 ∧ (∀ (v25 : Int32) (A25 : xA), xok G A25 → R25 v25 A25 → (rmO G A25 14 ∧ (∀ A28 : xA, A28 = A25.new 14 0 14 0 → (∃ R29 : xA → Prop, w_X14_init G A25.n (2 : Int32) v24 v25 R29 A28 ∧ (∀ A29 : xA, xok G A29 → R29 A29 → (A29.tg p = 2 ∧ (∃ R30 : xA → Prop, w_X1_row_2 G p (some A25.n) v5 R30 E A29 ∧ (∀ A30 : xA, xok G A30 → R30 A30 → (Q A30))))))))))))))))) ∧ (¬ v3 = 0 → A5.tg p = 2 ∧ (∀ A8 : xA, A8 = A5.setI p 3 ((A5.I p 3) + (1 : Int32)) → (∃ R9 : Int32 → xA → Prop, w_X1_here G p R9 A8 ∧ (∀ (v9 : Int32) (A9 : xA), xok G A9 → R9 v9 A9 → (A9.tg p = 2 ∧ (∃ R10 : Int32 → xA → Prop, w_X1_needName G p R10 E A9 ∧ (∀ (v10 : Int32) (A10 : xA), xok G A10 → R10 v10 A10 → (((v5 = 0 → rmO G A10 14 ∧ (∀ A18 : xA, A18 = A10.new 14 0 14 0 → (∃ R19 : xA → Prop, w_X14_init G A10.n (6 : Int32) v9 v10 R19 A18 ∧ (∀ A19 : xA, xok G A19 → R19 A19 → (A19.tg p = 2 ∧ (∃ R20 : xA → Prop, w_X1_function G p (some A10.n) v3 R20 E A19 ∧ (∀ A20 : xA, xok G A20 → R20 A20 → (Q A20)))))))) ∧ (¬ v5 = 0 → rmO G A10 14 ∧ (∀ A13 : xA, A13 = A10.new 14 0 14 0 → (∃ R14 : xA → Prop, w_X14_init G A10.n (2 : Int32) v9 v10 R14 A13 ∧ (∀ A14 : xA, xok G A14 → R14 A14 → (A14.tg p = 2 ∧ (∃ R15 : xA → Prop, w_X1_row_2 G p (some A10.n) v5 R15 E A14 ∧ (∀ A15 : xA, xok G A15 → R15 A15 → (Q A15))))))))))))))))))))))))) ∧ (¬ v1 = 0 → A1.tg p = 2 ∧ (∃ R68 : xA → Prop, w_X1_need G p (10 : Int32) R68 E A1 ∧ (∀ A68 : xA, xok G A68 → R68 A68 → (rmO G A68 14 ∧ (∀ A71 : xA, A71 = A68.new 14 0 14 0 → (A71.tg p = 2 ∧ (∃ R72 : Int32 → xA → Prop, w_X1_here G p R72 A71 ∧ (∀ (v72 : Int32) (A72 : xA), xok G A72 → R72 v72 A72 → (A72.tg p = 2 ∧ (∃ R74 : Int32 → xA → Prop, w_X1_needName G p R74 E A72 ∧ (∀ (v74 : Int32) (A74 : xA), xok G A74 → R74 v74 A74 → (∃ R76 : xA → Prop, w_X14_init G A68.n (0 : Int32) v72 v74 R76 A74 ∧ (∀ A76 : xA, xok G A76 → R76 A76 → (A76.tg p = 2 ∧ (∃ R77 : xA → Prop, w_X1_need G p (72 : Int32) R77 E A76 ∧ (∀ A77 : xA, xok G A77 → R77 A77 → (A77.tg p = 2 ∧ (∃ R79 : Option Nat → xA → Prop, g_P_0 G p R79 E A77 ∧ (∀ (v79 : Option Nat) (A79 : xA), xok G A79 → R79 v79 A79 → (A79.tg A68.n = 14 ∧ (∀ A82 : xA, A82 = A79.setP A68.n 6 v79 → (A82.tg p = 2 ∧ (∃ R83 : xA → Prop, w_X1_end G p (some A68.n) R83 E A82 ∧ (∀ A83 : xA, xok G A83 → R83 A83 → (Q A83)))))))))))))))))))))))))))))
theorem m_X1_told (hG : xOK G) (hO : xHO G) {dp : Nat} {p : Nat} {Q : xA → Prop} {E : Nat → xA → Prop} {A : xA} (h : w_X1_told G p Q E A) : MX G (dp + 920) kX1_told [.ref p] A (hX (hV Q) E) := by
  unfold w_X1_told at h
  refine MX.of rfl (Nat.le_of_ble_eq_true rfl) ?_
  change X _ _ _ _ _ _ [some (.ref p), none, none, none, none, none] _
  refine X.xok (fun w0 => ?_)
  replace h := h w0
  refine x_aload_n dX1_told_0 rfl ?_
  refine x_bipush_ (v := (13 : Int32)) dX1_told_1 (by decide) ?_
  obtain ⟨o2, h⟩ := h
  obtain ⟨R1, g1, h⟩ := h
  refine x_callV hG (Ky := kX1_takes) (As := [.int (13 : Int32)]) dX1_told_3 o2 rfl lk_X1_79 me_X1_takes is_X1_takes se_X1_takes rfl rfl (Nat.le_of_ble_eq_true rfl) (MX.post (m_X1_takes hG hO g1) ?_)
  rintro _ A1 ⟨v1, rfl, zv1, h1⟩
  refine X.xok (fun w1 => ?_)
  replace h := h v1 A1 w1 zv1 h1
  change X _ _ _ _ A1 _ _ [.int v1]
  refine x_if_eq (tgt := 52) dX1_told_6 (by decide) (fun c6 => ?_) (fun c6 => ?_)
  · replace h := h.1 c6
    refine x_aload_n dX1_told_52 rfl ?_
    refine x_bipush_ (v := (12 : Int32)) dX1_told_53 (by decide) ?_
    obtain ⟨o4, h⟩ := h
    obtain ⟨R3, g3, h⟩ := h
    refine x_callV hG (Ky := kX1_is) (As := [.int (12 : Int32)]) dX1_told_55 o4 rfl lk_X1_71 me_X1_is is_X1_is se_X1_is rfl rfl (Nat.le_of_ble_eq_true rfl) (MX.post (m_X1_is hG hO g3) ?_)
    rintro _ A3 ⟨v3, rfl, zv3, h1⟩
    refine X.xok (fun w3 => ?_)
    replace h := h v3 A3 w3 zv3 h1
    change X _ _ _ _ A3 _ _ [.int v3]
    refine x_istore_n dX1_told_58 (by decide) ?_
    refine x_aload_n dX1_told_59 rfl ?_
    refine x_bipush_ (v := (11 : Int32)) dX1_told_60 (by decide) ?_
    obtain ⟨o6, h⟩ := h
    obtain ⟨R5, g5, h⟩ := h
    refine x_callV hG (Ky := kX1_is) (As := [.int (11 : Int32)]) dX1_told_62 o6 rfl lk_X1_71 me_X1_is is_X1_is se_X1_is rfl rfl (Nat.le_of_ble_eq_true rfl) (MX.post (m_X1_is hG hO g5) ?_)
    rintro _ A5 ⟨v5, rfl, zv5, h1⟩
    refine X.xok (fun w5 => ?_)
    replace h := h v5 A5 w5 zv5 h1
    change X _ _ _ _ A5 _ _ [.int v5]
    refine x_istore_n dX1_told_65 (by decide) ?_
    refine x_iload_n dX1_told_66 rfl ?_
    refine x_if_ne (tgt := 88) dX1_told_67 (by decide) (fun c67 => ?_) (fun c67 => ?_)
    · replace h := h.2 c67
      refine x_aload_n dX1_told_88 rfl ?_
      refine x_dup dX1_told_89 rfl ?_
      obtain ⟨o7, h⟩ := h
      refine x_get (v := .int (A5.I p 3)) hG dX1_told_90 f_X1_36_1 o7 rfl ?_
      refine x_iconst_ (v := (1 : Int32)) dX1_told_93 (by decide) ?_
      refine x_iadd dX1_told_94 ?_
      refine z_putI hG hO.1 dX1_told_95 f_X1_36_1 ⟨_, rfl, Or.inl rfl⟩ o7 (by decide) rfl rfl ⟨_, rfl⟩ (fun A8 e8 => ?_)
      replace h := h A8 e8
      refine x_aload_n dX1_told_98 rfl ?_
      obtain ⟨R9, g9, h⟩ := h
      refine x_callV hG (Ky := kX1_here) (As := []) dX1_told_99 (kI e8 o7) rfl lk_X1_66 me_X1_here is_X1_here se_X1_here rfl rfl (Nat.le_of_ble_eq_true rfl) (MX.post (m_X1_here hG hO g9) ?_)
      rintro _ A9 ⟨v9, rfl, h1⟩
      refine X.xok (fun w9 => ?_)
      replace h := h v9 A9 w9 h1
      change X _ _ _ _ A9 _ _ [.int v9]
      refine x_istore_n dX1_told_102 (by decide) ?_
      refine x_aload_n dX1_told_103 rfl ?_
      obtain ⟨o11, h⟩ := h
      obtain ⟨R10, g10, h⟩ := h
      refine x_callV hG (Ky := kX1_needName) (As := []) dX1_told_104 o11 rfl lk_X1_95 me_X1_needName is_X1_needName se_X1_needName rfl rfl (Nat.le_of_ble_eq_true rfl) (MX.post (m_X1_needName hG hO g10) ?_)
      rintro _ A10 (⟨v10, rfl, h1⟩ | ⟨x10, rfl, h1⟩)
      rotate_left
      · exact ⟨rfl, Or.inr ⟨_, rfl, h1⟩⟩
      refine X.xok (fun w10 => ?_)
      replace h := h v10 A10 w10 h1
      change X _ _ _ _ A10 _ _ [.int v10]
      refine x_istore dX1_told_107 (by decide) ?_
      refine x_iload_n dX1_told_109 rfl ?_
      refine x_if_ne (tgt := 146) dX1_told_110 (by decide) (fun c110 => ?_) (fun c110 => ?_)
      · replace h := h.2 c110
        refine x_iload_n dX1_told_146 rfl ?_
        refine x_if_ne (tgt := 159) dX1_told_147 (by decide) (fun _ => ?_) (fun h => absurd h c110)
        refine x_aload_n dX1_told_159 rfl ?_
        obtain ⟨o12, h⟩ := h
        refine z_new hG (c := 13) dX1_told_160 rfl q1096 (by decide) rfl o12 (fun A13 e13 w13 => ?_)
        replace h := h A13 e13
        refine x_dup dX1_told_163 rfl ?_
        refine x_iconst_ (v := (2 : Int32)) dX1_told_164 (by decide) ?_
        refine x_iload_n dX1_told_165 rfl ?_
        refine x_iload dX1_told_166 rfl ?_
        obtain ⟨R14, g14, h⟩ := h
        refine x_callI hG (Ky := kX14_init) (As := [.int (2 : Int32), .int v9, .int v10]) dX1_told_168 lk_X1_98 me_X14_init is_X14_init rfl rfl rfl rfl rfl (Nat.le_of_ble_eq_true rfl) (MX.post (m_X14_init hG hO g14) ?_)
        rintro _ A14 ⟨rfl, h1⟩
        refine X.xok (fun w14 => ?_)
        replace h := h A14 w14 h1
        change X _ _ _ _ A14 _ _ [.ref A10.n, .ref p]
        refine x_iload_n dX1_told_171 rfl ?_
        obtain ⟨o16, h⟩ := h
        obtain ⟨R15, g15, h⟩ := h
        refine x_callV hG (Ky := kX1_row_2) (As := [.ref A10.n, .int v5]) dX1_told_172 o16 rfl lk_X1_117 me_X1_row_2 is_X1_row_2 se_X1_row_2 rfl rfl (Nat.le_of_ble_eq_true rfl) (MX.post (m_X1_row_2 hG hO g15) ?_)
        rintro _ A15 (⟨rfl, h1⟩ | ⟨x15, rfl, h1⟩)
        rotate_left
        · exact ⟨rfl, Or.inr ⟨_, rfl, h1⟩⟩
        refine X.xok (fun w15 => ?_)
        replace h := h A15 w15 h1
        change X _ _ _ _ A15 _ _ []
        refine x_goto (tgt := 219) dX1_told_175 (by decide) ?_
        exact x_vret dX1_told_219 rfl (Or.inl ⟨rfl, h⟩)
      · replace h := h.1 c110
        refine x_iload_n dX1_told_113 rfl ?_
        refine x_if_ne (tgt := 126) dX1_told_114 (by decide) (fun _ => ?_) (fun h => absurd h c67)
        refine x_aload_n dX1_told_126 rfl ?_
        obtain ⟨o17, h⟩ := h
        refine z_new hG (c := 13) dX1_told_127 rfl q1096 (by decide) rfl o17 (fun A18 e18 w18 => ?_)
        replace h := h A18 e18
        refine x_dup dX1_told_130 rfl ?_
        refine x_bipush_ (v := (6 : Int32)) dX1_told_131 (by decide) ?_
        refine x_iload_n dX1_told_133 rfl ?_
        refine x_iload dX1_told_134 rfl ?_
        obtain ⟨R19, g19, h⟩ := h
        refine x_callI hG (Ky := kX14_init) (As := [.int (6 : Int32), .int v9, .int v10]) dX1_told_136 lk_X1_98 me_X14_init is_X14_init rfl rfl rfl rfl rfl (Nat.le_of_ble_eq_true rfl) (MX.post (m_X14_init hG hO g19) ?_)
        rintro _ A19 ⟨rfl, h1⟩
        refine X.xok (fun w19 => ?_)
        replace h := h A19 w19 h1
        change X _ _ _ _ A19 _ _ [.ref A10.n, .ref p]
        refine x_iload_n dX1_told_139 rfl ?_
        obtain ⟨o21, h⟩ := h
        obtain ⟨R20, g20, h⟩ := h
        refine x_callV hG (Ky := kX1_function) (As := [.ref A10.n, .int v3]) dX1_told_140 o21 rfl lk_X1_113 me_X1_function is_X1_function se_X1_function rfl rfl (Nat.le_of_ble_eq_true rfl) (MX.post (m_X1_function hG hO g20) ?_)
        rintro _ A20 (⟨rfl, h1⟩ | ⟨x20, rfl, h1⟩)
        rotate_left
        · exact ⟨rfl, Or.inr ⟨_, rfl, h1⟩⟩
        refine X.xok (fun w20 => ?_)
        replace h := h A20 w20 h1
        change X _ _ _ _ A20 _ _ []
        refine x_goto (tgt := 219) dX1_told_143 (by decide) ?_
        exact x_vret dX1_told_219 rfl (Or.inl ⟨rfl, h⟩)
    · replace h := h.1 c67
      refine x_iload_n dX1_told_70 rfl ?_
      refine x_if_ne (tgt := 88) dX1_told_71 (by decide) (fun c71 => ?_) (fun c71 => ?_)
      · replace h := h.2 c71
        refine x_aload_n dX1_told_88 rfl ?_
        refine x_dup dX1_told_89 rfl ?_
        obtain ⟨o22, h⟩ := h
        refine x_get (v := .int (A5.I p 3)) hG dX1_told_90 f_X1_36_1 o22 rfl ?_
        refine x_iconst_ (v := (1 : Int32)) dX1_told_93 (by decide) ?_
        refine x_iadd dX1_told_94 ?_
        refine z_putI hG hO.1 dX1_told_95 f_X1_36_1 ⟨_, rfl, Or.inl rfl⟩ o22 (by decide) rfl rfl ⟨_, rfl⟩ (fun A23 e23 => ?_)
        replace h := h A23 e23
        refine x_aload_n dX1_told_98 rfl ?_
        obtain ⟨R24, g24, h⟩ := h
        refine x_callV hG (Ky := kX1_here) (As := []) dX1_told_99 (kI e23 o22) rfl lk_X1_66 me_X1_here is_X1_here se_X1_here rfl rfl (Nat.le_of_ble_eq_true rfl) (MX.post (m_X1_here hG hO g24) ?_)
        rintro _ A24 ⟨v24, rfl, h1⟩
        refine X.xok (fun w24 => ?_)
        replace h := h v24 A24 w24 h1
        change X _ _ _ _ A24 _ _ [.int v24]
        refine x_istore_n dX1_told_102 (by decide) ?_
        refine x_aload_n dX1_told_103 rfl ?_
        obtain ⟨o26, h⟩ := h
        obtain ⟨R25, g25, h⟩ := h
        refine x_callV hG (Ky := kX1_needName) (As := []) dX1_told_104 o26 rfl lk_X1_95 me_X1_needName is_X1_needName se_X1_needName rfl rfl (Nat.le_of_ble_eq_true rfl) (MX.post (m_X1_needName hG hO g25) ?_)
        rintro _ A25 (⟨v25, rfl, h1⟩ | ⟨x25, rfl, h1⟩)
        rotate_left
        · exact ⟨rfl, Or.inr ⟨_, rfl, h1⟩⟩
        refine X.xok (fun w25 => ?_)
        replace h := h v25 A25 w25 h1
        change X _ _ _ _ A25 _ _ [.int v25]
        refine x_istore dX1_told_107 (by decide) ?_
        refine x_iload_n dX1_told_109 rfl ?_
        refine x_if_ne (tgt := 146) dX1_told_110 (by decide) (fun _ => ?_) (fun h => absurd h c71)
        refine x_iload_n dX1_told_146 rfl ?_
        refine x_if_ne (tgt := 159) dX1_told_147 (by decide) (fun _ => ?_) (fun h => absurd h c71)
        refine x_aload_n dX1_told_159 rfl ?_
        obtain ⟨o27, h⟩ := h
        refine z_new hG (c := 13) dX1_told_160 rfl q1096 (by decide) rfl o27 (fun A28 e28 w28 => ?_)
        replace h := h A28 e28
        refine x_dup dX1_told_163 rfl ?_
        refine x_iconst_ (v := (2 : Int32)) dX1_told_164 (by decide) ?_
        refine x_iload_n dX1_told_165 rfl ?_
        refine x_iload dX1_told_166 rfl ?_
        obtain ⟨R29, g29, h⟩ := h
        refine x_callI hG (Ky := kX14_init) (As := [.int (2 : Int32), .int v24, .int v25]) dX1_told_168 lk_X1_98 me_X14_init is_X14_init rfl rfl rfl rfl rfl (Nat.le_of_ble_eq_true rfl) (MX.post (m_X14_init hG hO g29) ?_)
        rintro _ A29 ⟨rfl, h1⟩
        refine X.xok (fun w29 => ?_)
        replace h := h A29 w29 h1
        change X _ _ _ _ A29 _ _ [.ref A25.n, .ref p]
        refine x_iload_n dX1_told_171 rfl ?_
        obtain ⟨o31, h⟩ := h
        obtain ⟨R30, g30, h⟩ := h
        refine x_callV hG (Ky := kX1_row_2) (As := [.ref A25.n, .int v5]) dX1_told_172 o31 rfl lk_X1_117 me_X1_row_2 is_X1_row_2 se_X1_row_2 rfl rfl (Nat.le_of_ble_eq_true rfl) (MX.post (m_X1_row_2 hG hO g30) ?_)
        rintro _ A30 (⟨rfl, h1⟩ | ⟨x30, rfl, h1⟩)
        rotate_left
        · exact ⟨rfl, Or.inr ⟨_, rfl, h1⟩⟩
        refine X.xok (fun w30 => ?_)
        replace h := h A30 w30 h1
        change X _ _ _ _ A30 _ _ []
        refine x_goto (tgt := 219) dX1_told_175 (by decide) ?_
        exact x_vret dX1_told_219 rfl (Or.inl ⟨rfl, h⟩)
      · replace h := h.1 c71
        refine x_aload_n dX1_told_74 rfl ?_
        refine x_bipush_ (v := (10 : Int32)) dX1_told_75 (by decide) ?_
        obtain ⟨o33, h⟩ := h
        obtain ⟨R32, g32, h⟩ := h
        refine x_callV hG (Ky := kX1_is) (As := [.int (10 : Int32)]) dX1_told_77 o33 rfl lk_X1_71 me_X1_is is_X1_is se_X1_is rfl rfl (Nat.le_of_ble_eq_true rfl) (MX.post (m_X1_is hG hO g32) ?_)
        rintro _ A32 ⟨v32, rfl, zv32, h1⟩
        refine X.xok (fun w32 => ?_)
        replace h := h v32 A32 w32 zv32 h1
        change X _ _ _ _ A32 _ _ [.int v32]
        refine x_if_ne (tgt := 88) dX1_told_80 (by decide) (fun c80 => ?_) (fun c80 => ?_)
        · replace h := h.2 c80
          refine x_aload_n dX1_told_88 rfl ?_
          refine x_dup dX1_told_89 rfl ?_
          obtain ⟨o34, h⟩ := h
          refine x_get (v := .int (A32.I p 3)) hG dX1_told_90 f_X1_36_1 o34 rfl ?_
          refine x_iconst_ (v := (1 : Int32)) dX1_told_93 (by decide) ?_
          refine x_iadd dX1_told_94 ?_
          refine z_putI hG hO.1 dX1_told_95 f_X1_36_1 ⟨_, rfl, Or.inl rfl⟩ o34 (by decide) rfl rfl ⟨_, rfl⟩ (fun A35 e35 => ?_)
          replace h := h A35 e35
          refine x_aload_n dX1_told_98 rfl ?_
          obtain ⟨R36, g36, h⟩ := h
          refine x_callV hG (Ky := kX1_here) (As := []) dX1_told_99 (kI e35 o34) rfl lk_X1_66 me_X1_here is_X1_here se_X1_here rfl rfl (Nat.le_of_ble_eq_true rfl) (MX.post (m_X1_here hG hO g36) ?_)
          rintro _ A36 ⟨v36, rfl, h1⟩
          refine X.xok (fun w36 => ?_)
          replace h := h v36 A36 w36 h1
          change X _ _ _ _ A36 _ _ [.int v36]
          refine x_istore_n dX1_told_102 (by decide) ?_
          refine x_aload_n dX1_told_103 rfl ?_
          obtain ⟨o38, h⟩ := h
          obtain ⟨R37, g37, h⟩ := h
          refine x_callV hG (Ky := kX1_needName) (As := []) dX1_told_104 o38 rfl lk_X1_95 me_X1_needName is_X1_needName se_X1_needName rfl rfl (Nat.le_of_ble_eq_true rfl) (MX.post (m_X1_needName hG hO g37) ?_)
          rintro _ A37 (⟨v37, rfl, h1⟩ | ⟨x37, rfl, h1⟩)
          rotate_left
          · exact ⟨rfl, Or.inr ⟨_, rfl, h1⟩⟩
          refine X.xok (fun w37 => ?_)
          replace h := h v37 A37 w37 h1
          change X _ _ _ _ A37 _ _ [.int v37]
          refine x_istore dX1_told_107 (by decide) ?_
          refine x_iload_n dX1_told_109 rfl ?_
          refine x_if_ne (tgt := 146) dX1_told_110 (by decide) (fun h => absurd c71 h) (fun _ => ?_)
          refine x_iload_n dX1_told_113 rfl ?_
          refine x_if_ne (tgt := 126) dX1_told_114 (by decide) (fun h => absurd c67 h) (fun _ => ?_)
          refine x_aload_n dX1_told_117 rfl ?_
          refine x_bipush_ (v := (62 : Int32)) dX1_told_118 (by decide) ?_
          obtain ⟨o40, h⟩ := h
          obtain ⟨R39, g39, h⟩ := h
          refine x_callV hG (Ky := kX1_is) (As := [.int (62 : Int32)]) dX1_told_120 o40 rfl lk_X1_71 me_X1_is is_X1_is se_X1_is rfl rfl (Nat.le_of_ble_eq_true rfl) (MX.post (m_X1_is hG hO g39) ?_)
          rintro _ A39 ⟨v39, rfl, zv39, h1⟩
          refine X.xok (fun w39 => ?_)
          replace h := h v39 A39 w39 zv39 h1
          change X _ _ _ _ A39 _ _ [.int v39]
          refine x_if_eq (tgt := 146) dX1_told_123 (by decide) (fun c123 => ?_) (fun c123 => ?_)
          · replace h := h.1 c123
            refine x_iload_n dX1_told_146 rfl ?_
            refine x_if_ne (tgt := 159) dX1_told_147 (by decide) (fun h => absurd c71 h) (fun _ => ?_)
            refine x_aload_n dX1_told_150 rfl ?_
            refine x_bipush_ (v := (64 : Int32)) dX1_told_151 (by decide) ?_
            obtain ⟨o42, h⟩ := h
            obtain ⟨R41, g41, h⟩ := h
            refine x_callV hG (Ky := kX1_is) (As := [.int (64 : Int32)]) dX1_told_153 o42 rfl lk_X1_71 me_X1_is is_X1_is se_X1_is rfl rfl (Nat.le_of_ble_eq_true rfl) (MX.post (m_X1_is hG hO g41) ?_)
            rintro _ A41 ⟨v41, rfl, zv41, h1⟩
            refine X.xok (fun w41 => ?_)
            replace h := h v41 A41 w41 zv41 h1
            change X _ _ _ _ A41 _ _ [.int v41]
            refine x_if_eq (tgt := 178) dX1_told_156 (by decide) (fun c156 => ?_) (fun c156 => ?_)
            · replace h := h.1 c156
              obtain ⟨o43, h⟩ := h
              refine z_new hG (c := 13) dX1_told_178 rfl q1096 (by decide) rfl o43 (fun A44 e44 w44 => ?_)
              replace h := h A44 e44
              refine x_dup dX1_told_181 rfl ?_
              refine x_iconst_ (v := (1 : Int32)) dX1_told_182 (by decide) ?_
              refine x_iload_n dX1_told_183 rfl ?_
              refine x_iload dX1_told_184 rfl ?_
              obtain ⟨R45, g45, h⟩ := h
              refine x_callI hG (Ky := kX14_init) (As := [.int (1 : Int32), .int v36, .int v37]) dX1_told_186 lk_X1_98 me_X14_init is_X14_init rfl rfl rfl rfl rfl (Nat.le_of_ble_eq_true rfl) (MX.post (m_X14_init hG hO g45) ?_)
              rintro _ A45 ⟨rfl, h1⟩
              refine X.xok (fun w45 => ?_)
              replace h := h A45 w45 h1
              change X _ _ _ _ A45 _ _ [.ref A41.n]
              refine x_astore dX1_told_189 (by decide) ?_
              refine x_aload dX1_told_191 rfl ?_
              refine x_aload_n dX1_told_193 rfl ?_
              refine x_bipush_ (v := (72 : Int32)) dX1_told_194 (by decide) ?_
              obtain ⟨o47, h⟩ := h
              obtain ⟨R46, g46, h⟩ := h
              refine x_callV hG (Ky := kX1_takes) (As := [.int (72 : Int32)]) dX1_told_196 o47 rfl lk_X1_79 me_X1_takes is_X1_takes se_X1_takes rfl rfl (Nat.le_of_ble_eq_true rfl) (MX.post (m_X1_takes hG hO g46) ?_)
              rintro _ A46 ⟨v46, rfl, zv46, h1⟩
              refine X.xok (fun w46 => ?_)
              replace h := h v46 A46 w46 zv46 h1
              change X _ _ _ _ A46 _ _ [.int v46, .ref A41.n]
              obtain ⟨J48, g48, h⟩ := h
              have kj48 : ∀ (y48_s0 : Option Nat) (A48 : xA), J48 y48_s0 A48 → X G (dp + 920) kX1_told (hX (hV Q) E) A48 210 [some (.ref p), none, none, none, none, some (.ref A41.n)] [va_rf y48_s0, .ref A41.n] := by
                intro y48_s0 A48 h
                replace h := g48 y48_s0 A48 h
                obtain ⟨o49, h⟩ := h
                refine z_putP hG hO.1 y48_s0 dX1_told_210 f_X1_105_13 ⟨_, rfl, Or.inl rfl⟩ o49 (by decide) (Or.inl ⟨_, rfl⟩) (fun A50 e50 => ?_)
                replace h := h A50 e50
                refine x_aload_n dX1_told_213 rfl ?_
                refine x_aload dX1_told_214 rfl ?_
                obtain ⟨o52, h⟩ := h
                obtain ⟨R51, g51, h⟩ := h
                refine x_callV hG (Ky := kX1_end) (As := [.ref A41.n]) dX1_told_216 o52 rfl lk_X1_109 me_X1_end is_X1_end se_X1_end rfl rfl (Nat.le_of_ble_eq_true rfl) (MX.post (m_X1_end hG hO g51) ?_)
                rintro _ A51 (⟨rfl, h1⟩ | ⟨x51, rfl, h1⟩)
                rotate_left
                · exact ⟨rfl, Or.inr ⟨_, rfl, h1⟩⟩
                refine X.xok (fun w51 => ?_)
                replace h := h A51 w51 h1
                change X _ _ _ _ A51 _ _ []
                exact x_vret dX1_told_219 rfl (Or.inl ⟨rfl, h⟩)
              refine x_if_eq (tgt := 209) dX1_told_199 (by decide) (fun c199 => ?_) (fun c199 => ?_)
              · replace h := h.1 c199
                refine x_null dX1_told_209 ?_
                change X _ _ _ _ _ _ [some (.ref p), some (.int v3), some (.int v5), some (.int v36), some (.int v37), some (.ref A41.n)] [.null, .ref A41.n]
                exact X.weak (xle_c rfl (xle_n (xle_n (xle_n (xle_n (xle_c rfl xle_nil)))))) (kj48 (none : Option Nat) A46 h)
              · replace h := h.2 c199
                refine x_aload_n dX1_told_202 rfl ?_
                obtain ⟨o54, h⟩ := h
                obtain ⟨R53, g53, h⟩ := h
                refine x_callV hG (Ky := kX1_expr) (As := []) dX1_told_203 o54 rfl lk_X1_101 me_X1_expr is_X1_expr se_X1_expr rfl rfl (Nat.le_of_ble_eq_true rfl) (MX.post ((rc_P hG hO 700).1 g53) ?_)
                rintro _ A53 (⟨v53, rfl, h1⟩ | ⟨x53, rfl, h1⟩)
                rotate_left
                · exact ⟨rfl, Or.inr ⟨_, rfl, h1⟩⟩
                refine X.xok (fun w53 => ?_)
                replace h := h v53 A53 w53 h1
                change X _ _ _ _ A53 _ _ [va_rf v53, .ref A41.n]
                refine x_goto (tgt := 210) dX1_told_206 (by decide) ?_
                change X _ _ _ _ _ _ [some (.ref p), some (.int v3), some (.int v5), some (.int v36), some (.int v37), some (.ref A41.n)] [va_rf v53, .ref A41.n]
                exact X.weak (xle_c rfl (xle_n (xle_n (xle_n (xle_n (xle_c rfl xle_nil)))))) (kj48 v53 A53 h)
            · replace h := h.2 c156
              refine x_aload_n dX1_told_159 rfl ?_
              obtain ⟨o55, h⟩ := h
              refine z_new hG (c := 13) dX1_told_160 rfl q1096 (by decide) rfl o55 (fun A56 e56 w56 => ?_)
              replace h := h A56 e56
              refine x_dup dX1_told_163 rfl ?_
              refine x_iconst_ (v := (2 : Int32)) dX1_told_164 (by decide) ?_
              refine x_iload_n dX1_told_165 rfl ?_
              refine x_iload dX1_told_166 rfl ?_
              obtain ⟨R57, g57, h⟩ := h
              refine x_callI hG (Ky := kX14_init) (As := [.int (2 : Int32), .int v36, .int v37]) dX1_told_168 lk_X1_98 me_X14_init is_X14_init rfl rfl rfl rfl rfl (Nat.le_of_ble_eq_true rfl) (MX.post (m_X14_init hG hO g57) ?_)
              rintro _ A57 ⟨rfl, h1⟩
              refine X.xok (fun w57 => ?_)
              replace h := h A57 w57 h1
              change X _ _ _ _ A57 _ _ [.ref A41.n, .ref p]
              refine x_iload_n dX1_told_171 rfl ?_
              obtain ⟨o59, h⟩ := h
              obtain ⟨R58, g58, h⟩ := h
              refine x_callV hG (Ky := kX1_row_2) (As := [.ref A41.n, .int v5]) dX1_told_172 o59 rfl lk_X1_117 me_X1_row_2 is_X1_row_2 se_X1_row_2 rfl rfl (Nat.le_of_ble_eq_true rfl) (MX.post (m_X1_row_2 hG hO g58) ?_)
              rintro _ A58 (⟨rfl, h1⟩ | ⟨x58, rfl, h1⟩)
              rotate_left
              · exact ⟨rfl, Or.inr ⟨_, rfl, h1⟩⟩
              refine X.xok (fun w58 => ?_)
              replace h := h A58 w58 h1
              change X _ _ _ _ A58 _ _ []
              refine x_goto (tgt := 219) dX1_told_175 (by decide) ?_
              exact x_vret dX1_told_219 rfl (Or.inl ⟨rfl, h⟩)
          · replace h := h.2 c123
            refine x_aload_n dX1_told_126 rfl ?_
            obtain ⟨o60, h⟩ := h
            refine z_new hG (c := 13) dX1_told_127 rfl q1096 (by decide) rfl o60 (fun A61 e61 w61 => ?_)
            replace h := h A61 e61
            refine x_dup dX1_told_130 rfl ?_
            refine x_bipush_ (v := (6 : Int32)) dX1_told_131 (by decide) ?_
            refine x_iload_n dX1_told_133 rfl ?_
            refine x_iload dX1_told_134 rfl ?_
            obtain ⟨R62, g62, h⟩ := h
            refine x_callI hG (Ky := kX14_init) (As := [.int (6 : Int32), .int v36, .int v37]) dX1_told_136 lk_X1_98 me_X14_init is_X14_init rfl rfl rfl rfl rfl (Nat.le_of_ble_eq_true rfl) (MX.post (m_X14_init hG hO g62) ?_)
            rintro _ A62 ⟨rfl, h1⟩
            refine X.xok (fun w62 => ?_)
            replace h := h A62 w62 h1
            change X _ _ _ _ A62 _ _ [.ref A39.n, .ref p]
            refine x_iload_n dX1_told_139 rfl ?_
            obtain ⟨o64, h⟩ := h
            obtain ⟨R63, g63, h⟩ := h
            refine x_callV hG (Ky := kX1_function) (As := [.ref A39.n, .int v3]) dX1_told_140 o64 rfl lk_X1_113 me_X1_function is_X1_function se_X1_function rfl rfl (Nat.le_of_ble_eq_true rfl) (MX.post (m_X1_function hG hO g63) ?_)
            rintro _ A63 (⟨rfl, h1⟩ | ⟨x63, rfl, h1⟩)
            rotate_left
            · exact ⟨rfl, Or.inr ⟨_, rfl, h1⟩⟩
            refine X.xok (fun w63 => ?_)
            replace h := h A63 w63 h1
            change X _ _ _ _ A63 _ _ []
            refine x_goto (tgt := 219) dX1_told_143 (by decide) ?_
            exact x_vret dX1_told_219 rfl (Or.inl ⟨rfl, h⟩)
        · replace h := h.1 c80
          refine x_aload_n dX1_told_83 rfl ?_
          obtain ⟨o66, h⟩ := h
          obtain ⟨R65, g65, h⟩ := h
          refine x_callV hG (Ky := kX1_wrong) (As := []) dX1_told_84 o66 rfl lk_X1_82 me_X1_wrong is_X1_wrong se_X1_wrong rfl rfl (Nat.le_of_ble_eq_true rfl) (MX.post (m_X1_wrong hG hO g65) ?_)
          rintro _ A65 ⟨v65, rfl, h1⟩
          refine X.xok (fun w65 => ?_)
          replace h := h v65 A65 w65 h1
          change X _ _ _ _ A65 _ _ [va_rf v65]
          obtain ⟨b67, e67, h⟩ := h
          rw [e67]
          exact x_athrow dX1_told_87 rfl (Or.inr ⟨_, rfl, h⟩)
  · replace h := h.2 c6
    refine x_aload_n dX1_told_9 rfl ?_
    refine x_bipush_ (v := (10 : Int32)) dX1_told_10 (by decide) ?_
    obtain ⟨o69, h⟩ := h
    obtain ⟨R68, g68, h⟩ := h
    refine x_callV hG (Ky := kX1_need) (As := [.int (10 : Int32)]) dX1_told_12 o69 rfl lk_X1_89 me_X1_need is_X1_need se_X1_need rfl rfl (Nat.le_of_ble_eq_true rfl) (MX.post (m_X1_need hG hO g68) ?_)
    rintro _ A68 (⟨rfl, h1⟩ | ⟨x68, rfl, h1⟩)
    rotate_left
    · exact ⟨rfl, Or.inr ⟨_, rfl, h1⟩⟩
    refine X.xok (fun w68 => ?_)
    replace h := h A68 w68 h1
    change X _ _ _ _ A68 _ _ []
    obtain ⟨o70, h⟩ := h
    refine z_new hG (c := 13) dX1_told_15 rfl q1096 (by decide) rfl o70 (fun A71 e71 w71 => ?_)
    replace h := h A71 e71
    refine x_dup dX1_told_18 rfl ?_
    refine x_iconst_ (v := (0 : Int32)) dX1_told_19 (by decide) ?_
    refine x_aload_n dX1_told_20 rfl ?_
    obtain ⟨o73, h⟩ := h
    obtain ⟨R72, g72, h⟩ := h
    refine x_callV hG (Ky := kX1_here) (As := []) dX1_told_21 o73 rfl lk_X1_66 me_X1_here is_X1_here se_X1_here rfl rfl (Nat.le_of_ble_eq_true rfl) (MX.post (m_X1_here hG hO g72) ?_)
    rintro _ A72 ⟨v72, rfl, h1⟩
    refine X.xok (fun w72 => ?_)
    replace h := h v72 A72 w72 h1
    change X _ _ _ _ A72 _ _ [.int v72, .int (0 : Int32), .ref A68.n, .ref A68.n]
    refine x_aload_n dX1_told_24 rfl ?_
    obtain ⟨o75, h⟩ := h
    obtain ⟨R74, g74, h⟩ := h
    refine x_callV hG (Ky := kX1_needName) (As := []) dX1_told_25 o75 rfl lk_X1_95 me_X1_needName is_X1_needName se_X1_needName rfl rfl (Nat.le_of_ble_eq_true rfl) (MX.post (m_X1_needName hG hO g74) ?_)
    rintro _ A74 (⟨v74, rfl, h1⟩ | ⟨x74, rfl, h1⟩)
    rotate_left
    · exact ⟨rfl, Or.inr ⟨_, rfl, h1⟩⟩
    refine X.xok (fun w74 => ?_)
    replace h := h v74 A74 w74 h1
    change X _ _ _ _ A74 _ _ [.int v74, .int v72, .int (0 : Int32), .ref A68.n, .ref A68.n]
    obtain ⟨R76, g76, h⟩ := h
    refine x_callI hG (Ky := kX14_init) (As := [.int (0 : Int32), .int v72, .int v74]) dX1_told_28 lk_X1_98 me_X14_init is_X14_init rfl rfl rfl rfl rfl (Nat.le_of_ble_eq_true rfl) (MX.post (m_X14_init hG hO g76) ?_)
    rintro _ A76 ⟨rfl, h1⟩
    refine X.xok (fun w76 => ?_)
    replace h := h A76 w76 h1
    change X _ _ _ _ A76 _ _ [.ref A68.n]
    refine x_astore_n dX1_told_31 (by decide) ?_
    refine x_aload_n dX1_told_32 rfl ?_
    refine x_bipush_ (v := (72 : Int32)) dX1_told_33 (by decide) ?_
    obtain ⟨o78, h⟩ := h
    obtain ⟨R77, g77, h⟩ := h
    refine x_callV hG (Ky := kX1_need) (As := [.int (72 : Int32)]) dX1_told_35 o78 rfl lk_X1_89 me_X1_need is_X1_need se_X1_need rfl rfl (Nat.le_of_ble_eq_true rfl) (MX.post (m_X1_need hG hO g77) ?_)
    rintro _ A77 (⟨rfl, h1⟩ | ⟨x77, rfl, h1⟩)
    rotate_left
    · exact ⟨rfl, Or.inr ⟨_, rfl, h1⟩⟩
    refine X.xok (fun w77 => ?_)
    replace h := h A77 w77 h1
    change X _ _ _ _ A77 _ _ []
    refine x_aload_n dX1_told_38 rfl ?_
    refine x_aload_n dX1_told_39 rfl ?_
    obtain ⟨o80, h⟩ := h
    obtain ⟨R79, g79, h⟩ := h
    refine x_callV hG (Ky := kX1_expr) (As := []) dX1_told_40 o80 rfl lk_X1_101 me_X1_expr is_X1_expr se_X1_expr rfl rfl (Nat.le_of_ble_eq_true rfl) (MX.post ((rc_P hG hO 700).1 g79) ?_)
    rintro _ A79 (⟨v79, rfl, h1⟩ | ⟨x79, rfl, h1⟩)
    rotate_left
    · exact ⟨rfl, Or.inr ⟨_, rfl, h1⟩⟩
    refine X.xok (fun w79 => ?_)
    replace h := h v79 A79 w79 h1
    change X _ _ _ _ A79 _ _ [va_rf v79, .ref A68.n]
    obtain ⟨o81, h⟩ := h
    refine z_putP hG hO.1 v79 dX1_told_43 f_X1_105_13 ⟨_, rfl, Or.inl rfl⟩ o81 (by decide) (Or.inl ⟨_, rfl⟩) (fun A82 e82 => ?_)
    replace h := h A82 e82
    refine x_aload_n dX1_told_46 rfl ?_
    refine x_aload_n dX1_told_47 rfl ?_
    obtain ⟨o84, h⟩ := h
    obtain ⟨R83, g83, h⟩ := h
    refine x_callV hG (Ky := kX1_end) (As := [.ref A68.n]) dX1_told_48 o84 rfl lk_X1_109 me_X1_end is_X1_end se_X1_end rfl rfl (Nat.le_of_ble_eq_true rfl) (MX.post (m_X1_end hG hO g83) ?_)
    rintro _ A83 (⟨rfl, h1⟩ | ⟨x83, rfl, h1⟩)
    rotate_left
    · exact ⟨rfl, Or.inr ⟨_, rfl, h1⟩⟩
    refine X.xok (fun w83 => ?_)
    replace h := h A83 w83 h1
    change X _ _ _ _ A83 _ _ []
    exact x_vret dX1_told_51 rfl (Or.inl ⟨rfl, h⟩)
def w_X1_read (G : xG) (p : Nat) (b : Option Nat) (n : Int32) (Q : Option Nat → xA → Prop) (A : xA) : Prop := xok G A → A.tg p = 2 ∧ (∃ b3 : Nat, (A.P p 0) = some b3 ∧ (A.tg b3 = 3 ∧ (∃ R2 : xA → Prop, w_X2_scan G b3 b n R2 A ∧ (∀ A2 : xA, xok G A2 → R2 A2 → (A2.tg p = 2 ∧ (∀ A6 : xA, A6 = A2.setI p 3 (0 : Int32) → (∀ A7 : xA, A7 = A6.setI p 4 (0 : Int32) → (∀ A8 : xA, A8 = A7.setI p 5 (0 : Int32) → (rmO G A8 3 ∧ (∀ A10 : xA, A10 = A8.new 37 0 3 0 → (∃ R11 : xA → Prop, w_J5_init G A8.n R11 A10 ∧ (∀ A11 : xA, xok G A11 → R11 A11 → (A11.tg p = 2 ∧ (∀ A13 : xA, A13 = A11.setP p 7 (some A8.n) → (∃ L14 : Nat → xA → Prop, (∃ n14 : Nat, L14 n14 A13) ∧ (∀ (n14 : Nat) (A14 : xA), L14 n14 A14 → A14.tg p = 2 ∧ (∃ R15 : Int32 → xA → Prop, w_X1_kind G p R15 A14 ∧ (∀ (v15 : Int32) (A15 : xA), xok G A15 → R15 v15 A15 → (((v15 = 0 → A15.tg p = 2 ∧ (Q (A15.P p 7) A15)) ∧ (¬ v15 = 0 → A15.tg p = 2 ∧ (∃ (R18 : xA → Prop) (S18 : Nat → xA → Prop), w_X1_told G p R18 S18 A15 ∧ (∀ (x18 : Nat) (A18 : xA), S18 x18 A18 → A18.tg x18 = 4 ∧ (xok G A18 → Q (none : Option Nat) A18)) ∧ (∀ A18 : xA, xok G A18 → R18 A18 → ((∃ q14 : Nat, q14 < n14 ∧ L14 q14 A18)))))))))))))))))))))))))
theorem m_X1_read (hG : xOK G) (hO : xHO G) {dp : Nat} {p : Nat} {b : Option Nat} {n : Int32} {Q : Option Nat → xA → Prop} {A : xA} (h : w_X1_read G p b n Q A) : MX G (dp + 921) kX1_read [.ref p, va_rf b, .int n] A (hR Q) := by
  unfold w_X1_read at h
  refine MX.of rfl (by cases b <;> exact Nat.le_of_ble_eq_true rfl) ?_
  refine X.lvs (lv' := [some (.ref p), some (va_rf b), some (.int n), none]) (by cases b <;> rfl) ?_
  refine X.xok (fun w0 => ?_)
  replace h := h w0
  refine x_aload_n dX1_read_0 rfl ?_
  obtain ⟨o1, h⟩ := h
  refine x_get (v := va_rf (A.P p 0)) hG dX1_read_1 f_X1_12_1 o1 rfl ?_
  refine x_aloadq_n dX1_read_4 rfl ?_
  refine x_iload_n dX1_read_5 rfl ?_
  obtain ⟨b3, e3, h⟩ := h
  rw [e3]
  obtain ⟨o4, h⟩ := h
  obtain ⟨R2, g2, h⟩ := h
  refine x_callV hG (Ky := kX2_scan) (As := [va_rf b, .int n]) dX1_read_6 o4 rfl lk_X1_32 me_X2_scan is_X2_scan se_X2_scan rfl rfl (Nat.le_of_ble_eq_true rfl) (MX.post (m_X2_scan hG hO g2) ?_)
  rintro _ A2 ⟨rfl, h1⟩
  refine X.xok (fun w2 => ?_)
  replace h := h A2 w2 h1
  change X _ _ _ _ A2 _ _ []
  refine x_aload_n dX1_read_9 rfl ?_
  refine x_iconst_ (v := (0 : Int32)) dX1_read_10 (by decide) ?_
  obtain ⟨o5, h⟩ := h
  refine z_putI hG hO.1 dX1_read_11 f_X1_36_1 ⟨_, rfl, Or.inl rfl⟩ o5 (by decide) rfl rfl ⟨_, rfl⟩ (fun A6 e6 => ?_)
  replace h := h A6 e6
  refine x_aload_n dX1_read_14 rfl ?_
  refine x_iconst_ (v := (0 : Int32)) dX1_read_15 (by decide) ?_
  refine z_putI hG hO.1 dX1_read_16 f_X1_40_1 ⟨_, rfl, Or.inl rfl⟩ (kI e6 o5) (by decide) rfl rfl ⟨_, rfl⟩ (fun A7 e7 => ?_)
  replace h := h A7 e7
  refine x_aload_n dX1_read_19 rfl ?_
  refine x_iconst_ (v := (0 : Int32)) dX1_read_20 (by decide) ?_
  refine z_putI hG hO.1 dX1_read_21 f_X1_43_1 ⟨_, rfl, Or.inl rfl⟩ (kI e7 (kI e6 o5)) (by decide) rfl rfl ⟨_, rfl⟩ (fun A8 e8 => ?_)
  replace h := h A8 e8
  refine x_aload_n dX1_read_24 rfl ?_
  obtain ⟨o9, h⟩ := h
  refine z_new hG (c := 36) dX1_read_25 rfl q1062 (by decide) rfl o9 (fun A10 e10 w10 => ?_)
  replace h := h A10 e10
  refine x_dup dX1_read_28 rfl ?_
  obtain ⟨R11, g11, h⟩ := h
  refine x_callI hG (Ky := kJ5_init) (As := []) dX1_read_29 lk_X1_48 me_J5_init is_J5_init rfl rfl rfl rfl rfl (Nat.le_of_ble_eq_true rfl) (MX.post (m_w_J5_init hG hO g11) ?_)
  rintro _ A11 ⟨rfl, h1⟩
  refine X.xok (fun w11 => ?_)
  replace h := h A11 w11 h1
  change X _ _ _ _ A11 _ _ [.ref A8.n, .ref p]
  obtain ⟨o12, h⟩ := h
  refine z_putP hG hO.1 (some A8.n) dX1_read_32 f_X1_49_1 ⟨_, rfl, Or.inl rfl⟩ o12 (by decide) (Or.inl ⟨_, rfl⟩) (fun A13 e13 => ?_)
  replace h := h A13 e13
  obtain ⟨L14, ⟨n14, i14⟩, g14⟩ := h
  have kl14 : ∀ n14 : Nat, ∀ (A14 : xA), L14 n14 A14 → X G (dp + 921) kX1_read (hR Q) A14 35 [some (.ref p), none, none, none] [] := by
    intro n14
    induction n14 using Nat.strongRecOn with
    | ind n14 ih14 =>
      intro A14 h
      replace h := g14 n14 A14 h
      refine x_aload_n dX1_read_35 rfl ?_
      obtain ⟨o16, h⟩ := h
      obtain ⟨R15, g15, h⟩ := h
      refine x_callV hG (Ky := kX1_kind) (As := []) dX1_read_36 o16 rfl lk_X1_53 me_X1_kind is_X1_kind se_X1_kind rfl rfl (Nat.le_of_ble_eq_true rfl) (MX.post (m_X1_kind hG hO g15) ?_)
      rintro _ A15 ⟨v15, rfl, h1⟩
      refine X.xok (fun w15 => ?_)
      replace h := h v15 A15 w15 h1
      change X _ _ _ _ A15 _ _ [.int v15]
      refine x_if_eq (tgt := 49) dX1_read_39 (by decide) (fun c39 => ?_) (fun c39 => ?_)
      · replace h := h.1 c39
        refine x_goto (tgt := 55) dX1_read_49 (by decide) ?_
        refine x_aload_n dX1_read_55 rfl ?_
        obtain ⟨o17, h⟩ := h
        refine x_get (v := va_rf (A15.P p 7)) hG dX1_read_56 f_X1_49_1 o17 rfl ?_
        exact x_aret (r := (A15.P p 7)) dX1_read_59 rfl (Or.inl ⟨_, rfl⟩) ⟨_, rfl, h⟩
      · replace h := h.2 c39
        refine x_aload_n dX1_read_42 rfl ?_
        obtain ⟨o19, h⟩ := h
        obtain ⟨R18, S18, g18, hs18, h⟩ := h
        refine x_callVH hG (Ky := kX1_told) (As := []) rfl (by decide) (by decide) (by decide) q379 dX1_read_43 o19 rfl lk_X1_57 me_X1_told is_X1_told se_X1_told rfl rfl (Nat.le_of_ble_eq_true rfl) (MX.post (m_X1_told hG hO g18) ?_)
        rintro _ A18 (⟨rfl, h1⟩ | ⟨x18, rfl, h1⟩)
        rotate_left
        · obtain ⟨tt, h⟩ := hs18 x18 A18 h1
          refine ⟨tt, X.xok (fun w18 => ?_)⟩
          replace h := h w18
          change X _ _ _ _ A18 _ _ [.ref x18]
          refine x_astore_n dX1_read_52 (by decide) ?_
          refine x_null dX1_read_53 ?_
          exact x_aret (r := (none : Option Nat)) dX1_read_54 rfl (Or.inl ⟨_, rfl⟩) ⟨_, rfl, h⟩
        refine X.xok (fun w18 => ?_)
        replace h := h A18 w18 h1
        change X _ _ _ _ A18 _ _ []
        refine x_goto (tgt := 35) dX1_read_46 (by decide) ?_
        obtain ⟨q14, l14, h⟩ := h
        change X _ _ _ _ _ _ [some (.ref p), none, none, none] []
        exact X.weak (xle_c rfl (xle_n (xle_n (xle_n xle_nil)))) (ih14 q14 l14 A18 h)
  change X _ _ _ _ _ _ [some (.ref p), some (va_rf b), some (.int n), none] []
  exact X.weak (xle_c rfl (xle_n (xle_n (xle_n xle_nil)))) (kl14 n14 A13 i14)
end W110
