/-! ===== 035.mtell (tools/w030.py) ===== -/
set_option maxRecDepth 100000
section W035
variable {G : xG}
def w_X13_value (m : Nat) (Q : Int32 → xII → Prop) (I : xII) : Prop := ∀ I1 : xII, I1 = xup I m 54 (1 : Int32) → (∀ I2 : xII, I2 = xup I1 m 55 (0 : Int32) → (∃ R3 : Int32 → xII → Prop, g_X13_expression m R3 I2 ∧ (∀ (v3 : Int32) (I3 : xII), (v3 = 0 ∨ v3 = 1) → R3 v3 I3 → (((I m 54) = 0 ∨ (I m 54) = 1) ∧ (∀ I5 : xII, I5 = xup I3 m 54 (I m 54) → (((0 < (I3 m 44) → ∀ I6 : xII, I6 = xup I5 m 60 (I m 60) → (Q (0 : Int32) I6)) ∧ (¬ 0 < (I3 m 44) → (((I3 m 46) = 0 → ∀ I7 : xII, I7 = xup I5 m 60 (I m 60) → (Q (0 : Int32) I7)) ∧ (¬ (I3 m 46) = 0 → (((I3 m 55) = 0 → ∃ R8 : Int32 → xII → Prop, w_X13_reckon m (I m 60) R8 I5 ∧ (∀ (v8 : Int32) (I8 : xII), R8 v8 I8 → (∀ I9 : xII, I9 = xup I8 m 60 (I m 60) → (Q v8 I9)))) ∧ (¬ (I3 m 55) = 0 → ∀ I10 : xII, I10 = xup I5 m 60 (I m 60) → (Q (0 : Int32) I10)))))))))))))
theorem m_X13_value (hG : xOK G) {dp : Nat} {A : xA} {m : Nat} (hM : xMo G A m) {Q : Int32 → xII → Prop} {I : xII} (h : w_X13_value m Q I) : MX G (dp + 713) kX13_value [.ref m] (A.wI I) (oI A Q) := by
  unfold w_X13_value at h
  refine MX.of rfl (Nat.le_of_ble_eq_true rfl) ?_
  change X _ _ _ _ _ _ [some (.ref m), none, none, none] _
  refine x_aload_n dX13_value_0 rfl ?_
  refine x_get (v := .int (I m 54)) hG dX13_value_1 f_X13_365_12 (mo_t hM) rfl ?_
  refine x_istore_n dX13_value_4 (by decide) ?_
  refine x_aload_n dX13_value_5 rfl ?_
  refine x_iconst_ (v := (1 : Int32)) dX13_value_6 (by decide) ?_
  refine y_put hG hM dX13_value_7 f_X13_365_12 ⟨_, rfl, Or.inl rfl⟩ (narrow01 (by decide)) (fits01 (by decide)) ⟨_, rfl⟩ (fun I1 e1 => ?_)
  replace h := h I1 e1
  refine x_aload_n dX13_value_10 rfl ?_
  refine x_iconst_ (v := (0 : Int32)) dX13_value_11 (by decide) ?_
  refine y_put hG hM dX13_value_12 f_X13_345_12 ⟨_, rfl, Or.inl rfl⟩ (narrow01 (by decide)) (fits01 (by decide)) ⟨_, rfl⟩ (fun I2 e2 => ?_)
  replace h := h I2 e2
  refine x_aload_n dX13_value_15 rfl ?_
  refine x_get (v := .int (I2 m 60)) hG dX13_value_16 f_X13_276_12 (mo_t hM) rfl ?_
  refine x_eqi (v := (I m 60)) ((xup_rk e2 (by decide)).trans (xup_rk e1 (by decide))) ?_
  refine x_istore_n dX13_value_19 (by decide) ?_
  refine x_aload_n dX13_value_20 rfl ?_
  obtain ⟨R3, g3, h⟩ := h
  refine x_callV hG (Ky := kX13_expression) (As := []) dX13_value_21 (mo_t hM) rfl lk_X13_368 me_X13_expression is_X13_expression se_X13_expression rfl rfl (Nat.le_of_ble_eq_true rfl) (MX.post ((rc_E hG hM 700).1 g3) ?_)
  rintro _ _ ⟨v3, I3, rfl, rfl, zv3, h1⟩
  replace h := h v3 I3 zv3 h1
  change X _ _ _ _ (A.wI I3) _ _ (.int v3 :: _)
  refine x_pop dX13_value_24 rfl ?_
  refine x_aload_n dX13_value_25 rfl ?_
  refine x_iload_n dX13_value_26 rfl ?_
  obtain ⟨o4, h⟩ := h
  refine y_put hG hM dX13_value_27 f_X13_365_12 ⟨_, rfl, Or.inl rfl⟩ (narrow01 o4) (fits01 o4) ⟨_, rfl⟩ (fun I5 e5 => ?_)
  replace h := h I5 e5
  refine x_aload_n dX13_value_30 rfl ?_
  refine x_get (v := .int (I5 m 44)) hG dX13_value_31 f_X13_230_12 (mo_t hM) rfl ?_
  refine x_eqi (v := (I3 m 44)) (xup_rk e5 (by decide)) ?_
  refine x_if_gt (tgt := 51) dX13_value_34 (by decide) (fun c34 => ?_) (fun c34 => ?_)
  · replace h := h.1 c34
    refine x_iconst_ (v := (0 : Int32)) dX13_value_51 (by decide) ?_
    refine x_goto (tgt := 60) dX13_value_52 (by decide) ?_
    refine x_istore_n dX13_value_60 (by decide) ?_
    refine x_aload_n dX13_value_61 rfl ?_
    refine x_iload_n dX13_value_62 rfl ?_
    refine y_put hG hM dX13_value_63 f_X13_276_12 ⟨_, rfl, Or.inl rfl⟩ rfl rfl ⟨_, rfl⟩ (fun I6 e6 => ?_)
    replace h := h I6 e6
    refine x_iload_n dX13_value_66 rfl ?_
    exact x_iret dX13_value_67 rfl ⟨_, _, rfl, rfl, h⟩
  · replace h := h.2 c34
    refine x_aload_n dX13_value_37 rfl ?_
    refine x_get (v := .int (I5 m 46)) hG dX13_value_38 f_X13_245_12 (mo_t hM) rfl ?_
    refine x_eqi (v := (I3 m 46)) (xup_rk e5 (by decide)) ?_
    refine x_if_eq (tgt := 51) dX13_value_41 (by decide) (fun c41 => ?_) (fun c41 => ?_)
    · replace h := h.1 c41
      refine x_iconst_ (v := (0 : Int32)) dX13_value_51 (by decide) ?_
      refine x_goto (tgt := 60) dX13_value_52 (by decide) ?_
      refine x_istore_n dX13_value_60 (by decide) ?_
      refine x_aload_n dX13_value_61 rfl ?_
      refine x_iload_n dX13_value_62 rfl ?_
      refine y_put hG hM dX13_value_63 f_X13_276_12 ⟨_, rfl, Or.inl rfl⟩ rfl rfl ⟨_, rfl⟩ (fun I7 e7 => ?_)
      replace h := h I7 e7
      refine x_iload_n dX13_value_66 rfl ?_
      exact x_iret dX13_value_67 rfl ⟨_, _, rfl, rfl, h⟩
    · replace h := h.2 c41
      refine x_aload_n dX13_value_44 rfl ?_
      refine x_get (v := .int (I5 m 55)) hG dX13_value_45 f_X13_345_12 (mo_t hM) rfl ?_
      refine x_eqi (v := (I3 m 55)) (xup_rk e5 (by decide)) ?_
      refine x_if_eq (tgt := 55) dX13_value_48 (by decide) (fun c48 => ?_) (fun c48 => ?_)
      · replace h := h.1 c48
        refine x_aload_n dX13_value_55 rfl ?_
        refine x_iload_n dX13_value_56 rfl ?_
        obtain ⟨R8, g8, h⟩ := h
        refine x_callV hG (Ky := kX13_reckon) (As := [.int (I m 60)]) dX13_value_57 (mo_t hM) rfl lk_X13_371 me_X13_reckon is_X13_reckon se_X13_reckon rfl rfl (Nat.le_of_ble_eq_true rfl) (MX.post (m_X13_reckon hG hM g8) ?_)
        rintro _ _ ⟨v8, I8, rfl, rfl, h1⟩
        replace h := h v8 I8 h1
        change X _ _ _ _ (A.wI I8) _ _ (.int v8 :: _)
        refine x_istore_n dX13_value_60 (by decide) ?_
        refine x_aload_n dX13_value_61 rfl ?_
        refine x_iload_n dX13_value_62 rfl ?_
        refine y_put hG hM dX13_value_63 f_X13_276_12 ⟨_, rfl, Or.inl rfl⟩ rfl rfl ⟨_, rfl⟩ (fun I9 e9 => ?_)
        replace h := h I9 e9
        refine x_iload_n dX13_value_66 rfl ?_
        exact x_iret dX13_value_67 rfl ⟨_, _, rfl, rfl, h⟩
      · replace h := h.2 c48
        refine x_iconst_ (v := (0 : Int32)) dX13_value_51 (by decide) ?_
        refine x_goto (tgt := 60) dX13_value_52 (by decide) ?_
        refine x_istore_n dX13_value_60 (by decide) ?_
        refine x_aload_n dX13_value_61 rfl ?_
        refine x_iload_n dX13_value_62 rfl ?_
        refine y_put hG hM dX13_value_63 f_X13_276_12 ⟨_, rfl, Or.inl rfl⟩ rfl rfl ⟨_, rfl⟩ (fun I10 e10 => ?_)
        replace h := h I10 e10
        refine x_iload_n dX13_value_66 rfl ?_
        exact x_iret dX13_value_67 rfl ⟨_, _, rfl, rfl, h⟩
def w_X13_sizeHere (m : Nat) (Q : Int32 → xII → Prop) (I : xII) : Prop := vp_in (I m 42) 4002 ∧ (∃ R2 : Int32 → xII → Prop, w_X13_value m R2 I ∧ (∀ (v2 : Int32) (I2 : xII), R2 v2 I2 → (((0 < (I2 m 44) → Q (1 : Int32) I2) ∧ (¬ 0 < (I2 m 44) → (((I2 m 46) = 0 → Q (1 : Int32) I2) ∧ (¬ (I2 m 46) = 0 → (((I2 m 55) = 0 → ((v2 < (1 : Int32) → ∃ R3 : xII → Prop, w_X13_note m (10 : Int32) (I (m + 5) (ix (I m 42))) R3 I2 ∧ (∀ I3 : xII, R3 I3 → (Q (-1 : Int32) I3))) ∧ (¬ v2 < (1 : Int32) → (((500 : Int32) < v2 → ∃ R4 : xII → Prop, w_X13_note m (10 : Int32) (I (m + 5) (ix (I m 42))) R4 I2 ∧ (∀ I4 : xII, R4 I4 → (Q (-1 : Int32) I4))) ∧ (¬ (500 : Int32) < v2 → Q v2 I2))))) ∧ (¬ (I2 m 55) = 0 → Q (-1 : Int32) I2)))))))))
theorem m_X13_sizeHere (hG : xOK G) {dp : Nat} {A : xA} {m : Nat} (hM : xMo G A m) {Q : Int32 → xII → Prop} {I : xII} (h : w_X13_sizeHere m Q I) : MX G (dp + 714) kX13_sizeHere [.ref m] (A.wI I) (oI A Q) := by
  unfold w_X13_sizeHere at h
  refine MX.of rfl (Nat.le_of_ble_eq_true rfl) ?_
  change X _ _ _ _ _ _ [some (.ref m), none, none] _
  refine x_aload_n dX13_sizeHere_0 rfl ?_
  refine x_get (v := .ref (m + 5)) hG dX13_sizeHere_1 f_X13_22_12 (mo_t hM) (congrArg va_rf (mo_P6 hM)) ?_
  refine x_aload_n dX13_sizeHere_4 rfl ?_
  refine x_get (v := .int (I m 42)) hG dX13_sizeHere_5 f_X13_233_12 (mo_t hM) rfl ?_
  obtain ⟨o1, h⟩ := h
  refine y_iald hG dX13_sizeHere_8 (mo_t6 hM) (mo_n6 hM) o1 ?_
  refine x_istore_n dX13_sizeHere_9 (by decide) ?_
  refine x_aload_n dX13_sizeHere_10 rfl ?_
  obtain ⟨R2, g2, h⟩ := h
  refine x_callV hG (Ky := kX13_value) (As := []) dX13_sizeHere_11 (mo_t hM) rfl lk_X13_330 me_X13_value is_X13_value se_X13_value rfl rfl (Nat.le_of_ble_eq_true rfl) (MX.post (m_X13_value hG hM g2) ?_)
  rintro _ _ ⟨v2, I2, rfl, rfl, h1⟩
  replace h := h v2 I2 h1
  change X _ _ _ _ (A.wI I2) _ _ (.int v2 :: _)
  refine x_istore_n dX13_sizeHere_14 (by decide) ?_
  refine x_aload_n dX13_sizeHere_15 rfl ?_
  refine x_get (v := .int (I2 m 44)) hG dX13_sizeHere_16 f_X13_230_12 (mo_t hM) rfl ?_
  refine x_if_gt (tgt := 29) dX13_sizeHere_19 (by decide) (fun c19 => ?_) (fun c19 => ?_)
  · replace h := h.1 c19
    refine x_iconst_ (v := (1 : Int32)) dX13_sizeHere_29 (by decide) ?_
    exact x_iret dX13_sizeHere_30 rfl ⟨_, _, rfl, rfl, h⟩
  · replace h := h.2 c19
    refine x_aload_n dX13_sizeHere_22 rfl ?_
    refine x_get (v := .int (I2 m 46)) hG dX13_sizeHere_23 f_X13_245_12 (mo_t hM) rfl ?_
    refine x_if_ne (tgt := 31) dX13_sizeHere_26 (by decide) (fun c26 => ?_) (fun c26 => ?_)
    · replace h := h.2 c26
      refine x_aload_n dX13_sizeHere_31 rfl ?_
      refine x_get (v := .int (I2 m 55)) hG dX13_sizeHere_32 f_X13_345_12 (mo_t hM) rfl ?_
      refine x_if_eq (tgt := 40) dX13_sizeHere_35 (by decide) (fun c35 => ?_) (fun c35 => ?_)
      · replace h := h.1 c35
        refine x_iload_n dX13_sizeHere_40 rfl ?_
        refine x_iconst_ (v := (1 : Int32)) dX13_sizeHere_41 (by decide) ?_
        refine x_icmp_lt (tgt := 54) dX13_sizeHere_42 (by decide) (fun c42 => ?_) (fun c42 => ?_)
        · replace h := h.1 c42
          refine x_aload_n dX13_sizeHere_54 rfl ?_
          refine x_bipush_ (v := (10 : Int32)) dX13_sizeHere_55 (by decide) ?_
          refine x_iload_n dX13_sizeHere_57 rfl ?_
          obtain ⟨R3, g3, h⟩ := h
          refine x_callV hG (Ky := kX13_note) (As := [.int (10 : Int32), .int (I (m + 5) (ix (I m 42)))]) dX13_sizeHere_58 (mo_t hM) rfl lk_X13_352 me_X13_note is_X13_note se_X13_note rfl rfl (Nat.le_of_ble_eq_true rfl) (MX.post (m_X13_note hG hM g3) ?_)
          rintro _ _ ⟨I3, rfl, rfl, h1⟩
          replace h := h I3 h1
          change X _ _ _ _ (A.wI I3) _ _ _
          refine x_iconst_ (v := (-1 : Int32)) dX13_sizeHere_61 (by decide) ?_
          exact x_iret dX13_sizeHere_62 rfl ⟨_, _, rfl, rfl, h⟩
        · replace h := h.2 c42
          refine x_iload_n dX13_sizeHere_45 rfl ?_
          refine x_sipush_ (v := (500 : Int32)) dX13_sizeHere_46 (by decide) ?_
          refine x_icmp_gt (tgt := 54) dX13_sizeHere_49 (by decide) (fun c49 => ?_) (fun c49 => ?_)
          · replace h := h.1 c49
            refine x_aload_n dX13_sizeHere_54 rfl ?_
            refine x_bipush_ (v := (10 : Int32)) dX13_sizeHere_55 (by decide) ?_
            refine x_iload_n dX13_sizeHere_57 rfl ?_
            obtain ⟨R4, g4, h⟩ := h
            refine x_callV hG (Ky := kX13_note) (As := [.int (10 : Int32), .int (I (m + 5) (ix (I m 42)))]) dX13_sizeHere_58 (mo_t hM) rfl lk_X13_352 me_X13_note is_X13_note se_X13_note rfl rfl (Nat.le_of_ble_eq_true rfl) (MX.post (m_X13_note hG hM g4) ?_)
            rintro _ _ ⟨I4, rfl, rfl, h1⟩
            replace h := h I4 h1
            change X _ _ _ _ (A.wI I4) _ _ _
            refine x_iconst_ (v := (-1 : Int32)) dX13_sizeHere_61 (by decide) ?_
            exact x_iret dX13_sizeHere_62 rfl ⟨_, _, rfl, rfl, h⟩
          · replace h := h.2 c49
            refine x_iload_n dX13_sizeHere_52 rfl ?_
            exact x_iret dX13_sizeHere_53 rfl ⟨_, _, rfl, rfl, h⟩
      · replace h := h.2 c35
        refine x_iconst_ (v := (-1 : Int32)) dX13_sizeHere_38 (by decide) ?_
        exact x_iret dX13_sizeHere_39 rfl ⟨_, _, rfl, rfl, h⟩
    · replace h := h.1 c26
      refine x_iconst_ (v := (1 : Int32)) dX13_sizeHere_29 (by decide) ?_
      exact x_iret dX13_sizeHere_30 rfl ⟨_, _, rfl, rfl, h⟩
def w_X13_constantTold (m : Nat) (Q : Int32 → xII → Prop) (I : xII) : Prop := ∃ R1 : Int32 → xII → Prop, w_X13_name m R1 I ∧ (∀ (v1 : Int32) (I1 : xII), R1 v1 I1 → (∃ R2 : Int32 → xII → Prop, w_X13_sign m (32 : Int32) R2 I1 ∧ (∀ (v2 : Int32) (I2 : xII), (v2 = 0 ∨ v2 = 1) → R2 v2 I2 → (((v2 = 0 → Q (0 : Int32) I2) ∧ (¬ v2 = 0 → ∃ R3 : Int32 → xII → Prop, w_X13_value m R3 I2 ∧ (∀ (v3 : Int32) (I3 : xII), R3 v3 I3 → ((((I3 m 44) ≤ 0 → ∃ R4 : xII → Prop, w_X13_twice m v1 R4 I3 ∧ (∀ I4 : xII, R4 I4 → (∃ R5 : xII → Prop, w_X13_declare m v1 (0 : Int32) (0 : Int32) v3 (if (I3 m 55) = 0 then (1 : Int32) else (-1 : Int32)) (0 : Int32) R5 I4 ∧ (∀ I5 : xII, R5 I5 → (∃ R6 : Int32 → xII → Prop, w_X13_sign m (29 : Int32) R6 I5 ∧ (∀ (v6 : Int32) (I6 : xII), (v6 = 0 ∨ v6 = 1) → R6 v6 I6 → (Q v6 I6))))))) ∧ (¬ (I3 m 44) ≤ 0 → Q (0 : Int32) I3))))))))))
theorem m_X13_constantTold (hG : xOK G) {dp : Nat} {A : xA} {m : Nat} (hM : xMo G A m) {Q : Int32 → xII → Prop} {I : xII} (h : w_X13_constantTold m Q I) : MX G (dp + 714) kX13_constantTold [.ref m] (A.wI I) (oZ A Q) := by
  unfold w_X13_constantTold at h
  refine MX.of rfl (Nat.le_of_ble_eq_true rfl) ?_
  change X _ _ _ _ _ _ [some (.ref m), none, none, none] _
  refine x_aload_n dX13_constantTold_0 rfl ?_
  obtain ⟨R1, g1, h⟩ := h
  refine x_callV hG (Ky := kX13_name) (As := []) dX13_constantTold_1 (mo_t hM) rfl lk_X13_317 me_X13_name is_X13_name se_X13_name rfl rfl (Nat.le_of_ble_eq_true rfl) (MX.post (m_X13_name hG hM g1) ?_)
  rintro _ _ ⟨v1, I1, rfl, rfl, h1⟩
  replace h := h v1 I1 h1
  change X _ _ _ _ (A.wI I1) _ _ (.int v1 :: _)
  refine x_istore_n dX13_constantTold_4 (by decide) ?_
  refine x_aload_n dX13_constantTold_5 rfl ?_
  refine x_bipush_ (v := (32 : Int32)) dX13_constantTold_6 (by decide) ?_
  obtain ⟨R2, g2, h⟩ := h
  refine x_callV hG (Ky := kX13_sign) (As := [.int (32 : Int32)]) dX13_constantTold_8 (mo_t hM) rfl lk_X13_273 me_X13_sign is_X13_sign se_X13_sign rfl rfl (Nat.le_of_ble_eq_true rfl) (MX.post (m_X13_sign hG hM g2) ?_)
  rintro _ _ ⟨v2, I2, rfl, rfl, zv2, h1⟩
  replace h := h v2 I2 zv2 h1
  change X _ _ _ _ (A.wI I2) _ _ (.int v2 :: _)
  refine x_if_ne (tgt := 16) dX13_constantTold_11 (by decide) (fun c11 => ?_) (fun c11 => ?_)
  · replace h := h.2 c11
    refine x_aload_n dX13_constantTold_16 rfl ?_
    obtain ⟨R3, g3, h⟩ := h
    refine x_callV hG (Ky := kX13_value) (As := []) dX13_constantTold_17 (mo_t hM) rfl lk_X13_330 me_X13_value is_X13_value se_X13_value rfl rfl (Nat.le_of_ble_eq_true rfl) (MX.post (m_X13_value hG hM g3) ?_)
    rintro _ _ ⟨v3, I3, rfl, rfl, h1⟩
    replace h := h v3 I3 h1
    change X _ _ _ _ (A.wI I3) _ _ (.int v3 :: _)
    refine x_istore_n dX13_constantTold_20 (by decide) ?_
    refine x_aload_n dX13_constantTold_21 rfl ?_
    refine x_get (v := .int (I3 m 44)) hG dX13_constantTold_22 f_X13_230_12 (mo_t hM) rfl ?_
    refine x_if_le (tgt := 30) dX13_constantTold_25 (by decide) (fun c25 => ?_) (fun c25 => ?_)
    · replace h := h.1 c25
      refine x_aload_n dX13_constantTold_30 rfl ?_
      refine x_get (v := .int (I3 m 55)) hG dX13_constantTold_31 f_X13_345_12 (mo_t hM) rfl ?_
      refine x_istore_n dX13_constantTold_34 (by decide) ?_
      refine x_aload_n dX13_constantTold_35 rfl ?_
      refine x_iload_n dX13_constantTold_36 rfl ?_
      obtain ⟨R4, g4, h⟩ := h
      refine x_callV hG (Ky := kX13_twice) (As := [.int v1]) dX13_constantTold_37 (mo_t hM) rfl lk_X13_348 me_X13_twice is_X13_twice se_X13_twice rfl rfl (Nat.le_of_ble_eq_true rfl) (MX.post (m_X13_twice hG hM g4) ?_)
      rintro _ _ ⟨I4, rfl, rfl, h1⟩
      replace h := h I4 h1
      change X _ _ _ _ (A.wI I4) _ _ _
      refine x_aload_n dX13_constantTold_40 rfl ?_
      refine x_iload_n dX13_constantTold_41 rfl ?_
      refine x_iconst_ (v := (0 : Int32)) dX13_constantTold_42 (by decide) ?_
      refine x_iconst_ (v := (0 : Int32)) dX13_constantTold_43 (by decide) ?_
      refine x_iload_n dX13_constantTold_44 rfl ?_
      refine x_iload_n dX13_constantTold_45 rfl ?_
      refine x_via 54 (A' := (A.wI I4)) (lv' := [some (.ref m), none, none, none]) (st' := [.int (if (I3 m 55) = 0 then (1 : Int32) else (-1 : Int32)), .int v3, .int (0 : Int32), .int (0 : Int32), .int v1, .ref m]) ?_ (fun k54 => ?_)
      rotate_left
      · refine x_if_eq (tgt := 53) dX13_constantTold_46 (by decide) (fun c46 => ?_) (fun c46 => ?_)
        · refine x_iconst_ (v := (1 : Int32)) dX13_constantTold_53 (by decide) ?_
          change X _ _ _ _ _ _ [some (.ref m), some (.int v1), some (.int v3), some (.int (I3 m 55))] [.int (1 : Int32), .int v3, .int (0 : Int32), .int (0 : Int32), .int v1, .ref m]
          simp only [if_pos c46] at k54 ⊢
          exact X.weak (xle_c rfl (xle_n (xle_n (xle_n xle_nil)))) k54
        · refine x_iconst_ (v := (-1 : Int32)) dX13_constantTold_49 (by decide) ?_
          refine x_goto (tgt := 54) dX13_constantTold_50 (by decide) ?_
          change X _ _ _ _ _ _ [some (.ref m), some (.int v1), some (.int v3), some (.int (I3 m 55))] [.int (-1 : Int32), .int v3, .int (0 : Int32), .int (0 : Int32), .int v1, .ref m]
          simp only [if_neg c46] at k54 ⊢
          exact X.weak (xle_c rfl (xle_n (xle_n (xle_n xle_nil)))) k54
      refine x_iconst_ (v := (0 : Int32)) dX13_constantTold_54 (by decide) ?_
      obtain ⟨R5, g5, h⟩ := h
      refine x_callV hG (Ky := kX13_declare) (As := [.int v1, .int (0 : Int32), .int (0 : Int32), .int v3, .int (if (I3 m 55) = 0 then (1 : Int32) else (-1 : Int32)), .int (0 : Int32)]) dX13_constantTold_55 (mo_t hM) rfl lk_X13_338 me_X13_declare is_X13_declare se_X13_declare rfl rfl (Nat.le_of_ble_eq_true rfl) (MX.post (m_X13_declare hG hM g5) ?_)
      rintro _ _ ⟨I5, rfl, rfl, h1⟩
      replace h := h I5 h1
      change X _ _ _ _ (A.wI I5) _ _ _
      refine x_aload_n dX13_constantTold_58 rfl ?_
      refine x_bipush_ (v := (29 : Int32)) dX13_constantTold_59 (by decide) ?_
      obtain ⟨R6, g6, h⟩ := h
      refine x_callV hG (Ky := kX13_sign) (As := [.int (29 : Int32)]) dX13_constantTold_61 (mo_t hM) rfl lk_X13_273 me_X13_sign is_X13_sign se_X13_sign rfl rfl (Nat.le_of_ble_eq_true rfl) (MX.post (m_X13_sign hG hM g6) ?_)
      rintro _ _ ⟨v6, I6, rfl, rfl, zv6, h1⟩
      replace h := h v6 I6 zv6 h1
      change X _ _ _ _ (A.wI I6) _ _ (.int v6 :: _)
      exact x_zret dX13_constantTold_64 rfl zv6 ⟨_, _, rfl, rfl, zv6, h⟩
    · replace h := h.2 c25
      refine x_iconst_ (v := (0 : Int32)) dX13_constantTold_28 (by decide) ?_
      exact x_zret dX13_constantTold_29 rfl (by decide) ⟨_, _, rfl, rfl, (by decide), h⟩
  · replace h := h.1 c11
    refine x_iconst_ (v := (0 : Int32)) dX13_constantTold_14 (by decide) ?_
    exact x_zret dX13_constantTold_15 rfl (by decide) ⟨_, _, rfl, rfl, (by decide), h⟩
def w_X13_array (m : Nat) (n : Int32) (b : Int32) (Q : Int32 → xII → Prop) (I : xII) : Prop := ∃ R1 : xII → Prop, w_X13_twice m n R1 I ∧ (∀ I1 : xII, R1 I1 → (∃ R2 : Int32 → xII → Prop, w_X13_openSign m (24 : Int32) R2 I1 ∧ (∀ (v2 : Int32) (I2 : xII), (v2 = 0 ∨ v2 = 1) → R2 v2 I2 → (((v2 = 0 → Q (0 : Int32) I2) ∧ (¬ v2 = 0 → ∃ R3 : Int32 → xII → Prop, w_X13_sizeHere m R3 I2 ∧ (∀ (v3 : Int32) (I3 : xII), R3 v3 I3 → (∃ R4 : Int32 → xII → Prop, w_X13_closeSign m (25 : Int32) R4 I3 ∧ (∀ (v4 : Int32) (I4 : xII), (v4 = 0 ∨ v4 = 1) → R4 v4 I4 → (((v4 = 0 → Q (0 : Int32) I4) ∧ (¬ v4 = 0 → ∃ J5 : xII → Prop, (∀ (I5 : xII), J5 I5 → ∃ L6 : Nat → Int32 → xII → Prop, (∃ n6 : Nat, L6 n6 (0 : Int32) I5) ∧ (∀ (n6 : Nat) (y6_7 : Int32) (I6 : xII), L6 n6 y6_7 I6 → ∃ J7 : Prop, (J7 → ∀ I8 : xII, I8 = xup I6 m 36 ((I6 m 36) + (if v3 = (-1 : Int32) then (0 : Int32) else (if b = 0 then v3 else ((v3 + (3 : Int32)) / (4 : Int32))))) → (∃ L9 : Nat → Int32 → xII → Prop, (∃ n9 : Nat, L9 n9 (0 : Int32) I8) ∧ (∀ (n9 : Nat) (y9_8 : Int32) (I9 : xII), L9 n9 y9_8 I9 → (((if v3 = (-1 : Int32) then (0 : Int32) else (if (if (2000 : Int32) < ((I4 m 36) + (if v3 = (-1 : Int32) then (0 : Int32) else (if b = 0 then v3 else ((v3 + (3 : Int32)) / (4 : Int32))))) then (0 : Int32) else (1 : Int32)) = 0 then (0 : Int32) else v3)) ≤ y9_8 → ∀ I10 : xII, I10 = xup I9 m 37 ((I9 m 37) + (if v3 = (-1 : Int32) then (0 : Int32) else (if (if (2000 : Int32) < ((I4 m 36) + (if v3 = (-1 : Int32) then (0 : Int32) else (if b = 0 then v3 else ((v3 + (3 : Int32)) / (4 : Int32))))) then (0 : Int32) else (1 : Int32)) = 0 then (0 : Int32) else v3))) → (∃ R11 : Int32 → xII → Prop, w_X13_isSign m (32 : Int32) R11 I10 ∧ (∀ (v11 : Int32) (I11 : xII), (v11 = 0 ∨ v11 = 1) → R11 v11 I11 → (((v11 = 0 → ∃ R12 : xII → Prop, w_X13_declare m n (2 : Int32) b (I4 m 37) (if v3 = (-1 : Int32) then (1 : Int32) else v3) (0 : Int32) R12 I11 ∧ (∀ I12 : xII, R12 I12 → (Q (1 : Int32) I12))) ∧ (¬ v11 = 0 → ∀ I13 : xII, I13 = xup I11 m 42 ((I11 m 42) + (1 : Int32)) → (∃ R14 : Int32 → xII → Prop, w_X13_openSign m (26 : Int32) R14 I13 ∧ (∀ (v14 : Int32) (I14 : xII), (v14 = 0 ∨ v14 = 1) → R14 v14 I14 → (((v14 = 0 → Q (0 : Int32) I14) ∧ (¬ v14 = 0 → ∃ L15 : Nat → Int32 → Int32 → xII → Prop, (∃ n15 : Nat, L15 n15 (0 : Int32) (1 : Int32) I14) ∧ (∀ (n15 : Nat) (y15_8 : Int32) (y15_9 : Int32) (I15 : xII), L15 n15 y15_8 y15_9 I15 → ∃ J16 : Prop, (J16 → ∃ R17 : Int32 → xII → Prop, w_X13_closeSign m (27 : Int32) R17 I15 ∧ (∀ (v17 : Int32) (I17 : xII), (v17 = 0 ∨ v17 = 1) → R17 v17 I17 → (((v17 = 0 → Q (0 : Int32) I17) ∧ (¬ v17 = 0 → ∃ R18 : xII → Prop, w_X13_declare m n (2 : Int32) b (I4 m 37) (if v3 = (-1 : Int32) then (1 : Int32) else v3) (0 : Int32) R18 I17 ∧ (∀ I18 : xII, R18 I18 → (Q (1 : Int32) I18))))))) ∧ ((y15_9 = 0 → J16) ∧ (¬ y15_9 = 0 → (((I15 m 44) = 0 → vp_in (I15 m 42) 4002 ∧ (∃ R20 : Int32 → xII → Prop, w_X13_value m R20 I15 ∧ (∀ (v20 : Int32) (I20 : xII), R20 v20 I20 → (∃ J21 : xII → Prop, (∀ (I21 : xII), J21 I21 → ∃ J22 : xII → Prop, (∀ (I22 : xII), J22 I22 → ∃ J23 : Int32 → xII → Prop, (∀ (y23_s0 : Int32) (I23 : xII), J23 y23_s0 I23 → ∀ I24 : xII, I24 = xup I23 m 42 ((I23 m 42) + (if y23_s0 = 0 then (0 : Int32) else (1 : Int32))) → ((∃ q15 : Nat, q15 < n15 ∧ L15 q15 (y15_8 + (1 : Int32)) y23_s0 I24))) ∧ (((I22 m 44) = 0 → ∃ R25 : Int32 → xII → Prop, w_X13_isSign m (28 : Int32) R25 I22 ∧ (∀ (v25 : Int32) (I25 : xII), (v25 = 0 ∨ v25 = 1) → R25 v25 I25 → (((v25 = 0 → J23 (0 : Int32) I25) ∧ (¬ v25 = 0 → J23 (1 : Int32) I25))))) ∧ (¬ (I22 m 44) = 0 → J23 (0 : Int32) I22))) ∧ (((I21 m 46) ≤ 0 → J22 I21) ∧ (¬ (I21 m 46) ≤ 0 → (((if v3 = (-1 : Int32) then (0 : Int32) else (if (if (2000 : Int32) < ((I4 m 36) + (if v3 = (-1 : Int32) then (0 : Int32) else (if b = 0 then v3 else ((v3 + (3 : Int32)) / (4 : Int32))))) then (0 : Int32) else (1 : Int32)) = 0 then (0 : Int32) else v3)) ≤ y15_8 → J22 I21) ∧ (¬ (if v3 = (-1 : Int32) then (0 : Int32) else (if (if (2000 : Int32) < ((I4 m 36) + (if v3 = (-1 : Int32) then (0 : Int32) else (if b = 0 then v3 else ((v3 + (3 : Int32)) / (4 : Int32))))) then (0 : Int32) else (1 : Int32)) = 0 then (0 : Int32) else v3)) ≤ y15_8 → vp_in ((I4 m 37) + y15_8) 8008 ∧ (∀ I27 : xII, I27 = xup I21 (m + 31) (ix ((I4 m 37) + y15_8)) (if b = 0 then v20 else (v20 &&& (255 : Int32))) → (J22 I27))))))) ∧ ((v3 = (-1 : Int32) → J21 I20) ∧ (¬ v3 = (-1 : Int32) → ((y15_8 = v3 → ∃ R28 : xII → Prop, w_X13_note m (10 : Int32) (I15 (m + 5) (ix (I15 m 42))) R28 I20 ∧ (∀ I28 : xII, R28 I28 → (J21 I28))) ∧ (¬ y15_8 = v3 → J21 I20)))))))) ∧ (¬ (I15 m 44) = 0 → J16)))))))))))))))) ∧ (¬ (if v3 = (-1 : Int32) then (0 : Int32) else (if (if (2000 : Int32) < ((I4 m 36) + (if v3 = (-1 : Int32) then (0 : Int32) else (if b = 0 then v3 else ((v3 + (3 : Int32)) / (4 : Int32))))) then (0 : Int32) else (1 : Int32)) = 0 then (0 : Int32) else v3)) ≤ y9_8 → vp_in ((I9 m 37) + y9_8) 8008 ∧ (∀ I30 : xII, I30 = xup I9 (m + 31) (ix ((I9 m 37) + y9_8)) (0 : Int32) → ((∃ q9 : Nat, q9 < n9 ∧ L9 q9 (y9_8 + (1 : Int32)) I30)))))))) ∧ (((if v3 = (-1 : Int32) then (0 : Int32) else (if b = 0 then v3 else ((v3 + (3 : Int32)) / (4 : Int32)))) ≤ y6_7 → J7) ∧ (¬ (if v3 = (-1 : Int32) then (0 : Int32) else (if b = 0 then v3 else ((v3 + (3 : Int32)) / (4 : Int32)))) ≤ y6_7 → (((if (2000 : Int32) < ((I4 m 36) + (if v3 = (-1 : Int32) then (0 : Int32) else (if b = 0 then v3 else ((v3 + (3 : Int32)) / (4 : Int32))))) then (0 : Int32) else (1 : Int32)) = 0 → J7) ∧ (¬ (if (2000 : Int32) < ((I4 m 36) + (if v3 = (-1 : Int32) then (0 : Int32) else (if b = 0 then v3 else ((v3 + (3 : Int32)) / (4 : Int32))))) then (0 : Int32) else (1 : Int32)) = 0 → vp_in ((I6 m 36) + y6_7) 2001 ∧ (∀ I32 : xII, I32 = xup I6 (m + 29) (ix ((I6 m 36) + y6_7)) ((I6 m 37) + (if b = 0 then y6_7 else ((4 : Int32) * y6_7))) → ((b = 0 ∨ b = 1) ∧ (∀ I34 : xII, I34 = xup I32 (m + 30) (ix ((I6 m 36) + y6_7)) b → (∀ I35 : xII, I35 = xup I34 (m + 28) (ix ((I6 m 36) + y6_7)) (if b = 0 then (1 : Int32) else (f_J11_min (4 : Int32) (v3 - ((4 : Int32) * y6_7)))) → ((∃ q6 : Nat, q6 < n6 ∧ L6 q6 (y6_7 + (1 : Int32)) I35)))))))))))) ∧ (((if (2000 : Int32) < ((I4 m 36) + (if v3 = (-1 : Int32) then (0 : Int32) else (if b = 0 then v3 else ((v3 + (3 : Int32)) / (4 : Int32))))) then (0 : Int32) else (1 : Int32)) = 0 → vp_in n 4002 ∧ (∃ R37 : xII → Prop, w_X13_note m (11 : Int32) (I4 (m + 5) (ix n)) R37 I4 ∧ (∀ I37 : xII, R37 I37 → (J5 I37)))) ∧ (¬ (if (2000 : Int32) < ((I4 m 36) + (if v3 = (-1 : Int32) then (0 : Int32) else (if b = 0 then v3 else ((v3 + (3 : Int32)) / (4 : Int32))))) then (0 : Int32) else (1 : Int32)) = 0 → J5 I4))))))))))))))
theorem m_X13_array (hG : xOK G) {dp : Nat} {A : xA} {m : Nat} (hM : xMo G A m) {n : Int32} {b : Int32} {Q : Int32 → xII → Prop} {I : xII} (h : w_X13_array m n b Q I) : MX G (dp + 715) kX13_array [.ref m, .int n, .int b] (A.wI I) (oZ A Q) := by
  unfold w_X13_array at h
  refine MX.of rfl (Nat.le_of_ble_eq_true rfl) ?_
  change X _ _ _ _ _ _ [some (.ref m), some (.int n), some (.int b), none, none, none, none, none, none, none, none, none] _
  refine x_aload_n dX13_array_0 rfl ?_
  refine x_iload_n dX13_array_1 rfl ?_
  obtain ⟨R1, g1, h⟩ := h
  refine x_callV hG (Ky := kX13_twice) (As := [.int n]) dX13_array_2 (mo_t hM) rfl lk_X13_348 me_X13_twice is_X13_twice se_X13_twice rfl rfl (Nat.le_of_ble_eq_true rfl) (MX.post (m_X13_twice hG hM g1) ?_)
  rintro _ _ ⟨I1, rfl, rfl, h1⟩
  replace h := h I1 h1
  change X _ _ _ _ (A.wI I1) _ _ _
  refine x_aload_n dX13_array_5 rfl ?_
  refine x_bipush_ (v := (24 : Int32)) dX13_array_6 (by decide) ?_
  obtain ⟨R2, g2, h⟩ := h
  refine x_callV hG (Ky := kX13_openSign) (As := [.int (24 : Int32)]) dX13_array_8 (mo_t hM) rfl lk_X13_356 me_X13_openSign is_X13_openSign se_X13_openSign rfl rfl (Nat.le_of_ble_eq_true rfl) (MX.post (m_X13_openSign hG hM g2) ?_)
  rintro _ _ ⟨v2, I2, rfl, rfl, zv2, h1⟩
  replace h := h v2 I2 zv2 h1
  change X _ _ _ _ (A.wI I2) _ _ (.int v2 :: _)
  refine x_if_ne (tgt := 16) dX13_array_11 (by decide) (fun c11 => ?_) (fun c11 => ?_)
  · replace h := h.2 c11
    refine x_aload_n dX13_array_16 rfl ?_
    obtain ⟨R3, g3, h⟩ := h
    refine x_callV hG (Ky := kX13_sizeHere) (As := []) dX13_array_17 (mo_t hM) rfl lk_X13_359 me_X13_sizeHere is_X13_sizeHere se_X13_sizeHere rfl rfl (Nat.le_of_ble_eq_true rfl) (MX.post (m_X13_sizeHere hG hM g3) ?_)
    rintro _ _ ⟨v3, I3, rfl, rfl, h1⟩
    replace h := h v3 I3 h1
    change X _ _ _ _ (A.wI I3) _ _ (.int v3 :: _)
    refine x_istore_n dX13_array_20 (by decide) ?_
    refine x_aload_n dX13_array_21 rfl ?_
    refine x_bipush_ (v := (25 : Int32)) dX13_array_22 (by decide) ?_
    obtain ⟨R4, g4, h⟩ := h
    refine x_callV hG (Ky := kX13_closeSign) (As := [.int (25 : Int32)]) dX13_array_24 (mo_t hM) rfl lk_X13_362 me_X13_closeSign is_X13_closeSign se_X13_closeSign rfl rfl (Nat.le_of_ble_eq_true rfl) (MX.post (m_X13_closeSign hG hM g4) ?_)
    rintro _ _ ⟨v4, I4, rfl, rfl, zv4, h1⟩
    replace h := h v4 I4 zv4 h1
    change X _ _ _ _ (A.wI I4) _ _ (.int v4 :: _)
    refine x_if_ne (tgt := 32) dX13_array_27 (by decide) (fun c27 => ?_) (fun c27 => ?_)
    · replace h := h.2 c27
      refine x_aload_n dX13_array_32 rfl ?_
      refine x_get (v := .int (I4 m 37)) hG dX13_array_33 f_X13_291_12 (mo_t hM) rfl ?_
      refine x_istore dX13_array_36 (by decide) ?_
      refine x_iload_n dX13_array_38 rfl ?_
      refine x_iconst_ (v := (-1 : Int32)) dX13_array_39 (by decide) ?_
      refine x_via 60 (A' := (A.wI I4)) (lv' := [some (.ref m), some (.int n), some (.int b), some (.int v3), some (.int (I4 m 37)), none, none, none, none, none, none, none]) (st' := [.int (if v3 = (-1 : Int32) then (0 : Int32) else (if b = 0 then v3 else ((v3 + (3 : Int32)) / (4 : Int32))))]) ?_ (fun k60 => ?_)
      rotate_left
      · refine x_icmp_ne (tgt := 47) dX13_array_40 (by decide) (fun c40 => ?_) (fun c40 => ?_)
        · refine x_iload_n dX13_array_47 rfl ?_
          refine x_if_eq (tgt := 59) dX13_array_48 (by decide) (fun c48 => ?_) (fun c48 => ?_)
          · refine x_iload_n dX13_array_59 rfl ?_
            change X _ _ _ _ _ _ [some (.ref m), some (.int n), some (.int b), some (.int v3), some (.int (I4 m 37)), none, none, none, none, none, none, none] [.int v3]
            try simp only [if_neg c40] at c48 k60 ⊢
            try simp only [if_pos c48] at k60 ⊢
            exact X.weak (xle_c rfl (xle_c rfl (xle_c rfl (xle_c rfl (xle_c rfl (xle_n (xle_n (xle_n (xle_n (xle_n (xle_n (xle_n xle_nil)))))))))))) k60
          · refine x_iload_n dX13_array_51 rfl ?_
            refine x_iconst_ (v := (3 : Int32)) dX13_array_52 (by decide) ?_
            refine x_iadd dX13_array_53 ?_
            refine x_iconst_ (v := (4 : Int32)) dX13_array_54 (by decide) ?_
            refine x_idiv dX13_array_55 (by decide) ?_
            refine x_goto (tgt := 60) dX13_array_56 (by decide) ?_
            change X _ _ _ _ _ _ [some (.ref m), some (.int n), some (.int b), some (.int v3), some (.int (I4 m 37)), none, none, none, none, none, none, none] [.int ((v3 + (3 : Int32)) / (4 : Int32))]
            try simp only [if_neg c40] at c48 k60 ⊢
            try simp only [if_neg c48] at k60 ⊢
            exact X.weak (xle_c rfl (xle_c rfl (xle_c rfl (xle_c rfl (xle_c rfl (xle_n (xle_n (xle_n (xle_n (xle_n (xle_n (xle_n xle_nil)))))))))))) k60
        · refine x_iconst_ (v := (0 : Int32)) dX13_array_43 (by decide) ?_
          refine x_goto (tgt := 60) dX13_array_44 (by decide) ?_
          change X _ _ _ _ _ _ [some (.ref m), some (.int n), some (.int b), some (.int v3), some (.int (I4 m 37)), none, none, none, none, none, none, none] [.int (0 : Int32)]
          simp only [if_pos c40] at k60 ⊢
          exact X.weak (xle_c rfl (xle_c rfl (xle_c rfl (xle_c rfl (xle_c rfl (xle_n (xle_n (xle_n (xle_n (xle_n (xle_n (xle_n xle_nil)))))))))))) k60
      refine x_istore dX13_array_60 (by decide) ?_
      refine x_aload_n dX13_array_62 rfl ?_
      refine x_get (v := .int (I4 m 36)) hG dX13_array_63 f_X13_288_12 (mo_t hM) rfl ?_
      refine x_iload dX13_array_66 rfl ?_
      refine x_iadd dX13_array_68 ?_
      refine x_sipush_ (v := (2000 : Int32)) dX13_array_69 (by decide) ?_
      refine x_via 80 (A' := (A.wI I4)) (lv' := [some (.ref m), some (.int n), some (.int b), some (.int v3), some (.int (I4 m 37)), some (.int (if v3 = (-1 : Int32) then (0 : Int32) else (if b = 0 then v3 else ((v3 + (3 : Int32)) / (4 : Int32))))), none, none, none, none, none, none]) (st' := [.int (if (2000 : Int32) < ((I4 m 36) + (if v3 = (-1 : Int32) then (0 : Int32) else (if b = 0 then v3 else ((v3 + (3 : Int32)) / (4 : Int32))))) then (0 : Int32) else (1 : Int32))]) ?_ (fun k80 => ?_)
      rotate_left
      · refine x_icmp_gt (tgt := 79) dX13_array_72 (by decide) (fun c72 => ?_) (fun c72 => ?_)
        · refine x_iconst_ (v := (0 : Int32)) dX13_array_79 (by decide) ?_
          change X _ _ _ _ _ _ [some (.ref m), some (.int n), some (.int b), some (.int v3), some (.int (I4 m 37)), some (.int (if v3 = (-1 : Int32) then (0 : Int32) else (if b = 0 then v3 else ((v3 + (3 : Int32)) / (4 : Int32))))), none, none, none, none, none, none] [.int (0 : Int32)]
          simp only [if_pos c72] at k80 ⊢
          exact X.weak (xle_c rfl (xle_c rfl (xle_c rfl (xle_c rfl (xle_c rfl (xle_c rfl (xle_n (xle_n (xle_n (xle_n (xle_n (xle_n xle_nil)))))))))))) k80
        · refine x_iconst_ (v := (1 : Int32)) dX13_array_75 (by decide) ?_
          refine x_goto (tgt := 80) dX13_array_76 (by decide) ?_
          change X _ _ _ _ _ _ [some (.ref m), some (.int n), some (.int b), some (.int v3), some (.int (I4 m 37)), some (.int (if v3 = (-1 : Int32) then (0 : Int32) else (if b = 0 then v3 else ((v3 + (3 : Int32)) / (4 : Int32))))), none, none, none, none, none, none] [.int (1 : Int32)]
          simp only [if_neg c72] at k80 ⊢
          exact X.weak (xle_c rfl (xle_c rfl (xle_c rfl (xle_c rfl (xle_c rfl (xle_c rfl (xle_n (xle_n (xle_n (xle_n (xle_n (xle_n xle_nil)))))))))))) k80
      refine x_istore dX13_array_80 (by decide) ?_
      refine x_iload dX13_array_82 rfl ?_
      obtain ⟨J5, g5, h⟩ := h
      have kj5 : ∀ (I5 : xII), J5 I5 → X G (dp + 715) kX13_array (oZ A Q) (A.wI I5) 99 [some (.ref m), some (.int n), some (.int b), some (.int v3), some (.int (I4 m 37)), some (.int (if v3 = (-1 : Int32) then (0 : Int32) else (if b = 0 then v3 else ((v3 + (3 : Int32)) / (4 : Int32))))), some (.int (if (2000 : Int32) < ((I4 m 36) + (if v3 = (-1 : Int32) then (0 : Int32) else (if b = 0 then v3 else ((v3 + (3 : Int32)) / (4 : Int32))))) then (0 : Int32) else (1 : Int32))), none, none, none, none, none] [] := by
        intro I5 h
        replace h := g5 I5 h
        refine x_iconst_ (v := (0 : Int32)) dX13_array_99 (by decide) ?_
        refine x_istore dX13_array_100 (by decide) ?_
        obtain ⟨L6, ⟨n6, i6⟩, g6⟩ := h
        have kl6 : ∀ n6 : Nat, ∀ (y6_7 : Int32) (I6 : xII), L6 n6 y6_7 I6 → X G (dp + 715) kX13_array (oZ A Q) (A.wI I6) 102 [some (.ref m), some (.int n), some (.int b), some (.int v3), some (.int (I4 m 37)), some (.int (if v3 = (-1 : Int32) then (0 : Int32) else (if b = 0 then v3 else ((v3 + (3 : Int32)) / (4 : Int32))))), some (.int (if (2000 : Int32) < ((I4 m 36) + (if v3 = (-1 : Int32) then (0 : Int32) else (if b = 0 then v3 else ((v3 + (3 : Int32)) / (4 : Int32))))) then (0 : Int32) else (1 : Int32))), some (.int y6_7), none, none, none, none] [] := by
          intro n6
          induction n6 using Nat.strongRecOn with
          | ind n6 ih6 =>
            intro y6_7 I6 h
            replace h := g6 n6 y6_7 I6 h
            refine x_iload dX13_array_102 rfl ?_
            refine x_iload dX13_array_104 rfl ?_
            obtain ⟨J7, g7, h⟩ := h
            have kj7 : J7 → X G (dp + 715) kX13_array (oZ A Q) (A.wI I6) 193 [some (.ref m), some (.int n), some (.int b), some (.int v3), some (.int (I4 m 37)), some (.int (if v3 = (-1 : Int32) then (0 : Int32) else (if b = 0 then v3 else ((v3 + (3 : Int32)) / (4 : Int32))))), some (.int (if (2000 : Int32) < ((I4 m 36) + (if v3 = (-1 : Int32) then (0 : Int32) else (if b = 0 then v3 else ((v3 + (3 : Int32)) / (4 : Int32))))) then (0 : Int32) else (1 : Int32))), none, none, none, none, none] [] := by
              intro h
              replace h := g7 h
              refine x_aload_n dX13_array_193 rfl ?_
              refine x_dup dX13_array_194 rfl ?_
              refine x_get (v := .int (I6 m 36)) hG dX13_array_195 f_X13_288_12 (mo_t hM) rfl ?_
              refine x_iload dX13_array_198 rfl ?_
              refine x_iadd dX13_array_200 ?_
              refine y_put hG hM dX13_array_201 f_X13_288_12 ⟨_, rfl, Or.inl rfl⟩ rfl rfl ⟨_, rfl⟩ (fun I8 e8 => ?_)
              replace h := h I8 e8
              refine x_iload_n dX13_array_204 rfl ?_
              refine x_iconst_ (v := (-1 : Int32)) dX13_array_205 (by decide) ?_
              refine x_via 219 (A' := (A.wI I8)) (lv' := [some (.ref m), some (.int n), some (.int b), some (.int v3), some (.int (I4 m 37)), none, none, none, none, none, none, none]) (st' := [.int (if v3 = (-1 : Int32) then (0 : Int32) else (if (if (2000 : Int32) < ((I4 m 36) + (if v3 = (-1 : Int32) then (0 : Int32) else (if b = 0 then v3 else ((v3 + (3 : Int32)) / (4 : Int32))))) then (0 : Int32) else (1 : Int32)) = 0 then (0 : Int32) else v3))]) ?_ (fun k219 => ?_)
              rotate_left
              · refine x_icmp_eq (tgt := 214) dX13_array_206 (by decide) (fun c206 => ?_) (fun c206 => ?_)
                · refine x_iconst_ (v := (0 : Int32)) dX13_array_214 (by decide) ?_
                  refine x_goto (tgt := 219) dX13_array_215 (by decide) ?_
                  change X _ _ _ _ _ _ [some (.ref m), some (.int n), some (.int b), some (.int v3), some (.int (I4 m 37)), some (.int (if v3 = (-1 : Int32) then (0 : Int32) else (if b = 0 then v3 else ((v3 + (3 : Int32)) / (4 : Int32))))), some (.int (if (2000 : Int32) < ((I4 m 36) + (if v3 = (-1 : Int32) then (0 : Int32) else (if b = 0 then v3 else ((v3 + (3 : Int32)) / (4 : Int32))))) then (0 : Int32) else (1 : Int32))), none, none, none, none, none] [.int (0 : Int32)]
                  simp only [if_pos c206] at k219 ⊢
                  exact X.weak (xle_c rfl (xle_c rfl (xle_c rfl (xle_c rfl (xle_c rfl (xle_n (xle_n (xle_n (xle_n (xle_n (xle_n (xle_n xle_nil)))))))))))) k219
                · refine x_iload dX13_array_209 rfl ?_
                  refine x_if_ne (tgt := 218) dX13_array_211 (by decide) (fun c211 => ?_) (fun c211 => ?_)
                  · refine x_iload_n dX13_array_218 rfl ?_
                    change X _ _ _ _ _ _ [some (.ref m), some (.int n), some (.int b), some (.int v3), some (.int (I4 m 37)), some (.int (if v3 = (-1 : Int32) then (0 : Int32) else (if b = 0 then v3 else ((v3 + (3 : Int32)) / (4 : Int32))))), some (.int (if (2000 : Int32) < ((I4 m 36) + (if v3 = (-1 : Int32) then (0 : Int32) else (if b = 0 then v3 else ((v3 + (3 : Int32)) / (4 : Int32))))) then (0 : Int32) else (1 : Int32))), none, none, none, none, none] [.int v3]
                    try simp only [if_neg c206] at c211 k219 ⊢
                    try simp only [if_neg c211] at k219 ⊢
                    exact X.weak (xle_c rfl (xle_c rfl (xle_c rfl (xle_c rfl (xle_c rfl (xle_n (xle_n (xle_n (xle_n (xle_n (xle_n (xle_n xle_nil)))))))))))) k219
                  · refine x_iconst_ (v := (0 : Int32)) dX13_array_214 (by decide) ?_
                    refine x_goto (tgt := 219) dX13_array_215 (by decide) ?_
                    change X _ _ _ _ _ _ [some (.ref m), some (.int n), some (.int b), some (.int v3), some (.int (I4 m 37)), some (.int (if v3 = (-1 : Int32) then (0 : Int32) else (if b = 0 then v3 else ((v3 + (3 : Int32)) / (4 : Int32))))), some (.int (if (2000 : Int32) < ((I4 m 36) + (if v3 = (-1 : Int32) then (0 : Int32) else (if b = 0 then v3 else ((v3 + (3 : Int32)) / (4 : Int32))))) then (0 : Int32) else (1 : Int32))), none, none, none, none, none] [.int (0 : Int32)]
                    try simp only [if_neg c206] at c211 k219 ⊢
                    try simp only [if_pos c211] at k219 ⊢
                    exact X.weak (xle_c rfl (xle_c rfl (xle_c rfl (xle_c rfl (xle_c rfl (xle_n (xle_n (xle_n (xle_n (xle_n (xle_n (xle_n xle_nil)))))))))))) k219
              refine x_istore dX13_array_219 (by decide) ?_
              refine x_iconst_ (v := (0 : Int32)) dX13_array_221 (by decide) ?_
              refine x_istore dX13_array_222 (by decide) ?_
              obtain ⟨L9, ⟨n9, i9⟩, g9⟩ := h
              have kl9 : ∀ n9 : Nat, ∀ (y9_8 : Int32) (I9 : xII), L9 n9 y9_8 I9 → X G (dp + 715) kX13_array (oZ A Q) (A.wI I9) 224 [some (.ref m), some (.int n), some (.int b), some (.int v3), some (.int (I4 m 37)), none, none, some (.int (if v3 = (-1 : Int32) then (0 : Int32) else (if (if (2000 : Int32) < ((I4 m 36) + (if v3 = (-1 : Int32) then (0 : Int32) else (if b = 0 then v3 else ((v3 + (3 : Int32)) / (4 : Int32))))) then (0 : Int32) else (1 : Int32)) = 0 then (0 : Int32) else v3))), some (.int y9_8), none, none, none] [] := by
                intro n9
                induction n9 using Nat.strongRecOn with
                | ind n9 ih9 =>
                  intro y9_8 I9 h
                  replace h := g9 n9 y9_8 I9 h
                  refine x_iload dX13_array_224 rfl ?_
                  refine x_iload dX13_array_226 rfl ?_
                  refine x_icmp_ge (tgt := 250) dX13_array_228 (by decide) (fun c228 => ?_) (fun c228 => ?_)
                  · replace h := h.1 c228
                    refine x_aload_n dX13_array_250 rfl ?_
                    refine x_dup dX13_array_251 rfl ?_
                    refine x_get (v := .int (I9 m 37)) hG dX13_array_252 f_X13_291_12 (mo_t hM) rfl ?_
                    refine x_iload dX13_array_255 rfl ?_
                    refine x_iadd dX13_array_257 ?_
                    refine y_put hG hM dX13_array_258 f_X13_291_12 ⟨_, rfl, Or.inl rfl⟩ rfl rfl ⟨_, rfl⟩ (fun I10 e10 => ?_)
                    replace h := h I10 e10
                    refine x_aload_n dX13_array_261 rfl ?_
                    refine x_bipush_ (v := (32 : Int32)) dX13_array_262 (by decide) ?_
                    obtain ⟨R11, g11, h⟩ := h
                    refine x_callV hG (Ky := kX13_isSign) (As := [.int (32 : Int32)]) dX13_array_264 (mo_t hM) rfl lk_X13_257 me_X13_isSign is_X13_isSign se_X13_isSign rfl rfl (Nat.le_of_ble_eq_true rfl) (MX.post (m_X13_isSign hG hM g11) ?_)
                    rintro _ _ ⟨v11, I11, rfl, rfl, zv11, h1⟩
                    replace h := h v11 I11 zv11 h1
                    change X _ _ _ _ (A.wI I11) _ _ (.int v11 :: _)
                    refine x_if_eq (tgt := 443) dX13_array_267 (by decide) (fun c267 => ?_) (fun c267 => ?_)
                    · replace h := h.1 c267
                      refine x_aload_n dX13_array_443 rfl ?_
                      refine x_iload_n dX13_array_444 rfl ?_
                      refine x_iconst_ (v := (2 : Int32)) dX13_array_445 (by decide) ?_
                      refine x_iload_n dX13_array_446 rfl ?_
                      refine x_iload dX13_array_447 rfl ?_
                      refine x_iload_n dX13_array_449 rfl ?_
                      refine x_iconst_ (v := (-1 : Int32)) dX13_array_450 (by decide) ?_
                      refine x_via 459 (A' := (A.wI I11)) (lv' := [none, none, none, none, none, none, none, none, none, none, none, none]) (st' := [.int (if v3 = (-1 : Int32) then (1 : Int32) else v3), .int (I4 m 37), .int b, .int (2 : Int32), .int n, .ref m]) ?_ (fun k459 => ?_)
                      rotate_left
                      · refine x_icmp_ne (tgt := 458) dX13_array_451 (by decide) (fun c451 => ?_) (fun c451 => ?_)
                        · refine x_iload_n dX13_array_458 rfl ?_
                          change X _ _ _ _ _ _ [some (.ref m), some (.int n), some (.int b), some (.int v3), some (.int (I4 m 37)), none, none, some (.int (if v3 = (-1 : Int32) then (0 : Int32) else (if (if (2000 : Int32) < ((I4 m 36) + (if v3 = (-1 : Int32) then (0 : Int32) else (if b = 0 then v3 else ((v3 + (3 : Int32)) / (4 : Int32))))) then (0 : Int32) else (1 : Int32)) = 0 then (0 : Int32) else v3))), some (.int y9_8), none, none, none] [.int v3, .int (I4 m 37), .int b, .int (2 : Int32), .int n, .ref m]
                          simp only [if_neg c451] at k459 ⊢
                          exact X.weak (xle_n (xle_n (xle_n (xle_n (xle_n (xle_n (xle_n (xle_n (xle_n (xle_n (xle_n (xle_n xle_nil)))))))))))) k459
                        · refine x_iconst_ (v := (1 : Int32)) dX13_array_454 (by decide) ?_
                          refine x_goto (tgt := 459) dX13_array_455 (by decide) ?_
                          change X _ _ _ _ _ _ [some (.ref m), some (.int n), some (.int b), some (.int v3), some (.int (I4 m 37)), none, none, some (.int (if v3 = (-1 : Int32) then (0 : Int32) else (if (if (2000 : Int32) < ((I4 m 36) + (if v3 = (-1 : Int32) then (0 : Int32) else (if b = 0 then v3 else ((v3 + (3 : Int32)) / (4 : Int32))))) then (0 : Int32) else (1 : Int32)) = 0 then (0 : Int32) else v3))), some (.int y9_8), none, none, none] [.int (1 : Int32), .int (I4 m 37), .int b, .int (2 : Int32), .int n, .ref m]
                          simp only [if_pos c451] at k459 ⊢
                          exact X.weak (xle_n (xle_n (xle_n (xle_n (xle_n (xle_n (xle_n (xle_n (xle_n (xle_n (xle_n (xle_n xle_nil)))))))))))) k459
                      refine x_iconst_ (v := (0 : Int32)) dX13_array_459 (by decide) ?_
                      obtain ⟨R12, g12, h⟩ := h
                      refine x_callV hG (Ky := kX13_declare) (As := [.int n, .int (2 : Int32), .int b, .int (I4 m 37), .int (if v3 = (-1 : Int32) then (1 : Int32) else v3), .int (0 : Int32)]) dX13_array_460 (mo_t hM) rfl lk_X13_338 me_X13_declare is_X13_declare se_X13_declare rfl rfl (Nat.le_of_ble_eq_true rfl) (MX.post (m_X13_declare hG hM g12) ?_)
                      rintro _ _ ⟨I12, rfl, rfl, h1⟩
                      replace h := h I12 h1
                      change X _ _ _ _ (A.wI I12) _ _ _
                      refine x_iconst_ (v := (1 : Int32)) dX13_array_463 (by decide) ?_
                      exact x_zret dX13_array_464 rfl (by decide) ⟨_, _, rfl, rfl, (by decide), h⟩
                    · replace h := h.2 c267
                      refine x_aload_n dX13_array_270 rfl ?_
                      refine x_dup dX13_array_271 rfl ?_
                      refine x_get (v := .int (I11 m 42)) hG dX13_array_272 f_X13_233_12 (mo_t hM) rfl ?_
                      refine x_iconst_ (v := (1 : Int32)) dX13_array_275 (by decide) ?_
                      refine x_iadd dX13_array_276 ?_
                      refine y_put hG hM dX13_array_277 f_X13_233_12 ⟨_, rfl, Or.inl rfl⟩ rfl rfl ⟨_, rfl⟩ (fun I13 e13 => ?_)
                      replace h := h I13 e13
                      refine x_aload_n dX13_array_280 rfl ?_
                      refine x_bipush_ (v := (26 : Int32)) dX13_array_281 (by decide) ?_
                      obtain ⟨R14, g14, h⟩ := h
                      refine x_callV hG (Ky := kX13_openSign) (As := [.int (26 : Int32)]) dX13_array_283 (mo_t hM) rfl lk_X13_356 me_X13_openSign is_X13_openSign se_X13_openSign rfl rfl (Nat.le_of_ble_eq_true rfl) (MX.post (m_X13_openSign hG hM g14) ?_)
                      rintro _ _ ⟨v14, I14, rfl, rfl, zv14, h1⟩
                      replace h := h v14 I14 zv14 h1
                      change X _ _ _ _ (A.wI I14) _ _ (.int v14 :: _)
                      refine x_if_ne (tgt := 291) dX13_array_286 (by decide) (fun c286 => ?_) (fun c286 => ?_)
                      · replace h := h.2 c286
                        refine x_iconst_ (v := (0 : Int32)) dX13_array_291 (by decide) ?_
                        refine x_istore dX13_array_292 (by decide) ?_
                        refine x_iconst_ (v := (1 : Int32)) dX13_array_294 (by decide) ?_
                        refine x_istore dX13_array_295 (by decide) ?_
                        obtain ⟨L15, ⟨n15, i15⟩, g15⟩ := h
                        have kl15 : ∀ n15 : Nat, ∀ (y15_8 : Int32) (y15_9 : Int32) (I15 : xII), L15 n15 y15_8 y15_9 I15 → X G (dp + 715) kX13_array (oZ A Q) (A.wI I15) 297 [some (.ref m), some (.int n), some (.int b), some (.int v3), some (.int (I4 m 37)), none, none, some (.int (if v3 = (-1 : Int32) then (0 : Int32) else (if (if (2000 : Int32) < ((I4 m 36) + (if v3 = (-1 : Int32) then (0 : Int32) else (if b = 0 then v3 else ((v3 + (3 : Int32)) / (4 : Int32))))) then (0 : Int32) else (1 : Int32)) = 0 then (0 : Int32) else v3))), some (.int y15_8), some (.int y15_9), none, none] [] := by
                          intro n15
                          induction n15 using Nat.strongRecOn with
                          | ind n15 ih15 =>
                            intro y15_8 y15_9 I15 h
                            replace h := g15 n15 y15_8 y15_9 I15 h
                            refine x_iload dX13_array_297 rfl ?_
                            obtain ⟨J16, g16, h⟩ := h
                            have kj16 : J16 → X G (dp + 715) kX13_array (oZ A Q) (A.wI I15) 432 [some (.ref m), some (.int n), some (.int b), some (.int v3), some (.int (I4 m 37)), none, none, none, none, none, none, none] [] := by
                              intro h
                              replace h := g16 h
                              refine x_aload_n dX13_array_432 rfl ?_
                              refine x_bipush_ (v := (27 : Int32)) dX13_array_433 (by decide) ?_
                              obtain ⟨R17, g17, h⟩ := h
                              refine x_callV hG (Ky := kX13_closeSign) (As := [.int (27 : Int32)]) dX13_array_435 (mo_t hM) rfl lk_X13_362 me_X13_closeSign is_X13_closeSign se_X13_closeSign rfl rfl (Nat.le_of_ble_eq_true rfl) (MX.post (m_X13_closeSign hG hM g17) ?_)
                              rintro _ _ ⟨v17, I17, rfl, rfl, zv17, h1⟩
                              replace h := h v17 I17 zv17 h1
                              change X _ _ _ _ (A.wI I17) _ _ (.int v17 :: _)
                              refine x_if_ne (tgt := 443) dX13_array_438 (by decide) (fun c438 => ?_) (fun c438 => ?_)
                              · replace h := h.2 c438
                                refine x_aload_n dX13_array_443 rfl ?_
                                refine x_iload_n dX13_array_444 rfl ?_
                                refine x_iconst_ (v := (2 : Int32)) dX13_array_445 (by decide) ?_
                                refine x_iload_n dX13_array_446 rfl ?_
                                refine x_iload dX13_array_447 rfl ?_
                                refine x_iload_n dX13_array_449 rfl ?_
                                refine x_iconst_ (v := (-1 : Int32)) dX13_array_450 (by decide) ?_
                                refine x_via 459 (A' := (A.wI I17)) (lv' := [none, none, none, none, none, none, none, none, none, none, none, none]) (st' := [.int (if v3 = (-1 : Int32) then (1 : Int32) else v3), .int (I4 m 37), .int b, .int (2 : Int32), .int n, .ref m]) ?_ (fun k459 => ?_)
                                rotate_left
                                · refine x_icmp_ne (tgt := 458) dX13_array_451 (by decide) (fun c451 => ?_) (fun c451 => ?_)
                                  · refine x_iload_n dX13_array_458 rfl ?_
                                    change X _ _ _ _ _ _ [some (.ref m), some (.int n), some (.int b), some (.int v3), some (.int (I4 m 37)), none, none, none, none, none, none, none] [.int v3, .int (I4 m 37), .int b, .int (2 : Int32), .int n, .ref m]
                                    simp only [if_neg c451] at k459 ⊢
                                    exact X.weak (xle_n (xle_n (xle_n (xle_n (xle_n (xle_n (xle_n (xle_n (xle_n (xle_n (xle_n (xle_n xle_nil)))))))))))) k459
                                  · refine x_iconst_ (v := (1 : Int32)) dX13_array_454 (by decide) ?_
                                    refine x_goto (tgt := 459) dX13_array_455 (by decide) ?_
                                    change X _ _ _ _ _ _ [some (.ref m), some (.int n), some (.int b), some (.int v3), some (.int (I4 m 37)), none, none, none, none, none, none, none] [.int (1 : Int32), .int (I4 m 37), .int b, .int (2 : Int32), .int n, .ref m]
                                    simp only [if_pos c451] at k459 ⊢
                                    exact X.weak (xle_n (xle_n (xle_n (xle_n (xle_n (xle_n (xle_n (xle_n (xle_n (xle_n (xle_n (xle_n xle_nil)))))))))))) k459
                                refine x_iconst_ (v := (0 : Int32)) dX13_array_459 (by decide) ?_
                                obtain ⟨R18, g18, h⟩ := h
                                refine x_callV hG (Ky := kX13_declare) (As := [.int n, .int (2 : Int32), .int b, .int (I4 m 37), .int (if v3 = (-1 : Int32) then (1 : Int32) else v3), .int (0 : Int32)]) dX13_array_460 (mo_t hM) rfl lk_X13_338 me_X13_declare is_X13_declare se_X13_declare rfl rfl (Nat.le_of_ble_eq_true rfl) (MX.post (m_X13_declare hG hM g18) ?_)
                                rintro _ _ ⟨I18, rfl, rfl, h1⟩
                                replace h := h I18 h1
                                change X _ _ _ _ (A.wI I18) _ _ _
                                refine x_iconst_ (v := (1 : Int32)) dX13_array_463 (by decide) ?_
                                exact x_zret dX13_array_464 rfl (by decide) ⟨_, _, rfl, rfl, (by decide), h⟩
                              · replace h := h.1 c438
                                refine x_iconst_ (v := (0 : Int32)) dX13_array_441 (by decide) ?_
                                exact x_zret dX13_array_442 rfl (by decide) ⟨_, _, rfl, rfl, (by decide), h⟩
                            refine x_if_eq (tgt := 432) dX13_array_299 (by decide) (fun c299 => ?_) (fun c299 => ?_)
                            · replace h := h.1 c299
                              change X _ _ _ _ _ _ [some (.ref m), some (.int n), some (.int b), some (.int v3), some (.int (I4 m 37)), none, none, some (.int (if v3 = (-1 : Int32) then (0 : Int32) else (if (if (2000 : Int32) < ((I4 m 36) + (if v3 = (-1 : Int32) then (0 : Int32) else (if b = 0 then v3 else ((v3 + (3 : Int32)) / (4 : Int32))))) then (0 : Int32) else (1 : Int32)) = 0 then (0 : Int32) else v3))), some (.int y15_8), some (.int y15_9), none, none] []
                              exact X.weak (xle_c rfl (xle_c rfl (xle_c rfl (xle_c rfl (xle_c rfl (xle_n (xle_n (xle_n (xle_n (xle_n (xle_n (xle_n xle_nil)))))))))))) (kj16 h)
                            · replace h := h.2 c299
                              refine x_aload_n dX13_array_302 rfl ?_
                              refine x_get (v := .int (I15 m 44)) hG dX13_array_303 f_X13_230_12 (mo_t hM) rfl ?_
                              refine x_if_ne (tgt := 432) dX13_array_306 (by decide) (fun c306 => ?_) (fun c306 => ?_)
                              · replace h := h.2 c306
                                change X _ _ _ _ _ _ [some (.ref m), some (.int n), some (.int b), some (.int v3), some (.int (I4 m 37)), none, none, some (.int (if v3 = (-1 : Int32) then (0 : Int32) else (if (if (2000 : Int32) < ((I4 m 36) + (if v3 = (-1 : Int32) then (0 : Int32) else (if b = 0 then v3 else ((v3 + (3 : Int32)) / (4 : Int32))))) then (0 : Int32) else (1 : Int32)) = 0 then (0 : Int32) else v3))), some (.int y15_8), some (.int y15_9), none, none] []
                                exact X.weak (xle_c rfl (xle_c rfl (xle_c rfl (xle_c rfl (xle_c rfl (xle_n (xle_n (xle_n (xle_n (xle_n (xle_n (xle_n xle_nil)))))))))))) (kj16 h)
                              · replace h := h.1 c306
                                refine x_aload_n dX13_array_309 rfl ?_
                                refine x_get (v := .ref (m + 5)) hG dX13_array_310 f_X13_22_12 (mo_t hM) (congrArg va_rf (mo_P6 hM)) ?_
                                refine x_aload_n dX13_array_313 rfl ?_
                                refine x_get (v := .int (I15 m 42)) hG dX13_array_314 f_X13_233_12 (mo_t hM) rfl ?_
                                obtain ⟨o19, h⟩ := h
                                refine y_iald hG dX13_array_317 (mo_t6 hM) (mo_n6 hM) o19 ?_
                                refine x_istore dX13_array_318 (by decide) ?_
                                refine x_aload_n dX13_array_320 rfl ?_
                                obtain ⟨R20, g20, h⟩ := h
                                refine x_callV hG (Ky := kX13_value) (As := []) dX13_array_321 (mo_t hM) rfl lk_X13_330 me_X13_value is_X13_value se_X13_value rfl rfl (Nat.le_of_ble_eq_true rfl) (MX.post (m_X13_value hG hM g20) ?_)
                                rintro _ _ ⟨v20, I20, rfl, rfl, h1⟩
                                replace h := h v20 I20 h1
                                change X _ _ _ _ (A.wI I20) _ _ (.int v20 :: _)
                                refine x_istore dX13_array_324 (by decide) ?_
                                refine x_iload_n dX13_array_326 rfl ?_
                                refine x_iconst_ (v := (-1 : Int32)) dX13_array_327 (by decide) ?_
                                obtain ⟨J21, g21, h⟩ := h
                                have kj21 : ∀ (I21 : xII), J21 I21 → X G (dp + 715) kX13_array (oZ A Q) (A.wI I21) 345 [some (.ref m), some (.int n), some (.int b), some (.int v3), some (.int (I4 m 37)), none, none, some (.int (if v3 = (-1 : Int32) then (0 : Int32) else (if (if (2000 : Int32) < ((I4 m 36) + (if v3 = (-1 : Int32) then (0 : Int32) else (if b = 0 then v3 else ((v3 + (3 : Int32)) / (4 : Int32))))) then (0 : Int32) else (1 : Int32)) = 0 then (0 : Int32) else v3))), some (.int y15_8), none, none, some (.int v20)] [] := by
                                  intro I21 h
                                  replace h := g21 I21 h
                                  refine x_aload_n dX13_array_345 rfl ?_
                                  refine x_get (v := .int (I21 m 46)) hG dX13_array_346 f_X13_245_12 (mo_t hM) rfl ?_
                                  obtain ⟨J22, g22, h⟩ := h
                                  have kj22 : ∀ (I22 : xII), J22 I22 → X G (dp + 715) kX13_array (oZ A Q) (A.wI I22) 384 [some (.ref m), some (.int n), some (.int b), some (.int v3), some (.int (I4 m 37)), none, none, some (.int (if v3 = (-1 : Int32) then (0 : Int32) else (if (if (2000 : Int32) < ((I4 m 36) + (if v3 = (-1 : Int32) then (0 : Int32) else (if b = 0 then v3 else ((v3 + (3 : Int32)) / (4 : Int32))))) then (0 : Int32) else (1 : Int32)) = 0 then (0 : Int32) else v3))), some (.int y15_8), none, none, none] [] := by
                                    intro I22 h
                                    replace h := g22 I22 h
                                    refine x_iinc (v := (y15_8 + (1 : Int32))) dX13_array_384 rfl rfl (by decide) ?_
                                    refine x_aload_n dX13_array_387 rfl ?_
                                    refine x_get (v := .int (I22 m 44)) hG dX13_array_388 f_X13_230_12 (mo_t hM) rfl ?_
                                    obtain ⟨J23, g23, h⟩ := h
                                    have kj23 : ∀ (y23_s0 : Int32) (I23 : xII), J23 y23_s0 I23 → X G (dp + 715) kX13_array (oZ A Q) (A.wI I23) 408 [some (.ref m), some (.int n), some (.int b), some (.int v3), some (.int (I4 m 37)), none, none, some (.int (if v3 = (-1 : Int32) then (0 : Int32) else (if (if (2000 : Int32) < ((I4 m 36) + (if v3 = (-1 : Int32) then (0 : Int32) else (if b = 0 then v3 else ((v3 + (3 : Int32)) / (4 : Int32))))) then (0 : Int32) else (1 : Int32)) = 0 then (0 : Int32) else v3))), some (.int (y15_8 + (1 : Int32))), none, none, none] [.int y23_s0] := by
                                      intro y23_s0 I23 h
                                      replace h := g23 y23_s0 I23 h
                                      refine x_istore dX13_array_408 (by decide) ?_
                                      refine x_aload_n dX13_array_410 rfl ?_
                                      refine x_dup dX13_array_411 rfl ?_
                                      refine x_get (v := .int (I23 m 42)) hG dX13_array_412 f_X13_233_12 (mo_t hM) rfl ?_
                                      refine x_iload dX13_array_415 rfl ?_
                                      refine x_via 425 (A' := (A.wI I23)) (lv' := [some (.ref m), some (.int n), some (.int b), some (.int v3), some (.int (I4 m 37)), none, none, some (.int (if v3 = (-1 : Int32) then (0 : Int32) else (if (if (2000 : Int32) < ((I4 m 36) + (if v3 = (-1 : Int32) then (0 : Int32) else (if b = 0 then v3 else ((v3 + (3 : Int32)) / (4 : Int32))))) then (0 : Int32) else (1 : Int32)) = 0 then (0 : Int32) else v3))), some (.int (y15_8 + (1 : Int32))), some (.int y23_s0), none, none]) (st' := [.int (if y23_s0 = 0 then (0 : Int32) else (1 : Int32)), .int (I23 m 42), .ref m]) ?_ (fun k425 => ?_)
                                      rotate_left
                                      · refine x_if_eq (tgt := 424) dX13_array_417 (by decide) (fun c417 => ?_) (fun c417 => ?_)
                                        · refine x_iconst_ (v := (0 : Int32)) dX13_array_424 (by decide) ?_
                                          change X _ _ _ _ _ _ [some (.ref m), some (.int n), some (.int b), some (.int v3), some (.int (I4 m 37)), none, none, some (.int (if v3 = (-1 : Int32) then (0 : Int32) else (if (if (2000 : Int32) < ((I4 m 36) + (if v3 = (-1 : Int32) then (0 : Int32) else (if b = 0 then v3 else ((v3 + (3 : Int32)) / (4 : Int32))))) then (0 : Int32) else (1 : Int32)) = 0 then (0 : Int32) else v3))), some (.int (y15_8 + (1 : Int32))), some (.int y23_s0), none, none] [.int (0 : Int32), .int (I23 m 42), .ref m]
                                          simp only [if_pos c417] at k425 ⊢
                                          exact X.weak (xle_c rfl (xle_c rfl (xle_c rfl (xle_c rfl (xle_c rfl (xle_n (xle_n (xle_c rfl (xle_c rfl (xle_c rfl (xle_n (xle_n xle_nil)))))))))))) k425
                                        · refine x_iconst_ (v := (1 : Int32)) dX13_array_420 (by decide) ?_
                                          refine x_goto (tgt := 425) dX13_array_421 (by decide) ?_
                                          change X _ _ _ _ _ _ [some (.ref m), some (.int n), some (.int b), some (.int v3), some (.int (I4 m 37)), none, none, some (.int (if v3 = (-1 : Int32) then (0 : Int32) else (if (if (2000 : Int32) < ((I4 m 36) + (if v3 = (-1 : Int32) then (0 : Int32) else (if b = 0 then v3 else ((v3 + (3 : Int32)) / (4 : Int32))))) then (0 : Int32) else (1 : Int32)) = 0 then (0 : Int32) else v3))), some (.int (y15_8 + (1 : Int32))), some (.int y23_s0), none, none] [.int (1 : Int32), .int (I23 m 42), .ref m]
                                          simp only [if_neg c417] at k425 ⊢
                                          exact X.weak (xle_c rfl (xle_c rfl (xle_c rfl (xle_c rfl (xle_c rfl (xle_n (xle_n (xle_c rfl (xle_c rfl (xle_c rfl (xle_n (xle_n xle_nil)))))))))))) k425
                                      refine x_iadd dX13_array_425 ?_
                                      refine y_put hG hM dX13_array_426 f_X13_233_12 ⟨_, rfl, Or.inl rfl⟩ rfl rfl ⟨_, rfl⟩ (fun I24 e24 => ?_)
                                      replace h := h I24 e24
                                      refine x_goto (tgt := 297) dX13_array_429 (by decide) ?_
                                      obtain ⟨q15, l15, h⟩ := h
                                      change X _ _ _ _ _ _ [some (.ref m), some (.int n), some (.int b), some (.int v3), some (.int (I4 m 37)), none, none, some (.int (if v3 = (-1 : Int32) then (0 : Int32) else (if (if (2000 : Int32) < ((I4 m 36) + (if v3 = (-1 : Int32) then (0 : Int32) else (if b = 0 then v3 else ((v3 + (3 : Int32)) / (4 : Int32))))) then (0 : Int32) else (1 : Int32)) = 0 then (0 : Int32) else v3))), some (.int (y15_8 + (1 : Int32))), some (.int y23_s0), none, none] []
                                      exact X.weak (xle_c rfl (xle_c rfl (xle_c rfl (xle_c rfl (xle_c rfl (xle_n (xle_n (xle_c rfl (xle_c rfl (xle_c rfl (xle_n (xle_n xle_nil)))))))))))) (ih15 q15 l15 (y15_8 + (1 : Int32)) y23_s0 I24 h)
                                    refine x_if_ne (tgt := 407) dX13_array_391 (by decide) (fun c391 => ?_) (fun c391 => ?_)
                                    · replace h := h.2 c391
                                      refine x_iconst_ (v := (0 : Int32)) dX13_array_407 (by decide) ?_
                                      change X _ _ _ _ _ _ [some (.ref m), some (.int n), some (.int b), some (.int v3), some (.int (I4 m 37)), none, none, some (.int (if v3 = (-1 : Int32) then (0 : Int32) else (if (if (2000 : Int32) < ((I4 m 36) + (if v3 = (-1 : Int32) then (0 : Int32) else (if b = 0 then v3 else ((v3 + (3 : Int32)) / (4 : Int32))))) then (0 : Int32) else (1 : Int32)) = 0 then (0 : Int32) else v3))), some (.int (y15_8 + (1 : Int32))), none, none, none] [.int (0 : Int32)]
                                      exact X.weak (xle_c rfl (xle_c rfl (xle_c rfl (xle_c rfl (xle_c rfl (xle_n (xle_n (xle_c rfl (xle_c rfl (xle_n (xle_n (xle_n xle_nil)))))))))))) (kj23 (0 : Int32) I22 h)
                                    · replace h := h.1 c391
                                      refine x_aload_n dX13_array_394 rfl ?_
                                      refine x_bipush_ (v := (28 : Int32)) dX13_array_395 (by decide) ?_
                                      obtain ⟨R25, g25, h⟩ := h
                                      refine x_callV hG (Ky := kX13_isSign) (As := [.int (28 : Int32)]) dX13_array_397 (mo_t hM) rfl lk_X13_257 me_X13_isSign is_X13_isSign se_X13_isSign rfl rfl (Nat.le_of_ble_eq_true rfl) (MX.post (m_X13_isSign hG hM g25) ?_)
                                      rintro _ _ ⟨v25, I25, rfl, rfl, zv25, h1⟩
                                      replace h := h v25 I25 zv25 h1
                                      change X _ _ _ _ (A.wI I25) _ _ (.int v25 :: _)
                                      refine x_if_eq (tgt := 407) dX13_array_400 (by decide) (fun c400 => ?_) (fun c400 => ?_)
                                      · replace h := h.1 c400
                                        refine x_iconst_ (v := (0 : Int32)) dX13_array_407 (by decide) ?_
                                        change X _ _ _ _ _ _ [some (.ref m), some (.int n), some (.int b), some (.int v3), some (.int (I4 m 37)), none, none, some (.int (if v3 = (-1 : Int32) then (0 : Int32) else (if (if (2000 : Int32) < ((I4 m 36) + (if v3 = (-1 : Int32) then (0 : Int32) else (if b = 0 then v3 else ((v3 + (3 : Int32)) / (4 : Int32))))) then (0 : Int32) else (1 : Int32)) = 0 then (0 : Int32) else v3))), some (.int (y15_8 + (1 : Int32))), none, none, none] [.int (0 : Int32)]
                                        exact X.weak (xle_c rfl (xle_c rfl (xle_c rfl (xle_c rfl (xle_c rfl (xle_n (xle_n (xle_c rfl (xle_c rfl (xle_n (xle_n (xle_n xle_nil)))))))))))) (kj23 (0 : Int32) I25 h)
                                      · replace h := h.2 c400
                                        refine x_iconst_ (v := (1 : Int32)) dX13_array_403 (by decide) ?_
                                        refine x_goto (tgt := 408) dX13_array_404 (by decide) ?_
                                        change X _ _ _ _ _ _ [some (.ref m), some (.int n), some (.int b), some (.int v3), some (.int (I4 m 37)), none, none, some (.int (if v3 = (-1 : Int32) then (0 : Int32) else (if (if (2000 : Int32) < ((I4 m 36) + (if v3 = (-1 : Int32) then (0 : Int32) else (if b = 0 then v3 else ((v3 + (3 : Int32)) / (4 : Int32))))) then (0 : Int32) else (1 : Int32)) = 0 then (0 : Int32) else v3))), some (.int (y15_8 + (1 : Int32))), none, none, none] [.int (1 : Int32)]
                                        exact X.weak (xle_c rfl (xle_c rfl (xle_c rfl (xle_c rfl (xle_c rfl (xle_n (xle_n (xle_c rfl (xle_c rfl (xle_n (xle_n (xle_n xle_nil)))))))))))) (kj23 (1 : Int32) I25 h)
                                  refine x_if_le (tgt := 384) dX13_array_349 (by decide) (fun c349 => ?_) (fun c349 => ?_)
                                  · replace h := h.1 c349
                                    change X _ _ _ _ _ _ [some (.ref m), some (.int n), some (.int b), some (.int v3), some (.int (I4 m 37)), none, none, some (.int (if v3 = (-1 : Int32) then (0 : Int32) else (if (if (2000 : Int32) < ((I4 m 36) + (if v3 = (-1 : Int32) then (0 : Int32) else (if b = 0 then v3 else ((v3 + (3 : Int32)) / (4 : Int32))))) then (0 : Int32) else (1 : Int32)) = 0 then (0 : Int32) else v3))), some (.int y15_8), none, none, some (.int v20)] []
                                    exact X.weak (xle_c rfl (xle_c rfl (xle_c rfl (xle_c rfl (xle_c rfl (xle_n (xle_n (xle_c rfl (xle_c rfl (xle_n (xle_n (xle_n xle_nil)))))))))))) (kj22 I21 h)
                                  · replace h := h.2 c349
                                    refine x_iload dX13_array_352 rfl ?_
                                    refine x_iload dX13_array_354 rfl ?_
                                    refine x_icmp_ge (tgt := 384) dX13_array_356 (by decide) (fun c356 => ?_) (fun c356 => ?_)
                                    · replace h := h.1 c356
                                      change X _ _ _ _ _ _ [some (.ref m), some (.int n), some (.int b), some (.int v3), some (.int (I4 m 37)), none, none, some (.int (if v3 = (-1 : Int32) then (0 : Int32) else (if (if (2000 : Int32) < ((I4 m 36) + (if v3 = (-1 : Int32) then (0 : Int32) else (if b = 0 then v3 else ((v3 + (3 : Int32)) / (4 : Int32))))) then (0 : Int32) else (1 : Int32)) = 0 then (0 : Int32) else v3))), some (.int y15_8), none, none, some (.int v20)] []
                                      exact X.weak (xle_c rfl (xle_c rfl (xle_c rfl (xle_c rfl (xle_c rfl (xle_n (xle_n (xle_c rfl (xle_c rfl (xle_n (xle_n (xle_n xle_nil)))))))))))) (kj22 I21 h)
                                    · replace h := h.2 c356
                                      refine x_aload_n dX13_array_359 rfl ?_
                                      refine x_get (v := .ref (m + 31)) hG dX13_array_360 f_X13_101_12 (mo_t hM) (congrArg va_rf (mo_P41 hM)) ?_
                                      refine x_iload dX13_array_363 rfl ?_
                                      refine x_iload dX13_array_365 rfl ?_
                                      refine x_iadd dX13_array_367 ?_
                                      refine x_iload_n dX13_array_368 rfl ?_
                                      refine x_via 383 (A' := (A.wI I21)) (lv' := [some (.ref m), some (.int n), some (.int b), some (.int v3), some (.int (I4 m 37)), none, none, some (.int (if v3 = (-1 : Int32) then (0 : Int32) else (if (if (2000 : Int32) < ((I4 m 36) + (if v3 = (-1 : Int32) then (0 : Int32) else (if b = 0 then v3 else ((v3 + (3 : Int32)) / (4 : Int32))))) then (0 : Int32) else (1 : Int32)) = 0 then (0 : Int32) else v3))), some (.int y15_8), none, none, none]) (st' := [.int (if b = 0 then v20 else (v20 &&& (255 : Int32))), .int ((I4 m 37) + y15_8), .ref (m + 31)]) ?_ (fun k383 => ?_)
                                      rotate_left
                                      · refine x_if_eq (tgt := 381) dX13_array_369 (by decide) (fun c369 => ?_) (fun c369 => ?_)
                                        · refine x_iload dX13_array_381 rfl ?_
                                          change X _ _ _ _ _ _ [some (.ref m), some (.int n), some (.int b), some (.int v3), some (.int (I4 m 37)), none, none, some (.int (if v3 = (-1 : Int32) then (0 : Int32) else (if (if (2000 : Int32) < ((I4 m 36) + (if v3 = (-1 : Int32) then (0 : Int32) else (if b = 0 then v3 else ((v3 + (3 : Int32)) / (4 : Int32))))) then (0 : Int32) else (1 : Int32)) = 0 then (0 : Int32) else v3))), some (.int y15_8), none, none, some (.int v20)] [.int v20, .int ((I4 m 37) + y15_8), .ref (m + 31)]
                                          simp only [if_pos c369] at k383 ⊢
                                          exact X.weak (xle_c rfl (xle_c rfl (xle_c rfl (xle_c rfl (xle_c rfl (xle_n (xle_n (xle_c rfl (xle_c rfl (xle_n (xle_n (xle_n xle_nil)))))))))))) k383
                                        · refine x_iload dX13_array_372 rfl ?_
                                          refine x_sipush_ (v := (255 : Int32)) dX13_array_374 (by decide) ?_
                                          refine x_iand dX13_array_377 ?_
                                          refine x_goto (tgt := 383) dX13_array_378 (by decide) ?_
                                          change X _ _ _ _ _ _ [some (.ref m), some (.int n), some (.int b), some (.int v3), some (.int (I4 m 37)), none, none, some (.int (if v3 = (-1 : Int32) then (0 : Int32) else (if (if (2000 : Int32) < ((I4 m 36) + (if v3 = (-1 : Int32) then (0 : Int32) else (if b = 0 then v3 else ((v3 + (3 : Int32)) / (4 : Int32))))) then (0 : Int32) else (1 : Int32)) = 0 then (0 : Int32) else v3))), some (.int y15_8), none, none, some (.int v20)] [.int (v20 &&& (255 : Int32)), .int ((I4 m 37) + y15_8), .ref (m + 31)]
                                          simp only [if_neg c369] at k383 ⊢
                                          exact X.weak (xle_c rfl (xle_c rfl (xle_c rfl (xle_c rfl (xle_c rfl (xle_n (xle_n (xle_c rfl (xle_c rfl (xle_n (xle_n (xle_n xle_nil)))))))))))) k383
                                      obtain ⟨o26, h⟩ := h
                                      refine y_iast hG dX13_array_383 (mo_t41 hM) (mo_aN hM) (mo_n41 hM) o26 (fun I27 e27 => ?_)
                                      replace h := h I27 e27
                                      change X _ _ _ _ _ _ [some (.ref m), some (.int n), some (.int b), some (.int v3), some (.int (I4 m 37)), none, none, some (.int (if v3 = (-1 : Int32) then (0 : Int32) else (if (if (2000 : Int32) < ((I4 m 36) + (if v3 = (-1 : Int32) then (0 : Int32) else (if b = 0 then v3 else ((v3 + (3 : Int32)) / (4 : Int32))))) then (0 : Int32) else (1 : Int32)) = 0 then (0 : Int32) else v3))), some (.int y15_8), none, none, none] []
                                      exact X.weak (xle_c rfl (xle_c rfl (xle_c rfl (xle_c rfl (xle_c rfl (xle_n (xle_n (xle_c rfl (xle_c rfl (xle_n (xle_n (xle_n xle_nil)))))))))))) (kj22 I27 h)
                                refine x_icmp_eq (tgt := 345) dX13_array_328 (by decide) (fun c328 => ?_) (fun c328 => ?_)
                                · replace h := h.1 c328
                                  change X _ _ _ _ _ _ [some (.ref m), some (.int n), some (.int b), some (.int v3), some (.int (I4 m 37)), none, none, some (.int (if v3 = (-1 : Int32) then (0 : Int32) else (if (if (2000 : Int32) < ((I4 m 36) + (if v3 = (-1 : Int32) then (0 : Int32) else (if b = 0 then v3 else ((v3 + (3 : Int32)) / (4 : Int32))))) then (0 : Int32) else (1 : Int32)) = 0 then (0 : Int32) else v3))), some (.int y15_8), some (.int y15_9), some (.int (I15 (m + 5) (ix (I15 m 42)))), some (.int v20)] []
                                  exact X.weak (xle_c rfl (xle_c rfl (xle_c rfl (xle_c rfl (xle_c rfl (xle_n (xle_n (xle_c rfl (xle_c rfl (xle_n (xle_n (xle_c rfl xle_nil)))))))))))) (kj21 I20 h)
                                · replace h := h.2 c328
                                  refine x_iload dX13_array_331 rfl ?_
                                  refine x_iload_n dX13_array_333 rfl ?_
                                  refine x_icmp_ne (tgt := 345) dX13_array_334 (by decide) (fun c334 => ?_) (fun c334 => ?_)
                                  · replace h := h.2 c334
                                    change X _ _ _ _ _ _ [some (.ref m), some (.int n), some (.int b), some (.int v3), some (.int (I4 m 37)), none, none, some (.int (if v3 = (-1 : Int32) then (0 : Int32) else (if (if (2000 : Int32) < ((I4 m 36) + (if v3 = (-1 : Int32) then (0 : Int32) else (if b = 0 then v3 else ((v3 + (3 : Int32)) / (4 : Int32))))) then (0 : Int32) else (1 : Int32)) = 0 then (0 : Int32) else v3))), some (.int y15_8), some (.int y15_9), some (.int (I15 (m + 5) (ix (I15 m 42)))), some (.int v20)] []
                                    exact X.weak (xle_c rfl (xle_c rfl (xle_c rfl (xle_c rfl (xle_c rfl (xle_n (xle_n (xle_c rfl (xle_c rfl (xle_n (xle_n (xle_c rfl xle_nil)))))))))))) (kj21 I20 h)
                                  · replace h := h.1 c334
                                    refine x_aload_n dX13_array_337 rfl ?_
                                    refine x_bipush_ (v := (10 : Int32)) dX13_array_338 (by decide) ?_
                                    refine x_iload dX13_array_340 rfl ?_
                                    obtain ⟨R28, g28, h⟩ := h
                                    refine x_callV hG (Ky := kX13_note) (As := [.int (10 : Int32), .int (I15 (m + 5) (ix (I15 m 42)))]) dX13_array_342 (mo_t hM) rfl lk_X13_352 me_X13_note is_X13_note se_X13_note rfl rfl (Nat.le_of_ble_eq_true rfl) (MX.post (m_X13_note hG hM g28) ?_)
                                    rintro _ _ ⟨I28, rfl, rfl, h1⟩
                                    replace h := h I28 h1
                                    change X _ _ _ _ (A.wI I28) _ _ _
                                    change X _ _ _ _ _ _ [some (.ref m), some (.int n), some (.int b), some (.int v3), some (.int (I4 m 37)), none, none, some (.int (if v3 = (-1 : Int32) then (0 : Int32) else (if (if (2000 : Int32) < ((I4 m 36) + (if v3 = (-1 : Int32) then (0 : Int32) else (if b = 0 then v3 else ((v3 + (3 : Int32)) / (4 : Int32))))) then (0 : Int32) else (1 : Int32)) = 0 then (0 : Int32) else v3))), some (.int y15_8), some (.int y15_9), some (.int (I15 (m + 5) (ix (I15 m 42)))), some (.int v20)] []
                                    exact X.weak (xle_c rfl (xle_c rfl (xle_c rfl (xle_c rfl (xle_c rfl (xle_n (xle_n (xle_c rfl (xle_c rfl (xle_n (xle_n (xle_c rfl xle_nil)))))))))))) (kj21 I28 h)
                        change X _ _ _ _ _ _ [some (.ref m), some (.int n), some (.int b), some (.int v3), some (.int (I4 m 37)), none, none, some (.int (if v3 = (-1 : Int32) then (0 : Int32) else (if (if (2000 : Int32) < ((I4 m 36) + (if v3 = (-1 : Int32) then (0 : Int32) else (if b = 0 then v3 else ((v3 + (3 : Int32)) / (4 : Int32))))) then (0 : Int32) else (1 : Int32)) = 0 then (0 : Int32) else v3))), some (.int (0 : Int32)), some (.int (1 : Int32)), none, none] []
                        exact X.weak (xle_c rfl (xle_c rfl (xle_c rfl (xle_c rfl (xle_c rfl (xle_n (xle_n (xle_c rfl (xle_c rfl (xle_c rfl (xle_n (xle_n xle_nil)))))))))))) (kl15 n15 (0 : Int32) (1 : Int32) I14 i15)
                      · replace h := h.1 c286
                        refine x_iconst_ (v := (0 : Int32)) dX13_array_289 (by decide) ?_
                        exact x_zret dX13_array_290 rfl (by decide) ⟨_, _, rfl, rfl, (by decide), h⟩
                  · replace h := h.2 c228
                    refine x_aload_n dX13_array_231 rfl ?_
                    refine x_get (v := .ref (m + 31)) hG dX13_array_232 f_X13_101_12 (mo_t hM) (congrArg va_rf (mo_P41 hM)) ?_
                    refine x_aload_n dX13_array_235 rfl ?_
                    refine x_get (v := .int (I9 m 37)) hG dX13_array_236 f_X13_291_12 (mo_t hM) rfl ?_
                    refine x_iload dX13_array_239 rfl ?_
                    refine x_iadd dX13_array_241 ?_
                    refine x_iconst_ (v := (0 : Int32)) dX13_array_242 (by decide) ?_
                    obtain ⟨o29, h⟩ := h
                    refine y_iast hG dX13_array_243 (mo_t41 hM) (mo_aN hM) (mo_n41 hM) o29 (fun I30 e30 => ?_)
                    replace h := h I30 e30
                    refine x_iinc (v := (y9_8 + (1 : Int32))) dX13_array_244 rfl rfl (by decide) ?_
                    refine x_goto (tgt := 224) dX13_array_247 (by decide) ?_
                    obtain ⟨q9, l9, h⟩ := h
                    change X _ _ _ _ _ _ [some (.ref m), some (.int n), some (.int b), some (.int v3), some (.int (I4 m 37)), none, none, some (.int (if v3 = (-1 : Int32) then (0 : Int32) else (if (if (2000 : Int32) < ((I4 m 36) + (if v3 = (-1 : Int32) then (0 : Int32) else (if b = 0 then v3 else ((v3 + (3 : Int32)) / (4 : Int32))))) then (0 : Int32) else (1 : Int32)) = 0 then (0 : Int32) else v3))), some (.int (y9_8 + (1 : Int32))), none, none, none] []
                    exact X.weak (xle_c rfl (xle_c rfl (xle_c rfl (xle_c rfl (xle_c rfl (xle_n (xle_n (xle_c rfl (xle_c rfl (xle_n (xle_n (xle_n xle_nil)))))))))))) (ih9 q9 l9 (y9_8 + (1 : Int32)) I30 h)
              change X _ _ _ _ _ _ [some (.ref m), some (.int n), some (.int b), some (.int v3), some (.int (I4 m 37)), none, none, some (.int (if v3 = (-1 : Int32) then (0 : Int32) else (if (if (2000 : Int32) < ((I4 m 36) + (if v3 = (-1 : Int32) then (0 : Int32) else (if b = 0 then v3 else ((v3 + (3 : Int32)) / (4 : Int32))))) then (0 : Int32) else (1 : Int32)) = 0 then (0 : Int32) else v3))), some (.int (0 : Int32)), none, none, none] []
              exact X.weak (xle_c rfl (xle_c rfl (xle_c rfl (xle_c rfl (xle_c rfl (xle_n (xle_n (xle_c rfl (xle_c rfl (xle_n (xle_n (xle_n xle_nil)))))))))))) (kl9 n9 (0 : Int32) I8 i9)
            refine x_icmp_ge (tgt := 193) dX13_array_106 (by decide) (fun c106 => ?_) (fun c106 => ?_)
            · replace h := h.1 c106
              change X _ _ _ _ _ _ [some (.ref m), some (.int n), some (.int b), some (.int v3), some (.int (I4 m 37)), some (.int (if v3 = (-1 : Int32) then (0 : Int32) else (if b = 0 then v3 else ((v3 + (3 : Int32)) / (4 : Int32))))), some (.int (if (2000 : Int32) < ((I4 m 36) + (if v3 = (-1 : Int32) then (0 : Int32) else (if b = 0 then v3 else ((v3 + (3 : Int32)) / (4 : Int32))))) then (0 : Int32) else (1 : Int32))), some (.int y6_7), none, none, none, none] []
              exact X.weak (xle_c rfl (xle_c rfl (xle_c rfl (xle_c rfl (xle_c rfl (xle_c rfl (xle_c rfl (xle_n (xle_n (xle_n (xle_n (xle_n xle_nil)))))))))))) (kj7 h)
            · replace h := h.2 c106
              refine x_iload dX13_array_109 rfl ?_
              refine x_if_eq (tgt := 193) dX13_array_111 (by decide) (fun c111 => ?_) (fun c111 => ?_)
              · replace h := h.1 c111
                change X _ _ _ _ _ _ [some (.ref m), some (.int n), some (.int b), some (.int v3), some (.int (I4 m 37)), some (.int (if v3 = (-1 : Int32) then (0 : Int32) else (if b = 0 then v3 else ((v3 + (3 : Int32)) / (4 : Int32))))), some (.int (if (2000 : Int32) < ((I4 m 36) + (if v3 = (-1 : Int32) then (0 : Int32) else (if b = 0 then v3 else ((v3 + (3 : Int32)) / (4 : Int32))))) then (0 : Int32) else (1 : Int32))), some (.int y6_7), none, none, none, none] []
                exact X.weak (xle_c rfl (xle_c rfl (xle_c rfl (xle_c rfl (xle_c rfl (xle_c rfl (xle_c rfl (xle_n (xle_n (xle_n (xle_n (xle_n xle_nil)))))))))))) (kj7 h)
              · replace h := h.2 c111
                refine x_aload_n dX13_array_114 rfl ?_
                refine x_get (v := .ref (m + 29)) hG dX13_array_115 f_X13_95_12 (mo_t hM) (congrArg va_rf (mo_P39 hM)) ?_
                refine x_aload_n dX13_array_118 rfl ?_
                refine x_get (v := .int (I6 m 36)) hG dX13_array_119 f_X13_288_12 (mo_t hM) rfl ?_
                refine x_iload dX13_array_122 rfl ?_
                refine x_iadd dX13_array_124 ?_
                refine x_aload_n dX13_array_125 rfl ?_
                refine x_get (v := .int (I6 m 37)) hG dX13_array_126 f_X13_291_12 (mo_t hM) rfl ?_
                refine x_iload_n dX13_array_129 rfl ?_
                refine x_via 142 (A' := (A.wI I6)) (lv' := [some (.ref m), some (.int n), some (.int b), some (.int v3), some (.int (I4 m 37)), some (.int (if v3 = (-1 : Int32) then (0 : Int32) else (if b = 0 then v3 else ((v3 + (3 : Int32)) / (4 : Int32))))), some (.int (if (2000 : Int32) < ((I4 m 36) + (if v3 = (-1 : Int32) then (0 : Int32) else (if b = 0 then v3 else ((v3 + (3 : Int32)) / (4 : Int32))))) then (0 : Int32) else (1 : Int32))), some (.int y6_7), none, none, none, none]) (st' := [.int (if b = 0 then y6_7 else ((4 : Int32) * y6_7)), .int (I6 m 37), .int ((I6 m 36) + y6_7), .ref (m + 29)]) ?_ (fun k142 => ?_)
                rotate_left
                · refine x_if_eq (tgt := 140) dX13_array_130 (by decide) (fun c130 => ?_) (fun c130 => ?_)
                  · refine x_iload dX13_array_140 rfl ?_
                    change X _ _ _ _ _ _ [some (.ref m), some (.int n), some (.int b), some (.int v3), some (.int (I4 m 37)), some (.int (if v3 = (-1 : Int32) then (0 : Int32) else (if b = 0 then v3 else ((v3 + (3 : Int32)) / (4 : Int32))))), some (.int (if (2000 : Int32) < ((I4 m 36) + (if v3 = (-1 : Int32) then (0 : Int32) else (if b = 0 then v3 else ((v3 + (3 : Int32)) / (4 : Int32))))) then (0 : Int32) else (1 : Int32))), some (.int y6_7), none, none, none, none] [.int y6_7, .int (I6 m 37), .int ((I6 m 36) + y6_7), .ref (m + 29)]
                    simp only [if_pos c130] at k142 ⊢
                    exact X.weak (xle_c rfl (xle_c rfl (xle_c rfl (xle_c rfl (xle_c rfl (xle_c rfl (xle_c rfl (xle_c rfl (xle_n (xle_n (xle_n (xle_n xle_nil)))))))))))) k142
                  · refine x_iconst_ (v := (4 : Int32)) dX13_array_133 (by decide) ?_
                    refine x_iload dX13_array_134 rfl ?_
                    refine x_imul dX13_array_136 ?_
                    refine x_goto (tgt := 142) dX13_array_137 (by decide) ?_
                    change X _ _ _ _ _ _ [some (.ref m), some (.int n), some (.int b), some (.int v3), some (.int (I4 m 37)), some (.int (if v3 = (-1 : Int32) then (0 : Int32) else (if b = 0 then v3 else ((v3 + (3 : Int32)) / (4 : Int32))))), some (.int (if (2000 : Int32) < ((I4 m 36) + (if v3 = (-1 : Int32) then (0 : Int32) else (if b = 0 then v3 else ((v3 + (3 : Int32)) / (4 : Int32))))) then (0 : Int32) else (1 : Int32))), some (.int y6_7), none, none, none, none] [.int ((4 : Int32) * y6_7), .int (I6 m 37), .int ((I6 m 36) + y6_7), .ref (m + 29)]
                    simp only [if_neg c130] at k142 ⊢
                    exact X.weak (xle_c rfl (xle_c rfl (xle_c rfl (xle_c rfl (xle_c rfl (xle_c rfl (xle_c rfl (xle_c rfl (xle_n (xle_n (xle_n (xle_n xle_nil)))))))))))) k142
                refine x_iadd dX13_array_142 ?_
                obtain ⟨o31, h⟩ := h
                refine y_iast hG dX13_array_143 (mo_t39 hM) (mo_aN hM) (mo_n39 hM) o31 (fun I32 e32 => ?_)
                replace h := h I32 e32
                refine x_aload_n dX13_array_144 rfl ?_
                refine x_get (v := .ref (m + 30)) hG dX13_array_145 f_X13_98_12 (mo_t hM) (congrArg va_rf (mo_P40 hM)) ?_
                refine x_aload_n dX13_array_148 rfl ?_
                refine x_get (v := .int (I32 m 36)) hG dX13_array_149 f_X13_288_12 (mo_t hM) rfl ?_
                refine x_eqi (v := (I6 m 36)) (xup_ra e32 (by omega)) ?_
                refine x_iload dX13_array_152 rfl ?_
                refine x_iadd dX13_array_154 ?_
                refine x_iload_n dX13_array_155 rfl ?_
                obtain ⟨o33, h⟩ := h
                refine y_zast hG dX13_array_156 (mo_t40 hM) (mo_aN hM) (mo_n40 hM) o31 o33 (fun I34 e34 => ?_)
                replace h := h I34 e34
                refine x_aload_n dX13_array_157 rfl ?_
                refine x_get (v := .ref (m + 28)) hG dX13_array_158 f_X13_92_12 (mo_t hM) (congrArg va_rf (mo_P38 hM)) ?_
                refine x_aload_n dX13_array_161 rfl ?_
                refine x_get (v := .int (I34 m 36)) hG dX13_array_162 f_X13_288_12 (mo_t hM) rfl ?_
                refine x_eqi (v := (I6 m 36)) ((xup_ra e34 (by omega)).trans (xup_ra e32 (by omega))) ?_
                refine x_iload dX13_array_165 rfl ?_
                refine x_iadd dX13_array_167 ?_
                refine x_iload_n dX13_array_168 rfl ?_
                refine x_via 186 (A' := (A.wI I34)) (lv' := [some (.ref m), some (.int n), some (.int b), some (.int v3), some (.int (I4 m 37)), some (.int (if v3 = (-1 : Int32) then (0 : Int32) else (if b = 0 then v3 else ((v3 + (3 : Int32)) / (4 : Int32))))), some (.int (if (2000 : Int32) < ((I4 m 36) + (if v3 = (-1 : Int32) then (0 : Int32) else (if b = 0 then v3 else ((v3 + (3 : Int32)) / (4 : Int32))))) then (0 : Int32) else (1 : Int32))), some (.int y6_7), none, none, none, none]) (st' := [.int (if b = 0 then (1 : Int32) else (f_J11_min (4 : Int32) (v3 - ((4 : Int32) * y6_7)))), .int ((I6 m 36) + y6_7), .ref (m + 28)]) ?_ (fun k186 => ?_)
                rotate_left
                · refine x_if_eq (tgt := 185) dX13_array_169 (by decide) (fun c169 => ?_) (fun c169 => ?_)
                  · refine x_iconst_ (v := (1 : Int32)) dX13_array_185 (by decide) ?_
                    change X _ _ _ _ _ _ [some (.ref m), some (.int n), some (.int b), some (.int v3), some (.int (I4 m 37)), some (.int (if v3 = (-1 : Int32) then (0 : Int32) else (if b = 0 then v3 else ((v3 + (3 : Int32)) / (4 : Int32))))), some (.int (if (2000 : Int32) < ((I4 m 36) + (if v3 = (-1 : Int32) then (0 : Int32) else (if b = 0 then v3 else ((v3 + (3 : Int32)) / (4 : Int32))))) then (0 : Int32) else (1 : Int32))), some (.int y6_7), none, none, none, none] [.int (1 : Int32), .int ((I6 m 36) + y6_7), .ref (m + 28)]
                    simp only [if_pos c169] at k186 ⊢
                    exact X.weak (xle_c rfl (xle_c rfl (xle_c rfl (xle_c rfl (xle_c rfl (xle_c rfl (xle_c rfl (xle_c rfl (xle_n (xle_n (xle_n (xle_n xle_nil)))))))))))) k186
                  · refine x_iconst_ (v := (4 : Int32)) dX13_array_172 (by decide) ?_
                    refine x_iload_n dX13_array_173 rfl ?_
                    refine x_iconst_ (v := (4 : Int32)) dX13_array_174 (by decide) ?_
                    refine x_iload dX13_array_175 rfl ?_
                    refine x_imul dX13_array_177 ?_
                    refine x_isub dX13_array_178 ?_
                    refine x_callS hG (Ky := kJ11_min) (As := [.int (4 : Int32), .int (v3 - ((4 : Int32) * y6_7))]) dX13_array_179 lk_X13_333 me_J11_min st_J11_min rfl rfl (Nat.le_of_ble_eq_true rfl) (MX.post (m_J11_min hG) ?_)
                    rintro _ _ ⟨rfl, rfl⟩
                    change X _ _ _ _ _ _ _ (.int (f_J11_min (4 : Int32) (v3 - ((4 : Int32) * y6_7))) :: _)
                    refine x_goto (tgt := 186) dX13_array_182 (by decide) ?_
                    change X _ _ _ _ _ _ [some (.ref m), some (.int n), some (.int b), some (.int v3), some (.int (I4 m 37)), some (.int (if v3 = (-1 : Int32) then (0 : Int32) else (if b = 0 then v3 else ((v3 + (3 : Int32)) / (4 : Int32))))), some (.int (if (2000 : Int32) < ((I4 m 36) + (if v3 = (-1 : Int32) then (0 : Int32) else (if b = 0 then v3 else ((v3 + (3 : Int32)) / (4 : Int32))))) then (0 : Int32) else (1 : Int32))), some (.int y6_7), none, none, none, none] [.int (f_J11_min (4 : Int32) (v3 - ((4 : Int32) * y6_7))), .int ((I6 m 36) + y6_7), .ref (m + 28)]
                    simp only [if_neg c169] at k186 ⊢
                    exact X.weak (xle_c rfl (xle_c rfl (xle_c rfl (xle_c rfl (xle_c rfl (xle_c rfl (xle_c rfl (xle_c rfl (xle_n (xle_n (xle_n (xle_n xle_nil)))))))))))) k186
                refine y_iast hG dX13_array_186 (mo_t38 hM) (mo_aN hM) (mo_n38 hM) o31 (fun I35 e35 => ?_)
                replace h := h I35 e35
                refine x_iinc (v := (y6_7 + (1 : Int32))) dX13_array_187 rfl rfl (by decide) ?_
                refine x_goto (tgt := 102) dX13_array_190 (by decide) ?_
                obtain ⟨q6, l6, h⟩ := h
                change X _ _ _ _ _ _ [some (.ref m), some (.int n), some (.int b), some (.int v3), some (.int (I4 m 37)), some (.int (if v3 = (-1 : Int32) then (0 : Int32) else (if b = 0 then v3 else ((v3 + (3 : Int32)) / (4 : Int32))))), some (.int (if (2000 : Int32) < ((I4 m 36) + (if v3 = (-1 : Int32) then (0 : Int32) else (if b = 0 then v3 else ((v3 + (3 : Int32)) / (4 : Int32))))) then (0 : Int32) else (1 : Int32))), some (.int (y6_7 + (1 : Int32))), none, none, none, none] []
                exact X.weak (xle_c rfl (xle_c rfl (xle_c rfl (xle_c rfl (xle_c rfl (xle_c rfl (xle_c rfl (xle_c rfl (xle_n (xle_n (xle_n (xle_n xle_nil)))))))))))) (ih6 q6 l6 (y6_7 + (1 : Int32)) I35 h)
        change X _ _ _ _ _ _ [some (.ref m), some (.int n), some (.int b), some (.int v3), some (.int (I4 m 37)), some (.int (if v3 = (-1 : Int32) then (0 : Int32) else (if b = 0 then v3 else ((v3 + (3 : Int32)) / (4 : Int32))))), some (.int (if (2000 : Int32) < ((I4 m 36) + (if v3 = (-1 : Int32) then (0 : Int32) else (if b = 0 then v3 else ((v3 + (3 : Int32)) / (4 : Int32))))) then (0 : Int32) else (1 : Int32))), some (.int (0 : Int32)), none, none, none, none] []
        exact X.weak (xle_c rfl (xle_c rfl (xle_c rfl (xle_c rfl (xle_c rfl (xle_c rfl (xle_c rfl (xle_c rfl (xle_n (xle_n (xle_n (xle_n xle_nil)))))))))))) (kl6 n6 (0 : Int32) I5 i6)
      refine x_if_ne (tgt := 99) dX13_array_84 (by decide) (fun c84 => ?_) (fun c84 => ?_)
      · replace h := h.2 c84
        change X _ _ _ _ _ _ [some (.ref m), some (.int n), some (.int b), some (.int v3), some (.int (I4 m 37)), some (.int (if v3 = (-1 : Int32) then (0 : Int32) else (if b = 0 then v3 else ((v3 + (3 : Int32)) / (4 : Int32))))), some (.int (if (2000 : Int32) < ((I4 m 36) + (if v3 = (-1 : Int32) then (0 : Int32) else (if b = 0 then v3 else ((v3 + (3 : Int32)) / (4 : Int32))))) then (0 : Int32) else (1 : Int32))), none, none, none, none, none] []
        exact X.weak (xle_c rfl (xle_c rfl (xle_c rfl (xle_c rfl (xle_c rfl (xle_c rfl (xle_c rfl (xle_n (xle_n (xle_n (xle_n (xle_n xle_nil)))))))))))) (kj5 I4 h)
      · replace h := h.1 c84
        refine x_aload_n dX13_array_87 rfl ?_
        refine x_bipush_ (v := (11 : Int32)) dX13_array_88 (by decide) ?_
        refine x_aload_n dX13_array_90 rfl ?_
        refine x_get (v := .ref (m + 5)) hG dX13_array_91 f_X13_22_12 (mo_t hM) (congrArg va_rf (mo_P6 hM)) ?_
        refine x_iload_n dX13_array_94 rfl ?_
        obtain ⟨o36, h⟩ := h
        refine y_iald hG dX13_array_95 (mo_t6 hM) (mo_n6 hM) o36 ?_
        obtain ⟨R37, g37, h⟩ := h
        refine x_callV hG (Ky := kX13_note) (As := [.int (11 : Int32), .int (I4 (m + 5) (ix n))]) dX13_array_96 (mo_t hM) rfl lk_X13_352 me_X13_note is_X13_note se_X13_note rfl rfl (Nat.le_of_ble_eq_true rfl) (MX.post (m_X13_note hG hM g37) ?_)
        rintro _ _ ⟨I37, rfl, rfl, h1⟩
        replace h := h I37 h1
        change X _ _ _ _ (A.wI I37) _ _ _
        change X _ _ _ _ _ _ [some (.ref m), some (.int n), some (.int b), some (.int v3), some (.int (I4 m 37)), some (.int (if v3 = (-1 : Int32) then (0 : Int32) else (if b = 0 then v3 else ((v3 + (3 : Int32)) / (4 : Int32))))), some (.int (if (2000 : Int32) < ((I4 m 36) + (if v3 = (-1 : Int32) then (0 : Int32) else (if b = 0 then v3 else ((v3 + (3 : Int32)) / (4 : Int32))))) then (0 : Int32) else (1 : Int32))), none, none, none, none, none] []
        exact X.weak (xle_c rfl (xle_c rfl (xle_c rfl (xle_c rfl (xle_c rfl (xle_c rfl (xle_c rfl (xle_n (xle_n (xle_n (xle_n (xle_n xle_nil)))))))))))) (kj5 I37 h)
    · replace h := h.1 c27
      refine x_iconst_ (v := (0 : Int32)) dX13_array_30 (by decide) ?_
      exact x_zret dX13_array_31 rfl (by decide) ⟨_, _, rfl, rfl, (by decide), h⟩
  · replace h := h.1 c11
    refine x_iconst_ (v := (0 : Int32)) dX13_array_14 (by decide) ?_
    exact x_zret dX13_array_15 rfl (by decide) ⟨_, _, rfl, rfl, (by decide), h⟩
def w_X13_formalHere (m : Nat) (n : Int32) (Q : Int32 → xII → Prop) (I : xII) : Prop := ∃ R1 : Int32 → xII → Prop, w_X13_isWord m (1 : Int32) R1 I ∧ (∀ (v1 : Int32) (I1 : xII), (v1 = 0 ∨ v1 = 1) → R1 v1 I1 → (((v1 = 0 → ∃ R12 : Int32 → xII → Prop, w_X13_isWord m (0 : Int32) R12 I1 ∧ (∀ (v12 : Int32) (I12 : xII), (v12 = 0 ∨ v12 = 1) → R12 v12 I12 → (((v12 = 0 → ∃ R26 : Int32 → xII → Prop, w_X13_fails m (2 : Int32) R26 I12 ∧ (∀ (v26 : Int32) (I26 : xII), (v26 = 0 ∨ v26 = 1) → R26 v26 I26 → (Q (0 : Int32) I26))) ∧ (¬ v12 = 0 → ∀ I13 : xII, I13 = xup I12 m 42 ((I12 m 42) + (1 : Int32)) → (∃ R14 : Int32 → xII → Prop, w_X13_name m R14 I13 ∧ (∀ (v14 : Int32) (I14 : xII), R14 v14 I14 → ((((I14 m 44) ≤ 0 → ∃ R15 : xII → Prop, w_X13_twice m v14 R15 I14 ∧ (∀ I15 : xII, R15 I15 → (∃ J16 : xII → Prop, (∀ (I16 : xII), J16 I16 → ∃ R17 : Int32 → xII → Prop, w_X13_isSign m (24 : Int32) R17 I16 ∧ (∀ (v17 : Int32) (I17 : xII), (v17 = 0 ∨ v17 = 1) → R17 v17 I17 → ((((if v17 = 0 then (0 : Int32) else (1 : Int32)) = 0 → ∃ R18 : xII → Prop, w_X13_declare m v14 (1 : Int32) v1 (I17 m 53) (1 : Int32) (1 : Int32) R18 I17 ∧ (∀ I18 : xII, R18 I18 → (∀ I19 : xII, I19 = xup I18 m 53 ((I18 m 53) + (1 : Int32)) → (Q (0 : Int32) I19)))) ∧ (¬ (if v17 = 0 then (0 : Int32) else (1 : Int32)) = 0 → ∃ R20 : Int32 → xII → Prop, w_X13_openSign m (24 : Int32) R20 I17 ∧ (∀ (v20 : Int32) (I20 : xII), (v20 = 0 ∨ v20 = 1) → R20 v20 I20 → (((v20 = 0 → Q (0 : Int32) I20) ∧ (¬ v20 = 0 → ∃ R21 : Int32 → xII → Prop, w_X13_closeSign m (25 : Int32) R21 I20 ∧ (∀ (v21 : Int32) (I21 : xII), (v21 = 0 ∨ v21 = 1) → R21 v21 I21 → (((v21 = 0 → Q (0 : Int32) I21) ∧ (¬ v21 = 0 → ∃ R22 : xII → Prop, w_X13_declare m v14 (2 : Int32) v1 (I21 m 53) (-1 : Int32) (1 : Int32) R22 I21 ∧ (∀ I22 : xII, R22 I22 → (∀ I23 : xII, I23 = xup I22 m 53 ((I22 m 53) + (2 : Int32)) → (Q (1 : Int32) I23)))))))))))))))) ∧ ((n = (4 : Int32) → vp_in v14 4002 ∧ (∃ R25 : xII → Prop, w_X13_note m (11 : Int32) (I15 (m + 5) (ix v14)) R25 I15 ∧ (∀ I25 : xII, R25 I25 → (J16 I25)))) ∧ (¬ n = (4 : Int32) → J16 I15))))) ∧ (¬ (I14 m 44) ≤ 0 → Q (0 : Int32) I14)))))))))) ∧ (¬ v1 = 0 → ∀ I2 : xII, I2 = xup I1 m 42 ((I1 m 42) + (1 : Int32)) → (∃ R3 : Int32 → xII → Prop, w_X13_name m R3 I2 ∧ (∀ (v3 : Int32) (I3 : xII), R3 v3 I3 → ((((I3 m 44) ≤ 0 → ∃ R4 : xII → Prop, w_X13_twice m v3 R4 I3 ∧ (∀ I4 : xII, R4 I4 → (∃ J5 : xII → Prop, (∀ (I5 : xII), J5 I5 → ∃ R6 : Int32 → xII → Prop, w_X13_openSign m (24 : Int32) R6 I5 ∧ (∀ (v6 : Int32) (I6 : xII), (v6 = 0 ∨ v6 = 1) → R6 v6 I6 → (((v6 = 0 → Q (0 : Int32) I6) ∧ (¬ v6 = 0 → ∃ R7 : Int32 → xII → Prop, w_X13_closeSign m (25 : Int32) R7 I6 ∧ (∀ (v7 : Int32) (I7 : xII), (v7 = 0 ∨ v7 = 1) → R7 v7 I7 → (((v7 = 0 → Q (0 : Int32) I7) ∧ (¬ v7 = 0 → ∃ R8 : xII → Prop, w_X13_declare m v3 (2 : Int32) v1 (I7 m 53) (-1 : Int32) (1 : Int32) R8 I7 ∧ (∀ I8 : xII, R8 I8 → (∀ I9 : xII, I9 = xup I8 m 53 ((I8 m 53) + (2 : Int32)) → (Q (2 : Int32) I9)))))))))))) ∧ ((n = (4 : Int32) → vp_in v3 4002 ∧ (∃ R11 : xII → Prop, w_X13_note m (11 : Int32) (I4 (m + 5) (ix v3)) R11 I4 ∧ (∀ I11 : xII, R11 I11 → (J5 I11)))) ∧ (¬ n = (4 : Int32) → J5 I4))))) ∧ (¬ (I3 m 44) ≤ 0 → Q (0 : Int32) I3)))))))))
theorem m_X13_formalHere (hG : xOK G) {dp : Nat} {A : xA} {m : Nat} (hM : xMo G A m) {n : Int32} {Q : Int32 → xII → Prop} {I : xII} (h : w_X13_formalHere m n Q I) : MX G (dp + 3) kX13_formalHere [.ref m, .int n] (A.wI I) (oI A Q) := by
  unfold w_X13_formalHere at h
  refine MX.of rfl (Nat.le_of_ble_eq_true rfl) ?_
  change X _ _ _ _ _ _ [some (.ref m), some (.int n), none, none, none] _
  refine x_aload_n dX13_formalHere_0 rfl ?_
  refine x_iconst_ (v := (1 : Int32)) dX13_formalHere_1 (by decide) ?_
  obtain ⟨R1, g1, h⟩ := h
  refine x_callV hG (Ky := kX13_isWord) (As := [.int (1 : Int32)]) dX13_formalHere_2 (mo_t hM) rfl lk_X13_263 me_X13_isWord is_X13_isWord se_X13_isWord rfl rfl (Nat.le_of_ble_eq_true rfl) (MX.post (m_X13_isWord hG hM g1) ?_)
  rintro _ _ ⟨v1, I1, rfl, rfl, zv1, h1⟩
  replace h := h v1 I1 zv1 h1
  change X _ _ _ _ (A.wI I1) _ _ (.int v1 :: _)
  refine x_istore_n dX13_formalHere_5 (by decide) ?_
  refine x_iload_n dX13_formalHere_6 rfl ?_
  refine x_if_ne (tgt := 26) dX13_formalHere_7 (by decide) (fun c7 => ?_) (fun c7 => ?_)
  · replace h := h.2 c7
    refine x_aload_n dX13_formalHere_26 rfl ?_
    refine x_dup dX13_formalHere_27 rfl ?_
    refine x_get (v := .int (I1 m 42)) hG dX13_formalHere_28 f_X13_233_12 (mo_t hM) rfl ?_
    refine x_iconst_ (v := (1 : Int32)) dX13_formalHere_31 (by decide) ?_
    refine x_iadd dX13_formalHere_32 ?_
    refine y_put hG hM dX13_formalHere_33 f_X13_233_12 ⟨_, rfl, Or.inl rfl⟩ rfl rfl ⟨_, rfl⟩ (fun I2 e2 => ?_)
    replace h := h I2 e2
    refine x_aload_n dX13_formalHere_36 rfl ?_
    obtain ⟨R3, g3, h⟩ := h
    refine x_callV hG (Ky := kX13_name) (As := []) dX13_formalHere_37 (mo_t hM) rfl lk_X13_317 me_X13_name is_X13_name se_X13_name rfl rfl (Nat.le_of_ble_eq_true rfl) (MX.post (m_X13_name hG hM g3) ?_)
    rintro _ _ ⟨v3, I3, rfl, rfl, h1⟩
    replace h := h v3 I3 h1
    change X _ _ _ _ (A.wI I3) _ _ (.int v3 :: _)
    refine x_istore_n dX13_formalHere_40 (by decide) ?_
    refine x_aload_n dX13_formalHere_41 rfl ?_
    refine x_get (v := .int (I3 m 44)) hG dX13_formalHere_42 f_X13_230_12 (mo_t hM) rfl ?_
    refine x_if_le (tgt := 50) dX13_formalHere_45 (by decide) (fun c45 => ?_) (fun c45 => ?_)
    · replace h := h.1 c45
      refine x_aload_n dX13_formalHere_50 rfl ?_
      refine x_iload_n dX13_formalHere_51 rfl ?_
      obtain ⟨R4, g4, h⟩ := h
      refine x_callV hG (Ky := kX13_twice) (As := [.int v3]) dX13_formalHere_52 (mo_t hM) rfl lk_X13_348 me_X13_twice is_X13_twice se_X13_twice rfl rfl (Nat.le_of_ble_eq_true rfl) (MX.post (m_X13_twice hG hM g4) ?_)
      rintro _ _ ⟨I4, rfl, rfl, h1⟩
      replace h := h I4 h1
      change X _ _ _ _ (A.wI I4) _ _ _
      refine x_iload_n dX13_formalHere_55 rfl ?_
      refine x_iconst_ (v := (4 : Int32)) dX13_formalHere_56 (by decide) ?_
      obtain ⟨J5, g5, h⟩ := h
      have kj5 : ∀ (I5 : xII), J5 I5 → X G (dp + 3) kX13_formalHere (oI A Q) (A.wI I5) 72 [some (.ref m), none, some (.int v1), some (.int v3), none] [] := by
        intro I5 h
        replace h := g5 I5 h
        refine x_iload_n dX13_formalHere_72 rfl ?_
        refine x_if_ne (tgt := 85) dX13_formalHere_73 (by decide) (fun _ => ?_) (fun h => absurd h c7)
        refine x_iconst_ (v := (1 : Int32)) dX13_formalHere_85 (by decide) ?_
        refine x_goto (tgt := 90) dX13_formalHere_86 (by decide) ?_
        refine x_istore dX13_formalHere_90 (by decide) ?_
        refine x_iload dX13_formalHere_92 rfl ?_
        refine x_if_eq (tgt := 117) dX13_formalHere_94 (by decide) (fun h => absurd h (by decide)) (fun _ => ?_)
        refine x_aload_n dX13_formalHere_97 rfl ?_
        refine x_bipush_ (v := (24 : Int32)) dX13_formalHere_98 (by decide) ?_
        obtain ⟨R6, g6, h⟩ := h
        refine x_callV hG (Ky := kX13_openSign) (As := [.int (24 : Int32)]) dX13_formalHere_100 (mo_t hM) rfl lk_X13_356 me_X13_openSign is_X13_openSign se_X13_openSign rfl rfl (Nat.le_of_ble_eq_true rfl) (MX.post (m_X13_openSign hG hM g6) ?_)
        rintro _ _ ⟨v6, I6, rfl, rfl, zv6, h1⟩
        replace h := h v6 I6 zv6 h1
        change X _ _ _ _ (A.wI I6) _ _ (.int v6 :: _)
        refine x_if_eq (tgt := 115) dX13_formalHere_103 (by decide) (fun c103 => ?_) (fun c103 => ?_)
        · replace h := h.1 c103
          refine x_iconst_ (v := (0 : Int32)) dX13_formalHere_115 (by decide) ?_
          exact x_iret dX13_formalHere_116 rfl ⟨_, _, rfl, rfl, h⟩
        · replace h := h.2 c103
          refine x_aload_n dX13_formalHere_106 rfl ?_
          refine x_bipush_ (v := (25 : Int32)) dX13_formalHere_107 (by decide) ?_
          obtain ⟨R7, g7, h⟩ := h
          refine x_callV hG (Ky := kX13_closeSign) (As := [.int (25 : Int32)]) dX13_formalHere_109 (mo_t hM) rfl lk_X13_362 me_X13_closeSign is_X13_closeSign se_X13_closeSign rfl rfl (Nat.le_of_ble_eq_true rfl) (MX.post (m_X13_closeSign hG hM g7) ?_)
          rintro _ _ ⟨v7, I7, rfl, rfl, zv7, h1⟩
          replace h := h v7 I7 zv7 h1
          change X _ _ _ _ (A.wI I7) _ _ (.int v7 :: _)
          refine x_if_ne (tgt := 117) dX13_formalHere_112 (by decide) (fun c112 => ?_) (fun c112 => ?_)
          · replace h := h.2 c112
            refine x_aload_n dX13_formalHere_117 rfl ?_
            refine x_iload_n dX13_formalHere_118 rfl ?_
            refine x_iload dX13_formalHere_119 rfl ?_
            refine x_if_eq (tgt := 128) dX13_formalHere_121 (by decide) (fun h => absurd h (by decide)) (fun _ => ?_)
            refine x_iconst_ (v := (2 : Int32)) dX13_formalHere_124 (by decide) ?_
            refine x_goto (tgt := 129) dX13_formalHere_125 (by decide) ?_
            refine x_iload_n dX13_formalHere_129 rfl ?_
            refine x_aload_n dX13_formalHere_130 rfl ?_
            refine x_get (v := .int (I7 m 53)) hG dX13_formalHere_131 f_X13_386_12 (mo_t hM) rfl ?_
            refine x_iload dX13_formalHere_134 rfl ?_
            refine x_if_eq (tgt := 143) dX13_formalHere_136 (by decide) (fun h => absurd h (by decide)) (fun _ => ?_)
            refine x_iconst_ (v := (-1 : Int32)) dX13_formalHere_139 (by decide) ?_
            refine x_goto (tgt := 144) dX13_formalHere_140 (by decide) ?_
            refine x_iconst_ (v := (1 : Int32)) dX13_formalHere_144 (by decide) ?_
            obtain ⟨R8, g8, h⟩ := h
            refine x_callV hG (Ky := kX13_declare) (As := [.int v3, .int (2 : Int32), .int v1, .int (I7 m 53), .int (-1 : Int32), .int (1 : Int32)]) dX13_formalHere_145 (mo_t hM) rfl lk_X13_338 me_X13_declare is_X13_declare se_X13_declare rfl rfl (Nat.le_of_ble_eq_true rfl) (MX.post (m_X13_declare hG hM g8) ?_)
            rintro _ _ ⟨I8, rfl, rfl, h1⟩
            replace h := h I8 h1
            change X _ _ _ _ (A.wI I8) _ _ _
            refine x_aload_n dX13_formalHere_148 rfl ?_
            refine x_dup dX13_formalHere_149 rfl ?_
            refine x_get (v := .int (I8 m 53)) hG dX13_formalHere_150 f_X13_386_12 (mo_t hM) rfl ?_
            refine x_iload dX13_formalHere_153 rfl ?_
            refine x_if_eq (tgt := 162) dX13_formalHere_155 (by decide) (fun h => absurd h (by decide)) (fun _ => ?_)
            refine x_iconst_ (v := (2 : Int32)) dX13_formalHere_158 (by decide) ?_
            refine x_goto (tgt := 163) dX13_formalHere_159 (by decide) ?_
            refine x_iadd dX13_formalHere_163 ?_
            refine y_put hG hM dX13_formalHere_164 f_X13_386_12 ⟨_, rfl, Or.inl rfl⟩ rfl rfl ⟨_, rfl⟩ (fun I9 e9 => ?_)
            replace h := h I9 e9
            refine x_iload dX13_formalHere_167 rfl ?_
            refine x_if_ne (tgt := 176) dX13_formalHere_169 (by decide) (fun _ => ?_) (fun h => absurd h (by decide))
            refine x_iload_n dX13_formalHere_176 rfl ?_
            refine x_if_eq (tgt := 184) dX13_formalHere_177 (by decide) (fun h => absurd h c7) (fun _ => ?_)
            refine x_iconst_ (v := (2 : Int32)) dX13_formalHere_180 (by decide) ?_
            refine x_goto (tgt := 185) dX13_formalHere_181 (by decide) ?_
            exact x_iret dX13_formalHere_185 rfl ⟨_, _, rfl, rfl, h⟩
          · replace h := h.1 c112
            refine x_iconst_ (v := (0 : Int32)) dX13_formalHere_115 (by decide) ?_
            exact x_iret dX13_formalHere_116 rfl ⟨_, _, rfl, rfl, h⟩
      refine x_icmp_ne (tgt := 72) dX13_formalHere_57 (by decide) (fun c57 => ?_) (fun c57 => ?_)
      · replace h := h.2 c57
        change X _ _ _ _ _ _ [some (.ref m), some (.int n), some (.int v1), some (.int v3), none] []
        exact X.weak (xle_c rfl (xle_n (xle_c rfl (xle_c rfl (xle_n xle_nil))))) (kj5 I4 h)
      · replace h := h.1 c57
        refine x_aload_n dX13_formalHere_60 rfl ?_
        refine x_bipush_ (v := (11 : Int32)) dX13_formalHere_61 (by decide) ?_
        refine x_aload_n dX13_formalHere_63 rfl ?_
        refine x_get (v := .ref (m + 5)) hG dX13_formalHere_64 f_X13_22_12 (mo_t hM) (congrArg va_rf (mo_P6 hM)) ?_
        refine x_iload_n dX13_formalHere_67 rfl ?_
        obtain ⟨o10, h⟩ := h
        refine y_iald hG dX13_formalHere_68 (mo_t6 hM) (mo_n6 hM) o10 ?_
        obtain ⟨R11, g11, h⟩ := h
        refine x_callV hG (Ky := kX13_note) (As := [.int (11 : Int32), .int (I4 (m + 5) (ix v3))]) dX13_formalHere_69 (mo_t hM) rfl lk_X13_352 me_X13_note is_X13_note se_X13_note rfl rfl (Nat.le_of_ble_eq_true rfl) (MX.post (m_X13_note hG hM g11) ?_)
        rintro _ _ ⟨I11, rfl, rfl, h1⟩
        replace h := h I11 h1
        change X _ _ _ _ (A.wI I11) _ _ _
        change X _ _ _ _ _ _ [some (.ref m), some (.int n), some (.int v1), some (.int v3), none] []
        exact X.weak (xle_c rfl (xle_n (xle_c rfl (xle_c rfl (xle_n xle_nil))))) (kj5 I11 h)
    · replace h := h.2 c45
      refine x_iconst_ (v := (0 : Int32)) dX13_formalHere_48 (by decide) ?_
      exact x_iret dX13_formalHere_49 rfl ⟨_, _, rfl, rfl, h⟩
  · replace h := h.1 c7
    refine x_aload_n dX13_formalHere_10 rfl ?_
    refine x_iconst_ (v := (0 : Int32)) dX13_formalHere_11 (by decide) ?_
    obtain ⟨R12, g12, h⟩ := h
    refine x_callV hG (Ky := kX13_isWord) (As := [.int (0 : Int32)]) dX13_formalHere_12 (mo_t hM) rfl lk_X13_263 me_X13_isWord is_X13_isWord se_X13_isWord rfl rfl (Nat.le_of_ble_eq_true rfl) (MX.post (m_X13_isWord hG hM g12) ?_)
    rintro _ _ ⟨v12, I12, rfl, rfl, zv12, h1⟩
    replace h := h v12 I12 zv12 h1
    change X _ _ _ _ (A.wI I12) _ _ (.int v12 :: _)
    refine x_if_ne (tgt := 26) dX13_formalHere_15 (by decide) (fun c15 => ?_) (fun c15 => ?_)
    · replace h := h.2 c15
      refine x_aload_n dX13_formalHere_26 rfl ?_
      refine x_dup dX13_formalHere_27 rfl ?_
      refine x_get (v := .int (I12 m 42)) hG dX13_formalHere_28 f_X13_233_12 (mo_t hM) rfl ?_
      refine x_iconst_ (v := (1 : Int32)) dX13_formalHere_31 (by decide) ?_
      refine x_iadd dX13_formalHere_32 ?_
      refine y_put hG hM dX13_formalHere_33 f_X13_233_12 ⟨_, rfl, Or.inl rfl⟩ rfl rfl ⟨_, rfl⟩ (fun I13 e13 => ?_)
      replace h := h I13 e13
      refine x_aload_n dX13_formalHere_36 rfl ?_
      obtain ⟨R14, g14, h⟩ := h
      refine x_callV hG (Ky := kX13_name) (As := []) dX13_formalHere_37 (mo_t hM) rfl lk_X13_317 me_X13_name is_X13_name se_X13_name rfl rfl (Nat.le_of_ble_eq_true rfl) (MX.post (m_X13_name hG hM g14) ?_)
      rintro _ _ ⟨v14, I14, rfl, rfl, h1⟩
      replace h := h v14 I14 h1
      change X _ _ _ _ (A.wI I14) _ _ (.int v14 :: _)
      refine x_istore_n dX13_formalHere_40 (by decide) ?_
      refine x_aload_n dX13_formalHere_41 rfl ?_
      refine x_get (v := .int (I14 m 44)) hG dX13_formalHere_42 f_X13_230_12 (mo_t hM) rfl ?_
      refine x_if_le (tgt := 50) dX13_formalHere_45 (by decide) (fun c45 => ?_) (fun c45 => ?_)
      · replace h := h.1 c45
        refine x_aload_n dX13_formalHere_50 rfl ?_
        refine x_iload_n dX13_formalHere_51 rfl ?_
        obtain ⟨R15, g15, h⟩ := h
        refine x_callV hG (Ky := kX13_twice) (As := [.int v14]) dX13_formalHere_52 (mo_t hM) rfl lk_X13_348 me_X13_twice is_X13_twice se_X13_twice rfl rfl (Nat.le_of_ble_eq_true rfl) (MX.post (m_X13_twice hG hM g15) ?_)
        rintro _ _ ⟨I15, rfl, rfl, h1⟩
        replace h := h I15 h1
        change X _ _ _ _ (A.wI I15) _ _ _
        refine x_iload_n dX13_formalHere_55 rfl ?_
        refine x_iconst_ (v := (4 : Int32)) dX13_formalHere_56 (by decide) ?_
        obtain ⟨J16, g16, h⟩ := h
        have kj16 : ∀ (I16 : xII), J16 I16 → X G (dp + 3) kX13_formalHere (oI A Q) (A.wI I16) 72 [some (.ref m), none, some (.int v1), some (.int v14), none] [] := by
          intro I16 h
          replace h := g16 I16 h
          refine x_iload_n dX13_formalHere_72 rfl ?_
          refine x_if_ne (tgt := 85) dX13_formalHere_73 (by decide) (fun h => absurd c7 h) (fun _ => ?_)
          refine x_aload_n dX13_formalHere_76 rfl ?_
          refine x_bipush_ (v := (24 : Int32)) dX13_formalHere_77 (by decide) ?_
          obtain ⟨R17, g17, h⟩ := h
          refine x_callV hG (Ky := kX13_isSign) (As := [.int (24 : Int32)]) dX13_formalHere_79 (mo_t hM) rfl lk_X13_257 me_X13_isSign is_X13_isSign se_X13_isSign rfl rfl (Nat.le_of_ble_eq_true rfl) (MX.post (m_X13_isSign hG hM g17) ?_)
          rintro _ _ ⟨v17, I17, rfl, rfl, zv17, h1⟩
          replace h := h v17 I17 zv17 h1
          change X _ _ _ _ (A.wI I17) _ _ (.int v17 :: _)
          refine x_via 90 (A' := (A.wI I17)) (lv' := [some (.ref m), none, some (.int v1), some (.int v14), none]) (st' := [.int (if v17 = 0 then (0 : Int32) else (1 : Int32))]) ?_ (fun k90 => ?_)
          rotate_left
          · refine x_if_eq (tgt := 89) dX13_formalHere_82 (by decide) (fun c82 => ?_) (fun c82 => ?_)
            · refine x_iconst_ (v := (0 : Int32)) dX13_formalHere_89 (by decide) ?_
              change X _ _ _ _ _ _ [some (.ref m), none, some (.int v1), some (.int v14), none] [.int (0 : Int32)]
              simp only [if_pos c82] at k90 ⊢
              exact X.weak (xle_c rfl (xle_n (xle_c rfl (xle_c rfl (xle_n xle_nil))))) k90
            · refine x_iconst_ (v := (1 : Int32)) dX13_formalHere_85 (by decide) ?_
              refine x_goto (tgt := 90) dX13_formalHere_86 (by decide) ?_
              change X _ _ _ _ _ _ [some (.ref m), none, some (.int v1), some (.int v14), none] [.int (1 : Int32)]
              simp only [if_neg c82] at k90 ⊢
              exact X.weak (xle_c rfl (xle_n (xle_c rfl (xle_c rfl (xle_n xle_nil))))) k90
          refine x_istore dX13_formalHere_90 (by decide) ?_
          refine x_iload dX13_formalHere_92 rfl ?_
          refine x_if_eq (tgt := 117) dX13_formalHere_94 (by decide) (fun c94 => ?_) (fun c94 => ?_)
          · replace h := h.1 c94
            refine x_aload_n dX13_formalHere_117 rfl ?_
            refine x_iload_n dX13_formalHere_118 rfl ?_
            refine x_iload dX13_formalHere_119 rfl ?_
            refine x_if_eq (tgt := 128) dX13_formalHere_121 (by decide) (fun _ => ?_) (fun h => absurd c94 h)
            refine x_iconst_ (v := (1 : Int32)) dX13_formalHere_128 (by decide) ?_
            refine x_iload_n dX13_formalHere_129 rfl ?_
            refine x_aload_n dX13_formalHere_130 rfl ?_
            refine x_get (v := .int (I17 m 53)) hG dX13_formalHere_131 f_X13_386_12 (mo_t hM) rfl ?_
            refine x_iload dX13_formalHere_134 rfl ?_
            refine x_if_eq (tgt := 143) dX13_formalHere_136 (by decide) (fun _ => ?_) (fun h => absurd c94 h)
            refine x_iconst_ (v := (1 : Int32)) dX13_formalHere_143 (by decide) ?_
            refine x_iconst_ (v := (1 : Int32)) dX13_formalHere_144 (by decide) ?_
            obtain ⟨R18, g18, h⟩ := h
            refine x_callV hG (Ky := kX13_declare) (As := [.int v14, .int (1 : Int32), .int v1, .int (I17 m 53), .int (1 : Int32), .int (1 : Int32)]) dX13_formalHere_145 (mo_t hM) rfl lk_X13_338 me_X13_declare is_X13_declare se_X13_declare rfl rfl (Nat.le_of_ble_eq_true rfl) (MX.post (m_X13_declare hG hM g18) ?_)
            rintro _ _ ⟨I18, rfl, rfl, h1⟩
            replace h := h I18 h1
            change X _ _ _ _ (A.wI I18) _ _ _
            refine x_aload_n dX13_formalHere_148 rfl ?_
            refine x_dup dX13_formalHere_149 rfl ?_
            refine x_get (v := .int (I18 m 53)) hG dX13_formalHere_150 f_X13_386_12 (mo_t hM) rfl ?_
            refine x_iload dX13_formalHere_153 rfl ?_
            refine x_if_eq (tgt := 162) dX13_formalHere_155 (by decide) (fun _ => ?_) (fun h => absurd c94 h)
            refine x_iconst_ (v := (1 : Int32)) dX13_formalHere_162 (by decide) ?_
            refine x_iadd dX13_formalHere_163 ?_
            refine y_put hG hM dX13_formalHere_164 f_X13_386_12 ⟨_, rfl, Or.inl rfl⟩ rfl rfl ⟨_, rfl⟩ (fun I19 e19 => ?_)
            replace h := h I19 e19
            refine x_iload dX13_formalHere_167 rfl ?_
            refine x_if_ne (tgt := 176) dX13_formalHere_169 (by decide) (fun h => absurd c94 h) (fun _ => ?_)
            refine x_iconst_ (v := (0 : Int32)) dX13_formalHere_172 (by decide) ?_
            refine x_goto (tgt := 185) dX13_formalHere_173 (by decide) ?_
            exact x_iret dX13_formalHere_185 rfl ⟨_, _, rfl, rfl, h⟩
          · replace h := h.2 c94
            refine x_aload_n dX13_formalHere_97 rfl ?_
            refine x_bipush_ (v := (24 : Int32)) dX13_formalHere_98 (by decide) ?_
            obtain ⟨R20, g20, h⟩ := h
            refine x_callV hG (Ky := kX13_openSign) (As := [.int (24 : Int32)]) dX13_formalHere_100 (mo_t hM) rfl lk_X13_356 me_X13_openSign is_X13_openSign se_X13_openSign rfl rfl (Nat.le_of_ble_eq_true rfl) (MX.post (m_X13_openSign hG hM g20) ?_)
            rintro _ _ ⟨v20, I20, rfl, rfl, zv20, h1⟩
            replace h := h v20 I20 zv20 h1
            change X _ _ _ _ (A.wI I20) _ _ (.int v20 :: _)
            refine x_if_eq (tgt := 115) dX13_formalHere_103 (by decide) (fun c103 => ?_) (fun c103 => ?_)
            · replace h := h.1 c103
              refine x_iconst_ (v := (0 : Int32)) dX13_formalHere_115 (by decide) ?_
              exact x_iret dX13_formalHere_116 rfl ⟨_, _, rfl, rfl, h⟩
            · replace h := h.2 c103
              refine x_aload_n dX13_formalHere_106 rfl ?_
              refine x_bipush_ (v := (25 : Int32)) dX13_formalHere_107 (by decide) ?_
              obtain ⟨R21, g21, h⟩ := h
              refine x_callV hG (Ky := kX13_closeSign) (As := [.int (25 : Int32)]) dX13_formalHere_109 (mo_t hM) rfl lk_X13_362 me_X13_closeSign is_X13_closeSign se_X13_closeSign rfl rfl (Nat.le_of_ble_eq_true rfl) (MX.post (m_X13_closeSign hG hM g21) ?_)
              rintro _ _ ⟨v21, I21, rfl, rfl, zv21, h1⟩
              replace h := h v21 I21 zv21 h1
              change X _ _ _ _ (A.wI I21) _ _ (.int v21 :: _)
              refine x_if_ne (tgt := 117) dX13_formalHere_112 (by decide) (fun c112 => ?_) (fun c112 => ?_)
              · replace h := h.2 c112
                refine x_aload_n dX13_formalHere_117 rfl ?_
                refine x_iload_n dX13_formalHere_118 rfl ?_
                refine x_iload dX13_formalHere_119 rfl ?_
                refine x_if_eq (tgt := 128) dX13_formalHere_121 (by decide) (fun h => absurd h c94) (fun _ => ?_)
                refine x_iconst_ (v := (2 : Int32)) dX13_formalHere_124 (by decide) ?_
                refine x_goto (tgt := 129) dX13_formalHere_125 (by decide) ?_
                refine x_iload_n dX13_formalHere_129 rfl ?_
                refine x_aload_n dX13_formalHere_130 rfl ?_
                refine x_get (v := .int (I21 m 53)) hG dX13_formalHere_131 f_X13_386_12 (mo_t hM) rfl ?_
                refine x_iload dX13_formalHere_134 rfl ?_
                refine x_if_eq (tgt := 143) dX13_formalHere_136 (by decide) (fun h => absurd h c94) (fun _ => ?_)
                refine x_iconst_ (v := (-1 : Int32)) dX13_formalHere_139 (by decide) ?_
                refine x_goto (tgt := 144) dX13_formalHere_140 (by decide) ?_
                refine x_iconst_ (v := (1 : Int32)) dX13_formalHere_144 (by decide) ?_
                obtain ⟨R22, g22, h⟩ := h
                refine x_callV hG (Ky := kX13_declare) (As := [.int v14, .int (2 : Int32), .int v1, .int (I21 m 53), .int (-1 : Int32), .int (1 : Int32)]) dX13_formalHere_145 (mo_t hM) rfl lk_X13_338 me_X13_declare is_X13_declare se_X13_declare rfl rfl (Nat.le_of_ble_eq_true rfl) (MX.post (m_X13_declare hG hM g22) ?_)
                rintro _ _ ⟨I22, rfl, rfl, h1⟩
                replace h := h I22 h1
                change X _ _ _ _ (A.wI I22) _ _ _
                refine x_aload_n dX13_formalHere_148 rfl ?_
                refine x_dup dX13_formalHere_149 rfl ?_
                refine x_get (v := .int (I22 m 53)) hG dX13_formalHere_150 f_X13_386_12 (mo_t hM) rfl ?_
                refine x_iload dX13_formalHere_153 rfl ?_
                refine x_if_eq (tgt := 162) dX13_formalHere_155 (by decide) (fun h => absurd h c94) (fun _ => ?_)
                refine x_iconst_ (v := (2 : Int32)) dX13_formalHere_158 (by decide) ?_
                refine x_goto (tgt := 163) dX13_formalHere_159 (by decide) ?_
                refine x_iadd dX13_formalHere_163 ?_
                refine y_put hG hM dX13_formalHere_164 f_X13_386_12 ⟨_, rfl, Or.inl rfl⟩ rfl rfl ⟨_, rfl⟩ (fun I23 e23 => ?_)
                replace h := h I23 e23
                refine x_iload dX13_formalHere_167 rfl ?_
                refine x_if_ne (tgt := 176) dX13_formalHere_169 (by decide) (fun _ => ?_) (fun h => absurd h c94)
                refine x_iload_n dX13_formalHere_176 rfl ?_
                refine x_if_eq (tgt := 184) dX13_formalHere_177 (by decide) (fun _ => ?_) (fun h => absurd c7 h)
                refine x_iconst_ (v := (1 : Int32)) dX13_formalHere_184 (by decide) ?_
                exact x_iret dX13_formalHere_185 rfl ⟨_, _, rfl, rfl, h⟩
              · replace h := h.1 c112
                refine x_iconst_ (v := (0 : Int32)) dX13_formalHere_115 (by decide) ?_
                exact x_iret dX13_formalHere_116 rfl ⟨_, _, rfl, rfl, h⟩
        refine x_icmp_ne (tgt := 72) dX13_formalHere_57 (by decide) (fun c57 => ?_) (fun c57 => ?_)
        · replace h := h.2 c57
          change X _ _ _ _ _ _ [some (.ref m), some (.int n), some (.int v1), some (.int v14), none] []
          exact X.weak (xle_c rfl (xle_n (xle_c rfl (xle_c rfl (xle_n xle_nil))))) (kj16 I15 h)
        · replace h := h.1 c57
          refine x_aload_n dX13_formalHere_60 rfl ?_
          refine x_bipush_ (v := (11 : Int32)) dX13_formalHere_61 (by decide) ?_
          refine x_aload_n dX13_formalHere_63 rfl ?_
          refine x_get (v := .ref (m + 5)) hG dX13_formalHere_64 f_X13_22_12 (mo_t hM) (congrArg va_rf (mo_P6 hM)) ?_
          refine x_iload_n dX13_formalHere_67 rfl ?_
          obtain ⟨o24, h⟩ := h
          refine y_iald hG dX13_formalHere_68 (mo_t6 hM) (mo_n6 hM) o24 ?_
          obtain ⟨R25, g25, h⟩ := h
          refine x_callV hG (Ky := kX13_note) (As := [.int (11 : Int32), .int (I15 (m + 5) (ix v14))]) dX13_formalHere_69 (mo_t hM) rfl lk_X13_352 me_X13_note is_X13_note se_X13_note rfl rfl (Nat.le_of_ble_eq_true rfl) (MX.post (m_X13_note hG hM g25) ?_)
          rintro _ _ ⟨I25, rfl, rfl, h1⟩
          replace h := h I25 h1
          change X _ _ _ _ (A.wI I25) _ _ _
          change X _ _ _ _ _ _ [some (.ref m), some (.int n), some (.int v1), some (.int v14), none] []
          exact X.weak (xle_c rfl (xle_n (xle_c rfl (xle_c rfl (xle_n xle_nil))))) (kj16 I25 h)
      · replace h := h.2 c45
        refine x_iconst_ (v := (0 : Int32)) dX13_formalHere_48 (by decide) ?_
        exact x_iret dX13_formalHere_49 rfl ⟨_, _, rfl, rfl, h⟩
    · replace h := h.1 c15
      refine x_aload_n dX13_formalHere_18 rfl ?_
      refine x_iconst_ (v := (2 : Int32)) dX13_formalHere_19 (by decide) ?_
      obtain ⟨R26, g26, h⟩ := h
      refine x_callV hG (Ky := kX13_fails) (As := [.int (2 : Int32)]) dX13_formalHere_20 (mo_t hM) rfl lk_X13_260 me_X13_fails is_X13_fails se_X13_fails rfl rfl (Nat.le_of_ble_eq_true rfl) (MX.post (m_X13_fails hG hM g26) ?_)
      rintro _ _ ⟨v26, I26, rfl, rfl, zv26, h1⟩
      replace h := h v26 I26 zv26 h1
      change X _ _ _ _ (A.wI I26) _ _ (.int v26 :: _)
      refine x_pop dX13_formalHere_23 rfl ?_
      refine x_iconst_ (v := (0 : Int32)) dX13_formalHere_24 (by decide) ?_
      exact x_iret dX13_formalHere_25 rfl ⟨_, _, rfl, rfl, h⟩
def w_X13_condition (m : Nat) (Q : Int32 → xII → Prop) (I : xII) : Prop := ∃ R1 : Int32 → xII → Prop, w_X13_openSign m (22 : Int32) R1 I ∧ (∀ (v1 : Int32) (I1 : xII), (v1 = 0 ∨ v1 = 1) → R1 v1 I1 → (((v1 = 0 → Q (0 : Int32) I1) ∧ (¬ v1 = 0 → ∃ R2 : Int32 → xII → Prop, g_X13_expression m R2 I1 ∧ (∀ (v2 : Int32) (I2 : xII), (v2 = 0 ∨ v2 = 1) → R2 v2 I2 → (((v2 = 0 → Q (0 : Int32) I2) ∧ (¬ v2 = 0 → ∃ R3 : Int32 → xII → Prop, w_X13_closeSign m (23 : Int32) R3 I2 ∧ (∀ (v3 : Int32) (I3 : xII), (v3 = 0 ∨ v3 = 1) → R3 v3 I3 → (Q (if v3 = 0 then (0 : Int32) else (1 : Int32)) I3))))))))))
theorem m_X13_condition (hG : xOK G) {dp : Nat} {A : xA} {m : Nat} (hM : xMo G A m) {Q : Int32 → xII → Prop} {I : xII} (h : w_X13_condition m Q I) : MX G (dp + 713) kX13_condition [.ref m] (A.wI I) (oZ A Q) := by
  unfold w_X13_condition at h
  refine MX.of rfl (Nat.le_of_ble_eq_true rfl) ?_
  change X _ _ _ _ _ _ [some (.ref m)] _
  refine x_aload_n dX13_condition_0 rfl ?_
  refine x_bipush_ (v := (22 : Int32)) dX13_condition_1 (by decide) ?_
  obtain ⟨R1, g1, h⟩ := h
  refine x_callV hG (Ky := kX13_openSign) (As := [.int (22 : Int32)]) dX13_condition_3 (mo_t hM) rfl lk_X13_356 me_X13_openSign is_X13_openSign se_X13_openSign rfl rfl (Nat.le_of_ble_eq_true rfl) (MX.post (m_X13_openSign hG hM g1) ?_)
  rintro _ _ ⟨v1, I1, rfl, rfl, zv1, h1⟩
  replace h := h v1 I1 zv1 h1
  change X _ _ _ _ (A.wI I1) _ _ (.int v1 :: _)
  refine x_if_eq (tgt := 29) dX13_condition_6 (by decide) (fun c6 => ?_) (fun c6 => ?_)
  · replace h := h.1 c6
    refine x_iconst_ (v := (0 : Int32)) dX13_condition_29 (by decide) ?_
    exact x_zret dX13_condition_30 rfl (by decide) ⟨_, _, rfl, rfl, (by decide), h⟩
  · replace h := h.2 c6
    refine x_aload_n dX13_condition_9 rfl ?_
    obtain ⟨R2, g2, h⟩ := h
    refine x_callV hG (Ky := kX13_expression) (As := []) dX13_condition_10 (mo_t hM) rfl lk_X13_368 me_X13_expression is_X13_expression se_X13_expression rfl rfl (Nat.le_of_ble_eq_true rfl) (MX.post ((rc_E hG hM 700).1 g2) ?_)
    rintro _ _ ⟨v2, I2, rfl, rfl, zv2, h1⟩
    replace h := h v2 I2 zv2 h1
    change X _ _ _ _ (A.wI I2) _ _ (.int v2 :: _)
    refine x_if_eq (tgt := 29) dX13_condition_13 (by decide) (fun c13 => ?_) (fun c13 => ?_)
    · replace h := h.1 c13
      refine x_iconst_ (v := (0 : Int32)) dX13_condition_29 (by decide) ?_
      exact x_zret dX13_condition_30 rfl (by decide) ⟨_, _, rfl, rfl, (by decide), h⟩
    · replace h := h.2 c13
      refine x_aload_n dX13_condition_16 rfl ?_
      refine x_bipush_ (v := (23 : Int32)) dX13_condition_17 (by decide) ?_
      obtain ⟨R3, g3, h⟩ := h
      refine x_callV hG (Ky := kX13_closeSign) (As := [.int (23 : Int32)]) dX13_condition_19 (mo_t hM) rfl lk_X13_362 me_X13_closeSign is_X13_closeSign se_X13_closeSign rfl rfl (Nat.le_of_ble_eq_true rfl) (MX.post (m_X13_closeSign hG hM g3) ?_)
      rintro _ _ ⟨v3, I3, rfl, rfl, zv3, h1⟩
      replace h := h v3 I3 zv3 h1
      change X _ _ _ _ (A.wI I3) _ _ (.int v3 :: _)
      refine x_via 30 (A' := (A.wI I3)) (lv' := [none]) (st' := [.int (if v3 = 0 then (0 : Int32) else (1 : Int32))]) ?_ (fun k30 => ?_)
      rotate_left
      · refine x_if_eq (tgt := 29) dX13_condition_22 (by decide) (fun c22 => ?_) (fun c22 => ?_)
        · refine x_iconst_ (v := (0 : Int32)) dX13_condition_29 (by decide) ?_
          change X _ _ _ _ _ _ [some (.ref m)] [.int (0 : Int32)]
          simp only [if_pos c22] at k30 ⊢
          exact X.weak (xle_n xle_nil) k30
        · refine x_iconst_ (v := (1 : Int32)) dX13_condition_25 (by decide) ?_
          refine x_goto (tgt := 30) dX13_condition_26 (by decide) ?_
          change X _ _ _ _ _ _ [some (.ref m)] [.int (1 : Int32)]
          simp only [if_neg c22] at k30 ⊢
          exact X.weak (xle_n xle_nil) k30
      exact x_zret dX13_condition_30 rfl ite01 ⟨_, _, rfl, rfl, ite01, h⟩
def w_X13_simple (m : Nat) (Q : Int32 → xII → Prop) (I : xII) : Prop := ∃ R1 : Int32 → xII → Prop, w_X13_name m R1 I ∧ (∀ (v1 : Int32) (I1 : xII), R1 v1 I1 → ((((I1 m 44) ≤ 0 → ∃ R2 : Int32 → xII → Prop, w_X13_isSign m (22 : Int32) R2 I1 ∧ (∀ (v2 : Int32) (I2 : xII), (v2 = 0 ∨ v2 = 1) → R2 v2 I2 → (((v2 = 0 → ∃ J3 : Int32 → xII → Prop, (∀ (y3_s0 : Int32) (I3 : xII), J3 y3_s0 I3 → ∃ R4 : Int32 → xII → Prop, w_X13_isSign m (24 : Int32) R4 I3 ∧ (∀ (v4 : Int32) (I4 : xII), (v4 = 0 ∨ v4 = 1) → R4 v4 I4 → (∃ J5 : xII → Prop, (∀ (I5 : xII), J5 I5 → ∃ J6 : Int32 → Prop, (∀ (y6_s0 : Int32), J6 y6_s0 → ∃ J7 : xII → Prop, (∀ (I7 : xII), J7 I7 → ∃ J8 : Int32 → Prop, (∀ (y8_s0 : Int32), J8 y8_s0 → ∃ J9 : Int32 → Prop, (∀ (y9_s0 : Int32), J9 y9_s0 → ∃ J10 : Int32 → Prop, (∀ (y10_s0 : Int32), J10 y10_s0 → ((v4 = 0 → vp_in (I7 m 42) 4002 ∧ (∃ J12 : Int32 → Prop, (∀ (y12_s0 : Int32), J12 y12_s0 → ((y12_s0 = 0 → ∃ R27 : Int32 → xII → Prop, w_X13_fails m (2 : Int32) R27 I7 ∧ (∀ (v27 : Int32) (I27 : xII), (v27 = 0 ∨ v27 = 1) → R27 v27 I27 → (Q v27 I27))) ∧ (¬ y12_s0 = 0 → ∀ I13 : xII, I13 = xup I7 m 42 ((I7 m 42) + (1 : Int32)) → (∃ J14 : xII → Prop, (∀ (I14 : xII), J14 I14 → (((if (I7 (m + 3) (ix (I7 m 42))) = (4 : Int32) then (I7 (m + 4) (ix (I7 m 42))) else (-1 : Int32)) = (12 : Int32) → ∃ R15 : Int32 → xII → Prop, w_X13_step m (0 : Int32) (1 : Int32) (0 : Int32) R15 I14 ∧ (∀ (v15 : Int32) (I15 : xII), R15 v15 I15 → (∃ R16 : Int32 → xII → Prop, w_X13_step m (10 : Int32) (38 : Int32) (0 : Int32) R16 I15 ∧ (∀ (v16 : Int32) (I16 : xII), R16 v16 I16 → (∃ R17 : Int32 → xII → Prop, w_X13_step m (if y9_s0 = 0 then (4 : Int32) else (2 : Int32)) y10_s0 (0 : Int32) R17 I16 ∧ (∀ (v17 : Int32) (I17 : xII), R17 v17 I17 → (Q (1 : Int32) I17))))))) ∧ (¬ (if (I7 (m + 3) (ix (I7 m 42))) = (4 : Int32) then (I7 (m + 4) (ix (I7 m 42))) else (-1 : Int32)) = (12 : Int32) → (((if (I7 (m + 3) (ix (I7 m 42))) = (4 : Int32) then (I7 (m + 4) (ix (I7 m 42))) else (-1 : Int32)) = (13 : Int32) → ∃ R23 : Int32 → xII → Prop, w_X13_step m (0 : Int32) (1 : Int32) (0 : Int32) R23 I14 ∧ (∀ (v23 : Int32) (I23 : xII), R23 v23 I23 → (∃ R24 : Int32 → xII → Prop, w_X13_step m (10 : Int32) (39 : Int32) (0 : Int32) R24 I23 ∧ (∀ (v24 : Int32) (I24 : xII), R24 v24 I24 → (∃ R25 : Int32 → xII → Prop, w_X13_step m (if y9_s0 = 0 then (4 : Int32) else (2 : Int32)) y10_s0 (0 : Int32) R25 I24 ∧ (∀ (v25 : Int32) (I25 : xII), R25 v25 I25 → (Q (1 : Int32) I25))))))) ∧ (¬ (if (I7 (m + 3) (ix (I7 m 42))) = (4 : Int32) then (I7 (m + 4) (ix (I7 m 42))) else (-1 : Int32)) = (13 : Int32) → ∃ R18 : Int32 → xII → Prop, g_X13_expression m R18 I14 ∧ (∀ (v18 : Int32) (I18 : xII), (v18 = 0 ∨ v18 = 1) → R18 v18 I18 → (((v18 = 0 → Q (0 : Int32) I18) ∧ (¬ v18 = 0 → ∃ J19 : xII → Prop, (∀ (I19 : xII), J19 I19 → ∃ R20 : Int32 → xII → Prop, w_X13_step m (if y9_s0 = 0 then (4 : Int32) else (2 : Int32)) y10_s0 (0 : Int32) R20 I19 ∧ (∀ (v20 : Int32) (I20 : xII), R20 v20 I20 → (Q (1 : Int32) I20))) ∧ (((if (I7 (m + 3) (ix (I7 m 42))) = (4 : Int32) then (I7 (m + 4) (ix (I7 m 42))) else (-1 : Int32)) = (32 : Int32) → J19 I18) ∧ (¬ (if (I7 (m + 3) (ix (I7 m 42))) = (4 : Int32) then (I7 (m + 4) (ix (I7 m 42))) else (-1 : Int32)) = (32 : Int32) → ∃ J21 : Int32 → Prop, (∀ (y21_s0 : Int32), J21 y21_s0 → ∃ R22 : Int32 → xII → Prop, w_X13_step m (10 : Int32) y21_s0 (0 : Int32) R22 I18 ∧ (∀ (v22 : Int32) (I22 : xII), R22 v22 I22 → (J19 I22))) ∧ (((if (I7 (m + 3) (ix (I7 m 42))) = (4 : Int32) then (I7 (m + 4) (ix (I7 m 42))) else (-1 : Int32)) = (4 : Int32) → J21 (38 : Int32)) ∧ (¬ (if (I7 (m + 3) (ix (I7 m 42))) = (4 : Int32) then (I7 (m + 4) (ix (I7 m 42))) else (-1 : Int32)) = (4 : Int32) → (((if (I7 (m + 3) (ix (I7 m 42))) = (4 : Int32) then (I7 (m + 4) (ix (I7 m 42))) else (-1 : Int32)) = (5 : Int32) → J21 (39 : Int32)) ∧ (¬ (if (I7 (m + 3) (ix (I7 m 42))) = (4 : Int32) then (I7 (m + 4) (ix (I7 m 42))) else (-1 : Int32)) = (5 : Int32) → (((if (I7 (m + 3) (ix (I7 m 42))) = (4 : Int32) then (I7 (m + 4) (ix (I7 m 42))) else (-1 : Int32)) = (6 : Int32) → J21 (40 : Int32)) ∧ (¬ (if (I7 (m + 3) (ix (I7 m 42))) = (4 : Int32) then (I7 (m + 4) (ix (I7 m 42))) else (-1 : Int32)) = (6 : Int32) → (((if (I7 (m + 3) (ix (I7 m 42))) = (4 : Int32) then (I7 (m + 4) (ix (I7 m 42))) else (-1 : Int32)) = (7 : Int32) → J21 (41 : Int32)) ∧ (¬ (if (I7 (m + 3) (ix (I7 m 42))) = (4 : Int32) then (I7 (m + 4) (ix (I7 m 42))) else (-1 : Int32)) = (7 : Int32) → (((if (I7 (m + 3) (ix (I7 m 42))) = (4 : Int32) then (I7 (m + 4) (ix (I7 m 42))) else (-1 : Int32)) = (8 : Int32) → J21 (42 : Int32)) ∧ (¬ (if (I7 (m + 3) (ix (I7 m 42))) = (4 : Int32) then (I7 (m + 4) (ix (I7 m 42))) else (-1 : Int32)) = (8 : Int32) → (((if (I7 (m + 3) (ix (I7 m 42))) = (4 : Int32) then (I7 (m + 4) (ix (I7 m 42))) else (-1 : Int32)) = (9 : Int32) → J21 (35 : Int32)) ∧ (¬ (if (I7 (m + 3) (ix (I7 m 42))) = (4 : Int32) then (I7 (m + 4) (ix (I7 m 42))) else (-1 : Int32)) = (9 : Int32) → (((if (I7 (m + 3) (ix (I7 m 42))) = (4 : Int32) then (I7 (m + 4) (ix (I7 m 42))) else (-1 : Int32)) = (10 : Int32) → J21 (33 : Int32)) ∧ (¬ (if (I7 (m + 3) (ix (I7 m 42))) = (4 : Int32) then (I7 (m + 4) (ix (I7 m 42))) else (-1 : Int32)) = (10 : Int32) → (((if (I7 (m + 3) (ix (I7 m 42))) = (4 : Int32) then (I7 (m + 4) (ix (I7 m 42))) else (-1 : Int32)) = (11 : Int32) → J21 (34 : Int32)) ∧ (¬ (if (I7 (m + 3) (ix (I7 m 42))) = (4 : Int32) then (I7 (m + 4) (ix (I7 m 42))) else (-1 : Int32)) = (11 : Int32) → (((if (I7 (m + 3) (ix (I7 m 42))) = (4 : Int32) then (I7 (m + 4) (ix (I7 m 42))) else (-1 : Int32)) = (2 : Int32) → J21 (20 : Int32)) ∧ (¬ (if (I7 (m + 3) (ix (I7 m 42))) = (4 : Int32) then (I7 (m + 4) (ix (I7 m 42))) else (-1 : Int32)) = (2 : Int32) → (((if (I7 (m + 3) (ix (I7 m 42))) = (4 : Int32) then (I7 (m + 4) (ix (I7 m 42))) else (-1 : Int32)) = (3 : Int32) → J21 (21 : Int32)) ∧ (¬ (if (I7 (m + 3) (ix (I7 m 42))) = (4 : Int32) then (I7 (m + 4) (ix (I7 m 42))) else (-1 : Int32)) = (3 : Int32) → J21 (1 : Int32)))))))))))))))))))))))))))))))) ∧ (((if (I7 (m + 3) (ix (I7 m 42))) = (4 : Int32) then (I7 (m + 4) (ix (I7 m 42))) else (-1 : Int32)) = (32 : Int32) → J14 I13) ∧ (¬ (if (I7 (m + 3) (ix (I7 m 42))) = (4 : Int32) then (I7 (m + 4) (ix (I7 m 42))) else (-1 : Int32)) = (32 : Int32) → ∃ R26 : Int32 → xII → Prop, w_X13_step m (if y9_s0 = 0 then (3 : Int32) else (1 : Int32)) y10_s0 (0 : Int32) R26 I13 ∧ (∀ (v26 : Int32) (I26 : xII), R26 v26 I26 → (J14 I26)))))))) ∧ (((if (I7 (m + 3) (ix (I7 m 42))) = (4 : Int32) then (I7 (m + 4) (ix (I7 m 42))) else (-1 : Int32)) = (32 : Int32) → J12 (1 : Int32)) ∧ (¬ (if (I7 (m + 3) (ix (I7 m 42))) = (4 : Int32) then (I7 (m + 4) (ix (I7 m 42))) else (-1 : Int32)) = (32 : Int32) → (((if (I7 (m + 3) (ix (I7 m 42))) = (4 : Int32) then (I7 (m + 4) (ix (I7 m 42))) else (-1 : Int32)) = (12 : Int32) → J12 (1 : Int32)) ∧ (¬ (if (I7 (m + 3) (ix (I7 m 42))) = (4 : Int32) then (I7 (m + 4) (ix (I7 m 42))) else (-1 : Int32)) = (12 : Int32) → (((if (I7 (m + 3) (ix (I7 m 42))) = (4 : Int32) then (I7 (m + 4) (ix (I7 m 42))) else (-1 : Int32)) = (13 : Int32) → J12 (1 : Int32)) ∧ (¬ (if (I7 (m + 3) (ix (I7 m 42))) = (4 : Int32) then (I7 (m + 4) (ix (I7 m 42))) else (-1 : Int32)) = (13 : Int32) → (((if (I7 (m + 3) (ix (I7 m 42))) = (4 : Int32) then (I7 (m + 4) (ix (I7 m 42))) else (-1 : Int32)) = 0 → J12 (1 : Int32)) ∧ (¬ (if (I7 (m + 3) (ix (I7 m 42))) = (4 : Int32) then (I7 (m + 4) (ix (I7 m 42))) else (-1 : Int32)) = 0 → (((if (I7 (m + 3) (ix (I7 m 42))) = (4 : Int32) then (I7 (m + 4) (ix (I7 m 42))) else (-1 : Int32)) = (2 : Int32) → J12 (1 : Int32)) ∧ (¬ (if (I7 (m + 3) (ix (I7 m 42))) = (4 : Int32) then (I7 (m + 4) (ix (I7 m 42))) else (-1 : Int32)) = (2 : Int32) → (((if (I7 (m + 3) (ix (I7 m 42))) = (4 : Int32) then (I7 (m + 4) (ix (I7 m 42))) else (-1 : Int32)) = (3 : Int32) → J12 (1 : Int32)) ∧ (¬ (if (I7 (m + 3) (ix (I7 m 42))) = (4 : Int32) then (I7 (m + 4) (ix (I7 m 42))) else (-1 : Int32)) = (3 : Int32) → (((if (I7 (m + 3) (ix (I7 m 42))) = (4 : Int32) then (I7 (m + 4) (ix (I7 m 42))) else (-1 : Int32)) < (4 : Int32) → J12 (0 : Int32)) ∧ (¬ (if (I7 (m + 3) (ix (I7 m 42))) = (4 : Int32) then (I7 (m + 4) (ix (I7 m 42))) else (-1 : Int32)) < (4 : Int32) → (((12 : Int32) ≤ (if (I7 (m + 3) (ix (I7 m 42))) = (4 : Int32) then (I7 (m + 4) (ix (I7 m 42))) else (-1 : Int32)) → J12 (0 : Int32)) ∧ (¬ (12 : Int32) ≤ (if (I7 (m + 3) (ix (I7 m 42))) = (4 : Int32) then (I7 (m + 4) (ix (I7 m 42))) else (-1 : Int32)) → J12 (1 : Int32))))))))))))))))))) ∧ (¬ v4 = 0 → ∃ R28 : Int32 → xII → Prop, g_X13_element m y3_s0 R28 I7 ∧ (∀ (v28 : Int32) (I28 : xII), (v28 = 0 ∨ v28 = 1) → R28 v28 I28 → (((v28 = 0 → Q (0 : Int32) I28) ∧ (¬ v28 = 0 → vp_in (I28 m 42) 4002 ∧ (∃ J30 : Int32 → Prop, (∀ (y30_s0 : Int32), J30 y30_s0 → ((y30_s0 = 0 → ∃ R46 : Int32 → xII → Prop, w_X13_fails m (2 : Int32) R46 I28 ∧ (∀ (v46 : Int32) (I46 : xII), (v46 = 0 ∨ v46 = 1) → R46 v46 I46 → (Q v46 I46))) ∧ (¬ y30_s0 = 0 → ∀ I31 : xII, I31 = xup I28 m 42 ((I28 m 42) + (1 : Int32)) → (∃ J32 : xII → Prop, (∀ (I32 : xII), J32 I32 → (((if (I28 (m + 3) (ix (I28 m 42))) = (4 : Int32) then (I28 (m + 4) (ix (I28 m 42))) else (-1 : Int32)) = (12 : Int32) → ∃ R33 : Int32 → xII → Prop, w_X13_step m (0 : Int32) (1 : Int32) (0 : Int32) R33 I32 ∧ (∀ (v33 : Int32) (I33 : xII), R33 v33 I33 → (∃ R34 : Int32 → xII → Prop, w_X13_step m (10 : Int32) (38 : Int32) (0 : Int32) R34 I33 ∧ (∀ (v34 : Int32) (I34 : xII), R34 v34 I34 → (∃ R35 : Int32 → xII → Prop, w_X13_step m (8 : Int32) (if y8_s0 = 0 then (0 : Int32) else (1 : Int32)) (0 : Int32) R35 I34 ∧ (∀ (v35 : Int32) (I35 : xII), R35 v35 I35 → (Q (1 : Int32) I35))))))) ∧ (¬ (if (I28 (m + 3) (ix (I28 m 42))) = (4 : Int32) then (I28 (m + 4) (ix (I28 m 42))) else (-1 : Int32)) = (12 : Int32) → (((if (I28 (m + 3) (ix (I28 m 42))) = (4 : Int32) then (I28 (m + 4) (ix (I28 m 42))) else (-1 : Int32)) = (13 : Int32) → ∃ R41 : Int32 → xII → Prop, w_X13_step m (0 : Int32) (1 : Int32) (0 : Int32) R41 I32 ∧ (∀ (v41 : Int32) (I41 : xII), R41 v41 I41 → (∃ R42 : Int32 → xII → Prop, w_X13_step m (10 : Int32) (39 : Int32) (0 : Int32) R42 I41 ∧ (∀ (v42 : Int32) (I42 : xII), R42 v42 I42 → (∃ R43 : Int32 → xII → Prop, w_X13_step m (8 : Int32) (if y8_s0 = 0 then (0 : Int32) else (1 : Int32)) (0 : Int32) R43 I42 ∧ (∀ (v43 : Int32) (I43 : xII), R43 v43 I43 → (Q (1 : Int32) I43))))))) ∧ (¬ (if (I28 (m + 3) (ix (I28 m 42))) = (4 : Int32) then (I28 (m + 4) (ix (I28 m 42))) else (-1 : Int32)) = (13 : Int32) → ∃ R36 : Int32 → xII → Prop, g_X13_expression m R36 I32 ∧ (∀ (v36 : Int32) (I36 : xII), (v36 = 0 ∨ v36 = 1) → R36 v36 I36 → (((v36 = 0 → Q (0 : Int32) I36) ∧ (¬ v36 = 0 → ∃ J37 : xII → Prop, (∀ (I37 : xII), J37 I37 → ∃ R38 : Int32 → xII → Prop, w_X13_step m (8 : Int32) (if y8_s0 = 0 then (0 : Int32) else (1 : Int32)) (0 : Int32) R38 I37 ∧ (∀ (v38 : Int32) (I38 : xII), R38 v38 I38 → (Q (1 : Int32) I38))) ∧ (((if (I28 (m + 3) (ix (I28 m 42))) = (4 : Int32) then (I28 (m + 4) (ix (I28 m 42))) else (-1 : Int32)) = (32 : Int32) → J37 I36) ∧ (¬ (if (I28 (m + 3) (ix (I28 m 42))) = (4 : Int32) then (I28 (m + 4) (ix (I28 m 42))) else (-1 : Int32)) = (32 : Int32) → ∃ J39 : Int32 → Prop, (∀ (y39_s0 : Int32), J39 y39_s0 → ∃ R40 : Int32 → xII → Prop, w_X13_step m (10 : Int32) y39_s0 (0 : Int32) R40 I36 ∧ (∀ (v40 : Int32) (I40 : xII), R40 v40 I40 → (J37 I40))) ∧ (((if (I28 (m + 3) (ix (I28 m 42))) = (4 : Int32) then (I28 (m + 4) (ix (I28 m 42))) else (-1 : Int32)) = (4 : Int32) → J39 (38 : Int32)) ∧ (¬ (if (I28 (m + 3) (ix (I28 m 42))) = (4 : Int32) then (I28 (m + 4) (ix (I28 m 42))) else (-1 : Int32)) = (4 : Int32) → (((if (I28 (m + 3) (ix (I28 m 42))) = (4 : Int32) then (I28 (m + 4) (ix (I28 m 42))) else (-1 : Int32)) = (5 : Int32) → J39 (39 : Int32)) ∧ (¬ (if (I28 (m + 3) (ix (I28 m 42))) = (4 : Int32) then (I28 (m + 4) (ix (I28 m 42))) else (-1 : Int32)) = (5 : Int32) → (((if (I28 (m + 3) (ix (I28 m 42))) = (4 : Int32) then (I28 (m + 4) (ix (I28 m 42))) else (-1 : Int32)) = (6 : Int32) → J39 (40 : Int32)) ∧ (¬ (if (I28 (m + 3) (ix (I28 m 42))) = (4 : Int32) then (I28 (m + 4) (ix (I28 m 42))) else (-1 : Int32)) = (6 : Int32) → (((if (I28 (m + 3) (ix (I28 m 42))) = (4 : Int32) then (I28 (m + 4) (ix (I28 m 42))) else (-1 : Int32)) = (7 : Int32) → J39 (41 : Int32)) ∧ (¬ (if (I28 (m + 3) (ix (I28 m 42))) = (4 : Int32) then (I28 (m + 4) (ix (I28 m 42))) else (-1 : Int32)) = (7 : Int32) → (((if (I28 (m + 3) (ix (I28 m 42))) = (4 : Int32) then (I28 (m + 4) (ix (I28 m 42))) else (-1 : Int32)) = (8 : Int32) → J39 (42 : Int32)) ∧ (¬ (if (I28 (m + 3) (ix (I28 m 42))) = (4 : Int32) then (I28 (m + 4) (ix (I28 m 42))) else (-1 : Int32)) = (8 : Int32) → (((if (I28 (m + 3) (ix (I28 m 42))) = (4 : Int32) then (I28 (m + 4) (ix (I28 m 42))) else (-1 : Int32)) = (9 : Int32) → J39 (35 : Int32)) ∧ (¬ (if (I28 (m + 3) (ix (I28 m 42))) = (4 : Int32) then (I28 (m + 4) (ix (I28 m 42))) else (-1 : Int32)) = (9 : Int32) → (((if (I28 (m + 3) (ix (I28 m 42))) = (4 : Int32) then (I28 (m + 4) (ix (I28 m 42))) else (-1 : Int32)) = (10 : Int32) → J39 (33 : Int32)) ∧ (¬ (if (I28 (m + 3) (ix (I28 m 42))) = (4 : Int32) then (I28 (m + 4) (ix (I28 m 42))) else (-1 : Int32)) = (10 : Int32) → (((if (I28 (m + 3) (ix (I28 m 42))) = (4 : Int32) then (I28 (m + 4) (ix (I28 m 42))) else (-1 : Int32)) = (11 : Int32) → J39 (34 : Int32)) ∧ (¬ (if (I28 (m + 3) (ix (I28 m 42))) = (4 : Int32) then (I28 (m + 4) (ix (I28 m 42))) else (-1 : Int32)) = (11 : Int32) → (((if (I28 (m + 3) (ix (I28 m 42))) = (4 : Int32) then (I28 (m + 4) (ix (I28 m 42))) else (-1 : Int32)) = (2 : Int32) → J39 (20 : Int32)) ∧ (¬ (if (I28 (m + 3) (ix (I28 m 42))) = (4 : Int32) then (I28 (m + 4) (ix (I28 m 42))) else (-1 : Int32)) = (2 : Int32) → (((if (I28 (m + 3) (ix (I28 m 42))) = (4 : Int32) then (I28 (m + 4) (ix (I28 m 42))) else (-1 : Int32)) = (3 : Int32) → J39 (21 : Int32)) ∧ (¬ (if (I28 (m + 3) (ix (I28 m 42))) = (4 : Int32) then (I28 (m + 4) (ix (I28 m 42))) else (-1 : Int32)) = (3 : Int32) → J39 (1 : Int32)))))))))))))))))))))))))))))))) ∧ (((if (I28 (m + 3) (ix (I28 m 42))) = (4 : Int32) then (I28 (m + 4) (ix (I28 m 42))) else (-1 : Int32)) = (32 : Int32) → J32 I31) ∧ (¬ (if (I28 (m + 3) (ix (I28 m 42))) = (4 : Int32) then (I28 (m + 4) (ix (I28 m 42))) else (-1 : Int32)) = (32 : Int32) → ∃ R44 : Int32 → xII → Prop, w_X13_step m (9 : Int32) (0 : Int32) (0 : Int32) R44 I31 ∧ (∀ (v44 : Int32) (I44 : xII), R44 v44 I44 → (∃ R45 : Int32 → xII → Prop, w_X13_step m (7 : Int32) (0 : Int32) (0 : Int32) R45 I44 ∧ (∀ (v45 : Int32) (I45 : xII), R45 v45 I45 → (J32 I45)))))))))) ∧ (((if (I28 (m + 3) (ix (I28 m 42))) = (4 : Int32) then (I28 (m + 4) (ix (I28 m 42))) else (-1 : Int32)) = (32 : Int32) → J30 (1 : Int32)) ∧ (¬ (if (I28 (m + 3) (ix (I28 m 42))) = (4 : Int32) then (I28 (m + 4) (ix (I28 m 42))) else (-1 : Int32)) = (32 : Int32) → (((if (I28 (m + 3) (ix (I28 m 42))) = (4 : Int32) then (I28 (m + 4) (ix (I28 m 42))) else (-1 : Int32)) = (12 : Int32) → J30 (1 : Int32)) ∧ (¬ (if (I28 (m + 3) (ix (I28 m 42))) = (4 : Int32) then (I28 (m + 4) (ix (I28 m 42))) else (-1 : Int32)) = (12 : Int32) → (((if (I28 (m + 3) (ix (I28 m 42))) = (4 : Int32) then (I28 (m + 4) (ix (I28 m 42))) else (-1 : Int32)) = (13 : Int32) → J30 (1 : Int32)) ∧ (¬ (if (I28 (m + 3) (ix (I28 m 42))) = (4 : Int32) then (I28 (m + 4) (ix (I28 m 42))) else (-1 : Int32)) = (13 : Int32) → (((if (I28 (m + 3) (ix (I28 m 42))) = (4 : Int32) then (I28 (m + 4) (ix (I28 m 42))) else (-1 : Int32)) = 0 → J30 (1 : Int32)) ∧ (¬ (if (I28 (m + 3) (ix (I28 m 42))) = (4 : Int32) then (I28 (m + 4) (ix (I28 m 42))) else (-1 : Int32)) = 0 → (((if (I28 (m + 3) (ix (I28 m 42))) = (4 : Int32) then (I28 (m + 4) (ix (I28 m 42))) else (-1 : Int32)) = (2 : Int32) → J30 (1 : Int32)) ∧ (¬ (if (I28 (m + 3) (ix (I28 m 42))) = (4 : Int32) then (I28 (m + 4) (ix (I28 m 42))) else (-1 : Int32)) = (2 : Int32) → (((if (I28 (m + 3) (ix (I28 m 42))) = (4 : Int32) then (I28 (m + 4) (ix (I28 m 42))) else (-1 : Int32)) = (3 : Int32) → J30 (1 : Int32)) ∧ (¬ (if (I28 (m + 3) (ix (I28 m 42))) = (4 : Int32) then (I28 (m + 4) (ix (I28 m 42))) else (-1 : Int32)) = (3 : Int32) → (((if (I28 (m + 3) (ix (I28 m 42))) = (4 : Int32) then (I28 (m + 4) (ix (I28 m 42))) else (-1 : Int32)) < (4 : Int32) → J30 (0 : Int32)) ∧ (¬ (if (I28 (m + 3) (ix (I28 m 42))) = (4 : Int32) then (I28 (m + 4) (ix (I28 m 42))) else (-1 : Int32)) < (4 : Int32) → (((12 : Int32) ≤ (if (I28 (m + 3) (ix (I28 m 42))) = (4 : Int32) then (I28 (m + 4) (ix (I28 m 42))) else (-1 : Int32)) → J30 (0 : Int32)) ∧ (¬ (12 : Int32) ≤ (if (I28 (m + 3) (ix (I28 m 42))) = (4 : Int32) then (I28 (m + 4) (ix (I28 m 42))) else (-1 : Int32)) → J30 (1 : Int32))))))))))))))))))))))))) ∧ ((y3_s0 = (-1 : Int32) → J10 (0 : Int32)) ∧ (¬ y3_s0 = (-1 : Int32) → vp_in y3_s0 900 ∧ (J10 (I7 (m + 14) (ix y3_s0)))))) ∧ ((y3_s0 = (-1 : Int32) → J9 (0 : Int32)) ∧ (¬ y3_s0 = (-1 : Int32) → vp_in y3_s0 900 ∧ ((((I7 (m + 17) (ix y3_s0)) = 0 → J9 (0 : Int32)) ∧ (¬ (I7 (m + 17) (ix y3_s0)) = 0 → J9 (1 : Int32))))))) ∧ ((y3_s0 = (-1 : Int32) → J8 (0 : Int32)) ∧ (¬ y3_s0 = (-1 : Int32) → vp_in y3_s0 900 ∧ ((((I7 (m + 16) (ix y3_s0)) = 0 → J8 (0 : Int32)) ∧ (¬ (I7 (m + 16) (ix y3_s0)) = 0 → J8 (1 : Int32))))))) ∧ (((if (I3 m 46) ≤ 0 then (0 : Int32) else (if y3_s0 = (-1 : Int32) then (if (I3 m 62) = (-1 : Int32) then (1 : Int32) else (0 : Int32)) else (0 : Int32))) = 0 → ((y6_s0 = 0 → vp_in v1 4002 ∧ (∃ R51 : xII → Prop, w_X13_note m (6 : Int32) (I5 (m + 5) (ix v1)) R51 I5 ∧ (∀ I51 : xII, R51 I51 → (J7 I51)))) ∧ (¬ y6_s0 = 0 → J7 I5))) ∧ (¬ (if (I3 m 46) ≤ 0 then (0 : Int32) else (if y3_s0 = (-1 : Int32) then (if (I3 m 62) = (-1 : Int32) then (1 : Int32) else (0 : Int32)) else (0 : Int32))) = 0 → J7 I5))) ∧ ((y3_s0 = (-1 : Int32) → J6 (0 : Int32)) ∧ (¬ y3_s0 = (-1 : Int32) → ((v4 = 0 → vp_in y3_s0 900 ∧ ((((I5 (m + 11) (ix y3_s0)) = (1 : Int32) → J6 (1 : Int32)) ∧ (¬ (I5 (m + 11) (ix y3_s0)) = (1 : Int32) → J6 (0 : Int32))))) ∧ (¬ v4 = 0 → vp_in y3_s0 900 ∧ ((((I5 (m + 11) (ix y3_s0)) = (2 : Int32) → J6 (1 : Int32)) ∧ (¬ (I5 (m + 11) (ix y3_s0)) = (2 : Int32) → J6 (0 : Int32))))))))) ∧ (((if (I3 m 46) ≤ 0 then (0 : Int32) else (if y3_s0 = (-1 : Int32) then (if (I3 m 62) = (-1 : Int32) then (1 : Int32) else (0 : Int32)) else (0 : Int32))) = 0 → J5 I4) ∧ (¬ (if (I3 m 46) ≤ 0 then (0 : Int32) else (if y3_s0 = (-1 : Int32) then (if (I3 m 62) = (-1 : Int32) then (1 : Int32) else (0 : Int32)) else (0 : Int32))) = 0 → vp_in v1 4002 ∧ (∃ R55 : xII → Prop, w_X13_note m (4 : Int32) (I4 (m + 5) (ix v1)) R55 I4 ∧ (∀ I55 : xII, R55 I55 → (J5 I55)))))))) ∧ (((I2 m 46) = 0 → J3 (-1 : Int32) I2) ∧ (¬ (I2 m 46) = 0 → ∃ R56 : Int32 → xII → Prop, w_X13_meaning m v1 R56 I2 ∧ (∀ (v56 : Int32) (I56 : xII), R56 v56 I56 → (J3 v56 I56))))) ∧ (¬ v2 = 0 → ∃ R57 : Int32 → xII → Prop, g_X13_call m v1 (0 : Int32) R57 I2 ∧ (∀ (v57 : Int32) (I57 : xII), (v57 = 0 ∨ v57 = 1) → R57 v57 I57 → (((v57 = 0 → Q (0 : Int32) I57) ∧ (¬ v57 = 0 → ∃ R58 : Int32 → xII → Prop, w_X13_step m (18 : Int32) (0 : Int32) (0 : Int32) R58 I57 ∧ (∀ (v58 : Int32) (I58 : xII), R58 v58 I58 → (Q (1 : Int32) I58))))))))))) ∧ (¬ (I1 m 44) ≤ 0 → Q (0 : Int32) I1))))
theorem m_X13_simple (hG : xOK G) {dp : Nat} {A : xA} {m : Nat} (hM : xMo G A m) {Q : Int32 → xII → Prop} {I : xII} (h : w_X13_simple m Q I) : MX G (dp + 713) kX13_simple [.ref m] (A.wI I) (oZ A Q) := by
  unfold w_X13_simple at h
  refine MX.of rfl (Nat.le_of_ble_eq_true rfl) ?_
  change X _ _ _ _ _ _ [some (.ref m), none, none, none, none, none, none, none, none, none, none] _
  refine x_aload_n dX13_simple_0 rfl ?_
  obtain ⟨R1, g1, h⟩ := h
  refine x_callV hG (Ky := kX13_name) (As := []) dX13_simple_1 (mo_t hM) rfl lk_X13_317 me_X13_name is_X13_name se_X13_name rfl rfl (Nat.le_of_ble_eq_true rfl) (MX.post (m_X13_name hG hM g1) ?_)
  rintro _ _ ⟨v1, I1, rfl, rfl, h1⟩
  replace h := h v1 I1 h1
  change X _ _ _ _ (A.wI I1) _ _ (.int v1 :: _)
  refine x_istore_n dX13_simple_4 (by decide) ?_
  refine x_aload_n dX13_simple_5 rfl ?_
  refine x_get (v := .int (I1 m 44)) hG dX13_simple_6 f_X13_230_12 (mo_t hM) rfl ?_
  refine x_if_le (tgt := 14) dX13_simple_9 (by decide) (fun c9 => ?_) (fun c9 => ?_)
  · replace h := h.1 c9
    refine x_aload_n dX13_simple_14 rfl ?_
    refine x_bipush_ (v := (22 : Int32)) dX13_simple_15 (by decide) ?_
    obtain ⟨R2, g2, h⟩ := h
    refine x_callV hG (Ky := kX13_isSign) (As := [.int (22 : Int32)]) dX13_simple_17 (mo_t hM) rfl lk_X13_257 me_X13_isSign is_X13_isSign se_X13_isSign rfl rfl (Nat.le_of_ble_eq_true rfl) (MX.post (m_X13_isSign hG hM g2) ?_)
    rintro _ _ ⟨v2, I2, rfl, rfl, zv2, h1⟩
    replace h := h v2 I2 zv2 h1
    change X _ _ _ _ (A.wI I2) _ _ (.int v2 :: _)
    refine x_if_eq (tgt := 45) dX13_simple_20 (by decide) (fun c20 => ?_) (fun c20 => ?_)
    · replace h := h.1 c20
      refine x_aload_n dX13_simple_45 rfl ?_
      refine x_get (v := .int (I2 m 46)) hG dX13_simple_46 f_X13_245_12 (mo_t hM) rfl ?_
      obtain ⟨J3, g3, h⟩ := h
      have kj3 : ∀ (y3_s0 : Int32) (I3 : xII), J3 y3_s0 I3 → X G (dp + 713) kX13_simple (oZ A Q) (A.wI I3) 61 [some (.ref m), some (.int v1), none, none, none, none, none, none, none, none, none] [.int y3_s0] := by
        intro y3_s0 I3 h
        replace h := g3 y3_s0 I3 h
        refine x_istore_n dX13_simple_61 (by decide) ?_
        refine x_aload_n dX13_simple_62 rfl ?_
        refine x_get (v := .int (I3 m 46)) hG dX13_simple_63 f_X13_245_12 (mo_t hM) rfl ?_
        refine x_via 87 (A' := (A.wI I3)) (lv' := [some (.ref m), some (.int v1), some (.int y3_s0), none, none, none, none, none, none, none, none]) (st' := [.int (if (I3 m 46) ≤ 0 then (0 : Int32) else (if y3_s0 = (-1 : Int32) then (if (I3 m 62) = (-1 : Int32) then (1 : Int32) else (0 : Int32)) else (0 : Int32)))]) ?_ (fun k87 => ?_)
        rotate_left
        · refine x_if_le (tgt := 86) dX13_simple_66 (by decide) (fun c66 => ?_) (fun c66 => ?_)
          · refine x_iconst_ (v := (0 : Int32)) dX13_simple_86 (by decide) ?_
            change X _ _ _ _ _ _ [some (.ref m), some (.int v1), some (.int y3_s0), none, none, none, none, none, none, none, none] [.int (0 : Int32)]
            simp only [if_pos c66] at k87 ⊢
            exact X.weak (xle_c rfl (xle_c rfl (xle_c rfl (xle_n (xle_n (xle_n (xle_n (xle_n (xle_n (xle_n (xle_n xle_nil))))))))))) k87
          · refine x_iload_n dX13_simple_69 rfl ?_
            refine x_iconst_ (v := (-1 : Int32)) dX13_simple_70 (by decide) ?_
            refine x_icmp_ne (tgt := 86) dX13_simple_71 (by decide) (fun c71 => ?_) (fun c71 => ?_)
            · refine x_iconst_ (v := (0 : Int32)) dX13_simple_86 (by decide) ?_
              change X _ _ _ _ _ _ [some (.ref m), some (.int v1), some (.int y3_s0), none, none, none, none, none, none, none, none] [.int (0 : Int32)]
              try simp only [if_neg c66] at c71 k87 ⊢
              try simp only [if_neg c71] at k87 ⊢
              exact X.weak (xle_c rfl (xle_c rfl (xle_c rfl (xle_n (xle_n (xle_n (xle_n (xle_n (xle_n (xle_n (xle_n xle_nil))))))))))) k87
            · refine x_aload_n dX13_simple_74 rfl ?_
              refine x_get (v := .int (I3 m 62)) hG dX13_simple_75 f_X13_374_12 (mo_t hM) rfl ?_
              refine x_iconst_ (v := (-1 : Int32)) dX13_simple_78 (by decide) ?_
              refine x_icmp_ne (tgt := 86) dX13_simple_79 (by decide) (fun c79 => ?_) (fun c79 => ?_)
              · refine x_iconst_ (v := (0 : Int32)) dX13_simple_86 (by decide) ?_
                change X _ _ _ _ _ _ [some (.ref m), some (.int v1), some (.int y3_s0), none, none, none, none, none, none, none, none] [.int (0 : Int32)]
                try simp only [if_neg c66] at c71 c79 k87 ⊢
                try simp only [if_pos c71] at c79 k87 ⊢
                try simp only [if_neg c79] at k87 ⊢
                exact X.weak (xle_c rfl (xle_c rfl (xle_c rfl (xle_n (xle_n (xle_n (xle_n (xle_n (xle_n (xle_n (xle_n xle_nil))))))))))) k87
              · refine x_iconst_ (v := (1 : Int32)) dX13_simple_82 (by decide) ?_
                refine x_goto (tgt := 87) dX13_simple_83 (by decide) ?_
                change X _ _ _ _ _ _ [some (.ref m), some (.int v1), some (.int y3_s0), none, none, none, none, none, none, none, none] [.int (1 : Int32)]
                try simp only [if_neg c66] at c71 c79 k87 ⊢
                try simp only [if_pos c71] at c79 k87 ⊢
                try simp only [if_pos c79] at k87 ⊢
                exact X.weak (xle_c rfl (xle_c rfl (xle_c rfl (xle_n (xle_n (xle_n (xle_n (xle_n (xle_n (xle_n (xle_n xle_nil))))))))))) k87
        refine x_istore_n dX13_simple_87 (by decide) ?_
        refine x_aload_n dX13_simple_88 rfl ?_
        refine x_bipush_ (v := (24 : Int32)) dX13_simple_89 (by decide) ?_
        obtain ⟨R4, g4, h⟩ := h
        refine x_callV hG (Ky := kX13_isSign) (As := [.int (24 : Int32)]) dX13_simple_91 (mo_t hM) rfl lk_X13_257 me_X13_isSign is_X13_isSign se_X13_isSign rfl rfl (Nat.le_of_ble_eq_true rfl) (MX.post (m_X13_isSign hG hM g4) ?_)
        rintro _ _ ⟨v4, I4, rfl, rfl, zv4, h1⟩
        replace h := h v4 I4 zv4 h1
        change X _ _ _ _ (A.wI I4) _ _ (.int v4 :: _)
        refine x_istore dX13_simple_94 (by decide) ?_
        refine x_iload_n dX13_simple_96 rfl ?_
        obtain ⟨J5, g5, h⟩ := h
        have kj5 : ∀ (I5 : xII), J5 I5 → X G (dp + 713) kX13_simple (oZ A Q) (A.wI I5) 111 [some (.ref m), some (.int v1), some (.int y3_s0), some (.int (if (I3 m 46) ≤ 0 then (0 : Int32) else (if y3_s0 = (-1 : Int32) then (if (I3 m 62) = (-1 : Int32) then (1 : Int32) else (0 : Int32)) else (0 : Int32)))), some (.int v4), none, none, none, none, none, none] [] := by
          intro I5 h
          replace h := g5 I5 h
          refine x_iload_n dX13_simple_111 rfl ?_
          refine x_iconst_ (v := (-1 : Int32)) dX13_simple_112 (by decide) ?_
          obtain ⟨J6, g6, h⟩ := h
          have kj6 : ∀ (y6_s0 : Int32), J6 y6_s0 → X G (dp + 713) kX13_simple (oZ A Q) (A.wI I5) 149 [some (.ref m), some (.int v1), some (.int y3_s0), some (.int (if (I3 m 46) ≤ 0 then (0 : Int32) else (if y3_s0 = (-1 : Int32) then (if (I3 m 62) = (-1 : Int32) then (1 : Int32) else (0 : Int32)) else (0 : Int32)))), some (.int v4), none, none, none, none, none, none] [.int y6_s0] := by
            intro y6_s0 h
            replace h := g6 y6_s0 h
            refine x_istore dX13_simple_149 (by decide) ?_
            refine x_iload_n dX13_simple_151 rfl ?_
            obtain ⟨J7, g7, h⟩ := h
            have kj7 : ∀ (I7 : xII), J7 I7 → X G (dp + 713) kX13_simple (oZ A Q) (A.wI I7) 172 [some (.ref m), none, some (.int y3_s0), none, some (.int v4), none, none, none, none, none, none] [] := by
              intro I7 h
              replace h := g7 I7 h
              refine x_iload_n dX13_simple_172 rfl ?_
              refine x_iconst_ (v := (-1 : Int32)) dX13_simple_173 (by decide) ?_
              obtain ⟨J8, g8, h⟩ := h
              have kj8 : ∀ (y8_s0 : Int32), J8 y8_s0 → X G (dp + 713) kX13_simple (oZ A Q) (A.wI I7) 191 [some (.ref m), none, some (.int y3_s0), none, some (.int v4), none, none, none, none, none, none] [.int y8_s0] := by
                intro y8_s0 h
                replace h := g8 y8_s0 h
                refine x_istore dX13_simple_191 (by decide) ?_
                refine x_iload_n dX13_simple_193 rfl ?_
                refine x_iconst_ (v := (-1 : Int32)) dX13_simple_194 (by decide) ?_
                obtain ⟨J9, g9, h⟩ := h
                have kj9 : ∀ (y9_s0 : Int32), J9 y9_s0 → X G (dp + 713) kX13_simple (oZ A Q) (A.wI I7) 212 [some (.ref m), none, some (.int y3_s0), none, some (.int v4), none, some (.int y8_s0), none, none, none, none] [.int y9_s0] := by
                  intro y9_s0 h
                  replace h := g9 y9_s0 h
                  refine x_istore dX13_simple_212 (by decide) ?_
                  refine x_iload_n dX13_simple_214 rfl ?_
                  refine x_iconst_ (v := (-1 : Int32)) dX13_simple_215 (by decide) ?_
                  obtain ⟨J10, g10, h⟩ := h
                  have kj10 : ∀ (y10_s0 : Int32), J10 y10_s0 → X G (dp + 713) kX13_simple (oZ A Q) (A.wI I7) 229 [some (.ref m), none, some (.int y3_s0), none, some (.int v4), none, some (.int y8_s0), some (.int y9_s0), none, none, none] [.int y10_s0] := by
                    intro y10_s0 h
                    replace h := g10 y10_s0 h
                    refine x_istore dX13_simple_229 (by decide) ?_
                    refine x_iload dX13_simple_231 rfl ?_
                    refine x_if_eq (tgt := 246) dX13_simple_233 (by decide) (fun c233 => ?_) (fun c233 => ?_)
                    · replace h := h.1 c233
                      refine x_aload_n dX13_simple_246 rfl ?_
                      refine x_get (v := .ref (m + 3)) hG dX13_simple_247 f_X13_16_12 (mo_t hM) (congrArg va_rf (mo_P4 hM)) ?_
                      refine x_aload_n dX13_simple_250 rfl ?_
                      refine x_get (v := .int (I7 m 42)) hG dX13_simple_251 f_X13_233_12 (mo_t hM) rfl ?_
                      obtain ⟨o11, h⟩ := h
                      refine y_iald hG dX13_simple_254 (mo_t4 hM) (mo_n4 hM) o11 ?_
                      refine x_iconst_ (v := (4 : Int32)) dX13_simple_255 (by decide) ?_
                      refine x_via 272 (A' := (A.wI I7)) (lv' := [some (.ref m), none, none, none, some (.int v4), none, some (.int y8_s0), some (.int y9_s0), some (.int y10_s0), none, none]) (st' := [.int (if (I7 (m + 3) (ix (I7 m 42))) = (4 : Int32) then (I7 (m + 4) (ix (I7 m 42))) else (-1 : Int32))]) ?_ (fun k272 => ?_)
                      rotate_left
                      · refine x_icmp_ne (tgt := 271) dX13_simple_256 (by decide) (fun c256 => ?_) (fun c256 => ?_)
                        · refine x_iconst_ (v := (-1 : Int32)) dX13_simple_271 (by decide) ?_
                          change X _ _ _ _ _ _ [some (.ref m), none, some (.int y3_s0), none, some (.int v4), none, some (.int y8_s0), some (.int y9_s0), some (.int y10_s0), none, none] [.int (-1 : Int32)]
                          simp only [if_neg c256] at k272 ⊢
                          exact X.weak (xle_c rfl (xle_n (xle_n (xle_n (xle_c rfl (xle_n (xle_c rfl (xle_c rfl (xle_c rfl (xle_n (xle_n xle_nil))))))))))) k272
                        · refine x_aload_n dX13_simple_259 rfl ?_
                          refine x_get (v := .ref (m + 4)) hG dX13_simple_260 f_X13_19_12 (mo_t hM) (congrArg va_rf (mo_P5 hM)) ?_
                          refine x_aload_n dX13_simple_263 rfl ?_
                          refine x_get (v := .int (I7 m 42)) hG dX13_simple_264 f_X13_233_12 (mo_t hM) rfl ?_
                          refine y_iald hG dX13_simple_267 (mo_t5 hM) (mo_n5 hM) o11 ?_
                          refine x_goto (tgt := 272) dX13_simple_268 (by decide) ?_
                          change X _ _ _ _ _ _ [some (.ref m), none, some (.int y3_s0), none, some (.int v4), none, some (.int y8_s0), some (.int y9_s0), some (.int y10_s0), none, none] [.int (I7 (m + 4) (ix (I7 m 42)))]
                          simp only [if_pos c256] at k272 ⊢
                          exact X.weak (xle_c rfl (xle_n (xle_n (xle_n (xle_c rfl (xle_n (xle_c rfl (xle_c rfl (xle_c rfl (xle_n (xle_n xle_nil))))))))))) k272
                      refine x_istore dX13_simple_272 (by decide) ?_
                      refine x_iload dX13_simple_274 rfl ?_
                      refine x_bipush_ (v := (32 : Int32)) dX13_simple_276 (by decide) ?_
                      obtain ⟨J12, g12, h⟩ := h
                      have kj12 : ∀ (y12_s0 : Int32), J12 y12_s0 → X G (dp + 713) kX13_simple (oZ A Q) (A.wI I7) 330 [some (.ref m), none, none, none, some (.int v4), none, some (.int y8_s0), some (.int y9_s0), some (.int y10_s0), some (.int (if (I7 (m + 3) (ix (I7 m 42))) = (4 : Int32) then (I7 (m + 4) (ix (I7 m 42))) else (-1 : Int32))), none] [.int y12_s0] := by
                        intro y12_s0 h
                        replace h := g12 y12_s0 h
                        refine x_istore dX13_simple_330 (by decide) ?_
                        refine x_iload dX13_simple_332 rfl ?_
                        refine x_if_ne (tgt := 343) dX13_simple_334 (by decide) (fun c334 => ?_) (fun c334 => ?_)
                        · replace h := h.2 c334
                          refine x_aload_n dX13_simple_343 rfl ?_
                          refine x_dup dX13_simple_344 rfl ?_
                          refine x_get (v := .int (I7 m 42)) hG dX13_simple_345 f_X13_233_12 (mo_t hM) rfl ?_
                          refine x_iconst_ (v := (1 : Int32)) dX13_simple_348 (by decide) ?_
                          refine x_iadd dX13_simple_349 ?_
                          refine y_put hG hM dX13_simple_350 f_X13_233_12 ⟨_, rfl, Or.inl rfl⟩ rfl rfl ⟨_, rfl⟩ (fun I13 e13 => ?_)
                          replace h := h I13 e13
                          refine x_iload dX13_simple_353 rfl ?_
                          refine x_bipush_ (v := (32 : Int32)) dX13_simple_355 (by decide) ?_
                          obtain ⟨J14, g14, h⟩ := h
                          have kj14 : ∀ (I14 : xII), J14 I14 → X G (dp + 713) kX13_simple (oZ A Q) (A.wI I14) 404 [some (.ref m), none, none, none, some (.int v4), none, some (.int y8_s0), some (.int y9_s0), some (.int y10_s0), some (.int (if (I7 (m + 3) (ix (I7 m 42))) = (4 : Int32) then (I7 (m + 4) (ix (I7 m 42))) else (-1 : Int32))), none] [] := by
                            intro I14 h
                            replace h := g14 I14 h
                            refine x_iload dX13_simple_404 rfl ?_
                            refine x_bipush_ (v := (12 : Int32)) dX13_simple_406 (by decide) ?_
                            refine x_icmp_eq (tgt := 418) dX13_simple_408 (by decide) (fun c408 => ?_) (fun c408 => ?_)
                            · replace h := h.1 c408
                              refine x_aload_n dX13_simple_418 rfl ?_
                              refine x_iconst_ (v := (0 : Int32)) dX13_simple_419 (by decide) ?_
                              refine x_iconst_ (v := (1 : Int32)) dX13_simple_420 (by decide) ?_
                              refine x_iconst_ (v := (0 : Int32)) dX13_simple_421 (by decide) ?_
                              obtain ⟨R15, g15, h⟩ := h
                              refine x_callV hG (Ky := kX13_step) (As := [.int (0 : Int32), .int (1 : Int32), .int (0 : Int32)]) dX13_simple_422 (mo_t hM) rfl lk_X13_401 me_X13_step is_X13_step se_X13_step rfl rfl (Nat.le_of_ble_eq_true rfl) (MX.post (m_X13_step hG hM g15) ?_)
                              rintro _ _ ⟨v15, I15, rfl, rfl, h1⟩
                              replace h := h v15 I15 h1
                              change X _ _ _ _ (A.wI I15) _ _ (.int v15 :: _)
                              refine x_pop dX13_simple_425 rfl ?_
                              refine x_goto (tgt := 438) dX13_simple_426 (by decide) ?_
                              refine x_iload dX13_simple_438 rfl ?_
                              refine x_bipush_ (v := (32 : Int32)) dX13_simple_440 (by decide) ?_
                              refine x_icmp_eq (tgt := 584) dX13_simple_442 (by decide) (fun h => absurd h (by rw [c408]; decide)) (fun _ => ?_)
                              refine x_aload_n dX13_simple_445 rfl ?_
                              refine x_bipush_ (v := (10 : Int32)) dX13_simple_446 (by decide) ?_
                              refine x_iload dX13_simple_448 rfl ?_
                              refine x_bipush_ (v := (12 : Int32)) dX13_simple_450 (by decide) ?_
                              refine x_icmp_eq (tgt := 461) dX13_simple_452 (by decide) (fun _ => ?_) (fun h => absurd c408 h)
                              refine x_bipush_ (v := (38 : Int32)) dX13_simple_461 (by decide) ?_
                              refine x_goto (tgt := 579) dX13_simple_463 (by decide) ?_
                              refine x_iconst_ (v := (0 : Int32)) dX13_simple_579 (by decide) ?_
                              obtain ⟨R16, g16, h⟩ := h
                              refine x_callV hG (Ky := kX13_step) (As := [.int (10 : Int32), .int (38 : Int32), .int (0 : Int32)]) dX13_simple_580 (mo_t hM) rfl lk_X13_401 me_X13_step is_X13_step se_X13_step rfl rfl (Nat.le_of_ble_eq_true rfl) (MX.post (m_X13_step hG hM g16) ?_)
                              rintro _ _ ⟨v16, I16, rfl, rfl, h1⟩
                              replace h := h v16 I16 h1
                              change X _ _ _ _ (A.wI I16) _ _ (.int v16 :: _)
                              refine x_pop dX13_simple_583 rfl ?_
                              refine x_iload dX13_simple_584 rfl ?_
                              refine x_if_eq (tgt := 610) dX13_simple_586 (by decide) (fun _ => ?_) (fun h => absurd c233 h)
                              refine x_aload_n dX13_simple_610 rfl ?_
                              refine x_iload dX13_simple_611 rfl ?_
                              refine x_via 621 (A' := (A.wI I16)) (lv' := [none, none, none, none, none, none, none, none, some (.int y10_s0), none, none]) (st' := [.int (if y9_s0 = 0 then (4 : Int32) else (2 : Int32)), .ref m]) ?_ (fun k621 => ?_)
                              rotate_left
                              · refine x_if_eq (tgt := 620) dX13_simple_613 (by decide) (fun c613 => ?_) (fun c613 => ?_)
                                · refine x_iconst_ (v := (4 : Int32)) dX13_simple_620 (by decide) ?_
                                  change X _ _ _ _ _ _ [some (.ref m), none, none, none, some (.int v4), none, some (.int y8_s0), some (.int y9_s0), some (.int y10_s0), some (.int (if (I7 (m + 3) (ix (I7 m 42))) = (4 : Int32) then (I7 (m + 4) (ix (I7 m 42))) else (-1 : Int32))), none] [.int (4 : Int32), .ref m]
                                  simp only [if_pos c613] at k621 ⊢
                                  exact X.weak (xle_n (xle_n (xle_n (xle_n (xle_n (xle_n (xle_n (xle_n (xle_c rfl (xle_n (xle_n xle_nil))))))))))) k621
                                · refine x_iconst_ (v := (2 : Int32)) dX13_simple_616 (by decide) ?_
                                  refine x_goto (tgt := 621) dX13_simple_617 (by decide) ?_
                                  change X _ _ _ _ _ _ [some (.ref m), none, none, none, some (.int v4), none, some (.int y8_s0), some (.int y9_s0), some (.int y10_s0), some (.int (if (I7 (m + 3) (ix (I7 m 42))) = (4 : Int32) then (I7 (m + 4) (ix (I7 m 42))) else (-1 : Int32))), none] [.int (2 : Int32), .ref m]
                                  simp only [if_neg c613] at k621 ⊢
                                  exact X.weak (xle_n (xle_n (xle_n (xle_n (xle_n (xle_n (xle_n (xle_n (xle_c rfl (xle_n (xle_n xle_nil))))))))))) k621
                              refine x_iload dX13_simple_621 rfl ?_
                              refine x_iconst_ (v := (0 : Int32)) dX13_simple_623 (by decide) ?_
                              obtain ⟨R17, g17, h⟩ := h
                              refine x_callV hG (Ky := kX13_step) (As := [.int (if y9_s0 = 0 then (4 : Int32) else (2 : Int32)), .int y10_s0, .int (0 : Int32)]) dX13_simple_624 (mo_t hM) rfl lk_X13_401 me_X13_step is_X13_step se_X13_step rfl rfl (Nat.le_of_ble_eq_true rfl) (MX.post (m_X13_step hG hM g17) ?_)
                              rintro _ _ ⟨v17, I17, rfl, rfl, h1⟩
                              replace h := h v17 I17 h1
                              change X _ _ _ _ (A.wI I17) _ _ (.int v17 :: _)
                              refine x_pop dX13_simple_627 rfl ?_
                              refine x_iconst_ (v := (1 : Int32)) dX13_simple_628 (by decide) ?_
                              exact x_zret dX13_simple_629 rfl (by decide) ⟨_, _, rfl, rfl, (by decide), h⟩
                            · replace h := h.2 c408
                              refine x_iload dX13_simple_411 rfl ?_
                              refine x_bipush_ (v := (13 : Int32)) dX13_simple_413 (by decide) ?_
                              refine x_icmp_ne (tgt := 429) dX13_simple_415 (by decide) (fun c415 => ?_) (fun c415 => ?_)
                              · replace h := h.2 c415
                                refine x_aload_n dX13_simple_429 rfl ?_
                                obtain ⟨R18, g18, h⟩ := h
                                refine x_callV hG (Ky := kX13_expression) (As := []) dX13_simple_430 (mo_t hM) rfl lk_X13_368 me_X13_expression is_X13_expression se_X13_expression rfl rfl (Nat.le_of_ble_eq_true rfl) (MX.post ((rc_E hG hM 700).1 g18) ?_)
                                rintro _ _ ⟨v18, I18, rfl, rfl, zv18, h1⟩
                                replace h := h v18 I18 zv18 h1
                                change X _ _ _ _ (A.wI I18) _ _ (.int v18 :: _)
                                refine x_if_ne (tgt := 438) dX13_simple_433 (by decide) (fun c433 => ?_) (fun c433 => ?_)
                                · replace h := h.2 c433
                                  refine x_iload dX13_simple_438 rfl ?_
                                  refine x_bipush_ (v := (32 : Int32)) dX13_simple_440 (by decide) ?_
                                  obtain ⟨J19, g19, h⟩ := h
                                  have kj19 : ∀ (I19 : xII), J19 I19 → X G (dp + 713) kX13_simple (oZ A Q) (A.wI I19) 584 [some (.ref m), none, none, none, some (.int v4), none, some (.int y8_s0), some (.int y9_s0), some (.int y10_s0), none, none] [] := by
                                    intro I19 h
                                    replace h := g19 I19 h
                                    refine x_iload dX13_simple_584 rfl ?_
                                    refine x_if_eq (tgt := 610) dX13_simple_586 (by decide) (fun _ => ?_) (fun h => absurd c233 h)
                                    refine x_aload_n dX13_simple_610 rfl ?_
                                    refine x_iload dX13_simple_611 rfl ?_
                                    refine x_via 621 (A' := (A.wI I19)) (lv' := [none, none, none, none, none, none, none, none, some (.int y10_s0), none, none]) (st' := [.int (if y9_s0 = 0 then (4 : Int32) else (2 : Int32)), .ref m]) ?_ (fun k621 => ?_)
                                    rotate_left
                                    · refine x_if_eq (tgt := 620) dX13_simple_613 (by decide) (fun c613 => ?_) (fun c613 => ?_)
                                      · refine x_iconst_ (v := (4 : Int32)) dX13_simple_620 (by decide) ?_
                                        change X _ _ _ _ _ _ [some (.ref m), none, none, none, some (.int v4), none, some (.int y8_s0), some (.int y9_s0), some (.int y10_s0), none, none] [.int (4 : Int32), .ref m]
                                        simp only [if_pos c613] at k621 ⊢
                                        exact X.weak (xle_n (xle_n (xle_n (xle_n (xle_n (xle_n (xle_n (xle_n (xle_c rfl (xle_n (xle_n xle_nil))))))))))) k621
                                      · refine x_iconst_ (v := (2 : Int32)) dX13_simple_616 (by decide) ?_
                                        refine x_goto (tgt := 621) dX13_simple_617 (by decide) ?_
                                        change X _ _ _ _ _ _ [some (.ref m), none, none, none, some (.int v4), none, some (.int y8_s0), some (.int y9_s0), some (.int y10_s0), none, none] [.int (2 : Int32), .ref m]
                                        simp only [if_neg c613] at k621 ⊢
                                        exact X.weak (xle_n (xle_n (xle_n (xle_n (xle_n (xle_n (xle_n (xle_n (xle_c rfl (xle_n (xle_n xle_nil))))))))))) k621
                                    refine x_iload dX13_simple_621 rfl ?_
                                    refine x_iconst_ (v := (0 : Int32)) dX13_simple_623 (by decide) ?_
                                    obtain ⟨R20, g20, h⟩ := h
                                    refine x_callV hG (Ky := kX13_step) (As := [.int (if y9_s0 = 0 then (4 : Int32) else (2 : Int32)), .int y10_s0, .int (0 : Int32)]) dX13_simple_624 (mo_t hM) rfl lk_X13_401 me_X13_step is_X13_step se_X13_step rfl rfl (Nat.le_of_ble_eq_true rfl) (MX.post (m_X13_step hG hM g20) ?_)
                                    rintro _ _ ⟨v20, I20, rfl, rfl, h1⟩
                                    replace h := h v20 I20 h1
                                    change X _ _ _ _ (A.wI I20) _ _ (.int v20 :: _)
                                    refine x_pop dX13_simple_627 rfl ?_
                                    refine x_iconst_ (v := (1 : Int32)) dX13_simple_628 (by decide) ?_
                                    exact x_zret dX13_simple_629 rfl (by decide) ⟨_, _, rfl, rfl, (by decide), h⟩
                                  refine x_icmp_eq (tgt := 584) dX13_simple_442 (by decide) (fun c442 => ?_) (fun c442 => ?_)
                                  · replace h := h.1 c442
                                    change X _ _ _ _ _ _ [some (.ref m), none, none, none, some (.int v4), none, some (.int y8_s0), some (.int y9_s0), some (.int y10_s0), some (.int (if (I7 (m + 3) (ix (I7 m 42))) = (4 : Int32) then (I7 (m + 4) (ix (I7 m 42))) else (-1 : Int32))), none] []
                                    exact X.weak (xle_c rfl (xle_n (xle_n (xle_n (xle_c rfl (xle_n (xle_c rfl (xle_c rfl (xle_c rfl (xle_n (xle_n xle_nil))))))))))) (kj19 I18 h)
                                  · replace h := h.2 c442
                                    refine x_aload_n dX13_simple_445 rfl ?_
                                    refine x_bipush_ (v := (10 : Int32)) dX13_simple_446 (by decide) ?_
                                    refine x_iload dX13_simple_448 rfl ?_
                                    refine x_bipush_ (v := (12 : Int32)) dX13_simple_450 (by decide) ?_
                                    refine x_icmp_eq (tgt := 461) dX13_simple_452 (by decide) (fun h => absurd h c408) (fun _ => ?_)
                                    refine x_iload dX13_simple_455 rfl ?_
                                    refine x_iconst_ (v := (4 : Int32)) dX13_simple_457 (by decide) ?_
                                    obtain ⟨J21, g21, h⟩ := h
                                    have kj21 : ∀ (y21_s0 : Int32), J21 y21_s0 → X G (dp + 713) kX13_simple (oZ A Q) (A.wI I18) 579 [some (.ref m), none, none, none, some (.int v4), none, some (.int y8_s0), some (.int y9_s0), some (.int y10_s0), none, none] [.int y21_s0, .int (10 : Int32), .ref m] := by
                                      intro y21_s0 h
                                      replace h := g21 y21_s0 h
                                      refine x_iconst_ (v := (0 : Int32)) dX13_simple_579 (by decide) ?_
                                      obtain ⟨R22, g22, h⟩ := h
                                      refine x_callV hG (Ky := kX13_step) (As := [.int (10 : Int32), .int y21_s0, .int (0 : Int32)]) dX13_simple_580 (mo_t hM) rfl lk_X13_401 me_X13_step is_X13_step se_X13_step rfl rfl (Nat.le_of_ble_eq_true rfl) (MX.post (m_X13_step hG hM g22) ?_)
                                      rintro _ _ ⟨v22, I22, rfl, rfl, h1⟩
                                      replace h := h v22 I22 h1
                                      change X _ _ _ _ (A.wI I22) _ _ (.int v22 :: _)
                                      refine x_pop dX13_simple_583 rfl ?_
                                      change X _ _ _ _ _ _ [some (.ref m), none, none, none, some (.int v4), none, some (.int y8_s0), some (.int y9_s0), some (.int y10_s0), none, none] []
                                      exact X.weak (xle_c rfl (xle_n (xle_n (xle_n (xle_c rfl (xle_n (xle_c rfl (xle_c rfl (xle_c rfl (xle_n (xle_n xle_nil))))))))))) (kj19 I22 h)
                                    refine x_icmp_ne (tgt := 466) dX13_simple_458 (by decide) (fun c458 => ?_) (fun c458 => ?_)
                                    · replace h := h.2 c458
                                      refine x_iload dX13_simple_466 rfl ?_
                                      refine x_bipush_ (v := (13 : Int32)) dX13_simple_468 (by decide) ?_
                                      refine x_icmp_eq (tgt := 479) dX13_simple_470 (by decide) (fun h => absurd h c415) (fun _ => ?_)
                                      refine x_iload dX13_simple_473 rfl ?_
                                      refine x_iconst_ (v := (5 : Int32)) dX13_simple_475 (by decide) ?_
                                      refine x_icmp_ne (tgt := 484) dX13_simple_476 (by decide) (fun c476 => ?_) (fun c476 => ?_)
                                      · replace h := h.2 c476
                                        refine x_iload dX13_simple_484 rfl ?_
                                        refine x_bipush_ (v := (6 : Int32)) dX13_simple_486 (by decide) ?_
                                        refine x_icmp_ne (tgt := 496) dX13_simple_488 (by decide) (fun c488 => ?_) (fun c488 => ?_)
                                        · replace h := h.2 c488
                                          refine x_iload dX13_simple_496 rfl ?_
                                          refine x_bipush_ (v := (7 : Int32)) dX13_simple_498 (by decide) ?_
                                          refine x_icmp_ne (tgt := 508) dX13_simple_500 (by decide) (fun c500 => ?_) (fun c500 => ?_)
                                          · replace h := h.2 c500
                                            refine x_iload dX13_simple_508 rfl ?_
                                            refine x_bipush_ (v := (8 : Int32)) dX13_simple_510 (by decide) ?_
                                            refine x_icmp_ne (tgt := 520) dX13_simple_512 (by decide) (fun c512 => ?_) (fun c512 => ?_)
                                            · replace h := h.2 c512
                                              refine x_iload dX13_simple_520 rfl ?_
                                              refine x_bipush_ (v := (9 : Int32)) dX13_simple_522 (by decide) ?_
                                              refine x_icmp_ne (tgt := 532) dX13_simple_524 (by decide) (fun c524 => ?_) (fun c524 => ?_)
                                              · replace h := h.2 c524
                                                refine x_iload dX13_simple_532 rfl ?_
                                                refine x_bipush_ (v := (10 : Int32)) dX13_simple_534 (by decide) ?_
                                                refine x_icmp_ne (tgt := 544) dX13_simple_536 (by decide) (fun c536 => ?_) (fun c536 => ?_)
                                                · replace h := h.2 c536
                                                  refine x_iload dX13_simple_544 rfl ?_
                                                  refine x_bipush_ (v := (11 : Int32)) dX13_simple_546 (by decide) ?_
                                                  refine x_icmp_ne (tgt := 556) dX13_simple_548 (by decide) (fun c548 => ?_) (fun c548 => ?_)
                                                  · replace h := h.2 c548
                                                    refine x_iload dX13_simple_556 rfl ?_
                                                    refine x_iconst_ (v := (2 : Int32)) dX13_simple_558 (by decide) ?_
                                                    refine x_icmp_ne (tgt := 567) dX13_simple_559 (by decide) (fun c559 => ?_) (fun c559 => ?_)
                                                    · replace h := h.2 c559
                                                      refine x_iload dX13_simple_567 rfl ?_
                                                      refine x_iconst_ (v := (3 : Int32)) dX13_simple_569 (by decide) ?_
                                                      refine x_icmp_ne (tgt := 578) dX13_simple_570 (by decide) (fun c570 => ?_) (fun c570 => ?_)
                                                      · replace h := h.2 c570
                                                        refine x_iconst_ (v := (1 : Int32)) dX13_simple_578 (by decide) ?_
                                                        change X _ _ _ _ _ _ [some (.ref m), none, none, none, some (.int v4), none, some (.int y8_s0), some (.int y9_s0), some (.int y10_s0), some (.int (if (I7 (m + 3) (ix (I7 m 42))) = (4 : Int32) then (I7 (m + 4) (ix (I7 m 42))) else (-1 : Int32))), none] [.int (1 : Int32), .int (10 : Int32), .ref m]
                                                        exact X.weak (xle_c rfl (xle_n (xle_n (xle_n (xle_c rfl (xle_n (xle_c rfl (xle_c rfl (xle_c rfl (xle_n (xle_n xle_nil))))))))))) (kj21 (1 : Int32) h)
                                                      · replace h := h.1 c570
                                                        refine x_bipush_ (v := (21 : Int32)) dX13_simple_573 (by decide) ?_
                                                        refine x_goto (tgt := 579) dX13_simple_575 (by decide) ?_
                                                        change X _ _ _ _ _ _ [some (.ref m), none, none, none, some (.int v4), none, some (.int y8_s0), some (.int y9_s0), some (.int y10_s0), some (.int (if (I7 (m + 3) (ix (I7 m 42))) = (4 : Int32) then (I7 (m + 4) (ix (I7 m 42))) else (-1 : Int32))), none] [.int (21 : Int32), .int (10 : Int32), .ref m]
                                                        exact X.weak (xle_c rfl (xle_n (xle_n (xle_n (xle_c rfl (xle_n (xle_c rfl (xle_c rfl (xle_c rfl (xle_n (xle_n xle_nil))))))))))) (kj21 (21 : Int32) h)
                                                    · replace h := h.1 c559
                                                      refine x_bipush_ (v := (20 : Int32)) dX13_simple_562 (by decide) ?_
                                                      refine x_goto (tgt := 579) dX13_simple_564 (by decide) ?_
                                                      change X _ _ _ _ _ _ [some (.ref m), none, none, none, some (.int v4), none, some (.int y8_s0), some (.int y9_s0), some (.int y10_s0), some (.int (if (I7 (m + 3) (ix (I7 m 42))) = (4 : Int32) then (I7 (m + 4) (ix (I7 m 42))) else (-1 : Int32))), none] [.int (20 : Int32), .int (10 : Int32), .ref m]
                                                      exact X.weak (xle_c rfl (xle_n (xle_n (xle_n (xle_c rfl (xle_n (xle_c rfl (xle_c rfl (xle_c rfl (xle_n (xle_n xle_nil))))))))))) (kj21 (20 : Int32) h)
                                                  · replace h := h.1 c548
                                                    refine x_bipush_ (v := (34 : Int32)) dX13_simple_551 (by decide) ?_
                                                    refine x_goto (tgt := 579) dX13_simple_553 (by decide) ?_
                                                    change X _ _ _ _ _ _ [some (.ref m), none, none, none, some (.int v4), none, some (.int y8_s0), some (.int y9_s0), some (.int y10_s0), some (.int (if (I7 (m + 3) (ix (I7 m 42))) = (4 : Int32) then (I7 (m + 4) (ix (I7 m 42))) else (-1 : Int32))), none] [.int (34 : Int32), .int (10 : Int32), .ref m]
                                                    exact X.weak (xle_c rfl (xle_n (xle_n (xle_n (xle_c rfl (xle_n (xle_c rfl (xle_c rfl (xle_c rfl (xle_n (xle_n xle_nil))))))))))) (kj21 (34 : Int32) h)
                                                · replace h := h.1 c536
                                                  refine x_bipush_ (v := (33 : Int32)) dX13_simple_539 (by decide) ?_
                                                  refine x_goto (tgt := 579) dX13_simple_541 (by decide) ?_
                                                  change X _ _ _ _ _ _ [some (.ref m), none, none, none, some (.int v4), none, some (.int y8_s0), some (.int y9_s0), some (.int y10_s0), some (.int (if (I7 (m + 3) (ix (I7 m 42))) = (4 : Int32) then (I7 (m + 4) (ix (I7 m 42))) else (-1 : Int32))), none] [.int (33 : Int32), .int (10 : Int32), .ref m]
                                                  exact X.weak (xle_c rfl (xle_n (xle_n (xle_n (xle_c rfl (xle_n (xle_c rfl (xle_c rfl (xle_c rfl (xle_n (xle_n xle_nil))))))))))) (kj21 (33 : Int32) h)
                                              · replace h := h.1 c524
                                                refine x_bipush_ (v := (35 : Int32)) dX13_simple_527 (by decide) ?_
                                                refine x_goto (tgt := 579) dX13_simple_529 (by decide) ?_
                                                change X _ _ _ _ _ _ [some (.ref m), none, none, none, some (.int v4), none, some (.int y8_s0), some (.int y9_s0), some (.int y10_s0), some (.int (if (I7 (m + 3) (ix (I7 m 42))) = (4 : Int32) then (I7 (m + 4) (ix (I7 m 42))) else (-1 : Int32))), none] [.int (35 : Int32), .int (10 : Int32), .ref m]
                                                exact X.weak (xle_c rfl (xle_n (xle_n (xle_n (xle_c rfl (xle_n (xle_c rfl (xle_c rfl (xle_c rfl (xle_n (xle_n xle_nil))))))))))) (kj21 (35 : Int32) h)
                                            · replace h := h.1 c512
                                              refine x_bipush_ (v := (42 : Int32)) dX13_simple_515 (by decide) ?_
                                              refine x_goto (tgt := 579) dX13_simple_517 (by decide) ?_
                                              change X _ _ _ _ _ _ [some (.ref m), none, none, none, some (.int v4), none, some (.int y8_s0), some (.int y9_s0), some (.int y10_s0), some (.int (if (I7 (m + 3) (ix (I7 m 42))) = (4 : Int32) then (I7 (m + 4) (ix (I7 m 42))) else (-1 : Int32))), none] [.int (42 : Int32), .int (10 : Int32), .ref m]
                                              exact X.weak (xle_c rfl (xle_n (xle_n (xle_n (xle_c rfl (xle_n (xle_c rfl (xle_c rfl (xle_c rfl (xle_n (xle_n xle_nil))))))))))) (kj21 (42 : Int32) h)
                                          · replace h := h.1 c500
                                            refine x_bipush_ (v := (41 : Int32)) dX13_simple_503 (by decide) ?_
                                            refine x_goto (tgt := 579) dX13_simple_505 (by decide) ?_
                                            change X _ _ _ _ _ _ [some (.ref m), none, none, none, some (.int v4), none, some (.int y8_s0), some (.int y9_s0), some (.int y10_s0), some (.int (if (I7 (m + 3) (ix (I7 m 42))) = (4 : Int32) then (I7 (m + 4) (ix (I7 m 42))) else (-1 : Int32))), none] [.int (41 : Int32), .int (10 : Int32), .ref m]
                                            exact X.weak (xle_c rfl (xle_n (xle_n (xle_n (xle_c rfl (xle_n (xle_c rfl (xle_c rfl (xle_c rfl (xle_n (xle_n xle_nil))))))))))) (kj21 (41 : Int32) h)
                                        · replace h := h.1 c488
                                          refine x_bipush_ (v := (40 : Int32)) dX13_simple_491 (by decide) ?_
                                          refine x_goto (tgt := 579) dX13_simple_493 (by decide) ?_
                                          change X _ _ _ _ _ _ [some (.ref m), none, none, none, some (.int v4), none, some (.int y8_s0), some (.int y9_s0), some (.int y10_s0), some (.int (if (I7 (m + 3) (ix (I7 m 42))) = (4 : Int32) then (I7 (m + 4) (ix (I7 m 42))) else (-1 : Int32))), none] [.int (40 : Int32), .int (10 : Int32), .ref m]
                                          exact X.weak (xle_c rfl (xle_n (xle_n (xle_n (xle_c rfl (xle_n (xle_c rfl (xle_c rfl (xle_c rfl (xle_n (xle_n xle_nil))))))))))) (kj21 (40 : Int32) h)
                                      · replace h := h.1 c476
                                        refine x_bipush_ (v := (39 : Int32)) dX13_simple_479 (by decide) ?_
                                        refine x_goto (tgt := 579) dX13_simple_481 (by decide) ?_
                                        change X _ _ _ _ _ _ [some (.ref m), none, none, none, some (.int v4), none, some (.int y8_s0), some (.int y9_s0), some (.int y10_s0), some (.int (if (I7 (m + 3) (ix (I7 m 42))) = (4 : Int32) then (I7 (m + 4) (ix (I7 m 42))) else (-1 : Int32))), none] [.int (39 : Int32), .int (10 : Int32), .ref m]
                                        exact X.weak (xle_c rfl (xle_n (xle_n (xle_n (xle_c rfl (xle_n (xle_c rfl (xle_c rfl (xle_c rfl (xle_n (xle_n xle_nil))))))))))) (kj21 (39 : Int32) h)
                                    · replace h := h.1 c458
                                      refine x_bipush_ (v := (38 : Int32)) dX13_simple_461 (by decide) ?_
                                      refine x_goto (tgt := 579) dX13_simple_463 (by decide) ?_
                                      change X _ _ _ _ _ _ [some (.ref m), none, none, none, some (.int v4), none, some (.int y8_s0), some (.int y9_s0), some (.int y10_s0), some (.int (if (I7 (m + 3) (ix (I7 m 42))) = (4 : Int32) then (I7 (m + 4) (ix (I7 m 42))) else (-1 : Int32))), none] [.int (38 : Int32), .int (10 : Int32), .ref m]
                                      exact X.weak (xle_c rfl (xle_n (xle_n (xle_n (xle_c rfl (xle_n (xle_c rfl (xle_c rfl (xle_c rfl (xle_n (xle_n xle_nil))))))))))) (kj21 (38 : Int32) h)
                                · replace h := h.1 c433
                                  refine x_iconst_ (v := (0 : Int32)) dX13_simple_436 (by decide) ?_
                                  exact x_zret dX13_simple_437 rfl (by decide) ⟨_, _, rfl, rfl, (by decide), h⟩
                              · replace h := h.1 c415
                                refine x_aload_n dX13_simple_418 rfl ?_
                                refine x_iconst_ (v := (0 : Int32)) dX13_simple_419 (by decide) ?_
                                refine x_iconst_ (v := (1 : Int32)) dX13_simple_420 (by decide) ?_
                                refine x_iconst_ (v := (0 : Int32)) dX13_simple_421 (by decide) ?_
                                obtain ⟨R23, g23, h⟩ := h
                                refine x_callV hG (Ky := kX13_step) (As := [.int (0 : Int32), .int (1 : Int32), .int (0 : Int32)]) dX13_simple_422 (mo_t hM) rfl lk_X13_401 me_X13_step is_X13_step se_X13_step rfl rfl (Nat.le_of_ble_eq_true rfl) (MX.post (m_X13_step hG hM g23) ?_)
                                rintro _ _ ⟨v23, I23, rfl, rfl, h1⟩
                                replace h := h v23 I23 h1
                                change X _ _ _ _ (A.wI I23) _ _ (.int v23 :: _)
                                refine x_pop dX13_simple_425 rfl ?_
                                refine x_goto (tgt := 438) dX13_simple_426 (by decide) ?_
                                refine x_iload dX13_simple_438 rfl ?_
                                refine x_bipush_ (v := (32 : Int32)) dX13_simple_440 (by decide) ?_
                                refine x_icmp_eq (tgt := 584) dX13_simple_442 (by decide) (fun h => absurd h (by rw [c415]; decide)) (fun _ => ?_)
                                refine x_aload_n dX13_simple_445 rfl ?_
                                refine x_bipush_ (v := (10 : Int32)) dX13_simple_446 (by decide) ?_
                                refine x_iload dX13_simple_448 rfl ?_
                                refine x_bipush_ (v := (12 : Int32)) dX13_simple_450 (by decide) ?_
                                refine x_icmp_eq (tgt := 461) dX13_simple_452 (by decide) (fun h => absurd h c408) (fun _ => ?_)
                                refine x_iload dX13_simple_455 rfl ?_
                                refine x_iconst_ (v := (4 : Int32)) dX13_simple_457 (by decide) ?_
                                refine x_icmp_ne (tgt := 466) dX13_simple_458 (by decide) (fun _ => ?_) (fun h => absurd h (by rw [c415]; decide))
                                refine x_iload dX13_simple_466 rfl ?_
                                refine x_bipush_ (v := (13 : Int32)) dX13_simple_468 (by decide) ?_
                                refine x_icmp_eq (tgt := 479) dX13_simple_470 (by decide) (fun _ => ?_) (fun h => absurd c415 h)
                                refine x_bipush_ (v := (39 : Int32)) dX13_simple_479 (by decide) ?_
                                refine x_goto (tgt := 579) dX13_simple_481 (by decide) ?_
                                refine x_iconst_ (v := (0 : Int32)) dX13_simple_579 (by decide) ?_
                                obtain ⟨R24, g24, h⟩ := h
                                refine x_callV hG (Ky := kX13_step) (As := [.int (10 : Int32), .int (39 : Int32), .int (0 : Int32)]) dX13_simple_580 (mo_t hM) rfl lk_X13_401 me_X13_step is_X13_step se_X13_step rfl rfl (Nat.le_of_ble_eq_true rfl) (MX.post (m_X13_step hG hM g24) ?_)
                                rintro _ _ ⟨v24, I24, rfl, rfl, h1⟩
                                replace h := h v24 I24 h1
                                change X _ _ _ _ (A.wI I24) _ _ (.int v24 :: _)
                                refine x_pop dX13_simple_583 rfl ?_
                                refine x_iload dX13_simple_584 rfl ?_
                                refine x_if_eq (tgt := 610) dX13_simple_586 (by decide) (fun _ => ?_) (fun h => absurd c233 h)
                                refine x_aload_n dX13_simple_610 rfl ?_
                                refine x_iload dX13_simple_611 rfl ?_
                                refine x_via 621 (A' := (A.wI I24)) (lv' := [none, none, none, none, none, none, none, none, some (.int y10_s0), none, none]) (st' := [.int (if y9_s0 = 0 then (4 : Int32) else (2 : Int32)), .ref m]) ?_ (fun k621 => ?_)
                                rotate_left
                                · refine x_if_eq (tgt := 620) dX13_simple_613 (by decide) (fun c613 => ?_) (fun c613 => ?_)
                                  · refine x_iconst_ (v := (4 : Int32)) dX13_simple_620 (by decide) ?_
                                    change X _ _ _ _ _ _ [some (.ref m), none, none, none, some (.int v4), none, some (.int y8_s0), some (.int y9_s0), some (.int y10_s0), some (.int (if (I7 (m + 3) (ix (I7 m 42))) = (4 : Int32) then (I7 (m + 4) (ix (I7 m 42))) else (-1 : Int32))), none] [.int (4 : Int32), .ref m]
                                    simp only [if_pos c613] at k621 ⊢
                                    exact X.weak (xle_n (xle_n (xle_n (xle_n (xle_n (xle_n (xle_n (xle_n (xle_c rfl (xle_n (xle_n xle_nil))))))))))) k621
                                  · refine x_iconst_ (v := (2 : Int32)) dX13_simple_616 (by decide) ?_
                                    refine x_goto (tgt := 621) dX13_simple_617 (by decide) ?_
                                    change X _ _ _ _ _ _ [some (.ref m), none, none, none, some (.int v4), none, some (.int y8_s0), some (.int y9_s0), some (.int y10_s0), some (.int (if (I7 (m + 3) (ix (I7 m 42))) = (4 : Int32) then (I7 (m + 4) (ix (I7 m 42))) else (-1 : Int32))), none] [.int (2 : Int32), .ref m]
                                    simp only [if_neg c613] at k621 ⊢
                                    exact X.weak (xle_n (xle_n (xle_n (xle_n (xle_n (xle_n (xle_n (xle_n (xle_c rfl (xle_n (xle_n xle_nil))))))))))) k621
                                refine x_iload dX13_simple_621 rfl ?_
                                refine x_iconst_ (v := (0 : Int32)) dX13_simple_623 (by decide) ?_
                                obtain ⟨R25, g25, h⟩ := h
                                refine x_callV hG (Ky := kX13_step) (As := [.int (if y9_s0 = 0 then (4 : Int32) else (2 : Int32)), .int y10_s0, .int (0 : Int32)]) dX13_simple_624 (mo_t hM) rfl lk_X13_401 me_X13_step is_X13_step se_X13_step rfl rfl (Nat.le_of_ble_eq_true rfl) (MX.post (m_X13_step hG hM g25) ?_)
                                rintro _ _ ⟨v25, I25, rfl, rfl, h1⟩
                                replace h := h v25 I25 h1
                                change X _ _ _ _ (A.wI I25) _ _ (.int v25 :: _)
                                refine x_pop dX13_simple_627 rfl ?_
                                refine x_iconst_ (v := (1 : Int32)) dX13_simple_628 (by decide) ?_
                                exact x_zret dX13_simple_629 rfl (by decide) ⟨_, _, rfl, rfl, (by decide), h⟩
                          refine x_icmp_eq (tgt := 404) dX13_simple_357 (by decide) (fun c357 => ?_) (fun c357 => ?_)
                          · replace h := h.1 c357
                            change X _ _ _ _ _ _ [some (.ref m), none, none, none, some (.int v4), none, some (.int y8_s0), some (.int y9_s0), some (.int y10_s0), some (.int (if (I7 (m + 3) (ix (I7 m 42))) = (4 : Int32) then (I7 (m + 4) (ix (I7 m 42))) else (-1 : Int32))), some (.int y12_s0)] []
                            exact X.weak (xle_c rfl (xle_n (xle_n (xle_n (xle_c rfl (xle_n (xle_c rfl (xle_c rfl (xle_c rfl (xle_c rfl (xle_n xle_nil))))))))))) (kj14 I13 h)
                          · replace h := h.2 c357
                            refine x_iload dX13_simple_360 rfl ?_
                            refine x_if_eq (tgt := 386) dX13_simple_362 (by decide) (fun _ => ?_) (fun h => absurd c233 h)
                            refine x_aload_n dX13_simple_386 rfl ?_
                            refine x_iload dX13_simple_387 rfl ?_
                            refine x_via 397 (A' := (A.wI I13)) (lv' := [some (.ref m), none, none, none, some (.int v4), none, some (.int y8_s0), some (.int y9_s0), some (.int y10_s0), some (.int (if (I7 (m + 3) (ix (I7 m 42))) = (4 : Int32) then (I7 (m + 4) (ix (I7 m 42))) else (-1 : Int32))), none]) (st' := [.int (if y9_s0 = 0 then (3 : Int32) else (1 : Int32)), .ref m]) ?_ (fun k397 => ?_)
                            rotate_left
                            · refine x_if_eq (tgt := 396) dX13_simple_389 (by decide) (fun c389 => ?_) (fun c389 => ?_)
                              · refine x_iconst_ (v := (3 : Int32)) dX13_simple_396 (by decide) ?_
                                change X _ _ _ _ _ _ [some (.ref m), none, none, none, some (.int v4), none, some (.int y8_s0), some (.int y9_s0), some (.int y10_s0), some (.int (if (I7 (m + 3) (ix (I7 m 42))) = (4 : Int32) then (I7 (m + 4) (ix (I7 m 42))) else (-1 : Int32))), some (.int y12_s0)] [.int (3 : Int32), .ref m]
                                simp only [if_pos c389] at k397 ⊢
                                exact X.weak (xle_c rfl (xle_n (xle_n (xle_n (xle_c rfl (xle_n (xle_c rfl (xle_c rfl (xle_c rfl (xle_c rfl (xle_n xle_nil))))))))))) k397
                              · refine x_iconst_ (v := (1 : Int32)) dX13_simple_392 (by decide) ?_
                                refine x_goto (tgt := 397) dX13_simple_393 (by decide) ?_
                                change X _ _ _ _ _ _ [some (.ref m), none, none, none, some (.int v4), none, some (.int y8_s0), some (.int y9_s0), some (.int y10_s0), some (.int (if (I7 (m + 3) (ix (I7 m 42))) = (4 : Int32) then (I7 (m + 4) (ix (I7 m 42))) else (-1 : Int32))), some (.int y12_s0)] [.int (1 : Int32), .ref m]
                                simp only [if_neg c389] at k397 ⊢
                                exact X.weak (xle_c rfl (xle_n (xle_n (xle_n (xle_c rfl (xle_n (xle_c rfl (xle_c rfl (xle_c rfl (xle_c rfl (xle_n xle_nil))))))))))) k397
                            refine x_iload dX13_simple_397 rfl ?_
                            refine x_iconst_ (v := (0 : Int32)) dX13_simple_399 (by decide) ?_
                            obtain ⟨R26, g26, h⟩ := h
                            refine x_callV hG (Ky := kX13_step) (As := [.int (if y9_s0 = 0 then (3 : Int32) else (1 : Int32)), .int y10_s0, .int (0 : Int32)]) dX13_simple_400 (mo_t hM) rfl lk_X13_401 me_X13_step is_X13_step se_X13_step rfl rfl (Nat.le_of_ble_eq_true rfl) (MX.post (m_X13_step hG hM g26) ?_)
                            rintro _ _ ⟨v26, I26, rfl, rfl, h1⟩
                            replace h := h v26 I26 h1
                            change X _ _ _ _ (A.wI I26) _ _ (.int v26 :: _)
                            refine x_pop dX13_simple_403 rfl ?_
                            change X _ _ _ _ _ _ [some (.ref m), none, none, none, some (.int v4), none, some (.int y8_s0), some (.int y9_s0), some (.int y10_s0), some (.int (if (I7 (m + 3) (ix (I7 m 42))) = (4 : Int32) then (I7 (m + 4) (ix (I7 m 42))) else (-1 : Int32))), none] []
                            exact X.weak (xle_c rfl (xle_n (xle_n (xle_n (xle_c rfl (xle_n (xle_c rfl (xle_c rfl (xle_c rfl (xle_c rfl (xle_n xle_nil))))))))))) (kj14 I26 h)
                        · replace h := h.1 c334
                          refine x_aload_n dX13_simple_337 rfl ?_
                          refine x_iconst_ (v := (2 : Int32)) dX13_simple_338 (by decide) ?_
                          obtain ⟨R27, g27, h⟩ := h
                          refine x_callV hG (Ky := kX13_fails) (As := [.int (2 : Int32)]) dX13_simple_339 (mo_t hM) rfl lk_X13_260 me_X13_fails is_X13_fails se_X13_fails rfl rfl (Nat.le_of_ble_eq_true rfl) (MX.post (m_X13_fails hG hM g27) ?_)
                          rintro _ _ ⟨v27, I27, rfl, rfl, zv27, h1⟩
                          replace h := h v27 I27 zv27 h1
                          change X _ _ _ _ (A.wI I27) _ _ (.int v27 :: _)
                          exact x_zret dX13_simple_342 rfl zv27 ⟨_, _, rfl, rfl, zv27, h⟩
                      refine x_icmp_eq (tgt := 325) dX13_simple_278 (by decide) (fun c278 => ?_) (fun c278 => ?_)
                      · replace h := h.1 c278
                        refine x_iconst_ (v := (1 : Int32)) dX13_simple_325 (by decide) ?_
                        refine x_goto (tgt := 330) dX13_simple_326 (by decide) ?_
                        change X _ _ _ _ _ _ [some (.ref m), none, none, none, some (.int v4), none, some (.int y8_s0), some (.int y9_s0), some (.int y10_s0), some (.int (if (I7 (m + 3) (ix (I7 m 42))) = (4 : Int32) then (I7 (m + 4) (ix (I7 m 42))) else (-1 : Int32))), none] [.int (1 : Int32)]
                        exact X.weak (xle_c rfl (xle_n (xle_n (xle_n (xle_c rfl (xle_n (xle_c rfl (xle_c rfl (xle_c rfl (xle_c rfl (xle_n xle_nil))))))))))) (kj12 (1 : Int32) h)
                      · replace h := h.2 c278
                        refine x_iload dX13_simple_281 rfl ?_
                        refine x_bipush_ (v := (12 : Int32)) dX13_simple_283 (by decide) ?_
                        refine x_icmp_eq (tgt := 325) dX13_simple_285 (by decide) (fun c285 => ?_) (fun c285 => ?_)
                        · replace h := h.1 c285
                          refine x_iconst_ (v := (1 : Int32)) dX13_simple_325 (by decide) ?_
                          refine x_goto (tgt := 330) dX13_simple_326 (by decide) ?_
                          change X _ _ _ _ _ _ [some (.ref m), none, none, none, some (.int v4), none, some (.int y8_s0), some (.int y9_s0), some (.int y10_s0), some (.int (if (I7 (m + 3) (ix (I7 m 42))) = (4 : Int32) then (I7 (m + 4) (ix (I7 m 42))) else (-1 : Int32))), none] [.int (1 : Int32)]
                          exact X.weak (xle_c rfl (xle_n (xle_n (xle_n (xle_c rfl (xle_n (xle_c rfl (xle_c rfl (xle_c rfl (xle_c rfl (xle_n xle_nil))))))))))) (kj12 (1 : Int32) h)
                        · replace h := h.2 c285
                          refine x_iload dX13_simple_288 rfl ?_
                          refine x_bipush_ (v := (13 : Int32)) dX13_simple_290 (by decide) ?_
                          refine x_icmp_eq (tgt := 325) dX13_simple_292 (by decide) (fun c292 => ?_) (fun c292 => ?_)
                          · replace h := h.1 c292
                            refine x_iconst_ (v := (1 : Int32)) dX13_simple_325 (by decide) ?_
                            refine x_goto (tgt := 330) dX13_simple_326 (by decide) ?_
                            change X _ _ _ _ _ _ [some (.ref m), none, none, none, some (.int v4), none, some (.int y8_s0), some (.int y9_s0), some (.int y10_s0), some (.int (if (I7 (m + 3) (ix (I7 m 42))) = (4 : Int32) then (I7 (m + 4) (ix (I7 m 42))) else (-1 : Int32))), none] [.int (1 : Int32)]
                            exact X.weak (xle_c rfl (xle_n (xle_n (xle_n (xle_c rfl (xle_n (xle_c rfl (xle_c rfl (xle_c rfl (xle_c rfl (xle_n xle_nil))))))))))) (kj12 (1 : Int32) h)
                          · replace h := h.2 c292
                            refine x_iload dX13_simple_295 rfl ?_
                            refine x_if_eq (tgt := 325) dX13_simple_297 (by decide) (fun c297 => ?_) (fun c297 => ?_)
                            · replace h := h.1 c297
                              refine x_iconst_ (v := (1 : Int32)) dX13_simple_325 (by decide) ?_
                              refine x_goto (tgt := 330) dX13_simple_326 (by decide) ?_
                              change X _ _ _ _ _ _ [some (.ref m), none, none, none, some (.int v4), none, some (.int y8_s0), some (.int y9_s0), some (.int y10_s0), some (.int (if (I7 (m + 3) (ix (I7 m 42))) = (4 : Int32) then (I7 (m + 4) (ix (I7 m 42))) else (-1 : Int32))), none] [.int (1 : Int32)]
                              exact X.weak (xle_c rfl (xle_n (xle_n (xle_n (xle_c rfl (xle_n (xle_c rfl (xle_c rfl (xle_c rfl (xle_c rfl (xle_n xle_nil))))))))))) (kj12 (1 : Int32) h)
                            · replace h := h.2 c297
                              refine x_iload dX13_simple_300 rfl ?_
                              refine x_iconst_ (v := (2 : Int32)) dX13_simple_302 (by decide) ?_
                              refine x_icmp_eq (tgt := 325) dX13_simple_303 (by decide) (fun c303 => ?_) (fun c303 => ?_)
                              · replace h := h.1 c303
                                refine x_iconst_ (v := (1 : Int32)) dX13_simple_325 (by decide) ?_
                                refine x_goto (tgt := 330) dX13_simple_326 (by decide) ?_
                                change X _ _ _ _ _ _ [some (.ref m), none, none, none, some (.int v4), none, some (.int y8_s0), some (.int y9_s0), some (.int y10_s0), some (.int (if (I7 (m + 3) (ix (I7 m 42))) = (4 : Int32) then (I7 (m + 4) (ix (I7 m 42))) else (-1 : Int32))), none] [.int (1 : Int32)]
                                exact X.weak (xle_c rfl (xle_n (xle_n (xle_n (xle_c rfl (xle_n (xle_c rfl (xle_c rfl (xle_c rfl (xle_c rfl (xle_n xle_nil))))))))))) (kj12 (1 : Int32) h)
                              · replace h := h.2 c303
                                refine x_iload dX13_simple_306 rfl ?_
                                refine x_iconst_ (v := (3 : Int32)) dX13_simple_308 (by decide) ?_
                                refine x_icmp_eq (tgt := 325) dX13_simple_309 (by decide) (fun c309 => ?_) (fun c309 => ?_)
                                · replace h := h.1 c309
                                  refine x_iconst_ (v := (1 : Int32)) dX13_simple_325 (by decide) ?_
                                  refine x_goto (tgt := 330) dX13_simple_326 (by decide) ?_
                                  change X _ _ _ _ _ _ [some (.ref m), none, none, none, some (.int v4), none, some (.int y8_s0), some (.int y9_s0), some (.int y10_s0), some (.int (if (I7 (m + 3) (ix (I7 m 42))) = (4 : Int32) then (I7 (m + 4) (ix (I7 m 42))) else (-1 : Int32))), none] [.int (1 : Int32)]
                                  exact X.weak (xle_c rfl (xle_n (xle_n (xle_n (xle_c rfl (xle_n (xle_c rfl (xle_c rfl (xle_c rfl (xle_c rfl (xle_n xle_nil))))))))))) (kj12 (1 : Int32) h)
                                · replace h := h.2 c309
                                  refine x_iload dX13_simple_312 rfl ?_
                                  refine x_iconst_ (v := (4 : Int32)) dX13_simple_314 (by decide) ?_
                                  refine x_icmp_lt (tgt := 329) dX13_simple_315 (by decide) (fun c315 => ?_) (fun c315 => ?_)
                                  · replace h := h.1 c315
                                    refine x_iconst_ (v := (0 : Int32)) dX13_simple_329 (by decide) ?_
                                    change X _ _ _ _ _ _ [some (.ref m), none, none, none, some (.int v4), none, some (.int y8_s0), some (.int y9_s0), some (.int y10_s0), some (.int (if (I7 (m + 3) (ix (I7 m 42))) = (4 : Int32) then (I7 (m + 4) (ix (I7 m 42))) else (-1 : Int32))), none] [.int (0 : Int32)]
                                    exact X.weak (xle_c rfl (xle_n (xle_n (xle_n (xle_c rfl (xle_n (xle_c rfl (xle_c rfl (xle_c rfl (xle_c rfl (xle_n xle_nil))))))))))) (kj12 (0 : Int32) h)
                                  · replace h := h.2 c315
                                    refine x_iload dX13_simple_318 rfl ?_
                                    refine x_bipush_ (v := (12 : Int32)) dX13_simple_320 (by decide) ?_
                                    refine x_icmp_ge (tgt := 329) dX13_simple_322 (by decide) (fun c322 => ?_) (fun c322 => ?_)
                                    · replace h := h.1 c322
                                      refine x_iconst_ (v := (0 : Int32)) dX13_simple_329 (by decide) ?_
                                      change X _ _ _ _ _ _ [some (.ref m), none, none, none, some (.int v4), none, some (.int y8_s0), some (.int y9_s0), some (.int y10_s0), some (.int (if (I7 (m + 3) (ix (I7 m 42))) = (4 : Int32) then (I7 (m + 4) (ix (I7 m 42))) else (-1 : Int32))), none] [.int (0 : Int32)]
                                      exact X.weak (xle_c rfl (xle_n (xle_n (xle_n (xle_c rfl (xle_n (xle_c rfl (xle_c rfl (xle_c rfl (xle_c rfl (xle_n xle_nil))))))))))) (kj12 (0 : Int32) h)
                                    · replace h := h.2 c322
                                      refine x_iconst_ (v := (1 : Int32)) dX13_simple_325 (by decide) ?_
                                      refine x_goto (tgt := 330) dX13_simple_326 (by decide) ?_
                                      change X _ _ _ _ _ _ [some (.ref m), none, none, none, some (.int v4), none, some (.int y8_s0), some (.int y9_s0), some (.int y10_s0), some (.int (if (I7 (m + 3) (ix (I7 m 42))) = (4 : Int32) then (I7 (m + 4) (ix (I7 m 42))) else (-1 : Int32))), none] [.int (1 : Int32)]
                                      exact X.weak (xle_c rfl (xle_n (xle_n (xle_n (xle_c rfl (xle_n (xle_c rfl (xle_c rfl (xle_c rfl (xle_c rfl (xle_n xle_nil))))))))))) (kj12 (1 : Int32) h)
                    · replace h := h.2 c233
                      refine x_aload_n dX13_simple_236 rfl ?_
                      refine x_iload_n dX13_simple_237 rfl ?_
                      obtain ⟨R28, g28, h⟩ := h
                      refine x_callV hG (Ky := kX13_element) (As := [.int y3_s0]) dX13_simple_238 (mo_t hM) rfl lk_X13_460 me_X13_element is_X13_element se_X13_element rfl rfl (Nat.le_of_ble_eq_true rfl) (MX.post ((rc_E hG hM 700).2.2.2.2.2.2.2.2 g28) ?_)
                      rintro _ _ ⟨v28, I28, rfl, rfl, zv28, h1⟩
                      replace h := h v28 I28 zv28 h1
                      change X _ _ _ _ (A.wI I28) _ _ (.int v28 :: _)
                      refine x_if_ne (tgt := 246) dX13_simple_241 (by decide) (fun c241 => ?_) (fun c241 => ?_)
                      · replace h := h.2 c241
                        refine x_aload_n dX13_simple_246 rfl ?_
                        refine x_get (v := .ref (m + 3)) hG dX13_simple_247 f_X13_16_12 (mo_t hM) (congrArg va_rf (mo_P4 hM)) ?_
                        refine x_aload_n dX13_simple_250 rfl ?_
                        refine x_get (v := .int (I28 m 42)) hG dX13_simple_251 f_X13_233_12 (mo_t hM) rfl ?_
                        obtain ⟨o29, h⟩ := h
                        refine y_iald hG dX13_simple_254 (mo_t4 hM) (mo_n4 hM) o29 ?_
                        refine x_iconst_ (v := (4 : Int32)) dX13_simple_255 (by decide) ?_
                        refine x_via 272 (A' := (A.wI I28)) (lv' := [some (.ref m), none, none, none, some (.int v4), none, some (.int y8_s0), some (.int y9_s0), some (.int y10_s0), none, none]) (st' := [.int (if (I28 (m + 3) (ix (I28 m 42))) = (4 : Int32) then (I28 (m + 4) (ix (I28 m 42))) else (-1 : Int32))]) ?_ (fun k272 => ?_)
                        rotate_left
                        · refine x_icmp_ne (tgt := 271) dX13_simple_256 (by decide) (fun c256 => ?_) (fun c256 => ?_)
                          · refine x_iconst_ (v := (-1 : Int32)) dX13_simple_271 (by decide) ?_
                            change X _ _ _ _ _ _ [some (.ref m), none, some (.int y3_s0), none, some (.int v4), none, some (.int y8_s0), some (.int y9_s0), some (.int y10_s0), none, none] [.int (-1 : Int32)]
                            simp only [if_neg c256] at k272 ⊢
                            exact X.weak (xle_c rfl (xle_n (xle_n (xle_n (xle_c rfl (xle_n (xle_c rfl (xle_c rfl (xle_c rfl (xle_n (xle_n xle_nil))))))))))) k272
                          · refine x_aload_n dX13_simple_259 rfl ?_
                            refine x_get (v := .ref (m + 4)) hG dX13_simple_260 f_X13_19_12 (mo_t hM) (congrArg va_rf (mo_P5 hM)) ?_
                            refine x_aload_n dX13_simple_263 rfl ?_
                            refine x_get (v := .int (I28 m 42)) hG dX13_simple_264 f_X13_233_12 (mo_t hM) rfl ?_
                            refine y_iald hG dX13_simple_267 (mo_t5 hM) (mo_n5 hM) o29 ?_
                            refine x_goto (tgt := 272) dX13_simple_268 (by decide) ?_
                            change X _ _ _ _ _ _ [some (.ref m), none, some (.int y3_s0), none, some (.int v4), none, some (.int y8_s0), some (.int y9_s0), some (.int y10_s0), none, none] [.int (I28 (m + 4) (ix (I28 m 42)))]
                            simp only [if_pos c256] at k272 ⊢
                            exact X.weak (xle_c rfl (xle_n (xle_n (xle_n (xle_c rfl (xle_n (xle_c rfl (xle_c rfl (xle_c rfl (xle_n (xle_n xle_nil))))))))))) k272
                        refine x_istore dX13_simple_272 (by decide) ?_
                        refine x_iload dX13_simple_274 rfl ?_
                        refine x_bipush_ (v := (32 : Int32)) dX13_simple_276 (by decide) ?_
                        obtain ⟨J30, g30, h⟩ := h
                        have kj30 : ∀ (y30_s0 : Int32), J30 y30_s0 → X G (dp + 713) kX13_simple (oZ A Q) (A.wI I28) 330 [some (.ref m), none, none, none, some (.int v4), none, some (.int y8_s0), some (.int y9_s0), some (.int y10_s0), some (.int (if (I28 (m + 3) (ix (I28 m 42))) = (4 : Int32) then (I28 (m + 4) (ix (I28 m 42))) else (-1 : Int32))), none] [.int y30_s0] := by
                          intro y30_s0 h
                          replace h := g30 y30_s0 h
                          refine x_istore dX13_simple_330 (by decide) ?_
                          refine x_iload dX13_simple_332 rfl ?_
                          refine x_if_ne (tgt := 343) dX13_simple_334 (by decide) (fun c334 => ?_) (fun c334 => ?_)
                          · replace h := h.2 c334
                            refine x_aload_n dX13_simple_343 rfl ?_
                            refine x_dup dX13_simple_344 rfl ?_
                            refine x_get (v := .int (I28 m 42)) hG dX13_simple_345 f_X13_233_12 (mo_t hM) rfl ?_
                            refine x_iconst_ (v := (1 : Int32)) dX13_simple_348 (by decide) ?_
                            refine x_iadd dX13_simple_349 ?_
                            refine y_put hG hM dX13_simple_350 f_X13_233_12 ⟨_, rfl, Or.inl rfl⟩ rfl rfl ⟨_, rfl⟩ (fun I31 e31 => ?_)
                            replace h := h I31 e31
                            refine x_iload dX13_simple_353 rfl ?_
                            refine x_bipush_ (v := (32 : Int32)) dX13_simple_355 (by decide) ?_
                            obtain ⟨J32, g32, h⟩ := h
                            have kj32 : ∀ (I32 : xII), J32 I32 → X G (dp + 713) kX13_simple (oZ A Q) (A.wI I32) 404 [some (.ref m), none, none, none, some (.int v4), none, some (.int y8_s0), some (.int y9_s0), some (.int y10_s0), some (.int (if (I28 (m + 3) (ix (I28 m 42))) = (4 : Int32) then (I28 (m + 4) (ix (I28 m 42))) else (-1 : Int32))), none] [] := by
                              intro I32 h
                              replace h := g32 I32 h
                              refine x_iload dX13_simple_404 rfl ?_
                              refine x_bipush_ (v := (12 : Int32)) dX13_simple_406 (by decide) ?_
                              refine x_icmp_eq (tgt := 418) dX13_simple_408 (by decide) (fun c408 => ?_) (fun c408 => ?_)
                              · replace h := h.1 c408
                                refine x_aload_n dX13_simple_418 rfl ?_
                                refine x_iconst_ (v := (0 : Int32)) dX13_simple_419 (by decide) ?_
                                refine x_iconst_ (v := (1 : Int32)) dX13_simple_420 (by decide) ?_
                                refine x_iconst_ (v := (0 : Int32)) dX13_simple_421 (by decide) ?_
                                obtain ⟨R33, g33, h⟩ := h
                                refine x_callV hG (Ky := kX13_step) (As := [.int (0 : Int32), .int (1 : Int32), .int (0 : Int32)]) dX13_simple_422 (mo_t hM) rfl lk_X13_401 me_X13_step is_X13_step se_X13_step rfl rfl (Nat.le_of_ble_eq_true rfl) (MX.post (m_X13_step hG hM g33) ?_)
                                rintro _ _ ⟨v33, I33, rfl, rfl, h1⟩
                                replace h := h v33 I33 h1
                                change X _ _ _ _ (A.wI I33) _ _ (.int v33 :: _)
                                refine x_pop dX13_simple_425 rfl ?_
                                refine x_goto (tgt := 438) dX13_simple_426 (by decide) ?_
                                refine x_iload dX13_simple_438 rfl ?_
                                refine x_bipush_ (v := (32 : Int32)) dX13_simple_440 (by decide) ?_
                                refine x_icmp_eq (tgt := 584) dX13_simple_442 (by decide) (fun h => absurd h (by rw [c408]; decide)) (fun _ => ?_)
                                refine x_aload_n dX13_simple_445 rfl ?_
                                refine x_bipush_ (v := (10 : Int32)) dX13_simple_446 (by decide) ?_
                                refine x_iload dX13_simple_448 rfl ?_
                                refine x_bipush_ (v := (12 : Int32)) dX13_simple_450 (by decide) ?_
                                refine x_icmp_eq (tgt := 461) dX13_simple_452 (by decide) (fun _ => ?_) (fun h => absurd c408 h)
                                refine x_bipush_ (v := (38 : Int32)) dX13_simple_461 (by decide) ?_
                                refine x_goto (tgt := 579) dX13_simple_463 (by decide) ?_
                                refine x_iconst_ (v := (0 : Int32)) dX13_simple_579 (by decide) ?_
                                obtain ⟨R34, g34, h⟩ := h
                                refine x_callV hG (Ky := kX13_step) (As := [.int (10 : Int32), .int (38 : Int32), .int (0 : Int32)]) dX13_simple_580 (mo_t hM) rfl lk_X13_401 me_X13_step is_X13_step se_X13_step rfl rfl (Nat.le_of_ble_eq_true rfl) (MX.post (m_X13_step hG hM g34) ?_)
                                rintro _ _ ⟨v34, I34, rfl, rfl, h1⟩
                                replace h := h v34 I34 h1
                                change X _ _ _ _ (A.wI I34) _ _ (.int v34 :: _)
                                refine x_pop dX13_simple_583 rfl ?_
                                refine x_iload dX13_simple_584 rfl ?_
                                refine x_if_eq (tgt := 610) dX13_simple_586 (by decide) (fun h => absurd h c233) (fun _ => ?_)
                                refine x_aload_n dX13_simple_589 rfl ?_
                                refine x_bipush_ (v := (8 : Int32)) dX13_simple_590 (by decide) ?_
                                refine x_iload dX13_simple_592 rfl ?_
                                refine x_via 602 (A' := (A.wI I34)) (lv' := [none, none, none, none, none, none, none, none, none, none, none]) (st' := [.int (if y8_s0 = 0 then (0 : Int32) else (1 : Int32)), .int (8 : Int32), .ref m]) ?_ (fun k602 => ?_)
                                rotate_left
                                · refine x_if_eq (tgt := 601) dX13_simple_594 (by decide) (fun c594 => ?_) (fun c594 => ?_)
                                  · refine x_iconst_ (v := (0 : Int32)) dX13_simple_601 (by decide) ?_
                                    change X _ _ _ _ _ _ [some (.ref m), none, none, none, some (.int v4), none, some (.int y8_s0), some (.int y9_s0), some (.int y10_s0), some (.int (if (I28 (m + 3) (ix (I28 m 42))) = (4 : Int32) then (I28 (m + 4) (ix (I28 m 42))) else (-1 : Int32))), none] [.int (0 : Int32), .int (8 : Int32), .ref m]
                                    simp only [if_pos c594] at k602 ⊢
                                    exact X.weak (xle_n (xle_n (xle_n (xle_n (xle_n (xle_n (xle_n (xle_n (xle_n (xle_n (xle_n xle_nil))))))))))) k602
                                  · refine x_iconst_ (v := (1 : Int32)) dX13_simple_597 (by decide) ?_
                                    refine x_goto (tgt := 602) dX13_simple_598 (by decide) ?_
                                    change X _ _ _ _ _ _ [some (.ref m), none, none, none, some (.int v4), none, some (.int y8_s0), some (.int y9_s0), some (.int y10_s0), some (.int (if (I28 (m + 3) (ix (I28 m 42))) = (4 : Int32) then (I28 (m + 4) (ix (I28 m 42))) else (-1 : Int32))), none] [.int (1 : Int32), .int (8 : Int32), .ref m]
                                    simp only [if_neg c594] at k602 ⊢
                                    exact X.weak (xle_n (xle_n (xle_n (xle_n (xle_n (xle_n (xle_n (xle_n (xle_n (xle_n (xle_n xle_nil))))))))))) k602
                                refine x_iconst_ (v := (0 : Int32)) dX13_simple_602 (by decide) ?_
                                obtain ⟨R35, g35, h⟩ := h
                                refine x_callV hG (Ky := kX13_step) (As := [.int (8 : Int32), .int (if y8_s0 = 0 then (0 : Int32) else (1 : Int32)), .int (0 : Int32)]) dX13_simple_603 (mo_t hM) rfl lk_X13_401 me_X13_step is_X13_step se_X13_step rfl rfl (Nat.le_of_ble_eq_true rfl) (MX.post (m_X13_step hG hM g35) ?_)
                                rintro _ _ ⟨v35, I35, rfl, rfl, h1⟩
                                replace h := h v35 I35 h1
                                change X _ _ _ _ (A.wI I35) _ _ (.int v35 :: _)
                                refine x_pop dX13_simple_606 rfl ?_
                                refine x_goto (tgt := 628) dX13_simple_607 (by decide) ?_
                                refine x_iconst_ (v := (1 : Int32)) dX13_simple_628 (by decide) ?_
                                exact x_zret dX13_simple_629 rfl (by decide) ⟨_, _, rfl, rfl, (by decide), h⟩
                              · replace h := h.2 c408
                                refine x_iload dX13_simple_411 rfl ?_
                                refine x_bipush_ (v := (13 : Int32)) dX13_simple_413 (by decide) ?_
                                refine x_icmp_ne (tgt := 429) dX13_simple_415 (by decide) (fun c415 => ?_) (fun c415 => ?_)
                                · replace h := h.2 c415
                                  refine x_aload_n dX13_simple_429 rfl ?_
                                  obtain ⟨R36, g36, h⟩ := h
                                  refine x_callV hG (Ky := kX13_expression) (As := []) dX13_simple_430 (mo_t hM) rfl lk_X13_368 me_X13_expression is_X13_expression se_X13_expression rfl rfl (Nat.le_of_ble_eq_true rfl) (MX.post ((rc_E hG hM 700).1 g36) ?_)
                                  rintro _ _ ⟨v36, I36, rfl, rfl, zv36, h1⟩
                                  replace h := h v36 I36 zv36 h1
                                  change X _ _ _ _ (A.wI I36) _ _ (.int v36 :: _)
                                  refine x_if_ne (tgt := 438) dX13_simple_433 (by decide) (fun c433 => ?_) (fun c433 => ?_)
                                  · replace h := h.2 c433
                                    refine x_iload dX13_simple_438 rfl ?_
                                    refine x_bipush_ (v := (32 : Int32)) dX13_simple_440 (by decide) ?_
                                    obtain ⟨J37, g37, h⟩ := h
                                    have kj37 : ∀ (I37 : xII), J37 I37 → X G (dp + 713) kX13_simple (oZ A Q) (A.wI I37) 584 [some (.ref m), none, none, none, some (.int v4), none, some (.int y8_s0), some (.int y9_s0), some (.int y10_s0), none, none] [] := by
                                      intro I37 h
                                      replace h := g37 I37 h
                                      refine x_iload dX13_simple_584 rfl ?_
                                      refine x_if_eq (tgt := 610) dX13_simple_586 (by decide) (fun h => absurd h c233) (fun _ => ?_)
                                      refine x_aload_n dX13_simple_589 rfl ?_
                                      refine x_bipush_ (v := (8 : Int32)) dX13_simple_590 (by decide) ?_
                                      refine x_iload dX13_simple_592 rfl ?_
                                      refine x_via 602 (A' := (A.wI I37)) (lv' := [none, none, none, none, none, none, none, none, none, none, none]) (st' := [.int (if y8_s0 = 0 then (0 : Int32) else (1 : Int32)), .int (8 : Int32), .ref m]) ?_ (fun k602 => ?_)
                                      rotate_left
                                      · refine x_if_eq (tgt := 601) dX13_simple_594 (by decide) (fun c594 => ?_) (fun c594 => ?_)
                                        · refine x_iconst_ (v := (0 : Int32)) dX13_simple_601 (by decide) ?_
                                          change X _ _ _ _ _ _ [some (.ref m), none, none, none, some (.int v4), none, some (.int y8_s0), some (.int y9_s0), some (.int y10_s0), none, none] [.int (0 : Int32), .int (8 : Int32), .ref m]
                                          simp only [if_pos c594] at k602 ⊢
                                          exact X.weak (xle_n (xle_n (xle_n (xle_n (xle_n (xle_n (xle_n (xle_n (xle_n (xle_n (xle_n xle_nil))))))))))) k602
                                        · refine x_iconst_ (v := (1 : Int32)) dX13_simple_597 (by decide) ?_
                                          refine x_goto (tgt := 602) dX13_simple_598 (by decide) ?_
                                          change X _ _ _ _ _ _ [some (.ref m), none, none, none, some (.int v4), none, some (.int y8_s0), some (.int y9_s0), some (.int y10_s0), none, none] [.int (1 : Int32), .int (8 : Int32), .ref m]
                                          simp only [if_neg c594] at k602 ⊢
                                          exact X.weak (xle_n (xle_n (xle_n (xle_n (xle_n (xle_n (xle_n (xle_n (xle_n (xle_n (xle_n xle_nil))))))))))) k602
                                      refine x_iconst_ (v := (0 : Int32)) dX13_simple_602 (by decide) ?_
                                      obtain ⟨R38, g38, h⟩ := h
                                      refine x_callV hG (Ky := kX13_step) (As := [.int (8 : Int32), .int (if y8_s0 = 0 then (0 : Int32) else (1 : Int32)), .int (0 : Int32)]) dX13_simple_603 (mo_t hM) rfl lk_X13_401 me_X13_step is_X13_step se_X13_step rfl rfl (Nat.le_of_ble_eq_true rfl) (MX.post (m_X13_step hG hM g38) ?_)
                                      rintro _ _ ⟨v38, I38, rfl, rfl, h1⟩
                                      replace h := h v38 I38 h1
                                      change X _ _ _ _ (A.wI I38) _ _ (.int v38 :: _)
                                      refine x_pop dX13_simple_606 rfl ?_
                                      refine x_goto (tgt := 628) dX13_simple_607 (by decide) ?_
                                      refine x_iconst_ (v := (1 : Int32)) dX13_simple_628 (by decide) ?_
                                      exact x_zret dX13_simple_629 rfl (by decide) ⟨_, _, rfl, rfl, (by decide), h⟩
                                    refine x_icmp_eq (tgt := 584) dX13_simple_442 (by decide) (fun c442 => ?_) (fun c442 => ?_)
                                    · replace h := h.1 c442
                                      change X _ _ _ _ _ _ [some (.ref m), none, none, none, some (.int v4), none, some (.int y8_s0), some (.int y9_s0), some (.int y10_s0), some (.int (if (I28 (m + 3) (ix (I28 m 42))) = (4 : Int32) then (I28 (m + 4) (ix (I28 m 42))) else (-1 : Int32))), none] []
                                      exact X.weak (xle_c rfl (xle_n (xle_n (xle_n (xle_c rfl (xle_n (xle_c rfl (xle_c rfl (xle_c rfl (xle_n (xle_n xle_nil))))))))))) (kj37 I36 h)
                                    · replace h := h.2 c442
                                      refine x_aload_n dX13_simple_445 rfl ?_
                                      refine x_bipush_ (v := (10 : Int32)) dX13_simple_446 (by decide) ?_
                                      refine x_iload dX13_simple_448 rfl ?_
                                      refine x_bipush_ (v := (12 : Int32)) dX13_simple_450 (by decide) ?_
                                      refine x_icmp_eq (tgt := 461) dX13_simple_452 (by decide) (fun h => absurd h c408) (fun _ => ?_)
                                      refine x_iload dX13_simple_455 rfl ?_
                                      refine x_iconst_ (v := (4 : Int32)) dX13_simple_457 (by decide) ?_
                                      obtain ⟨J39, g39, h⟩ := h
                                      have kj39 : ∀ (y39_s0 : Int32), J39 y39_s0 → X G (dp + 713) kX13_simple (oZ A Q) (A.wI I36) 579 [some (.ref m), none, none, none, some (.int v4), none, some (.int y8_s0), some (.int y9_s0), some (.int y10_s0), none, none] [.int y39_s0, .int (10 : Int32), .ref m] := by
                                        intro y39_s0 h
                                        replace h := g39 y39_s0 h
                                        refine x_iconst_ (v := (0 : Int32)) dX13_simple_579 (by decide) ?_
                                        obtain ⟨R40, g40, h⟩ := h
                                        refine x_callV hG (Ky := kX13_step) (As := [.int (10 : Int32), .int y39_s0, .int (0 : Int32)]) dX13_simple_580 (mo_t hM) rfl lk_X13_401 me_X13_step is_X13_step se_X13_step rfl rfl (Nat.le_of_ble_eq_true rfl) (MX.post (m_X13_step hG hM g40) ?_)
                                        rintro _ _ ⟨v40, I40, rfl, rfl, h1⟩
                                        replace h := h v40 I40 h1
                                        change X _ _ _ _ (A.wI I40) _ _ (.int v40 :: _)
                                        refine x_pop dX13_simple_583 rfl ?_
                                        change X _ _ _ _ _ _ [some (.ref m), none, none, none, some (.int v4), none, some (.int y8_s0), some (.int y9_s0), some (.int y10_s0), none, none] []
                                        exact X.weak (xle_c rfl (xle_n (xle_n (xle_n (xle_c rfl (xle_n (xle_c rfl (xle_c rfl (xle_c rfl (xle_n (xle_n xle_nil))))))))))) (kj37 I40 h)
                                      refine x_icmp_ne (tgt := 466) dX13_simple_458 (by decide) (fun c458 => ?_) (fun c458 => ?_)
                                      · replace h := h.2 c458
                                        refine x_iload dX13_simple_466 rfl ?_
                                        refine x_bipush_ (v := (13 : Int32)) dX13_simple_468 (by decide) ?_
                                        refine x_icmp_eq (tgt := 479) dX13_simple_470 (by decide) (fun h => absurd h c415) (fun _ => ?_)
                                        refine x_iload dX13_simple_473 rfl ?_
                                        refine x_iconst_ (v := (5 : Int32)) dX13_simple_475 (by decide) ?_
                                        refine x_icmp_ne (tgt := 484) dX13_simple_476 (by decide) (fun c476 => ?_) (fun c476 => ?_)
                                        · replace h := h.2 c476
                                          refine x_iload dX13_simple_484 rfl ?_
                                          refine x_bipush_ (v := (6 : Int32)) dX13_simple_486 (by decide) ?_
                                          refine x_icmp_ne (tgt := 496) dX13_simple_488 (by decide) (fun c488 => ?_) (fun c488 => ?_)
                                          · replace h := h.2 c488
                                            refine x_iload dX13_simple_496 rfl ?_
                                            refine x_bipush_ (v := (7 : Int32)) dX13_simple_498 (by decide) ?_
                                            refine x_icmp_ne (tgt := 508) dX13_simple_500 (by decide) (fun c500 => ?_) (fun c500 => ?_)
                                            · replace h := h.2 c500
                                              refine x_iload dX13_simple_508 rfl ?_
                                              refine x_bipush_ (v := (8 : Int32)) dX13_simple_510 (by decide) ?_
                                              refine x_icmp_ne (tgt := 520) dX13_simple_512 (by decide) (fun c512 => ?_) (fun c512 => ?_)
                                              · replace h := h.2 c512
                                                refine x_iload dX13_simple_520 rfl ?_
                                                refine x_bipush_ (v := (9 : Int32)) dX13_simple_522 (by decide) ?_
                                                refine x_icmp_ne (tgt := 532) dX13_simple_524 (by decide) (fun c524 => ?_) (fun c524 => ?_)
                                                · replace h := h.2 c524
                                                  refine x_iload dX13_simple_532 rfl ?_
                                                  refine x_bipush_ (v := (10 : Int32)) dX13_simple_534 (by decide) ?_
                                                  refine x_icmp_ne (tgt := 544) dX13_simple_536 (by decide) (fun c536 => ?_) (fun c536 => ?_)
                                                  · replace h := h.2 c536
                                                    refine x_iload dX13_simple_544 rfl ?_
                                                    refine x_bipush_ (v := (11 : Int32)) dX13_simple_546 (by decide) ?_
                                                    refine x_icmp_ne (tgt := 556) dX13_simple_548 (by decide) (fun c548 => ?_) (fun c548 => ?_)
                                                    · replace h := h.2 c548
                                                      refine x_iload dX13_simple_556 rfl ?_
                                                      refine x_iconst_ (v := (2 : Int32)) dX13_simple_558 (by decide) ?_
                                                      refine x_icmp_ne (tgt := 567) dX13_simple_559 (by decide) (fun c559 => ?_) (fun c559 => ?_)
                                                      · replace h := h.2 c559
                                                        refine x_iload dX13_simple_567 rfl ?_
                                                        refine x_iconst_ (v := (3 : Int32)) dX13_simple_569 (by decide) ?_
                                                        refine x_icmp_ne (tgt := 578) dX13_simple_570 (by decide) (fun c570 => ?_) (fun c570 => ?_)
                                                        · replace h := h.2 c570
                                                          refine x_iconst_ (v := (1 : Int32)) dX13_simple_578 (by decide) ?_
                                                          change X _ _ _ _ _ _ [some (.ref m), none, none, none, some (.int v4), none, some (.int y8_s0), some (.int y9_s0), some (.int y10_s0), some (.int (if (I28 (m + 3) (ix (I28 m 42))) = (4 : Int32) then (I28 (m + 4) (ix (I28 m 42))) else (-1 : Int32))), none] [.int (1 : Int32), .int (10 : Int32), .ref m]
                                                          exact X.weak (xle_c rfl (xle_n (xle_n (xle_n (xle_c rfl (xle_n (xle_c rfl (xle_c rfl (xle_c rfl (xle_n (xle_n xle_nil))))))))))) (kj39 (1 : Int32) h)
                                                        · replace h := h.1 c570
                                                          refine x_bipush_ (v := (21 : Int32)) dX13_simple_573 (by decide) ?_
                                                          refine x_goto (tgt := 579) dX13_simple_575 (by decide) ?_
                                                          change X _ _ _ _ _ _ [some (.ref m), none, none, none, some (.int v4), none, some (.int y8_s0), some (.int y9_s0), some (.int y10_s0), some (.int (if (I28 (m + 3) (ix (I28 m 42))) = (4 : Int32) then (I28 (m + 4) (ix (I28 m 42))) else (-1 : Int32))), none] [.int (21 : Int32), .int (10 : Int32), .ref m]
                                                          exact X.weak (xle_c rfl (xle_n (xle_n (xle_n (xle_c rfl (xle_n (xle_c rfl (xle_c rfl (xle_c rfl (xle_n (xle_n xle_nil))))))))))) (kj39 (21 : Int32) h)
                                                      · replace h := h.1 c559
                                                        refine x_bipush_ (v := (20 : Int32)) dX13_simple_562 (by decide) ?_
                                                        refine x_goto (tgt := 579) dX13_simple_564 (by decide) ?_
                                                        change X _ _ _ _ _ _ [some (.ref m), none, none, none, some (.int v4), none, some (.int y8_s0), some (.int y9_s0), some (.int y10_s0), some (.int (if (I28 (m + 3) (ix (I28 m 42))) = (4 : Int32) then (I28 (m + 4) (ix (I28 m 42))) else (-1 : Int32))), none] [.int (20 : Int32), .int (10 : Int32), .ref m]
                                                        exact X.weak (xle_c rfl (xle_n (xle_n (xle_n (xle_c rfl (xle_n (xle_c rfl (xle_c rfl (xle_c rfl (xle_n (xle_n xle_nil))))))))))) (kj39 (20 : Int32) h)
                                                    · replace h := h.1 c548
                                                      refine x_bipush_ (v := (34 : Int32)) dX13_simple_551 (by decide) ?_
                                                      refine x_goto (tgt := 579) dX13_simple_553 (by decide) ?_
                                                      change X _ _ _ _ _ _ [some (.ref m), none, none, none, some (.int v4), none, some (.int y8_s0), some (.int y9_s0), some (.int y10_s0), some (.int (if (I28 (m + 3) (ix (I28 m 42))) = (4 : Int32) then (I28 (m + 4) (ix (I28 m 42))) else (-1 : Int32))), none] [.int (34 : Int32), .int (10 : Int32), .ref m]
                                                      exact X.weak (xle_c rfl (xle_n (xle_n (xle_n (xle_c rfl (xle_n (xle_c rfl (xle_c rfl (xle_c rfl (xle_n (xle_n xle_nil))))))))))) (kj39 (34 : Int32) h)
                                                  · replace h := h.1 c536
                                                    refine x_bipush_ (v := (33 : Int32)) dX13_simple_539 (by decide) ?_
                                                    refine x_goto (tgt := 579) dX13_simple_541 (by decide) ?_
                                                    change X _ _ _ _ _ _ [some (.ref m), none, none, none, some (.int v4), none, some (.int y8_s0), some (.int y9_s0), some (.int y10_s0), some (.int (if (I28 (m + 3) (ix (I28 m 42))) = (4 : Int32) then (I28 (m + 4) (ix (I28 m 42))) else (-1 : Int32))), none] [.int (33 : Int32), .int (10 : Int32), .ref m]
                                                    exact X.weak (xle_c rfl (xle_n (xle_n (xle_n (xle_c rfl (xle_n (xle_c rfl (xle_c rfl (xle_c rfl (xle_n (xle_n xle_nil))))))))))) (kj39 (33 : Int32) h)
                                                · replace h := h.1 c524
                                                  refine x_bipush_ (v := (35 : Int32)) dX13_simple_527 (by decide) ?_
                                                  refine x_goto (tgt := 579) dX13_simple_529 (by decide) ?_
                                                  change X _ _ _ _ _ _ [some (.ref m), none, none, none, some (.int v4), none, some (.int y8_s0), some (.int y9_s0), some (.int y10_s0), some (.int (if (I28 (m + 3) (ix (I28 m 42))) = (4 : Int32) then (I28 (m + 4) (ix (I28 m 42))) else (-1 : Int32))), none] [.int (35 : Int32), .int (10 : Int32), .ref m]
                                                  exact X.weak (xle_c rfl (xle_n (xle_n (xle_n (xle_c rfl (xle_n (xle_c rfl (xle_c rfl (xle_c rfl (xle_n (xle_n xle_nil))))))))))) (kj39 (35 : Int32) h)
                                              · replace h := h.1 c512
                                                refine x_bipush_ (v := (42 : Int32)) dX13_simple_515 (by decide) ?_
                                                refine x_goto (tgt := 579) dX13_simple_517 (by decide) ?_
                                                change X _ _ _ _ _ _ [some (.ref m), none, none, none, some (.int v4), none, some (.int y8_s0), some (.int y9_s0), some (.int y10_s0), some (.int (if (I28 (m + 3) (ix (I28 m 42))) = (4 : Int32) then (I28 (m + 4) (ix (I28 m 42))) else (-1 : Int32))), none] [.int (42 : Int32), .int (10 : Int32), .ref m]
                                                exact X.weak (xle_c rfl (xle_n (xle_n (xle_n (xle_c rfl (xle_n (xle_c rfl (xle_c rfl (xle_c rfl (xle_n (xle_n xle_nil))))))))))) (kj39 (42 : Int32) h)
                                            · replace h := h.1 c500
                                              refine x_bipush_ (v := (41 : Int32)) dX13_simple_503 (by decide) ?_
                                              refine x_goto (tgt := 579) dX13_simple_505 (by decide) ?_
                                              change X _ _ _ _ _ _ [some (.ref m), none, none, none, some (.int v4), none, some (.int y8_s0), some (.int y9_s0), some (.int y10_s0), some (.int (if (I28 (m + 3) (ix (I28 m 42))) = (4 : Int32) then (I28 (m + 4) (ix (I28 m 42))) else (-1 : Int32))), none] [.int (41 : Int32), .int (10 : Int32), .ref m]
                                              exact X.weak (xle_c rfl (xle_n (xle_n (xle_n (xle_c rfl (xle_n (xle_c rfl (xle_c rfl (xle_c rfl (xle_n (xle_n xle_nil))))))))))) (kj39 (41 : Int32) h)
                                          · replace h := h.1 c488
                                            refine x_bipush_ (v := (40 : Int32)) dX13_simple_491 (by decide) ?_
                                            refine x_goto (tgt := 579) dX13_simple_493 (by decide) ?_
                                            change X _ _ _ _ _ _ [some (.ref m), none, none, none, some (.int v4), none, some (.int y8_s0), some (.int y9_s0), some (.int y10_s0), some (.int (if (I28 (m + 3) (ix (I28 m 42))) = (4 : Int32) then (I28 (m + 4) (ix (I28 m 42))) else (-1 : Int32))), none] [.int (40 : Int32), .int (10 : Int32), .ref m]
                                            exact X.weak (xle_c rfl (xle_n (xle_n (xle_n (xle_c rfl (xle_n (xle_c rfl (xle_c rfl (xle_c rfl (xle_n (xle_n xle_nil))))))))))) (kj39 (40 : Int32) h)
                                        · replace h := h.1 c476
                                          refine x_bipush_ (v := (39 : Int32)) dX13_simple_479 (by decide) ?_
                                          refine x_goto (tgt := 579) dX13_simple_481 (by decide) ?_
                                          change X _ _ _ _ _ _ [some (.ref m), none, none, none, some (.int v4), none, some (.int y8_s0), some (.int y9_s0), some (.int y10_s0), some (.int (if (I28 (m + 3) (ix (I28 m 42))) = (4 : Int32) then (I28 (m + 4) (ix (I28 m 42))) else (-1 : Int32))), none] [.int (39 : Int32), .int (10 : Int32), .ref m]
                                          exact X.weak (xle_c rfl (xle_n (xle_n (xle_n (xle_c rfl (xle_n (xle_c rfl (xle_c rfl (xle_c rfl (xle_n (xle_n xle_nil))))))))))) (kj39 (39 : Int32) h)
                                      · replace h := h.1 c458
                                        refine x_bipush_ (v := (38 : Int32)) dX13_simple_461 (by decide) ?_
                                        refine x_goto (tgt := 579) dX13_simple_463 (by decide) ?_
                                        change X _ _ _ _ _ _ [some (.ref m), none, none, none, some (.int v4), none, some (.int y8_s0), some (.int y9_s0), some (.int y10_s0), some (.int (if (I28 (m + 3) (ix (I28 m 42))) = (4 : Int32) then (I28 (m + 4) (ix (I28 m 42))) else (-1 : Int32))), none] [.int (38 : Int32), .int (10 : Int32), .ref m]
                                        exact X.weak (xle_c rfl (xle_n (xle_n (xle_n (xle_c rfl (xle_n (xle_c rfl (xle_c rfl (xle_c rfl (xle_n (xle_n xle_nil))))))))))) (kj39 (38 : Int32) h)
                                  · replace h := h.1 c433
                                    refine x_iconst_ (v := (0 : Int32)) dX13_simple_436 (by decide) ?_
                                    exact x_zret dX13_simple_437 rfl (by decide) ⟨_, _, rfl, rfl, (by decide), h⟩
                                · replace h := h.1 c415
                                  refine x_aload_n dX13_simple_418 rfl ?_
                                  refine x_iconst_ (v := (0 : Int32)) dX13_simple_419 (by decide) ?_
                                  refine x_iconst_ (v := (1 : Int32)) dX13_simple_420 (by decide) ?_
                                  refine x_iconst_ (v := (0 : Int32)) dX13_simple_421 (by decide) ?_
                                  obtain ⟨R41, g41, h⟩ := h
                                  refine x_callV hG (Ky := kX13_step) (As := [.int (0 : Int32), .int (1 : Int32), .int (0 : Int32)]) dX13_simple_422 (mo_t hM) rfl lk_X13_401 me_X13_step is_X13_step se_X13_step rfl rfl (Nat.le_of_ble_eq_true rfl) (MX.post (m_X13_step hG hM g41) ?_)
                                  rintro _ _ ⟨v41, I41, rfl, rfl, h1⟩
                                  replace h := h v41 I41 h1
                                  change X _ _ _ _ (A.wI I41) _ _ (.int v41 :: _)
                                  refine x_pop dX13_simple_425 rfl ?_
                                  refine x_goto (tgt := 438) dX13_simple_426 (by decide) ?_
                                  refine x_iload dX13_simple_438 rfl ?_
                                  refine x_bipush_ (v := (32 : Int32)) dX13_simple_440 (by decide) ?_
                                  refine x_icmp_eq (tgt := 584) dX13_simple_442 (by decide) (fun h => absurd h (by rw [c415]; decide)) (fun _ => ?_)
                                  refine x_aload_n dX13_simple_445 rfl ?_
                                  refine x_bipush_ (v := (10 : Int32)) dX13_simple_446 (by decide) ?_
                                  refine x_iload dX13_simple_448 rfl ?_
                                  refine x_bipush_ (v := (12 : Int32)) dX13_simple_450 (by decide) ?_
                                  refine x_icmp_eq (tgt := 461) dX13_simple_452 (by decide) (fun h => absurd h c408) (fun _ => ?_)
                                  refine x_iload dX13_simple_455 rfl ?_
                                  refine x_iconst_ (v := (4 : Int32)) dX13_simple_457 (by decide) ?_
                                  refine x_icmp_ne (tgt := 466) dX13_simple_458 (by decide) (fun _ => ?_) (fun h => absurd h (by rw [c415]; decide))
                                  refine x_iload dX13_simple_466 rfl ?_
                                  refine x_bipush_ (v := (13 : Int32)) dX13_simple_468 (by decide) ?_
                                  refine x_icmp_eq (tgt := 479) dX13_simple_470 (by decide) (fun _ => ?_) (fun h => absurd c415 h)
                                  refine x_bipush_ (v := (39 : Int32)) dX13_simple_479 (by decide) ?_
                                  refine x_goto (tgt := 579) dX13_simple_481 (by decide) ?_
                                  refine x_iconst_ (v := (0 : Int32)) dX13_simple_579 (by decide) ?_
                                  obtain ⟨R42, g42, h⟩ := h
                                  refine x_callV hG (Ky := kX13_step) (As := [.int (10 : Int32), .int (39 : Int32), .int (0 : Int32)]) dX13_simple_580 (mo_t hM) rfl lk_X13_401 me_X13_step is_X13_step se_X13_step rfl rfl (Nat.le_of_ble_eq_true rfl) (MX.post (m_X13_step hG hM g42) ?_)
                                  rintro _ _ ⟨v42, I42, rfl, rfl, h1⟩
                                  replace h := h v42 I42 h1
                                  change X _ _ _ _ (A.wI I42) _ _ (.int v42 :: _)
                                  refine x_pop dX13_simple_583 rfl ?_
                                  refine x_iload dX13_simple_584 rfl ?_
                                  refine x_if_eq (tgt := 610) dX13_simple_586 (by decide) (fun h => absurd h c233) (fun _ => ?_)
                                  refine x_aload_n dX13_simple_589 rfl ?_
                                  refine x_bipush_ (v := (8 : Int32)) dX13_simple_590 (by decide) ?_
                                  refine x_iload dX13_simple_592 rfl ?_
                                  refine x_via 602 (A' := (A.wI I42)) (lv' := [none, none, none, none, none, none, none, none, none, none, none]) (st' := [.int (if y8_s0 = 0 then (0 : Int32) else (1 : Int32)), .int (8 : Int32), .ref m]) ?_ (fun k602 => ?_)
                                  rotate_left
                                  · refine x_if_eq (tgt := 601) dX13_simple_594 (by decide) (fun c594 => ?_) (fun c594 => ?_)
                                    · refine x_iconst_ (v := (0 : Int32)) dX13_simple_601 (by decide) ?_
                                      change X _ _ _ _ _ _ [some (.ref m), none, none, none, some (.int v4), none, some (.int y8_s0), some (.int y9_s0), some (.int y10_s0), some (.int (if (I28 (m + 3) (ix (I28 m 42))) = (4 : Int32) then (I28 (m + 4) (ix (I28 m 42))) else (-1 : Int32))), none] [.int (0 : Int32), .int (8 : Int32), .ref m]
                                      simp only [if_pos c594] at k602 ⊢
                                      exact X.weak (xle_n (xle_n (xle_n (xle_n (xle_n (xle_n (xle_n (xle_n (xle_n (xle_n (xle_n xle_nil))))))))))) k602
                                    · refine x_iconst_ (v := (1 : Int32)) dX13_simple_597 (by decide) ?_
                                      refine x_goto (tgt := 602) dX13_simple_598 (by decide) ?_
                                      change X _ _ _ _ _ _ [some (.ref m), none, none, none, some (.int v4), none, some (.int y8_s0), some (.int y9_s0), some (.int y10_s0), some (.int (if (I28 (m + 3) (ix (I28 m 42))) = (4 : Int32) then (I28 (m + 4) (ix (I28 m 42))) else (-1 : Int32))), none] [.int (1 : Int32), .int (8 : Int32), .ref m]
                                      simp only [if_neg c594] at k602 ⊢
                                      exact X.weak (xle_n (xle_n (xle_n (xle_n (xle_n (xle_n (xle_n (xle_n (xle_n (xle_n (xle_n xle_nil))))))))))) k602
                                  refine x_iconst_ (v := (0 : Int32)) dX13_simple_602 (by decide) ?_
                                  obtain ⟨R43, g43, h⟩ := h
                                  refine x_callV hG (Ky := kX13_step) (As := [.int (8 : Int32), .int (if y8_s0 = 0 then (0 : Int32) else (1 : Int32)), .int (0 : Int32)]) dX13_simple_603 (mo_t hM) rfl lk_X13_401 me_X13_step is_X13_step se_X13_step rfl rfl (Nat.le_of_ble_eq_true rfl) (MX.post (m_X13_step hG hM g43) ?_)
                                  rintro _ _ ⟨v43, I43, rfl, rfl, h1⟩
                                  replace h := h v43 I43 h1
                                  change X _ _ _ _ (A.wI I43) _ _ (.int v43 :: _)
                                  refine x_pop dX13_simple_606 rfl ?_
                                  refine x_goto (tgt := 628) dX13_simple_607 (by decide) ?_
                                  refine x_iconst_ (v := (1 : Int32)) dX13_simple_628 (by decide) ?_
                                  exact x_zret dX13_simple_629 rfl (by decide) ⟨_, _, rfl, rfl, (by decide), h⟩
                            refine x_icmp_eq (tgt := 404) dX13_simple_357 (by decide) (fun c357 => ?_) (fun c357 => ?_)
                            · replace h := h.1 c357
                              change X _ _ _ _ _ _ [some (.ref m), none, none, none, some (.int v4), none, some (.int y8_s0), some (.int y9_s0), some (.int y10_s0), some (.int (if (I28 (m + 3) (ix (I28 m 42))) = (4 : Int32) then (I28 (m + 4) (ix (I28 m 42))) else (-1 : Int32))), some (.int y30_s0)] []
                              exact X.weak (xle_c rfl (xle_n (xle_n (xle_n (xle_c rfl (xle_n (xle_c rfl (xle_c rfl (xle_c rfl (xle_c rfl (xle_n xle_nil))))))))))) (kj32 I31 h)
                            · replace h := h.2 c357
                              refine x_iload dX13_simple_360 rfl ?_
                              refine x_if_eq (tgt := 386) dX13_simple_362 (by decide) (fun h => absurd h c233) (fun _ => ?_)
                              refine x_aload_n dX13_simple_365 rfl ?_
                              refine x_bipush_ (v := (9 : Int32)) dX13_simple_366 (by decide) ?_
                              refine x_iconst_ (v := (0 : Int32)) dX13_simple_368 (by decide) ?_
                              refine x_iconst_ (v := (0 : Int32)) dX13_simple_369 (by decide) ?_
                              obtain ⟨R44, g44, h⟩ := h
                              refine x_callV hG (Ky := kX13_step) (As := [.int (9 : Int32), .int (0 : Int32), .int (0 : Int32)]) dX13_simple_370 (mo_t hM) rfl lk_X13_401 me_X13_step is_X13_step se_X13_step rfl rfl (Nat.le_of_ble_eq_true rfl) (MX.post (m_X13_step hG hM g44) ?_)
                              rintro _ _ ⟨v44, I44, rfl, rfl, h1⟩
                              replace h := h v44 I44 h1
                              change X _ _ _ _ (A.wI I44) _ _ (.int v44 :: _)
                              refine x_pop dX13_simple_373 rfl ?_
                              refine x_aload_n dX13_simple_374 rfl ?_
                              refine x_bipush_ (v := (7 : Int32)) dX13_simple_375 (by decide) ?_
                              refine x_iconst_ (v := (0 : Int32)) dX13_simple_377 (by decide) ?_
                              refine x_iconst_ (v := (0 : Int32)) dX13_simple_378 (by decide) ?_
                              obtain ⟨R45, g45, h⟩ := h
                              refine x_callV hG (Ky := kX13_step) (As := [.int (7 : Int32), .int (0 : Int32), .int (0 : Int32)]) dX13_simple_379 (mo_t hM) rfl lk_X13_401 me_X13_step is_X13_step se_X13_step rfl rfl (Nat.le_of_ble_eq_true rfl) (MX.post (m_X13_step hG hM g45) ?_)
                              rintro _ _ ⟨v45, I45, rfl, rfl, h1⟩
                              replace h := h v45 I45 h1
                              change X _ _ _ _ (A.wI I45) _ _ (.int v45 :: _)
                              refine x_pop dX13_simple_382 rfl ?_
                              refine x_goto (tgt := 404) dX13_simple_383 (by decide) ?_
                              change X _ _ _ _ _ _ [some (.ref m), none, none, none, some (.int v4), none, some (.int y8_s0), some (.int y9_s0), some (.int y10_s0), some (.int (if (I28 (m + 3) (ix (I28 m 42))) = (4 : Int32) then (I28 (m + 4) (ix (I28 m 42))) else (-1 : Int32))), some (.int y30_s0)] []
                              exact X.weak (xle_c rfl (xle_n (xle_n (xle_n (xle_c rfl (xle_n (xle_c rfl (xle_c rfl (xle_c rfl (xle_c rfl (xle_n xle_nil))))))))))) (kj32 I45 h)
                          · replace h := h.1 c334
                            refine x_aload_n dX13_simple_337 rfl ?_
                            refine x_iconst_ (v := (2 : Int32)) dX13_simple_338 (by decide) ?_
                            obtain ⟨R46, g46, h⟩ := h
                            refine x_callV hG (Ky := kX13_fails) (As := [.int (2 : Int32)]) dX13_simple_339 (mo_t hM) rfl lk_X13_260 me_X13_fails is_X13_fails se_X13_fails rfl rfl (Nat.le_of_ble_eq_true rfl) (MX.post (m_X13_fails hG hM g46) ?_)
                            rintro _ _ ⟨v46, I46, rfl, rfl, zv46, h1⟩
                            replace h := h v46 I46 zv46 h1
                            change X _ _ _ _ (A.wI I46) _ _ (.int v46 :: _)
                            exact x_zret dX13_simple_342 rfl zv46 ⟨_, _, rfl, rfl, zv46, h⟩
                        refine x_icmp_eq (tgt := 325) dX13_simple_278 (by decide) (fun c278 => ?_) (fun c278 => ?_)
                        · replace h := h.1 c278
                          refine x_iconst_ (v := (1 : Int32)) dX13_simple_325 (by decide) ?_
                          refine x_goto (tgt := 330) dX13_simple_326 (by decide) ?_
                          change X _ _ _ _ _ _ [some (.ref m), none, none, none, some (.int v4), none, some (.int y8_s0), some (.int y9_s0), some (.int y10_s0), some (.int (if (I28 (m + 3) (ix (I28 m 42))) = (4 : Int32) then (I28 (m + 4) (ix (I28 m 42))) else (-1 : Int32))), none] [.int (1 : Int32)]
                          exact X.weak (xle_c rfl (xle_n (xle_n (xle_n (xle_c rfl (xle_n (xle_c rfl (xle_c rfl (xle_c rfl (xle_c rfl (xle_n xle_nil))))))))))) (kj30 (1 : Int32) h)
                        · replace h := h.2 c278
                          refine x_iload dX13_simple_281 rfl ?_
                          refine x_bipush_ (v := (12 : Int32)) dX13_simple_283 (by decide) ?_
                          refine x_icmp_eq (tgt := 325) dX13_simple_285 (by decide) (fun c285 => ?_) (fun c285 => ?_)
                          · replace h := h.1 c285
                            refine x_iconst_ (v := (1 : Int32)) dX13_simple_325 (by decide) ?_
                            refine x_goto (tgt := 330) dX13_simple_326 (by decide) ?_
                            change X _ _ _ _ _ _ [some (.ref m), none, none, none, some (.int v4), none, some (.int y8_s0), some (.int y9_s0), some (.int y10_s0), some (.int (if (I28 (m + 3) (ix (I28 m 42))) = (4 : Int32) then (I28 (m + 4) (ix (I28 m 42))) else (-1 : Int32))), none] [.int (1 : Int32)]
                            exact X.weak (xle_c rfl (xle_n (xle_n (xle_n (xle_c rfl (xle_n (xle_c rfl (xle_c rfl (xle_c rfl (xle_c rfl (xle_n xle_nil))))))))))) (kj30 (1 : Int32) h)
                          · replace h := h.2 c285
                            refine x_iload dX13_simple_288 rfl ?_
                            refine x_bipush_ (v := (13 : Int32)) dX13_simple_290 (by decide) ?_
                            refine x_icmp_eq (tgt := 325) dX13_simple_292 (by decide) (fun c292 => ?_) (fun c292 => ?_)
                            · replace h := h.1 c292
                              refine x_iconst_ (v := (1 : Int32)) dX13_simple_325 (by decide) ?_
                              refine x_goto (tgt := 330) dX13_simple_326 (by decide) ?_
                              change X _ _ _ _ _ _ [some (.ref m), none, none, none, some (.int v4), none, some (.int y8_s0), some (.int y9_s0), some (.int y10_s0), some (.int (if (I28 (m + 3) (ix (I28 m 42))) = (4 : Int32) then (I28 (m + 4) (ix (I28 m 42))) else (-1 : Int32))), none] [.int (1 : Int32)]
                              exact X.weak (xle_c rfl (xle_n (xle_n (xle_n (xle_c rfl (xle_n (xle_c rfl (xle_c rfl (xle_c rfl (xle_c rfl (xle_n xle_nil))))))))))) (kj30 (1 : Int32) h)
                            · replace h := h.2 c292
                              refine x_iload dX13_simple_295 rfl ?_
                              refine x_if_eq (tgt := 325) dX13_simple_297 (by decide) (fun c297 => ?_) (fun c297 => ?_)
                              · replace h := h.1 c297
                                refine x_iconst_ (v := (1 : Int32)) dX13_simple_325 (by decide) ?_
                                refine x_goto (tgt := 330) dX13_simple_326 (by decide) ?_
                                change X _ _ _ _ _ _ [some (.ref m), none, none, none, some (.int v4), none, some (.int y8_s0), some (.int y9_s0), some (.int y10_s0), some (.int (if (I28 (m + 3) (ix (I28 m 42))) = (4 : Int32) then (I28 (m + 4) (ix (I28 m 42))) else (-1 : Int32))), none] [.int (1 : Int32)]
                                exact X.weak (xle_c rfl (xle_n (xle_n (xle_n (xle_c rfl (xle_n (xle_c rfl (xle_c rfl (xle_c rfl (xle_c rfl (xle_n xle_nil))))))))))) (kj30 (1 : Int32) h)
                              · replace h := h.2 c297
                                refine x_iload dX13_simple_300 rfl ?_
                                refine x_iconst_ (v := (2 : Int32)) dX13_simple_302 (by decide) ?_
                                refine x_icmp_eq (tgt := 325) dX13_simple_303 (by decide) (fun c303 => ?_) (fun c303 => ?_)
                                · replace h := h.1 c303
                                  refine x_iconst_ (v := (1 : Int32)) dX13_simple_325 (by decide) ?_
                                  refine x_goto (tgt := 330) dX13_simple_326 (by decide) ?_
                                  change X _ _ _ _ _ _ [some (.ref m), none, none, none, some (.int v4), none, some (.int y8_s0), some (.int y9_s0), some (.int y10_s0), some (.int (if (I28 (m + 3) (ix (I28 m 42))) = (4 : Int32) then (I28 (m + 4) (ix (I28 m 42))) else (-1 : Int32))), none] [.int (1 : Int32)]
                                  exact X.weak (xle_c rfl (xle_n (xle_n (xle_n (xle_c rfl (xle_n (xle_c rfl (xle_c rfl (xle_c rfl (xle_c rfl (xle_n xle_nil))))))))))) (kj30 (1 : Int32) h)
                                · replace h := h.2 c303
                                  refine x_iload dX13_simple_306 rfl ?_
                                  refine x_iconst_ (v := (3 : Int32)) dX13_simple_308 (by decide) ?_
                                  refine x_icmp_eq (tgt := 325) dX13_simple_309 (by decide) (fun c309 => ?_) (fun c309 => ?_)
                                  · replace h := h.1 c309
                                    refine x_iconst_ (v := (1 : Int32)) dX13_simple_325 (by decide) ?_
                                    refine x_goto (tgt := 330) dX13_simple_326 (by decide) ?_
                                    change X _ _ _ _ _ _ [some (.ref m), none, none, none, some (.int v4), none, some (.int y8_s0), some (.int y9_s0), some (.int y10_s0), some (.int (if (I28 (m + 3) (ix (I28 m 42))) = (4 : Int32) then (I28 (m + 4) (ix (I28 m 42))) else (-1 : Int32))), none] [.int (1 : Int32)]
                                    exact X.weak (xle_c rfl (xle_n (xle_n (xle_n (xle_c rfl (xle_n (xle_c rfl (xle_c rfl (xle_c rfl (xle_c rfl (xle_n xle_nil))))))))))) (kj30 (1 : Int32) h)
                                  · replace h := h.2 c309
                                    refine x_iload dX13_simple_312 rfl ?_
                                    refine x_iconst_ (v := (4 : Int32)) dX13_simple_314 (by decide) ?_
                                    refine x_icmp_lt (tgt := 329) dX13_simple_315 (by decide) (fun c315 => ?_) (fun c315 => ?_)
                                    · replace h := h.1 c315
                                      refine x_iconst_ (v := (0 : Int32)) dX13_simple_329 (by decide) ?_
                                      change X _ _ _ _ _ _ [some (.ref m), none, none, none, some (.int v4), none, some (.int y8_s0), some (.int y9_s0), some (.int y10_s0), some (.int (if (I28 (m + 3) (ix (I28 m 42))) = (4 : Int32) then (I28 (m + 4) (ix (I28 m 42))) else (-1 : Int32))), none] [.int (0 : Int32)]
                                      exact X.weak (xle_c rfl (xle_n (xle_n (xle_n (xle_c rfl (xle_n (xle_c rfl (xle_c rfl (xle_c rfl (xle_c rfl (xle_n xle_nil))))))))))) (kj30 (0 : Int32) h)
                                    · replace h := h.2 c315
                                      refine x_iload dX13_simple_318 rfl ?_
                                      refine x_bipush_ (v := (12 : Int32)) dX13_simple_320 (by decide) ?_
                                      refine x_icmp_ge (tgt := 329) dX13_simple_322 (by decide) (fun c322 => ?_) (fun c322 => ?_)
                                      · replace h := h.1 c322
                                        refine x_iconst_ (v := (0 : Int32)) dX13_simple_329 (by decide) ?_
                                        change X _ _ _ _ _ _ [some (.ref m), none, none, none, some (.int v4), none, some (.int y8_s0), some (.int y9_s0), some (.int y10_s0), some (.int (if (I28 (m + 3) (ix (I28 m 42))) = (4 : Int32) then (I28 (m + 4) (ix (I28 m 42))) else (-1 : Int32))), none] [.int (0 : Int32)]
                                        exact X.weak (xle_c rfl (xle_n (xle_n (xle_n (xle_c rfl (xle_n (xle_c rfl (xle_c rfl (xle_c rfl (xle_c rfl (xle_n xle_nil))))))))))) (kj30 (0 : Int32) h)
                                      · replace h := h.2 c322
                                        refine x_iconst_ (v := (1 : Int32)) dX13_simple_325 (by decide) ?_
                                        refine x_goto (tgt := 330) dX13_simple_326 (by decide) ?_
                                        change X _ _ _ _ _ _ [some (.ref m), none, none, none, some (.int v4), none, some (.int y8_s0), some (.int y9_s0), some (.int y10_s0), some (.int (if (I28 (m + 3) (ix (I28 m 42))) = (4 : Int32) then (I28 (m + 4) (ix (I28 m 42))) else (-1 : Int32))), none] [.int (1 : Int32)]
                                        exact X.weak (xle_c rfl (xle_n (xle_n (xle_n (xle_c rfl (xle_n (xle_c rfl (xle_c rfl (xle_c rfl (xle_c rfl (xle_n xle_nil))))))))))) (kj30 (1 : Int32) h)
                      · replace h := h.1 c241
                        refine x_iconst_ (v := (0 : Int32)) dX13_simple_244 (by decide) ?_
                        exact x_zret dX13_simple_245 rfl (by decide) ⟨_, _, rfl, rfl, (by decide), h⟩
                  refine x_icmp_ne (tgt := 223) dX13_simple_216 (by decide) (fun c216 => ?_) (fun c216 => ?_)
                  · replace h := h.2 c216
                    refine x_aload_n dX13_simple_223 rfl ?_
                    refine x_get (v := .ref (m + 14)) hG dX13_simple_224 f_X13_49_12 (mo_t hM) (congrArg va_rf (mo_P20 hM)) ?_
                    refine x_iload_n dX13_simple_227 rfl ?_
                    obtain ⟨o47, h⟩ := h
                    refine y_iald hG dX13_simple_228 (mo_t20 hM) (mo_n20 hM) o47 ?_
                    change X _ _ _ _ _ _ [some (.ref m), none, some (.int y3_s0), none, some (.int v4), none, some (.int y8_s0), some (.int y9_s0), none, none, none] [.int (I7 (m + 14) (ix y3_s0))]
                    exact X.weak (xle_c rfl (xle_n (xle_c rfl (xle_n (xle_c rfl (xle_n (xle_c rfl (xle_c rfl (xle_n (xle_n (xle_n xle_nil))))))))))) (kj10 (I7 (m + 14) (ix y3_s0)) h)
                  · replace h := h.1 c216
                    refine x_iconst_ (v := (0 : Int32)) dX13_simple_219 (by decide) ?_
                    refine x_goto (tgt := 229) dX13_simple_220 (by decide) ?_
                    change X _ _ _ _ _ _ [some (.ref m), none, some (.int y3_s0), none, some (.int v4), none, some (.int y8_s0), some (.int y9_s0), none, none, none] [.int (0 : Int32)]
                    exact X.weak (xle_c rfl (xle_n (xle_c rfl (xle_n (xle_c rfl (xle_n (xle_c rfl (xle_c rfl (xle_n (xle_n (xle_n xle_nil))))))))))) (kj10 (0 : Int32) h)
                refine x_icmp_eq (tgt := 211) dX13_simple_195 (by decide) (fun c195 => ?_) (fun c195 => ?_)
                · replace h := h.1 c195
                  refine x_iconst_ (v := (0 : Int32)) dX13_simple_211 (by decide) ?_
                  change X _ _ _ _ _ _ [some (.ref m), none, some (.int y3_s0), none, some (.int v4), none, some (.int y8_s0), none, none, none, none] [.int (0 : Int32)]
                  exact X.weak (xle_c rfl (xle_n (xle_c rfl (xle_n (xle_c rfl (xle_n (xle_c rfl (xle_n (xle_n (xle_n (xle_n xle_nil))))))))))) (kj9 (0 : Int32) h)
                · replace h := h.2 c195
                  refine x_aload_n dX13_simple_198 rfl ?_
                  refine x_get (v := .ref (m + 17)) hG dX13_simple_199 f_X13_59_12 (mo_t hM) (congrArg va_rf (mo_P23 hM)) ?_
                  refine x_iload_n dX13_simple_202 rfl ?_
                  obtain ⟨o48, h⟩ := h
                  refine y_zald hG dX13_simple_203 (mo_t23 hM) (mo_n23 hM) o48 ?_
                  refine x_if_eq (tgt := 211) dX13_simple_204 (by decide) (fun c204 => ?_) (fun c204 => ?_)
                  · replace h := h.1 c204
                    refine x_iconst_ (v := (0 : Int32)) dX13_simple_211 (by decide) ?_
                    change X _ _ _ _ _ _ [some (.ref m), none, some (.int y3_s0), none, some (.int v4), none, some (.int y8_s0), none, none, none, none] [.int (0 : Int32)]
                    exact X.weak (xle_c rfl (xle_n (xle_c rfl (xle_n (xle_c rfl (xle_n (xle_c rfl (xle_n (xle_n (xle_n (xle_n xle_nil))))))))))) (kj9 (0 : Int32) h)
                  · replace h := h.2 c204
                    refine x_iconst_ (v := (1 : Int32)) dX13_simple_207 (by decide) ?_
                    refine x_goto (tgt := 212) dX13_simple_208 (by decide) ?_
                    change X _ _ _ _ _ _ [some (.ref m), none, some (.int y3_s0), none, some (.int v4), none, some (.int y8_s0), none, none, none, none] [.int (1 : Int32)]
                    exact X.weak (xle_c rfl (xle_n (xle_c rfl (xle_n (xle_c rfl (xle_n (xle_c rfl (xle_n (xle_n (xle_n (xle_n xle_nil))))))))))) (kj9 (1 : Int32) h)
              refine x_icmp_eq (tgt := 190) dX13_simple_174 (by decide) (fun c174 => ?_) (fun c174 => ?_)
              · replace h := h.1 c174
                refine x_iconst_ (v := (0 : Int32)) dX13_simple_190 (by decide) ?_
                change X _ _ _ _ _ _ [some (.ref m), none, some (.int y3_s0), none, some (.int v4), none, none, none, none, none, none] [.int (0 : Int32)]
                exact X.weak (xle_c rfl (xle_n (xle_c rfl (xle_n (xle_c rfl (xle_n (xle_n (xle_n (xle_n (xle_n (xle_n xle_nil))))))))))) (kj8 (0 : Int32) h)
              · replace h := h.2 c174
                refine x_aload_n dX13_simple_177 rfl ?_
                refine x_get (v := .ref (m + 16)) hG dX13_simple_178 f_X13_55_12 (mo_t hM) (congrArg va_rf (mo_P22 hM)) ?_
                refine x_iload_n dX13_simple_181 rfl ?_
                obtain ⟨o49, h⟩ := h
                refine y_zald hG dX13_simple_182 (mo_t22 hM) (mo_n22 hM) o49 ?_
                refine x_if_eq (tgt := 190) dX13_simple_183 (by decide) (fun c183 => ?_) (fun c183 => ?_)
                · replace h := h.1 c183
                  refine x_iconst_ (v := (0 : Int32)) dX13_simple_190 (by decide) ?_
                  change X _ _ _ _ _ _ [some (.ref m), none, some (.int y3_s0), none, some (.int v4), none, none, none, none, none, none] [.int (0 : Int32)]
                  exact X.weak (xle_c rfl (xle_n (xle_c rfl (xle_n (xle_c rfl (xle_n (xle_n (xle_n (xle_n (xle_n (xle_n xle_nil))))))))))) (kj8 (0 : Int32) h)
                · replace h := h.2 c183
                  refine x_iconst_ (v := (1 : Int32)) dX13_simple_186 (by decide) ?_
                  refine x_goto (tgt := 191) dX13_simple_187 (by decide) ?_
                  change X _ _ _ _ _ _ [some (.ref m), none, some (.int y3_s0), none, some (.int v4), none, none, none, none, none, none] [.int (1 : Int32)]
                  exact X.weak (xle_c rfl (xle_n (xle_c rfl (xle_n (xle_c rfl (xle_n (xle_n (xle_n (xle_n (xle_n (xle_n xle_nil))))))))))) (kj8 (1 : Int32) h)
            refine x_if_ne (tgt := 172) dX13_simple_152 (by decide) (fun c152 => ?_) (fun c152 => ?_)
            · replace h := h.2 c152
              change X _ _ _ _ _ _ [some (.ref m), some (.int v1), some (.int y3_s0), some (.int (if (I3 m 46) ≤ 0 then (0 : Int32) else (if y3_s0 = (-1 : Int32) then (if (I3 m 62) = (-1 : Int32) then (1 : Int32) else (0 : Int32)) else (0 : Int32)))), some (.int v4), some (.int y6_s0), none, none, none, none, none] []
              exact X.weak (xle_c rfl (xle_n (xle_c rfl (xle_n (xle_c rfl (xle_n (xle_n (xle_n (xle_n (xle_n (xle_n xle_nil))))))))))) (kj7 I5 h)
            · replace h := h.1 c152
              refine x_iload dX13_simple_155 rfl ?_
              refine x_if_ne (tgt := 172) dX13_simple_157 (by decide) (fun c157 => ?_) (fun c157 => ?_)
              · replace h := h.2 c157
                change X _ _ _ _ _ _ [some (.ref m), some (.int v1), some (.int y3_s0), some (.int (if (I3 m 46) ≤ 0 then (0 : Int32) else (if y3_s0 = (-1 : Int32) then (if (I3 m 62) = (-1 : Int32) then (1 : Int32) else (0 : Int32)) else (0 : Int32)))), some (.int v4), some (.int y6_s0), none, none, none, none, none] []
                exact X.weak (xle_c rfl (xle_n (xle_c rfl (xle_n (xle_c rfl (xle_n (xle_n (xle_n (xle_n (xle_n (xle_n xle_nil))))))))))) (kj7 I5 h)
              · replace h := h.1 c157
                refine x_aload_n dX13_simple_160 rfl ?_
                refine x_bipush_ (v := (6 : Int32)) dX13_simple_161 (by decide) ?_
                refine x_aload_n dX13_simple_163 rfl ?_
                refine x_get (v := .ref (m + 5)) hG dX13_simple_164 f_X13_22_12 (mo_t hM) (congrArg va_rf (mo_P6 hM)) ?_
                refine x_iload_n dX13_simple_167 rfl ?_
                obtain ⟨o50, h⟩ := h
                refine y_iald hG dX13_simple_168 (mo_t6 hM) (mo_n6 hM) o50 ?_
                obtain ⟨R51, g51, h⟩ := h
                refine x_callV hG (Ky := kX13_note) (As := [.int (6 : Int32), .int (I5 (m + 5) (ix v1))]) dX13_simple_169 (mo_t hM) rfl lk_X13_352 me_X13_note is_X13_note se_X13_note rfl rfl (Nat.le_of_ble_eq_true rfl) (MX.post (m_X13_note hG hM g51) ?_)
                rintro _ _ ⟨I51, rfl, rfl, h1⟩
                replace h := h I51 h1
                change X _ _ _ _ (A.wI I51) _ _ _
                change X _ _ _ _ _ _ [some (.ref m), some (.int v1), some (.int y3_s0), some (.int (if (I3 m 46) ≤ 0 then (0 : Int32) else (if y3_s0 = (-1 : Int32) then (if (I3 m 62) = (-1 : Int32) then (1 : Int32) else (0 : Int32)) else (0 : Int32)))), some (.int v4), some (.int y6_s0), none, none, none, none, none] []
                exact X.weak (xle_c rfl (xle_n (xle_c rfl (xle_n (xle_c rfl (xle_n (xle_n (xle_n (xle_n (xle_n (xle_n xle_nil))))))))))) (kj7 I51 h)
          refine x_icmp_eq (tgt := 148) dX13_simple_113 (by decide) (fun c113 => ?_) (fun c113 => ?_)
          · replace h := h.1 c113
            refine x_iconst_ (v := (0 : Int32)) dX13_simple_148 (by decide) ?_
            change X _ _ _ _ _ _ [some (.ref m), some (.int v1), some (.int y3_s0), some (.int (if (I3 m 46) ≤ 0 then (0 : Int32) else (if y3_s0 = (-1 : Int32) then (if (I3 m 62) = (-1 : Int32) then (1 : Int32) else (0 : Int32)) else (0 : Int32)))), some (.int v4), none, none, none, none, none, none] [.int (0 : Int32)]
            exact X.weak (xle_c rfl (xle_c rfl (xle_c rfl (xle_c rfl (xle_c rfl (xle_n (xle_n (xle_n (xle_n (xle_n (xle_n xle_nil))))))))))) (kj6 (0 : Int32) h)
          · replace h := h.2 c113
            refine x_iload dX13_simple_116 rfl ?_
            refine x_if_eq (tgt := 134) dX13_simple_118 (by decide) (fun c118 => ?_) (fun c118 => ?_)
            · replace h := h.1 c118
              refine x_aload_n dX13_simple_134 rfl ?_
              refine x_get (v := .ref (m + 11)) hG dX13_simple_135 f_X13_40_12 (mo_t hM) (congrArg va_rf (mo_P17 hM)) ?_
              refine x_iload_n dX13_simple_138 rfl ?_
              obtain ⟨o52, h⟩ := h
              refine y_iald hG dX13_simple_139 (mo_t17 hM) (mo_n17 hM) o52 ?_
              refine x_iconst_ (v := (1 : Int32)) dX13_simple_140 (by decide) ?_
              refine x_icmp_ne (tgt := 148) dX13_simple_141 (by decide) (fun c141 => ?_) (fun c141 => ?_)
              · replace h := h.2 c141
                refine x_iconst_ (v := (0 : Int32)) dX13_simple_148 (by decide) ?_
                change X _ _ _ _ _ _ [some (.ref m), some (.int v1), some (.int y3_s0), some (.int (if (I3 m 46) ≤ 0 then (0 : Int32) else (if y3_s0 = (-1 : Int32) then (if (I3 m 62) = (-1 : Int32) then (1 : Int32) else (0 : Int32)) else (0 : Int32)))), some (.int v4), none, none, none, none, none, none] [.int (0 : Int32)]
                exact X.weak (xle_c rfl (xle_c rfl (xle_c rfl (xle_c rfl (xle_c rfl (xle_n (xle_n (xle_n (xle_n (xle_n (xle_n xle_nil))))))))))) (kj6 (0 : Int32) h)
              · replace h := h.1 c141
                refine x_iconst_ (v := (1 : Int32)) dX13_simple_144 (by decide) ?_
                refine x_goto (tgt := 149) dX13_simple_145 (by decide) ?_
                change X _ _ _ _ _ _ [some (.ref m), some (.int v1), some (.int y3_s0), some (.int (if (I3 m 46) ≤ 0 then (0 : Int32) else (if y3_s0 = (-1 : Int32) then (if (I3 m 62) = (-1 : Int32) then (1 : Int32) else (0 : Int32)) else (0 : Int32)))), some (.int v4), none, none, none, none, none, none] [.int (1 : Int32)]
                exact X.weak (xle_c rfl (xle_c rfl (xle_c rfl (xle_c rfl (xle_c rfl (xle_n (xle_n (xle_n (xle_n (xle_n (xle_n xle_nil))))))))))) (kj6 (1 : Int32) h)
            · replace h := h.2 c118
              refine x_aload_n dX13_simple_121 rfl ?_
              refine x_get (v := .ref (m + 11)) hG dX13_simple_122 f_X13_40_12 (mo_t hM) (congrArg va_rf (mo_P17 hM)) ?_
              refine x_iload_n dX13_simple_125 rfl ?_
              obtain ⟨o53, h⟩ := h
              refine y_iald hG dX13_simple_126 (mo_t17 hM) (mo_n17 hM) o53 ?_
              refine x_iconst_ (v := (2 : Int32)) dX13_simple_127 (by decide) ?_
              refine x_icmp_ne (tgt := 148) dX13_simple_128 (by decide) (fun c128 => ?_) (fun c128 => ?_)
              · replace h := h.2 c128
                refine x_iconst_ (v := (0 : Int32)) dX13_simple_148 (by decide) ?_
                change X _ _ _ _ _ _ [some (.ref m), some (.int v1), some (.int y3_s0), some (.int (if (I3 m 46) ≤ 0 then (0 : Int32) else (if y3_s0 = (-1 : Int32) then (if (I3 m 62) = (-1 : Int32) then (1 : Int32) else (0 : Int32)) else (0 : Int32)))), some (.int v4), none, none, none, none, none, none] [.int (0 : Int32)]
                exact X.weak (xle_c rfl (xle_c rfl (xle_c rfl (xle_c rfl (xle_c rfl (xle_n (xle_n (xle_n (xle_n (xle_n (xle_n xle_nil))))))))))) (kj6 (0 : Int32) h)
              · replace h := h.1 c128
                refine x_goto (tgt := 144) dX13_simple_131 (by decide) ?_
                refine x_iconst_ (v := (1 : Int32)) dX13_simple_144 (by decide) ?_
                refine x_goto (tgt := 149) dX13_simple_145 (by decide) ?_
                change X _ _ _ _ _ _ [some (.ref m), some (.int v1), some (.int y3_s0), some (.int (if (I3 m 46) ≤ 0 then (0 : Int32) else (if y3_s0 = (-1 : Int32) then (if (I3 m 62) = (-1 : Int32) then (1 : Int32) else (0 : Int32)) else (0 : Int32)))), some (.int v4), none, none, none, none, none, none] [.int (1 : Int32)]
                exact X.weak (xle_c rfl (xle_c rfl (xle_c rfl (xle_c rfl (xle_c rfl (xle_n (xle_n (xle_n (xle_n (xle_n (xle_n xle_nil))))))))))) (kj6 (1 : Int32) h)
        refine x_if_eq (tgt := 111) dX13_simple_97 (by decide) (fun c97 => ?_) (fun c97 => ?_)
        · replace h := h.1 c97
          change X _ _ _ _ _ _ [some (.ref m), some (.int v1), some (.int y3_s0), some (.int (if (I3 m 46) ≤ 0 then (0 : Int32) else (if y3_s0 = (-1 : Int32) then (if (I3 m 62) = (-1 : Int32) then (1 : Int32) else (0 : Int32)) else (0 : Int32)))), some (.int v4), none, none, none, none, none, none] []
          exact X.weak (xle_c rfl (xle_c rfl (xle_c rfl (xle_c rfl (xle_c rfl (xle_n (xle_n (xle_n (xle_n (xle_n (xle_n xle_nil))))))))))) (kj5 I4 h)
        · replace h := h.2 c97
          refine x_aload_n dX13_simple_100 rfl ?_
          refine x_iconst_ (v := (4 : Int32)) dX13_simple_101 (by decide) ?_
          refine x_aload_n dX13_simple_102 rfl ?_
          refine x_get (v := .ref (m + 5)) hG dX13_simple_103 f_X13_22_12 (mo_t hM) (congrArg va_rf (mo_P6 hM)) ?_
          refine x_iload_n dX13_simple_106 rfl ?_
          obtain ⟨o54, h⟩ := h
          refine y_iald hG dX13_simple_107 (mo_t6 hM) (mo_n6 hM) o54 ?_
          obtain ⟨R55, g55, h⟩ := h
          refine x_callV hG (Ky := kX13_note) (As := [.int (4 : Int32), .int (I4 (m + 5) (ix v1))]) dX13_simple_108 (mo_t hM) rfl lk_X13_352 me_X13_note is_X13_note se_X13_note rfl rfl (Nat.le_of_ble_eq_true rfl) (MX.post (m_X13_note hG hM g55) ?_)
          rintro _ _ ⟨I55, rfl, rfl, h1⟩
          replace h := h I55 h1
          change X _ _ _ _ (A.wI I55) _ _ _
          change X _ _ _ _ _ _ [some (.ref m), some (.int v1), some (.int y3_s0), some (.int (if (I3 m 46) ≤ 0 then (0 : Int32) else (if y3_s0 = (-1 : Int32) then (if (I3 m 62) = (-1 : Int32) then (1 : Int32) else (0 : Int32)) else (0 : Int32)))), some (.int v4), none, none, none, none, none, none] []
          exact X.weak (xle_c rfl (xle_c rfl (xle_c rfl (xle_c rfl (xle_c rfl (xle_n (xle_n (xle_n (xle_n (xle_n (xle_n xle_nil))))))))))) (kj5 I55 h)
      refine x_if_ne (tgt := 56) dX13_simple_49 (by decide) (fun c49 => ?_) (fun c49 => ?_)
      · replace h := h.2 c49
        refine x_aload_n dX13_simple_56 rfl ?_
        refine x_iload_n dX13_simple_57 rfl ?_
        obtain ⟨R56, g56, h⟩ := h
        refine x_callV hG (Ky := kX13_meaning) (As := [.int v1]) dX13_simple_58 (mo_t hM) rfl lk_X13_457 me_X13_meaning is_X13_meaning se_X13_meaning rfl rfl (Nat.le_of_ble_eq_true rfl) (MX.post (m_X13_meaning hG hM g56) ?_)
        rintro _ _ ⟨v56, I56, rfl, rfl, h1⟩
        replace h := h v56 I56 h1
        change X _ _ _ _ (A.wI I56) _ _ (.int v56 :: _)
        change X _ _ _ _ _ _ [some (.ref m), some (.int v1), none, none, none, none, none, none, none, none, none] [.int v56]
        exact X.weak (xle_c rfl (xle_c rfl (xle_n (xle_n (xle_n (xle_n (xle_n (xle_n (xle_n (xle_n (xle_n xle_nil))))))))))) (kj3 v56 I56 h)
      · replace h := h.1 c49
        refine x_iconst_ (v := (-1 : Int32)) dX13_simple_52 (by decide) ?_
        refine x_goto (tgt := 61) dX13_simple_53 (by decide) ?_
        change X _ _ _ _ _ _ [some (.ref m), some (.int v1), none, none, none, none, none, none, none, none, none] [.int (-1 : Int32)]
        exact X.weak (xle_c rfl (xle_c rfl (xle_n (xle_n (xle_n (xle_n (xle_n (xle_n (xle_n (xle_n (xle_n xle_nil))))))))))) (kj3 (-1 : Int32) I2 h)
    · replace h := h.2 c20
      refine x_aload_n dX13_simple_23 rfl ?_
      refine x_iload_n dX13_simple_24 rfl ?_
      refine x_iconst_ (v := (0 : Int32)) dX13_simple_25 (by decide) ?_
      obtain ⟨R57, g57, h⟩ := h
      refine x_callV hG (Ky := kX13_call) (As := [.int v1, .int (0 : Int32)]) dX13_simple_26 (mo_t hM) rfl lk_X13_454 me_X13_call is_X13_call se_X13_call rfl rfl (Nat.le_of_ble_eq_true rfl) (MX.post ((rc_E hG hM 700).2.2.2.2.2.2.1 g57) ?_)
      rintro _ _ ⟨v57, I57, rfl, rfl, zv57, h1⟩
      replace h := h v57 I57 zv57 h1
      change X _ _ _ _ (A.wI I57) _ _ (.int v57 :: _)
      refine x_if_ne (tgt := 34) dX13_simple_29 (by decide) (fun c29 => ?_) (fun c29 => ?_)
      · replace h := h.2 c29
        refine x_aload_n dX13_simple_34 rfl ?_
        refine x_bipush_ (v := (18 : Int32)) dX13_simple_35 (by decide) ?_
        refine x_iconst_ (v := (0 : Int32)) dX13_simple_37 (by decide) ?_
        refine x_iconst_ (v := (0 : Int32)) dX13_simple_38 (by decide) ?_
        obtain ⟨R58, g58, h⟩ := h
        refine x_callV hG (Ky := kX13_step) (As := [.int (18 : Int32), .int (0 : Int32), .int (0 : Int32)]) dX13_simple_39 (mo_t hM) rfl lk_X13_401 me_X13_step is_X13_step se_X13_step rfl rfl (Nat.le_of_ble_eq_true rfl) (MX.post (m_X13_step hG hM g58) ?_)
        rintro _ _ ⟨v58, I58, rfl, rfl, h1⟩
        replace h := h v58 I58 h1
        change X _ _ _ _ (A.wI I58) _ _ (.int v58 :: _)
        refine x_pop dX13_simple_42 rfl ?_
        refine x_iconst_ (v := (1 : Int32)) dX13_simple_43 (by decide) ?_
        exact x_zret dX13_simple_44 rfl (by decide) ⟨_, _, rfl, rfl, (by decide), h⟩
      · replace h := h.1 c29
        refine x_iconst_ (v := (0 : Int32)) dX13_simple_32 (by decide) ?_
        exact x_zret dX13_simple_33 rfl (by decide) ⟨_, _, rfl, rfl, (by decide), h⟩
  · replace h := h.2 c9
    refine x_iconst_ (v := (0 : Int32)) dX13_simple_12 (by decide) ?_
    exact x_zret dX13_simple_13 rfl (by decide) ⟨_, _, rfl, rfl, (by decide), h⟩
def w_X13_tellHere (m : Nat) (b : Int32) (Q : Int32 → xII → Prop) (I : xII) : Prop := ∃ R1 : Int32 → xII → Prop, w_X13_isWord m (1 : Int32) R1 I ∧ (∀ (v1 : Int32) (I1 : xII), (v1 = 0 ∨ v1 = 1) → R1 v1 I1 → (∀ I2 : xII, I2 = xup I1 m 42 ((I1 m 42) + (1 : Int32)) → (∃ R3 : Int32 → xII → Prop, w_X13_name m R3 I2 ∧ (∀ (v3 : Int32) (I3 : xII), R3 v3 I3 → ((((I3 m 44) ≤ 0 → ((b = 0 → ∃ R4 : xII → Prop, w_X13_twice m v3 R4 I3 ∧ (∀ I4 : xII, R4 I4 → (∀ I5 : xII, I5 = xup I4 m 52 ((I4 m 52) + (1 : Int32)) → (∃ J6 : xII → Prop, (∀ (I6 : xII), J6 I6 → ∀ I7 : xII, I7 = xup I6 m 53 ((I6 m 53) + (if (I6 m 52) ≤ (200 : Int32) then (1 : Int32) else (0 : Int32))) → (∃ R8 : Int32 → xII → Prop, w_X13_isSign m (32 : Int32) R8 I7 ∧ (∀ (v8 : Int32) (I8 : xII), (v8 = 0 ∨ v8 = 1) → R8 v8 I8 → (((v8 = 0 → ∃ R9 : Int32 → xII → Prop, w_X13_fails m (2 : Int32) R9 I8 ∧ (∀ (v9 : Int32) (I9 : xII), (v9 = 0 ∨ v9 = 1) → R9 v9 I9 → (Q v9 I9))) ∧ (¬ v8 = 0 → ∀ I10 : xII, I10 = xup I8 m 42 ((I8 m 42) + (1 : Int32)) → (∃ R11 : Int32 → xII → Prop, g_X13_expression m R11 I10 ∧ (∀ (v11 : Int32) (I11 : xII), (v11 = 0 ∨ v11 = 1) → R11 v11 I11 → (((v11 = 0 → Q (0 : Int32) I11) ∧ (¬ v11 = 0 → ∃ R12 : Int32 → xII → Prop, w_X13_step m (2 : Int32) (I6 m 53) (0 : Int32) R12 I11 ∧ (∀ (v12 : Int32) (I12 : xII), R12 v12 I12 → (∃ R13 : xII → Prop, w_X13_declare m v3 (1 : Int32) (0 : Int32) (I6 m 53) (1 : Int32) (1 : Int32) R13 I12 ∧ (∀ I13 : xII, R13 I13 → (Q (1 : Int32) I13))))))))))))))) ∧ ((((I4 m 52) + (1 : Int32)) ≤ (200 : Int32) → J6 I5) ∧ (¬ ((I4 m 52) + (1 : Int32)) ≤ (200 : Int32) → vp_in v3 4002 ∧ (∃ R15 : xII → Prop, w_X13_note m (11 : Int32) (I4 (m + 5) (ix v3)) R15 I5 ∧ (∀ I15 : xII, R15 I15 → (J6 I15))))))))) ∧ (¬ b = 0 → ((v1 = 0 → ∃ R27 : Int32 → xII → Prop, w_X13_isSign m (24 : Int32) R27 I3 ∧ (∀ (v27 : Int32) (I27 : xII), (v27 = 0 ∨ v27 = 1) → R27 v27 I27 → (((v27 = 0 → ∃ R28 : xII → Prop, w_X13_twice m v3 R28 I27 ∧ (∀ I28 : xII, R28 I28 → (∀ I29 : xII, I29 = xup I28 m 52 ((I28 m 52) + (1 : Int32)) → (∃ J30 : xII → Prop, (∀ (I30 : xII), J30 I30 → ∀ I31 : xII, I31 = xup I30 m 53 ((I30 m 53) + (if (I30 m 52) ≤ (200 : Int32) then (1 : Int32) else (0 : Int32))) → (∃ R32 : Int32 → xII → Prop, w_X13_isSign m (32 : Int32) R32 I31 ∧ (∀ (v32 : Int32) (I32 : xII), (v32 = 0 ∨ v32 = 1) → R32 v32 I32 → (((v32 = 0 → ∃ R33 : Int32 → xII → Prop, w_X13_step m (0 : Int32) (0 : Int32) (0 : Int32) R33 I32 ∧ (∀ (v33 : Int32) (I33 : xII), R33 v33 I33 → (∃ R34 : Int32 → xII → Prop, w_X13_step m (2 : Int32) (I30 m 53) (0 : Int32) R34 I33 ∧ (∀ (v34 : Int32) (I34 : xII), R34 v34 I34 → (∃ R35 : xII → Prop, w_X13_declare m v3 (1 : Int32) (0 : Int32) (I30 m 53) (1 : Int32) (1 : Int32) R35 I34 ∧ (∀ I35 : xII, R35 I35 → (Q (1 : Int32) I35))))))) ∧ (¬ v32 = 0 → ∀ I36 : xII, I36 = xup I32 m 42 ((I32 m 42) + (1 : Int32)) → (∃ R37 : Int32 → xII → Prop, g_X13_expression m R37 I36 ∧ (∀ (v37 : Int32) (I37 : xII), (v37 = 0 ∨ v37 = 1) → R37 v37 I37 → (((v37 = 0 → Q (0 : Int32) I37) ∧ (¬ v37 = 0 → ∃ R38 : Int32 → xII → Prop, w_X13_step m (2 : Int32) (I30 m 53) (0 : Int32) R38 I37 ∧ (∀ (v38 : Int32) (I38 : xII), R38 v38 I38 → (∃ R39 : xII → Prop, w_X13_declare m v3 (1 : Int32) (0 : Int32) (I30 m 53) (1 : Int32) (1 : Int32) R39 I38 ∧ (∀ I39 : xII, R39 I39 → (Q (1 : Int32) I39))))))))))))))) ∧ ((((I28 m 52) + (1 : Int32)) ≤ (200 : Int32) → J30 I29) ∧ (¬ ((I28 m 52) + (1 : Int32)) ≤ (200 : Int32) → vp_in v3 4002 ∧ (∃ R41 : xII → Prop, w_X13_note m (11 : Int32) (I28 (m + 5) (ix v3)) R41 I29 ∧ (∀ I41 : xII, R41 I41 → (J30 I41))))))))) ∧ (¬ v27 = 0 → ∃ R42 : xII → Prop, w_X13_twice m v3 R42 I27 ∧ (∀ I42 : xII, R42 I42 → (∃ R43 : Int32 → xII → Prop, w_X13_openSign m (24 : Int32) R43 I42 ∧ (∀ (v43 : Int32) (I43 : xII), (v43 = 0 ∨ v43 = 1) → R43 v43 I43 → (((v43 = 0 → Q (0 : Int32) I43) ∧ (¬ v43 = 0 → ∃ R44 : Int32 → xII → Prop, w_X13_sizeHere m R44 I43 ∧ (∀ (v44 : Int32) (I44 : xII), R44 v44 I44 → (∃ R45 : Int32 → xII → Prop, w_X13_closeSign m (25 : Int32) R45 I44 ∧ (∀ (v45 : Int32) (I45 : xII), (v45 = 0 ∨ v45 = 1) → R45 v45 I45 → (((v45 = 0 → Q (0 : Int32) I45) ∧ (¬ v45 = 0 → ∀ I46 : xII, I46 = xup I45 m 52 ((I45 m 52) + (if v44 = (-1 : Int32) then (0 : Int32) else v44)) → (∃ J47 : xII → Prop, (∀ (I47 : xII), J47 I47 → ∃ R48 : Int32 → xII → Prop, w_X13_step m (22 : Int32) (I47 m 53) (if v44 = (-1 : Int32) then (0 : Int32) else (if (I47 m 52) ≤ (200 : Int32) then v44 else (0 : Int32))) R48 I47 ∧ (∀ (v48 : Int32) (I48 : xII), R48 v48 I48 → (∃ R49 : xII → Prop, w_X13_declare m v3 (2 : Int32) v1 (I48 m 53) (if v44 = (-1 : Int32) then (1 : Int32) else v44) (1 : Int32) R49 I48 ∧ (∀ I49 : xII, R49 I49 → (∀ I50 : xII, I50 = xup I49 m 53 ((I49 m 53) + (if v44 = (-1 : Int32) then (0 : Int32) else (if (I47 m 52) ≤ (200 : Int32) then v44 else (0 : Int32)))) → (Q (1 : Int32) I50)))))) ∧ ((((I45 m 52) + (if v44 = (-1 : Int32) then (0 : Int32) else v44)) ≤ (200 : Int32) → J47 I46) ∧ (¬ ((I45 m 52) + (if v44 = (-1 : Int32) then (0 : Int32) else v44)) ≤ (200 : Int32) → vp_in v3 4002 ∧ (∃ R52 : xII → Prop, w_X13_note m (11 : Int32) (I45 (m + 5) (ix v3)) R52 I46 ∧ (∀ I52 : xII, R52 I52 → (J47 I52))))))))))))))))))))))) ∧ (¬ v1 = 0 → ∃ R16 : xII → Prop, w_X13_twice m v3 R16 I3 ∧ (∀ I16 : xII, R16 I16 → (∃ R17 : Int32 → xII → Prop, w_X13_openSign m (24 : Int32) R17 I16 ∧ (∀ (v17 : Int32) (I17 : xII), (v17 = 0 ∨ v17 = 1) → R17 v17 I17 → (((v17 = 0 → Q (0 : Int32) I17) ∧ (¬ v17 = 0 → ∃ R18 : Int32 → xII → Prop, w_X13_sizeHere m R18 I17 ∧ (∀ (v18 : Int32) (I18 : xII), R18 v18 I18 → (∃ R19 : Int32 → xII → Prop, w_X13_closeSign m (25 : Int32) R19 I18 ∧ (∀ (v19 : Int32) (I19 : xII), (v19 = 0 ∨ v19 = 1) → R19 v19 I19 → (((v19 = 0 → Q (0 : Int32) I19) ∧ (¬ v19 = 0 → ∀ I20 : xII, I20 = xup I19 m 52 ((I19 m 52) + (if v18 = (-1 : Int32) then (0 : Int32) else ((v18 + (3 : Int32)) / (4 : Int32)))) → (∃ J21 : xII → Prop, (∀ (I21 : xII), J21 I21 → ∃ R22 : Int32 → xII → Prop, w_X13_step m (22 : Int32) (I21 m 53) (if v18 = (-1 : Int32) then (0 : Int32) else (if (I21 m 52) ≤ (200 : Int32) then v18 else (0 : Int32))) R22 I21 ∧ (∀ (v22 : Int32) (I22 : xII), R22 v22 I22 → (∃ R23 : xII → Prop, w_X13_declare m v3 (2 : Int32) v1 (I22 m 53) (if v18 = (-1 : Int32) then (1 : Int32) else v18) (1 : Int32) R23 I22 ∧ (∀ I23 : xII, R23 I23 → (∀ I24 : xII, I24 = xup I23 m 53 ((I23 m 53) + (if v18 = (-1 : Int32) then (0 : Int32) else (if (I21 m 52) ≤ (200 : Int32) then v18 else (0 : Int32)))) → (Q (1 : Int32) I24)))))) ∧ ((((I19 m 52) + (if v18 = (-1 : Int32) then (0 : Int32) else ((v18 + (3 : Int32)) / (4 : Int32)))) ≤ (200 : Int32) → J21 I20) ∧ (¬ ((I19 m 52) + (if v18 = (-1 : Int32) then (0 : Int32) else ((v18 + (3 : Int32)) / (4 : Int32)))) ≤ (200 : Int32) → vp_in v3 4002 ∧ (∃ R26 : xII → Prop, w_X13_note m (11 : Int32) (I19 (m + 5) (ix v3)) R26 I20 ∧ (∀ I26 : xII, R26 I26 → (J21 I26))))))))))))))))))))))) ∧ (¬ (I3 m 44) ≤ 0 → Q (0 : Int32) I3)))))))
theorem m_X13_tellHere (hG : xOK G) {dp : Nat} {A : xA} {m : Nat} (hM : xMo G A m) {b : Int32} {Q : Int32 → xII → Prop} {I : xII} (h : w_X13_tellHere m b Q I) : MX G (dp + 715) kX13_tellHere [.ref m, .int b] (A.wI I) (oZ A Q) := by
  unfold w_X13_tellHere at h
  refine MX.of rfl (Nat.le_of_ble_eq_true rfl) ?_
  change X _ _ _ _ _ _ [some (.ref m), some (.int b), none, none, none, none] _
  refine x_aload_n dX13_tellHere_0 rfl ?_
  refine x_iconst_ (v := (1 : Int32)) dX13_tellHere_1 (by decide) ?_
  obtain ⟨R1, g1, h⟩ := h
  refine x_callV hG (Ky := kX13_isWord) (As := [.int (1 : Int32)]) dX13_tellHere_2 (mo_t hM) rfl lk_X13_263 me_X13_isWord is_X13_isWord se_X13_isWord rfl rfl (Nat.le_of_ble_eq_true rfl) (MX.post (m_X13_isWord hG hM g1) ?_)
  rintro _ _ ⟨v1, I1, rfl, rfl, zv1, h1⟩
  replace h := h v1 I1 zv1 h1
  change X _ _ _ _ (A.wI I1) _ _ (.int v1 :: _)
  refine x_istore_n dX13_tellHere_5 (by decide) ?_
  refine x_aload_n dX13_tellHere_6 rfl ?_
  refine x_dup dX13_tellHere_7 rfl ?_
  refine x_get (v := .int (I1 m 42)) hG dX13_tellHere_8 f_X13_233_12 (mo_t hM) rfl ?_
  refine x_iconst_ (v := (1 : Int32)) dX13_tellHere_11 (by decide) ?_
  refine x_iadd dX13_tellHere_12 ?_
  refine y_put hG hM dX13_tellHere_13 f_X13_233_12 ⟨_, rfl, Or.inl rfl⟩ rfl rfl ⟨_, rfl⟩ (fun I2 e2 => ?_)
  replace h := h I2 e2
  refine x_aload_n dX13_tellHere_16 rfl ?_
  obtain ⟨R3, g3, h⟩ := h
  refine x_callV hG (Ky := kX13_name) (As := []) dX13_tellHere_17 (mo_t hM) rfl lk_X13_317 me_X13_name is_X13_name se_X13_name rfl rfl (Nat.le_of_ble_eq_true rfl) (MX.post (m_X13_name hG hM g3) ?_)
  rintro _ _ ⟨v3, I3, rfl, rfl, h1⟩
  replace h := h v3 I3 h1
  change X _ _ _ _ (A.wI I3) _ _ (.int v3 :: _)
  refine x_istore_n dX13_tellHere_20 (by decide) ?_
  refine x_aload_n dX13_tellHere_21 rfl ?_
  refine x_get (v := .int (I3 m 44)) hG dX13_tellHere_22 f_X13_230_12 (mo_t hM) rfl ?_
  refine x_if_le (tgt := 30) dX13_tellHere_25 (by decide) (fun c25 => ?_) (fun c25 => ?_)
  · replace h := h.1 c25
    refine x_iload_n dX13_tellHere_30 rfl ?_
    refine x_if_eq (tgt := 210) dX13_tellHere_31 (by decide) (fun c31 => ?_) (fun c31 => ?_)
    · replace h := h.1 c31
      refine x_aload_n dX13_tellHere_210 rfl ?_
      refine x_iload_n dX13_tellHere_211 rfl ?_
      obtain ⟨R4, g4, h⟩ := h
      refine x_callV hG (Ky := kX13_twice) (As := [.int v3]) dX13_tellHere_212 (mo_t hM) rfl lk_X13_348 me_X13_twice is_X13_twice se_X13_twice rfl rfl (Nat.le_of_ble_eq_true rfl) (MX.post (m_X13_twice hG hM g4) ?_)
      rintro _ _ ⟨I4, rfl, rfl, h1⟩
      replace h := h I4 h1
      change X _ _ _ _ (A.wI I4) _ _ _
      refine x_aload_n dX13_tellHere_215 rfl ?_
      refine x_dup dX13_tellHere_216 rfl ?_
      refine x_get (v := .int (I4 m 52)) hG dX13_tellHere_217 f_X13_383_12 (mo_t hM) rfl ?_
      refine x_iconst_ (v := (1 : Int32)) dX13_tellHere_220 (by decide) ?_
      refine x_iadd dX13_tellHere_221 ?_
      refine y_put hG hM dX13_tellHere_222 f_X13_383_12 ⟨_, rfl, Or.inl rfl⟩ rfl rfl ⟨_, rfl⟩ (fun I5 e5 => ?_)
      replace h := h I5 e5
      refine x_aload_n dX13_tellHere_225 rfl ?_
      refine x_get (v := .int (I5 m 52)) hG dX13_tellHere_226 f_X13_383_12 (mo_t hM) rfl ?_
      refine x_eqi (v := ((I4 m 52) + (1 : Int32))) (xup_rs e5) ?_
      refine x_sipush_ (v := (200 : Int32)) dX13_tellHere_229 (by decide) ?_
      obtain ⟨J6, g6, h⟩ := h
      have kj6 : ∀ (I6 : xII), J6 I6 → X G (dp + 715) kX13_tellHere (oZ A Q) (A.wI I6) 247 [some (.ref m), some (.int b), none, some (.int v3), none, none] [] := by
        intro I6 h
        replace h := g6 I6 h
        refine x_aload_n dX13_tellHere_247 rfl ?_
        refine x_get (v := .int (I6 m 53)) hG dX13_tellHere_248 f_X13_386_12 (mo_t hM) rfl ?_
        refine x_istore dX13_tellHere_251 (by decide) ?_
        refine x_aload_n dX13_tellHere_253 rfl ?_
        refine x_dup dX13_tellHere_254 rfl ?_
        refine x_get (v := .int (I6 m 53)) hG dX13_tellHere_255 f_X13_386_12 (mo_t hM) rfl ?_
        refine x_aload_n dX13_tellHere_258 rfl ?_
        refine x_get (v := .int (I6 m 52)) hG dX13_tellHere_259 f_X13_383_12 (mo_t hM) rfl ?_
        refine x_sipush_ (v := (200 : Int32)) dX13_tellHere_262 (by decide) ?_
        refine x_via 273 (A' := (A.wI I6)) (lv' := [some (.ref m), some (.int b), none, some (.int v3), some (.int (I6 m 53)), none]) (st' := [.int (if (I6 m 52) ≤ (200 : Int32) then (1 : Int32) else (0 : Int32)), .int (I6 m 53), .ref m]) ?_ (fun k273 => ?_)
        rotate_left
        · refine x_icmp_le (tgt := 272) dX13_tellHere_265 (by decide) (fun c265 => ?_) (fun c265 => ?_)
          · refine x_iconst_ (v := (1 : Int32)) dX13_tellHere_272 (by decide) ?_
            change X _ _ _ _ _ _ [some (.ref m), some (.int b), none, some (.int v3), some (.int (I6 m 53)), none] [.int (1 : Int32), .int (I6 m 53), .ref m]
            simp only [if_pos c265] at k273 ⊢
            exact X.weak (xle_c rfl (xle_c rfl (xle_n (xle_c rfl (xle_c rfl (xle_n xle_nil)))))) k273
          · refine x_iconst_ (v := (0 : Int32)) dX13_tellHere_268 (by decide) ?_
            refine x_goto (tgt := 273) dX13_tellHere_269 (by decide) ?_
            change X _ _ _ _ _ _ [some (.ref m), some (.int b), none, some (.int v3), some (.int (I6 m 53)), none] [.int (0 : Int32), .int (I6 m 53), .ref m]
            simp only [if_neg c265] at k273 ⊢
            exact X.weak (xle_c rfl (xle_c rfl (xle_n (xle_c rfl (xle_c rfl (xle_n xle_nil)))))) k273
        refine x_iadd dX13_tellHere_273 ?_
        refine y_put hG hM dX13_tellHere_274 f_X13_386_12 ⟨_, rfl, Or.inl rfl⟩ rfl rfl ⟨_, rfl⟩ (fun I7 e7 => ?_)
        replace h := h I7 e7
        refine x_aload_n dX13_tellHere_277 rfl ?_
        refine x_bipush_ (v := (32 : Int32)) dX13_tellHere_278 (by decide) ?_
        obtain ⟨R8, g8, h⟩ := h
        refine x_callV hG (Ky := kX13_isSign) (As := [.int (32 : Int32)]) dX13_tellHere_280 (mo_t hM) rfl lk_X13_257 me_X13_isSign is_X13_isSign se_X13_isSign rfl rfl (Nat.le_of_ble_eq_true rfl) (MX.post (m_X13_isSign hG hM g8) ?_)
        rintro _ _ ⟨v8, I8, rfl, rfl, zv8, h1⟩
        replace h := h v8 I8 zv8 h1
        change X _ _ _ _ (A.wI I8) _ _ (.int v8 :: _)
        refine x_if_eq (tgt := 305) dX13_tellHere_283 (by decide) (fun c283 => ?_) (fun c283 => ?_)
        · replace h := h.1 c283
          refine x_iload_n dX13_tellHere_305 rfl ?_
          refine x_if_eq (tgt := 320) dX13_tellHere_306 (by decide) (fun _ => ?_) (fun h => absurd c31 h)
          refine x_aload_n dX13_tellHere_320 rfl ?_
          refine x_iconst_ (v := (2 : Int32)) dX13_tellHere_321 (by decide) ?_
          obtain ⟨R9, g9, h⟩ := h
          refine x_callV hG (Ky := kX13_fails) (As := [.int (2 : Int32)]) dX13_tellHere_322 (mo_t hM) rfl lk_X13_260 me_X13_fails is_X13_fails se_X13_fails rfl rfl (Nat.le_of_ble_eq_true rfl) (MX.post (m_X13_fails hG hM g9) ?_)
          rintro _ _ ⟨v9, I9, rfl, rfl, zv9, h1⟩
          replace h := h v9 I9 zv9 h1
          change X _ _ _ _ (A.wI I9) _ _ (.int v9 :: _)
          exact x_zret dX13_tellHere_325 rfl zv9 ⟨_, _, rfl, rfl, zv9, h⟩
        · replace h := h.2 c283
          refine x_aload_n dX13_tellHere_286 rfl ?_
          refine x_dup dX13_tellHere_287 rfl ?_
          refine x_get (v := .int (I8 m 42)) hG dX13_tellHere_288 f_X13_233_12 (mo_t hM) rfl ?_
          refine x_iconst_ (v := (1 : Int32)) dX13_tellHere_291 (by decide) ?_
          refine x_iadd dX13_tellHere_292 ?_
          refine y_put hG hM dX13_tellHere_293 f_X13_233_12 ⟨_, rfl, Or.inl rfl⟩ rfl rfl ⟨_, rfl⟩ (fun I10 e10 => ?_)
          replace h := h I10 e10
          refine x_aload_n dX13_tellHere_296 rfl ?_
          obtain ⟨R11, g11, h⟩ := h
          refine x_callV hG (Ky := kX13_expression) (As := []) dX13_tellHere_297 (mo_t hM) rfl lk_X13_368 me_X13_expression is_X13_expression se_X13_expression rfl rfl (Nat.le_of_ble_eq_true rfl) (MX.post ((rc_E hG hM 700).1 g11) ?_)
          rintro _ _ ⟨v11, I11, rfl, rfl, zv11, h1⟩
          replace h := h v11 I11 zv11 h1
          change X _ _ _ _ (A.wI I11) _ _ (.int v11 :: _)
          refine x_if_ne (tgt := 326) dX13_tellHere_300 (by decide) (fun c300 => ?_) (fun c300 => ?_)
          · replace h := h.2 c300
            refine x_aload_n dX13_tellHere_326 rfl ?_
            refine x_iconst_ (v := (2 : Int32)) dX13_tellHere_327 (by decide) ?_
            refine x_iload dX13_tellHere_328 rfl ?_
            refine x_iconst_ (v := (0 : Int32)) dX13_tellHere_330 (by decide) ?_
            obtain ⟨R12, g12, h⟩ := h
            refine x_callV hG (Ky := kX13_step) (As := [.int (2 : Int32), .int (I6 m 53), .int (0 : Int32)]) dX13_tellHere_331 (mo_t hM) rfl lk_X13_401 me_X13_step is_X13_step se_X13_step rfl rfl (Nat.le_of_ble_eq_true rfl) (MX.post (m_X13_step hG hM g12) ?_)
            rintro _ _ ⟨v12, I12, rfl, rfl, h1⟩
            replace h := h v12 I12 h1
            change X _ _ _ _ (A.wI I12) _ _ (.int v12 :: _)
            refine x_pop dX13_tellHere_334 rfl ?_
            refine x_aload_n dX13_tellHere_335 rfl ?_
            refine x_iload_n dX13_tellHere_336 rfl ?_
            refine x_iconst_ (v := (1 : Int32)) dX13_tellHere_337 (by decide) ?_
            refine x_iconst_ (v := (0 : Int32)) dX13_tellHere_338 (by decide) ?_
            refine x_iload dX13_tellHere_339 rfl ?_
            refine x_iconst_ (v := (1 : Int32)) dX13_tellHere_341 (by decide) ?_
            refine x_iconst_ (v := (1 : Int32)) dX13_tellHere_342 (by decide) ?_
            obtain ⟨R13, g13, h⟩ := h
            refine x_callV hG (Ky := kX13_declare) (As := [.int v3, .int (1 : Int32), .int (0 : Int32), .int (I6 m 53), .int (1 : Int32), .int (1 : Int32)]) dX13_tellHere_343 (mo_t hM) rfl lk_X13_338 me_X13_declare is_X13_declare se_X13_declare rfl rfl (Nat.le_of_ble_eq_true rfl) (MX.post (m_X13_declare hG hM g13) ?_)
            rintro _ _ ⟨I13, rfl, rfl, h1⟩
            replace h := h I13 h1
            change X _ _ _ _ (A.wI I13) _ _ _
            refine x_iconst_ (v := (1 : Int32)) dX13_tellHere_346 (by decide) ?_
            exact x_zret dX13_tellHere_347 rfl (by decide) ⟨_, _, rfl, rfl, (by decide), h⟩
          · replace h := h.1 c300
            refine x_iconst_ (v := (0 : Int32)) dX13_tellHere_303 (by decide) ?_
            exact x_zret dX13_tellHere_304 rfl (by decide) ⟨_, _, rfl, rfl, (by decide), h⟩
      refine x_icmp_le (tgt := 247) dX13_tellHere_232 (by decide) (fun c232 => ?_) (fun c232 => ?_)
      · replace h := h.1 c232
        change X _ _ _ _ _ _ [some (.ref m), some (.int b), some (.int v1), some (.int v3), none, none] []
        exact X.weak (xle_c rfl (xle_c rfl (xle_n (xle_c rfl (xle_n (xle_n xle_nil)))))) (kj6 I5 h)
      · replace h := h.2 c232
        refine x_aload_n dX13_tellHere_235 rfl ?_
        refine x_bipush_ (v := (11 : Int32)) dX13_tellHere_236 (by decide) ?_
        refine x_aload_n dX13_tellHere_238 rfl ?_
        refine x_get (v := .ref (m + 5)) hG dX13_tellHere_239 f_X13_22_12 (mo_t hM) (congrArg va_rf (mo_P6 hM)) ?_
        refine x_iload_n dX13_tellHere_242 rfl ?_
        obtain ⟨o14, h⟩ := h
        refine y_iald hG dX13_tellHere_243 (mo_t6 hM) (mo_n6 hM) o14 ?_
        refine x_eqi (v := (I4 (m + 5) (ix v3))) (xup_ra e5 (by omega)) ?_
        obtain ⟨R15, g15, h⟩ := h
        refine x_callV hG (Ky := kX13_note) (As := [.int (11 : Int32), .int (I4 (m + 5) (ix v3))]) dX13_tellHere_244 (mo_t hM) rfl lk_X13_352 me_X13_note is_X13_note se_X13_note rfl rfl (Nat.le_of_ble_eq_true rfl) (MX.post (m_X13_note hG hM g15) ?_)
        rintro _ _ ⟨I15, rfl, rfl, h1⟩
        replace h := h I15 h1
        change X _ _ _ _ (A.wI I15) _ _ _
        change X _ _ _ _ _ _ [some (.ref m), some (.int b), some (.int v1), some (.int v3), none, none] []
        exact X.weak (xle_c rfl (xle_c rfl (xle_n (xle_c rfl (xle_n (xle_n xle_nil)))))) (kj6 I15 h)
    · replace h := h.2 c31
      refine x_iload_n dX13_tellHere_34 rfl ?_
      refine x_if_ne (tgt := 47) dX13_tellHere_35 (by decide) (fun c35 => ?_) (fun c35 => ?_)
      · replace h := h.2 c35
        refine x_aload_n dX13_tellHere_47 rfl ?_
        refine x_iload_n dX13_tellHere_48 rfl ?_
        obtain ⟨R16, g16, h⟩ := h
        refine x_callV hG (Ky := kX13_twice) (As := [.int v3]) dX13_tellHere_49 (mo_t hM) rfl lk_X13_348 me_X13_twice is_X13_twice se_X13_twice rfl rfl (Nat.le_of_ble_eq_true rfl) (MX.post (m_X13_twice hG hM g16) ?_)
        rintro _ _ ⟨I16, rfl, rfl, h1⟩
        replace h := h I16 h1
        change X _ _ _ _ (A.wI I16) _ _ _
        refine x_aload_n dX13_tellHere_52 rfl ?_
        refine x_bipush_ (v := (24 : Int32)) dX13_tellHere_53 (by decide) ?_
        obtain ⟨R17, g17, h⟩ := h
        refine x_callV hG (Ky := kX13_openSign) (As := [.int (24 : Int32)]) dX13_tellHere_55 (mo_t hM) rfl lk_X13_356 me_X13_openSign is_X13_openSign se_X13_openSign rfl rfl (Nat.le_of_ble_eq_true rfl) (MX.post (m_X13_openSign hG hM g17) ?_)
        rintro _ _ ⟨v17, I17, rfl, rfl, zv17, h1⟩
        replace h := h v17 I17 zv17 h1
        change X _ _ _ _ (A.wI I17) _ _ (.int v17 :: _)
        refine x_if_ne (tgt := 63) dX13_tellHere_58 (by decide) (fun c58 => ?_) (fun c58 => ?_)
        · replace h := h.2 c58
          refine x_aload_n dX13_tellHere_63 rfl ?_
          obtain ⟨R18, g18, h⟩ := h
          refine x_callV hG (Ky := kX13_sizeHere) (As := []) dX13_tellHere_64 (mo_t hM) rfl lk_X13_359 me_X13_sizeHere is_X13_sizeHere se_X13_sizeHere rfl rfl (Nat.le_of_ble_eq_true rfl) (MX.post (m_X13_sizeHere hG hM g18) ?_)
          rintro _ _ ⟨v18, I18, rfl, rfl, h1⟩
          replace h := h v18 I18 h1
          change X _ _ _ _ (A.wI I18) _ _ (.int v18 :: _)
          refine x_istore dX13_tellHere_67 (by decide) ?_
          refine x_aload_n dX13_tellHere_69 rfl ?_
          refine x_bipush_ (v := (25 : Int32)) dX13_tellHere_70 (by decide) ?_
          obtain ⟨R19, g19, h⟩ := h
          refine x_callV hG (Ky := kX13_closeSign) (As := [.int (25 : Int32)]) dX13_tellHere_72 (mo_t hM) rfl lk_X13_362 me_X13_closeSign is_X13_closeSign se_X13_closeSign rfl rfl (Nat.le_of_ble_eq_true rfl) (MX.post (m_X13_closeSign hG hM g19) ?_)
          rintro _ _ ⟨v19, I19, rfl, rfl, zv19, h1⟩
          replace h := h v19 I19 zv19 h1
          change X _ _ _ _ (A.wI I19) _ _ (.int v19 :: _)
          refine x_if_ne (tgt := 80) dX13_tellHere_75 (by decide) (fun c75 => ?_) (fun c75 => ?_)
          · replace h := h.2 c75
            refine x_aload_n dX13_tellHere_80 rfl ?_
            refine x_dup dX13_tellHere_81 rfl ?_
            refine x_get (v := .int (I19 m 52)) hG dX13_tellHere_82 f_X13_383_12 (mo_t hM) rfl ?_
            refine x_iload dX13_tellHere_85 rfl ?_
            refine x_iconst_ (v := (-1 : Int32)) dX13_tellHere_87 (by decide) ?_
            refine x_via 110 (A' := (A.wI I19)) (lv' := [some (.ref m), none, some (.int v1), some (.int v3), some (.int v18), none]) (st' := [.int (if v18 = (-1 : Int32) then (0 : Int32) else ((v18 + (3 : Int32)) / (4 : Int32))), .int (I19 m 52), .ref m]) ?_ (fun k110 => ?_)
            rotate_left
            · refine x_icmp_ne (tgt := 95) dX13_tellHere_88 (by decide) (fun c88 => ?_) (fun c88 => ?_)
              · refine x_iload_n dX13_tellHere_95 rfl ?_
                refine x_if_eq (tgt := 108) dX13_tellHere_96 (by decide) (fun h => absurd h c35) (fun _ => ?_)
                refine x_iload dX13_tellHere_99 rfl ?_
                refine x_iconst_ (v := (3 : Int32)) dX13_tellHere_101 (by decide) ?_
                refine x_iadd dX13_tellHere_102 ?_
                refine x_iconst_ (v := (4 : Int32)) dX13_tellHere_103 (by decide) ?_
                refine x_idiv dX13_tellHere_104 (by decide) ?_
                refine x_goto (tgt := 110) dX13_tellHere_105 (by decide) ?_
                change X _ _ _ _ _ _ [some (.ref m), some (.int b), some (.int v1), some (.int v3), some (.int v18), none] [.int ((v18 + (3 : Int32)) / (4 : Int32)), .int (I19 m 52), .ref m]
                simp only [if_neg c88] at k110 ⊢
                exact X.weak (xle_c rfl (xle_n (xle_c rfl (xle_c rfl (xle_c rfl (xle_n xle_nil)))))) k110
              · refine x_iconst_ (v := (0 : Int32)) dX13_tellHere_91 (by decide) ?_
                refine x_goto (tgt := 110) dX13_tellHere_92 (by decide) ?_
                change X _ _ _ _ _ _ [some (.ref m), some (.int b), some (.int v1), some (.int v3), some (.int v18), none] [.int (0 : Int32), .int (I19 m 52), .ref m]
                simp only [if_pos c88] at k110 ⊢
                exact X.weak (xle_c rfl (xle_n (xle_c rfl (xle_c rfl (xle_c rfl (xle_n xle_nil)))))) k110
            refine x_iadd dX13_tellHere_110 ?_
            refine y_put hG hM dX13_tellHere_111 f_X13_383_12 ⟨_, rfl, Or.inl rfl⟩ rfl rfl ⟨_, rfl⟩ (fun I20 e20 => ?_)
            replace h := h I20 e20
            refine x_aload_n dX13_tellHere_114 rfl ?_
            refine x_get (v := .int (I20 m 52)) hG dX13_tellHere_115 f_X13_383_12 (mo_t hM) rfl ?_
            refine x_eqi (v := ((I19 m 52) + (if v18 = (-1 : Int32) then (0 : Int32) else ((v18 + (3 : Int32)) / (4 : Int32))))) (xup_rs e20) ?_
            refine x_sipush_ (v := (200 : Int32)) dX13_tellHere_118 (by decide) ?_
            obtain ⟨J21, g21, h⟩ := h
            have kj21 : ∀ (I21 : xII), J21 I21 → X G (dp + 715) kX13_tellHere (oZ A Q) (A.wI I21) 136 [some (.ref m), none, some (.int v1), some (.int v3), some (.int v18), none] [] := by
              intro I21 h
              replace h := g21 I21 h
              refine x_iload dX13_tellHere_136 rfl ?_
              refine x_iconst_ (v := (-1 : Int32)) dX13_tellHere_138 (by decide) ?_
              refine x_via 158 (A' := (A.wI I21)) (lv' := [some (.ref m), none, some (.int v1), some (.int v3), some (.int v18), none]) (st' := [.int (if v18 = (-1 : Int32) then (0 : Int32) else (if (I21 m 52) ≤ (200 : Int32) then v18 else (0 : Int32)))]) ?_ (fun k158 => ?_)
              rotate_left
              · refine x_icmp_eq (tgt := 152) dX13_tellHere_139 (by decide) (fun c139 => ?_) (fun c139 => ?_)
                · refine x_iconst_ (v := (0 : Int32)) dX13_tellHere_152 (by decide) ?_
                  refine x_goto (tgt := 158) dX13_tellHere_153 (by decide) ?_
                  change X _ _ _ _ _ _ [some (.ref m), none, some (.int v1), some (.int v3), some (.int v18), none] [.int (0 : Int32)]
                  simp only [if_pos c139] at k158 ⊢
                  exact X.weak (xle_c rfl (xle_n (xle_c rfl (xle_c rfl (xle_c rfl (xle_n xle_nil)))))) k158
                · refine x_aload_n dX13_tellHere_142 rfl ?_
                  refine x_get (v := .int (I21 m 52)) hG dX13_tellHere_143 f_X13_383_12 (mo_t hM) rfl ?_
                  refine x_sipush_ (v := (200 : Int32)) dX13_tellHere_146 (by decide) ?_
                  refine x_icmp_le (tgt := 156) dX13_tellHere_149 (by decide) (fun c149 => ?_) (fun c149 => ?_)
                  · refine x_iload dX13_tellHere_156 rfl ?_
                    change X _ _ _ _ _ _ [some (.ref m), none, some (.int v1), some (.int v3), some (.int v18), none] [.int v18]
                    try simp only [if_neg c139] at c149 k158 ⊢
                    try simp only [if_pos c149] at k158 ⊢
                    exact X.weak (xle_c rfl (xle_n (xle_c rfl (xle_c rfl (xle_c rfl (xle_n xle_nil)))))) k158
                  · refine x_iconst_ (v := (0 : Int32)) dX13_tellHere_152 (by decide) ?_
                    refine x_goto (tgt := 158) dX13_tellHere_153 (by decide) ?_
                    change X _ _ _ _ _ _ [some (.ref m), none, some (.int v1), some (.int v3), some (.int v18), none] [.int (0 : Int32)]
                    try simp only [if_neg c139] at c149 k158 ⊢
                    try simp only [if_neg c149] at k158 ⊢
                    exact X.weak (xle_c rfl (xle_n (xle_c rfl (xle_c rfl (xle_c rfl (xle_n xle_nil)))))) k158
              refine x_istore dX13_tellHere_158 (by decide) ?_
              refine x_aload_n dX13_tellHere_160 rfl ?_
              refine x_bipush_ (v := (22 : Int32)) dX13_tellHere_161 (by decide) ?_
              refine x_aload_n dX13_tellHere_163 rfl ?_
              refine x_get (v := .int (I21 m 53)) hG dX13_tellHere_164 f_X13_386_12 (mo_t hM) rfl ?_
              refine x_iload dX13_tellHere_167 rfl ?_
              obtain ⟨R22, g22, h⟩ := h
              refine x_callV hG (Ky := kX13_step) (As := [.int (22 : Int32), .int (I21 m 53), .int (if v18 = (-1 : Int32) then (0 : Int32) else (if (I21 m 52) ≤ (200 : Int32) then v18 else (0 : Int32)))]) dX13_tellHere_169 (mo_t hM) rfl lk_X13_401 me_X13_step is_X13_step se_X13_step rfl rfl (Nat.le_of_ble_eq_true rfl) (MX.post (m_X13_step hG hM g22) ?_)
              rintro _ _ ⟨v22, I22, rfl, rfl, h1⟩
              replace h := h v22 I22 h1
              change X _ _ _ _ (A.wI I22) _ _ (.int v22 :: _)
              refine x_pop dX13_tellHere_172 rfl ?_
              refine x_aload_n dX13_tellHere_173 rfl ?_
              refine x_iload_n dX13_tellHere_174 rfl ?_
              refine x_iconst_ (v := (2 : Int32)) dX13_tellHere_175 (by decide) ?_
              refine x_iload_n dX13_tellHere_176 rfl ?_
              refine x_aload_n dX13_tellHere_177 rfl ?_
              refine x_get (v := .int (I22 m 53)) hG dX13_tellHere_178 f_X13_386_12 (mo_t hM) rfl ?_
              refine x_iload dX13_tellHere_181 rfl ?_
              refine x_iconst_ (v := (-1 : Int32)) dX13_tellHere_183 (by decide) ?_
              refine x_via 193 (A' := (A.wI I22)) (lv' := [some (.ref m), none, none, none, none, some (.int (if v18 = (-1 : Int32) then (0 : Int32) else (if (I21 m 52) ≤ (200 : Int32) then v18 else (0 : Int32))))]) (st' := [.int (if v18 = (-1 : Int32) then (1 : Int32) else v18), .int (I22 m 53), .int v1, .int (2 : Int32), .int v3, .ref m]) ?_ (fun k193 => ?_)
              rotate_left
              · refine x_icmp_ne (tgt := 191) dX13_tellHere_184 (by decide) (fun c184 => ?_) (fun c184 => ?_)
                · refine x_iload dX13_tellHere_191 rfl ?_
                  change X _ _ _ _ _ _ [some (.ref m), none, some (.int v1), some (.int v3), some (.int v18), some (.int (if v18 = (-1 : Int32) then (0 : Int32) else (if (I21 m 52) ≤ (200 : Int32) then v18 else (0 : Int32))))] [.int v18, .int (I22 m 53), .int v1, .int (2 : Int32), .int v3, .ref m]
                  simp only [if_neg c184] at k193 ⊢
                  exact X.weak (xle_c rfl (xle_n (xle_n (xle_n (xle_n (xle_c rfl xle_nil)))))) k193
                · refine x_iconst_ (v := (1 : Int32)) dX13_tellHere_187 (by decide) ?_
                  refine x_goto (tgt := 193) dX13_tellHere_188 (by decide) ?_
                  change X _ _ _ _ _ _ [some (.ref m), none, some (.int v1), some (.int v3), some (.int v18), some (.int (if v18 = (-1 : Int32) then (0 : Int32) else (if (I21 m 52) ≤ (200 : Int32) then v18 else (0 : Int32))))] [.int (1 : Int32), .int (I22 m 53), .int v1, .int (2 : Int32), .int v3, .ref m]
                  simp only [if_pos c184] at k193 ⊢
                  exact X.weak (xle_c rfl (xle_n (xle_n (xle_n (xle_n (xle_c rfl xle_nil)))))) k193
              refine x_iconst_ (v := (1 : Int32)) dX13_tellHere_193 (by decide) ?_
              obtain ⟨R23, g23, h⟩ := h
              refine x_callV hG (Ky := kX13_declare) (As := [.int v3, .int (2 : Int32), .int v1, .int (I22 m 53), .int (if v18 = (-1 : Int32) then (1 : Int32) else v18), .int (1 : Int32)]) dX13_tellHere_194 (mo_t hM) rfl lk_X13_338 me_X13_declare is_X13_declare se_X13_declare rfl rfl (Nat.le_of_ble_eq_true rfl) (MX.post (m_X13_declare hG hM g23) ?_)
              rintro _ _ ⟨I23, rfl, rfl, h1⟩
              replace h := h I23 h1
              change X _ _ _ _ (A.wI I23) _ _ _
              refine x_aload_n dX13_tellHere_197 rfl ?_
              refine x_dup dX13_tellHere_198 rfl ?_
              refine x_get (v := .int (I23 m 53)) hG dX13_tellHere_199 f_X13_386_12 (mo_t hM) rfl ?_
              refine x_iload dX13_tellHere_202 rfl ?_
              refine x_iadd dX13_tellHere_204 ?_
              refine y_put hG hM dX13_tellHere_205 f_X13_386_12 ⟨_, rfl, Or.inl rfl⟩ rfl rfl ⟨_, rfl⟩ (fun I24 e24 => ?_)
              replace h := h I24 e24
              refine x_iconst_ (v := (1 : Int32)) dX13_tellHere_208 (by decide) ?_
              exact x_zret dX13_tellHere_209 rfl (by decide) ⟨_, _, rfl, rfl, (by decide), h⟩
            refine x_icmp_le (tgt := 136) dX13_tellHere_121 (by decide) (fun c121 => ?_) (fun c121 => ?_)
            · replace h := h.1 c121
              change X _ _ _ _ _ _ [some (.ref m), none, some (.int v1), some (.int v3), some (.int v18), none] []
              exact X.weak (xle_c rfl (xle_n (xle_c rfl (xle_c rfl (xle_c rfl (xle_n xle_nil)))))) (kj21 I20 h)
            · replace h := h.2 c121
              refine x_aload_n dX13_tellHere_124 rfl ?_
              refine x_bipush_ (v := (11 : Int32)) dX13_tellHere_125 (by decide) ?_
              refine x_aload_n dX13_tellHere_127 rfl ?_
              refine x_get (v := .ref (m + 5)) hG dX13_tellHere_128 f_X13_22_12 (mo_t hM) (congrArg va_rf (mo_P6 hM)) ?_
              refine x_iload_n dX13_tellHere_131 rfl ?_
              obtain ⟨o25, h⟩ := h
              refine y_iald hG dX13_tellHere_132 (mo_t6 hM) (mo_n6 hM) o25 ?_
              refine x_eqi (v := (I19 (m + 5) (ix v3))) (xup_ra e20 (by omega)) ?_
              obtain ⟨R26, g26, h⟩ := h
              refine x_callV hG (Ky := kX13_note) (As := [.int (11 : Int32), .int (I19 (m + 5) (ix v3))]) dX13_tellHere_133 (mo_t hM) rfl lk_X13_352 me_X13_note is_X13_note se_X13_note rfl rfl (Nat.le_of_ble_eq_true rfl) (MX.post (m_X13_note hG hM g26) ?_)
              rintro _ _ ⟨I26, rfl, rfl, h1⟩
              replace h := h I26 h1
              change X _ _ _ _ (A.wI I26) _ _ _
              change X _ _ _ _ _ _ [some (.ref m), none, some (.int v1), some (.int v3), some (.int v18), none] []
              exact X.weak (xle_c rfl (xle_n (xle_c rfl (xle_c rfl (xle_c rfl (xle_n xle_nil)))))) (kj21 I26 h)
          · replace h := h.1 c75
            refine x_iconst_ (v := (0 : Int32)) dX13_tellHere_78 (by decide) ?_
            exact x_zret dX13_tellHere_79 rfl (by decide) ⟨_, _, rfl, rfl, (by decide), h⟩
        · replace h := h.1 c58
          refine x_iconst_ (v := (0 : Int32)) dX13_tellHere_61 (by decide) ?_
          exact x_zret dX13_tellHere_62 rfl (by decide) ⟨_, _, rfl, rfl, (by decide), h⟩
      · replace h := h.1 c35
        refine x_aload_n dX13_tellHere_38 rfl ?_
        refine x_bipush_ (v := (24 : Int32)) dX13_tellHere_39 (by decide) ?_
        obtain ⟨R27, g27, h⟩ := h
        refine x_callV hG (Ky := kX13_isSign) (As := [.int (24 : Int32)]) dX13_tellHere_41 (mo_t hM) rfl lk_X13_257 me_X13_isSign is_X13_isSign se_X13_isSign rfl rfl (Nat.le_of_ble_eq_true rfl) (MX.post (m_X13_isSign hG hM g27) ?_)
        rintro _ _ ⟨v27, I27, rfl, rfl, zv27, h1⟩
        replace h := h v27 I27 zv27 h1
        change X _ _ _ _ (A.wI I27) _ _ (.int v27 :: _)
        refine x_if_eq (tgt := 210) dX13_tellHere_44 (by decide) (fun c44 => ?_) (fun c44 => ?_)
        · replace h := h.1 c44
          refine x_aload_n dX13_tellHere_210 rfl ?_
          refine x_iload_n dX13_tellHere_211 rfl ?_
          obtain ⟨R28, g28, h⟩ := h
          refine x_callV hG (Ky := kX13_twice) (As := [.int v3]) dX13_tellHere_212 (mo_t hM) rfl lk_X13_348 me_X13_twice is_X13_twice se_X13_twice rfl rfl (Nat.le_of_ble_eq_true rfl) (MX.post (m_X13_twice hG hM g28) ?_)
          rintro _ _ ⟨I28, rfl, rfl, h1⟩
          replace h := h I28 h1
          change X _ _ _ _ (A.wI I28) _ _ _
          refine x_aload_n dX13_tellHere_215 rfl ?_
          refine x_dup dX13_tellHere_216 rfl ?_
          refine x_get (v := .int (I28 m 52)) hG dX13_tellHere_217 f_X13_383_12 (mo_t hM) rfl ?_
          refine x_iconst_ (v := (1 : Int32)) dX13_tellHere_220 (by decide) ?_
          refine x_iadd dX13_tellHere_221 ?_
          refine y_put hG hM dX13_tellHere_222 f_X13_383_12 ⟨_, rfl, Or.inl rfl⟩ rfl rfl ⟨_, rfl⟩ (fun I29 e29 => ?_)
          replace h := h I29 e29
          refine x_aload_n dX13_tellHere_225 rfl ?_
          refine x_get (v := .int (I29 m 52)) hG dX13_tellHere_226 f_X13_383_12 (mo_t hM) rfl ?_
          refine x_eqi (v := ((I28 m 52) + (1 : Int32))) (xup_rs e29) ?_
          refine x_sipush_ (v := (200 : Int32)) dX13_tellHere_229 (by decide) ?_
          obtain ⟨J30, g30, h⟩ := h
          have kj30 : ∀ (I30 : xII), J30 I30 → X G (dp + 715) kX13_tellHere (oZ A Q) (A.wI I30) 247 [some (.ref m), some (.int b), none, some (.int v3), none, none] [] := by
            intro I30 h
            replace h := g30 I30 h
            refine x_aload_n dX13_tellHere_247 rfl ?_
            refine x_get (v := .int (I30 m 53)) hG dX13_tellHere_248 f_X13_386_12 (mo_t hM) rfl ?_
            refine x_istore dX13_tellHere_251 (by decide) ?_
            refine x_aload_n dX13_tellHere_253 rfl ?_
            refine x_dup dX13_tellHere_254 rfl ?_
            refine x_get (v := .int (I30 m 53)) hG dX13_tellHere_255 f_X13_386_12 (mo_t hM) rfl ?_
            refine x_aload_n dX13_tellHere_258 rfl ?_
            refine x_get (v := .int (I30 m 52)) hG dX13_tellHere_259 f_X13_383_12 (mo_t hM) rfl ?_
            refine x_sipush_ (v := (200 : Int32)) dX13_tellHere_262 (by decide) ?_
            refine x_via 273 (A' := (A.wI I30)) (lv' := [some (.ref m), some (.int b), none, some (.int v3), some (.int (I30 m 53)), none]) (st' := [.int (if (I30 m 52) ≤ (200 : Int32) then (1 : Int32) else (0 : Int32)), .int (I30 m 53), .ref m]) ?_ (fun k273 => ?_)
            rotate_left
            · refine x_icmp_le (tgt := 272) dX13_tellHere_265 (by decide) (fun c265 => ?_) (fun c265 => ?_)
              · refine x_iconst_ (v := (1 : Int32)) dX13_tellHere_272 (by decide) ?_
                change X _ _ _ _ _ _ [some (.ref m), some (.int b), none, some (.int v3), some (.int (I30 m 53)), none] [.int (1 : Int32), .int (I30 m 53), .ref m]
                simp only [if_pos c265] at k273 ⊢
                exact X.weak (xle_c rfl (xle_c rfl (xle_n (xle_c rfl (xle_c rfl (xle_n xle_nil)))))) k273
              · refine x_iconst_ (v := (0 : Int32)) dX13_tellHere_268 (by decide) ?_
                refine x_goto (tgt := 273) dX13_tellHere_269 (by decide) ?_
                change X _ _ _ _ _ _ [some (.ref m), some (.int b), none, some (.int v3), some (.int (I30 m 53)), none] [.int (0 : Int32), .int (I30 m 53), .ref m]
                simp only [if_neg c265] at k273 ⊢
                exact X.weak (xle_c rfl (xle_c rfl (xle_n (xle_c rfl (xle_c rfl (xle_n xle_nil)))))) k273
            refine x_iadd dX13_tellHere_273 ?_
            refine y_put hG hM dX13_tellHere_274 f_X13_386_12 ⟨_, rfl, Or.inl rfl⟩ rfl rfl ⟨_, rfl⟩ (fun I31 e31 => ?_)
            replace h := h I31 e31
            refine x_aload_n dX13_tellHere_277 rfl ?_
            refine x_bipush_ (v := (32 : Int32)) dX13_tellHere_278 (by decide) ?_
            obtain ⟨R32, g32, h⟩ := h
            refine x_callV hG (Ky := kX13_isSign) (As := [.int (32 : Int32)]) dX13_tellHere_280 (mo_t hM) rfl lk_X13_257 me_X13_isSign is_X13_isSign se_X13_isSign rfl rfl (Nat.le_of_ble_eq_true rfl) (MX.post (m_X13_isSign hG hM g32) ?_)
            rintro _ _ ⟨v32, I32, rfl, rfl, zv32, h1⟩
            replace h := h v32 I32 zv32 h1
            change X _ _ _ _ (A.wI I32) _ _ (.int v32 :: _)
            refine x_if_eq (tgt := 305) dX13_tellHere_283 (by decide) (fun c283 => ?_) (fun c283 => ?_)
            · replace h := h.1 c283
              refine x_iload_n dX13_tellHere_305 rfl ?_
              refine x_if_eq (tgt := 320) dX13_tellHere_306 (by decide) (fun h => absurd h c31) (fun _ => ?_)
              refine x_aload_n dX13_tellHere_309 rfl ?_
              refine x_iconst_ (v := (0 : Int32)) dX13_tellHere_310 (by decide) ?_
              refine x_iconst_ (v := (0 : Int32)) dX13_tellHere_311 (by decide) ?_
              refine x_iconst_ (v := (0 : Int32)) dX13_tellHere_312 (by decide) ?_
              obtain ⟨R33, g33, h⟩ := h
              refine x_callV hG (Ky := kX13_step) (As := [.int (0 : Int32), .int (0 : Int32), .int (0 : Int32)]) dX13_tellHere_313 (mo_t hM) rfl lk_X13_401 me_X13_step is_X13_step se_X13_step rfl rfl (Nat.le_of_ble_eq_true rfl) (MX.post (m_X13_step hG hM g33) ?_)
              rintro _ _ ⟨v33, I33, rfl, rfl, h1⟩
              replace h := h v33 I33 h1
              change X _ _ _ _ (A.wI I33) _ _ (.int v33 :: _)
              refine x_pop dX13_tellHere_316 rfl ?_
              refine x_goto (tgt := 326) dX13_tellHere_317 (by decide) ?_
              refine x_aload_n dX13_tellHere_326 rfl ?_
              refine x_iconst_ (v := (2 : Int32)) dX13_tellHere_327 (by decide) ?_
              refine x_iload dX13_tellHere_328 rfl ?_
              refine x_iconst_ (v := (0 : Int32)) dX13_tellHere_330 (by decide) ?_
              obtain ⟨R34, g34, h⟩ := h
              refine x_callV hG (Ky := kX13_step) (As := [.int (2 : Int32), .int (I30 m 53), .int (0 : Int32)]) dX13_tellHere_331 (mo_t hM) rfl lk_X13_401 me_X13_step is_X13_step se_X13_step rfl rfl (Nat.le_of_ble_eq_true rfl) (MX.post (m_X13_step hG hM g34) ?_)
              rintro _ _ ⟨v34, I34, rfl, rfl, h1⟩
              replace h := h v34 I34 h1
              change X _ _ _ _ (A.wI I34) _ _ (.int v34 :: _)
              refine x_pop dX13_tellHere_334 rfl ?_
              refine x_aload_n dX13_tellHere_335 rfl ?_
              refine x_iload_n dX13_tellHere_336 rfl ?_
              refine x_iconst_ (v := (1 : Int32)) dX13_tellHere_337 (by decide) ?_
              refine x_iconst_ (v := (0 : Int32)) dX13_tellHere_338 (by decide) ?_
              refine x_iload dX13_tellHere_339 rfl ?_
              refine x_iconst_ (v := (1 : Int32)) dX13_tellHere_341 (by decide) ?_
              refine x_iconst_ (v := (1 : Int32)) dX13_tellHere_342 (by decide) ?_
              obtain ⟨R35, g35, h⟩ := h
              refine x_callV hG (Ky := kX13_declare) (As := [.int v3, .int (1 : Int32), .int (0 : Int32), .int (I30 m 53), .int (1 : Int32), .int (1 : Int32)]) dX13_tellHere_343 (mo_t hM) rfl lk_X13_338 me_X13_declare is_X13_declare se_X13_declare rfl rfl (Nat.le_of_ble_eq_true rfl) (MX.post (m_X13_declare hG hM g35) ?_)
              rintro _ _ ⟨I35, rfl, rfl, h1⟩
              replace h := h I35 h1
              change X _ _ _ _ (A.wI I35) _ _ _
              refine x_iconst_ (v := (1 : Int32)) dX13_tellHere_346 (by decide) ?_
              exact x_zret dX13_tellHere_347 rfl (by decide) ⟨_, _, rfl, rfl, (by decide), h⟩
            · replace h := h.2 c283
              refine x_aload_n dX13_tellHere_286 rfl ?_
              refine x_dup dX13_tellHere_287 rfl ?_
              refine x_get (v := .int (I32 m 42)) hG dX13_tellHere_288 f_X13_233_12 (mo_t hM) rfl ?_
              refine x_iconst_ (v := (1 : Int32)) dX13_tellHere_291 (by decide) ?_
              refine x_iadd dX13_tellHere_292 ?_
              refine y_put hG hM dX13_tellHere_293 f_X13_233_12 ⟨_, rfl, Or.inl rfl⟩ rfl rfl ⟨_, rfl⟩ (fun I36 e36 => ?_)
              replace h := h I36 e36
              refine x_aload_n dX13_tellHere_296 rfl ?_
              obtain ⟨R37, g37, h⟩ := h
              refine x_callV hG (Ky := kX13_expression) (As := []) dX13_tellHere_297 (mo_t hM) rfl lk_X13_368 me_X13_expression is_X13_expression se_X13_expression rfl rfl (Nat.le_of_ble_eq_true rfl) (MX.post ((rc_E hG hM 700).1 g37) ?_)
              rintro _ _ ⟨v37, I37, rfl, rfl, zv37, h1⟩
              replace h := h v37 I37 zv37 h1
              change X _ _ _ _ (A.wI I37) _ _ (.int v37 :: _)
              refine x_if_ne (tgt := 326) dX13_tellHere_300 (by decide) (fun c300 => ?_) (fun c300 => ?_)
              · replace h := h.2 c300
                refine x_aload_n dX13_tellHere_326 rfl ?_
                refine x_iconst_ (v := (2 : Int32)) dX13_tellHere_327 (by decide) ?_
                refine x_iload dX13_tellHere_328 rfl ?_
                refine x_iconst_ (v := (0 : Int32)) dX13_tellHere_330 (by decide) ?_
                obtain ⟨R38, g38, h⟩ := h
                refine x_callV hG (Ky := kX13_step) (As := [.int (2 : Int32), .int (I30 m 53), .int (0 : Int32)]) dX13_tellHere_331 (mo_t hM) rfl lk_X13_401 me_X13_step is_X13_step se_X13_step rfl rfl (Nat.le_of_ble_eq_true rfl) (MX.post (m_X13_step hG hM g38) ?_)
                rintro _ _ ⟨v38, I38, rfl, rfl, h1⟩
                replace h := h v38 I38 h1
                change X _ _ _ _ (A.wI I38) _ _ (.int v38 :: _)
                refine x_pop dX13_tellHere_334 rfl ?_
                refine x_aload_n dX13_tellHere_335 rfl ?_
                refine x_iload_n dX13_tellHere_336 rfl ?_
                refine x_iconst_ (v := (1 : Int32)) dX13_tellHere_337 (by decide) ?_
                refine x_iconst_ (v := (0 : Int32)) dX13_tellHere_338 (by decide) ?_
                refine x_iload dX13_tellHere_339 rfl ?_
                refine x_iconst_ (v := (1 : Int32)) dX13_tellHere_341 (by decide) ?_
                refine x_iconst_ (v := (1 : Int32)) dX13_tellHere_342 (by decide) ?_
                obtain ⟨R39, g39, h⟩ := h
                refine x_callV hG (Ky := kX13_declare) (As := [.int v3, .int (1 : Int32), .int (0 : Int32), .int (I30 m 53), .int (1 : Int32), .int (1 : Int32)]) dX13_tellHere_343 (mo_t hM) rfl lk_X13_338 me_X13_declare is_X13_declare se_X13_declare rfl rfl (Nat.le_of_ble_eq_true rfl) (MX.post (m_X13_declare hG hM g39) ?_)
                rintro _ _ ⟨I39, rfl, rfl, h1⟩
                replace h := h I39 h1
                change X _ _ _ _ (A.wI I39) _ _ _
                refine x_iconst_ (v := (1 : Int32)) dX13_tellHere_346 (by decide) ?_
                exact x_zret dX13_tellHere_347 rfl (by decide) ⟨_, _, rfl, rfl, (by decide), h⟩
              · replace h := h.1 c300
                refine x_iconst_ (v := (0 : Int32)) dX13_tellHere_303 (by decide) ?_
                exact x_zret dX13_tellHere_304 rfl (by decide) ⟨_, _, rfl, rfl, (by decide), h⟩
          refine x_icmp_le (tgt := 247) dX13_tellHere_232 (by decide) (fun c232 => ?_) (fun c232 => ?_)
          · replace h := h.1 c232
            change X _ _ _ _ _ _ [some (.ref m), some (.int b), some (.int v1), some (.int v3), none, none] []
            exact X.weak (xle_c rfl (xle_c rfl (xle_n (xle_c rfl (xle_n (xle_n xle_nil)))))) (kj30 I29 h)
          · replace h := h.2 c232
            refine x_aload_n dX13_tellHere_235 rfl ?_
            refine x_bipush_ (v := (11 : Int32)) dX13_tellHere_236 (by decide) ?_
            refine x_aload_n dX13_tellHere_238 rfl ?_
            refine x_get (v := .ref (m + 5)) hG dX13_tellHere_239 f_X13_22_12 (mo_t hM) (congrArg va_rf (mo_P6 hM)) ?_
            refine x_iload_n dX13_tellHere_242 rfl ?_
            obtain ⟨o40, h⟩ := h
            refine y_iald hG dX13_tellHere_243 (mo_t6 hM) (mo_n6 hM) o40 ?_
            refine x_eqi (v := (I28 (m + 5) (ix v3))) (xup_ra e29 (by omega)) ?_
            obtain ⟨R41, g41, h⟩ := h
            refine x_callV hG (Ky := kX13_note) (As := [.int (11 : Int32), .int (I28 (m + 5) (ix v3))]) dX13_tellHere_244 (mo_t hM) rfl lk_X13_352 me_X13_note is_X13_note se_X13_note rfl rfl (Nat.le_of_ble_eq_true rfl) (MX.post (m_X13_note hG hM g41) ?_)
            rintro _ _ ⟨I41, rfl, rfl, h1⟩
            replace h := h I41 h1
            change X _ _ _ _ (A.wI I41) _ _ _
            change X _ _ _ _ _ _ [some (.ref m), some (.int b), some (.int v1), some (.int v3), none, none] []
            exact X.weak (xle_c rfl (xle_c rfl (xle_n (xle_c rfl (xle_n (xle_n xle_nil)))))) (kj30 I41 h)
        · replace h := h.2 c44
          refine x_aload_n dX13_tellHere_47 rfl ?_
          refine x_iload_n dX13_tellHere_48 rfl ?_
          obtain ⟨R42, g42, h⟩ := h
          refine x_callV hG (Ky := kX13_twice) (As := [.int v3]) dX13_tellHere_49 (mo_t hM) rfl lk_X13_348 me_X13_twice is_X13_twice se_X13_twice rfl rfl (Nat.le_of_ble_eq_true rfl) (MX.post (m_X13_twice hG hM g42) ?_)
          rintro _ _ ⟨I42, rfl, rfl, h1⟩
          replace h := h I42 h1
          change X _ _ _ _ (A.wI I42) _ _ _
          refine x_aload_n dX13_tellHere_52 rfl ?_
          refine x_bipush_ (v := (24 : Int32)) dX13_tellHere_53 (by decide) ?_
          obtain ⟨R43, g43, h⟩ := h
          refine x_callV hG (Ky := kX13_openSign) (As := [.int (24 : Int32)]) dX13_tellHere_55 (mo_t hM) rfl lk_X13_356 me_X13_openSign is_X13_openSign se_X13_openSign rfl rfl (Nat.le_of_ble_eq_true rfl) (MX.post (m_X13_openSign hG hM g43) ?_)
          rintro _ _ ⟨v43, I43, rfl, rfl, zv43, h1⟩
          replace h := h v43 I43 zv43 h1
          change X _ _ _ _ (A.wI I43) _ _ (.int v43 :: _)
          refine x_if_ne (tgt := 63) dX13_tellHere_58 (by decide) (fun c58 => ?_) (fun c58 => ?_)
          · replace h := h.2 c58
            refine x_aload_n dX13_tellHere_63 rfl ?_
            obtain ⟨R44, g44, h⟩ := h
            refine x_callV hG (Ky := kX13_sizeHere) (As := []) dX13_tellHere_64 (mo_t hM) rfl lk_X13_359 me_X13_sizeHere is_X13_sizeHere se_X13_sizeHere rfl rfl (Nat.le_of_ble_eq_true rfl) (MX.post (m_X13_sizeHere hG hM g44) ?_)
            rintro _ _ ⟨v44, I44, rfl, rfl, h1⟩
            replace h := h v44 I44 h1
            change X _ _ _ _ (A.wI I44) _ _ (.int v44 :: _)
            refine x_istore dX13_tellHere_67 (by decide) ?_
            refine x_aload_n dX13_tellHere_69 rfl ?_
            refine x_bipush_ (v := (25 : Int32)) dX13_tellHere_70 (by decide) ?_
            obtain ⟨R45, g45, h⟩ := h
            refine x_callV hG (Ky := kX13_closeSign) (As := [.int (25 : Int32)]) dX13_tellHere_72 (mo_t hM) rfl lk_X13_362 me_X13_closeSign is_X13_closeSign se_X13_closeSign rfl rfl (Nat.le_of_ble_eq_true rfl) (MX.post (m_X13_closeSign hG hM g45) ?_)
            rintro _ _ ⟨v45, I45, rfl, rfl, zv45, h1⟩
            replace h := h v45 I45 zv45 h1
            change X _ _ _ _ (A.wI I45) _ _ (.int v45 :: _)
            refine x_if_ne (tgt := 80) dX13_tellHere_75 (by decide) (fun c75 => ?_) (fun c75 => ?_)
            · replace h := h.2 c75
              refine x_aload_n dX13_tellHere_80 rfl ?_
              refine x_dup dX13_tellHere_81 rfl ?_
              refine x_get (v := .int (I45 m 52)) hG dX13_tellHere_82 f_X13_383_12 (mo_t hM) rfl ?_
              refine x_iload dX13_tellHere_85 rfl ?_
              refine x_iconst_ (v := (-1 : Int32)) dX13_tellHere_87 (by decide) ?_
              refine x_via 110 (A' := (A.wI I45)) (lv' := [some (.ref m), none, some (.int v1), some (.int v3), some (.int v44), none]) (st' := [.int (if v44 = (-1 : Int32) then (0 : Int32) else v44), .int (I45 m 52), .ref m]) ?_ (fun k110 => ?_)
              rotate_left
              · refine x_icmp_ne (tgt := 95) dX13_tellHere_88 (by decide) (fun c88 => ?_) (fun c88 => ?_)
                · refine x_iload_n dX13_tellHere_95 rfl ?_
                  refine x_if_eq (tgt := 108) dX13_tellHere_96 (by decide) (fun _ => ?_) (fun h => absurd c35 h)
                  refine x_iload dX13_tellHere_108 rfl ?_
                  change X _ _ _ _ _ _ [some (.ref m), some (.int b), some (.int v1), some (.int v3), some (.int v44), none] [.int v44, .int (I45 m 52), .ref m]
                  simp only [if_neg c88] at k110 ⊢
                  exact X.weak (xle_c rfl (xle_n (xle_c rfl (xle_c rfl (xle_c rfl (xle_n xle_nil)))))) k110
                · refine x_iconst_ (v := (0 : Int32)) dX13_tellHere_91 (by decide) ?_
                  refine x_goto (tgt := 110) dX13_tellHere_92 (by decide) ?_
                  change X _ _ _ _ _ _ [some (.ref m), some (.int b), some (.int v1), some (.int v3), some (.int v44), none] [.int (0 : Int32), .int (I45 m 52), .ref m]
                  simp only [if_pos c88] at k110 ⊢
                  exact X.weak (xle_c rfl (xle_n (xle_c rfl (xle_c rfl (xle_c rfl (xle_n xle_nil)))))) k110
              refine x_iadd dX13_tellHere_110 ?_
              refine y_put hG hM dX13_tellHere_111 f_X13_383_12 ⟨_, rfl, Or.inl rfl⟩ rfl rfl ⟨_, rfl⟩ (fun I46 e46 => ?_)
              replace h := h I46 e46
              refine x_aload_n dX13_tellHere_114 rfl ?_
              refine x_get (v := .int (I46 m 52)) hG dX13_tellHere_115 f_X13_383_12 (mo_t hM) rfl ?_
              refine x_eqi (v := ((I45 m 52) + (if v44 = (-1 : Int32) then (0 : Int32) else v44))) (xup_rs e46) ?_
              refine x_sipush_ (v := (200 : Int32)) dX13_tellHere_118 (by decide) ?_
              obtain ⟨J47, g47, h⟩ := h
              have kj47 : ∀ (I47 : xII), J47 I47 → X G (dp + 715) kX13_tellHere (oZ A Q) (A.wI I47) 136 [some (.ref m), none, some (.int v1), some (.int v3), some (.int v44), none] [] := by
                intro I47 h
                replace h := g47 I47 h
                refine x_iload dX13_tellHere_136 rfl ?_
                refine x_iconst_ (v := (-1 : Int32)) dX13_tellHere_138 (by decide) ?_
                refine x_via 158 (A' := (A.wI I47)) (lv' := [some (.ref m), none, some (.int v1), some (.int v3), some (.int v44), none]) (st' := [.int (if v44 = (-1 : Int32) then (0 : Int32) else (if (I47 m 52) ≤ (200 : Int32) then v44 else (0 : Int32)))]) ?_ (fun k158 => ?_)
                rotate_left
                · refine x_icmp_eq (tgt := 152) dX13_tellHere_139 (by decide) (fun c139 => ?_) (fun c139 => ?_)
                  · refine x_iconst_ (v := (0 : Int32)) dX13_tellHere_152 (by decide) ?_
                    refine x_goto (tgt := 158) dX13_tellHere_153 (by decide) ?_
                    change X _ _ _ _ _ _ [some (.ref m), none, some (.int v1), some (.int v3), some (.int v44), none] [.int (0 : Int32)]
                    simp only [if_pos c139] at k158 ⊢
                    exact X.weak (xle_c rfl (xle_n (xle_c rfl (xle_c rfl (xle_c rfl (xle_n xle_nil)))))) k158
                  · refine x_aload_n dX13_tellHere_142 rfl ?_
                    refine x_get (v := .int (I47 m 52)) hG dX13_tellHere_143 f_X13_383_12 (mo_t hM) rfl ?_
                    refine x_sipush_ (v := (200 : Int32)) dX13_tellHere_146 (by decide) ?_
                    refine x_icmp_le (tgt := 156) dX13_tellHere_149 (by decide) (fun c149 => ?_) (fun c149 => ?_)
                    · refine x_iload dX13_tellHere_156 rfl ?_
                      change X _ _ _ _ _ _ [some (.ref m), none, some (.int v1), some (.int v3), some (.int v44), none] [.int v44]
                      try simp only [if_neg c139] at c149 k158 ⊢
                      try simp only [if_pos c149] at k158 ⊢
                      exact X.weak (xle_c rfl (xle_n (xle_c rfl (xle_c rfl (xle_c rfl (xle_n xle_nil)))))) k158
                    · refine x_iconst_ (v := (0 : Int32)) dX13_tellHere_152 (by decide) ?_
                      refine x_goto (tgt := 158) dX13_tellHere_153 (by decide) ?_
                      change X _ _ _ _ _ _ [some (.ref m), none, some (.int v1), some (.int v3), some (.int v44), none] [.int (0 : Int32)]
                      try simp only [if_neg c139] at c149 k158 ⊢
                      try simp only [if_neg c149] at k158 ⊢
                      exact X.weak (xle_c rfl (xle_n (xle_c rfl (xle_c rfl (xle_c rfl (xle_n xle_nil)))))) k158
                refine x_istore dX13_tellHere_158 (by decide) ?_
                refine x_aload_n dX13_tellHere_160 rfl ?_
                refine x_bipush_ (v := (22 : Int32)) dX13_tellHere_161 (by decide) ?_
                refine x_aload_n dX13_tellHere_163 rfl ?_
                refine x_get (v := .int (I47 m 53)) hG dX13_tellHere_164 f_X13_386_12 (mo_t hM) rfl ?_
                refine x_iload dX13_tellHere_167 rfl ?_
                obtain ⟨R48, g48, h⟩ := h
                refine x_callV hG (Ky := kX13_step) (As := [.int (22 : Int32), .int (I47 m 53), .int (if v44 = (-1 : Int32) then (0 : Int32) else (if (I47 m 52) ≤ (200 : Int32) then v44 else (0 : Int32)))]) dX13_tellHere_169 (mo_t hM) rfl lk_X13_401 me_X13_step is_X13_step se_X13_step rfl rfl (Nat.le_of_ble_eq_true rfl) (MX.post (m_X13_step hG hM g48) ?_)
                rintro _ _ ⟨v48, I48, rfl, rfl, h1⟩
                replace h := h v48 I48 h1
                change X _ _ _ _ (A.wI I48) _ _ (.int v48 :: _)
                refine x_pop dX13_tellHere_172 rfl ?_
                refine x_aload_n dX13_tellHere_173 rfl ?_
                refine x_iload_n dX13_tellHere_174 rfl ?_
                refine x_iconst_ (v := (2 : Int32)) dX13_tellHere_175 (by decide) ?_
                refine x_iload_n dX13_tellHere_176 rfl ?_
                refine x_aload_n dX13_tellHere_177 rfl ?_
                refine x_get (v := .int (I48 m 53)) hG dX13_tellHere_178 f_X13_386_12 (mo_t hM) rfl ?_
                refine x_iload dX13_tellHere_181 rfl ?_
                refine x_iconst_ (v := (-1 : Int32)) dX13_tellHere_183 (by decide) ?_
                refine x_via 193 (A' := (A.wI I48)) (lv' := [some (.ref m), none, none, none, none, some (.int (if v44 = (-1 : Int32) then (0 : Int32) else (if (I47 m 52) ≤ (200 : Int32) then v44 else (0 : Int32))))]) (st' := [.int (if v44 = (-1 : Int32) then (1 : Int32) else v44), .int (I48 m 53), .int v1, .int (2 : Int32), .int v3, .ref m]) ?_ (fun k193 => ?_)
                rotate_left
                · refine x_icmp_ne (tgt := 191) dX13_tellHere_184 (by decide) (fun c184 => ?_) (fun c184 => ?_)
                  · refine x_iload dX13_tellHere_191 rfl ?_
                    change X _ _ _ _ _ _ [some (.ref m), none, some (.int v1), some (.int v3), some (.int v44), some (.int (if v44 = (-1 : Int32) then (0 : Int32) else (if (I47 m 52) ≤ (200 : Int32) then v44 else (0 : Int32))))] [.int v44, .int (I48 m 53), .int v1, .int (2 : Int32), .int v3, .ref m]
                    simp only [if_neg c184] at k193 ⊢
                    exact X.weak (xle_c rfl (xle_n (xle_n (xle_n (xle_n (xle_c rfl xle_nil)))))) k193
                  · refine x_iconst_ (v := (1 : Int32)) dX13_tellHere_187 (by decide) ?_
                    refine x_goto (tgt := 193) dX13_tellHere_188 (by decide) ?_
                    change X _ _ _ _ _ _ [some (.ref m), none, some (.int v1), some (.int v3), some (.int v44), some (.int (if v44 = (-1 : Int32) then (0 : Int32) else (if (I47 m 52) ≤ (200 : Int32) then v44 else (0 : Int32))))] [.int (1 : Int32), .int (I48 m 53), .int v1, .int (2 : Int32), .int v3, .ref m]
                    simp only [if_pos c184] at k193 ⊢
                    exact X.weak (xle_c rfl (xle_n (xle_n (xle_n (xle_n (xle_c rfl xle_nil)))))) k193
                refine x_iconst_ (v := (1 : Int32)) dX13_tellHere_193 (by decide) ?_
                obtain ⟨R49, g49, h⟩ := h
                refine x_callV hG (Ky := kX13_declare) (As := [.int v3, .int (2 : Int32), .int v1, .int (I48 m 53), .int (if v44 = (-1 : Int32) then (1 : Int32) else v44), .int (1 : Int32)]) dX13_tellHere_194 (mo_t hM) rfl lk_X13_338 me_X13_declare is_X13_declare se_X13_declare rfl rfl (Nat.le_of_ble_eq_true rfl) (MX.post (m_X13_declare hG hM g49) ?_)
                rintro _ _ ⟨I49, rfl, rfl, h1⟩
                replace h := h I49 h1
                change X _ _ _ _ (A.wI I49) _ _ _
                refine x_aload_n dX13_tellHere_197 rfl ?_
                refine x_dup dX13_tellHere_198 rfl ?_
                refine x_get (v := .int (I49 m 53)) hG dX13_tellHere_199 f_X13_386_12 (mo_t hM) rfl ?_
                refine x_iload dX13_tellHere_202 rfl ?_
                refine x_iadd dX13_tellHere_204 ?_
                refine y_put hG hM dX13_tellHere_205 f_X13_386_12 ⟨_, rfl, Or.inl rfl⟩ rfl rfl ⟨_, rfl⟩ (fun I50 e50 => ?_)
                replace h := h I50 e50
                refine x_iconst_ (v := (1 : Int32)) dX13_tellHere_208 (by decide) ?_
                exact x_zret dX13_tellHere_209 rfl (by decide) ⟨_, _, rfl, rfl, (by decide), h⟩
              refine x_icmp_le (tgt := 136) dX13_tellHere_121 (by decide) (fun c121 => ?_) (fun c121 => ?_)
              · replace h := h.1 c121
                change X _ _ _ _ _ _ [some (.ref m), none, some (.int v1), some (.int v3), some (.int v44), none] []
                exact X.weak (xle_c rfl (xle_n (xle_c rfl (xle_c rfl (xle_c rfl (xle_n xle_nil)))))) (kj47 I46 h)
              · replace h := h.2 c121
                refine x_aload_n dX13_tellHere_124 rfl ?_
                refine x_bipush_ (v := (11 : Int32)) dX13_tellHere_125 (by decide) ?_
                refine x_aload_n dX13_tellHere_127 rfl ?_
                refine x_get (v := .ref (m + 5)) hG dX13_tellHere_128 f_X13_22_12 (mo_t hM) (congrArg va_rf (mo_P6 hM)) ?_
                refine x_iload_n dX13_tellHere_131 rfl ?_
                obtain ⟨o51, h⟩ := h
                refine y_iald hG dX13_tellHere_132 (mo_t6 hM) (mo_n6 hM) o51 ?_
                refine x_eqi (v := (I45 (m + 5) (ix v3))) (xup_ra e46 (by omega)) ?_
                obtain ⟨R52, g52, h⟩ := h
                refine x_callV hG (Ky := kX13_note) (As := [.int (11 : Int32), .int (I45 (m + 5) (ix v3))]) dX13_tellHere_133 (mo_t hM) rfl lk_X13_352 me_X13_note is_X13_note se_X13_note rfl rfl (Nat.le_of_ble_eq_true rfl) (MX.post (m_X13_note hG hM g52) ?_)
                rintro _ _ ⟨I52, rfl, rfl, h1⟩
                replace h := h I52 h1
                change X _ _ _ _ (A.wI I52) _ _ _
                change X _ _ _ _ _ _ [some (.ref m), none, some (.int v1), some (.int v3), some (.int v44), none] []
                exact X.weak (xle_c rfl (xle_n (xle_c rfl (xle_c rfl (xle_c rfl (xle_n xle_nil)))))) (kj47 I52 h)
            · replace h := h.1 c75
              refine x_iconst_ (v := (0 : Int32)) dX13_tellHere_78 (by decide) ?_
              exact x_zret dX13_tellHere_79 rfl (by decide) ⟨_, _, rfl, rfl, (by decide), h⟩
          · replace h := h.1 c58
            refine x_iconst_ (v := (0 : Int32)) dX13_tellHere_61 (by decide) ?_
            exact x_zret dX13_tellHere_62 rfl (by decide) ⟨_, _, rfl, rfl, (by decide), h⟩
  · replace h := h.2 c25
    refine x_iconst_ (v := (0 : Int32)) dX13_tellHere_28 (by decide) ?_
    exact x_zret dX13_tellHere_29 rfl (by decide) ⟨_, _, rfl, rfl, (by decide), h⟩
def w_X13_returns (m : Nat) (Q : Int32 → xII → Prop) (I : xII) : Prop := ∀ I1 : xII, I1 = xup I m 42 ((I m 42) + (1 : Int32)) → (∃ R2 : Int32 → xII → Prop, w_X13_isSign m (29 : Int32) R2 I1 ∧ (∀ (v2 : Int32) (I2 : xII), (v2 = 0 ∨ v2 = 1) → R2 v2 I2 → (((v2 = 0 → vp_in (I2 m 50) 500 ∧ (∃ J4 : xII → Prop, (∀ (I4 : xII), J4 I4 → ∃ R5 : Int32 → xII → Prop, g_X13_expression m R5 I4 ∧ (∀ (v5 : Int32) (I5 : xII), (v5 = 0 ∨ v5 = 1) → R5 v5 I5 → (((v5 = 0 → Q (0 : Int32) I5) ∧ (¬ v5 = 0 → ∃ R6 : Int32 → xII → Prop, w_X13_step m (17 : Int32) (0 : Int32) (0 : Int32) R6 I5 ∧ (∀ (v6 : Int32) (I6 : xII), R6 v6 I6 → (∃ R7 : Int32 → xII → Prop, w_X13_sign m (29 : Int32) R7 I6 ∧ (∀ (v7 : Int32) (I7 : xII), (v7 = 0 ∨ v7 = 1) → R7 v7 I7 → (Q v7 I7))))))))) ∧ (((I2 (m + 26) (ix (I2 m 50))) = 0 → J4 I2) ∧ (¬ (I2 (m + 26) (ix (I2 m 50))) = 0 → vp_in (I2 m 42) 4002 ∧ (∃ R9 : xII → Prop, w_X13_noteAs m (8 : Int32) (I2 (m + 5) (ix (I2 m 42))) (f_X13_rank (7 : Int32)) R9 I2 ∧ (∀ I9 : xII, R9 I9 → (J4 I9))))))) ∧ (¬ v2 = 0 → vp_in (I2 m 50) 500 ∧ (∃ J11 : xII → Prop, (∀ (I11 : xII), J11 I11 → ∃ R12 : Int32 → xII → Prop, w_X13_step m (0 : Int32) (0 : Int32) (0 : Int32) R12 I11 ∧ (∀ (v12 : Int32) (I12 : xII), R12 v12 I12 → (∃ R13 : Int32 → xII → Prop, w_X13_step m (17 : Int32) (0 : Int32) (0 : Int32) R13 I12 ∧ (∀ (v13 : Int32) (I13 : xII), R13 v13 I13 → (∃ R14 : Int32 → xII → Prop, w_X13_sign m (29 : Int32) R14 I13 ∧ (∀ (v14 : Int32) (I14 : xII), (v14 = 0 ∨ v14 = 1) → R14 v14 I14 → (Q v14 I14))))))) ∧ (((I2 (m + 26) (ix (I2 m 50))) = 0 → vp_in (I2 m 42) 4002 ∧ (∃ R16 : xII → Prop, w_X13_note m (8 : Int32) (I2 (m + 5) (ix (I2 m 42))) R16 I2 ∧ (∀ I16 : xII, R16 I16 → (J11 I16)))) ∧ (¬ (I2 (m + 26) (ix (I2 m 50))) = 0 → J11 I2))))))))
theorem m_X13_returns (hG : xOK G) {dp : Nat} {A : xA} {m : Nat} (hM : xMo G A m) {Q : Int32 → xII → Prop} {I : xII} (h : w_X13_returns m Q I) : MX G (dp + 713) kX13_returns [.ref m] (A.wI I) (oZ A Q) := by
  unfold w_X13_returns at h
  refine MX.of rfl (Nat.le_of_ble_eq_true rfl) ?_
  change X _ _ _ _ _ _ [some (.ref m)] _
  refine x_aload_n dX13_returns_0 rfl ?_
  refine x_dup dX13_returns_1 rfl ?_
  refine x_get (v := .int (I m 42)) hG dX13_returns_2 f_X13_233_12 (mo_t hM) rfl ?_
  refine x_iconst_ (v := (1 : Int32)) dX13_returns_5 (by decide) ?_
  refine x_iadd dX13_returns_6 ?_
  refine y_put hG hM dX13_returns_7 f_X13_233_12 ⟨_, rfl, Or.inl rfl⟩ rfl rfl ⟨_, rfl⟩ (fun I1 e1 => ?_)
  replace h := h I1 e1
  refine x_aload_n dX13_returns_10 rfl ?_
  refine x_bipush_ (v := (29 : Int32)) dX13_returns_11 (by decide) ?_
  obtain ⟨R2, g2, h⟩ := h
  refine x_callV hG (Ky := kX13_isSign) (As := [.int (29 : Int32)]) dX13_returns_13 (mo_t hM) rfl lk_X13_257 me_X13_isSign is_X13_isSign se_X13_isSign rfl rfl (Nat.le_of_ble_eq_true rfl) (MX.post (m_X13_isSign hG hM g2) ?_)
  rintro _ _ ⟨v2, I2, rfl, rfl, zv2, h1⟩
  replace h := h v2 I2 zv2 h1
  change X _ _ _ _ (A.wI I2) _ _ (.int v2 :: _)
  refine x_if_eq (tgt := 57) dX13_returns_16 (by decide) (fun c16 => ?_) (fun c16 => ?_)
  · replace h := h.1 c16
    refine x_aload_n dX13_returns_57 rfl ?_
    refine x_get (v := .ref (m + 26)) hG dX13_returns_58 f_X13_86_12 (mo_t hM) (congrArg va_rf (mo_P33 hM)) ?_
    refine x_aload_n dX13_returns_61 rfl ?_
    refine x_get (v := .int (I2 m 50)) hG dX13_returns_62 f_X13_294_12 (mo_t hM) rfl ?_
    obtain ⟨o3, h⟩ := h
    refine y_zald hG dX13_returns_65 (mo_t33 hM) (mo_n33 hM) o3 ?_
    obtain ⟨J4, g4, h⟩ := h
    have kj4 : ∀ (I4 : xII), J4 I4 → X G (dp + 713) kX13_returns (oZ A Q) (A.wI I4) 89 [some (.ref m)] [] := by
      intro I4 h
      replace h := g4 I4 h
      refine x_aload_n dX13_returns_89 rfl ?_
      obtain ⟨R5, g5, h⟩ := h
      refine x_callV hG (Ky := kX13_expression) (As := []) dX13_returns_90 (mo_t hM) rfl lk_X13_368 me_X13_expression is_X13_expression se_X13_expression rfl rfl (Nat.le_of_ble_eq_true rfl) (MX.post ((rc_E hG hM 700).1 g5) ?_)
      rintro _ _ ⟨v5, I5, rfl, rfl, zv5, h1⟩
      replace h := h v5 I5 zv5 h1
      change X _ _ _ _ (A.wI I5) _ _ (.int v5 :: _)
      refine x_if_ne (tgt := 98) dX13_returns_93 (by decide) (fun c93 => ?_) (fun c93 => ?_)
      · replace h := h.2 c93
        refine x_aload_n dX13_returns_98 rfl ?_
        refine x_bipush_ (v := (17 : Int32)) dX13_returns_99 (by decide) ?_
        refine x_iconst_ (v := (0 : Int32)) dX13_returns_101 (by decide) ?_
        refine x_iconst_ (v := (0 : Int32)) dX13_returns_102 (by decide) ?_
        obtain ⟨R6, g6, h⟩ := h
        refine x_callV hG (Ky := kX13_step) (As := [.int (17 : Int32), .int (0 : Int32), .int (0 : Int32)]) dX13_returns_103 (mo_t hM) rfl lk_X13_401 me_X13_step is_X13_step se_X13_step rfl rfl (Nat.le_of_ble_eq_true rfl) (MX.post (m_X13_step hG hM g6) ?_)
        rintro _ _ ⟨v6, I6, rfl, rfl, h1⟩
        replace h := h v6 I6 h1
        change X _ _ _ _ (A.wI I6) _ _ (.int v6 :: _)
        refine x_pop dX13_returns_106 rfl ?_
        refine x_aload_n dX13_returns_107 rfl ?_
        refine x_bipush_ (v := (29 : Int32)) dX13_returns_108 (by decide) ?_
        obtain ⟨R7, g7, h⟩ := h
        refine x_callV hG (Ky := kX13_sign) (As := [.int (29 : Int32)]) dX13_returns_110 (mo_t hM) rfl lk_X13_273 me_X13_sign is_X13_sign se_X13_sign rfl rfl (Nat.le_of_ble_eq_true rfl) (MX.post (m_X13_sign hG hM g7) ?_)
        rintro _ _ ⟨v7, I7, rfl, rfl, zv7, h1⟩
        replace h := h v7 I7 zv7 h1
        change X _ _ _ _ (A.wI I7) _ _ (.int v7 :: _)
        exact x_zret dX13_returns_113 rfl zv7 ⟨_, _, rfl, rfl, zv7, h⟩
      · replace h := h.1 c93
        refine x_iconst_ (v := (0 : Int32)) dX13_returns_96 (by decide) ?_
        exact x_zret dX13_returns_97 rfl (by decide) ⟨_, _, rfl, rfl, (by decide), h⟩
    refine x_if_eq (tgt := 89) dX13_returns_66 (by decide) (fun c66 => ?_) (fun c66 => ?_)
    · replace h := h.1 c66
      change X _ _ _ _ _ _ [some (.ref m)] []
      exact X.weak (xle_c rfl xle_nil) (kj4 I2 h)
    · replace h := h.2 c66
      refine x_aload_n dX13_returns_69 rfl ?_
      refine x_bipush_ (v := (8 : Int32)) dX13_returns_70 (by decide) ?_
      refine x_aload_n dX13_returns_72 rfl ?_
      refine x_get (v := .ref (m + 5)) hG dX13_returns_73 f_X13_22_12 (mo_t hM) (congrArg va_rf (mo_P6 hM)) ?_
      refine x_aload_n dX13_returns_76 rfl ?_
      refine x_get (v := .int (I2 m 42)) hG dX13_returns_77 f_X13_233_12 (mo_t hM) rfl ?_
      obtain ⟨o8, h⟩ := h
      refine y_iald hG dX13_returns_80 (mo_t6 hM) (mo_n6 hM) o8 ?_
      refine x_bipush_ (v := (7 : Int32)) dX13_returns_81 (by decide) ?_
      refine x_callS hG (Ky := kX13_rank) (As := [.int (7 : Int32)]) dX13_returns_83 lk_X13_239 me_X13_rank st_X13_rank rfl rfl (Nat.le_of_ble_eq_true rfl) (MX.post (m_X13_rank hG) ?_)
      rintro _ _ ⟨rfl, rfl⟩
      change X _ _ _ _ _ _ _ (.int (f_X13_rank (7 : Int32)) :: _)
      obtain ⟨R9, g9, h⟩ := h
      refine x_callV hG (Ky := kX13_noteAs) (As := [.int (8 : Int32), .int (I2 (m + 5) (ix (I2 m 42))), .int (f_X13_rank (7 : Int32))]) dX13_returns_86 (mo_t hM) rfl lk_X13_242 me_X13_noteAs is_X13_noteAs se_X13_noteAs rfl rfl (Nat.le_of_ble_eq_true rfl) (MX.post (m_X13_noteAs hG hM g9) ?_)
      rintro _ _ ⟨I9, rfl, rfl, h1⟩
      replace h := h I9 h1
      change X _ _ _ _ (A.wI I9) _ _ _
      change X _ _ _ _ _ _ [some (.ref m)] []
      exact X.weak (xle_c rfl xle_nil) (kj4 I9 h)
  · replace h := h.2 c16
    refine x_aload_n dX13_returns_19 rfl ?_
    refine x_get (v := .ref (m + 26)) hG dX13_returns_20 f_X13_86_12 (mo_t hM) (congrArg va_rf (mo_P33 hM)) ?_
    refine x_aload_n dX13_returns_23 rfl ?_
    refine x_get (v := .int (I2 m 50)) hG dX13_returns_24 f_X13_294_12 (mo_t hM) rfl ?_
    obtain ⟨o10, h⟩ := h
    refine y_zald hG dX13_returns_27 (mo_t33 hM) (mo_n33 hM) o10 ?_
    obtain ⟨J11, g11, h⟩ := h
    have kj11 : ∀ (I11 : xII), J11 I11 → X G (dp + 713) kX13_returns (oZ A Q) (A.wI I11) 46 [some (.ref m)] [] := by
      intro I11 h
      replace h := g11 I11 h
      refine x_aload_n dX13_returns_46 rfl ?_
      refine x_iconst_ (v := (0 : Int32)) dX13_returns_47 (by decide) ?_
      refine x_iconst_ (v := (0 : Int32)) dX13_returns_48 (by decide) ?_
      refine x_iconst_ (v := (0 : Int32)) dX13_returns_49 (by decide) ?_
      obtain ⟨R12, g12, h⟩ := h
      refine x_callV hG (Ky := kX13_step) (As := [.int (0 : Int32), .int (0 : Int32), .int (0 : Int32)]) dX13_returns_50 (mo_t hM) rfl lk_X13_401 me_X13_step is_X13_step se_X13_step rfl rfl (Nat.le_of_ble_eq_true rfl) (MX.post (m_X13_step hG hM g12) ?_)
      rintro _ _ ⟨v12, I12, rfl, rfl, h1⟩
      replace h := h v12 I12 h1
      change X _ _ _ _ (A.wI I12) _ _ (.int v12 :: _)
      refine x_pop dX13_returns_53 rfl ?_
      refine x_goto (tgt := 98) dX13_returns_54 (by decide) ?_
      refine x_aload_n dX13_returns_98 rfl ?_
      refine x_bipush_ (v := (17 : Int32)) dX13_returns_99 (by decide) ?_
      refine x_iconst_ (v := (0 : Int32)) dX13_returns_101 (by decide) ?_
      refine x_iconst_ (v := (0 : Int32)) dX13_returns_102 (by decide) ?_
      obtain ⟨R13, g13, h⟩ := h
      refine x_callV hG (Ky := kX13_step) (As := [.int (17 : Int32), .int (0 : Int32), .int (0 : Int32)]) dX13_returns_103 (mo_t hM) rfl lk_X13_401 me_X13_step is_X13_step se_X13_step rfl rfl (Nat.le_of_ble_eq_true rfl) (MX.post (m_X13_step hG hM g13) ?_)
      rintro _ _ ⟨v13, I13, rfl, rfl, h1⟩
      replace h := h v13 I13 h1
      change X _ _ _ _ (A.wI I13) _ _ (.int v13 :: _)
      refine x_pop dX13_returns_106 rfl ?_
      refine x_aload_n dX13_returns_107 rfl ?_
      refine x_bipush_ (v := (29 : Int32)) dX13_returns_108 (by decide) ?_
      obtain ⟨R14, g14, h⟩ := h
      refine x_callV hG (Ky := kX13_sign) (As := [.int (29 : Int32)]) dX13_returns_110 (mo_t hM) rfl lk_X13_273 me_X13_sign is_X13_sign se_X13_sign rfl rfl (Nat.le_of_ble_eq_true rfl) (MX.post (m_X13_sign hG hM g14) ?_)
      rintro _ _ ⟨v14, I14, rfl, rfl, zv14, h1⟩
      replace h := h v14 I14 zv14 h1
      change X _ _ _ _ (A.wI I14) _ _ (.int v14 :: _)
      exact x_zret dX13_returns_113 rfl zv14 ⟨_, _, rfl, rfl, zv14, h⟩
    refine x_if_ne (tgt := 46) dX13_returns_28 (by decide) (fun c28 => ?_) (fun c28 => ?_)
    · replace h := h.2 c28
      change X _ _ _ _ _ _ [some (.ref m)] []
      exact X.weak (xle_c rfl xle_nil) (kj11 I2 h)
    · replace h := h.1 c28
      refine x_aload_n dX13_returns_31 rfl ?_
      refine x_bipush_ (v := (8 : Int32)) dX13_returns_32 (by decide) ?_
      refine x_aload_n dX13_returns_34 rfl ?_
      refine x_get (v := .ref (m + 5)) hG dX13_returns_35 f_X13_22_12 (mo_t hM) (congrArg va_rf (mo_P6 hM)) ?_
      refine x_aload_n dX13_returns_38 rfl ?_
      refine x_get (v := .int (I2 m 42)) hG dX13_returns_39 f_X13_233_12 (mo_t hM) rfl ?_
      obtain ⟨o15, h⟩ := h
      refine y_iald hG dX13_returns_42 (mo_t6 hM) (mo_n6 hM) o15 ?_
      obtain ⟨R16, g16, h⟩ := h
      refine x_callV hG (Ky := kX13_note) (As := [.int (8 : Int32), .int (I2 (m + 5) (ix (I2 m 42)))]) dX13_returns_43 (mo_t hM) rfl lk_X13_352 me_X13_note is_X13_note se_X13_note rfl rfl (Nat.le_of_ble_eq_true rfl) (MX.post (m_X13_note hG hM g16) ?_)
      rintro _ _ ⟨I16, rfl, rfl, h1⟩
      replace h := h I16 h1
      change X _ _ _ _ (A.wI I16) _ _ _
      change X _ _ _ _ _ _ [some (.ref m)] []
      exact X.weak (xle_c rfl xle_nil) (kj11 I16 h)
end W035
