/-! ===== 034.mexpr (tools/w030.py) ===== -/
set_option maxRecDepth 100000
section W034
variable {G : xG}
def xRC_E (G : xG) (D : Nat) (A : xA) (m : Nat) (Rk : Nat → Int32 → Int32 → (Int32 → xII → Prop) → xII → Prop) : Prop := (∀ {Q : Int32 → xII → Prop} {I : xII}, Rk 0 0 0 Q I → MX G D kX13_expression [.ref m] (A.wI I) (oZ A Q)) ∧ (∀ {Q : Int32 → xII → Prop} {I : xII}, Rk 1 0 0 Q I → MX G D kX13_chain [.ref m] (A.wI I) (oZ A Q)) ∧ (∀ {Q : Int32 → xII → Prop} {I : xII}, Rk 2 0 0 Q I → MX G D kX13_operand [.ref m] (A.wI I) (oZ A Q)) ∧ (∀ {Q : Int32 → xII → Prop} {I : xII}, Rk 3 0 0 Q I → MX G D kX13_plain [.ref m] (A.wI I) (oZ A Q)) ∧ (∀ {n : Int32} {Q : Int32 → xII → Prop} {I : xII}, Rk 4 n 0 Q I → MX G D kX13_inConstant [.ref m, .int n] (A.wI I) (oZ A Q)) ∧ (∀ {n : Int32} {Q : Int32 → xII → Prop} {I : xII}, Rk 5 n 0 Q I → MX G D kX13_named [.ref m, .int n] (A.wI I) (oZ A Q)) ∧ (∀ {n : Int32} {w : Int32} {Q : Int32 → xII → Prop} {I : xII}, Rk 6 n w Q I → MX G D kX13_call [.ref m, .int n, .int w] (A.wI I) (oZ A Q)) ∧ (∀ {f : Int32} {k : Int32} {Q : Int32 → xII → Prop} {I : xII}, Rk 7 f k Q I → MX G D kX13_argument [.ref m, .int f, .int k] (A.wI I) (oZ A Q)) ∧ (∀ {k : Int32} {Q : Int32 → xII → Prop} {I : xII}, Rk 8 k 0 Q I → MX G D kX13_element [.ref m, .int k] (A.wI I) (oZ A Q))
def w_X13_expression (Rk : Nat → Int32 → Int32 → (Int32 → xII → Prop) → xII → Prop) (m : Nat) (Q : Int32 → xII → Prop) (I : xII) : Prop := ∃ R1 : Int32 → xII → Prop, Rk 1 0 0 R1 I ∧ (∀ (v1 : Int32) (I1 : xII), (v1 = 0 ∨ v1 = 1) → R1 v1 I1 → (((v1 = 0 → Q (0 : Int32) I1) ∧ (¬ v1 = 0 → ∃ R2 : Int32 → xII → Prop, w_X13_isSign m (30 : Int32) R2 I1 ∧ (∀ (v2 : Int32) (I2 : xII), (v2 = 0 ∨ v2 = 1) → R2 v2 I2 → (((v2 = 0 → Q (1 : Int32) I2) ∧ (¬ v2 = 0 → ∃ R3 : Int32 → xII → Prop, w_X13_opens m R3 I2 ∧ (∀ (v3 : Int32) (I3 : xII), (v3 = 0 ∨ v3 = 1) → R3 v3 I3 → (((v3 = 0 → Q (0 : Int32) I3) ∧ (¬ v3 = 0 → ∃ R4 : Int32 → xII → Prop, w_X13_step m (13 : Int32) (0 : Int32) (0 : Int32) R4 I3 ∧ (∀ (v4 : Int32) (I4 : xII), R4 v4 I4 → (∃ R5 : Int32 → xII → Prop, Rk 0 0 0 R5 I4 ∧ (∀ (v5 : Int32) (I5 : xII), (v5 = 0 ∨ v5 = 1) → R5 v5 I5 → (((v5 = 0 → Q (0 : Int32) I5) ∧ (¬ v5 = 0 → ∃ R6 : Int32 → xII → Prop, w_X13_sign m (31 : Int32) R6 I5 ∧ (∀ (v6 : Int32) (I6 : xII), (v6 = 0 ∨ v6 = 1) → R6 v6 I6 → (((v6 = 0 → Q (0 : Int32) I6) ∧ (¬ v6 = 0 → ∃ R7 : Int32 → xII → Prop, w_X13_step m (12 : Int32) (0 : Int32) (0 : Int32) R7 I6 ∧ (∀ (v7 : Int32) (I7 : xII), R7 v7 I7 → (vp_in v4 9000 ∧ (∀ I9 : xII, I9 = xup I7 (m + 33) (ix v4) (I7 m 60) → (∃ R10 : Int32 → xII → Prop, Rk 0 0 0 R10 I9 ∧ (∀ (v10 : Int32) (I10 : xII), (v10 = 0 ∨ v10 = 1) → R10 v10 I10 → (((v10 = 0 → Q (0 : Int32) I10) ∧ (¬ v10 = 0 → vp_in v7 9000 ∧ (∀ I12 : xII, I12 = xup I10 (m + 33) (ix v7) (I10 m 60) → (∀ I13 : xII, I13 = xup I12 m 43 ((I10 m 43) - (1 : Int32)) → (Q (1 : Int32) I13)))))))))))))))))))))))))))))))))
theorem m_X13_expression (hG : xOK G) {dp : Nat} {A : xA} {m : Nat} (hM : xMo G A m) {Rk : Nat → Int32 → Int32 → (Int32 → xII → Prop) → xII → Prop} (hR : xRC_E G (dp + 12) A m Rk) {Q : Int32 → xII → Prop} {I : xII} (h : w_X13_expression Rk m Q I) : MX G (dp + 13) kX13_expression [.ref m] (A.wI I) (oZ A Q) := by
  unfold w_X13_expression at h
  refine MX.of rfl (Nat.le_of_ble_eq_true rfl) ?_
  change X _ _ _ _ _ _ [some (.ref m), none, none] _
  refine x_aload_n dX13_expression_0 rfl ?_
  obtain ⟨R1, g1, h⟩ := h
  refine x_callV hG (Ky := kX13_chain) (As := []) dX13_expression_1 (mo_t hM) rfl lk_X13_463 me_X13_chain is_X13_chain se_X13_chain rfl rfl (Nat.le_of_ble_eq_true rfl) (MX.post (hR.2.1 g1) ?_)
  rintro _ _ ⟨v1, I1, rfl, rfl, zv1, h1⟩
  replace h := h v1 I1 zv1 h1
  change X _ _ _ _ (A.wI I1) _ _ (.int v1 :: _)
  refine x_if_ne (tgt := 9) dX13_expression_4 (by decide) (fun c4 => ?_) (fun c4 => ?_)
  · replace h := h.2 c4
    refine x_aload_n dX13_expression_9 rfl ?_
    refine x_bipush_ (v := (30 : Int32)) dX13_expression_10 (by decide) ?_
    obtain ⟨R2, g2, h⟩ := h
    refine x_callV hG (Ky := kX13_isSign) (As := [.int (30 : Int32)]) dX13_expression_12 (mo_t hM) rfl lk_X13_257 me_X13_isSign is_X13_isSign se_X13_isSign rfl rfl (Nat.le_of_ble_eq_true rfl) (MX.post (m_X13_isSign hG hM g2) ?_)
    rintro _ _ ⟨v2, I2, rfl, rfl, zv2, h1⟩
    replace h := h v2 I2 zv2 h1
    change X _ _ _ _ (A.wI I2) _ _ (.int v2 :: _)
    refine x_if_ne (tgt := 20) dX13_expression_15 (by decide) (fun c15 => ?_) (fun c15 => ?_)
    · replace h := h.2 c15
      refine x_aload_n dX13_expression_20 rfl ?_
      obtain ⟨R3, g3, h⟩ := h
      refine x_callV hG (Ky := kX13_opens) (As := []) dX13_expression_21 (mo_t hM) rfl lk_X13_269 me_X13_opens is_X13_opens se_X13_opens rfl rfl (Nat.le_of_ble_eq_true rfl) (MX.post (m_X13_opens hG hM g3) ?_)
      rintro _ _ ⟨v3, I3, rfl, rfl, zv3, h1⟩
      replace h := h v3 I3 zv3 h1
      change X _ _ _ _ (A.wI I3) _ _ (.int v3 :: _)
      refine x_if_ne (tgt := 29) dX13_expression_24 (by decide) (fun c24 => ?_) (fun c24 => ?_)
      · replace h := h.2 c24
        refine x_aload_n dX13_expression_29 rfl ?_
        refine x_bipush_ (v := (13 : Int32)) dX13_expression_30 (by decide) ?_
        refine x_iconst_ (v := (0 : Int32)) dX13_expression_32 (by decide) ?_
        refine x_iconst_ (v := (0 : Int32)) dX13_expression_33 (by decide) ?_
        obtain ⟨R4, g4, h⟩ := h
        refine x_callV hG (Ky := kX13_step) (As := [.int (13 : Int32), .int (0 : Int32), .int (0 : Int32)]) dX13_expression_34 (mo_t hM) rfl lk_X13_401 me_X13_step is_X13_step se_X13_step rfl rfl (Nat.le_of_ble_eq_true rfl) (MX.post (m_X13_step hG hM g4) ?_)
        rintro _ _ ⟨v4, I4, rfl, rfl, h1⟩
        replace h := h v4 I4 h1
        change X _ _ _ _ (A.wI I4) _ _ (.int v4 :: _)
        refine x_istore_n dX13_expression_37 (by decide) ?_
        refine x_aload_n dX13_expression_38 rfl ?_
        obtain ⟨R5, g5, h⟩ := h
        refine x_callV hG (Ky := kX13_expression) (As := []) dX13_expression_39 (mo_t hM) rfl lk_X13_368 me_X13_expression is_X13_expression se_X13_expression rfl rfl (Nat.le_of_ble_eq_true rfl) (MX.post (hR.1 g5) ?_)
        rintro _ _ ⟨v5, I5, rfl, rfl, zv5, h1⟩
        replace h := h v5 I5 zv5 h1
        change X _ _ _ _ (A.wI I5) _ _ (.int v5 :: _)
        refine x_if_eq (tgt := 54) dX13_expression_42 (by decide) (fun c42 => ?_) (fun c42 => ?_)
        · replace h := h.1 c42
          refine x_iconst_ (v := (0 : Int32)) dX13_expression_54 (by decide) ?_
          exact x_zret dX13_expression_55 rfl (by decide) ⟨_, _, rfl, rfl, (by decide), h⟩
        · replace h := h.2 c42
          refine x_aload_n dX13_expression_45 rfl ?_
          refine x_bipush_ (v := (31 : Int32)) dX13_expression_46 (by decide) ?_
          obtain ⟨R6, g6, h⟩ := h
          refine x_callV hG (Ky := kX13_sign) (As := [.int (31 : Int32)]) dX13_expression_48 (mo_t hM) rfl lk_X13_273 me_X13_sign is_X13_sign se_X13_sign rfl rfl (Nat.le_of_ble_eq_true rfl) (MX.post (m_X13_sign hG hM g6) ?_)
          rintro _ _ ⟨v6, I6, rfl, rfl, zv6, h1⟩
          replace h := h v6 I6 zv6 h1
          change X _ _ _ _ (A.wI I6) _ _ (.int v6 :: _)
          refine x_if_ne (tgt := 56) dX13_expression_51 (by decide) (fun c51 => ?_) (fun c51 => ?_)
          · replace h := h.2 c51
            refine x_aload_n dX13_expression_56 rfl ?_
            refine x_bipush_ (v := (12 : Int32)) dX13_expression_57 (by decide) ?_
            refine x_iconst_ (v := (0 : Int32)) dX13_expression_59 (by decide) ?_
            refine x_iconst_ (v := (0 : Int32)) dX13_expression_60 (by decide) ?_
            obtain ⟨R7, g7, h⟩ := h
            refine x_callV hG (Ky := kX13_step) (As := [.int (12 : Int32), .int (0 : Int32), .int (0 : Int32)]) dX13_expression_61 (mo_t hM) rfl lk_X13_401 me_X13_step is_X13_step se_X13_step rfl rfl (Nat.le_of_ble_eq_true rfl) (MX.post (m_X13_step hG hM g7) ?_)
            rintro _ _ ⟨v7, I7, rfl, rfl, h1⟩
            replace h := h v7 I7 h1
            change X _ _ _ _ (A.wI I7) _ _ (.int v7 :: _)
            refine x_istore_n dX13_expression_64 (by decide) ?_
            refine x_aload_n dX13_expression_65 rfl ?_
            refine x_get (v := .ref (m + 33)) hG dX13_expression_66 f_X13_107_12 (mo_t hM) (congrArg va_rf (mo_P57 hM)) ?_
            refine x_iload_n dX13_expression_69 rfl ?_
            refine x_aload_n dX13_expression_70 rfl ?_
            refine x_get (v := .int (I7 m 60)) hG dX13_expression_71 f_X13_276_12 (mo_t hM) rfl ?_
            obtain ⟨o8, h⟩ := h
            refine y_iast hG dX13_expression_74 (mo_t57 hM) (mo_aN hM) (mo_n57 hM) o8 (fun I9 e9 => ?_)
            replace h := h I9 e9
            refine x_aload_n dX13_expression_75 rfl ?_
            obtain ⟨R10, g10, h⟩ := h
            refine x_callV hG (Ky := kX13_expression) (As := []) dX13_expression_76 (mo_t hM) rfl lk_X13_368 me_X13_expression is_X13_expression se_X13_expression rfl rfl (Nat.le_of_ble_eq_true rfl) (MX.post (hR.1 g10) ?_)
            rintro _ _ ⟨v10, I10, rfl, rfl, zv10, h1⟩
            replace h := h v10 I10 zv10 h1
            change X _ _ _ _ (A.wI I10) _ _ (.int v10 :: _)
            refine x_if_ne (tgt := 84) dX13_expression_79 (by decide) (fun c79 => ?_) (fun c79 => ?_)
            · replace h := h.2 c79
              refine x_aload_n dX13_expression_84 rfl ?_
              refine x_get (v := .ref (m + 33)) hG dX13_expression_85 f_X13_107_12 (mo_t hM) (congrArg va_rf (mo_P57 hM)) ?_
              refine x_iload_n dX13_expression_88 rfl ?_
              refine x_aload_n dX13_expression_89 rfl ?_
              refine x_get (v := .int (I10 m 60)) hG dX13_expression_90 f_X13_276_12 (mo_t hM) rfl ?_
              obtain ⟨o11, h⟩ := h
              refine y_iast hG dX13_expression_93 (mo_t57 hM) (mo_aN hM) (mo_n57 hM) o11 (fun I12 e12 => ?_)
              replace h := h I12 e12
              refine x_aload_n dX13_expression_94 rfl ?_
              refine x_dup dX13_expression_95 rfl ?_
              refine x_get (v := .int (I12 m 43)) hG dX13_expression_96 f_X13_266_12 (mo_t hM) rfl ?_
              refine x_eqi (v := (I10 m 43)) (xup_ra e12 (by omega)) ?_
              refine x_iconst_ (v := (1 : Int32)) dX13_expression_99 (by decide) ?_
              refine x_isub dX13_expression_100 ?_
              refine y_put hG hM dX13_expression_101 f_X13_266_12 ⟨_, rfl, Or.inl rfl⟩ rfl rfl ⟨_, rfl⟩ (fun I13 e13 => ?_)
              replace h := h I13 e13
              refine x_iconst_ (v := (1 : Int32)) dX13_expression_104 (by decide) ?_
              exact x_zret dX13_expression_105 rfl (by decide) ⟨_, _, rfl, rfl, (by decide), h⟩
            · replace h := h.1 c79
              refine x_iconst_ (v := (0 : Int32)) dX13_expression_82 (by decide) ?_
              exact x_zret dX13_expression_83 rfl (by decide) ⟨_, _, rfl, rfl, (by decide), h⟩
          · replace h := h.1 c51
            refine x_iconst_ (v := (0 : Int32)) dX13_expression_54 (by decide) ?_
            exact x_zret dX13_expression_55 rfl (by decide) ⟨_, _, rfl, rfl, (by decide), h⟩
      · replace h := h.1 c24
        refine x_iconst_ (v := (0 : Int32)) dX13_expression_27 (by decide) ?_
        exact x_zret dX13_expression_28 rfl (by decide) ⟨_, _, rfl, rfl, (by decide), h⟩
    · replace h := h.1 c15
      refine x_iconst_ (v := (1 : Int32)) dX13_expression_18 (by decide) ?_
      exact x_zret dX13_expression_19 rfl (by decide) ⟨_, _, rfl, rfl, (by decide), h⟩
  · replace h := h.1 c4
    refine x_iconst_ (v := (0 : Int32)) dX13_expression_7 (by decide) ?_
    exact x_zret dX13_expression_8 rfl (by decide) ⟨_, _, rfl, rfl, (by decide), h⟩
def w_X13_chain (Rk : Nat → Int32 → Int32 → (Int32 → xII → Prop) → xII → Prop) (m : Nat) (Q : Int32 → xII → Prop) (I : xII) : Prop := ∃ R1 : Int32 → xII → Prop, Rk 2 0 0 R1 I ∧ (∀ (v1 : Int32) (I1 : xII), (v1 = 0 ∨ v1 = 1) → R1 v1 I1 → (∃ L2 : Nat → Int32 → xII → Prop, (∃ n2 : Nat, L2 n2 v1 I1) ∧ (∀ (n2 : Nat) (y2_2 : Int32) (I2 : xII), L2 n2 y2_2 I2 → ((y2_2 = 0 → Q (0 : Int32) I2) ∧ (¬ y2_2 = 0 → ∃ R3 : Int32 → xII → Prop, w_X13_level m R3 I2 ∧ (∀ (v3 : Int32) (I3 : xII), R3 v3 I3 → (∃ L4 : Nat → xII → Prop, (∃ n4 : Nat, L4 n4 I3) ∧ (∀ (n4 : Nat) (I4 : xII), L4 n4 I4 → ∃ J5 : Prop, (J5 → ((v3 = (-1 : Int32) → Q (1 : Int32) I4) ∧ (¬ v3 = (-1 : Int32) → vp_in (I4 m 42) 4002 ∧ (vp_in (I4 m 70) 600 ∧ (∀ I8 : xII, I8 = xup I4 (m + 36) (ix (I4 m 70)) (I4 (m + 4) (ix (I4 m 42))) → (∀ I9 : xII, I9 = xup I8 (m + 37) (ix (I4 m 70)) v3 → (∃ J10 : Int32 → xII → Prop, (∀ (y10_s0 : Int32) (I10 : xII), J10 y10_s0 I10 → ∀ I11 : xII, I11 = xup I10 (m + 38) (ix (I4 m 70)) y10_s0 → (∀ I12 : xII, I12 = xup I11 m 70 ((I10 m 70) + (1 : Int32)) → (∀ I13 : xII, I13 = xup I12 m 42 ((I10 m 42) + (1 : Int32)) → (∃ R14 : Int32 → xII → Prop, Rk 2 0 0 R14 I13 ∧ (∀ (v14 : Int32) (I14 : xII), (v14 = 0 ∨ v14 = 1) → R14 v14 I14 → ((∃ q2 : Nat, q2 < n2 ∧ L2 q2 v14 I14))))))) ∧ ((v3 ≤ (1 : Int32) → ∃ R15 : Int32 → xII → Prop, w_X13_step m (if v3 = 0 then (14 : Int32) else (13 : Int32)) (0 : Int32) (0 : Int32) R15 I9 ∧ (∀ (v15 : Int32) (I15 : xII), R15 v15 I15 → (J10 v15 I15))) ∧ (¬ v3 ≤ (1 : Int32) → J10 (-1 : Int32) I9))))))))) ∧ (((I4 m 70) ≤ (I m 70) → J5) ∧ (¬ (I4 m 70) ≤ (I m 70) → vp_in ((I4 m 70) - (1 : Int32)) 600 ∧ ((((I4 (m + 37) (ix ((I4 m 70) - (1 : Int32)))) < v3 → J5) ∧ (¬ (I4 (m + 37) (ix ((I4 m 70) - (1 : Int32)))) < v3 → ∃ R17 : xII → Prop, w_X13_binds m R17 I4 ∧ (∀ I17 : xII, R17 I17 → ((∃ q4 : Nat, q4 < n4 ∧ L4 q4 I17))))))))))))))))
theorem m_X13_chain (hG : xOK G) {dp : Nat} {A : xA} {m : Nat} (hM : xMo G A m) {Rk : Nat → Int32 → Int32 → (Int32 → xII → Prop) → xII → Prop} (hR : xRC_E G (dp + 12) A m Rk) {Q : Int32 → xII → Prop} {I : xII} (h : w_X13_chain Rk m Q I) : MX G (dp + 13) kX13_chain [.ref m] (A.wI I) (oZ A Q) := by
  unfold w_X13_chain at h
  refine MX.of rfl (Nat.le_of_ble_eq_true rfl) ?_
  change X _ _ _ _ _ _ [some (.ref m), none, none, none] _
  refine x_aload_n dX13_chain_0 rfl ?_
  refine x_get (v := .int (I m 70)) hG dX13_chain_1 f_X13_285_12 (mo_t hM) rfl ?_
  refine x_istore_n dX13_chain_4 (by decide) ?_
  refine x_aload_n dX13_chain_5 rfl ?_
  obtain ⟨R1, g1, h⟩ := h
  refine x_callV hG (Ky := kX13_operand) (As := []) dX13_chain_6 (mo_t hM) rfl lk_X13_466 me_X13_operand is_X13_operand se_X13_operand rfl rfl (Nat.le_of_ble_eq_true rfl) (MX.post (hR.2.2.1 g1) ?_)
  rintro _ _ ⟨v1, I1, rfl, rfl, zv1, h1⟩
  replace h := h v1 I1 zv1 h1
  change X _ _ _ _ (A.wI I1) _ _ (.int v1 :: _)
  refine x_istore_n dX13_chain_9 (by decide) ?_
  obtain ⟨L2, ⟨n2, i2⟩, g2⟩ := h
  have kl2 : ∀ n2 : Nat, ∀ (y2_2 : Int32) (I2 : xII), L2 n2 y2_2 I2 → X G (dp + 13) kX13_chain (oZ A Q) (A.wI I2) 10 [some (.ref m), some (.int (I m 70)), some (.int y2_2), none] [] := by
    intro n2
    induction n2 using Nat.strongRecOn with
    | ind n2 ih2 =>
      intro y2_2 I2 h
      replace h := g2 n2 y2_2 I2 h
      refine x_iload_n dX13_chain_10 rfl ?_
      refine x_if_eq (tgt := 147) dX13_chain_11 (by decide) (fun c11 => ?_) (fun c11 => ?_)
      · replace h := h.1 c11
        refine x_iconst_ (v := (0 : Int32)) dX13_chain_147 (by decide) ?_
        exact x_zret dX13_chain_148 rfl (by decide) ⟨_, _, rfl, rfl, (by decide), h⟩
      · replace h := h.2 c11
        refine x_aload_n dX13_chain_14 rfl ?_
        obtain ⟨R3, g3, h⟩ := h
        refine x_callV hG (Ky := kX13_level) (As := []) dX13_chain_15 (mo_t hM) rfl lk_X13_469 me_X13_level is_X13_level se_X13_level rfl rfl (Nat.le_of_ble_eq_true rfl) (MX.post (m_X13_level hG hM g3) ?_)
        rintro _ _ ⟨v3, I3, rfl, rfl, h1⟩
        replace h := h v3 I3 h1
        change X _ _ _ _ (A.wI I3) _ _ (.int v3 :: _)
        refine x_istore_n dX13_chain_18 (by decide) ?_
        obtain ⟨L4, ⟨n4, i4⟩, g4⟩ := h
        have kl4 : ∀ n4 : Nat, ∀ (I4 : xII), L4 n4 I4 → X G (dp + 13) kX13_chain (oZ A Q) (A.wI I4) 19 [some (.ref m), some (.int (I m 70)), none, some (.int v3)] [] := by
          intro n4
          induction n4 using Nat.strongRecOn with
          | ind n4 ih4 =>
            intro I4 h
            replace h := g4 n4 I4 h
            refine x_aload_n dX13_chain_19 rfl ?_
            refine x_get (v := .int (I4 m 70)) hG dX13_chain_20 f_X13_285_12 (mo_t hM) rfl ?_
            refine x_iload_n dX13_chain_23 rfl ?_
            obtain ⟨J5, g5, h⟩ := h
            have kj5 : J5 → X G (dp + 13) kX13_chain (oZ A Q) (A.wI I4) 49 [some (.ref m), some (.int (I m 70)), none, some (.int v3)] [] := by
              intro h
              replace h := g5 h
              refine x_iload_n dX13_chain_49 rfl ?_
              refine x_iconst_ (v := (-1 : Int32)) dX13_chain_50 (by decide) ?_
              refine x_icmp_ne (tgt := 56) dX13_chain_51 (by decide) (fun c51 => ?_) (fun c51 => ?_)
              · replace h := h.2 c51
                refine x_aload_n dX13_chain_56 rfl ?_
                refine x_get (v := .ref (m + 36)) hG dX13_chain_57 f_X13_116_12 (mo_t hM) (congrArg va_rf (mo_P67 hM)) ?_
                refine x_aload_n dX13_chain_60 rfl ?_
                refine x_get (v := .int (I4 m 70)) hG dX13_chain_61 f_X13_285_12 (mo_t hM) rfl ?_
                refine x_aload_n dX13_chain_64 rfl ?_
                refine x_get (v := .ref (m + 4)) hG dX13_chain_65 f_X13_19_12 (mo_t hM) (congrArg va_rf (mo_P5 hM)) ?_
                refine x_aload_n dX13_chain_68 rfl ?_
                refine x_get (v := .int (I4 m 42)) hG dX13_chain_69 f_X13_233_12 (mo_t hM) rfl ?_
                obtain ⟨o6, h⟩ := h
                refine y_iald hG dX13_chain_72 (mo_t5 hM) (mo_n5 hM) o6 ?_
                obtain ⟨o7, h⟩ := h
                refine y_iast hG dX13_chain_73 (mo_t67 hM) (mo_aN hM) (mo_n67 hM) o7 (fun I8 e8 => ?_)
                replace h := h I8 e8
                refine x_aload_n dX13_chain_74 rfl ?_
                refine x_get (v := .ref (m + 37)) hG dX13_chain_75 f_X13_119_12 (mo_t hM) (congrArg va_rf (mo_P68 hM)) ?_
                refine x_aload_n dX13_chain_78 rfl ?_
                refine x_get (v := .int (I8 m 70)) hG dX13_chain_79 f_X13_285_12 (mo_t hM) rfl ?_
                refine x_eqi (v := (I4 m 70)) (xup_ra e8 (by omega)) ?_
                refine x_iload_n dX13_chain_82 rfl ?_
                refine y_iast hG dX13_chain_83 (mo_t68 hM) (mo_aN hM) (mo_n68 hM) o7 (fun I9 e9 => ?_)
                replace h := h I9 e9
                refine x_aload_n dX13_chain_84 rfl ?_
                refine x_get (v := .ref (m + 38)) hG dX13_chain_85 f_X13_122_12 (mo_t hM) (congrArg va_rf (mo_P69 hM)) ?_
                refine x_aload_n dX13_chain_88 rfl ?_
                refine x_get (v := .int (I9 m 70)) hG dX13_chain_89 f_X13_285_12 (mo_t hM) rfl ?_
                refine x_eqi (v := (I4 m 70)) ((xup_ra e9 (by omega)).trans (xup_ra e8 (by omega))) ?_
                refine x_iload_n dX13_chain_92 rfl ?_
                refine x_iconst_ (v := (1 : Int32)) dX13_chain_93 (by decide) ?_
                obtain ⟨J10, g10, h⟩ := h
                have kj10 : ∀ (y10_s0 : Int32) (I10 : xII), J10 y10_s0 I10 → X G (dp + 13) kX13_chain (oZ A Q) (A.wI I10) 118 [some (.ref m), some (.int (I m 70)), none, none] [.int y10_s0, .int (I4 m 70), .ref (m + 38)] := by
                  intro y10_s0 I10 h
                  replace h := g10 y10_s0 I10 h
                  refine y_iast hG dX13_chain_118 (mo_t69 hM) (mo_aN hM) (mo_n69 hM) o7 (fun I11 e11 => ?_)
                  replace h := h I11 e11
                  refine x_aload_n dX13_chain_119 rfl ?_
                  refine x_dup dX13_chain_120 rfl ?_
                  refine x_get (v := .int (I11 m 70)) hG dX13_chain_121 f_X13_285_12 (mo_t hM) rfl ?_
                  refine x_eqi (v := (I10 m 70)) (xup_ra e11 (by omega)) ?_
                  refine x_iconst_ (v := (1 : Int32)) dX13_chain_124 (by decide) ?_
                  refine x_iadd dX13_chain_125 ?_
                  refine y_put hG hM dX13_chain_126 f_X13_285_12 ⟨_, rfl, Or.inl rfl⟩ rfl rfl ⟨_, rfl⟩ (fun I12 e12 => ?_)
                  replace h := h I12 e12
                  refine x_aload_n dX13_chain_129 rfl ?_
                  refine x_dup dX13_chain_130 rfl ?_
                  refine x_get (v := .int (I12 m 42)) hG dX13_chain_131 f_X13_233_12 (mo_t hM) rfl ?_
                  refine x_eqi (v := (I10 m 42)) ((xup_rk e12 (by decide)).trans (xup_ra e11 (by omega))) ?_
                  refine x_iconst_ (v := (1 : Int32)) dX13_chain_134 (by decide) ?_
                  refine x_iadd dX13_chain_135 ?_
                  refine y_put hG hM dX13_chain_136 f_X13_233_12 ⟨_, rfl, Or.inl rfl⟩ rfl rfl ⟨_, rfl⟩ (fun I13 e13 => ?_)
                  replace h := h I13 e13
                  refine x_aload_n dX13_chain_139 rfl ?_
                  obtain ⟨R14, g14, h⟩ := h
                  refine x_callV hG (Ky := kX13_operand) (As := []) dX13_chain_140 (mo_t hM) rfl lk_X13_466 me_X13_operand is_X13_operand se_X13_operand rfl rfl (Nat.le_of_ble_eq_true rfl) (MX.post (hR.2.2.1 g14) ?_)
                  rintro _ _ ⟨v14, I14, rfl, rfl, zv14, h1⟩
                  replace h := h v14 I14 zv14 h1
                  change X _ _ _ _ (A.wI I14) _ _ (.int v14 :: _)
                  refine x_istore_n dX13_chain_143 (by decide) ?_
                  refine x_goto (tgt := 10) dX13_chain_144 (by decide) ?_
                  obtain ⟨q2, l2, h⟩ := h
                  change X _ _ _ _ _ _ [some (.ref m), some (.int (I m 70)), some (.int v14), none] []
                  exact X.weak (xle_c rfl (xle_c rfl (xle_c rfl (xle_n xle_nil)))) (ih2 q2 l2 v14 I14 h)
                refine x_icmp_le (tgt := 101) dX13_chain_94 (by decide) (fun c94 => ?_) (fun c94 => ?_)
                · replace h := h.1 c94
                  refine x_aload_n dX13_chain_101 rfl ?_
                  refine x_iload_n dX13_chain_102 rfl ?_
                  refine x_via 113 (A' := (A.wI I9)) (lv' := [some (.ref m), some (.int (I m 70)), none, none]) (st' := [.int (if v3 = 0 then (14 : Int32) else (13 : Int32)), .ref m, .int (I4 m 70), .ref (m + 38)]) ?_ (fun k113 => ?_)
                  rotate_left
                  · refine x_if_ne (tgt := 111) dX13_chain_103 (by decide) (fun c103 => ?_) (fun c103 => ?_)
                    · refine x_bipush_ (v := (13 : Int32)) dX13_chain_111 (by decide) ?_
                      change X _ _ _ _ _ _ [some (.ref m), some (.int (I m 70)), none, some (.int v3)] [.int (13 : Int32), .ref m, .int (I4 m 70), .ref (m + 38)]
                      simp only [if_neg c103] at k113 ⊢
                      exact X.weak (xle_c rfl (xle_c rfl (xle_n (xle_n xle_nil)))) k113
                    · refine x_bipush_ (v := (14 : Int32)) dX13_chain_106 (by decide) ?_
                      refine x_goto (tgt := 113) dX13_chain_108 (by decide) ?_
                      change X _ _ _ _ _ _ [some (.ref m), some (.int (I m 70)), none, some (.int v3)] [.int (14 : Int32), .ref m, .int (I4 m 70), .ref (m + 38)]
                      simp only [if_pos c103] at k113 ⊢
                      exact X.weak (xle_c rfl (xle_c rfl (xle_n (xle_n xle_nil)))) k113
                  refine x_iconst_ (v := (0 : Int32)) dX13_chain_113 (by decide) ?_
                  refine x_iconst_ (v := (0 : Int32)) dX13_chain_114 (by decide) ?_
                  obtain ⟨R15, g15, h⟩ := h
                  refine x_callV hG (Ky := kX13_step) (As := [.int (if v3 = 0 then (14 : Int32) else (13 : Int32)), .int (0 : Int32), .int (0 : Int32)]) dX13_chain_115 (mo_t hM) rfl lk_X13_401 me_X13_step is_X13_step se_X13_step rfl rfl (Nat.le_of_ble_eq_true rfl) (MX.post (m_X13_step hG hM g15) ?_)
                  rintro _ _ ⟨v15, I15, rfl, rfl, h1⟩
                  replace h := h v15 I15 h1
                  change X _ _ _ _ (A.wI I15) _ _ (.int v15 :: _)
                  change X _ _ _ _ _ _ [some (.ref m), some (.int (I m 70)), none, none] [.int v15, .int (I4 m 70), .ref (m + 38)]
                  exact X.weak (xle_c rfl (xle_c rfl (xle_n (xle_n xle_nil)))) (kj10 v15 I15 h)
                · replace h := h.2 c94
                  refine x_iconst_ (v := (-1 : Int32)) dX13_chain_97 (by decide) ?_
                  refine x_goto (tgt := 118) dX13_chain_98 (by decide) ?_
                  change X _ _ _ _ _ _ [some (.ref m), some (.int (I m 70)), none, some (.int v3)] [.int (-1 : Int32), .int (I4 m 70), .ref (m + 38)]
                  exact X.weak (xle_c rfl (xle_c rfl (xle_n (xle_n xle_nil)))) (kj10 (-1 : Int32) I9 h)
              · replace h := h.1 c51
                refine x_iconst_ (v := (1 : Int32)) dX13_chain_54 (by decide) ?_
                exact x_zret dX13_chain_55 rfl (by decide) ⟨_, _, rfl, rfl, (by decide), h⟩
            refine x_icmp_le (tgt := 49) dX13_chain_24 (by decide) (fun c24 => ?_) (fun c24 => ?_)
            · replace h := h.1 c24
              change X _ _ _ _ _ _ [some (.ref m), some (.int (I m 70)), none, some (.int v3)] []
              exact X.weak (xle_c rfl (xle_c rfl (xle_n (xle_c rfl xle_nil)))) (kj5 h)
            · replace h := h.2 c24
              refine x_aload_n dX13_chain_27 rfl ?_
              refine x_get (v := .ref (m + 37)) hG dX13_chain_28 f_X13_119_12 (mo_t hM) (congrArg va_rf (mo_P68 hM)) ?_
              refine x_aload_n dX13_chain_31 rfl ?_
              refine x_get (v := .int (I4 m 70)) hG dX13_chain_32 f_X13_285_12 (mo_t hM) rfl ?_
              refine x_iconst_ (v := (1 : Int32)) dX13_chain_35 (by decide) ?_
              refine x_isub dX13_chain_36 ?_
              obtain ⟨o16, h⟩ := h
              refine y_iald hG dX13_chain_37 (mo_t68 hM) (mo_n68 hM) o16 ?_
              refine x_iload_n dX13_chain_38 rfl ?_
              refine x_icmp_lt (tgt := 49) dX13_chain_39 (by decide) (fun c39 => ?_) (fun c39 => ?_)
              · replace h := h.1 c39
                change X _ _ _ _ _ _ [some (.ref m), some (.int (I m 70)), none, some (.int v3)] []
                exact X.weak (xle_c rfl (xle_c rfl (xle_n (xle_c rfl xle_nil)))) (kj5 h)
              · replace h := h.2 c39
                refine x_aload_n dX13_chain_42 rfl ?_
                obtain ⟨R17, g17, h⟩ := h
                refine x_callV hG (Ky := kX13_binds) (As := []) dX13_chain_43 (mo_t hM) rfl lk_X13_472 me_X13_binds is_X13_binds se_X13_binds rfl rfl (Nat.le_of_ble_eq_true rfl) (MX.post (m_X13_binds hG hM g17) ?_)
                rintro _ _ ⟨I17, rfl, rfl, h1⟩
                replace h := h I17 h1
                change X _ _ _ _ (A.wI I17) _ _ _
                refine x_goto (tgt := 19) dX13_chain_46 (by decide) ?_
                obtain ⟨q4, l4, h⟩ := h
                change X _ _ _ _ _ _ [some (.ref m), some (.int (I m 70)), none, some (.int v3)] []
                exact X.weak (xle_c rfl (xle_c rfl (xle_n (xle_c rfl xle_nil)))) (ih4 q4 l4 I17 h)
        change X _ _ _ _ _ _ [some (.ref m), some (.int (I m 70)), some (.int y2_2), some (.int v3)] []
        exact X.weak (xle_c rfl (xle_c rfl (xle_n (xle_c rfl xle_nil)))) (kl4 n4 I3 i4)
  change X _ _ _ _ _ _ [some (.ref m), some (.int (I m 70)), some (.int v1), none] []
  exact X.weak (xle_c rfl (xle_c rfl (xle_c rfl (xle_n xle_nil)))) (kl2 n2 v1 I1 i2)
def w_X13_operand (Rk : Nat → Int32 → Int32 → (Int32 → xII → Prop) → xII → Prop) (m : Nat) (Q : Int32 → xII → Prop) (I : xII) : Prop := ∃ L1 : Nat → xII → Prop, (∃ n1 : Nat, L1 n1 I) ∧ (∀ (n1 : Nat) (I1 : xII), L1 n1 I1 → ∃ R2 : Int32 → xII → Prop, w_X13_isSign m (39 : Int32) R2 I1 ∧ (∀ (v2 : Int32) (I2 : xII), (v2 = 0 ∨ v2 = 1) → R2 v2 I2 → (((v2 = 0 → ∃ R4 : Int32 → xII → Prop, w_X13_isSign m (43 : Int32) R4 I2 ∧ (∀ (v4 : Int32) (I4 : xII), (v4 = 0 ∨ v4 = 1) → R4 v4 I4 → (((v4 = 0 → ∃ R6 : Int32 → xII → Prop, w_X13_isSign m (44 : Int32) R6 I4 ∧ (∀ (v6 : Int32) (I6 : xII), (v6 = 0 ∨ v6 = 1) → R6 v6 I6 → (((v6 = 0 → ∃ R7 : Int32 → xII → Prop, Rk 3 0 0 R7 I6 ∧ (∀ (v7 : Int32) (I7 : xII), (v7 = 0 ∨ v7 = 1) → R7 v7 I7 → (((v7 = 0 → Q (0 : Int32) I7) ∧ (¬ v7 = 0 → ∃ L8 : Nat → Int32 → xII → Prop, (∃ n8 : Nat, L8 n8 ((I6 m 42) - (1 : Int32)) I7) ∧ (∀ (n8 : Nat) (y8_3 : Int32) (I8 : xII), L8 n8 y8_3 I8 → ((y8_3 < (I m 42) → Q (1 : Int32) I8) ∧ (¬ y8_3 < (I m 42) → vp_in y8_3 4002 ∧ (∃ R10 : Int32 → xII → Prop, w_X13_step m (11 : Int32) (I8 (m + 4) (ix y8_3)) (0 : Int32) R10 I8 ∧ (∀ (v10 : Int32) (I10 : xII), R10 v10 I10 → ((∃ q8 : Nat, q8 < n8 ∧ L8 q8 (y8_3 + (-1 : Int32)) I10)))))))))))) ∧ (¬ v6 = 0 → ∀ I11 : xII, I11 = xup I6 m 42 ((I6 m 42) + (1 : Int32)) → ((∃ q1 : Nat, q1 < n1 ∧ L1 q1 I11))))))) ∧ (¬ v4 = 0 → ∀ I5 : xII, I5 = xup I4 m 42 ((I4 m 42) + (1 : Int32)) → ((∃ q1 : Nat, q1 < n1 ∧ L1 q1 I5))))))) ∧ (¬ v2 = 0 → ∀ I3 : xII, I3 = xup I2 m 42 ((I2 m 42) + (1 : Int32)) → ((∃ q1 : Nat, q1 < n1 ∧ L1 q1 I3)))))))
theorem m_X13_operand (hG : xOK G) {dp : Nat} {A : xA} {m : Nat} (hM : xMo G A m) {Rk : Nat → Int32 → Int32 → (Int32 → xII → Prop) → xII → Prop} (hR : xRC_E G (dp + 12) A m Rk) {Q : Int32 → xII → Prop} {I : xII} (h : w_X13_operand Rk m Q I) : MX G (dp + 13) kX13_operand [.ref m] (A.wI I) (oZ A Q) := by
  unfold w_X13_operand at h
  refine MX.of rfl (Nat.le_of_ble_eq_true rfl) ?_
  change X _ _ _ _ _ _ [some (.ref m), none, none, none] _
  refine x_aload_n dX13_operand_0 rfl ?_
  refine x_get (v := .int (I m 42)) hG dX13_operand_1 f_X13_233_12 (mo_t hM) rfl ?_
  refine x_istore_n dX13_operand_4 (by decide) ?_
  obtain ⟨L1, ⟨n1, i1⟩, g1⟩ := h
  have kl1 : ∀ n1 : Nat, ∀ (I1 : xII), L1 n1 I1 → X G (dp + 13) kX13_operand (oZ A Q) (A.wI I1) 5 [some (.ref m), some (.int (I m 42)), none, none] [] := by
    intro n1
    induction n1 using Nat.strongRecOn with
    | ind n1 ih1 =>
      intro I1 h
      replace h := g1 n1 I1 h
      refine x_aload_n dX13_operand_5 rfl ?_
      refine x_bipush_ (v := (39 : Int32)) dX13_operand_6 (by decide) ?_
      obtain ⟨R2, g2, h⟩ := h
      refine x_callV hG (Ky := kX13_isSign) (As := [.int (39 : Int32)]) dX13_operand_8 (mo_t hM) rfl lk_X13_257 me_X13_isSign is_X13_isSign se_X13_isSign rfl rfl (Nat.le_of_ble_eq_true rfl) (MX.post (m_X13_isSign hG hM g2) ?_)
      rintro _ _ ⟨v2, I2, rfl, rfl, zv2, h1⟩
      replace h := h v2 I2 zv2 h1
      change X _ _ _ _ (A.wI I2) _ _ (.int v2 :: _)
      refine x_if_ne (tgt := 32) dX13_operand_11 (by decide) (fun c11 => ?_) (fun c11 => ?_)
      · replace h := h.2 c11
        refine x_aload_n dX13_operand_32 rfl ?_
        refine x_dup dX13_operand_33 rfl ?_
        refine x_get (v := .int (I2 m 42)) hG dX13_operand_34 f_X13_233_12 (mo_t hM) rfl ?_
        refine x_iconst_ (v := (1 : Int32)) dX13_operand_37 (by decide) ?_
        refine x_iadd dX13_operand_38 ?_
        refine y_put hG hM dX13_operand_39 f_X13_233_12 ⟨_, rfl, Or.inl rfl⟩ rfl rfl ⟨_, rfl⟩ (fun I3 e3 => ?_)
        replace h := h I3 e3
        refine x_goto (tgt := 5) dX13_operand_42 (by decide) ?_
        obtain ⟨q1, l1, h⟩ := h
        change X _ _ _ _ _ _ [some (.ref m), some (.int (I m 42)), none, none] []
        exact X.weak (xle_c rfl (xle_c rfl (xle_n (xle_n xle_nil)))) (ih1 q1 l1 I3 h)
      · replace h := h.1 c11
        refine x_aload_n dX13_operand_14 rfl ?_
        refine x_bipush_ (v := (43 : Int32)) dX13_operand_15 (by decide) ?_
        obtain ⟨R4, g4, h⟩ := h
        refine x_callV hG (Ky := kX13_isSign) (As := [.int (43 : Int32)]) dX13_operand_17 (mo_t hM) rfl lk_X13_257 me_X13_isSign is_X13_isSign se_X13_isSign rfl rfl (Nat.le_of_ble_eq_true rfl) (MX.post (m_X13_isSign hG hM g4) ?_)
        rintro _ _ ⟨v4, I4, rfl, rfl, zv4, h1⟩
        replace h := h v4 I4 zv4 h1
        change X _ _ _ _ (A.wI I4) _ _ (.int v4 :: _)
        refine x_if_ne (tgt := 32) dX13_operand_20 (by decide) (fun c20 => ?_) (fun c20 => ?_)
        · replace h := h.2 c20
          refine x_aload_n dX13_operand_32 rfl ?_
          refine x_dup dX13_operand_33 rfl ?_
          refine x_get (v := .int (I4 m 42)) hG dX13_operand_34 f_X13_233_12 (mo_t hM) rfl ?_
          refine x_iconst_ (v := (1 : Int32)) dX13_operand_37 (by decide) ?_
          refine x_iadd dX13_operand_38 ?_
          refine y_put hG hM dX13_operand_39 f_X13_233_12 ⟨_, rfl, Or.inl rfl⟩ rfl rfl ⟨_, rfl⟩ (fun I5 e5 => ?_)
          replace h := h I5 e5
          refine x_goto (tgt := 5) dX13_operand_42 (by decide) ?_
          obtain ⟨q1, l1, h⟩ := h
          change X _ _ _ _ _ _ [some (.ref m), some (.int (I m 42)), none, none] []
          exact X.weak (xle_c rfl (xle_c rfl (xle_n (xle_n xle_nil)))) (ih1 q1 l1 I5 h)
        · replace h := h.1 c20
          refine x_aload_n dX13_operand_23 rfl ?_
          refine x_bipush_ (v := (44 : Int32)) dX13_operand_24 (by decide) ?_
          obtain ⟨R6, g6, h⟩ := h
          refine x_callV hG (Ky := kX13_isSign) (As := [.int (44 : Int32)]) dX13_operand_26 (mo_t hM) rfl lk_X13_257 me_X13_isSign is_X13_isSign se_X13_isSign rfl rfl (Nat.le_of_ble_eq_true rfl) (MX.post (m_X13_isSign hG hM g6) ?_)
          rintro _ _ ⟨v6, I6, rfl, rfl, zv6, h1⟩
          replace h := h v6 I6 zv6 h1
          change X _ _ _ _ (A.wI I6) _ _ (.int v6 :: _)
          refine x_if_eq (tgt := 45) dX13_operand_29 (by decide) (fun c29 => ?_) (fun c29 => ?_)
          · replace h := h.1 c29
            refine x_aload_n dX13_operand_45 rfl ?_
            refine x_get (v := .int (I6 m 42)) hG dX13_operand_46 f_X13_233_12 (mo_t hM) rfl ?_
            refine x_istore_n dX13_operand_49 (by decide) ?_
            refine x_aload_n dX13_operand_50 rfl ?_
            obtain ⟨R7, g7, h⟩ := h
            refine x_callV hG (Ky := kX13_plain) (As := []) dX13_operand_51 (mo_t hM) rfl lk_X13_475 me_X13_plain is_X13_plain se_X13_plain rfl rfl (Nat.le_of_ble_eq_true rfl) (MX.post (hR.2.2.2.1 g7) ?_)
            rintro _ _ ⟨v7, I7, rfl, rfl, zv7, h1⟩
            replace h := h v7 I7 zv7 h1
            change X _ _ _ _ (A.wI I7) _ _ (.int v7 :: _)
            refine x_if_ne (tgt := 59) dX13_operand_54 (by decide) (fun c54 => ?_) (fun c54 => ?_)
            · replace h := h.2 c54
              refine x_iload_n dX13_operand_59 rfl ?_
              refine x_iconst_ (v := (1 : Int32)) dX13_operand_60 (by decide) ?_
              refine x_isub dX13_operand_61 ?_
              refine x_istore_n dX13_operand_62 (by decide) ?_
              obtain ⟨L8, ⟨n8, i8⟩, g8⟩ := h
              have kl8 : ∀ n8 : Nat, ∀ (y8_3 : Int32) (I8 : xII), L8 n8 y8_3 I8 → X G (dp + 13) kX13_operand (oZ A Q) (A.wI I8) 63 [some (.ref m), some (.int (I m 42)), none, some (.int y8_3)] [] := by
                intro n8
                induction n8 using Nat.strongRecOn with
                | ind n8 ih8 =>
                  intro y8_3 I8 h
                  replace h := g8 n8 y8_3 I8 h
                  refine x_iload_n dX13_operand_63 rfl ?_
                  refine x_iload_n dX13_operand_64 rfl ?_
                  refine x_icmp_lt (tgt := 88) dX13_operand_65 (by decide) (fun c65 => ?_) (fun c65 => ?_)
                  · replace h := h.1 c65
                    refine x_iconst_ (v := (1 : Int32)) dX13_operand_88 (by decide) ?_
                    exact x_zret dX13_operand_89 rfl (by decide) ⟨_, _, rfl, rfl, (by decide), h⟩
                  · replace h := h.2 c65
                    refine x_aload_n dX13_operand_68 rfl ?_
                    refine x_bipush_ (v := (11 : Int32)) dX13_operand_69 (by decide) ?_
                    refine x_aload_n dX13_operand_71 rfl ?_
                    refine x_get (v := .ref (m + 4)) hG dX13_operand_72 f_X13_19_12 (mo_t hM) (congrArg va_rf (mo_P5 hM)) ?_
                    refine x_iload_n dX13_operand_75 rfl ?_
                    obtain ⟨o9, h⟩ := h
                    refine y_iald hG dX13_operand_76 (mo_t5 hM) (mo_n5 hM) o9 ?_
                    refine x_iconst_ (v := (0 : Int32)) dX13_operand_77 (by decide) ?_
                    obtain ⟨R10, g10, h⟩ := h
                    refine x_callV hG (Ky := kX13_step) (As := [.int (11 : Int32), .int (I8 (m + 4) (ix y8_3)), .int (0 : Int32)]) dX13_operand_78 (mo_t hM) rfl lk_X13_401 me_X13_step is_X13_step se_X13_step rfl rfl (Nat.le_of_ble_eq_true rfl) (MX.post (m_X13_step hG hM g10) ?_)
                    rintro _ _ ⟨v10, I10, rfl, rfl, h1⟩
                    replace h := h v10 I10 h1
                    change X _ _ _ _ (A.wI I10) _ _ (.int v10 :: _)
                    refine x_pop dX13_operand_81 rfl ?_
                    refine x_iinc (v := (y8_3 + (-1 : Int32))) dX13_operand_82 rfl rfl (by decide) ?_
                    refine x_goto (tgt := 63) dX13_operand_85 (by decide) ?_
                    obtain ⟨q8, l8, h⟩ := h
                    change X _ _ _ _ _ _ [some (.ref m), some (.int (I m 42)), none, some (.int (y8_3 + (-1 : Int32)))] []
                    exact X.weak (xle_c rfl (xle_c rfl (xle_n (xle_c rfl xle_nil)))) (ih8 q8 l8 (y8_3 + (-1 : Int32)) I10 h)
              change X _ _ _ _ _ _ [some (.ref m), some (.int (I m 42)), some (.int (I6 m 42)), some (.int ((I6 m 42) - (1 : Int32)))] []
              exact X.weak (xle_c rfl (xle_c rfl (xle_n (xle_c rfl xle_nil)))) (kl8 n8 ((I6 m 42) - (1 : Int32)) I7 i8)
            · replace h := h.1 c54
              refine x_iconst_ (v := (0 : Int32)) dX13_operand_57 (by decide) ?_
              exact x_zret dX13_operand_58 rfl (by decide) ⟨_, _, rfl, rfl, (by decide), h⟩
          · replace h := h.2 c29
            refine x_aload_n dX13_operand_32 rfl ?_
            refine x_dup dX13_operand_33 rfl ?_
            refine x_get (v := .int (I6 m 42)) hG dX13_operand_34 f_X13_233_12 (mo_t hM) rfl ?_
            refine x_iconst_ (v := (1 : Int32)) dX13_operand_37 (by decide) ?_
            refine x_iadd dX13_operand_38 ?_
            refine y_put hG hM dX13_operand_39 f_X13_233_12 ⟨_, rfl, Or.inl rfl⟩ rfl rfl ⟨_, rfl⟩ (fun I11 e11 => ?_)
            replace h := h I11 e11
            refine x_goto (tgt := 5) dX13_operand_42 (by decide) ?_
            obtain ⟨q1, l1, h⟩ := h
            change X _ _ _ _ _ _ [some (.ref m), some (.int (I m 42)), none, none] []
            exact X.weak (xle_c rfl (xle_c rfl (xle_n (xle_n xle_nil)))) (ih1 q1 l1 I11 h)
  change X _ _ _ _ _ _ [some (.ref m), some (.int (I m 42)), none, none] []
  exact X.weak (xle_c rfl (xle_c rfl (xle_n (xle_n xle_nil)))) (kl1 n1 I i1)
def w_X13_plain (Rk : Nat → Int32 → Int32 → (Int32 → xII → Prop) → xII → Prop) (m : Nat) (Q : Int32 → xII → Prop) (I : xII) : Prop := vp_in (I m 42) 4002 ∧ ((((I (m + 3) (ix (I m 42))) = (3 : Int32) → ∃ R20 : Int32 → xII → Prop, w_X13_step m (0 : Int32) (I (m + 4) (ix (I m 42))) (0 : Int32) R20 I ∧ (∀ (v20 : Int32) (I20 : xII), R20 v20 I20 → (∀ I21 : xII, I21 = xup I20 m 42 ((I20 m 42) + (1 : Int32)) → (Q (1 : Int32) I21)))) ∧ (¬ (I (m + 3) (ix (I m 42))) = (3 : Int32) → ∃ R2 : Int32 → xII → Prop, w_X13_isSign m (22 : Int32) R2 I ∧ (∀ (v2 : Int32) (I2 : xII), (v2 = 0 ∨ v2 = 1) → R2 v2 I2 → (((v2 = 0 → ∃ R3 : Int32 → xII → Prop, w_X13_isWord m (13 : Int32) R3 I2 ∧ (∀ (v3 : Int32) (I3 : xII), (v3 = 0 ∨ v3 = 1) → R3 v3 I3 → (((v3 = 0 → vp_in (I3 m 42) 4002 ∧ ((((I3 (m + 3) (ix (I3 m 42))) = (1 : Int32) → ∀ I5 : xII, I5 = xup I3 m 42 ((I3 m 42) + (1 : Int32)) → ((((I3 m 54) = 0 → ∃ R6 : Int32 → xII → Prop, Rk 5 (I3 m 42) 0 R6 I5 ∧ (∀ (v6 : Int32) (I6 : xII), (v6 = 0 ∨ v6 = 1) → R6 v6 I6 → (Q v6 I6))) ∧ (¬ (I3 m 54) = 0 → ∃ R7 : Int32 → xII → Prop, Rk 4 (I3 m 42) 0 R7 I5 ∧ (∀ (v7 : Int32) (I7 : xII), (v7 = 0 ∨ v7 = 1) → R7 v7 I7 → (Q v7 I7)))))) ∧ (¬ (I3 (m + 3) (ix (I3 m 42))) = (1 : Int32) → ∃ R8 : Int32 → xII → Prop, w_X13_fails m (2 : Int32) R8 I3 ∧ (∀ (v8 : Int32) (I8 : xII), (v8 = 0 ∨ v8 = 1) → R8 v8 I8 → (Q v8 I8)))))) ∧ (¬ v3 = 0 → ∃ J9 : xII → Prop, (∀ (I9 : xII), J9 I9 → ∀ I10 : xII, I10 = xup I9 m 42 ((I9 m 42) + (1 : Int32)) → (∃ R11 : Int32 → xII → Prop, w_X13_openSign m (22 : Int32) R11 I10 ∧ (∀ (v11 : Int32) (I11 : xII), (v11 = 0 ∨ v11 = 1) → R11 v11 I11 → (((v11 = 0 → Q (0 : Int32) I11) ∧ (¬ v11 = 0 → ∃ R12 : Int32 → xII → Prop, w_X13_closeSign m (23 : Int32) R12 I11 ∧ (∀ (v12 : Int32) (I12 : xII), (v12 = 0 ∨ v12 = 1) → R12 v12 I12 → (((v12 = 0 → Q (0 : Int32) I12) ∧ (¬ v12 = 0 → ∃ R13 : Int32 → xII → Prop, w_X13_step m (21 : Int32) (0 : Int32) (0 : Int32) R13 I12 ∧ (∀ (v13 : Int32) (I13 : xII), R13 v13 I13 → (Q (1 : Int32) I13)))))))))))) ∧ (((I3 m 54) = 0 → J9 I3) ∧ (¬ (I3 m 54) = 0 → vp_in (I3 m 42) 4002 ∧ (∃ R15 : xII → Prop, w_X13_note m (10 : Int32) (I3 (m + 5) (ix (I3 m 42))) R15 I3 ∧ (∀ I15 : xII, R15 I15 → (∀ I16 : xII, I16 = xup I15 m 55 (1 : Int32) → (J9 I16))))))))))) ∧ (¬ v2 = 0 → ∃ R17 : Int32 → xII → Prop, w_X13_opens m R17 I2 ∧ (∀ (v17 : Int32) (I17 : xII), (v17 = 0 ∨ v17 = 1) → R17 v17 I17 → (((v17 = 0 → Q (0 : Int32) I17) ∧ (¬ v17 = 0 → ∃ R18 : Int32 → xII → Prop, Rk 0 0 0 R18 I17 ∧ (∀ (v18 : Int32) (I18 : xII), (v18 = 0 ∨ v18 = 1) → R18 v18 I18 → (((v18 = 0 → Q (0 : Int32) I18) ∧ (¬ v18 = 0 → ∃ R19 : Int32 → xII → Prop, w_X13_closeSign m (23 : Int32) R19 I18 ∧ (∀ (v19 : Int32) (I19 : xII), (v19 = 0 ∨ v19 = 1) → R19 v19 I19 → (Q (if v19 = 0 then (0 : Int32) else (1 : Int32)) I19)))))))))))))))))
theorem m_X13_plain (hG : xOK G) {dp : Nat} {A : xA} {m : Nat} (hM : xMo G A m) {Rk : Nat → Int32 → Int32 → (Int32 → xII → Prop) → xII → Prop} (hR : xRC_E G (dp + 12) A m Rk) {Q : Int32 → xII → Prop} {I : xII} (h : w_X13_plain Rk m Q I) : MX G (dp + 13) kX13_plain [.ref m] (A.wI I) (oZ A Q) := by
  unfold w_X13_plain at h
  refine MX.of rfl (Nat.le_of_ble_eq_true rfl) ?_
  change X _ _ _ _ _ _ [some (.ref m), none] _
  refine x_aload_n dX13_plain_0 rfl ?_
  refine x_get (v := .ref (m + 3)) hG dX13_plain_1 f_X13_16_12 (mo_t hM) (congrArg va_rf (mo_P4 hM)) ?_
  refine x_aload_n dX13_plain_4 rfl ?_
  refine x_get (v := .int (I m 42)) hG dX13_plain_5 f_X13_233_12 (mo_t hM) rfl ?_
  obtain ⟨o1, h⟩ := h
  refine y_iald hG dX13_plain_8 (mo_t4 hM) (mo_n4 hM) o1 ?_
  refine x_iconst_ (v := (3 : Int32)) dX13_plain_9 (by decide) ?_
  refine x_icmp_ne (tgt := 41) dX13_plain_10 (by decide) (fun c10 => ?_) (fun c10 => ?_)
  · replace h := h.2 c10
    refine x_aload_n dX13_plain_41 rfl ?_
    refine x_bipush_ (v := (22 : Int32)) dX13_plain_42 (by decide) ?_
    obtain ⟨R2, g2, h⟩ := h
    refine x_callV hG (Ky := kX13_isSign) (As := [.int (22 : Int32)]) dX13_plain_44 (mo_t hM) rfl lk_X13_257 me_X13_isSign is_X13_isSign se_X13_isSign rfl rfl (Nat.le_of_ble_eq_true rfl) (MX.post (m_X13_isSign hG hM g2) ?_)
    rintro _ _ ⟨v2, I2, rfl, rfl, zv2, h1⟩
    replace h := h v2 I2 zv2 h1
    change X _ _ _ _ (A.wI I2) _ _ (.int v2 :: _)
    refine x_if_eq (tgt := 79) dX13_plain_47 (by decide) (fun c47 => ?_) (fun c47 => ?_)
    · replace h := h.1 c47
      refine x_aload_n dX13_plain_79 rfl ?_
      refine x_bipush_ (v := (13 : Int32)) dX13_plain_80 (by decide) ?_
      obtain ⟨R3, g3, h⟩ := h
      refine x_callV hG (Ky := kX13_isWord) (As := [.int (13 : Int32)]) dX13_plain_82 (mo_t hM) rfl lk_X13_263 me_X13_isWord is_X13_isWord se_X13_isWord rfl rfl (Nat.le_of_ble_eq_true rfl) (MX.post (m_X13_isWord hG hM g3) ?_)
      rintro _ _ ⟨v3, I3, rfl, rfl, zv3, h1⟩
      replace h := h v3 I3 zv3 h1
      change X _ _ _ _ (A.wI I3) _ _ (.int v3 :: _)
      refine x_if_eq (tgt := 156) dX13_plain_85 (by decide) (fun c85 => ?_) (fun c85 => ?_)
      · replace h := h.1 c85
        refine x_aload_n dX13_plain_156 rfl ?_
        refine x_get (v := .ref (m + 3)) hG dX13_plain_157 f_X13_16_12 (mo_t hM) (congrArg va_rf (mo_P4 hM)) ?_
        refine x_aload_n dX13_plain_160 rfl ?_
        refine x_get (v := .int (I3 m 42)) hG dX13_plain_161 f_X13_233_12 (mo_t hM) rfl ?_
        obtain ⟨o4, h⟩ := h
        refine y_iald hG dX13_plain_164 (mo_t4 hM) (mo_n4 hM) o4 ?_
        refine x_iconst_ (v := (1 : Int32)) dX13_plain_165 (by decide) ?_
        refine x_icmp_eq (tgt := 175) dX13_plain_166 (by decide) (fun c166 => ?_) (fun c166 => ?_)
        · replace h := h.1 c166
          refine x_aload_n dX13_plain_175 rfl ?_
          refine x_get (v := .int (I3 m 42)) hG dX13_plain_176 f_X13_233_12 (mo_t hM) rfl ?_
          refine x_istore_n dX13_plain_179 (by decide) ?_
          refine x_aload_n dX13_plain_180 rfl ?_
          refine x_dup dX13_plain_181 rfl ?_
          refine x_get (v := .int (I3 m 42)) hG dX13_plain_182 f_X13_233_12 (mo_t hM) rfl ?_
          refine x_iconst_ (v := (1 : Int32)) dX13_plain_185 (by decide) ?_
          refine x_iadd dX13_plain_186 ?_
          refine y_put hG hM dX13_plain_187 f_X13_233_12 ⟨_, rfl, Or.inl rfl⟩ rfl rfl ⟨_, rfl⟩ (fun I5 e5 => ?_)
          replace h := h I5 e5
          refine x_aload_n dX13_plain_190 rfl ?_
          refine x_get (v := .int (I5 m 54)) hG dX13_plain_191 f_X13_365_12 (mo_t hM) rfl ?_
          refine x_eqi (v := (I3 m 54)) (xup_rk e5 (by decide)) ?_
          refine x_if_eq (tgt := 205) dX13_plain_194 (by decide) (fun c194 => ?_) (fun c194 => ?_)
          · replace h := h.1 c194
            refine x_aload_n dX13_plain_205 rfl ?_
            refine x_iload_n dX13_plain_206 rfl ?_
            obtain ⟨R6, g6, h⟩ := h
            refine x_callV hG (Ky := kX13_named) (As := [.int (I3 m 42)]) dX13_plain_207 (mo_t hM) rfl lk_X13_481 me_X13_named is_X13_named se_X13_named rfl rfl (Nat.le_of_ble_eq_true rfl) (MX.post (hR.2.2.2.2.2.1 g6) ?_)
            rintro _ _ ⟨v6, I6, rfl, rfl, zv6, h1⟩
            replace h := h v6 I6 zv6 h1
            change X _ _ _ _ (A.wI I6) _ _ (.int v6 :: _)
            exact x_zret dX13_plain_210 rfl zv6 ⟨_, _, rfl, rfl, zv6, h⟩
          · replace h := h.2 c194
            refine x_aload_n dX13_plain_197 rfl ?_
            refine x_iload_n dX13_plain_198 rfl ?_
            obtain ⟨R7, g7, h⟩ := h
            refine x_callV hG (Ky := kX13_inConstant) (As := [.int (I3 m 42)]) dX13_plain_199 (mo_t hM) rfl lk_X13_478 me_X13_inConstant is_X13_inConstant se_X13_inConstant rfl rfl (Nat.le_of_ble_eq_true rfl) (MX.post (hR.2.2.2.2.1 g7) ?_)
            rintro _ _ ⟨v7, I7, rfl, rfl, zv7, h1⟩
            replace h := h v7 I7 zv7 h1
            change X _ _ _ _ (A.wI I7) _ _ (.int v7 :: _)
            refine x_goto (tgt := 210) dX13_plain_202 (by decide) ?_
            exact x_zret dX13_plain_210 rfl zv7 ⟨_, _, rfl, rfl, zv7, h⟩
        · replace h := h.2 c166
          refine x_aload_n dX13_plain_169 rfl ?_
          refine x_iconst_ (v := (2 : Int32)) dX13_plain_170 (by decide) ?_
          obtain ⟨R8, g8, h⟩ := h
          refine x_callV hG (Ky := kX13_fails) (As := [.int (2 : Int32)]) dX13_plain_171 (mo_t hM) rfl lk_X13_260 me_X13_fails is_X13_fails se_X13_fails rfl rfl (Nat.le_of_ble_eq_true rfl) (MX.post (m_X13_fails hG hM g8) ?_)
          rintro _ _ ⟨v8, I8, rfl, rfl, zv8, h1⟩
          replace h := h v8 I8 zv8 h1
          change X _ _ _ _ (A.wI I8) _ _ (.int v8 :: _)
          exact x_zret dX13_plain_174 rfl zv8 ⟨_, _, rfl, rfl, zv8, h⟩
      · replace h := h.2 c85
        refine x_aload_n dX13_plain_88 rfl ?_
        refine x_get (v := .int (I3 m 54)) hG dX13_plain_89 f_X13_365_12 (mo_t hM) rfl ?_
        obtain ⟨J9, g9, h⟩ := h
        have kj9 : ∀ (I9 : xII), J9 I9 → X G (dp + 13) kX13_plain (oZ A Q) (A.wI I9) 115 [some (.ref m), none] [] := by
          intro I9 h
          replace h := g9 I9 h
          refine x_aload_n dX13_plain_115 rfl ?_
          refine x_dup dX13_plain_116 rfl ?_
          refine x_get (v := .int (I9 m 42)) hG dX13_plain_117 f_X13_233_12 (mo_t hM) rfl ?_
          refine x_iconst_ (v := (1 : Int32)) dX13_plain_120 (by decide) ?_
          refine x_iadd dX13_plain_121 ?_
          refine y_put hG hM dX13_plain_122 f_X13_233_12 ⟨_, rfl, Or.inl rfl⟩ rfl rfl ⟨_, rfl⟩ (fun I10 e10 => ?_)
          replace h := h I10 e10
          refine x_aload_n dX13_plain_125 rfl ?_
          refine x_bipush_ (v := (22 : Int32)) dX13_plain_126 (by decide) ?_
          obtain ⟨R11, g11, h⟩ := h
          refine x_callV hG (Ky := kX13_openSign) (As := [.int (22 : Int32)]) dX13_plain_128 (mo_t hM) rfl lk_X13_356 me_X13_openSign is_X13_openSign se_X13_openSign rfl rfl (Nat.le_of_ble_eq_true rfl) (MX.post (m_X13_openSign hG hM g11) ?_)
          rintro _ _ ⟨v11, I11, rfl, rfl, zv11, h1⟩
          replace h := h v11 I11 zv11 h1
          change X _ _ _ _ (A.wI I11) _ _ (.int v11 :: _)
          refine x_if_eq (tgt := 143) dX13_plain_131 (by decide) (fun c131 => ?_) (fun c131 => ?_)
          · replace h := h.1 c131
            refine x_iconst_ (v := (0 : Int32)) dX13_plain_143 (by decide) ?_
            exact x_zret dX13_plain_144 rfl (by decide) ⟨_, _, rfl, rfl, (by decide), h⟩
          · replace h := h.2 c131
            refine x_aload_n dX13_plain_134 rfl ?_
            refine x_bipush_ (v := (23 : Int32)) dX13_plain_135 (by decide) ?_
            obtain ⟨R12, g12, h⟩ := h
            refine x_callV hG (Ky := kX13_closeSign) (As := [.int (23 : Int32)]) dX13_plain_137 (mo_t hM) rfl lk_X13_362 me_X13_closeSign is_X13_closeSign se_X13_closeSign rfl rfl (Nat.le_of_ble_eq_true rfl) (MX.post (m_X13_closeSign hG hM g12) ?_)
            rintro _ _ ⟨v12, I12, rfl, rfl, zv12, h1⟩
            replace h := h v12 I12 zv12 h1
            change X _ _ _ _ (A.wI I12) _ _ (.int v12 :: _)
            refine x_if_ne (tgt := 145) dX13_plain_140 (by decide) (fun c140 => ?_) (fun c140 => ?_)
            · replace h := h.2 c140
              refine x_aload_n dX13_plain_145 rfl ?_
              refine x_bipush_ (v := (21 : Int32)) dX13_plain_146 (by decide) ?_
              refine x_iconst_ (v := (0 : Int32)) dX13_plain_148 (by decide) ?_
              refine x_iconst_ (v := (0 : Int32)) dX13_plain_149 (by decide) ?_
              obtain ⟨R13, g13, h⟩ := h
              refine x_callV hG (Ky := kX13_step) (As := [.int (21 : Int32), .int (0 : Int32), .int (0 : Int32)]) dX13_plain_150 (mo_t hM) rfl lk_X13_401 me_X13_step is_X13_step se_X13_step rfl rfl (Nat.le_of_ble_eq_true rfl) (MX.post (m_X13_step hG hM g13) ?_)
              rintro _ _ ⟨v13, I13, rfl, rfl, h1⟩
              replace h := h v13 I13 h1
              change X _ _ _ _ (A.wI I13) _ _ (.int v13 :: _)
              refine x_pop dX13_plain_153 rfl ?_
              refine x_iconst_ (v := (1 : Int32)) dX13_plain_154 (by decide) ?_
              exact x_zret dX13_plain_155 rfl (by decide) ⟨_, _, rfl, rfl, (by decide), h⟩
            · replace h := h.1 c140
              refine x_iconst_ (v := (0 : Int32)) dX13_plain_143 (by decide) ?_
              exact x_zret dX13_plain_144 rfl (by decide) ⟨_, _, rfl, rfl, (by decide), h⟩
        refine x_if_eq (tgt := 115) dX13_plain_92 (by decide) (fun c92 => ?_) (fun c92 => ?_)
        · replace h := h.1 c92
          change X _ _ _ _ _ _ [some (.ref m), none] []
          exact X.weak (xle_c rfl (xle_n xle_nil)) (kj9 I3 h)
        · replace h := h.2 c92
          refine x_aload_n dX13_plain_95 rfl ?_
          refine x_bipush_ (v := (10 : Int32)) dX13_plain_96 (by decide) ?_
          refine x_aload_n dX13_plain_98 rfl ?_
          refine x_get (v := .ref (m + 5)) hG dX13_plain_99 f_X13_22_12 (mo_t hM) (congrArg va_rf (mo_P6 hM)) ?_
          refine x_aload_n dX13_plain_102 rfl ?_
          refine x_get (v := .int (I3 m 42)) hG dX13_plain_103 f_X13_233_12 (mo_t hM) rfl ?_
          obtain ⟨o14, h⟩ := h
          refine y_iald hG dX13_plain_106 (mo_t6 hM) (mo_n6 hM) o14 ?_
          obtain ⟨R15, g15, h⟩ := h
          refine x_callV hG (Ky := kX13_note) (As := [.int (10 : Int32), .int (I3 (m + 5) (ix (I3 m 42)))]) dX13_plain_107 (mo_t hM) rfl lk_X13_352 me_X13_note is_X13_note se_X13_note rfl rfl (Nat.le_of_ble_eq_true rfl) (MX.post (m_X13_note hG hM g15) ?_)
          rintro _ _ ⟨I15, rfl, rfl, h1⟩
          replace h := h I15 h1
          change X _ _ _ _ (A.wI I15) _ _ _
          refine x_aload_n dX13_plain_110 rfl ?_
          refine x_iconst_ (v := (1 : Int32)) dX13_plain_111 (by decide) ?_
          refine y_put hG hM dX13_plain_112 f_X13_345_12 ⟨_, rfl, Or.inl rfl⟩ (narrow01 (by decide)) (fits01 (by decide)) ⟨_, rfl⟩ (fun I16 e16 => ?_)
          replace h := h I16 e16
          change X _ _ _ _ _ _ [some (.ref m), none] []
          exact X.weak (xle_c rfl (xle_n xle_nil)) (kj9 I16 h)
    · replace h := h.2 c47
      refine x_aload_n dX13_plain_50 rfl ?_
      obtain ⟨R17, g17, h⟩ := h
      refine x_callV hG (Ky := kX13_opens) (As := []) dX13_plain_51 (mo_t hM) rfl lk_X13_269 me_X13_opens is_X13_opens se_X13_opens rfl rfl (Nat.le_of_ble_eq_true rfl) (MX.post (m_X13_opens hG hM g17) ?_)
      rintro _ _ ⟨v17, I17, rfl, rfl, zv17, h1⟩
      replace h := h v17 I17 zv17 h1
      change X _ _ _ _ (A.wI I17) _ _ (.int v17 :: _)
      refine x_if_eq (tgt := 77) dX13_plain_54 (by decide) (fun c54 => ?_) (fun c54 => ?_)
      · replace h := h.1 c54
        refine x_iconst_ (v := (0 : Int32)) dX13_plain_77 (by decide) ?_
        exact x_zret dX13_plain_78 rfl (by decide) ⟨_, _, rfl, rfl, (by decide), h⟩
      · replace h := h.2 c54
        refine x_aload_n dX13_plain_57 rfl ?_
        obtain ⟨R18, g18, h⟩ := h
        refine x_callV hG (Ky := kX13_expression) (As := []) dX13_plain_58 (mo_t hM) rfl lk_X13_368 me_X13_expression is_X13_expression se_X13_expression rfl rfl (Nat.le_of_ble_eq_true rfl) (MX.post (hR.1 g18) ?_)
        rintro _ _ ⟨v18, I18, rfl, rfl, zv18, h1⟩
        replace h := h v18 I18 zv18 h1
        change X _ _ _ _ (A.wI I18) _ _ (.int v18 :: _)
        refine x_if_eq (tgt := 77) dX13_plain_61 (by decide) (fun c61 => ?_) (fun c61 => ?_)
        · replace h := h.1 c61
          refine x_iconst_ (v := (0 : Int32)) dX13_plain_77 (by decide) ?_
          exact x_zret dX13_plain_78 rfl (by decide) ⟨_, _, rfl, rfl, (by decide), h⟩
        · replace h := h.2 c61
          refine x_aload_n dX13_plain_64 rfl ?_
          refine x_bipush_ (v := (23 : Int32)) dX13_plain_65 (by decide) ?_
          obtain ⟨R19, g19, h⟩ := h
          refine x_callV hG (Ky := kX13_closeSign) (As := [.int (23 : Int32)]) dX13_plain_67 (mo_t hM) rfl lk_X13_362 me_X13_closeSign is_X13_closeSign se_X13_closeSign rfl rfl (Nat.le_of_ble_eq_true rfl) (MX.post (m_X13_closeSign hG hM g19) ?_)
          rintro _ _ ⟨v19, I19, rfl, rfl, zv19, h1⟩
          replace h := h v19 I19 zv19 h1
          change X _ _ _ _ (A.wI I19) _ _ (.int v19 :: _)
          refine x_via 78 (A' := (A.wI I19)) (lv' := [none, none]) (st' := [.int (if v19 = 0 then (0 : Int32) else (1 : Int32))]) ?_ (fun k78 => ?_)
          rotate_left
          · refine x_if_eq (tgt := 77) dX13_plain_70 (by decide) (fun c70 => ?_) (fun c70 => ?_)
            · refine x_iconst_ (v := (0 : Int32)) dX13_plain_77 (by decide) ?_
              change X _ _ _ _ _ _ [some (.ref m), none] [.int (0 : Int32)]
              simp only [if_pos c70] at k78 ⊢
              exact X.weak (xle_n (xle_n xle_nil)) k78
            · refine x_iconst_ (v := (1 : Int32)) dX13_plain_73 (by decide) ?_
              refine x_goto (tgt := 78) dX13_plain_74 (by decide) ?_
              change X _ _ _ _ _ _ [some (.ref m), none] [.int (1 : Int32)]
              simp only [if_neg c70] at k78 ⊢
              exact X.weak (xle_n (xle_n xle_nil)) k78
          exact x_zret dX13_plain_78 rfl ite01 ⟨_, _, rfl, rfl, ite01, h⟩
  · replace h := h.1 c10
    refine x_aload_n dX13_plain_13 rfl ?_
    refine x_iconst_ (v := (0 : Int32)) dX13_plain_14 (by decide) ?_
    refine x_aload_n dX13_plain_15 rfl ?_
    refine x_get (v := .ref (m + 4)) hG dX13_plain_16 f_X13_19_12 (mo_t hM) (congrArg va_rf (mo_P5 hM)) ?_
    refine x_aload_n dX13_plain_19 rfl ?_
    refine x_get (v := .int (I m 42)) hG dX13_plain_20 f_X13_233_12 (mo_t hM) rfl ?_
    refine y_iald hG dX13_plain_23 (mo_t5 hM) (mo_n5 hM) o1 ?_
    refine x_iconst_ (v := (0 : Int32)) dX13_plain_24 (by decide) ?_
    obtain ⟨R20, g20, h⟩ := h
    refine x_callV hG (Ky := kX13_step) (As := [.int (0 : Int32), .int (I (m + 4) (ix (I m 42))), .int (0 : Int32)]) dX13_plain_25 (mo_t hM) rfl lk_X13_401 me_X13_step is_X13_step se_X13_step rfl rfl (Nat.le_of_ble_eq_true rfl) (MX.post (m_X13_step hG hM g20) ?_)
    rintro _ _ ⟨v20, I20, rfl, rfl, h1⟩
    replace h := h v20 I20 h1
    change X _ _ _ _ (A.wI I20) _ _ (.int v20 :: _)
    refine x_pop dX13_plain_28 rfl ?_
    refine x_aload_n dX13_plain_29 rfl ?_
    refine x_dup dX13_plain_30 rfl ?_
    refine x_get (v := .int (I20 m 42)) hG dX13_plain_31 f_X13_233_12 (mo_t hM) rfl ?_
    refine x_iconst_ (v := (1 : Int32)) dX13_plain_34 (by decide) ?_
    refine x_iadd dX13_plain_35 ?_
    refine y_put hG hM dX13_plain_36 f_X13_233_12 ⟨_, rfl, Or.inl rfl⟩ rfl rfl ⟨_, rfl⟩ (fun I21 e21 => ?_)
    replace h := h I21 e21
    refine x_iconst_ (v := (1 : Int32)) dX13_plain_39 (by decide) ?_
    exact x_zret dX13_plain_40 rfl (by decide) ⟨_, _, rfl, rfl, (by decide), h⟩
def w_X13_inConstant (Rk : Nat → Int32 → Int32 → (Int32 → xII → Prop) → xII → Prop) (m : Nat) (n : Int32) (Q : Int32 → xII → Prop) (I : xII) : Prop := ∃ J1 : Int32 → xII → Prop, (∀ (y1_s0 : Int32) (I1 : xII), J1 y1_s0 I1 → ∃ R2 : Int32 → xII → Prop, w_X13_isSign m (24 : Int32) R2 I1 ∧ (∀ (v2 : Int32) (I2 : xII), (v2 = 0 ∨ v2 = 1) → R2 v2 I2 → (∃ J3 : Int32 → xII → Prop, (∀ (y3_s0 : Int32) (I3 : xII), J3 y3_s0 I3 → ∃ J4 : Int32 → Prop, (∀ (y4_s0 : Int32), J4 y4_s0 → ∃ J5 : xII → Prop, (∀ (I5 : xII), J5 I5 → ∃ J6 : xII → Prop, (∀ (I6 : xII), J6 I6 → ∃ J7 : xII → Prop, (∀ (I7 : xII), J7 I7 → ∃ R8 : Int32 → xII → Prop, w_X13_isSign m (22 : Int32) R8 I7 ∧ (∀ (v8 : Int32) (I8 : xII), (v8 = 0 ∨ v8 = 1) → R8 v8 I8 → (((v8 = 0 → ∃ R9 : Int32 → xII → Prop, w_X13_isSign m (24 : Int32) R9 I8 ∧ (∀ (v9 : Int32) (I9 : xII), (v9 = 0 ∨ v9 = 1) → R9 v9 I9 → (((v9 = 0 → ((y3_s0 = 0 → ∃ J10 : Int32 → Prop, (∀ (y10_s0 : Int32), J10 y10_s0 → ∃ R11 : Int32 → xII → Prop, w_X13_step m (0 : Int32) y10_s0 (0 : Int32) R11 I9 ∧ (∀ (v11 : Int32) (I11 : xII), R11 v11 I11 → (Q (1 : Int32) I11))) ∧ ((y4_s0 = 0 → J10 (0 : Int32)) ∧ (¬ y4_s0 = 0 → vp_in y1_s0 900 ∧ (J10 (I9 (m + 14) (ix y1_s0)))))) ∧ (¬ y3_s0 = 0 → Q (1 : Int32) I9))) ∧ (¬ v9 = 0 → ((y3_s0 = 0 → ∃ J13 : Int32 → Prop, (∀ (y13_s0 : Int32), J13 y13_s0 → ∃ R14 : Int32 → xII → Prop, w_X13_step m (0 : Int32) y13_s0 (0 : Int32) R14 I9 ∧ (∀ (v14 : Int32) (I14 : xII), R14 v14 I14 → (Q (1 : Int32) I14))) ∧ ((y4_s0 = 0 → J13 (0 : Int32)) ∧ (¬ y4_s0 = 0 → vp_in y1_s0 900 ∧ (J13 (I9 (m + 14) (ix y1_s0)))))) ∧ (¬ y3_s0 = 0 → vp_in ((I9 m 42) - (1 : Int32)) 4002 ∧ ((((I9 (m + 3) (ix ((I9 m 42) - (1 : Int32)))) = (1 : Int32) → ∃ R17 : Int32 → xII → Prop, Rk 8 (-1 : Int32) 0 R17 I9 ∧ (∀ (v17 : Int32) (I17 : xII), (v17 = 0 ∨ v17 = 1) → R17 v17 I17 → (((v17 = 0 → Q (0 : Int32) I17) ∧ (¬ v17 = 0 → Q (1 : Int32) I17))))) ∧ (¬ (I9 (m + 3) (ix ((I9 m 42) - (1 : Int32)))) = (1 : Int32) → Q (1 : Int32) I9)))))))))) ∧ (¬ v8 = 0 → ∃ R18 : Int32 → xII → Prop, Rk 6 n (0 : Int32) R18 I8 ∧ (∀ (v18 : Int32) (I18 : xII), (v18 = 0 ∨ v18 = 1) → R18 v18 I18 → (((v18 = 0 → Q (0 : Int32) I18) ∧ (¬ v18 = 0 → ∃ R19 : Int32 → xII → Prop, w_X13_isSign m (24 : Int32) R19 I18 ∧ (∀ (v19 : Int32) (I19 : xII), (v19 = 0 ∨ v19 = 1) → R19 v19 I19 → (((v19 = 0 → ((y3_s0 = 0 → ∃ J20 : Int32 → Prop, (∀ (y20_s0 : Int32), J20 y20_s0 → ∃ R21 : Int32 → xII → Prop, w_X13_step m (0 : Int32) y20_s0 (0 : Int32) R21 I19 ∧ (∀ (v21 : Int32) (I21 : xII), R21 v21 I21 → (Q (1 : Int32) I21))) ∧ ((y4_s0 = 0 → J20 (0 : Int32)) ∧ (¬ y4_s0 = 0 → vp_in y1_s0 900 ∧ (J20 (I19 (m + 14) (ix y1_s0)))))) ∧ (¬ y3_s0 = 0 → Q (1 : Int32) I19))) ∧ (¬ v19 = 0 → ((y3_s0 = 0 → ∃ J23 : Int32 → Prop, (∀ (y23_s0 : Int32), J23 y23_s0 → ∃ R24 : Int32 → xII → Prop, w_X13_step m (0 : Int32) y23_s0 (0 : Int32) R24 I19 ∧ (∀ (v24 : Int32) (I24 : xII), R24 v24 I24 → (Q (1 : Int32) I24))) ∧ ((y4_s0 = 0 → J23 (0 : Int32)) ∧ (¬ y4_s0 = 0 → vp_in y1_s0 900 ∧ (J23 (I19 (m + 14) (ix y1_s0)))))) ∧ (¬ y3_s0 = 0 → vp_in ((I19 m 42) - (1 : Int32)) 4002 ∧ ((((I19 (m + 3) (ix ((I19 m 42) - (1 : Int32)))) = (1 : Int32) → ∃ R27 : Int32 → xII → Prop, Rk 8 (-1 : Int32) 0 R27 I19 ∧ (∀ (v27 : Int32) (I27 : xII), (v27 = 0 ∨ v27 = 1) → R27 v27 I27 → (((v27 = 0 → Q (0 : Int32) I27) ∧ (¬ v27 = 0 → Q (1 : Int32) I27))))) ∧ (¬ (I19 (m + 3) (ix ((I19 m 42) - (1 : Int32)))) = (1 : Int32) → Q (1 : Int32) I19)))))))))))))))))) ∧ ((y4_s0 = 0 → ∀ I28 : xII, I28 = xup I6 m 55 (1 : Int32) → (J7 I28)) ∧ (¬ y4_s0 = 0 → ((y3_s0 = 0 → vp_in y1_s0 900 ∧ ((((I6 (m + 15) (ix y1_s0)) = (-1 : Int32) → ∀ I31 : xII, I31 = xup I6 m 55 (1 : Int32) → (J7 I31)) ∧ (¬ (I6 (m + 15) (ix y1_s0)) = (-1 : Int32) → J7 I6)))) ∧ (¬ y3_s0 = 0 → ∀ I29 : xII, I29 = xup I6 m 55 (1 : Int32) → (J7 I29)))))) ∧ (((I5 m 46) ≤ 0 → J6 I5) ∧ (¬ (I5 m 46) ≤ 0 → (((if y1_s0 = (-1 : Int32) then (if (I1 m 62) = (-1 : Int32) then (1 : Int32) else (0 : Int32)) else (0 : Int32)) = 0 → ((y4_s0 = 0 → vp_in n 4002 ∧ (∃ R33 : xII → Prop, w_X13_note m (10 : Int32) (I5 (m + 5) (ix n)) R33 I5 ∧ (∀ I33 : xII, R33 I33 → (J6 I33)))) ∧ (¬ y4_s0 = 0 → ((y3_s0 = 0 → J6 I5) ∧ (¬ y3_s0 = 0 → vp_in n 4002 ∧ (∃ R35 : xII → Prop, w_X13_note m (10 : Int32) (I5 (m + 5) (ix n)) R35 I5 ∧ (∀ I35 : xII, R35 I35 → (J6 I35)))))))) ∧ (¬ (if y1_s0 = (-1 : Int32) then (if (I1 m 62) = (-1 : Int32) then (1 : Int32) else (0 : Int32)) else (0 : Int32)) = 0 → J6 I5))))) ∧ (((I3 m 46) ≤ 0 → J5 I3) ∧ (¬ (I3 m 46) ≤ 0 → (((if y1_s0 = (-1 : Int32) then (if (I1 m 62) = (-1 : Int32) then (1 : Int32) else (0 : Int32)) else (0 : Int32)) = 0 → J5 I3) ∧ (¬ (if y1_s0 = (-1 : Int32) then (if (I1 m 62) = (-1 : Int32) then (1 : Int32) else (0 : Int32)) else (0 : Int32)) = 0 → vp_in n 4002 ∧ (∃ R37 : xII → Prop, w_X13_note m (4 : Int32) (I3 (m + 5) (ix n)) R37 I3 ∧ (∀ I37 : xII, R37 I37 → (J5 I37)))))))) ∧ ((y1_s0 = (-1 : Int32) → J4 (0 : Int32)) ∧ (¬ y1_s0 = (-1 : Int32) → vp_in y1_s0 900 ∧ ((((I3 (m + 11) (ix y1_s0)) = 0 → J4 (1 : Int32)) ∧ (¬ (I3 (m + 11) (ix y1_s0)) = 0 → J4 (0 : Int32))))))) ∧ ((v2 = 0 → ∃ R39 : Int32 → xII → Prop, w_X13_isSign m (22 : Int32) R39 I2 ∧ (∀ (v39 : Int32) (I39 : xII), (v39 = 0 ∨ v39 = 1) → R39 v39 I39 → (((v39 = 0 → J3 (0 : Int32) I39) ∧ (¬ v39 = 0 → J3 (1 : Int32) I39))))) ∧ (¬ v2 = 0 → J3 (1 : Int32) I2))))) ∧ (((I m 46) = 0 → J1 (-1 : Int32) I) ∧ (¬ (I m 46) = 0 → ∃ R40 : Int32 → xII → Prop, w_X13_meaning m n R40 I ∧ (∀ (v40 : Int32) (I40 : xII), R40 v40 I40 → (J1 v40 I40))))
theorem m_X13_inConstant (hG : xOK G) {dp : Nat} {A : xA} {m : Nat} (hM : xMo G A m) {Rk : Nat → Int32 → Int32 → (Int32 → xII → Prop) → xII → Prop} (hR : xRC_E G (dp + 12) A m Rk) {n : Int32} {Q : Int32 → xII → Prop} {I : xII} (h : w_X13_inConstant Rk m n Q I) : MX G (dp + 13) kX13_inConstant [.ref m, .int n] (A.wI I) (oZ A Q) := by
  unfold w_X13_inConstant at h
  refine MX.of rfl (Nat.le_of_ble_eq_true rfl) ?_
  change X _ _ _ _ _ _ [some (.ref m), some (.int n), none, none, none, none] _
  refine x_aload_n dX13_inConstant_0 rfl ?_
  refine x_get (v := .int (I m 46)) hG dX13_inConstant_1 f_X13_245_12 (mo_t hM) rfl ?_
  obtain ⟨J1, g1, h⟩ := h
  have kj1 : ∀ (y1_s0 : Int32) (I1 : xII), J1 y1_s0 I1 → X G (dp + 13) kX13_inConstant (oZ A Q) (A.wI I1) 16 [some (.ref m), some (.int n), none, none, none, none] [.int y1_s0] := by
    intro y1_s0 I1 h
    replace h := g1 y1_s0 I1 h
    refine x_istore_n dX13_inConstant_16 (by decide) ?_
    refine x_iload_n dX13_inConstant_17 rfl ?_
    refine x_iconst_ (v := (-1 : Int32)) dX13_inConstant_18 (by decide) ?_
    refine x_via 35 (A' := (A.wI I1)) (lv' := [some (.ref m), some (.int n), some (.int y1_s0), none, none, none]) (st' := [.int (if y1_s0 = (-1 : Int32) then (if (I1 m 62) = (-1 : Int32) then (1 : Int32) else (0 : Int32)) else (0 : Int32))]) ?_ (fun k35 => ?_)
    rotate_left
    · refine x_icmp_ne (tgt := 34) dX13_inConstant_19 (by decide) (fun c19 => ?_) (fun c19 => ?_)
      · refine x_iconst_ (v := (0 : Int32)) dX13_inConstant_34 (by decide) ?_
        change X _ _ _ _ _ _ [some (.ref m), some (.int n), some (.int y1_s0), none, none, none] [.int (0 : Int32)]
        simp only [if_neg c19] at k35 ⊢
        exact X.weak (xle_c rfl (xle_c rfl (xle_c rfl (xle_n (xle_n (xle_n xle_nil)))))) k35
      · refine x_aload_n dX13_inConstant_22 rfl ?_
        refine x_get (v := .int (I1 m 62)) hG dX13_inConstant_23 f_X13_374_12 (mo_t hM) rfl ?_
        refine x_iconst_ (v := (-1 : Int32)) dX13_inConstant_26 (by decide) ?_
        refine x_icmp_ne (tgt := 34) dX13_inConstant_27 (by decide) (fun c27 => ?_) (fun c27 => ?_)
        · refine x_iconst_ (v := (0 : Int32)) dX13_inConstant_34 (by decide) ?_
          change X _ _ _ _ _ _ [some (.ref m), some (.int n), some (.int y1_s0), none, none, none] [.int (0 : Int32)]
          try simp only [if_pos c19] at c27 k35 ⊢
          try simp only [if_neg c27] at k35 ⊢
          exact X.weak (xle_c rfl (xle_c rfl (xle_c rfl (xle_n (xle_n (xle_n xle_nil)))))) k35
        · refine x_iconst_ (v := (1 : Int32)) dX13_inConstant_30 (by decide) ?_
          refine x_goto (tgt := 35) dX13_inConstant_31 (by decide) ?_
          change X _ _ _ _ _ _ [some (.ref m), some (.int n), some (.int y1_s0), none, none, none] [.int (1 : Int32)]
          try simp only [if_pos c19] at c27 k35 ⊢
          try simp only [if_pos c27] at k35 ⊢
          exact X.weak (xle_c rfl (xle_c rfl (xle_c rfl (xle_n (xle_n (xle_n xle_nil)))))) k35
    refine x_istore_n dX13_inConstant_35 (by decide) ?_
    refine x_aload_n dX13_inConstant_36 rfl ?_
    refine x_bipush_ (v := (24 : Int32)) dX13_inConstant_37 (by decide) ?_
    obtain ⟨R2, g2, h⟩ := h
    refine x_callV hG (Ky := kX13_isSign) (As := [.int (24 : Int32)]) dX13_inConstant_39 (mo_t hM) rfl lk_X13_257 me_X13_isSign is_X13_isSign se_X13_isSign rfl rfl (Nat.le_of_ble_eq_true rfl) (MX.post (m_X13_isSign hG hM g2) ?_)
    rintro _ _ ⟨v2, I2, rfl, rfl, zv2, h1⟩
    replace h := h v2 I2 zv2 h1
    change X _ _ _ _ (A.wI I2) _ _ (.int v2 :: _)
    obtain ⟨J3, g3, h⟩ := h
    have kj3 : ∀ (y3_s0 : Int32) (I3 : xII), J3 y3_s0 I3 → X G (dp + 13) kX13_inConstant (oZ A Q) (A.wI I3) 59 [some (.ref m), some (.int n), some (.int y1_s0), some (.int (if y1_s0 = (-1 : Int32) then (if (I1 m 62) = (-1 : Int32) then (1 : Int32) else (0 : Int32)) else (0 : Int32))), none, none] [.int y3_s0] := by
      intro y3_s0 I3 h
      replace h := g3 y3_s0 I3 h
      refine x_istore dX13_inConstant_59 (by decide) ?_
      refine x_iload_n dX13_inConstant_61 rfl ?_
      refine x_iconst_ (v := (-1 : Int32)) dX13_inConstant_62 (by decide) ?_
      obtain ⟨J4, g4, h⟩ := h
      have kj4 : ∀ (y4_s0 : Int32), J4 y4_s0 → X G (dp + 13) kX13_inConstant (oZ A Q) (A.wI I3) 80 [some (.ref m), some (.int n), some (.int y1_s0), some (.int (if y1_s0 = (-1 : Int32) then (if (I1 m 62) = (-1 : Int32) then (1 : Int32) else (0 : Int32)) else (0 : Int32))), some (.int y3_s0), none] [.int y4_s0] := by
        intro y4_s0 h
        replace h := g4 y4_s0 h
        refine x_istore dX13_inConstant_80 (by decide) ?_
        refine x_aload_n dX13_inConstant_82 rfl ?_
        refine x_get (v := .int (I3 m 46)) hG dX13_inConstant_83 f_X13_245_12 (mo_t hM) rfl ?_
        obtain ⟨J5, g5, h⟩ := h
        have kj5 : ∀ (I5 : xII), J5 I5 → X G (dp + 13) kX13_inConstant (oZ A Q) (A.wI I5) 104 [some (.ref m), some (.int n), some (.int y1_s0), some (.int (if y1_s0 = (-1 : Int32) then (if (I1 m 62) = (-1 : Int32) then (1 : Int32) else (0 : Int32)) else (0 : Int32))), some (.int y3_s0), some (.int y4_s0)] [] := by
          intro I5 h
          replace h := g5 I5 h
          refine x_aload_n dX13_inConstant_104 rfl ?_
          refine x_get (v := .int (I5 m 46)) hG dX13_inConstant_105 f_X13_245_12 (mo_t hM) rfl ?_
          obtain ⟨J6, g6, h⟩ := h
          have kj6 : ∀ (I6 : xII), J6 I6 → X G (dp + 13) kX13_inConstant (oZ A Q) (A.wI I6) 137 [some (.ref m), some (.int n), some (.int y1_s0), none, some (.int y3_s0), some (.int y4_s0)] [] := by
            intro I6 h
            replace h := g6 I6 h
            refine x_iload dX13_inConstant_137 rfl ?_
            obtain ⟨J7, g7, h⟩ := h
            have kj7 : ∀ (I7 : xII), J7 I7 → X G (dp + 13) kX13_inConstant (oZ A Q) (A.wI I7) 162 [some (.ref m), some (.int n), some (.int y1_s0), none, some (.int y3_s0), some (.int y4_s0)] [] := by
              intro I7 h
              replace h := g7 I7 h
              refine x_aload_n dX13_inConstant_162 rfl ?_
              refine x_bipush_ (v := (22 : Int32)) dX13_inConstant_163 (by decide) ?_
              obtain ⟨R8, g8, h⟩ := h
              refine x_callV hG (Ky := kX13_isSign) (As := [.int (22 : Int32)]) dX13_inConstant_165 (mo_t hM) rfl lk_X13_257 me_X13_isSign is_X13_isSign se_X13_isSign rfl rfl (Nat.le_of_ble_eq_true rfl) (MX.post (m_X13_isSign hG hM g8) ?_)
              rintro _ _ ⟨v8, I8, rfl, rfl, zv8, h1⟩
              replace h := h v8 I8 zv8 h1
              change X _ _ _ _ (A.wI I8) _ _ (.int v8 :: _)
              refine x_if_eq (tgt := 182) dX13_inConstant_168 (by decide) (fun c168 => ?_) (fun c168 => ?_)
              · replace h := h.1 c168
                refine x_aload_n dX13_inConstant_182 rfl ?_
                refine x_bipush_ (v := (24 : Int32)) dX13_inConstant_183 (by decide) ?_
                obtain ⟨R9, g9, h⟩ := h
                refine x_callV hG (Ky := kX13_isSign) (As := [.int (24 : Int32)]) dX13_inConstant_185 (mo_t hM) rfl lk_X13_257 me_X13_isSign is_X13_isSign se_X13_isSign rfl rfl (Nat.le_of_ble_eq_true rfl) (MX.post (m_X13_isSign hG hM g9) ?_)
                rintro _ _ ⟨v9, I9, rfl, rfl, zv9, h1⟩
                replace h := h v9 I9 zv9 h1
                change X _ _ _ _ (A.wI I9) _ _ (.int v9 :: _)
                refine x_if_eq (tgt := 221) dX13_inConstant_188 (by decide) (fun c188 => ?_) (fun c188 => ?_)
                · replace h := h.1 c188
                  refine x_iload dX13_inConstant_221 rfl ?_
                  refine x_if_ne (tgt := 248) dX13_inConstant_223 (by decide) (fun c223 => ?_) (fun c223 => ?_)
                  · replace h := h.2 c223
                    refine x_iconst_ (v := (1 : Int32)) dX13_inConstant_248 (by decide) ?_
                    exact x_zret dX13_inConstant_249 rfl (by decide) ⟨_, _, rfl, rfl, (by decide), h⟩
                  · replace h := h.1 c223
                    refine x_aload_n dX13_inConstant_226 rfl ?_
                    refine x_iconst_ (v := (0 : Int32)) dX13_inConstant_227 (by decide) ?_
                    refine x_iload dX13_inConstant_228 rfl ?_
                    obtain ⟨J10, g10, h⟩ := h
                    have kj10 : ∀ (y10_s0 : Int32), J10 y10_s0 → X G (dp + 13) kX13_inConstant (oZ A Q) (A.wI I9) 243 [none, none, none, none, none, none] [.int y10_s0, .int (0 : Int32), .ref m] := by
                      intro y10_s0 h
                      replace h := g10 y10_s0 h
                      refine x_iconst_ (v := (0 : Int32)) dX13_inConstant_243 (by decide) ?_
                      obtain ⟨R11, g11, h⟩ := h
                      refine x_callV hG (Ky := kX13_step) (As := [.int (0 : Int32), .int y10_s0, .int (0 : Int32)]) dX13_inConstant_244 (mo_t hM) rfl lk_X13_401 me_X13_step is_X13_step se_X13_step rfl rfl (Nat.le_of_ble_eq_true rfl) (MX.post (m_X13_step hG hM g11) ?_)
                      rintro _ _ ⟨v11, I11, rfl, rfl, h1⟩
                      replace h := h v11 I11 h1
                      change X _ _ _ _ (A.wI I11) _ _ (.int v11 :: _)
                      refine x_pop dX13_inConstant_247 rfl ?_
                      refine x_iconst_ (v := (1 : Int32)) dX13_inConstant_248 (by decide) ?_
                      exact x_zret dX13_inConstant_249 rfl (by decide) ⟨_, _, rfl, rfl, (by decide), h⟩
                    refine x_if_eq (tgt := 242) dX13_inConstant_230 (by decide) (fun c230 => ?_) (fun c230 => ?_)
                    · replace h := h.1 c230
                      refine x_iconst_ (v := (0 : Int32)) dX13_inConstant_242 (by decide) ?_
                      change X _ _ _ _ _ _ [some (.ref m), some (.int n), some (.int y1_s0), none, some (.int y3_s0), some (.int y4_s0)] [.int (0 : Int32), .int (0 : Int32), .ref m]
                      exact X.weak (xle_n (xle_n (xle_n (xle_n (xle_n (xle_n xle_nil)))))) (kj10 (0 : Int32) h)
                    · replace h := h.2 c230
                      refine x_aload_n dX13_inConstant_233 rfl ?_
                      refine x_get (v := .ref (m + 14)) hG dX13_inConstant_234 f_X13_49_12 (mo_t hM) (congrArg va_rf (mo_P20 hM)) ?_
                      refine x_iload_n dX13_inConstant_237 rfl ?_
                      obtain ⟨o12, h⟩ := h
                      refine y_iald hG dX13_inConstant_238 (mo_t20 hM) (mo_n20 hM) o12 ?_
                      refine x_goto (tgt := 243) dX13_inConstant_239 (by decide) ?_
                      change X _ _ _ _ _ _ [some (.ref m), some (.int n), some (.int y1_s0), none, some (.int y3_s0), some (.int y4_s0)] [.int (I9 (m + 14) (ix y1_s0)), .int (0 : Int32), .ref m]
                      exact X.weak (xle_n (xle_n (xle_n (xle_n (xle_n (xle_n xle_nil)))))) (kj10 (I9 (m + 14) (ix y1_s0)) h)
                · replace h := h.2 c188
                  refine x_iload dX13_inConstant_191 rfl ?_
                  refine x_if_eq (tgt := 221) dX13_inConstant_193 (by decide) (fun c193 => ?_) (fun c193 => ?_)
                  · replace h := h.1 c193
                    refine x_iload dX13_inConstant_221 rfl ?_
                    refine x_if_ne (tgt := 248) dX13_inConstant_223 (by decide) (fun h => absurd c193 h) (fun _ => ?_)
                    refine x_aload_n dX13_inConstant_226 rfl ?_
                    refine x_iconst_ (v := (0 : Int32)) dX13_inConstant_227 (by decide) ?_
                    refine x_iload dX13_inConstant_228 rfl ?_
                    obtain ⟨J13, g13, h⟩ := h
                    have kj13 : ∀ (y13_s0 : Int32), J13 y13_s0 → X G (dp + 13) kX13_inConstant (oZ A Q) (A.wI I9) 243 [none, none, none, none, none, none] [.int y13_s0, .int (0 : Int32), .ref m] := by
                      intro y13_s0 h
                      replace h := g13 y13_s0 h
                      refine x_iconst_ (v := (0 : Int32)) dX13_inConstant_243 (by decide) ?_
                      obtain ⟨R14, g14, h⟩ := h
                      refine x_callV hG (Ky := kX13_step) (As := [.int (0 : Int32), .int y13_s0, .int (0 : Int32)]) dX13_inConstant_244 (mo_t hM) rfl lk_X13_401 me_X13_step is_X13_step se_X13_step rfl rfl (Nat.le_of_ble_eq_true rfl) (MX.post (m_X13_step hG hM g14) ?_)
                      rintro _ _ ⟨v14, I14, rfl, rfl, h1⟩
                      replace h := h v14 I14 h1
                      change X _ _ _ _ (A.wI I14) _ _ (.int v14 :: _)
                      refine x_pop dX13_inConstant_247 rfl ?_
                      refine x_iconst_ (v := (1 : Int32)) dX13_inConstant_248 (by decide) ?_
                      exact x_zret dX13_inConstant_249 rfl (by decide) ⟨_, _, rfl, rfl, (by decide), h⟩
                    refine x_if_eq (tgt := 242) dX13_inConstant_230 (by decide) (fun c230 => ?_) (fun c230 => ?_)
                    · replace h := h.1 c230
                      refine x_iconst_ (v := (0 : Int32)) dX13_inConstant_242 (by decide) ?_
                      change X _ _ _ _ _ _ [some (.ref m), some (.int n), some (.int y1_s0), none, some (.int y3_s0), some (.int y4_s0)] [.int (0 : Int32), .int (0 : Int32), .ref m]
                      exact X.weak (xle_n (xle_n (xle_n (xle_n (xle_n (xle_n xle_nil)))))) (kj13 (0 : Int32) h)
                    · replace h := h.2 c230
                      refine x_aload_n dX13_inConstant_233 rfl ?_
                      refine x_get (v := .ref (m + 14)) hG dX13_inConstant_234 f_X13_49_12 (mo_t hM) (congrArg va_rf (mo_P20 hM)) ?_
                      refine x_iload_n dX13_inConstant_237 rfl ?_
                      obtain ⟨o15, h⟩ := h
                      refine y_iald hG dX13_inConstant_238 (mo_t20 hM) (mo_n20 hM) o15 ?_
                      refine x_goto (tgt := 243) dX13_inConstant_239 (by decide) ?_
                      change X _ _ _ _ _ _ [some (.ref m), some (.int n), some (.int y1_s0), none, some (.int y3_s0), some (.int y4_s0)] [.int (I9 (m + 14) (ix y1_s0)), .int (0 : Int32), .ref m]
                      exact X.weak (xle_n (xle_n (xle_n (xle_n (xle_n (xle_n xle_nil)))))) (kj13 (I9 (m + 14) (ix y1_s0)) h)
                  · replace h := h.2 c193
                    refine x_aload_n dX13_inConstant_196 rfl ?_
                    refine x_get (v := .ref (m + 3)) hG dX13_inConstant_197 f_X13_16_12 (mo_t hM) (congrArg va_rf (mo_P4 hM)) ?_
                    refine x_aload_n dX13_inConstant_200 rfl ?_
                    refine x_get (v := .int (I9 m 42)) hG dX13_inConstant_201 f_X13_233_12 (mo_t hM) rfl ?_
                    refine x_iconst_ (v := (1 : Int32)) dX13_inConstant_204 (by decide) ?_
                    refine x_isub dX13_inConstant_205 ?_
                    obtain ⟨o16, h⟩ := h
                    refine y_iald hG dX13_inConstant_206 (mo_t4 hM) (mo_n4 hM) o16 ?_
                    refine x_iconst_ (v := (1 : Int32)) dX13_inConstant_207 (by decide) ?_
                    refine x_icmp_ne (tgt := 221) dX13_inConstant_208 (by decide) (fun c208 => ?_) (fun c208 => ?_)
                    · replace h := h.2 c208
                      refine x_iload dX13_inConstant_221 rfl ?_
                      refine x_if_ne (tgt := 248) dX13_inConstant_223 (by decide) (fun _ => ?_) (fun h => absurd h c193)
                      refine x_iconst_ (v := (1 : Int32)) dX13_inConstant_248 (by decide) ?_
                      exact x_zret dX13_inConstant_249 rfl (by decide) ⟨_, _, rfl, rfl, (by decide), h⟩
                    · replace h := h.1 c208
                      refine x_aload_n dX13_inConstant_211 rfl ?_
                      refine x_iconst_ (v := (-1 : Int32)) dX13_inConstant_212 (by decide) ?_
                      obtain ⟨R17, g17, h⟩ := h
                      refine x_callV hG (Ky := kX13_element) (As := [.int (-1 : Int32)]) dX13_inConstant_213 (mo_t hM) rfl lk_X13_460 me_X13_element is_X13_element se_X13_element rfl rfl (Nat.le_of_ble_eq_true rfl) (MX.post (hR.2.2.2.2.2.2.2.2 g17) ?_)
                      rintro _ _ ⟨v17, I17, rfl, rfl, zv17, h1⟩
                      replace h := h v17 I17 zv17 h1
                      change X _ _ _ _ (A.wI I17) _ _ (.int v17 :: _)
                      refine x_if_ne (tgt := 221) dX13_inConstant_216 (by decide) (fun c216 => ?_) (fun c216 => ?_)
                      · replace h := h.2 c216
                        refine x_iload dX13_inConstant_221 rfl ?_
                        refine x_if_ne (tgt := 248) dX13_inConstant_223 (by decide) (fun _ => ?_) (fun h => absurd h c193)
                        refine x_iconst_ (v := (1 : Int32)) dX13_inConstant_248 (by decide) ?_
                        exact x_zret dX13_inConstant_249 rfl (by decide) ⟨_, _, rfl, rfl, (by decide), h⟩
                      · replace h := h.1 c216
                        refine x_iconst_ (v := (0 : Int32)) dX13_inConstant_219 (by decide) ?_
                        exact x_zret dX13_inConstant_220 rfl (by decide) ⟨_, _, rfl, rfl, (by decide), h⟩
              · replace h := h.2 c168
                refine x_aload_n dX13_inConstant_171 rfl ?_
                refine x_iload_n dX13_inConstant_172 rfl ?_
                refine x_iconst_ (v := (0 : Int32)) dX13_inConstant_173 (by decide) ?_
                obtain ⟨R18, g18, h⟩ := h
                refine x_callV hG (Ky := kX13_call) (As := [.int n, .int (0 : Int32)]) dX13_inConstant_174 (mo_t hM) rfl lk_X13_454 me_X13_call is_X13_call se_X13_call rfl rfl (Nat.le_of_ble_eq_true rfl) (MX.post (hR.2.2.2.2.2.2.1 g18) ?_)
                rintro _ _ ⟨v18, I18, rfl, rfl, zv18, h1⟩
                replace h := h v18 I18 zv18 h1
                change X _ _ _ _ (A.wI I18) _ _ (.int v18 :: _)
                refine x_if_ne (tgt := 182) dX13_inConstant_177 (by decide) (fun c177 => ?_) (fun c177 => ?_)
                · replace h := h.2 c177
                  refine x_aload_n dX13_inConstant_182 rfl ?_
                  refine x_bipush_ (v := (24 : Int32)) dX13_inConstant_183 (by decide) ?_
                  obtain ⟨R19, g19, h⟩ := h
                  refine x_callV hG (Ky := kX13_isSign) (As := [.int (24 : Int32)]) dX13_inConstant_185 (mo_t hM) rfl lk_X13_257 me_X13_isSign is_X13_isSign se_X13_isSign rfl rfl (Nat.le_of_ble_eq_true rfl) (MX.post (m_X13_isSign hG hM g19) ?_)
                  rintro _ _ ⟨v19, I19, rfl, rfl, zv19, h1⟩
                  replace h := h v19 I19 zv19 h1
                  change X _ _ _ _ (A.wI I19) _ _ (.int v19 :: _)
                  refine x_if_eq (tgt := 221) dX13_inConstant_188 (by decide) (fun c188 => ?_) (fun c188 => ?_)
                  · replace h := h.1 c188
                    refine x_iload dX13_inConstant_221 rfl ?_
                    refine x_if_ne (tgt := 248) dX13_inConstant_223 (by decide) (fun c223 => ?_) (fun c223 => ?_)
                    · replace h := h.2 c223
                      refine x_iconst_ (v := (1 : Int32)) dX13_inConstant_248 (by decide) ?_
                      exact x_zret dX13_inConstant_249 rfl (by decide) ⟨_, _, rfl, rfl, (by decide), h⟩
                    · replace h := h.1 c223
                      refine x_aload_n dX13_inConstant_226 rfl ?_
                      refine x_iconst_ (v := (0 : Int32)) dX13_inConstant_227 (by decide) ?_
                      refine x_iload dX13_inConstant_228 rfl ?_
                      obtain ⟨J20, g20, h⟩ := h
                      have kj20 : ∀ (y20_s0 : Int32), J20 y20_s0 → X G (dp + 13) kX13_inConstant (oZ A Q) (A.wI I19) 243 [none, none, none, none, none, none] [.int y20_s0, .int (0 : Int32), .ref m] := by
                        intro y20_s0 h
                        replace h := g20 y20_s0 h
                        refine x_iconst_ (v := (0 : Int32)) dX13_inConstant_243 (by decide) ?_
                        obtain ⟨R21, g21, h⟩ := h
                        refine x_callV hG (Ky := kX13_step) (As := [.int (0 : Int32), .int y20_s0, .int (0 : Int32)]) dX13_inConstant_244 (mo_t hM) rfl lk_X13_401 me_X13_step is_X13_step se_X13_step rfl rfl (Nat.le_of_ble_eq_true rfl) (MX.post (m_X13_step hG hM g21) ?_)
                        rintro _ _ ⟨v21, I21, rfl, rfl, h1⟩
                        replace h := h v21 I21 h1
                        change X _ _ _ _ (A.wI I21) _ _ (.int v21 :: _)
                        refine x_pop dX13_inConstant_247 rfl ?_
                        refine x_iconst_ (v := (1 : Int32)) dX13_inConstant_248 (by decide) ?_
                        exact x_zret dX13_inConstant_249 rfl (by decide) ⟨_, _, rfl, rfl, (by decide), h⟩
                      refine x_if_eq (tgt := 242) dX13_inConstant_230 (by decide) (fun c230 => ?_) (fun c230 => ?_)
                      · replace h := h.1 c230
                        refine x_iconst_ (v := (0 : Int32)) dX13_inConstant_242 (by decide) ?_
                        change X _ _ _ _ _ _ [some (.ref m), some (.int n), some (.int y1_s0), none, some (.int y3_s0), some (.int y4_s0)] [.int (0 : Int32), .int (0 : Int32), .ref m]
                        exact X.weak (xle_n (xle_n (xle_n (xle_n (xle_n (xle_n xle_nil)))))) (kj20 (0 : Int32) h)
                      · replace h := h.2 c230
                        refine x_aload_n dX13_inConstant_233 rfl ?_
                        refine x_get (v := .ref (m + 14)) hG dX13_inConstant_234 f_X13_49_12 (mo_t hM) (congrArg va_rf (mo_P20 hM)) ?_
                        refine x_iload_n dX13_inConstant_237 rfl ?_
                        obtain ⟨o22, h⟩ := h
                        refine y_iald hG dX13_inConstant_238 (mo_t20 hM) (mo_n20 hM) o22 ?_
                        refine x_goto (tgt := 243) dX13_inConstant_239 (by decide) ?_
                        change X _ _ _ _ _ _ [some (.ref m), some (.int n), some (.int y1_s0), none, some (.int y3_s0), some (.int y4_s0)] [.int (I19 (m + 14) (ix y1_s0)), .int (0 : Int32), .ref m]
                        exact X.weak (xle_n (xle_n (xle_n (xle_n (xle_n (xle_n xle_nil)))))) (kj20 (I19 (m + 14) (ix y1_s0)) h)
                  · replace h := h.2 c188
                    refine x_iload dX13_inConstant_191 rfl ?_
                    refine x_if_eq (tgt := 221) dX13_inConstant_193 (by decide) (fun c193 => ?_) (fun c193 => ?_)
                    · replace h := h.1 c193
                      refine x_iload dX13_inConstant_221 rfl ?_
                      refine x_if_ne (tgt := 248) dX13_inConstant_223 (by decide) (fun h => absurd c193 h) (fun _ => ?_)
                      refine x_aload_n dX13_inConstant_226 rfl ?_
                      refine x_iconst_ (v := (0 : Int32)) dX13_inConstant_227 (by decide) ?_
                      refine x_iload dX13_inConstant_228 rfl ?_
                      obtain ⟨J23, g23, h⟩ := h
                      have kj23 : ∀ (y23_s0 : Int32), J23 y23_s0 → X G (dp + 13) kX13_inConstant (oZ A Q) (A.wI I19) 243 [none, none, none, none, none, none] [.int y23_s0, .int (0 : Int32), .ref m] := by
                        intro y23_s0 h
                        replace h := g23 y23_s0 h
                        refine x_iconst_ (v := (0 : Int32)) dX13_inConstant_243 (by decide) ?_
                        obtain ⟨R24, g24, h⟩ := h
                        refine x_callV hG (Ky := kX13_step) (As := [.int (0 : Int32), .int y23_s0, .int (0 : Int32)]) dX13_inConstant_244 (mo_t hM) rfl lk_X13_401 me_X13_step is_X13_step se_X13_step rfl rfl (Nat.le_of_ble_eq_true rfl) (MX.post (m_X13_step hG hM g24) ?_)
                        rintro _ _ ⟨v24, I24, rfl, rfl, h1⟩
                        replace h := h v24 I24 h1
                        change X _ _ _ _ (A.wI I24) _ _ (.int v24 :: _)
                        refine x_pop dX13_inConstant_247 rfl ?_
                        refine x_iconst_ (v := (1 : Int32)) dX13_inConstant_248 (by decide) ?_
                        exact x_zret dX13_inConstant_249 rfl (by decide) ⟨_, _, rfl, rfl, (by decide), h⟩
                      refine x_if_eq (tgt := 242) dX13_inConstant_230 (by decide) (fun c230 => ?_) (fun c230 => ?_)
                      · replace h := h.1 c230
                        refine x_iconst_ (v := (0 : Int32)) dX13_inConstant_242 (by decide) ?_
                        change X _ _ _ _ _ _ [some (.ref m), some (.int n), some (.int y1_s0), none, some (.int y3_s0), some (.int y4_s0)] [.int (0 : Int32), .int (0 : Int32), .ref m]
                        exact X.weak (xle_n (xle_n (xle_n (xle_n (xle_n (xle_n xle_nil)))))) (kj23 (0 : Int32) h)
                      · replace h := h.2 c230
                        refine x_aload_n dX13_inConstant_233 rfl ?_
                        refine x_get (v := .ref (m + 14)) hG dX13_inConstant_234 f_X13_49_12 (mo_t hM) (congrArg va_rf (mo_P20 hM)) ?_
                        refine x_iload_n dX13_inConstant_237 rfl ?_
                        obtain ⟨o25, h⟩ := h
                        refine y_iald hG dX13_inConstant_238 (mo_t20 hM) (mo_n20 hM) o25 ?_
                        refine x_goto (tgt := 243) dX13_inConstant_239 (by decide) ?_
                        change X _ _ _ _ _ _ [some (.ref m), some (.int n), some (.int y1_s0), none, some (.int y3_s0), some (.int y4_s0)] [.int (I19 (m + 14) (ix y1_s0)), .int (0 : Int32), .ref m]
                        exact X.weak (xle_n (xle_n (xle_n (xle_n (xle_n (xle_n xle_nil)))))) (kj23 (I19 (m + 14) (ix y1_s0)) h)
                    · replace h := h.2 c193
                      refine x_aload_n dX13_inConstant_196 rfl ?_
                      refine x_get (v := .ref (m + 3)) hG dX13_inConstant_197 f_X13_16_12 (mo_t hM) (congrArg va_rf (mo_P4 hM)) ?_
                      refine x_aload_n dX13_inConstant_200 rfl ?_
                      refine x_get (v := .int (I19 m 42)) hG dX13_inConstant_201 f_X13_233_12 (mo_t hM) rfl ?_
                      refine x_iconst_ (v := (1 : Int32)) dX13_inConstant_204 (by decide) ?_
                      refine x_isub dX13_inConstant_205 ?_
                      obtain ⟨o26, h⟩ := h
                      refine y_iald hG dX13_inConstant_206 (mo_t4 hM) (mo_n4 hM) o26 ?_
                      refine x_iconst_ (v := (1 : Int32)) dX13_inConstant_207 (by decide) ?_
                      refine x_icmp_ne (tgt := 221) dX13_inConstant_208 (by decide) (fun c208 => ?_) (fun c208 => ?_)
                      · replace h := h.2 c208
                        refine x_iload dX13_inConstant_221 rfl ?_
                        refine x_if_ne (tgt := 248) dX13_inConstant_223 (by decide) (fun _ => ?_) (fun h => absurd h c193)
                        refine x_iconst_ (v := (1 : Int32)) dX13_inConstant_248 (by decide) ?_
                        exact x_zret dX13_inConstant_249 rfl (by decide) ⟨_, _, rfl, rfl, (by decide), h⟩
                      · replace h := h.1 c208
                        refine x_aload_n dX13_inConstant_211 rfl ?_
                        refine x_iconst_ (v := (-1 : Int32)) dX13_inConstant_212 (by decide) ?_
                        obtain ⟨R27, g27, h⟩ := h
                        refine x_callV hG (Ky := kX13_element) (As := [.int (-1 : Int32)]) dX13_inConstant_213 (mo_t hM) rfl lk_X13_460 me_X13_element is_X13_element se_X13_element rfl rfl (Nat.le_of_ble_eq_true rfl) (MX.post (hR.2.2.2.2.2.2.2.2 g27) ?_)
                        rintro _ _ ⟨v27, I27, rfl, rfl, zv27, h1⟩
                        replace h := h v27 I27 zv27 h1
                        change X _ _ _ _ (A.wI I27) _ _ (.int v27 :: _)
                        refine x_if_ne (tgt := 221) dX13_inConstant_216 (by decide) (fun c216 => ?_) (fun c216 => ?_)
                        · replace h := h.2 c216
                          refine x_iload dX13_inConstant_221 rfl ?_
                          refine x_if_ne (tgt := 248) dX13_inConstant_223 (by decide) (fun _ => ?_) (fun h => absurd h c193)
                          refine x_iconst_ (v := (1 : Int32)) dX13_inConstant_248 (by decide) ?_
                          exact x_zret dX13_inConstant_249 rfl (by decide) ⟨_, _, rfl, rfl, (by decide), h⟩
                        · replace h := h.1 c216
                          refine x_iconst_ (v := (0 : Int32)) dX13_inConstant_219 (by decide) ?_
                          exact x_zret dX13_inConstant_220 rfl (by decide) ⟨_, _, rfl, rfl, (by decide), h⟩
                · replace h := h.1 c177
                  refine x_iconst_ (v := (0 : Int32)) dX13_inConstant_180 (by decide) ?_
                  exact x_zret dX13_inConstant_181 rfl (by decide) ⟨_, _, rfl, rfl, (by decide), h⟩
            refine x_if_eq (tgt := 157) dX13_inConstant_139 (by decide) (fun c139 => ?_) (fun c139 => ?_)
            · replace h := h.1 c139
              refine x_aload_n dX13_inConstant_157 rfl ?_
              refine x_iconst_ (v := (1 : Int32)) dX13_inConstant_158 (by decide) ?_
              refine y_put hG hM dX13_inConstant_159 f_X13_345_12 ⟨_, rfl, Or.inl rfl⟩ (narrow01 (by decide)) (fits01 (by decide)) ⟨_, rfl⟩ (fun I28 e28 => ?_)
              replace h := h I28 e28
              change X _ _ _ _ _ _ [some (.ref m), some (.int n), some (.int y1_s0), none, some (.int y3_s0), some (.int y4_s0)] []
              exact X.weak (xle_c rfl (xle_c rfl (xle_c rfl (xle_n (xle_c rfl (xle_c rfl xle_nil)))))) (kj7 I28 h)
            · replace h := h.2 c139
              refine x_iload dX13_inConstant_142 rfl ?_
              refine x_if_ne (tgt := 157) dX13_inConstant_144 (by decide) (fun c144 => ?_) (fun c144 => ?_)
              · replace h := h.2 c144
                refine x_aload_n dX13_inConstant_157 rfl ?_
                refine x_iconst_ (v := (1 : Int32)) dX13_inConstant_158 (by decide) ?_
                refine y_put hG hM dX13_inConstant_159 f_X13_345_12 ⟨_, rfl, Or.inl rfl⟩ (narrow01 (by decide)) (fits01 (by decide)) ⟨_, rfl⟩ (fun I29 e29 => ?_)
                replace h := h I29 e29
                change X _ _ _ _ _ _ [some (.ref m), some (.int n), some (.int y1_s0), none, some (.int y3_s0), some (.int y4_s0)] []
                exact X.weak (xle_c rfl (xle_c rfl (xle_c rfl (xle_n (xle_c rfl (xle_c rfl xle_nil)))))) (kj7 I29 h)
              · replace h := h.1 c144
                refine x_aload_n dX13_inConstant_147 rfl ?_
                refine x_get (v := .ref (m + 15)) hG dX13_inConstant_148 f_X13_52_12 (mo_t hM) (congrArg va_rf (mo_P21 hM)) ?_
                refine x_iload_n dX13_inConstant_151 rfl ?_
                obtain ⟨o30, h⟩ := h
                refine y_iald hG dX13_inConstant_152 (mo_t21 hM) (mo_n21 hM) o30 ?_
                refine x_iconst_ (v := (-1 : Int32)) dX13_inConstant_153 (by decide) ?_
                refine x_icmp_ne (tgt := 162) dX13_inConstant_154 (by decide) (fun c154 => ?_) (fun c154 => ?_)
                · replace h := h.2 c154
                  change X _ _ _ _ _ _ [some (.ref m), some (.int n), some (.int y1_s0), none, some (.int y3_s0), some (.int y4_s0)] []
                  exact X.weak (xle_c rfl (xle_c rfl (xle_c rfl (xle_n (xle_c rfl (xle_c rfl xle_nil)))))) (kj7 I6 h)
                · replace h := h.1 c154
                  refine x_aload_n dX13_inConstant_157 rfl ?_
                  refine x_iconst_ (v := (1 : Int32)) dX13_inConstant_158 (by decide) ?_
                  refine y_put hG hM dX13_inConstant_159 f_X13_345_12 ⟨_, rfl, Or.inl rfl⟩ (narrow01 (by decide)) (fits01 (by decide)) ⟨_, rfl⟩ (fun I31 e31 => ?_)
                  replace h := h I31 e31
                  change X _ _ _ _ _ _ [some (.ref m), some (.int n), some (.int y1_s0), none, some (.int y3_s0), some (.int y4_s0)] []
                  exact X.weak (xle_c rfl (xle_c rfl (xle_c rfl (xle_n (xle_c rfl (xle_c rfl xle_nil)))))) (kj7 I31 h)
          refine x_if_le (tgt := 137) dX13_inConstant_108 (by decide) (fun c108 => ?_) (fun c108 => ?_)
          · replace h := h.1 c108
            change X _ _ _ _ _ _ [some (.ref m), some (.int n), some (.int y1_s0), some (.int (if y1_s0 = (-1 : Int32) then (if (I1 m 62) = (-1 : Int32) then (1 : Int32) else (0 : Int32)) else (0 : Int32))), some (.int y3_s0), some (.int y4_s0)] []
            exact X.weak (xle_c rfl (xle_c rfl (xle_c rfl (xle_n (xle_c rfl (xle_c rfl xle_nil)))))) (kj6 I5 h)
          · replace h := h.2 c108
            refine x_iload_n dX13_inConstant_111 rfl ?_
            refine x_if_ne (tgt := 137) dX13_inConstant_112 (by decide) (fun c112 => ?_) (fun c112 => ?_)
            · replace h := h.2 c112
              change X _ _ _ _ _ _ [some (.ref m), some (.int n), some (.int y1_s0), some (.int (if y1_s0 = (-1 : Int32) then (if (I1 m 62) = (-1 : Int32) then (1 : Int32) else (0 : Int32)) else (0 : Int32))), some (.int y3_s0), some (.int y4_s0)] []
              exact X.weak (xle_c rfl (xle_c rfl (xle_c rfl (xle_n (xle_c rfl (xle_c rfl xle_nil)))))) (kj6 I5 h)
            · replace h := h.1 c112
              refine x_iload dX13_inConstant_115 rfl ?_
              refine x_if_eq (tgt := 125) dX13_inConstant_117 (by decide) (fun c117 => ?_) (fun c117 => ?_)
              · replace h := h.1 c117
                refine x_aload_n dX13_inConstant_125 rfl ?_
                refine x_bipush_ (v := (10 : Int32)) dX13_inConstant_126 (by decide) ?_
                refine x_aload_n dX13_inConstant_128 rfl ?_
                refine x_get (v := .ref (m + 5)) hG dX13_inConstant_129 f_X13_22_12 (mo_t hM) (congrArg va_rf (mo_P6 hM)) ?_
                refine x_iload_n dX13_inConstant_132 rfl ?_
                obtain ⟨o32, h⟩ := h
                refine y_iald hG dX13_inConstant_133 (mo_t6 hM) (mo_n6 hM) o32 ?_
                obtain ⟨R33, g33, h⟩ := h
                refine x_callV hG (Ky := kX13_note) (As := [.int (10 : Int32), .int (I5 (m + 5) (ix n))]) dX13_inConstant_134 (mo_t hM) rfl lk_X13_352 me_X13_note is_X13_note se_X13_note rfl rfl (Nat.le_of_ble_eq_true rfl) (MX.post (m_X13_note hG hM g33) ?_)
                rintro _ _ ⟨I33, rfl, rfl, h1⟩
                replace h := h I33 h1
                change X _ _ _ _ (A.wI I33) _ _ _
                change X _ _ _ _ _ _ [some (.ref m), some (.int n), some (.int y1_s0), some (.int (if y1_s0 = (-1 : Int32) then (if (I1 m 62) = (-1 : Int32) then (1 : Int32) else (0 : Int32)) else (0 : Int32))), some (.int y3_s0), some (.int y4_s0)] []
                exact X.weak (xle_c rfl (xle_c rfl (xle_c rfl (xle_n (xle_c rfl (xle_c rfl xle_nil)))))) (kj6 I33 h)
              · replace h := h.2 c117
                refine x_iload dX13_inConstant_120 rfl ?_
                refine x_if_eq (tgt := 137) dX13_inConstant_122 (by decide) (fun c122 => ?_) (fun c122 => ?_)
                · replace h := h.1 c122
                  change X _ _ _ _ _ _ [some (.ref m), some (.int n), some (.int y1_s0), some (.int (if y1_s0 = (-1 : Int32) then (if (I1 m 62) = (-1 : Int32) then (1 : Int32) else (0 : Int32)) else (0 : Int32))), some (.int y3_s0), some (.int y4_s0)] []
                  exact X.weak (xle_c rfl (xle_c rfl (xle_c rfl (xle_n (xle_c rfl (xle_c rfl xle_nil)))))) (kj6 I5 h)
                · replace h := h.2 c122
                  refine x_aload_n dX13_inConstant_125 rfl ?_
                  refine x_bipush_ (v := (10 : Int32)) dX13_inConstant_126 (by decide) ?_
                  refine x_aload_n dX13_inConstant_128 rfl ?_
                  refine x_get (v := .ref (m + 5)) hG dX13_inConstant_129 f_X13_22_12 (mo_t hM) (congrArg va_rf (mo_P6 hM)) ?_
                  refine x_iload_n dX13_inConstant_132 rfl ?_
                  obtain ⟨o34, h⟩ := h
                  refine y_iald hG dX13_inConstant_133 (mo_t6 hM) (mo_n6 hM) o34 ?_
                  obtain ⟨R35, g35, h⟩ := h
                  refine x_callV hG (Ky := kX13_note) (As := [.int (10 : Int32), .int (I5 (m + 5) (ix n))]) dX13_inConstant_134 (mo_t hM) rfl lk_X13_352 me_X13_note is_X13_note se_X13_note rfl rfl (Nat.le_of_ble_eq_true rfl) (MX.post (m_X13_note hG hM g35) ?_)
                  rintro _ _ ⟨I35, rfl, rfl, h1⟩
                  replace h := h I35 h1
                  change X _ _ _ _ (A.wI I35) _ _ _
                  change X _ _ _ _ _ _ [some (.ref m), some (.int n), some (.int y1_s0), some (.int (if y1_s0 = (-1 : Int32) then (if (I1 m 62) = (-1 : Int32) then (1 : Int32) else (0 : Int32)) else (0 : Int32))), some (.int y3_s0), some (.int y4_s0)] []
                  exact X.weak (xle_c rfl (xle_c rfl (xle_c rfl (xle_n (xle_c rfl (xle_c rfl xle_nil)))))) (kj6 I35 h)
        refine x_if_le (tgt := 104) dX13_inConstant_86 (by decide) (fun c86 => ?_) (fun c86 => ?_)
        · replace h := h.1 c86
          change X _ _ _ _ _ _ [some (.ref m), some (.int n), some (.int y1_s0), some (.int (if y1_s0 = (-1 : Int32) then (if (I1 m 62) = (-1 : Int32) then (1 : Int32) else (0 : Int32)) else (0 : Int32))), some (.int y3_s0), some (.int y4_s0)] []
          exact X.weak (xle_c rfl (xle_c rfl (xle_c rfl (xle_c rfl (xle_c rfl (xle_c rfl xle_nil)))))) (kj5 I3 h)
        · replace h := h.2 c86
          refine x_iload_n dX13_inConstant_89 rfl ?_
          refine x_if_eq (tgt := 104) dX13_inConstant_90 (by decide) (fun c90 => ?_) (fun c90 => ?_)
          · replace h := h.1 c90
            change X _ _ _ _ _ _ [some (.ref m), some (.int n), some (.int y1_s0), some (.int (if y1_s0 = (-1 : Int32) then (if (I1 m 62) = (-1 : Int32) then (1 : Int32) else (0 : Int32)) else (0 : Int32))), some (.int y3_s0), some (.int y4_s0)] []
            exact X.weak (xle_c rfl (xle_c rfl (xle_c rfl (xle_c rfl (xle_c rfl (xle_c rfl xle_nil)))))) (kj5 I3 h)
          · replace h := h.2 c90
            refine x_aload_n dX13_inConstant_93 rfl ?_
            refine x_iconst_ (v := (4 : Int32)) dX13_inConstant_94 (by decide) ?_
            refine x_aload_n dX13_inConstant_95 rfl ?_
            refine x_get (v := .ref (m + 5)) hG dX13_inConstant_96 f_X13_22_12 (mo_t hM) (congrArg va_rf (mo_P6 hM)) ?_
            refine x_iload_n dX13_inConstant_99 rfl ?_
            obtain ⟨o36, h⟩ := h
            refine y_iald hG dX13_inConstant_100 (mo_t6 hM) (mo_n6 hM) o36 ?_
            obtain ⟨R37, g37, h⟩ := h
            refine x_callV hG (Ky := kX13_note) (As := [.int (4 : Int32), .int (I3 (m + 5) (ix n))]) dX13_inConstant_101 (mo_t hM) rfl lk_X13_352 me_X13_note is_X13_note se_X13_note rfl rfl (Nat.le_of_ble_eq_true rfl) (MX.post (m_X13_note hG hM g37) ?_)
            rintro _ _ ⟨I37, rfl, rfl, h1⟩
            replace h := h I37 h1
            change X _ _ _ _ (A.wI I37) _ _ _
            change X _ _ _ _ _ _ [some (.ref m), some (.int n), some (.int y1_s0), some (.int (if y1_s0 = (-1 : Int32) then (if (I1 m 62) = (-1 : Int32) then (1 : Int32) else (0 : Int32)) else (0 : Int32))), some (.int y3_s0), some (.int y4_s0)] []
            exact X.weak (xle_c rfl (xle_c rfl (xle_c rfl (xle_c rfl (xle_c rfl (xle_c rfl xle_nil)))))) (kj5 I37 h)
      refine x_icmp_eq (tgt := 79) dX13_inConstant_63 (by decide) (fun c63 => ?_) (fun c63 => ?_)
      · replace h := h.1 c63
        refine x_iconst_ (v := (0 : Int32)) dX13_inConstant_79 (by decide) ?_
        change X _ _ _ _ _ _ [some (.ref m), some (.int n), some (.int y1_s0), some (.int (if y1_s0 = (-1 : Int32) then (if (I1 m 62) = (-1 : Int32) then (1 : Int32) else (0 : Int32)) else (0 : Int32))), some (.int y3_s0), none] [.int (0 : Int32)]
        exact X.weak (xle_c rfl (xle_c rfl (xle_c rfl (xle_c rfl (xle_c rfl (xle_n xle_nil)))))) (kj4 (0 : Int32) h)
      · replace h := h.2 c63
        refine x_aload_n dX13_inConstant_66 rfl ?_
        refine x_get (v := .ref (m + 11)) hG dX13_inConstant_67 f_X13_40_12 (mo_t hM) (congrArg va_rf (mo_P17 hM)) ?_
        refine x_iload_n dX13_inConstant_70 rfl ?_
        obtain ⟨o38, h⟩ := h
        refine y_iald hG dX13_inConstant_71 (mo_t17 hM) (mo_n17 hM) o38 ?_
        refine x_if_ne (tgt := 79) dX13_inConstant_72 (by decide) (fun c72 => ?_) (fun c72 => ?_)
        · replace h := h.2 c72
          refine x_iconst_ (v := (0 : Int32)) dX13_inConstant_79 (by decide) ?_
          change X _ _ _ _ _ _ [some (.ref m), some (.int n), some (.int y1_s0), some (.int (if y1_s0 = (-1 : Int32) then (if (I1 m 62) = (-1 : Int32) then (1 : Int32) else (0 : Int32)) else (0 : Int32))), some (.int y3_s0), none] [.int (0 : Int32)]
          exact X.weak (xle_c rfl (xle_c rfl (xle_c rfl (xle_c rfl (xle_c rfl (xle_n xle_nil)))))) (kj4 (0 : Int32) h)
        · replace h := h.1 c72
          refine x_iconst_ (v := (1 : Int32)) dX13_inConstant_75 (by decide) ?_
          refine x_goto (tgt := 80) dX13_inConstant_76 (by decide) ?_
          change X _ _ _ _ _ _ [some (.ref m), some (.int n), some (.int y1_s0), some (.int (if y1_s0 = (-1 : Int32) then (if (I1 m 62) = (-1 : Int32) then (1 : Int32) else (0 : Int32)) else (0 : Int32))), some (.int y3_s0), none] [.int (1 : Int32)]
          exact X.weak (xle_c rfl (xle_c rfl (xle_c rfl (xle_c rfl (xle_c rfl (xle_n xle_nil)))))) (kj4 (1 : Int32) h)
    refine x_if_ne (tgt := 54) dX13_inConstant_42 (by decide) (fun c42 => ?_) (fun c42 => ?_)
    · replace h := h.2 c42
      refine x_iconst_ (v := (1 : Int32)) dX13_inConstant_54 (by decide) ?_
      refine x_goto (tgt := 59) dX13_inConstant_55 (by decide) ?_
      change X _ _ _ _ _ _ [some (.ref m), some (.int n), some (.int y1_s0), some (.int (if y1_s0 = (-1 : Int32) then (if (I1 m 62) = (-1 : Int32) then (1 : Int32) else (0 : Int32)) else (0 : Int32))), none, none] [.int (1 : Int32)]
      exact X.weak (xle_c rfl (xle_c rfl (xle_c rfl (xle_c rfl (xle_n (xle_n xle_nil)))))) (kj3 (1 : Int32) I2 h)
    · replace h := h.1 c42
      refine x_aload_n dX13_inConstant_45 rfl ?_
      refine x_bipush_ (v := (22 : Int32)) dX13_inConstant_46 (by decide) ?_
      obtain ⟨R39, g39, h⟩ := h
      refine x_callV hG (Ky := kX13_isSign) (As := [.int (22 : Int32)]) dX13_inConstant_48 (mo_t hM) rfl lk_X13_257 me_X13_isSign is_X13_isSign se_X13_isSign rfl rfl (Nat.le_of_ble_eq_true rfl) (MX.post (m_X13_isSign hG hM g39) ?_)
      rintro _ _ ⟨v39, I39, rfl, rfl, zv39, h1⟩
      replace h := h v39 I39 zv39 h1
      change X _ _ _ _ (A.wI I39) _ _ (.int v39 :: _)
      refine x_if_eq (tgt := 58) dX13_inConstant_51 (by decide) (fun c51 => ?_) (fun c51 => ?_)
      · replace h := h.1 c51
        refine x_iconst_ (v := (0 : Int32)) dX13_inConstant_58 (by decide) ?_
        change X _ _ _ _ _ _ [some (.ref m), some (.int n), some (.int y1_s0), some (.int (if y1_s0 = (-1 : Int32) then (if (I1 m 62) = (-1 : Int32) then (1 : Int32) else (0 : Int32)) else (0 : Int32))), none, none] [.int (0 : Int32)]
        exact X.weak (xle_c rfl (xle_c rfl (xle_c rfl (xle_c rfl (xle_n (xle_n xle_nil)))))) (kj3 (0 : Int32) I39 h)
      · replace h := h.2 c51
        refine x_iconst_ (v := (1 : Int32)) dX13_inConstant_54 (by decide) ?_
        refine x_goto (tgt := 59) dX13_inConstant_55 (by decide) ?_
        change X _ _ _ _ _ _ [some (.ref m), some (.int n), some (.int y1_s0), some (.int (if y1_s0 = (-1 : Int32) then (if (I1 m 62) = (-1 : Int32) then (1 : Int32) else (0 : Int32)) else (0 : Int32))), none, none] [.int (1 : Int32)]
        exact X.weak (xle_c rfl (xle_c rfl (xle_c rfl (xle_c rfl (xle_n (xle_n xle_nil)))))) (kj3 (1 : Int32) I39 h)
  refine x_if_ne (tgt := 11) dX13_inConstant_4 (by decide) (fun c4 => ?_) (fun c4 => ?_)
  · replace h := h.2 c4
    refine x_aload_n dX13_inConstant_11 rfl ?_
    refine x_iload_n dX13_inConstant_12 rfl ?_
    obtain ⟨R40, g40, h⟩ := h
    refine x_callV hG (Ky := kX13_meaning) (As := [.int n]) dX13_inConstant_13 (mo_t hM) rfl lk_X13_457 me_X13_meaning is_X13_meaning se_X13_meaning rfl rfl (Nat.le_of_ble_eq_true rfl) (MX.post (m_X13_meaning hG hM g40) ?_)
    rintro _ _ ⟨v40, I40, rfl, rfl, h1⟩
    replace h := h v40 I40 h1
    change X _ _ _ _ (A.wI I40) _ _ (.int v40 :: _)
    change X _ _ _ _ _ _ [some (.ref m), some (.int n), none, none, none, none] [.int v40]
    exact X.weak (xle_c rfl (xle_c rfl (xle_n (xle_n (xle_n (xle_n xle_nil)))))) (kj1 v40 I40 h)
  · replace h := h.1 c4
    refine x_iconst_ (v := (-1 : Int32)) dX13_inConstant_7 (by decide) ?_
    refine x_goto (tgt := 16) dX13_inConstant_8 (by decide) ?_
    change X _ _ _ _ _ _ [some (.ref m), some (.int n), none, none, none, none] [.int (-1 : Int32)]
    exact X.weak (xle_c rfl (xle_c rfl (xle_n (xle_n (xle_n (xle_n xle_nil)))))) (kj1 (-1 : Int32) I h)
def w_X13_named (Rk : Nat → Int32 → Int32 → (Int32 → xII → Prop) → xII → Prop) (m : Nat) (n : Int32) (Q : Int32 → xII → Prop) (I : xII) : Prop := ∃ R1 : Int32 → xII → Prop, w_X13_isSign m (22 : Int32) R1 I ∧ (∀ (v1 : Int32) (I1 : xII), (v1 = 0 ∨ v1 = 1) → R1 v1 I1 → (((v1 = 0 → ∃ J2 : Int32 → xII → Prop, (∀ (y2_s0 : Int32) (I2 : xII), J2 y2_s0 I2 → ∃ R3 : Int32 → xII → Prop, w_X13_isSign m (24 : Int32) R3 I2 ∧ (∀ (v3 : Int32) (I3 : xII), (v3 = 0 ∨ v3 = 1) → R3 v3 I3 → (∃ J4 : xII → Prop, (∀ (I4 : xII), J4 I4 → ((v3 = 0 → ((y2_s0 = (-1 : Int32) → ∃ R5 : Int32 → xII → Prop, w_X13_step m (3 : Int32) (0 : Int32) (0 : Int32) R5 I4 ∧ (∀ (v5 : Int32) (I5 : xII), R5 v5 I5 → (Q (1 : Int32) I5))) ∧ (¬ y2_s0 = (-1 : Int32) → vp_in y2_s0 900 ∧ ((((I4 (m + 11) (ix y2_s0)) = 0 → ∃ R8 : Int32 → xII → Prop, w_X13_step m (0 : Int32) (I4 (m + 14) (ix y2_s0)) (0 : Int32) R8 I4 ∧ (∀ (v8 : Int32) (I8 : xII), R8 v8 I8 → (Q (1 : Int32) I8))) ∧ (¬ (I4 (m + 11) (ix y2_s0)) = 0 → ∃ R7 : Int32 → xII → Prop, w_X13_step m (if (I4 (m + 17) (ix y2_s0)) = 0 then (3 : Int32) else (1 : Int32)) (I4 (m + 14) (ix y2_s0)) (0 : Int32) R7 I4 ∧ (∀ (v7 : Int32) (I7 : xII), R7 v7 I7 → (Q (1 : Int32) I7)))))))) ∧ (¬ v3 = 0 → ∃ R9 : Int32 → xII → Prop, Rk 8 y2_s0 0 R9 I4 ∧ (∀ (v9 : Int32) (I9 : xII), (v9 = 0 ∨ v9 = 1) → R9 v9 I9 → (((v9 = 0 → Q (0 : Int32) I9) ∧ (¬ v9 = 0 → ∃ R10 : Int32 → xII → Prop, w_X13_step m (7 : Int32) (0 : Int32) (0 : Int32) R10 I9 ∧ (∀ (v10 : Int32) (I10 : xII), R10 v10 I10 → (Q (1 : Int32) I10))))))))) ∧ (((if y2_s0 = (-1 : Int32) then (if (I2 m 62) = (-1 : Int32) then (1 : Int32) else (0 : Int32)) else (0 : Int32)) = 0 → ((y2_s0 = (-1 : Int32) → vp_in n 4002 ∧ (∃ R12 : xII → Prop, w_X13_note m (6 : Int32) (I3 (m + 5) (ix n)) R12 I3 ∧ (∀ I12 : xII, R12 I12 → (J4 I12)))) ∧ (¬ y2_s0 = (-1 : Int32) → vp_in y2_s0 900 ∧ (((v3 = (if (I3 (m + 11) (ix y2_s0)) = (2 : Int32) then (1 : Int32) else (0 : Int32)) → J4 I3) ∧ (¬ v3 = (if (I3 (m + 11) (ix y2_s0)) = (2 : Int32) then (1 : Int32) else (0 : Int32)) → vp_in n 4002 ∧ (∃ R15 : xII → Prop, w_X13_note m (6 : Int32) (I3 (m + 5) (ix n)) R15 I3 ∧ (∀ I15 : xII, R15 I15 → (J4 I15))))))))) ∧ (¬ (if y2_s0 = (-1 : Int32) then (if (I2 m 62) = (-1 : Int32) then (1 : Int32) else (0 : Int32)) else (0 : Int32)) = 0 → vp_in n 4002 ∧ (∃ R17 : xII → Prop, w_X13_note m (4 : Int32) (I3 (m + 5) (ix n)) R17 I3 ∧ (∀ I17 : xII, R17 I17 → (J4 I17)))))))) ∧ (((I1 m 46) = 0 → J2 (-1 : Int32) I1) ∧ (¬ (I1 m 46) = 0 → ∃ R18 : Int32 → xII → Prop, w_X13_meaning m n R18 I1 ∧ (∀ (v18 : Int32) (I18 : xII), R18 v18 I18 → (J2 v18 I18))))) ∧ (¬ v1 = 0 → ∃ R19 : Int32 → xII → Prop, Rk 6 n (1 : Int32) R19 I1 ∧ (∀ (v19 : Int32) (I19 : xII), (v19 = 0 ∨ v19 = 1) → R19 v19 I19 → (Q v19 I19))))))
theorem m_X13_named (hG : xOK G) {dp : Nat} {A : xA} {m : Nat} (hM : xMo G A m) {Rk : Nat → Int32 → Int32 → (Int32 → xII → Prop) → xII → Prop} (hR : xRC_E G (dp + 12) A m Rk) {n : Int32} {Q : Int32 → xII → Prop} {I : xII} (h : w_X13_named Rk m n Q I) : MX G (dp + 13) kX13_named [.ref m, .int n] (A.wI I) (oZ A Q) := by
  unfold w_X13_named at h
  refine MX.of rfl (Nat.le_of_ble_eq_true rfl) ?_
  change X _ _ _ _ _ _ [some (.ref m), some (.int n), none, none, none] _
  refine x_aload_n dX13_named_0 rfl ?_
  refine x_bipush_ (v := (22 : Int32)) dX13_named_1 (by decide) ?_
  obtain ⟨R1, g1, h⟩ := h
  refine x_callV hG (Ky := kX13_isSign) (As := [.int (22 : Int32)]) dX13_named_3 (mo_t hM) rfl lk_X13_257 me_X13_isSign is_X13_isSign se_X13_isSign rfl rfl (Nat.le_of_ble_eq_true rfl) (MX.post (m_X13_isSign hG hM g1) ?_)
  rintro _ _ ⟨v1, I1, rfl, rfl, zv1, h1⟩
  replace h := h v1 I1 zv1 h1
  change X _ _ _ _ (A.wI I1) _ _ (.int v1 :: _)
  refine x_if_eq (tgt := 16) dX13_named_6 (by decide) (fun c6 => ?_) (fun c6 => ?_)
  · replace h := h.1 c6
    refine x_aload_n dX13_named_16 rfl ?_
    refine x_get (v := .int (I1 m 46)) hG dX13_named_17 f_X13_245_12 (mo_t hM) rfl ?_
    obtain ⟨J2, g2, h⟩ := h
    have kj2 : ∀ (y2_s0 : Int32) (I2 : xII), J2 y2_s0 I2 → X G (dp + 13) kX13_named (oZ A Q) (A.wI I2) 32 [some (.ref m), some (.int n), none, none, none] [.int y2_s0] := by
      intro y2_s0 I2 h
      replace h := g2 y2_s0 I2 h
      refine x_istore_n dX13_named_32 (by decide) ?_
      refine x_iload_n dX13_named_33 rfl ?_
      refine x_iconst_ (v := (-1 : Int32)) dX13_named_34 (by decide) ?_
      refine x_via 51 (A' := (A.wI I2)) (lv' := [some (.ref m), some (.int n), some (.int y2_s0), none, none]) (st' := [.int (if y2_s0 = (-1 : Int32) then (if (I2 m 62) = (-1 : Int32) then (1 : Int32) else (0 : Int32)) else (0 : Int32))]) ?_ (fun k51 => ?_)
      rotate_left
      · refine x_icmp_ne (tgt := 50) dX13_named_35 (by decide) (fun c35 => ?_) (fun c35 => ?_)
        · refine x_iconst_ (v := (0 : Int32)) dX13_named_50 (by decide) ?_
          change X _ _ _ _ _ _ [some (.ref m), some (.int n), some (.int y2_s0), none, none] [.int (0 : Int32)]
          simp only [if_neg c35] at k51 ⊢
          exact X.weak (xle_c rfl (xle_c rfl (xle_c rfl (xle_n (xle_n xle_nil))))) k51
        · refine x_aload_n dX13_named_38 rfl ?_
          refine x_get (v := .int (I2 m 62)) hG dX13_named_39 f_X13_374_12 (mo_t hM) rfl ?_
          refine x_iconst_ (v := (-1 : Int32)) dX13_named_42 (by decide) ?_
          refine x_icmp_ne (tgt := 50) dX13_named_43 (by decide) (fun c43 => ?_) (fun c43 => ?_)
          · refine x_iconst_ (v := (0 : Int32)) dX13_named_50 (by decide) ?_
            change X _ _ _ _ _ _ [some (.ref m), some (.int n), some (.int y2_s0), none, none] [.int (0 : Int32)]
            try simp only [if_pos c35] at c43 k51 ⊢
            try simp only [if_neg c43] at k51 ⊢
            exact X.weak (xle_c rfl (xle_c rfl (xle_c rfl (xle_n (xle_n xle_nil))))) k51
          · refine x_iconst_ (v := (1 : Int32)) dX13_named_46 (by decide) ?_
            refine x_goto (tgt := 51) dX13_named_47 (by decide) ?_
            change X _ _ _ _ _ _ [some (.ref m), some (.int n), some (.int y2_s0), none, none] [.int (1 : Int32)]
            try simp only [if_pos c35] at c43 k51 ⊢
            try simp only [if_pos c43] at k51 ⊢
            exact X.weak (xle_c rfl (xle_c rfl (xle_c rfl (xle_n (xle_n xle_nil))))) k51
      refine x_istore_n dX13_named_51 (by decide) ?_
      refine x_aload_n dX13_named_52 rfl ?_
      refine x_bipush_ (v := (24 : Int32)) dX13_named_53 (by decide) ?_
      obtain ⟨R3, g3, h⟩ := h
      refine x_callV hG (Ky := kX13_isSign) (As := [.int (24 : Int32)]) dX13_named_55 (mo_t hM) rfl lk_X13_257 me_X13_isSign is_X13_isSign se_X13_isSign rfl rfl (Nat.le_of_ble_eq_true rfl) (MX.post (m_X13_isSign hG hM g3) ?_)
      rintro _ _ ⟨v3, I3, rfl, rfl, zv3, h1⟩
      replace h := h v3 I3 zv3 h1
      change X _ _ _ _ (A.wI I3) _ _ (.int v3 :: _)
      refine x_istore dX13_named_58 (by decide) ?_
      refine x_iload_n dX13_named_60 rfl ?_
      obtain ⟨J4, g4, h⟩ := h
      have kj4 : ∀ (I4 : xII), J4 I4 → X G (dp + 13) kX13_named (oZ A Q) (A.wI I4) 115 [some (.ref m), none, some (.int y2_s0), none, some (.int v3)] [] := by
        intro I4 h
        replace h := g4 I4 h
        refine x_iload dX13_named_115 rfl ?_
        refine x_if_eq (tgt := 142) dX13_named_117 (by decide) (fun c117 => ?_) (fun c117 => ?_)
        · replace h := h.1 c117
          refine x_iload_n dX13_named_142 rfl ?_
          refine x_iconst_ (v := (-1 : Int32)) dX13_named_143 (by decide) ?_
          refine x_icmp_eq (tgt := 172) dX13_named_144 (by decide) (fun c144 => ?_) (fun c144 => ?_)
          · replace h := h.1 c144
            refine x_aload_n dX13_named_172 rfl ?_
            refine x_iload_n dX13_named_173 rfl ?_
            refine x_iconst_ (v := (-1 : Int32)) dX13_named_174 (by decide) ?_
            refine x_icmp_eq (tgt := 191) dX13_named_175 (by decide) (fun _ => ?_) (fun h => absurd c144 h)
            refine x_iconst_ (v := (3 : Int32)) dX13_named_191 (by decide) ?_
            refine x_iload_n dX13_named_192 rfl ?_
            refine x_iconst_ (v := (-1 : Int32)) dX13_named_193 (by decide) ?_
            refine x_icmp_ne (tgt := 201) dX13_named_194 (by decide) (fun h => absurd c144 h) (fun _ => ?_)
            refine x_iconst_ (v := (0 : Int32)) dX13_named_197 (by decide) ?_
            refine x_goto (tgt := 207) dX13_named_198 (by decide) ?_
            refine x_iconst_ (v := (0 : Int32)) dX13_named_207 (by decide) ?_
            obtain ⟨R5, g5, h⟩ := h
            refine x_callV hG (Ky := kX13_step) (As := [.int (3 : Int32), .int (0 : Int32), .int (0 : Int32)]) dX13_named_208 (mo_t hM) rfl lk_X13_401 me_X13_step is_X13_step se_X13_step rfl rfl (Nat.le_of_ble_eq_true rfl) (MX.post (m_X13_step hG hM g5) ?_)
            rintro _ _ ⟨v5, I5, rfl, rfl, h1⟩
            replace h := h v5 I5 h1
            change X _ _ _ _ (A.wI I5) _ _ (.int v5 :: _)
            refine x_pop dX13_named_211 rfl ?_
            refine x_iconst_ (v := (1 : Int32)) dX13_named_212 (by decide) ?_
            exact x_zret dX13_named_213 rfl (by decide) ⟨_, _, rfl, rfl, (by decide), h⟩
          · replace h := h.2 c144
            refine x_aload_n dX13_named_147 rfl ?_
            refine x_get (v := .ref (m + 11)) hG dX13_named_148 f_X13_40_12 (mo_t hM) (congrArg va_rf (mo_P17 hM)) ?_
            refine x_iload_n dX13_named_151 rfl ?_
            obtain ⟨o6, h⟩ := h
            refine y_iald hG dX13_named_152 (mo_t17 hM) (mo_n17 hM) o6 ?_
            refine x_if_ne (tgt := 172) dX13_named_153 (by decide) (fun c153 => ?_) (fun c153 => ?_)
            · replace h := h.2 c153
              refine x_aload_n dX13_named_172 rfl ?_
              refine x_iload_n dX13_named_173 rfl ?_
              refine x_iconst_ (v := (-1 : Int32)) dX13_named_174 (by decide) ?_
              refine x_icmp_eq (tgt := 191) dX13_named_175 (by decide) (fun h => absurd h c144) (fun _ => ?_)
              refine x_aload_n dX13_named_178 rfl ?_
              refine x_get (v := .ref (m + 17)) hG dX13_named_179 f_X13_59_12 (mo_t hM) (congrArg va_rf (mo_P23 hM)) ?_
              refine x_iload_n dX13_named_182 rfl ?_
              refine y_zald hG dX13_named_183 (mo_t23 hM) (mo_n23 hM) o6 ?_
              refine x_via 192 (A' := (A.wI I4)) (lv' := [some (.ref m), none, some (.int y2_s0), none, none]) (st' := [.int (if (I4 (m + 17) (ix y2_s0)) = 0 then (3 : Int32) else (1 : Int32)), .ref m]) ?_ (fun k192 => ?_)
              rotate_left
              · refine x_if_eq (tgt := 191) dX13_named_184 (by decide) (fun c184 => ?_) (fun c184 => ?_)
                · refine x_iconst_ (v := (3 : Int32)) dX13_named_191 (by decide) ?_
                  change X _ _ _ _ _ _ [some (.ref m), none, some (.int y2_s0), none, some (.int v3)] [.int (3 : Int32), .ref m]
                  simp only [if_pos c184] at k192 ⊢
                  exact X.weak (xle_c rfl (xle_n (xle_c rfl (xle_n (xle_n xle_nil))))) k192
                · refine x_iconst_ (v := (1 : Int32)) dX13_named_187 (by decide) ?_
                  refine x_goto (tgt := 192) dX13_named_188 (by decide) ?_
                  change X _ _ _ _ _ _ [some (.ref m), none, some (.int y2_s0), none, some (.int v3)] [.int (1 : Int32), .ref m]
                  simp only [if_neg c184] at k192 ⊢
                  exact X.weak (xle_c rfl (xle_n (xle_c rfl (xle_n (xle_n xle_nil))))) k192
              refine x_iload_n dX13_named_192 rfl ?_
              refine x_iconst_ (v := (-1 : Int32)) dX13_named_193 (by decide) ?_
              refine x_icmp_ne (tgt := 201) dX13_named_194 (by decide) (fun _ => ?_) (fun h => absurd h c144)
              refine x_aload_n dX13_named_201 rfl ?_
              refine x_get (v := .ref (m + 14)) hG dX13_named_202 f_X13_49_12 (mo_t hM) (congrArg va_rf (mo_P20 hM)) ?_
              refine x_iload_n dX13_named_205 rfl ?_
              refine y_iald hG dX13_named_206 (mo_t20 hM) (mo_n20 hM) o6 ?_
              refine x_iconst_ (v := (0 : Int32)) dX13_named_207 (by decide) ?_
              obtain ⟨R7, g7, h⟩ := h
              refine x_callV hG (Ky := kX13_step) (As := [.int (if (I4 (m + 17) (ix y2_s0)) = 0 then (3 : Int32) else (1 : Int32)), .int (I4 (m + 14) (ix y2_s0)), .int (0 : Int32)]) dX13_named_208 (mo_t hM) rfl lk_X13_401 me_X13_step is_X13_step se_X13_step rfl rfl (Nat.le_of_ble_eq_true rfl) (MX.post (m_X13_step hG hM g7) ?_)
              rintro _ _ ⟨v7, I7, rfl, rfl, h1⟩
              replace h := h v7 I7 h1
              change X _ _ _ _ (A.wI I7) _ _ (.int v7 :: _)
              refine x_pop dX13_named_211 rfl ?_
              refine x_iconst_ (v := (1 : Int32)) dX13_named_212 (by decide) ?_
              exact x_zret dX13_named_213 rfl (by decide) ⟨_, _, rfl, rfl, (by decide), h⟩
            · replace h := h.1 c153
              refine x_aload_n dX13_named_156 rfl ?_
              refine x_iconst_ (v := (0 : Int32)) dX13_named_157 (by decide) ?_
              refine x_aload_n dX13_named_158 rfl ?_
              refine x_get (v := .ref (m + 14)) hG dX13_named_159 f_X13_49_12 (mo_t hM) (congrArg va_rf (mo_P20 hM)) ?_
              refine x_iload_n dX13_named_162 rfl ?_
              refine y_iald hG dX13_named_163 (mo_t20 hM) (mo_n20 hM) o6 ?_
              refine x_iconst_ (v := (0 : Int32)) dX13_named_164 (by decide) ?_
              obtain ⟨R8, g8, h⟩ := h
              refine x_callV hG (Ky := kX13_step) (As := [.int (0 : Int32), .int (I4 (m + 14) (ix y2_s0)), .int (0 : Int32)]) dX13_named_165 (mo_t hM) rfl lk_X13_401 me_X13_step is_X13_step se_X13_step rfl rfl (Nat.le_of_ble_eq_true rfl) (MX.post (m_X13_step hG hM g8) ?_)
              rintro _ _ ⟨v8, I8, rfl, rfl, h1⟩
              replace h := h v8 I8 h1
              change X _ _ _ _ (A.wI I8) _ _ (.int v8 :: _)
              refine x_pop dX13_named_168 rfl ?_
              refine x_goto (tgt := 212) dX13_named_169 (by decide) ?_
              refine x_iconst_ (v := (1 : Int32)) dX13_named_212 (by decide) ?_
              exact x_zret dX13_named_213 rfl (by decide) ⟨_, _, rfl, rfl, (by decide), h⟩
        · replace h := h.2 c117
          refine x_aload_n dX13_named_120 rfl ?_
          refine x_iload_n dX13_named_121 rfl ?_
          obtain ⟨R9, g9, h⟩ := h
          refine x_callV hG (Ky := kX13_element) (As := [.int y2_s0]) dX13_named_122 (mo_t hM) rfl lk_X13_460 me_X13_element is_X13_element se_X13_element rfl rfl (Nat.le_of_ble_eq_true rfl) (MX.post (hR.2.2.2.2.2.2.2.2 g9) ?_)
          rintro _ _ ⟨v9, I9, rfl, rfl, zv9, h1⟩
          replace h := h v9 I9 zv9 h1
          change X _ _ _ _ (A.wI I9) _ _ (.int v9 :: _)
          refine x_if_ne (tgt := 130) dX13_named_125 (by decide) (fun c125 => ?_) (fun c125 => ?_)
          · replace h := h.2 c125
            refine x_aload_n dX13_named_130 rfl ?_
            refine x_bipush_ (v := (7 : Int32)) dX13_named_131 (by decide) ?_
            refine x_iconst_ (v := (0 : Int32)) dX13_named_133 (by decide) ?_
            refine x_iconst_ (v := (0 : Int32)) dX13_named_134 (by decide) ?_
            obtain ⟨R10, g10, h⟩ := h
            refine x_callV hG (Ky := kX13_step) (As := [.int (7 : Int32), .int (0 : Int32), .int (0 : Int32)]) dX13_named_135 (mo_t hM) rfl lk_X13_401 me_X13_step is_X13_step se_X13_step rfl rfl (Nat.le_of_ble_eq_true rfl) (MX.post (m_X13_step hG hM g10) ?_)
            rintro _ _ ⟨v10, I10, rfl, rfl, h1⟩
            replace h := h v10 I10 h1
            change X _ _ _ _ (A.wI I10) _ _ (.int v10 :: _)
            refine x_pop dX13_named_138 rfl ?_
            refine x_goto (tgt := 212) dX13_named_139 (by decide) ?_
            refine x_iconst_ (v := (1 : Int32)) dX13_named_212 (by decide) ?_
            exact x_zret dX13_named_213 rfl (by decide) ⟨_, _, rfl, rfl, (by decide), h⟩
          · replace h := h.1 c125
            refine x_iconst_ (v := (0 : Int32)) dX13_named_128 (by decide) ?_
            exact x_zret dX13_named_129 rfl (by decide) ⟨_, _, rfl, rfl, (by decide), h⟩
      refine x_if_eq (tgt := 78) dX13_named_61 (by decide) (fun c61 => ?_) (fun c61 => ?_)
      · replace h := h.1 c61
        refine x_iload_n dX13_named_78 rfl ?_
        refine x_iconst_ (v := (-1 : Int32)) dX13_named_79 (by decide) ?_
        refine x_icmp_eq (tgt := 103) dX13_named_80 (by decide) (fun c80 => ?_) (fun c80 => ?_)
        · replace h := h.1 c80
          refine x_aload_n dX13_named_103 rfl ?_
          refine x_bipush_ (v := (6 : Int32)) dX13_named_104 (by decide) ?_
          refine x_aload_n dX13_named_106 rfl ?_
          refine x_get (v := .ref (m + 5)) hG dX13_named_107 f_X13_22_12 (mo_t hM) (congrArg va_rf (mo_P6 hM)) ?_
          refine x_iload_n dX13_named_110 rfl ?_
          obtain ⟨o11, h⟩ := h
          refine y_iald hG dX13_named_111 (mo_t6 hM) (mo_n6 hM) o11 ?_
          obtain ⟨R12, g12, h⟩ := h
          refine x_callV hG (Ky := kX13_note) (As := [.int (6 : Int32), .int (I3 (m + 5) (ix n))]) dX13_named_112 (mo_t hM) rfl lk_X13_352 me_X13_note is_X13_note se_X13_note rfl rfl (Nat.le_of_ble_eq_true rfl) (MX.post (m_X13_note hG hM g12) ?_)
          rintro _ _ ⟨I12, rfl, rfl, h1⟩
          replace h := h I12 h1
          change X _ _ _ _ (A.wI I12) _ _ _
          change X _ _ _ _ _ _ [some (.ref m), some (.int n), some (.int y2_s0), some (.int (if y2_s0 = (-1 : Int32) then (if (I2 m 62) = (-1 : Int32) then (1 : Int32) else (0 : Int32)) else (0 : Int32))), some (.int v3)] []
          exact X.weak (xle_c rfl (xle_n (xle_c rfl (xle_n (xle_c rfl xle_nil))))) (kj4 I12 h)
        · replace h := h.2 c80
          refine x_iload dX13_named_83 rfl ?_
          refine x_aload_n dX13_named_85 rfl ?_
          refine x_get (v := .ref (m + 11)) hG dX13_named_86 f_X13_40_12 (mo_t hM) (congrArg va_rf (mo_P17 hM)) ?_
          refine x_iload_n dX13_named_89 rfl ?_
          obtain ⟨o13, h⟩ := h
          refine y_iald hG dX13_named_90 (mo_t17 hM) (mo_n17 hM) o13 ?_
          refine x_iconst_ (v := (2 : Int32)) dX13_named_91 (by decide) ?_
          refine x_via 100 (A' := (A.wI I3)) (lv' := [some (.ref m), some (.int n), some (.int y2_s0), none, some (.int v3)]) (st' := [.int (if (I3 (m + 11) (ix y2_s0)) = (2 : Int32) then (1 : Int32) else (0 : Int32)), .int v3]) ?_ (fun k100 => ?_)
          rotate_left
          · refine x_icmp_ne (tgt := 99) dX13_named_92 (by decide) (fun c92 => ?_) (fun c92 => ?_)
            · refine x_iconst_ (v := (0 : Int32)) dX13_named_99 (by decide) ?_
              change X _ _ _ _ _ _ [some (.ref m), some (.int n), some (.int y2_s0), some (.int (if y2_s0 = (-1 : Int32) then (if (I2 m 62) = (-1 : Int32) then (1 : Int32) else (0 : Int32)) else (0 : Int32))), some (.int v3)] [.int (0 : Int32), .int v3]
              simp only [if_neg c92] at k100 ⊢
              exact X.weak (xle_c rfl (xle_c rfl (xle_c rfl (xle_n (xle_c rfl xle_nil))))) k100
            · refine x_iconst_ (v := (1 : Int32)) dX13_named_95 (by decide) ?_
              refine x_goto (tgt := 100) dX13_named_96 (by decide) ?_
              change X _ _ _ _ _ _ [some (.ref m), some (.int n), some (.int y2_s0), some (.int (if y2_s0 = (-1 : Int32) then (if (I2 m 62) = (-1 : Int32) then (1 : Int32) else (0 : Int32)) else (0 : Int32))), some (.int v3)] [.int (1 : Int32), .int v3]
              simp only [if_pos c92] at k100 ⊢
              exact X.weak (xle_c rfl (xle_c rfl (xle_c rfl (xle_n (xle_c rfl xle_nil))))) k100
          refine x_icmp_eq (tgt := 115) dX13_named_100 (by decide) (fun c100 => ?_) (fun c100 => ?_)
          · replace h := h.1 c100
            change X _ _ _ _ _ _ [some (.ref m), some (.int n), some (.int y2_s0), none, some (.int v3)] []
            exact X.weak (xle_c rfl (xle_n (xle_c rfl (xle_n (xle_c rfl xle_nil))))) (kj4 I3 h)
          · replace h := h.2 c100
            refine x_aload_n dX13_named_103 rfl ?_
            refine x_bipush_ (v := (6 : Int32)) dX13_named_104 (by decide) ?_
            refine x_aload_n dX13_named_106 rfl ?_
            refine x_get (v := .ref (m + 5)) hG dX13_named_107 f_X13_22_12 (mo_t hM) (congrArg va_rf (mo_P6 hM)) ?_
            refine x_iload_n dX13_named_110 rfl ?_
            obtain ⟨o14, h⟩ := h
            refine y_iald hG dX13_named_111 (mo_t6 hM) (mo_n6 hM) o14 ?_
            obtain ⟨R15, g15, h⟩ := h
            refine x_callV hG (Ky := kX13_note) (As := [.int (6 : Int32), .int (I3 (m + 5) (ix n))]) dX13_named_112 (mo_t hM) rfl lk_X13_352 me_X13_note is_X13_note se_X13_note rfl rfl (Nat.le_of_ble_eq_true rfl) (MX.post (m_X13_note hG hM g15) ?_)
            rintro _ _ ⟨I15, rfl, rfl, h1⟩
            replace h := h I15 h1
            change X _ _ _ _ (A.wI I15) _ _ _
            change X _ _ _ _ _ _ [some (.ref m), some (.int n), some (.int y2_s0), none, some (.int v3)] []
            exact X.weak (xle_c rfl (xle_n (xle_c rfl (xle_n (xle_c rfl xle_nil))))) (kj4 I15 h)
      · replace h := h.2 c61
        refine x_aload_n dX13_named_64 rfl ?_
        refine x_iconst_ (v := (4 : Int32)) dX13_named_65 (by decide) ?_
        refine x_aload_n dX13_named_66 rfl ?_
        refine x_get (v := .ref (m + 5)) hG dX13_named_67 f_X13_22_12 (mo_t hM) (congrArg va_rf (mo_P6 hM)) ?_
        refine x_iload_n dX13_named_70 rfl ?_
        obtain ⟨o16, h⟩ := h
        refine y_iald hG dX13_named_71 (mo_t6 hM) (mo_n6 hM) o16 ?_
        obtain ⟨R17, g17, h⟩ := h
        refine x_callV hG (Ky := kX13_note) (As := [.int (4 : Int32), .int (I3 (m + 5) (ix n))]) dX13_named_72 (mo_t hM) rfl lk_X13_352 me_X13_note is_X13_note se_X13_note rfl rfl (Nat.le_of_ble_eq_true rfl) (MX.post (m_X13_note hG hM g17) ?_)
        rintro _ _ ⟨I17, rfl, rfl, h1⟩
        replace h := h I17 h1
        change X _ _ _ _ (A.wI I17) _ _ _
        refine x_goto (tgt := 115) dX13_named_75 (by decide) ?_
        change X _ _ _ _ _ _ [some (.ref m), some (.int n), some (.int y2_s0), some (.int (if y2_s0 = (-1 : Int32) then (if (I2 m 62) = (-1 : Int32) then (1 : Int32) else (0 : Int32)) else (0 : Int32))), some (.int v3)] []
        exact X.weak (xle_c rfl (xle_n (xle_c rfl (xle_n (xle_c rfl xle_nil))))) (kj4 I17 h)
    refine x_if_ne (tgt := 27) dX13_named_20 (by decide) (fun c20 => ?_) (fun c20 => ?_)
    · replace h := h.2 c20
      refine x_aload_n dX13_named_27 rfl ?_
      refine x_iload_n dX13_named_28 rfl ?_
      obtain ⟨R18, g18, h⟩ := h
      refine x_callV hG (Ky := kX13_meaning) (As := [.int n]) dX13_named_29 (mo_t hM) rfl lk_X13_457 me_X13_meaning is_X13_meaning se_X13_meaning rfl rfl (Nat.le_of_ble_eq_true rfl) (MX.post (m_X13_meaning hG hM g18) ?_)
      rintro _ _ ⟨v18, I18, rfl, rfl, h1⟩
      replace h := h v18 I18 h1
      change X _ _ _ _ (A.wI I18) _ _ (.int v18 :: _)
      change X _ _ _ _ _ _ [some (.ref m), some (.int n), none, none, none] [.int v18]
      exact X.weak (xle_c rfl (xle_c rfl (xle_n (xle_n (xle_n xle_nil))))) (kj2 v18 I18 h)
    · replace h := h.1 c20
      refine x_iconst_ (v := (-1 : Int32)) dX13_named_23 (by decide) ?_
      refine x_goto (tgt := 32) dX13_named_24 (by decide) ?_
      change X _ _ _ _ _ _ [some (.ref m), some (.int n), none, none, none] [.int (-1 : Int32)]
      exact X.weak (xle_c rfl (xle_c rfl (xle_n (xle_n (xle_n xle_nil))))) (kj2 (-1 : Int32) I1 h)
  · replace h := h.2 c6
    refine x_aload_n dX13_named_9 rfl ?_
    refine x_iload_n dX13_named_10 rfl ?_
    refine x_iconst_ (v := (1 : Int32)) dX13_named_11 (by decide) ?_
    obtain ⟨R19, g19, h⟩ := h
    refine x_callV hG (Ky := kX13_call) (As := [.int n, .int (1 : Int32)]) dX13_named_12 (mo_t hM) rfl lk_X13_454 me_X13_call is_X13_call se_X13_call rfl rfl (Nat.le_of_ble_eq_true rfl) (MX.post (hR.2.2.2.2.2.2.1 g19) ?_)
    rintro _ _ ⟨v19, I19, rfl, rfl, zv19, h1⟩
    replace h := h v19 I19 zv19 h1
    change X _ _ _ _ (A.wI I19) _ _ (.int v19 :: _)
    exact x_zret dX13_named_15 rfl zv19 ⟨_, _, rfl, rfl, zv19, h⟩
def w_X13_call (Rk : Nat → Int32 → Int32 → (Int32 → xII → Prop) → xII → Prop) (m : Nat) (n : Int32) (w : Int32) (Q : Int32 → xII → Prop) (I : xII) : Prop := ∃ J1 : Int32 → xII → Prop, (∀ (y1_s0 : Int32) (I1 : xII), J1 y1_s0 I1 → ∃ J2 : xII → Prop, (∀ (I2 : xII), J2 I2 → ∃ J3 : xII → Prop, (∀ (I3 : xII), J3 I3 → ∃ J4 : xII → Prop, (∀ (I4 : xII), J4 I4 → ∃ R5 : Int32 → xII → Prop, w_X13_openSign m (22 : Int32) R5 I4 ∧ (∀ (v5 : Int32) (I5 : xII), (v5 = 0 ∨ v5 = 1) → R5 v5 I5 → (((v5 = 0 → Q (0 : Int32) I5) ∧ (¬ v5 = 0 → ∃ R6 : Int32 → xII → Prop, w_X13_isSign m (23 : Int32) R6 I5 ∧ (∀ (v6 : Int32) (I6 : xII), (v6 = 0 ∨ v6 = 1) → R6 v6 I6 → (∃ L7 : Nat → Int32 → Int32 → xII → Prop, (∃ n7 : Nat, L7 n7 (0 : Int32) (if v6 = 0 then (1 : Int32) else (0 : Int32)) I6) ∧ (∀ (n7 : Nat) (y7_5 : Int32) (y7_6 : Int32) (I7 : xII), L7 n7 y7_5 y7_6 I7 → ((y7_6 = 0 → ∃ J8 : xII → Prop, (∀ (I8 : xII), J8 I8 → ∃ R9 : Int32 → xII → Prop, w_X13_closeSign m (23 : Int32) R9 I8 ∧ (∀ (v9 : Int32) (I9 : xII), (v9 = 0 ∨ v9 = 1) → R9 v9 I9 → (((v9 = 0 → Q (0 : Int32) I9) ∧ (¬ v9 = 0 → ∃ R10 : Int32 → xII → Prop, w_X13_step m (15 : Int32) (0 : Int32) (0 : Int32) R10 I9 ∧ (∀ (v10 : Int32) (I10 : xII), R10 v10 I10 → (vp_in n 4002 ∧ (∃ R12 : Int32 → xII → Prop, w_X13_step m (16 : Int32) (if (I1 m 46) = 0 then (-1 : Int32) else (I1 m 62)) (I10 (m + 5) (ix n)) R12 I10 ∧ (∀ (v12 : Int32) (I12 : xII), R12 v12 I12 → (Q (1 : Int32) I12)))))))))) ∧ (((I7 m 54) = 0 → (((if (I1 m 46) = 0 then (-1 : Int32) else (I1 m 62)) = (-1 : Int32) → J8 I7) ∧ (¬ (if (I1 m 46) = 0 then (-1 : Int32) else (I1 m 62)) = (-1 : Int32) → vp_in (if (I1 m 46) = 0 then (-1 : Int32) else (I1 m 62)) 500 ∧ ((((I7 (m + 20) (ix (if (I1 m 46) = 0 then (-1 : Int32) else (I1 m 62)))) ≤ y7_5 → J8 I7) ∧ (¬ (I7 (m + 20) (ix (if (I1 m 46) = 0 then (-1 : Int32) else (I1 m 62)))) ≤ y7_5 → ∃ R14 : Int32 → xII → Prop, w_X13_isSign m (23 : Int32) R14 I7 ∧ (∀ (v14 : Int32) (I14 : xII), (v14 = 0 ∨ v14 = 1) → R14 v14 I14 → (((v14 = 0 → J8 I14) ∧ (¬ v14 = 0 → vp_in (I14 m 42) 4002 ∧ (∃ R16 : xII → Prop, w_X13_note m (7 : Int32) (I14 (m + 5) (ix (I14 m 42))) R16 I14 ∧ (∀ I16 : xII, R16 I16 → (J8 I16))))))))))))) ∧ (¬ (I7 m 54) = 0 → J8 I7))) ∧ (¬ y7_6 = 0 → ∃ R17 : Int32 → xII → Prop, Rk 7 (if (I1 m 46) = 0 then (-1 : Int32) else (I1 m 62)) y7_5 R17 I7 ∧ (∀ (v17 : Int32) (I17 : xII), (v17 = 0 ∨ v17 = 1) → R17 v17 I17 → (((v17 = 0 → Q (0 : Int32) I17) ∧ (¬ v17 = 0 → ∃ R18 : Int32 → xII → Prop, w_X13_isSign m (28 : Int32) R18 I17 ∧ (∀ (v18 : Int32) (I18 : xII), (v18 = 0 ∨ v18 = 1) → R18 v18 I18 → (∀ I19 : xII, I19 = xup I18 m 42 ((I18 m 42) + (if v18 = 0 then (0 : Int32) else (1 : Int32))) → ((∃ q7 : Nat, q7 < n7 ∧ L7 q7 (y7_5 + (1 : Int32)) v18 I19)))))))))))))))))) ∧ (((I3 m 54) = 0 → (((if (I1 m 46) = 0 then (-1 : Int32) else (I1 m 62)) = (-1 : Int32) → J4 I3) ∧ (¬ (if (I1 m 46) = 0 then (-1 : Int32) else (I1 m 62)) = (-1 : Int32) → ((w = 0 → J4 I3) ∧ (¬ w = 0 → vp_in (if (I1 m 46) = 0 then (-1 : Int32) else (I1 m 62)) 500 ∧ ((((I3 (m + 26) (ix (if (I1 m 46) = 0 then (-1 : Int32) else (I1 m 62)))) = 0 → J4 I3) ∧ (¬ (I3 (m + 26) (ix (if (I1 m 46) = 0 then (-1 : Int32) else (I1 m 62)))) = 0 → vp_in n 4002 ∧ (∃ R22 : xII → Prop, w_X13_note m (8 : Int32) (I3 (m + 5) (ix n)) R22 I3 ∧ (∀ I22 : xII, R22 I22 → (J4 I22))))))))))) ∧ (¬ (I3 m 54) = 0 → J4 I3))) ∧ (((I2 m 54) = 0 → ((y1_s0 = (-1 : Int32) → J3 I2) ∧ (¬ y1_s0 = (-1 : Int32) → vp_in n 4002 ∧ (∃ R24 : xII → Prop, w_X13_note m (6 : Int32) (I2 (m + 5) (ix n)) R24 I2 ∧ (∀ I24 : xII, R24 I24 → (J3 I24)))))) ∧ (¬ (I2 m 54) = 0 → J3 I2))) ∧ (((I1 m 54) = 0 → ((y1_s0 = (-1 : Int32) → (((if (I1 m 46) = 0 then (-1 : Int32) else (I1 m 62)) = (-1 : Int32) → vp_in n 4002 ∧ (∃ R26 : xII → Prop, w_X13_note m (4 : Int32) (I1 (m + 5) (ix n)) R26 I1 ∧ (∀ I26 : xII, R26 I26 → (J2 I26)))) ∧ (¬ (if (I1 m 46) = 0 then (-1 : Int32) else (I1 m 62)) = (-1 : Int32) → J2 I1))) ∧ (¬ y1_s0 = (-1 : Int32) → J2 I1))) ∧ (¬ (I1 m 54) = 0 → J2 I1))) ∧ (((I m 46) = 0 → J1 (-1 : Int32) I) ∧ (¬ (I m 46) = 0 → ∃ R27 : Int32 → xII → Prop, w_X13_meaning m n R27 I ∧ (∀ (v27 : Int32) (I27 : xII), R27 v27 I27 → (J1 v27 I27))))
theorem m_X13_call (hG : xOK G) {dp : Nat} {A : xA} {m : Nat} (hM : xMo G A m) {Rk : Nat → Int32 → Int32 → (Int32 → xII → Prop) → xII → Prop} (hR : xRC_E G (dp + 12) A m Rk) {n : Int32} {w : Int32} {Q : Int32 → xII → Prop} {I : xII} (h : w_X13_call Rk m n w Q I) : MX G (dp + 13) kX13_call [.ref m, .int n, .int w] (A.wI I) (oZ A Q) := by
  unfold w_X13_call at h
  refine MX.of rfl (Nat.le_of_ble_eq_true rfl) ?_
  change X _ _ _ _ _ _ [some (.ref m), some (.int n), some (.int w), none, none, none, none] _
  refine x_aload_n dX13_call_0 rfl ?_
  refine x_get (v := .int (I m 46)) hG dX13_call_1 f_X13_245_12 (mo_t hM) rfl ?_
  obtain ⟨J1, g1, h⟩ := h
  have kj1 : ∀ (y1_s0 : Int32) (I1 : xII), J1 y1_s0 I1 → X G (dp + 13) kX13_call (oZ A Q) (A.wI I1) 16 [some (.ref m), some (.int n), some (.int w), none, none, none, none] [.int y1_s0] := by
    intro y1_s0 I1 h
    replace h := g1 y1_s0 I1 h
    refine x_istore_n dX13_call_16 (by decide) ?_
    refine x_aload_n dX13_call_17 rfl ?_
    refine x_get (v := .int (I1 m 46)) hG dX13_call_18 f_X13_245_12 (mo_t hM) rfl ?_
    refine x_via 32 (A' := (A.wI I1)) (lv' := [some (.ref m), some (.int n), some (.int w), some (.int y1_s0), none, none, none]) (st' := [.int (if (I1 m 46) = 0 then (-1 : Int32) else (I1 m 62))]) ?_ (fun k32 => ?_)
    rotate_left
    · refine x_if_ne (tgt := 28) dX13_call_21 (by decide) (fun c21 => ?_) (fun c21 => ?_)
      · refine x_aload_n dX13_call_28 rfl ?_
        refine x_get (v := .int (I1 m 62)) hG dX13_call_29 f_X13_374_12 (mo_t hM) rfl ?_
        change X _ _ _ _ _ _ [some (.ref m), some (.int n), some (.int w), some (.int y1_s0), none, none, none] [.int (I1 m 62)]
        simp only [if_neg c21] at k32 ⊢
        exact X.weak (xle_c rfl (xle_c rfl (xle_c rfl (xle_c rfl (xle_n (xle_n (xle_n xle_nil))))))) k32
      · refine x_iconst_ (v := (-1 : Int32)) dX13_call_24 (by decide) ?_
        refine x_goto (tgt := 32) dX13_call_25 (by decide) ?_
        change X _ _ _ _ _ _ [some (.ref m), some (.int n), some (.int w), some (.int y1_s0), none, none, none] [.int (-1 : Int32)]
        simp only [if_pos c21] at k32 ⊢
        exact X.weak (xle_c rfl (xle_c rfl (xle_c rfl (xle_c rfl (xle_n (xle_n (xle_n xle_nil))))))) k32
    refine x_istore dX13_call_32 (by decide) ?_
    refine x_aload_n dX13_call_34 rfl ?_
    refine x_get (v := .int (I1 m 54)) hG dX13_call_35 f_X13_365_12 (mo_t hM) rfl ?_
    obtain ⟨J2, g2, h⟩ := h
    have kj2 : ∀ (I2 : xII), J2 I2 → X G (dp + 13) kX13_call (oZ A Q) (A.wI I2) 63 [some (.ref m), some (.int n), some (.int w), some (.int y1_s0), some (.int (if (I1 m 46) = 0 then (-1 : Int32) else (I1 m 62))), none, none] [] := by
      intro I2 h
      replace h := g2 I2 h
      refine x_aload_n dX13_call_63 rfl ?_
      refine x_get (v := .int (I2 m 54)) hG dX13_call_64 f_X13_365_12 (mo_t hM) rfl ?_
      obtain ⟨J3, g3, h⟩ := h
      have kj3 : ∀ (I3 : xII), J3 I3 → X G (dp + 13) kX13_call (oZ A Q) (A.wI I3) 87 [some (.ref m), some (.int n), some (.int w), none, some (.int (if (I1 m 46) = 0 then (-1 : Int32) else (I1 m 62))), none, none] [] := by
        intro I3 h
        replace h := g3 I3 h
        refine x_aload_n dX13_call_87 rfl ?_
        refine x_get (v := .int (I3 m 54)) hG dX13_call_88 f_X13_365_12 (mo_t hM) rfl ?_
        obtain ⟨J4, g4, h⟩ := h
        have kj4 : ∀ (I4 : xII), J4 I4 → X G (dp + 13) kX13_call (oZ A Q) (A.wI I4) 126 [some (.ref m), some (.int n), none, none, some (.int (if (I1 m 46) = 0 then (-1 : Int32) else (I1 m 62))), none, none] [] := by
          intro I4 h
          replace h := g4 I4 h
          refine x_aload_n dX13_call_126 rfl ?_
          refine x_bipush_ (v := (22 : Int32)) dX13_call_127 (by decide) ?_
          obtain ⟨R5, g5, h⟩ := h
          refine x_callV hG (Ky := kX13_openSign) (As := [.int (22 : Int32)]) dX13_call_129 (mo_t hM) rfl lk_X13_356 me_X13_openSign is_X13_openSign se_X13_openSign rfl rfl (Nat.le_of_ble_eq_true rfl) (MX.post (m_X13_openSign hG hM g5) ?_)
          rintro _ _ ⟨v5, I5, rfl, rfl, zv5, h1⟩
          replace h := h v5 I5 zv5 h1
          change X _ _ _ _ (A.wI I5) _ _ (.int v5 :: _)
          refine x_if_ne (tgt := 137) dX13_call_132 (by decide) (fun c132 => ?_) (fun c132 => ?_)
          · replace h := h.2 c132
            refine x_iconst_ (v := (0 : Int32)) dX13_call_137 (by decide) ?_
            refine x_istore dX13_call_138 (by decide) ?_
            refine x_aload_n dX13_call_140 rfl ?_
            refine x_bipush_ (v := (23 : Int32)) dX13_call_141 (by decide) ?_
            obtain ⟨R6, g6, h⟩ := h
            refine x_callV hG (Ky := kX13_isSign) (As := [.int (23 : Int32)]) dX13_call_143 (mo_t hM) rfl lk_X13_257 me_X13_isSign is_X13_isSign se_X13_isSign rfl rfl (Nat.le_of_ble_eq_true rfl) (MX.post (m_X13_isSign hG hM g6) ?_)
            rintro _ _ ⟨v6, I6, rfl, rfl, zv6, h1⟩
            replace h := h v6 I6 zv6 h1
            change X _ _ _ _ (A.wI I6) _ _ (.int v6 :: _)
            refine x_via 154 (A' := (A.wI I6)) (lv' := [some (.ref m), some (.int n), none, none, some (.int (if (I1 m 46) = 0 then (-1 : Int32) else (I1 m 62))), some (.int (0 : Int32)), none]) (st' := [.int (if v6 = 0 then (1 : Int32) else (0 : Int32))]) ?_ (fun k154 => ?_)
            rotate_left
            · refine x_if_ne (tgt := 153) dX13_call_146 (by decide) (fun c146 => ?_) (fun c146 => ?_)
              · refine x_iconst_ (v := (0 : Int32)) dX13_call_153 (by decide) ?_
                change X _ _ _ _ _ _ [some (.ref m), some (.int n), none, none, some (.int (if (I1 m 46) = 0 then (-1 : Int32) else (I1 m 62))), some (.int (0 : Int32)), none] [.int (0 : Int32)]
                simp only [if_neg c146] at k154 ⊢
                exact X.weak (xle_c rfl (xle_c rfl (xle_n (xle_n (xle_c rfl (xle_c rfl (xle_n xle_nil))))))) k154
              · refine x_iconst_ (v := (1 : Int32)) dX13_call_149 (by decide) ?_
                refine x_goto (tgt := 154) dX13_call_150 (by decide) ?_
                change X _ _ _ _ _ _ [some (.ref m), some (.int n), none, none, some (.int (if (I1 m 46) = 0 then (-1 : Int32) else (I1 m 62))), some (.int (0 : Int32)), none] [.int (1 : Int32)]
                simp only [if_pos c146] at k154 ⊢
                exact X.weak (xle_c rfl (xle_c rfl (xle_n (xle_n (xle_c rfl (xle_c rfl (xle_n xle_nil))))))) k154
            refine x_istore dX13_call_154 (by decide) ?_
            obtain ⟨L7, ⟨n7, i7⟩, g7⟩ := h
            have kl7 : ∀ n7 : Nat, ∀ (y7_5 : Int32) (y7_6 : Int32) (I7 : xII), L7 n7 y7_5 y7_6 I7 → X G (dp + 13) kX13_call (oZ A Q) (A.wI I7) 156 [some (.ref m), some (.int n), none, none, some (.int (if (I1 m 46) = 0 then (-1 : Int32) else (I1 m 62))), some (.int y7_5), some (.int y7_6)] [] := by
              intro n7
              induction n7 using Nat.strongRecOn with
              | ind n7 ih7 =>
                intro y7_5 y7_6 I7 h
                replace h := g7 n7 y7_5 y7_6 I7 h
                refine x_iload dX13_call_156 rfl ?_
                refine x_if_eq (tgt := 207) dX13_call_158 (by decide) (fun c158 => ?_) (fun c158 => ?_)
                · replace h := h.1 c158
                  refine x_aload_n dX13_call_207 rfl ?_
                  refine x_get (v := .int (I7 m 54)) hG dX13_call_208 f_X13_365_12 (mo_t hM) rfl ?_
                  obtain ⟨J8, g8, h⟩ := h
                  have kj8 : ∀ (I8 : xII), J8 I8 → X G (dp + 13) kX13_call (oZ A Q) (A.wI I8) 256 [some (.ref m), some (.int n), none, none, some (.int (if (I1 m 46) = 0 then (-1 : Int32) else (I1 m 62))), none, none] [] := by
                    intro I8 h
                    replace h := g8 I8 h
                    refine x_aload_n dX13_call_256 rfl ?_
                    refine x_bipush_ (v := (23 : Int32)) dX13_call_257 (by decide) ?_
                    obtain ⟨R9, g9, h⟩ := h
                    refine x_callV hG (Ky := kX13_closeSign) (As := [.int (23 : Int32)]) dX13_call_259 (mo_t hM) rfl lk_X13_362 me_X13_closeSign is_X13_closeSign se_X13_closeSign rfl rfl (Nat.le_of_ble_eq_true rfl) (MX.post (m_X13_closeSign hG hM g9) ?_)
                    rintro _ _ ⟨v9, I9, rfl, rfl, zv9, h1⟩
                    replace h := h v9 I9 zv9 h1
                    change X _ _ _ _ (A.wI I9) _ _ (.int v9 :: _)
                    refine x_if_ne (tgt := 267) dX13_call_262 (by decide) (fun c262 => ?_) (fun c262 => ?_)
                    · replace h := h.2 c262
                      refine x_aload_n dX13_call_267 rfl ?_
                      refine x_bipush_ (v := (15 : Int32)) dX13_call_268 (by decide) ?_
                      refine x_iconst_ (v := (0 : Int32)) dX13_call_270 (by decide) ?_
                      refine x_iconst_ (v := (0 : Int32)) dX13_call_271 (by decide) ?_
                      obtain ⟨R10, g10, h⟩ := h
                      refine x_callV hG (Ky := kX13_step) (As := [.int (15 : Int32), .int (0 : Int32), .int (0 : Int32)]) dX13_call_272 (mo_t hM) rfl lk_X13_401 me_X13_step is_X13_step se_X13_step rfl rfl (Nat.le_of_ble_eq_true rfl) (MX.post (m_X13_step hG hM g10) ?_)
                      rintro _ _ ⟨v10, I10, rfl, rfl, h1⟩
                      replace h := h v10 I10 h1
                      change X _ _ _ _ (A.wI I10) _ _ (.int v10 :: _)
                      refine x_pop dX13_call_275 rfl ?_
                      refine x_aload_n dX13_call_276 rfl ?_
                      refine x_bipush_ (v := (16 : Int32)) dX13_call_277 (by decide) ?_
                      refine x_iload dX13_call_279 rfl ?_
                      refine x_aload_n dX13_call_281 rfl ?_
                      refine x_get (v := .ref (m + 5)) hG dX13_call_282 f_X13_22_12 (mo_t hM) (congrArg va_rf (mo_P6 hM)) ?_
                      refine x_iload_n dX13_call_285 rfl ?_
                      obtain ⟨o11, h⟩ := h
                      refine y_iald hG dX13_call_286 (mo_t6 hM) (mo_n6 hM) o11 ?_
                      obtain ⟨R12, g12, h⟩ := h
                      refine x_callV hG (Ky := kX13_step) (As := [.int (16 : Int32), .int (if (I1 m 46) = 0 then (-1 : Int32) else (I1 m 62)), .int (I10 (m + 5) (ix n))]) dX13_call_287 (mo_t hM) rfl lk_X13_401 me_X13_step is_X13_step se_X13_step rfl rfl (Nat.le_of_ble_eq_true rfl) (MX.post (m_X13_step hG hM g12) ?_)
                      rintro _ _ ⟨v12, I12, rfl, rfl, h1⟩
                      replace h := h v12 I12 h1
                      change X _ _ _ _ (A.wI I12) _ _ (.int v12 :: _)
                      refine x_pop dX13_call_290 rfl ?_
                      refine x_iconst_ (v := (1 : Int32)) dX13_call_291 (by decide) ?_
                      exact x_zret dX13_call_292 rfl (by decide) ⟨_, _, rfl, rfl, (by decide), h⟩
                    · replace h := h.1 c262
                      refine x_iconst_ (v := (0 : Int32)) dX13_call_265 (by decide) ?_
                      exact x_zret dX13_call_266 rfl (by decide) ⟨_, _, rfl, rfl, (by decide), h⟩
                  refine x_if_ne (tgt := 256) dX13_call_211 (by decide) (fun c211 => ?_) (fun c211 => ?_)
                  · replace h := h.2 c211
                    change X _ _ _ _ _ _ [some (.ref m), some (.int n), none, none, some (.int (if (I1 m 46) = 0 then (-1 : Int32) else (I1 m 62))), some (.int y7_5), some (.int y7_6)] []
                    exact X.weak (xle_c rfl (xle_c rfl (xle_n (xle_n (xle_c rfl (xle_n (xle_n xle_nil))))))) (kj8 I7 h)
                  · replace h := h.1 c211
                    refine x_iload dX13_call_214 rfl ?_
                    refine x_iconst_ (v := (-1 : Int32)) dX13_call_216 (by decide) ?_
                    refine x_icmp_eq (tgt := 256) dX13_call_217 (by decide) (fun c217 => ?_) (fun c217 => ?_)
                    · replace h := h.1 c217
                      change X _ _ _ _ _ _ [some (.ref m), some (.int n), none, none, some (.int (if (I1 m 46) = 0 then (-1 : Int32) else (I1 m 62))), some (.int y7_5), some (.int y7_6)] []
                      exact X.weak (xle_c rfl (xle_c rfl (xle_n (xle_n (xle_c rfl (xle_n (xle_n xle_nil))))))) (kj8 I7 h)
                    · replace h := h.2 c217
                      refine x_iload dX13_call_220 rfl ?_
                      refine x_aload_n dX13_call_222 rfl ?_
                      refine x_get (v := .ref (m + 20)) hG dX13_call_223 f_X13_68_12 (mo_t hM) (congrArg va_rf (mo_P27 hM)) ?_
                      refine x_iload dX13_call_226 rfl ?_
                      obtain ⟨o13, h⟩ := h
                      refine y_iald hG dX13_call_228 (mo_t27 hM) (mo_n27 hM) o13 ?_
                      refine x_icmp_ge (tgt := 256) dX13_call_229 (by decide) (fun c229 => ?_) (fun c229 => ?_)
                      · replace h := h.1 c229
                        change X _ _ _ _ _ _ [some (.ref m), some (.int n), none, none, some (.int (if (I1 m 46) = 0 then (-1 : Int32) else (I1 m 62))), some (.int y7_5), some (.int y7_6)] []
                        exact X.weak (xle_c rfl (xle_c rfl (xle_n (xle_n (xle_c rfl (xle_n (xle_n xle_nil))))))) (kj8 I7 h)
                      · replace h := h.2 c229
                        refine x_aload_n dX13_call_232 rfl ?_
                        refine x_bipush_ (v := (23 : Int32)) dX13_call_233 (by decide) ?_
                        obtain ⟨R14, g14, h⟩ := h
                        refine x_callV hG (Ky := kX13_isSign) (As := [.int (23 : Int32)]) dX13_call_235 (mo_t hM) rfl lk_X13_257 me_X13_isSign is_X13_isSign se_X13_isSign rfl rfl (Nat.le_of_ble_eq_true rfl) (MX.post (m_X13_isSign hG hM g14) ?_)
                        rintro _ _ ⟨v14, I14, rfl, rfl, zv14, h1⟩
                        replace h := h v14 I14 zv14 h1
                        change X _ _ _ _ (A.wI I14) _ _ (.int v14 :: _)
                        refine x_if_eq (tgt := 256) dX13_call_238 (by decide) (fun c238 => ?_) (fun c238 => ?_)
                        · replace h := h.1 c238
                          change X _ _ _ _ _ _ [some (.ref m), some (.int n), none, none, some (.int (if (I1 m 46) = 0 then (-1 : Int32) else (I1 m 62))), some (.int y7_5), some (.int y7_6)] []
                          exact X.weak (xle_c rfl (xle_c rfl (xle_n (xle_n (xle_c rfl (xle_n (xle_n xle_nil))))))) (kj8 I14 h)
                        · replace h := h.2 c238
                          refine x_aload_n dX13_call_241 rfl ?_
                          refine x_bipush_ (v := (7 : Int32)) dX13_call_242 (by decide) ?_
                          refine x_aload_n dX13_call_244 rfl ?_
                          refine x_get (v := .ref (m + 5)) hG dX13_call_245 f_X13_22_12 (mo_t hM) (congrArg va_rf (mo_P6 hM)) ?_
                          refine x_aload_n dX13_call_248 rfl ?_
                          refine x_get (v := .int (I14 m 42)) hG dX13_call_249 f_X13_233_12 (mo_t hM) rfl ?_
                          obtain ⟨o15, h⟩ := h
                          refine y_iald hG dX13_call_252 (mo_t6 hM) (mo_n6 hM) o15 ?_
                          obtain ⟨R16, g16, h⟩ := h
                          refine x_callV hG (Ky := kX13_note) (As := [.int (7 : Int32), .int (I14 (m + 5) (ix (I14 m 42)))]) dX13_call_253 (mo_t hM) rfl lk_X13_352 me_X13_note is_X13_note se_X13_note rfl rfl (Nat.le_of_ble_eq_true rfl) (MX.post (m_X13_note hG hM g16) ?_)
                          rintro _ _ ⟨I16, rfl, rfl, h1⟩
                          replace h := h I16 h1
                          change X _ _ _ _ (A.wI I16) _ _ _
                          change X _ _ _ _ _ _ [some (.ref m), some (.int n), none, none, some (.int (if (I1 m 46) = 0 then (-1 : Int32) else (I1 m 62))), some (.int y7_5), some (.int y7_6)] []
                          exact X.weak (xle_c rfl (xle_c rfl (xle_n (xle_n (xle_c rfl (xle_n (xle_n xle_nil))))))) (kj8 I16 h)
                · replace h := h.2 c158
                  refine x_aload_n dX13_call_161 rfl ?_
                  refine x_iload dX13_call_162 rfl ?_
                  refine x_iload dX13_call_164 rfl ?_
                  obtain ⟨R17, g17, h⟩ := h
                  refine x_callV hG (Ky := kX13_argument) (As := [.int (if (I1 m 46) = 0 then (-1 : Int32) else (I1 m 62)), .int y7_5]) dX13_call_166 (mo_t hM) rfl lk_X13_484 me_X13_argument is_X13_argument se_X13_argument rfl rfl (Nat.le_of_ble_eq_true rfl) (MX.post (hR.2.2.2.2.2.2.2.1 g17) ?_)
                  rintro _ _ ⟨v17, I17, rfl, rfl, zv17, h1⟩
                  replace h := h v17 I17 zv17 h1
                  change X _ _ _ _ (A.wI I17) _ _ (.int v17 :: _)
                  refine x_if_ne (tgt := 174) dX13_call_169 (by decide) (fun c169 => ?_) (fun c169 => ?_)
                  · replace h := h.2 c169
                    refine x_iinc (v := (y7_5 + (1 : Int32))) dX13_call_174 rfl rfl (by decide) ?_
                    refine x_aload_n dX13_call_177 rfl ?_
                    refine x_bipush_ (v := (28 : Int32)) dX13_call_178 (by decide) ?_
                    obtain ⟨R18, g18, h⟩ := h
                    refine x_callV hG (Ky := kX13_isSign) (As := [.int (28 : Int32)]) dX13_call_180 (mo_t hM) rfl lk_X13_257 me_X13_isSign is_X13_isSign se_X13_isSign rfl rfl (Nat.le_of_ble_eq_true rfl) (MX.post (m_X13_isSign hG hM g18) ?_)
                    rintro _ _ ⟨v18, I18, rfl, rfl, zv18, h1⟩
                    replace h := h v18 I18 zv18 h1
                    change X _ _ _ _ (A.wI I18) _ _ (.int v18 :: _)
                    refine x_istore dX13_call_183 (by decide) ?_
                    refine x_aload_n dX13_call_185 rfl ?_
                    refine x_dup dX13_call_186 rfl ?_
                    refine x_get (v := .int (I18 m 42)) hG dX13_call_187 f_X13_233_12 (mo_t hM) rfl ?_
                    refine x_iload dX13_call_190 rfl ?_
                    refine x_via 200 (A' := (A.wI I18)) (lv' := [some (.ref m), some (.int n), none, none, some (.int (if (I1 m 46) = 0 then (-1 : Int32) else (I1 m 62))), some (.int (y7_5 + (1 : Int32))), some (.int v18)]) (st' := [.int (if v18 = 0 then (0 : Int32) else (1 : Int32)), .int (I18 m 42), .ref m]) ?_ (fun k200 => ?_)
                    rotate_left
                    · refine x_if_eq (tgt := 199) dX13_call_192 (by decide) (fun c192 => ?_) (fun c192 => ?_)
                      · refine x_iconst_ (v := (0 : Int32)) dX13_call_199 (by decide) ?_
                        change X _ _ _ _ _ _ [some (.ref m), some (.int n), none, none, some (.int (if (I1 m 46) = 0 then (-1 : Int32) else (I1 m 62))), some (.int (y7_5 + (1 : Int32))), some (.int v18)] [.int (0 : Int32), .int (I18 m 42), .ref m]
                        simp only [if_pos c192] at k200 ⊢
                        exact X.weak (xle_c rfl (xle_c rfl (xle_n (xle_n (xle_c rfl (xle_c rfl (xle_c rfl xle_nil))))))) k200
                      · refine x_iconst_ (v := (1 : Int32)) dX13_call_195 (by decide) ?_
                        refine x_goto (tgt := 200) dX13_call_196 (by decide) ?_
                        change X _ _ _ _ _ _ [some (.ref m), some (.int n), none, none, some (.int (if (I1 m 46) = 0 then (-1 : Int32) else (I1 m 62))), some (.int (y7_5 + (1 : Int32))), some (.int v18)] [.int (1 : Int32), .int (I18 m 42), .ref m]
                        simp only [if_neg c192] at k200 ⊢
                        exact X.weak (xle_c rfl (xle_c rfl (xle_n (xle_n (xle_c rfl (xle_c rfl (xle_c rfl xle_nil))))))) k200
                    refine x_iadd dX13_call_200 ?_
                    refine y_put hG hM dX13_call_201 f_X13_233_12 ⟨_, rfl, Or.inl rfl⟩ rfl rfl ⟨_, rfl⟩ (fun I19 e19 => ?_)
                    replace h := h I19 e19
                    refine x_goto (tgt := 156) dX13_call_204 (by decide) ?_
                    obtain ⟨q7, l7, h⟩ := h
                    change X _ _ _ _ _ _ [some (.ref m), some (.int n), none, none, some (.int (if (I1 m 46) = 0 then (-1 : Int32) else (I1 m 62))), some (.int (y7_5 + (1 : Int32))), some (.int v18)] []
                    exact X.weak (xle_c rfl (xle_c rfl (xle_n (xle_n (xle_c rfl (xle_c rfl (xle_c rfl xle_nil))))))) (ih7 q7 l7 (y7_5 + (1 : Int32)) v18 I19 h)
                  · replace h := h.1 c169
                    refine x_iconst_ (v := (0 : Int32)) dX13_call_172 (by decide) ?_
                    exact x_zret dX13_call_173 rfl (by decide) ⟨_, _, rfl, rfl, (by decide), h⟩
            change X _ _ _ _ _ _ [some (.ref m), some (.int n), none, none, some (.int (if (I1 m 46) = 0 then (-1 : Int32) else (I1 m 62))), some (.int (0 : Int32)), some (.int (if v6 = 0 then (1 : Int32) else (0 : Int32)))] []
            exact X.weak (xle_c rfl (xle_c rfl (xle_n (xle_n (xle_c rfl (xle_c rfl (xle_c rfl xle_nil))))))) (kl7 n7 (0 : Int32) (if v6 = 0 then (1 : Int32) else (0 : Int32)) I6 i7)
          · replace h := h.1 c132
            refine x_iconst_ (v := (0 : Int32)) dX13_call_135 (by decide) ?_
            exact x_zret dX13_call_136 rfl (by decide) ⟨_, _, rfl, rfl, (by decide), h⟩
        refine x_if_ne (tgt := 126) dX13_call_91 (by decide) (fun c91 => ?_) (fun c91 => ?_)
        · replace h := h.2 c91
          change X _ _ _ _ _ _ [some (.ref m), some (.int n), some (.int w), none, some (.int (if (I1 m 46) = 0 then (-1 : Int32) else (I1 m 62))), none, none] []
          exact X.weak (xle_c rfl (xle_c rfl (xle_n (xle_n (xle_c rfl (xle_n (xle_n xle_nil))))))) (kj4 I3 h)
        · replace h := h.1 c91
          refine x_iload dX13_call_94 rfl ?_
          refine x_iconst_ (v := (-1 : Int32)) dX13_call_96 (by decide) ?_
          refine x_icmp_eq (tgt := 126) dX13_call_97 (by decide) (fun c97 => ?_) (fun c97 => ?_)
          · replace h := h.1 c97
            change X _ _ _ _ _ _ [some (.ref m), some (.int n), some (.int w), none, some (.int (if (I1 m 46) = 0 then (-1 : Int32) else (I1 m 62))), none, none] []
            exact X.weak (xle_c rfl (xle_c rfl (xle_n (xle_n (xle_c rfl (xle_n (xle_n xle_nil))))))) (kj4 I3 h)
          · replace h := h.2 c97
            refine x_iload_n dX13_call_100 rfl ?_
            refine x_if_eq (tgt := 126) dX13_call_101 (by decide) (fun c101 => ?_) (fun c101 => ?_)
            · replace h := h.1 c101
              change X _ _ _ _ _ _ [some (.ref m), some (.int n), some (.int w), none, some (.int (if (I1 m 46) = 0 then (-1 : Int32) else (I1 m 62))), none, none] []
              exact X.weak (xle_c rfl (xle_c rfl (xle_n (xle_n (xle_c rfl (xle_n (xle_n xle_nil))))))) (kj4 I3 h)
            · replace h := h.2 c101
              refine x_aload_n dX13_call_104 rfl ?_
              refine x_get (v := .ref (m + 26)) hG dX13_call_105 f_X13_86_12 (mo_t hM) (congrArg va_rf (mo_P33 hM)) ?_
              refine x_iload dX13_call_108 rfl ?_
              obtain ⟨o20, h⟩ := h
              refine y_zald hG dX13_call_110 (mo_t33 hM) (mo_n33 hM) o20 ?_
              refine x_if_eq (tgt := 126) dX13_call_111 (by decide) (fun c111 => ?_) (fun c111 => ?_)
              · replace h := h.1 c111
                change X _ _ _ _ _ _ [some (.ref m), some (.int n), some (.int w), none, some (.int (if (I1 m 46) = 0 then (-1 : Int32) else (I1 m 62))), none, none] []
                exact X.weak (xle_c rfl (xle_c rfl (xle_n (xle_n (xle_c rfl (xle_n (xle_n xle_nil))))))) (kj4 I3 h)
              · replace h := h.2 c111
                refine x_aload_n dX13_call_114 rfl ?_
                refine x_bipush_ (v := (8 : Int32)) dX13_call_115 (by decide) ?_
                refine x_aload_n dX13_call_117 rfl ?_
                refine x_get (v := .ref (m + 5)) hG dX13_call_118 f_X13_22_12 (mo_t hM) (congrArg va_rf (mo_P6 hM)) ?_
                refine x_iload_n dX13_call_121 rfl ?_
                obtain ⟨o21, h⟩ := h
                refine y_iald hG dX13_call_122 (mo_t6 hM) (mo_n6 hM) o21 ?_
                obtain ⟨R22, g22, h⟩ := h
                refine x_callV hG (Ky := kX13_note) (As := [.int (8 : Int32), .int (I3 (m + 5) (ix n))]) dX13_call_123 (mo_t hM) rfl lk_X13_352 me_X13_note is_X13_note se_X13_note rfl rfl (Nat.le_of_ble_eq_true rfl) (MX.post (m_X13_note hG hM g22) ?_)
                rintro _ _ ⟨I22, rfl, rfl, h1⟩
                replace h := h I22 h1
                change X _ _ _ _ (A.wI I22) _ _ _
                change X _ _ _ _ _ _ [some (.ref m), some (.int n), some (.int w), none, some (.int (if (I1 m 46) = 0 then (-1 : Int32) else (I1 m 62))), none, none] []
                exact X.weak (xle_c rfl (xle_c rfl (xle_n (xle_n (xle_c rfl (xle_n (xle_n xle_nil))))))) (kj4 I22 h)
      refine x_if_ne (tgt := 87) dX13_call_67 (by decide) (fun c67 => ?_) (fun c67 => ?_)
      · replace h := h.2 c67
        change X _ _ _ _ _ _ [some (.ref m), some (.int n), some (.int w), some (.int y1_s0), some (.int (if (I1 m 46) = 0 then (-1 : Int32) else (I1 m 62))), none, none] []
        exact X.weak (xle_c rfl (xle_c rfl (xle_c rfl (xle_n (xle_c rfl (xle_n (xle_n xle_nil))))))) (kj3 I2 h)
      · replace h := h.1 c67
        refine x_iload_n dX13_call_70 rfl ?_
        refine x_iconst_ (v := (-1 : Int32)) dX13_call_71 (by decide) ?_
        refine x_icmp_eq (tgt := 87) dX13_call_72 (by decide) (fun c72 => ?_) (fun c72 => ?_)
        · replace h := h.1 c72
          change X _ _ _ _ _ _ [some (.ref m), some (.int n), some (.int w), some (.int y1_s0), some (.int (if (I1 m 46) = 0 then (-1 : Int32) else (I1 m 62))), none, none] []
          exact X.weak (xle_c rfl (xle_c rfl (xle_c rfl (xle_n (xle_c rfl (xle_n (xle_n xle_nil))))))) (kj3 I2 h)
        · replace h := h.2 c72
          refine x_aload_n dX13_call_75 rfl ?_
          refine x_bipush_ (v := (6 : Int32)) dX13_call_76 (by decide) ?_
          refine x_aload_n dX13_call_78 rfl ?_
          refine x_get (v := .ref (m + 5)) hG dX13_call_79 f_X13_22_12 (mo_t hM) (congrArg va_rf (mo_P6 hM)) ?_
          refine x_iload_n dX13_call_82 rfl ?_
          obtain ⟨o23, h⟩ := h
          refine y_iald hG dX13_call_83 (mo_t6 hM) (mo_n6 hM) o23 ?_
          obtain ⟨R24, g24, h⟩ := h
          refine x_callV hG (Ky := kX13_note) (As := [.int (6 : Int32), .int (I2 (m + 5) (ix n))]) dX13_call_84 (mo_t hM) rfl lk_X13_352 me_X13_note is_X13_note se_X13_note rfl rfl (Nat.le_of_ble_eq_true rfl) (MX.post (m_X13_note hG hM g24) ?_)
          rintro _ _ ⟨I24, rfl, rfl, h1⟩
          replace h := h I24 h1
          change X _ _ _ _ (A.wI I24) _ _ _
          change X _ _ _ _ _ _ [some (.ref m), some (.int n), some (.int w), some (.int y1_s0), some (.int (if (I1 m 46) = 0 then (-1 : Int32) else (I1 m 62))), none, none] []
          exact X.weak (xle_c rfl (xle_c rfl (xle_c rfl (xle_n (xle_c rfl (xle_n (xle_n xle_nil))))))) (kj3 I24 h)
    refine x_if_ne (tgt := 63) dX13_call_38 (by decide) (fun c38 => ?_) (fun c38 => ?_)
    · replace h := h.2 c38
      change X _ _ _ _ _ _ [some (.ref m), some (.int n), some (.int w), some (.int y1_s0), some (.int (if (I1 m 46) = 0 then (-1 : Int32) else (I1 m 62))), none, none] []
      exact X.weak (xle_c rfl (xle_c rfl (xle_c rfl (xle_c rfl (xle_c rfl (xle_n (xle_n xle_nil))))))) (kj2 I1 h)
    · replace h := h.1 c38
      refine x_iload_n dX13_call_41 rfl ?_
      refine x_iconst_ (v := (-1 : Int32)) dX13_call_42 (by decide) ?_
      refine x_icmp_ne (tgt := 63) dX13_call_43 (by decide) (fun c43 => ?_) (fun c43 => ?_)
      · replace h := h.2 c43
        change X _ _ _ _ _ _ [some (.ref m), some (.int n), some (.int w), some (.int y1_s0), some (.int (if (I1 m 46) = 0 then (-1 : Int32) else (I1 m 62))), none, none] []
        exact X.weak (xle_c rfl (xle_c rfl (xle_c rfl (xle_c rfl (xle_c rfl (xle_n (xle_n xle_nil))))))) (kj2 I1 h)
      · replace h := h.1 c43
        refine x_iload dX13_call_46 rfl ?_
        refine x_iconst_ (v := (-1 : Int32)) dX13_call_48 (by decide) ?_
        refine x_icmp_ne (tgt := 63) dX13_call_49 (by decide) (fun c49 => ?_) (fun c49 => ?_)
        · replace h := h.2 c49
          change X _ _ _ _ _ _ [some (.ref m), some (.int n), some (.int w), some (.int y1_s0), some (.int (if (I1 m 46) = 0 then (-1 : Int32) else (I1 m 62))), none, none] []
          exact X.weak (xle_c rfl (xle_c rfl (xle_c rfl (xle_c rfl (xle_c rfl (xle_n (xle_n xle_nil))))))) (kj2 I1 h)
        · replace h := h.1 c49
          refine x_aload_n dX13_call_52 rfl ?_
          refine x_iconst_ (v := (4 : Int32)) dX13_call_53 (by decide) ?_
          refine x_aload_n dX13_call_54 rfl ?_
          refine x_get (v := .ref (m + 5)) hG dX13_call_55 f_X13_22_12 (mo_t hM) (congrArg va_rf (mo_P6 hM)) ?_
          refine x_iload_n dX13_call_58 rfl ?_
          obtain ⟨o25, h⟩ := h
          refine y_iald hG dX13_call_59 (mo_t6 hM) (mo_n6 hM) o25 ?_
          obtain ⟨R26, g26, h⟩ := h
          refine x_callV hG (Ky := kX13_note) (As := [.int (4 : Int32), .int (I1 (m + 5) (ix n))]) dX13_call_60 (mo_t hM) rfl lk_X13_352 me_X13_note is_X13_note se_X13_note rfl rfl (Nat.le_of_ble_eq_true rfl) (MX.post (m_X13_note hG hM g26) ?_)
          rintro _ _ ⟨I26, rfl, rfl, h1⟩
          replace h := h I26 h1
          change X _ _ _ _ (A.wI I26) _ _ _
          change X _ _ _ _ _ _ [some (.ref m), some (.int n), some (.int w), some (.int y1_s0), some (.int (if (I1 m 46) = 0 then (-1 : Int32) else (I1 m 62))), none, none] []
          exact X.weak (xle_c rfl (xle_c rfl (xle_c rfl (xle_c rfl (xle_c rfl (xle_n (xle_n xle_nil))))))) (kj2 I26 h)
  refine x_if_ne (tgt := 11) dX13_call_4 (by decide) (fun c4 => ?_) (fun c4 => ?_)
  · replace h := h.2 c4
    refine x_aload_n dX13_call_11 rfl ?_
    refine x_iload_n dX13_call_12 rfl ?_
    obtain ⟨R27, g27, h⟩ := h
    refine x_callV hG (Ky := kX13_meaning) (As := [.int n]) dX13_call_13 (mo_t hM) rfl lk_X13_457 me_X13_meaning is_X13_meaning se_X13_meaning rfl rfl (Nat.le_of_ble_eq_true rfl) (MX.post (m_X13_meaning hG hM g27) ?_)
    rintro _ _ ⟨v27, I27, rfl, rfl, h1⟩
    replace h := h v27 I27 h1
    change X _ _ _ _ (A.wI I27) _ _ (.int v27 :: _)
    change X _ _ _ _ _ _ [some (.ref m), some (.int n), some (.int w), none, none, none, none] [.int v27]
    exact X.weak (xle_c rfl (xle_c rfl (xle_c rfl (xle_n (xle_n (xle_n (xle_n xle_nil))))))) (kj1 v27 I27 h)
  · replace h := h.1 c4
    refine x_iconst_ (v := (-1 : Int32)) dX13_call_7 (by decide) ?_
    refine x_goto (tgt := 16) dX13_call_8 (by decide) ?_
    change X _ _ _ _ _ _ [some (.ref m), some (.int n), some (.int w), none, none, none, none] [.int (-1 : Int32)]
    exact X.weak (xle_c rfl (xle_c rfl (xle_c rfl (xle_n (xle_n (xle_n (xle_n xle_nil))))))) (kj1 (-1 : Int32) I h)
def w_X13_argument (Rk : Nat → Int32 → Int32 → (Int32 → xII → Prop) → xII → Prop) (m : Nat) (f : Int32) (k : Int32) (Q : Int32 → xII → Prop) (I : xII) : Prop := (((I m 54) = 0 → ((f = (-1 : Int32) → ∃ R30 : Int32 → xII → Prop, Rk 0 0 0 R30 I ∧ (∀ (v30 : Int32) (I30 : xII), (v30 = 0 ∨ v30 = 1) → R30 v30 I30 → (Q v30 I30))) ∧ (¬ f = (-1 : Int32) → vp_in (I m 42) 4002 ∧ (vp_in f 500 ∧ (((k < (I (m + 20) (ix f)) → vp_in ((I (m + 24) (ix f)) + k) 900 ∧ ((((I (m + 27) (ix ((I (m + 24) (ix f)) + k))) = 0 → ∃ R27 : Int32 → xII → Prop, Rk 0 0 0 R27 I ∧ (∀ (v27 : Int32) (I27 : xII), (v27 = 0 ∨ v27 = 1) → R27 v27 I27 → (Q v27 I27))) ∧ (¬ (I (m + 27) (ix ((I (m + 24) (ix f)) + k))) = 0 → ∃ J5 : Int32 → Prop, (∀ (y5_s0 : Int32), J5 y5_s0 → ((y5_s0 = 0 → ∃ R24 : xII → Prop, w_X13_note m (7 : Int32) (I (m + 5) (ix (I m 42))) R24 I ∧ (∀ I24 : xII, R24 I24 → (∃ R25 : Int32 → xII → Prop, Rk 0 0 0 R25 I24 ∧ (∀ (v25 : Int32) (I25 : xII), (v25 = 0 ∨ v25 = 1) → R25 v25 I25 → (Q v25 I25))))) ∧ (¬ y5_s0 = 0 → ∃ R6 : Int32 → xII → Prop, w_X13_meaning m (I m 42) R6 I ∧ (∀ (v6 : Int32) (I6 : xII), R6 v6 I6 → (∃ J7 : xII → Prop, (∀ (I7 : xII), J7 I7 → ∀ I8 : xII, I8 = xup I7 m 42 ((I7 m 42) + (1 : Int32)) → (∃ J9 : Int32 → Prop, (∀ (y9_s0 : Int32), J9 y9_s0 → ∃ J10 : Int32 → Prop, (∀ (y10_s0 : Int32), J10 y10_s0 → ∃ R11 : Int32 → xII → Prop, w_X13_step m (5 : Int32) y9_s0 y10_s0 R11 I8 ∧ (∀ (v11 : Int32) (I11 : xII), R11 v11 I11 → (((v6 = (-1 : Int32) → vp_in v11 9000 ∧ (∀ I13 : xII, I13 = xup I11 (m + 35) (ix v11) (0 : Int32) → (Q (1 : Int32) I13))) ∧ (¬ v6 = (-1 : Int32) → vp_in v6 900 ∧ (vp_in v11 9000 ∧ (∀ I16 : xII, I16 = xup I11 (m + 35) (ix v11) (if (I11 (m + 17) (ix v6)) = 0 then (0 : Int32) else (1 : Int32)) → (Q (1 : Int32) I16)))))))) ∧ ((v6 = (-1 : Int32) → J10 (1 : Int32)) ∧ (¬ v6 = (-1 : Int32) → vp_in v6 900 ∧ (J10 (I7 (m + 15) (ix v6)))))) ∧ ((v6 = (-1 : Int32) → J9 (0 : Int32)) ∧ (¬ v6 = (-1 : Int32) → vp_in v6 900 ∧ (J9 (I7 (m + 14) (ix v6))))))) ∧ ((v6 = (-1 : Int32) → (((I6 m 62) = (-1 : Int32) → ∃ R23 : xII → Prop, w_X13_note m (4 : Int32) (I (m + 5) (ix (I m 42))) R23 I6 ∧ (∀ I23 : xII, R23 I23 → (J7 I23))) ∧ (¬ (I6 m 62) = (-1 : Int32) → ∃ R22 : xII → Prop, w_X13_note m (7 : Int32) (I (m + 5) (ix (I m 42))) R22 I6 ∧ (∀ I22 : xII, R22 I22 → (J7 I22))))) ∧ (¬ v6 = (-1 : Int32) → vp_in v6 900 ∧ ((((I6 (m + 11) (ix v6)) = (2 : Int32) → (((I6 (m + 16) (ix v6)) = (if (I (m + 27) (ix ((I (m + 24) (ix f)) + k))) = (2 : Int32) then (1 : Int32) else (0 : Int32)) → J7 I6) ∧ (¬ (I6 (m + 16) (ix v6)) = (if (I (m + 27) (ix ((I (m + 24) (ix f)) + k))) = (2 : Int32) then (1 : Int32) else (0 : Int32)) → ∃ R21 : xII → Prop, w_X13_note m (7 : Int32) (I (m + 5) (ix (I m 42))) R21 I6 ∧ (∀ I21 : xII, R21 I21 → (J7 I21))))) ∧ (¬ (I6 (m + 11) (ix v6)) = (2 : Int32) → ∃ R20 : xII → Prop, w_X13_note m (7 : Int32) (I (m + 5) (ix (I m 42))) R20 I6 ∧ (∀ I20 : xII, R20 I20 → (J7 I20)))))))))))) ∧ (((I (m + 3) (ix (I m 42))) = (1 : Int32) → vp_in ((I m 42) + (1 : Int32)) 4002 ∧ ((((I (m + 3) (ix ((I m 42) + (1 : Int32)))) = (4 : Int32) → (((I (m + 4) (ix ((I m 42) + (1 : Int32)))) = (28 : Int32) → J5 (1 : Int32)) ∧ (¬ (I (m + 4) (ix ((I m 42) + (1 : Int32)))) = (28 : Int32) → (((I (m + 4) (ix ((I m 42) + (1 : Int32)))) = (23 : Int32) → J5 (1 : Int32)) ∧ (¬ (I (m + 4) (ix ((I m 42) + (1 : Int32)))) = (23 : Int32) → J5 (0 : Int32)))))) ∧ (¬ (I (m + 3) (ix ((I m 42) + (1 : Int32)))) = (4 : Int32) → J5 (0 : Int32))))) ∧ (¬ (I (m + 3) (ix (I m 42))) = (1 : Int32) → J5 (0 : Int32))))))) ∧ (¬ k < (I (m + 20) (ix f)) → ∃ R28 : xII → Prop, w_X13_note m (7 : Int32) (I (m + 5) (ix (I m 42))) R28 I ∧ (∀ I28 : xII, R28 I28 → (∃ R29 : Int32 → xII → Prop, Rk 0 0 0 R29 I28 ∧ (∀ (v29 : Int32) (I29 : xII), (v29 = 0 ∨ v29 = 1) → R29 v29 I29 → (Q v29 I29))))))))))) ∧ (¬ (I m 54) = 0 → ∃ R1 : Int32 → xII → Prop, Rk 0 0 0 R1 I ∧ (∀ (v1 : Int32) (I1 : xII), (v1 = 0 ∨ v1 = 1) → R1 v1 I1 → (Q v1 I1))))
theorem m_X13_argument (hG : xOK G) {dp : Nat} {A : xA} {m : Nat} (hM : xMo G A m) {Rk : Nat → Int32 → Int32 → (Int32 → xII → Prop) → xII → Prop} (hR : xRC_E G (dp + 12) A m Rk) {f : Int32} {k : Int32} {Q : Int32 → xII → Prop} {I : xII} (h : w_X13_argument Rk m f k Q I) : MX G (dp + 13) kX13_argument [.ref m, .int f, .int k] (A.wI I) (oZ A Q) := by
  unfold w_X13_argument at h
  refine MX.of rfl (Nat.le_of_ble_eq_true rfl) ?_
  change X _ _ _ _ _ _ [some (.ref m), some (.int f), some (.int k), none, none, none, none, none] _
  refine x_aload_n dX13_argument_0 rfl ?_
  refine x_get (v := .int (I m 54)) hG dX13_argument_1 f_X13_365_12 (mo_t hM) rfl ?_
  refine x_if_ne (tgt := 12) dX13_argument_4 (by decide) (fun c4 => ?_) (fun c4 => ?_)
  · replace h := h.2 c4
    refine x_aload_n dX13_argument_12 rfl ?_
    obtain ⟨R1, g1, h⟩ := h
    refine x_callV hG (Ky := kX13_expression) (As := []) dX13_argument_13 (mo_t hM) rfl lk_X13_368 me_X13_expression is_X13_expression se_X13_expression rfl rfl (Nat.le_of_ble_eq_true rfl) (MX.post (hR.1 g1) ?_)
    rintro _ _ ⟨v1, I1, rfl, rfl, zv1, h1⟩
    replace h := h v1 I1 zv1 h1
    change X _ _ _ _ (A.wI I1) _ _ (.int v1 :: _)
    exact x_zret dX13_argument_16 rfl zv1 ⟨_, _, rfl, rfl, zv1, h⟩
  · replace h := h.1 c4
    refine x_iload_n dX13_argument_7 rfl ?_
    refine x_iconst_ (v := (-1 : Int32)) dX13_argument_8 (by decide) ?_
    refine x_icmp_ne (tgt := 17) dX13_argument_9 (by decide) (fun c9 => ?_) (fun c9 => ?_)
    · replace h := h.2 c9
      refine x_aload_n dX13_argument_17 rfl ?_
      refine x_get (v := .ref (m + 5)) hG dX13_argument_18 f_X13_22_12 (mo_t hM) (congrArg va_rf (mo_P6 hM)) ?_
      refine x_aload_n dX13_argument_21 rfl ?_
      refine x_get (v := .int (I m 42)) hG dX13_argument_22 f_X13_233_12 (mo_t hM) rfl ?_
      obtain ⟨o2, h⟩ := h
      refine y_iald hG dX13_argument_25 (mo_t6 hM) (mo_n6 hM) o2 ?_
      refine x_istore_n dX13_argument_26 (by decide) ?_
      refine x_iload_n dX13_argument_27 rfl ?_
      refine x_aload_n dX13_argument_28 rfl ?_
      refine x_get (v := .ref (m + 20)) hG dX13_argument_29 f_X13_68_12 (mo_t hM) (congrArg va_rf (mo_P27 hM)) ?_
      refine x_iload_n dX13_argument_32 rfl ?_
      obtain ⟨o3, h⟩ := h
      refine y_iald hG dX13_argument_33 (mo_t27 hM) (mo_n27 hM) o3 ?_
      refine x_icmp_lt (tgt := 49) dX13_argument_34 (by decide) (fun c34 => ?_) (fun c34 => ?_)
      · replace h := h.1 c34
        refine x_aload_n dX13_argument_49 rfl ?_
        refine x_get (v := .ref (m + 27)) hG dX13_argument_50 f_X13_89_12 (mo_t hM) (congrArg va_rf (mo_P34 hM)) ?_
        refine x_aload_n dX13_argument_53 rfl ?_
        refine x_get (v := .ref (m + 24)) hG dX13_argument_54 f_X13_80_12 (mo_t hM) (congrArg va_rf (mo_P31 hM)) ?_
        refine x_iload_n dX13_argument_57 rfl ?_
        refine y_iald hG dX13_argument_58 (mo_t31 hM) (mo_n31 hM) o3 ?_
        refine x_iload_n dX13_argument_59 rfl ?_
        refine x_iadd dX13_argument_60 ?_
        obtain ⟨o4, h⟩ := h
        refine y_iald hG dX13_argument_61 (mo_t34 hM) (mo_n34 hM) o4 ?_
        refine x_istore dX13_argument_62 (by decide) ?_
        refine x_iload dX13_argument_64 rfl ?_
        refine x_if_ne (tgt := 74) dX13_argument_66 (by decide) (fun c66 => ?_) (fun c66 => ?_)
        · replace h := h.2 c66
          refine x_aload_n dX13_argument_74 rfl ?_
          refine x_get (v := .ref (m + 3)) hG dX13_argument_75 f_X13_16_12 (mo_t hM) (congrArg va_rf (mo_P4 hM)) ?_
          refine x_aload_n dX13_argument_78 rfl ?_
          refine x_get (v := .int (I m 42)) hG dX13_argument_79 f_X13_233_12 (mo_t hM) rfl ?_
          refine y_iald hG dX13_argument_82 (mo_t4 hM) (mo_n4 hM) o2 ?_
          refine x_iconst_ (v := (1 : Int32)) dX13_argument_83 (by decide) ?_
          obtain ⟨J5, g5, h⟩ := h
          have kj5 : ∀ (y5_s0 : Int32), J5 y5_s0 → X G (dp + 13) kX13_argument (oZ A Q) (A.wI I) 139 [some (.ref m), none, none, some (.int (I (m + 5) (ix (I m 42)))), some (.int (I (m + 27) (ix ((I (m + 24) (ix f)) + k)))), none, none, none] [.int y5_s0] := by
            intro y5_s0 h
            replace h := g5 y5_s0 h
            refine x_istore dX13_argument_139 (by decide) ?_
            refine x_iload dX13_argument_141 rfl ?_
            refine x_if_ne (tgt := 158) dX13_argument_143 (by decide) (fun c143 => ?_) (fun c143 => ?_)
            · replace h := h.2 c143
              refine x_aload_n dX13_argument_158 rfl ?_
              refine x_aload_n dX13_argument_159 rfl ?_
              refine x_get (v := .int (I m 42)) hG dX13_argument_160 f_X13_233_12 (mo_t hM) rfl ?_
              obtain ⟨R6, g6, h⟩ := h
              refine x_callV hG (Ky := kX13_meaning) (As := [.int (I m 42)]) dX13_argument_163 (mo_t hM) rfl lk_X13_457 me_X13_meaning is_X13_meaning se_X13_meaning rfl rfl (Nat.le_of_ble_eq_true rfl) (MX.post (m_X13_meaning hG hM g6) ?_)
              rintro _ _ ⟨v6, I6, rfl, rfl, h1⟩
              replace h := h v6 I6 h1
              change X _ _ _ _ (A.wI I6) _ _ (.int v6 :: _)
              refine x_istore dX13_argument_166 (by decide) ?_
              refine x_iload dX13_argument_168 rfl ?_
              refine x_iconst_ (v := (-1 : Int32)) dX13_argument_170 (by decide) ?_
              obtain ⟨J7, g7, h⟩ := h
              have kj7 : ∀ (I7 : xII), J7 I7 → X G (dp + 13) kX13_argument (oZ A Q) (A.wI I7) 236 [some (.ref m), none, none, none, none, none, some (.int v6), none] [] := by
                intro I7 h
                replace h := g7 I7 h
                refine x_aload_n dX13_argument_236 rfl ?_
                refine x_dup dX13_argument_237 rfl ?_
                refine x_get (v := .int (I7 m 42)) hG dX13_argument_238 f_X13_233_12 (mo_t hM) rfl ?_
                refine x_iconst_ (v := (1 : Int32)) dX13_argument_241 (by decide) ?_
                refine x_iadd dX13_argument_242 ?_
                refine y_put hG hM dX13_argument_243 f_X13_233_12 ⟨_, rfl, Or.inl rfl⟩ rfl rfl ⟨_, rfl⟩ (fun I8 e8 => ?_)
                replace h := h I8 e8
                refine x_aload_n dX13_argument_246 rfl ?_
                refine x_iconst_ (v := (5 : Int32)) dX13_argument_247 (by decide) ?_
                refine x_iload dX13_argument_248 rfl ?_
                refine x_iconst_ (v := (-1 : Int32)) dX13_argument_250 (by decide) ?_
                obtain ⟨J9, g9, h⟩ := h
                have kj9 : ∀ (y9_s0 : Int32), J9 y9_s0 → X G (dp + 13) kX13_argument (oZ A Q) (A.wI I8) 265 [some (.ref m), none, none, none, none, none, some (.int v6), none] [.int y9_s0, .int (5 : Int32), .ref m] := by
                  intro y9_s0 h
                  replace h := g9 y9_s0 h
                  refine x_iload dX13_argument_265 rfl ?_
                  refine x_iconst_ (v := (-1 : Int32)) dX13_argument_267 (by decide) ?_
                  obtain ⟨J10, g10, h⟩ := h
                  have kj10 : ∀ (y10_s0 : Int32), J10 y10_s0 → X G (dp + 13) kX13_argument (oZ A Q) (A.wI I8) 282 [some (.ref m), none, none, none, none, none, some (.int v6), none] [.int y10_s0, .int y9_s0, .int (5 : Int32), .ref m] := by
                    intro y10_s0 h
                    replace h := g10 y10_s0 h
                    obtain ⟨R11, g11, h⟩ := h
                    refine x_callV hG (Ky := kX13_step) (As := [.int (5 : Int32), .int y9_s0, .int y10_s0]) dX13_argument_282 (mo_t hM) rfl lk_X13_401 me_X13_step is_X13_step se_X13_step rfl rfl (Nat.le_of_ble_eq_true rfl) (MX.post (m_X13_step hG hM g11) ?_)
                    rintro _ _ ⟨v11, I11, rfl, rfl, h1⟩
                    replace h := h v11 I11 h1
                    change X _ _ _ _ (A.wI I11) _ _ (.int v11 :: _)
                    refine x_istore dX13_argument_285 (by decide) ?_
                    refine x_aload_n dX13_argument_287 rfl ?_
                    refine x_get (v := .ref (m + 35)) hG dX13_argument_288 f_X13_113_12 (mo_t hM) (congrArg va_rf (mo_P59 hM)) ?_
                    refine x_iload dX13_argument_291 rfl ?_
                    refine x_iload dX13_argument_293 rfl ?_
                    refine x_iconst_ (v := (-1 : Int32)) dX13_argument_295 (by decide) ?_
                    refine x_icmp_eq (tgt := 313) dX13_argument_296 (by decide) (fun c296 => ?_) (fun c296 => ?_)
                    · replace h := h.1 c296
                      refine x_iconst_ (v := (0 : Int32)) dX13_argument_313 (by decide) ?_
                      obtain ⟨o12, h⟩ := h
                      refine y_iast hG dX13_argument_314 (mo_t59 hM) (mo_aN hM) (mo_n59 hM) o12 (fun I13 e13 => ?_)
                      replace h := h I13 e13
                      refine x_iconst_ (v := (1 : Int32)) dX13_argument_315 (by decide) ?_
                      exact x_zret dX13_argument_316 rfl (by decide) ⟨_, _, rfl, rfl, (by decide), h⟩
                    · replace h := h.2 c296
                      refine x_aload_n dX13_argument_299 rfl ?_
                      refine x_get (v := .ref (m + 17)) hG dX13_argument_300 f_X13_59_12 (mo_t hM) (congrArg va_rf (mo_P23 hM)) ?_
                      refine x_iload dX13_argument_303 rfl ?_
                      obtain ⟨o14, h⟩ := h
                      refine y_zald hG dX13_argument_305 (mo_t23 hM) (mo_n23 hM) o14 ?_
                      refine x_via 314 (A' := (A.wI I11)) (lv' := [none, none, none, none, none, none, none, none]) (st' := [.int (if (I11 (m + 17) (ix v6)) = 0 then (0 : Int32) else (1 : Int32)), .int v11, .ref (m + 35)]) ?_ (fun k314 => ?_)
                      rotate_left
                      · refine x_if_eq (tgt := 313) dX13_argument_306 (by decide) (fun c306 => ?_) (fun c306 => ?_)
                        · refine x_iconst_ (v := (0 : Int32)) dX13_argument_313 (by decide) ?_
                          change X _ _ _ _ _ _ [some (.ref m), none, none, none, none, none, some (.int v6), some (.int v11)] [.int (0 : Int32), .int v11, .ref (m + 35)]
                          simp only [if_pos c306] at k314 ⊢
                          exact X.weak (xle_n (xle_n (xle_n (xle_n (xle_n (xle_n (xle_n (xle_n xle_nil)))))))) k314
                        · refine x_iconst_ (v := (1 : Int32)) dX13_argument_309 (by decide) ?_
                          refine x_goto (tgt := 314) dX13_argument_310 (by decide) ?_
                          change X _ _ _ _ _ _ [some (.ref m), none, none, none, none, none, some (.int v6), some (.int v11)] [.int (1 : Int32), .int v11, .ref (m + 35)]
                          simp only [if_neg c306] at k314 ⊢
                          exact X.weak (xle_n (xle_n (xle_n (xle_n (xle_n (xle_n (xle_n (xle_n xle_nil)))))))) k314
                      obtain ⟨o15, h⟩ := h
                      refine y_iast hG dX13_argument_314 (mo_t59 hM) (mo_aN hM) (mo_n59 hM) o15 (fun I16 e16 => ?_)
                      replace h := h I16 e16
                      refine x_iconst_ (v := (1 : Int32)) dX13_argument_315 (by decide) ?_
                      exact x_zret dX13_argument_316 rfl (by decide) ⟨_, _, rfl, rfl, (by decide), h⟩
                  refine x_icmp_ne (tgt := 275) dX13_argument_268 (by decide) (fun c268 => ?_) (fun c268 => ?_)
                  · replace h := h.2 c268
                    refine x_aload_n dX13_argument_275 rfl ?_
                    refine x_get (v := .ref (m + 15)) hG dX13_argument_276 f_X13_52_12 (mo_t hM) (congrArg va_rf (mo_P21 hM)) ?_
                    refine x_iload dX13_argument_279 rfl ?_
                    obtain ⟨o17, h⟩ := h
                    refine y_iald hG dX13_argument_281 (mo_t21 hM) (mo_n21 hM) o17 ?_
                    refine x_eqi (v := (I7 (m + 15) (ix v6))) (xup_ra e8 (by omega)) ?_
                    change X _ _ _ _ _ _ [some (.ref m), none, none, none, none, none, some (.int v6), none] [.int (I7 (m + 15) (ix v6)), .int y9_s0, .int (5 : Int32), .ref m]
                    exact X.weak (xle_c rfl (xle_n (xle_n (xle_n (xle_n (xle_n (xle_c rfl (xle_n xle_nil)))))))) (kj10 (I7 (m + 15) (ix v6)) h)
                  · replace h := h.1 c268
                    refine x_iconst_ (v := (1 : Int32)) dX13_argument_271 (by decide) ?_
                    refine x_goto (tgt := 282) dX13_argument_272 (by decide) ?_
                    change X _ _ _ _ _ _ [some (.ref m), none, none, none, none, none, some (.int v6), none] [.int (1 : Int32), .int y9_s0, .int (5 : Int32), .ref m]
                    exact X.weak (xle_c rfl (xle_n (xle_n (xle_n (xle_n (xle_n (xle_c rfl (xle_n xle_nil)))))))) (kj10 (1 : Int32) h)
                refine x_icmp_ne (tgt := 258) dX13_argument_251 (by decide) (fun c251 => ?_) (fun c251 => ?_)
                · replace h := h.2 c251
                  refine x_aload_n dX13_argument_258 rfl ?_
                  refine x_get (v := .ref (m + 14)) hG dX13_argument_259 f_X13_49_12 (mo_t hM) (congrArg va_rf (mo_P20 hM)) ?_
                  refine x_iload dX13_argument_262 rfl ?_
                  obtain ⟨o18, h⟩ := h
                  refine y_iald hG dX13_argument_264 (mo_t20 hM) (mo_n20 hM) o18 ?_
                  refine x_eqi (v := (I7 (m + 14) (ix v6))) (xup_ra e8 (by omega)) ?_
                  change X _ _ _ _ _ _ [some (.ref m), none, none, none, none, none, some (.int v6), none] [.int (I7 (m + 14) (ix v6)), .int (5 : Int32), .ref m]
                  exact X.weak (xle_c rfl (xle_n (xle_n (xle_n (xle_n (xle_n (xle_c rfl (xle_n xle_nil)))))))) (kj9 (I7 (m + 14) (ix v6)) h)
                · replace h := h.1 c251
                  refine x_iconst_ (v := (0 : Int32)) dX13_argument_254 (by decide) ?_
                  refine x_goto (tgt := 265) dX13_argument_255 (by decide) ?_
                  change X _ _ _ _ _ _ [some (.ref m), none, none, none, none, none, some (.int v6), none] [.int (0 : Int32), .int (5 : Int32), .ref m]
                  exact X.weak (xle_c rfl (xle_n (xle_n (xle_n (xle_n (xle_n (xle_c rfl (xle_n xle_nil)))))))) (kj9 (0 : Int32) h)
              refine x_icmp_ne (tgt := 191) dX13_argument_171 (by decide) (fun c171 => ?_) (fun c171 => ?_)
              · replace h := h.2 c171
                refine x_iload dX13_argument_191 rfl ?_
                refine x_iconst_ (v := (-1 : Int32)) dX13_argument_193 (by decide) ?_
                refine x_icmp_eq (tgt := 229) dX13_argument_194 (by decide) (fun h => absurd h c171) (fun _ => ?_)
                refine x_aload_n dX13_argument_197 rfl ?_
                refine x_get (v := .ref (m + 11)) hG dX13_argument_198 f_X13_40_12 (mo_t hM) (congrArg va_rf (mo_P17 hM)) ?_
                refine x_iload dX13_argument_201 rfl ?_
                obtain ⟨o19, h⟩ := h
                refine y_iald hG dX13_argument_203 (mo_t17 hM) (mo_n17 hM) o19 ?_
                refine x_iconst_ (v := (2 : Int32)) dX13_argument_204 (by decide) ?_
                refine x_icmp_ne (tgt := 229) dX13_argument_205 (by decide) (fun c205 => ?_) (fun c205 => ?_)
                · replace h := h.2 c205
                  refine x_aload_n dX13_argument_229 rfl ?_
                  refine x_bipush_ (v := (7 : Int32)) dX13_argument_230 (by decide) ?_
                  refine x_iload_n dX13_argument_232 rfl ?_
                  obtain ⟨R20, g20, h⟩ := h
                  refine x_callV hG (Ky := kX13_note) (As := [.int (7 : Int32), .int (I (m + 5) (ix (I m 42)))]) dX13_argument_233 (mo_t hM) rfl lk_X13_352 me_X13_note is_X13_note se_X13_note rfl rfl (Nat.le_of_ble_eq_true rfl) (MX.post (m_X13_note hG hM g20) ?_)
                  rintro _ _ ⟨I20, rfl, rfl, h1⟩
                  replace h := h I20 h1
                  change X _ _ _ _ (A.wI I20) _ _ _
                  change X _ _ _ _ _ _ [some (.ref m), none, none, some (.int (I (m + 5) (ix (I m 42)))), some (.int (I (m + 27) (ix ((I (m + 24) (ix f)) + k)))), some (.int y5_s0), some (.int v6), none] []
                  exact X.weak (xle_c rfl (xle_n (xle_n (xle_n (xle_n (xle_n (xle_c rfl (xle_n xle_nil)))))))) (kj7 I20 h)
                · replace h := h.1 c205
                  refine x_aload_n dX13_argument_208 rfl ?_
                  refine x_get (v := .ref (m + 16)) hG dX13_argument_209 f_X13_55_12 (mo_t hM) (congrArg va_rf (mo_P22 hM)) ?_
                  refine x_iload dX13_argument_212 rfl ?_
                  refine y_zald hG dX13_argument_214 (mo_t22 hM) (mo_n22 hM) o19 ?_
                  refine x_iload dX13_argument_215 rfl ?_
                  refine x_iconst_ (v := (2 : Int32)) dX13_argument_217 (by decide) ?_
                  refine x_via 226 (A' := (A.wI I6)) (lv' := [some (.ref m), none, none, some (.int (I (m + 5) (ix (I m 42)))), none, none, some (.int v6), none]) (st' := [.int (if (I (m + 27) (ix ((I (m + 24) (ix f)) + k))) = (2 : Int32) then (1 : Int32) else (0 : Int32)), .int (I6 (m + 16) (ix v6))]) ?_ (fun k226 => ?_)
                  rotate_left
                  · refine x_icmp_ne (tgt := 225) dX13_argument_218 (by decide) (fun c218 => ?_) (fun c218 => ?_)
                    · refine x_iconst_ (v := (0 : Int32)) dX13_argument_225 (by decide) ?_
                      change X _ _ _ _ _ _ [some (.ref m), none, none, some (.int (I (m + 5) (ix (I m 42)))), some (.int (I (m + 27) (ix ((I (m + 24) (ix f)) + k)))), some (.int y5_s0), some (.int v6), none] [.int (0 : Int32), .int (I6 (m + 16) (ix v6))]
                      simp only [if_neg c218] at k226 ⊢
                      exact X.weak (xle_c rfl (xle_n (xle_n (xle_c rfl (xle_n (xle_n (xle_c rfl (xle_n xle_nil)))))))) k226
                    · refine x_iconst_ (v := (1 : Int32)) dX13_argument_221 (by decide) ?_
                      refine x_goto (tgt := 226) dX13_argument_222 (by decide) ?_
                      change X _ _ _ _ _ _ [some (.ref m), none, none, some (.int (I (m + 5) (ix (I m 42)))), some (.int (I (m + 27) (ix ((I (m + 24) (ix f)) + k)))), some (.int y5_s0), some (.int v6), none] [.int (1 : Int32), .int (I6 (m + 16) (ix v6))]
                      simp only [if_pos c218] at k226 ⊢
                      exact X.weak (xle_c rfl (xle_n (xle_n (xle_c rfl (xle_n (xle_n (xle_c rfl (xle_n xle_nil)))))))) k226
                  refine x_icmp_eq (tgt := 236) dX13_argument_226 (by decide) (fun c226 => ?_) (fun c226 => ?_)
                  · replace h := h.1 c226
                    change X _ _ _ _ _ _ [some (.ref m), none, none, some (.int (I (m + 5) (ix (I m 42)))), none, none, some (.int v6), none] []
                    exact X.weak (xle_c rfl (xle_n (xle_n (xle_n (xle_n (xle_n (xle_c rfl (xle_n xle_nil)))))))) (kj7 I6 h)
                  · replace h := h.2 c226
                    refine x_aload_n dX13_argument_229 rfl ?_
                    refine x_bipush_ (v := (7 : Int32)) dX13_argument_230 (by decide) ?_
                    refine x_iload_n dX13_argument_232 rfl ?_
                    obtain ⟨R21, g21, h⟩ := h
                    refine x_callV hG (Ky := kX13_note) (As := [.int (7 : Int32), .int (I (m + 5) (ix (I m 42)))]) dX13_argument_233 (mo_t hM) rfl lk_X13_352 me_X13_note is_X13_note se_X13_note rfl rfl (Nat.le_of_ble_eq_true rfl) (MX.post (m_X13_note hG hM g21) ?_)
                    rintro _ _ ⟨I21, rfl, rfl, h1⟩
                    replace h := h I21 h1
                    change X _ _ _ _ (A.wI I21) _ _ _
                    change X _ _ _ _ _ _ [some (.ref m), none, none, some (.int (I (m + 5) (ix (I m 42)))), none, none, some (.int v6), none] []
                    exact X.weak (xle_c rfl (xle_n (xle_n (xle_n (xle_n (xle_n (xle_c rfl (xle_n xle_nil)))))))) (kj7 I21 h)
              · replace h := h.1 c171
                refine x_aload_n dX13_argument_174 rfl ?_
                refine x_get (v := .int (I6 m 62)) hG dX13_argument_175 f_X13_374_12 (mo_t hM) rfl ?_
                refine x_iconst_ (v := (-1 : Int32)) dX13_argument_178 (by decide) ?_
                refine x_icmp_ne (tgt := 191) dX13_argument_179 (by decide) (fun c179 => ?_) (fun c179 => ?_)
                · replace h := h.2 c179
                  refine x_iload dX13_argument_191 rfl ?_
                  refine x_iconst_ (v := (-1 : Int32)) dX13_argument_193 (by decide) ?_
                  refine x_icmp_eq (tgt := 229) dX13_argument_194 (by decide) (fun _ => ?_) (fun h => absurd c171 h)
                  refine x_aload_n dX13_argument_229 rfl ?_
                  refine x_bipush_ (v := (7 : Int32)) dX13_argument_230 (by decide) ?_
                  refine x_iload_n dX13_argument_232 rfl ?_
                  obtain ⟨R22, g22, h⟩ := h
                  refine x_callV hG (Ky := kX13_note) (As := [.int (7 : Int32), .int (I (m + 5) (ix (I m 42)))]) dX13_argument_233 (mo_t hM) rfl lk_X13_352 me_X13_note is_X13_note se_X13_note rfl rfl (Nat.le_of_ble_eq_true rfl) (MX.post (m_X13_note hG hM g22) ?_)
                  rintro _ _ ⟨I22, rfl, rfl, h1⟩
                  replace h := h I22 h1
                  change X _ _ _ _ (A.wI I22) _ _ _
                  change X _ _ _ _ _ _ [some (.ref m), none, none, some (.int (I (m + 5) (ix (I m 42)))), some (.int (I (m + 27) (ix ((I (m + 24) (ix f)) + k)))), some (.int y5_s0), some (.int v6), none] []
                  exact X.weak (xle_c rfl (xle_n (xle_n (xle_n (xle_n (xle_n (xle_c rfl (xle_n xle_nil)))))))) (kj7 I22 h)
                · replace h := h.1 c179
                  refine x_aload_n dX13_argument_182 rfl ?_
                  refine x_iconst_ (v := (4 : Int32)) dX13_argument_183 (by decide) ?_
                  refine x_iload_n dX13_argument_184 rfl ?_
                  obtain ⟨R23, g23, h⟩ := h
                  refine x_callV hG (Ky := kX13_note) (As := [.int (4 : Int32), .int (I (m + 5) (ix (I m 42)))]) dX13_argument_185 (mo_t hM) rfl lk_X13_352 me_X13_note is_X13_note se_X13_note rfl rfl (Nat.le_of_ble_eq_true rfl) (MX.post (m_X13_note hG hM g23) ?_)
                  rintro _ _ ⟨I23, rfl, rfl, h1⟩
                  replace h := h I23 h1
                  change X _ _ _ _ (A.wI I23) _ _ _
                  refine x_goto (tgt := 236) dX13_argument_188 (by decide) ?_
                  change X _ _ _ _ _ _ [some (.ref m), none, none, some (.int (I (m + 5) (ix (I m 42)))), some (.int (I (m + 27) (ix ((I (m + 24) (ix f)) + k)))), some (.int y5_s0), some (.int v6), none] []
                  exact X.weak (xle_c rfl (xle_n (xle_n (xle_n (xle_n (xle_n (xle_c rfl (xle_n xle_nil)))))))) (kj7 I23 h)
            · replace h := h.1 c143
              refine x_aload_n dX13_argument_146 rfl ?_
              refine x_bipush_ (v := (7 : Int32)) dX13_argument_147 (by decide) ?_
              refine x_iload_n dX13_argument_149 rfl ?_
              obtain ⟨R24, g24, h⟩ := h
              refine x_callV hG (Ky := kX13_note) (As := [.int (7 : Int32), .int (I (m + 5) (ix (I m 42)))]) dX13_argument_150 (mo_t hM) rfl lk_X13_352 me_X13_note is_X13_note se_X13_note rfl rfl (Nat.le_of_ble_eq_true rfl) (MX.post (m_X13_note hG hM g24) ?_)
              rintro _ _ ⟨I24, rfl, rfl, h1⟩
              replace h := h I24 h1
              change X _ _ _ _ (A.wI I24) _ _ _
              refine x_aload_n dX13_argument_153 rfl ?_
              obtain ⟨R25, g25, h⟩ := h
              refine x_callV hG (Ky := kX13_expression) (As := []) dX13_argument_154 (mo_t hM) rfl lk_X13_368 me_X13_expression is_X13_expression se_X13_expression rfl rfl (Nat.le_of_ble_eq_true rfl) (MX.post (hR.1 g25) ?_)
              rintro _ _ ⟨v25, I25, rfl, rfl, zv25, h1⟩
              replace h := h v25 I25 zv25 h1
              change X _ _ _ _ (A.wI I25) _ _ (.int v25 :: _)
              exact x_zret dX13_argument_157 rfl zv25 ⟨_, _, rfl, rfl, zv25, h⟩
          refine x_icmp_ne (tgt := 138) dX13_argument_84 (by decide) (fun c84 => ?_) (fun c84 => ?_)
          · replace h := h.2 c84
            refine x_iconst_ (v := (0 : Int32)) dX13_argument_138 (by decide) ?_
            change X _ _ _ _ _ _ [some (.ref m), some (.int f), some (.int k), some (.int (I (m + 5) (ix (I m 42)))), some (.int (I (m + 27) (ix ((I (m + 24) (ix f)) + k)))), none, none, none] [.int (0 : Int32)]
            exact X.weak (xle_c rfl (xle_n (xle_n (xle_c rfl (xle_c rfl (xle_n (xle_n (xle_n xle_nil)))))))) (kj5 (0 : Int32) h)
          · replace h := h.1 c84
            refine x_aload_n dX13_argument_87 rfl ?_
            refine x_get (v := .ref (m + 3)) hG dX13_argument_88 f_X13_16_12 (mo_t hM) (congrArg va_rf (mo_P4 hM)) ?_
            refine x_aload_n dX13_argument_91 rfl ?_
            refine x_get (v := .int (I m 42)) hG dX13_argument_92 f_X13_233_12 (mo_t hM) rfl ?_
            refine x_iconst_ (v := (1 : Int32)) dX13_argument_95 (by decide) ?_
            refine x_iadd dX13_argument_96 ?_
            obtain ⟨o26, h⟩ := h
            refine y_iald hG dX13_argument_97 (mo_t4 hM) (mo_n4 hM) o26 ?_
            refine x_iconst_ (v := (4 : Int32)) dX13_argument_98 (by decide) ?_
            refine x_icmp_ne (tgt := 138) dX13_argument_99 (by decide) (fun c99 => ?_) (fun c99 => ?_)
            · replace h := h.2 c99
              refine x_iconst_ (v := (0 : Int32)) dX13_argument_138 (by decide) ?_
              change X _ _ _ _ _ _ [some (.ref m), some (.int f), some (.int k), some (.int (I (m + 5) (ix (I m 42)))), some (.int (I (m + 27) (ix ((I (m + 24) (ix f)) + k)))), none, none, none] [.int (0 : Int32)]
              exact X.weak (xle_c rfl (xle_n (xle_n (xle_c rfl (xle_c rfl (xle_n (xle_n (xle_n xle_nil)))))))) (kj5 (0 : Int32) h)
            · replace h := h.1 c99
              refine x_aload_n dX13_argument_102 rfl ?_
              refine x_get (v := .ref (m + 4)) hG dX13_argument_103 f_X13_19_12 (mo_t hM) (congrArg va_rf (mo_P5 hM)) ?_
              refine x_aload_n dX13_argument_106 rfl ?_
              refine x_get (v := .int (I m 42)) hG dX13_argument_107 f_X13_233_12 (mo_t hM) rfl ?_
              refine x_iconst_ (v := (1 : Int32)) dX13_argument_110 (by decide) ?_
              refine x_iadd dX13_argument_111 ?_
              refine y_iald hG dX13_argument_112 (mo_t5 hM) (mo_n5 hM) o26 ?_
              refine x_bipush_ (v := (28 : Int32)) dX13_argument_113 (by decide) ?_
              refine x_icmp_eq (tgt := 134) dX13_argument_115 (by decide) (fun c115 => ?_) (fun c115 => ?_)
              · replace h := h.1 c115
                refine x_iconst_ (v := (1 : Int32)) dX13_argument_134 (by decide) ?_
                refine x_goto (tgt := 139) dX13_argument_135 (by decide) ?_
                change X _ _ _ _ _ _ [some (.ref m), some (.int f), some (.int k), some (.int (I (m + 5) (ix (I m 42)))), some (.int (I (m + 27) (ix ((I (m + 24) (ix f)) + k)))), none, none, none] [.int (1 : Int32)]
                exact X.weak (xle_c rfl (xle_n (xle_n (xle_c rfl (xle_c rfl (xle_n (xle_n (xle_n xle_nil)))))))) (kj5 (1 : Int32) h)
              · replace h := h.2 c115
                refine x_aload_n dX13_argument_118 rfl ?_
                refine x_get (v := .ref (m + 4)) hG dX13_argument_119 f_X13_19_12 (mo_t hM) (congrArg va_rf (mo_P5 hM)) ?_
                refine x_aload_n dX13_argument_122 rfl ?_
                refine x_get (v := .int (I m 42)) hG dX13_argument_123 f_X13_233_12 (mo_t hM) rfl ?_
                refine x_iconst_ (v := (1 : Int32)) dX13_argument_126 (by decide) ?_
                refine x_iadd dX13_argument_127 ?_
                refine y_iald hG dX13_argument_128 (mo_t5 hM) (mo_n5 hM) o26 ?_
                refine x_bipush_ (v := (23 : Int32)) dX13_argument_129 (by decide) ?_
                refine x_icmp_ne (tgt := 138) dX13_argument_131 (by decide) (fun c131 => ?_) (fun c131 => ?_)
                · replace h := h.2 c131
                  refine x_iconst_ (v := (0 : Int32)) dX13_argument_138 (by decide) ?_
                  change X _ _ _ _ _ _ [some (.ref m), some (.int f), some (.int k), some (.int (I (m + 5) (ix (I m 42)))), some (.int (I (m + 27) (ix ((I (m + 24) (ix f)) + k)))), none, none, none] [.int (0 : Int32)]
                  exact X.weak (xle_c rfl (xle_n (xle_n (xle_c rfl (xle_c rfl (xle_n (xle_n (xle_n xle_nil)))))))) (kj5 (0 : Int32) h)
                · replace h := h.1 c131
                  refine x_iconst_ (v := (1 : Int32)) dX13_argument_134 (by decide) ?_
                  refine x_goto (tgt := 139) dX13_argument_135 (by decide) ?_
                  change X _ _ _ _ _ _ [some (.ref m), some (.int f), some (.int k), some (.int (I (m + 5) (ix (I m 42)))), some (.int (I (m + 27) (ix ((I (m + 24) (ix f)) + k)))), none, none, none] [.int (1 : Int32)]
                  exact X.weak (xle_c rfl (xle_n (xle_n (xle_c rfl (xle_c rfl (xle_n (xle_n (xle_n xle_nil)))))))) (kj5 (1 : Int32) h)
        · replace h := h.1 c66
          refine x_aload_n dX13_argument_69 rfl ?_
          obtain ⟨R27, g27, h⟩ := h
          refine x_callV hG (Ky := kX13_expression) (As := []) dX13_argument_70 (mo_t hM) rfl lk_X13_368 me_X13_expression is_X13_expression se_X13_expression rfl rfl (Nat.le_of_ble_eq_true rfl) (MX.post (hR.1 g27) ?_)
          rintro _ _ ⟨v27, I27, rfl, rfl, zv27, h1⟩
          replace h := h v27 I27 zv27 h1
          change X _ _ _ _ (A.wI I27) _ _ (.int v27 :: _)
          exact x_zret dX13_argument_73 rfl zv27 ⟨_, _, rfl, rfl, zv27, h⟩
      · replace h := h.2 c34
        refine x_aload_n dX13_argument_37 rfl ?_
        refine x_bipush_ (v := (7 : Int32)) dX13_argument_38 (by decide) ?_
        refine x_iload_n dX13_argument_40 rfl ?_
        obtain ⟨R28, g28, h⟩ := h
        refine x_callV hG (Ky := kX13_note) (As := [.int (7 : Int32), .int (I (m + 5) (ix (I m 42)))]) dX13_argument_41 (mo_t hM) rfl lk_X13_352 me_X13_note is_X13_note se_X13_note rfl rfl (Nat.le_of_ble_eq_true rfl) (MX.post (m_X13_note hG hM g28) ?_)
        rintro _ _ ⟨I28, rfl, rfl, h1⟩
        replace h := h I28 h1
        change X _ _ _ _ (A.wI I28) _ _ _
        refine x_aload_n dX13_argument_44 rfl ?_
        obtain ⟨R29, g29, h⟩ := h
        refine x_callV hG (Ky := kX13_expression) (As := []) dX13_argument_45 (mo_t hM) rfl lk_X13_368 me_X13_expression is_X13_expression se_X13_expression rfl rfl (Nat.le_of_ble_eq_true rfl) (MX.post (hR.1 g29) ?_)
        rintro _ _ ⟨v29, I29, rfl, rfl, zv29, h1⟩
        replace h := h v29 I29 zv29 h1
        change X _ _ _ _ (A.wI I29) _ _ (.int v29 :: _)
        exact x_zret dX13_argument_48 rfl zv29 ⟨_, _, rfl, rfl, zv29, h⟩
    · replace h := h.1 c9
      refine x_aload_n dX13_argument_12 rfl ?_
      obtain ⟨R30, g30, h⟩ := h
      refine x_callV hG (Ky := kX13_expression) (As := []) dX13_argument_13 (mo_t hM) rfl lk_X13_368 me_X13_expression is_X13_expression se_X13_expression rfl rfl (Nat.le_of_ble_eq_true rfl) (MX.post (hR.1 g30) ?_)
      rintro _ _ ⟨v30, I30, rfl, rfl, zv30, h1⟩
      replace h := h v30 I30 zv30 h1
      change X _ _ _ _ (A.wI I30) _ _ (.int v30 :: _)
      exact x_zret dX13_argument_16 rfl zv30 ⟨_, _, rfl, rfl, zv30, h⟩
def w_X13_element (Rk : Nat → Int32 → Int32 → (Int32 → xII → Prop) → xII → Prop) (m : Nat) (k : Int32) (Q : Int32 → xII → Prop) (I : xII) : Prop := vp_in (I m 42) 4002 ∧ (∃ J2 : Int32 → Prop, (∀ (y2_s0 : Int32), J2 y2_s0 → ∃ J3 : Int32 → Prop, (∀ (y3_s0 : Int32), J3 y3_s0 → ∃ J4 : Int32 → Prop, (∀ (y4_s0 : Int32), J4 y4_s0 → ∃ R5 : Int32 → xII → Prop, w_X13_openSign m (24 : Int32) R5 I ∧ (∀ (v5 : Int32) (I5 : xII), (v5 = 0 ∨ v5 = 1) → R5 v5 I5 → (((v5 = 0 → Q (0 : Int32) I5) ∧ (¬ v5 = 0 → ∃ R6 : Int32 → xII → Prop, Rk 0 0 0 R6 I5 ∧ (∀ (v6 : Int32) (I6 : xII), (v6 = 0 ∨ v6 = 1) → R6 v6 I6 → (((v6 = 0 → Q (0 : Int32) I6) ∧ (¬ v6 = 0 → ∃ R7 : Int32 → xII → Prop, w_X13_closeSign m (25 : Int32) R7 I6 ∧ (∀ (v7 : Int32) (I7 : xII), (v7 = 0 ∨ v7 = 1) → R7 v7 I7 → (((v7 = 0 → Q (0 : Int32) I7) ∧ (¬ v7 = 0 → ∃ R8 : Int32 → xII → Prop, w_X13_step m (6 : Int32) y2_s0 y3_s0 R8 I7 ∧ (∀ (v8 : Int32) (I8 : xII), R8 v8 I8 → (vp_in v8 9000 ∧ (∀ I10 : xII, I10 = xup I8 (m + 35) (ix v8) (((2 : Int32) * (I (m + 5) (ix (I m 42)))) + (if y4_s0 = 0 then (0 : Int32) else (1 : Int32))) → (Q (1 : Int32) I10))))))))))))))))) ∧ ((k = (-1 : Int32) → J4 (0 : Int32)) ∧ (¬ k = (-1 : Int32) → vp_in k 900 ∧ ((((I (m + 17) (ix k)) = 0 → J4 (0 : Int32)) ∧ (¬ (I (m + 17) (ix k)) = 0 → J4 (1 : Int32))))))) ∧ ((k = (-1 : Int32) → J3 (1 : Int32)) ∧ (¬ k = (-1 : Int32) → vp_in k 900 ∧ (J3 (I (m + 15) (ix k)))))) ∧ ((k = (-1 : Int32) → J2 (0 : Int32)) ∧ (¬ k = (-1 : Int32) → vp_in k 900 ∧ (J2 (I (m + 14) (ix k))))))
theorem m_X13_element (hG : xOK G) {dp : Nat} {A : xA} {m : Nat} (hM : xMo G A m) {Rk : Nat → Int32 → Int32 → (Int32 → xII → Prop) → xII → Prop} (hR : xRC_E G (dp + 12) A m Rk) {k : Int32} {Q : Int32 → xII → Prop} {I : xII} (h : w_X13_element Rk m k Q I) : MX G (dp + 13) kX13_element [.ref m, .int k] (A.wI I) (oZ A Q) := by
  unfold w_X13_element at h
  refine MX.of rfl (Nat.le_of_ble_eq_true rfl) ?_
  change X _ _ _ _ _ _ [some (.ref m), some (.int k), none, none, none, none, none] _
  refine x_aload_n dX13_element_0 rfl ?_
  refine x_get (v := .ref (m + 5)) hG dX13_element_1 f_X13_22_12 (mo_t hM) (congrArg va_rf (mo_P6 hM)) ?_
  refine x_aload_n dX13_element_4 rfl ?_
  refine x_get (v := .int (I m 42)) hG dX13_element_5 f_X13_233_12 (mo_t hM) rfl ?_
  obtain ⟨o1, h⟩ := h
  refine y_iald hG dX13_element_8 (mo_t6 hM) (mo_n6 hM) o1 ?_
  refine x_istore_n dX13_element_9 (by decide) ?_
  refine x_iload_n dX13_element_10 rfl ?_
  refine x_iconst_ (v := (-1 : Int32)) dX13_element_11 (by decide) ?_
  obtain ⟨J2, g2, h⟩ := h
  have kj2 : ∀ (y2_s0 : Int32), J2 y2_s0 → X G (dp + 13) kX13_element (oZ A Q) (A.wI I) 25 [some (.ref m), some (.int k), some (.int (I (m + 5) (ix (I m 42)))), none, none, none, none] [.int y2_s0] := by
    intro y2_s0 h
    replace h := g2 y2_s0 h
    refine x_istore_n dX13_element_25 (by decide) ?_
    refine x_iload_n dX13_element_26 rfl ?_
    refine x_iconst_ (v := (-1 : Int32)) dX13_element_27 (by decide) ?_
    obtain ⟨J3, g3, h⟩ := h
    have kj3 : ∀ (y3_s0 : Int32), J3 y3_s0 → X G (dp + 13) kX13_element (oZ A Q) (A.wI I) 41 [some (.ref m), some (.int k), some (.int (I (m + 5) (ix (I m 42)))), some (.int y2_s0), none, none, none] [.int y3_s0] := by
      intro y3_s0 h
      replace h := g3 y3_s0 h
      refine x_istore dX13_element_41 (by decide) ?_
      refine x_iload_n dX13_element_43 rfl ?_
      refine x_iconst_ (v := (-1 : Int32)) dX13_element_44 (by decide) ?_
      obtain ⟨J4, g4, h⟩ := h
      have kj4 : ∀ (y4_s0 : Int32), J4 y4_s0 → X G (dp + 13) kX13_element (oZ A Q) (A.wI I) 62 [some (.ref m), none, some (.int (I (m + 5) (ix (I m 42)))), some (.int y2_s0), some (.int y3_s0), none, none] [.int y4_s0] := by
        intro y4_s0 h
        replace h := g4 y4_s0 h
        refine x_istore dX13_element_62 (by decide) ?_
        refine x_aload_n dX13_element_64 rfl ?_
        refine x_bipush_ (v := (24 : Int32)) dX13_element_65 (by decide) ?_
        obtain ⟨R5, g5, h⟩ := h
        refine x_callV hG (Ky := kX13_openSign) (As := [.int (24 : Int32)]) dX13_element_67 (mo_t hM) rfl lk_X13_356 me_X13_openSign is_X13_openSign se_X13_openSign rfl rfl (Nat.le_of_ble_eq_true rfl) (MX.post (m_X13_openSign hG hM g5) ?_)
        rintro _ _ ⟨v5, I5, rfl, rfl, zv5, h1⟩
        replace h := h v5 I5 zv5 h1
        change X _ _ _ _ (A.wI I5) _ _ (.int v5 :: _)
        refine x_if_eq (tgt := 89) dX13_element_70 (by decide) (fun c70 => ?_) (fun c70 => ?_)
        · replace h := h.1 c70
          refine x_iconst_ (v := (0 : Int32)) dX13_element_89 (by decide) ?_
          exact x_zret dX13_element_90 rfl (by decide) ⟨_, _, rfl, rfl, (by decide), h⟩
        · replace h := h.2 c70
          refine x_aload_n dX13_element_73 rfl ?_
          obtain ⟨R6, g6, h⟩ := h
          refine x_callV hG (Ky := kX13_expression) (As := []) dX13_element_74 (mo_t hM) rfl lk_X13_368 me_X13_expression is_X13_expression se_X13_expression rfl rfl (Nat.le_of_ble_eq_true rfl) (MX.post (hR.1 g6) ?_)
          rintro _ _ ⟨v6, I6, rfl, rfl, zv6, h1⟩
          replace h := h v6 I6 zv6 h1
          change X _ _ _ _ (A.wI I6) _ _ (.int v6 :: _)
          refine x_if_eq (tgt := 89) dX13_element_77 (by decide) (fun c77 => ?_) (fun c77 => ?_)
          · replace h := h.1 c77
            refine x_iconst_ (v := (0 : Int32)) dX13_element_89 (by decide) ?_
            exact x_zret dX13_element_90 rfl (by decide) ⟨_, _, rfl, rfl, (by decide), h⟩
          · replace h := h.2 c77
            refine x_aload_n dX13_element_80 rfl ?_
            refine x_bipush_ (v := (25 : Int32)) dX13_element_81 (by decide) ?_
            obtain ⟨R7, g7, h⟩ := h
            refine x_callV hG (Ky := kX13_closeSign) (As := [.int (25 : Int32)]) dX13_element_83 (mo_t hM) rfl lk_X13_362 me_X13_closeSign is_X13_closeSign se_X13_closeSign rfl rfl (Nat.le_of_ble_eq_true rfl) (MX.post (m_X13_closeSign hG hM g7) ?_)
            rintro _ _ ⟨v7, I7, rfl, rfl, zv7, h1⟩
            replace h := h v7 I7 zv7 h1
            change X _ _ _ _ (A.wI I7) _ _ (.int v7 :: _)
            refine x_if_ne (tgt := 91) dX13_element_86 (by decide) (fun c86 => ?_) (fun c86 => ?_)
            · replace h := h.2 c86
              refine x_aload_n dX13_element_91 rfl ?_
              refine x_bipush_ (v := (6 : Int32)) dX13_element_92 (by decide) ?_
              refine x_iload_n dX13_element_94 rfl ?_
              refine x_iload dX13_element_95 rfl ?_
              obtain ⟨R8, g8, h⟩ := h
              refine x_callV hG (Ky := kX13_step) (As := [.int (6 : Int32), .int y2_s0, .int y3_s0]) dX13_element_97 (mo_t hM) rfl lk_X13_401 me_X13_step is_X13_step se_X13_step rfl rfl (Nat.le_of_ble_eq_true rfl) (MX.post (m_X13_step hG hM g8) ?_)
              rintro _ _ ⟨v8, I8, rfl, rfl, h1⟩
              replace h := h v8 I8 h1
              change X _ _ _ _ (A.wI I8) _ _ (.int v8 :: _)
              refine x_istore dX13_element_100 (by decide) ?_
              refine x_aload_n dX13_element_102 rfl ?_
              refine x_get (v := .ref (m + 35)) hG dX13_element_103 f_X13_113_12 (mo_t hM) (congrArg va_rf (mo_P59 hM)) ?_
              refine x_iload dX13_element_106 rfl ?_
              refine x_iconst_ (v := (2 : Int32)) dX13_element_108 (by decide) ?_
              refine x_iload_n dX13_element_109 rfl ?_
              refine x_imul dX13_element_110 ?_
              refine x_iload dX13_element_111 rfl ?_
              refine x_via 121 (A' := (A.wI I8)) (lv' := [none, none, none, none, none, none, none]) (st' := [.int (if y4_s0 = 0 then (0 : Int32) else (1 : Int32)), .int ((2 : Int32) * (I (m + 5) (ix (I m 42)))), .int v8, .ref (m + 35)]) ?_ (fun k121 => ?_)
              rotate_left
              · refine x_if_eq (tgt := 120) dX13_element_113 (by decide) (fun c113 => ?_) (fun c113 => ?_)
                · refine x_iconst_ (v := (0 : Int32)) dX13_element_120 (by decide) ?_
                  change X _ _ _ _ _ _ [some (.ref m), none, some (.int (I (m + 5) (ix (I m 42)))), some (.int y2_s0), some (.int y3_s0), some (.int y4_s0), some (.int v8)] [.int (0 : Int32), .int ((2 : Int32) * (I (m + 5) (ix (I m 42)))), .int v8, .ref (m + 35)]
                  simp only [if_pos c113] at k121 ⊢
                  exact X.weak (xle_n (xle_n (xle_n (xle_n (xle_n (xle_n (xle_n xle_nil))))))) k121
                · refine x_iconst_ (v := (1 : Int32)) dX13_element_116 (by decide) ?_
                  refine x_goto (tgt := 121) dX13_element_117 (by decide) ?_
                  change X _ _ _ _ _ _ [some (.ref m), none, some (.int (I (m + 5) (ix (I m 42)))), some (.int y2_s0), some (.int y3_s0), some (.int y4_s0), some (.int v8)] [.int (1 : Int32), .int ((2 : Int32) * (I (m + 5) (ix (I m 42)))), .int v8, .ref (m + 35)]
                  simp only [if_neg c113] at k121 ⊢
                  exact X.weak (xle_n (xle_n (xle_n (xle_n (xle_n (xle_n (xle_n xle_nil))))))) k121
              refine x_iadd dX13_element_121 ?_
              obtain ⟨o9, h⟩ := h
              refine y_iast hG dX13_element_122 (mo_t59 hM) (mo_aN hM) (mo_n59 hM) o9 (fun I10 e10 => ?_)
              replace h := h I10 e10
              refine x_iconst_ (v := (1 : Int32)) dX13_element_123 (by decide) ?_
              exact x_zret dX13_element_124 rfl (by decide) ⟨_, _, rfl, rfl, (by decide), h⟩
            · replace h := h.1 c86
              refine x_iconst_ (v := (0 : Int32)) dX13_element_89 (by decide) ?_
              exact x_zret dX13_element_90 rfl (by decide) ⟨_, _, rfl, rfl, (by decide), h⟩
      refine x_icmp_eq (tgt := 61) dX13_element_45 (by decide) (fun c45 => ?_) (fun c45 => ?_)
      · replace h := h.1 c45
        refine x_iconst_ (v := (0 : Int32)) dX13_element_61 (by decide) ?_
        change X _ _ _ _ _ _ [some (.ref m), some (.int k), some (.int (I (m + 5) (ix (I m 42)))), some (.int y2_s0), some (.int y3_s0), none, none] [.int (0 : Int32)]
        exact X.weak (xle_c rfl (xle_n (xle_c rfl (xle_c rfl (xle_c rfl (xle_n (xle_n xle_nil))))))) (kj4 (0 : Int32) h)
      · replace h := h.2 c45
        refine x_aload_n dX13_element_48 rfl ?_
        refine x_get (v := .ref (m + 17)) hG dX13_element_49 f_X13_59_12 (mo_t hM) (congrArg va_rf (mo_P23 hM)) ?_
        refine x_iload_n dX13_element_52 rfl ?_
        obtain ⟨o11, h⟩ := h
        refine y_zald hG dX13_element_53 (mo_t23 hM) (mo_n23 hM) o11 ?_
        refine x_if_eq (tgt := 61) dX13_element_54 (by decide) (fun c54 => ?_) (fun c54 => ?_)
        · replace h := h.1 c54
          refine x_iconst_ (v := (0 : Int32)) dX13_element_61 (by decide) ?_
          change X _ _ _ _ _ _ [some (.ref m), some (.int k), some (.int (I (m + 5) (ix (I m 42)))), some (.int y2_s0), some (.int y3_s0), none, none] [.int (0 : Int32)]
          exact X.weak (xle_c rfl (xle_n (xle_c rfl (xle_c rfl (xle_c rfl (xle_n (xle_n xle_nil))))))) (kj4 (0 : Int32) h)
        · replace h := h.2 c54
          refine x_iconst_ (v := (1 : Int32)) dX13_element_57 (by decide) ?_
          refine x_goto (tgt := 62) dX13_element_58 (by decide) ?_
          change X _ _ _ _ _ _ [some (.ref m), some (.int k), some (.int (I (m + 5) (ix (I m 42)))), some (.int y2_s0), some (.int y3_s0), none, none] [.int (1 : Int32)]
          exact X.weak (xle_c rfl (xle_n (xle_c rfl (xle_c rfl (xle_c rfl (xle_n (xle_n xle_nil))))))) (kj4 (1 : Int32) h)
    refine x_icmp_ne (tgt := 35) dX13_element_28 (by decide) (fun c28 => ?_) (fun c28 => ?_)
    · replace h := h.2 c28
      refine x_aload_n dX13_element_35 rfl ?_
      refine x_get (v := .ref (m + 15)) hG dX13_element_36 f_X13_52_12 (mo_t hM) (congrArg va_rf (mo_P21 hM)) ?_
      refine x_iload_n dX13_element_39 rfl ?_
      obtain ⟨o12, h⟩ := h
      refine y_iald hG dX13_element_40 (mo_t21 hM) (mo_n21 hM) o12 ?_
      change X _ _ _ _ _ _ [some (.ref m), some (.int k), some (.int (I (m + 5) (ix (I m 42)))), some (.int y2_s0), none, none, none] [.int (I (m + 15) (ix k))]
      exact X.weak (xle_c rfl (xle_c rfl (xle_c rfl (xle_c rfl (xle_n (xle_n (xle_n xle_nil))))))) (kj3 (I (m + 15) (ix k)) h)
    · replace h := h.1 c28
      refine x_iconst_ (v := (1 : Int32)) dX13_element_31 (by decide) ?_
      refine x_goto (tgt := 41) dX13_element_32 (by decide) ?_
      change X _ _ _ _ _ _ [some (.ref m), some (.int k), some (.int (I (m + 5) (ix (I m 42)))), some (.int y2_s0), none, none, none] [.int (1 : Int32)]
      exact X.weak (xle_c rfl (xle_c rfl (xle_c rfl (xle_c rfl (xle_n (xle_n (xle_n xle_nil))))))) (kj3 (1 : Int32) h)
  refine x_icmp_ne (tgt := 19) dX13_element_12 (by decide) (fun c12 => ?_) (fun c12 => ?_)
  · replace h := h.2 c12
    refine x_aload_n dX13_element_19 rfl ?_
    refine x_get (v := .ref (m + 14)) hG dX13_element_20 f_X13_49_12 (mo_t hM) (congrArg va_rf (mo_P20 hM)) ?_
    refine x_iload_n dX13_element_23 rfl ?_
    obtain ⟨o13, h⟩ := h
    refine y_iald hG dX13_element_24 (mo_t20 hM) (mo_n20 hM) o13 ?_
    change X _ _ _ _ _ _ [some (.ref m), some (.int k), some (.int (I (m + 5) (ix (I m 42)))), none, none, none, none] [.int (I (m + 14) (ix k))]
    exact X.weak (xle_c rfl (xle_c rfl (xle_c rfl (xle_n (xle_n (xle_n (xle_n xle_nil))))))) (kj2 (I (m + 14) (ix k)) h)
  · replace h := h.1 c12
    refine x_iconst_ (v := (0 : Int32)) dX13_element_15 (by decide) ?_
    refine x_goto (tgt := 25) dX13_element_16 (by decide) ?_
    change X _ _ _ _ _ _ [some (.ref m), some (.int k), some (.int (I (m + 5) (ix (I m 42)))), none, none, none, none] [.int (0 : Int32)]
    exact X.weak (xle_c rfl (xle_c rfl (xle_c rfl (xle_n (xle_n (xle_n (xle_n xle_nil))))))) (kj2 (0 : Int32) h)
def rs_E (Rk : Nat → Int32 → Int32 → (Int32 → xII → Prop) → xII → Prop) (m q : Nat) (a0 a1 : Int32) (Q : Int32 → xII → Prop) (I : xII) : Prop := if q = 0 then w_X13_expression Rk m Q I else if q = 1 then w_X13_chain Rk m Q I else if q = 2 then w_X13_operand Rk m Q I else if q = 3 then w_X13_plain Rk m Q I else if q = 4 then w_X13_inConstant Rk m a0 Q I else if q = 5 then w_X13_named Rk m a0 Q I else if q = 6 then w_X13_call Rk m a0 a1 Q I else if q = 7 then w_X13_argument Rk m a0 a1 Q I else if q = 8 then w_X13_element Rk m a0 Q I else False
def ro_E (m : Nat) : Nat → Nat → Int32 → Int32 → (Int32 → xII → Prop) → xII → Prop
  | 0 => fun _ _ _ _ _ => False
  | n + 1 => rs_E (ro_E m n) m
theorem rq_E_0 {m n : Nat} {a0 a1 : Int32} {Q : Int32 → xII → Prop} {I : xII} : ro_E m (n + 1) 0 a0 a1 Q I = w_X13_expression (ro_E m n) m Q I := by
  show rs_E _ _ _ _ _ _ _ = _
  unfold rs_E
  rw [if_pos (show (0 : Nat) = 0 from rfl)]
theorem rq_E_1 {m n : Nat} {a0 a1 : Int32} {Q : Int32 → xII → Prop} {I : xII} : ro_E m (n + 1) 1 a0 a1 Q I = w_X13_chain (ro_E m n) m Q I := by
  show rs_E _ _ _ _ _ _ _ = _
  unfold rs_E
  rw [if_neg (show ¬ (1 : Nat) = 0 by decide), if_pos (show (1 : Nat) = 1 from rfl)]
theorem rq_E_2 {m n : Nat} {a0 a1 : Int32} {Q : Int32 → xII → Prop} {I : xII} : ro_E m (n + 1) 2 a0 a1 Q I = w_X13_operand (ro_E m n) m Q I := by
  show rs_E _ _ _ _ _ _ _ = _
  unfold rs_E
  rw [if_neg (show ¬ (2 : Nat) = 0 by decide), if_neg (show ¬ (2 : Nat) = 1 by decide), if_pos (show (2 : Nat) = 2 from rfl)]
theorem rq_E_3 {m n : Nat} {a0 a1 : Int32} {Q : Int32 → xII → Prop} {I : xII} : ro_E m (n + 1) 3 a0 a1 Q I = w_X13_plain (ro_E m n) m Q I := by
  show rs_E _ _ _ _ _ _ _ = _
  unfold rs_E
  rw [if_neg (show ¬ (3 : Nat) = 0 by decide), if_neg (show ¬ (3 : Nat) = 1 by decide), if_neg (show ¬ (3 : Nat) = 2 by decide), if_pos (show (3 : Nat) = 3 from rfl)]
theorem rq_E_4 {m n : Nat} {a0 a1 : Int32} {Q : Int32 → xII → Prop} {I : xII} : ro_E m (n + 1) 4 a0 a1 Q I = w_X13_inConstant (ro_E m n) m a0 Q I := by
  show rs_E _ _ _ _ _ _ _ = _
  unfold rs_E
  rw [if_neg (show ¬ (4 : Nat) = 0 by decide), if_neg (show ¬ (4 : Nat) = 1 by decide), if_neg (show ¬ (4 : Nat) = 2 by decide), if_neg (show ¬ (4 : Nat) = 3 by decide), if_pos (show (4 : Nat) = 4 from rfl)]
theorem rq_E_5 {m n : Nat} {a0 a1 : Int32} {Q : Int32 → xII → Prop} {I : xII} : ro_E m (n + 1) 5 a0 a1 Q I = w_X13_named (ro_E m n) m a0 Q I := by
  show rs_E _ _ _ _ _ _ _ = _
  unfold rs_E
  rw [if_neg (show ¬ (5 : Nat) = 0 by decide), if_neg (show ¬ (5 : Nat) = 1 by decide), if_neg (show ¬ (5 : Nat) = 2 by decide), if_neg (show ¬ (5 : Nat) = 3 by decide), if_neg (show ¬ (5 : Nat) = 4 by decide), if_pos (show (5 : Nat) = 5 from rfl)]
theorem rq_E_6 {m n : Nat} {a0 a1 : Int32} {Q : Int32 → xII → Prop} {I : xII} : ro_E m (n + 1) 6 a0 a1 Q I = w_X13_call (ro_E m n) m a0 a1 Q I := by
  show rs_E _ _ _ _ _ _ _ = _
  unfold rs_E
  rw [if_neg (show ¬ (6 : Nat) = 0 by decide), if_neg (show ¬ (6 : Nat) = 1 by decide), if_neg (show ¬ (6 : Nat) = 2 by decide), if_neg (show ¬ (6 : Nat) = 3 by decide), if_neg (show ¬ (6 : Nat) = 4 by decide), if_neg (show ¬ (6 : Nat) = 5 by decide), if_pos (show (6 : Nat) = 6 from rfl)]
theorem rq_E_7 {m n : Nat} {a0 a1 : Int32} {Q : Int32 → xII → Prop} {I : xII} : ro_E m (n + 1) 7 a0 a1 Q I = w_X13_argument (ro_E m n) m a0 a1 Q I := by
  show rs_E _ _ _ _ _ _ _ = _
  unfold rs_E
  rw [if_neg (show ¬ (7 : Nat) = 0 by decide), if_neg (show ¬ (7 : Nat) = 1 by decide), if_neg (show ¬ (7 : Nat) = 2 by decide), if_neg (show ¬ (7 : Nat) = 3 by decide), if_neg (show ¬ (7 : Nat) = 4 by decide), if_neg (show ¬ (7 : Nat) = 5 by decide), if_neg (show ¬ (7 : Nat) = 6 by decide), if_pos (show (7 : Nat) = 7 from rfl)]
theorem rq_E_8 {m n : Nat} {a0 a1 : Int32} {Q : Int32 → xII → Prop} {I : xII} : ro_E m (n + 1) 8 a0 a1 Q I = w_X13_element (ro_E m n) m a0 Q I := by
  show rs_E _ _ _ _ _ _ _ = _
  unfold rs_E
  rw [if_neg (show ¬ (8 : Nat) = 0 by decide), if_neg (show ¬ (8 : Nat) = 1 by decide), if_neg (show ¬ (8 : Nat) = 2 by decide), if_neg (show ¬ (8 : Nat) = 3 by decide), if_neg (show ¬ (8 : Nat) = 4 by decide), if_neg (show ¬ (8 : Nat) = 5 by decide), if_neg (show ¬ (8 : Nat) = 6 by decide), if_neg (show ¬ (8 : Nat) = 7 by decide), if_pos (show (8 : Nat) = 8 from rfl)]
theorem rc_E (hG : xOK G) {dp : Nat} {A : xA} {m : Nat} (hM : xMo G A m) : ∀ n, xRC_E G (dp + n + 12) A m (ro_E m n)
  | 0 => ⟨fun h => False.elim h, fun h => False.elim h, fun h => False.elim h, fun h => False.elim h, fun h => False.elim h, fun h => False.elim h, fun h => False.elim h, fun h => False.elim h, fun h => False.elim h⟩
  | n + 1 => ⟨fun h => m_X13_expression (dp := dp + n) hG hM (rc_E hG hM n) (rq_E_0.mp h),
    fun h => m_X13_chain (dp := dp + n) hG hM (rc_E hG hM n) (rq_E_1.mp h),
    fun h => m_X13_operand (dp := dp + n) hG hM (rc_E hG hM n) (rq_E_2.mp h),
    fun h => m_X13_plain (dp := dp + n) hG hM (rc_E hG hM n) (rq_E_3.mp h),
    fun h => m_X13_inConstant (dp := dp + n) hG hM (rc_E hG hM n) (rq_E_4.mp h),
    fun h => m_X13_named (dp := dp + n) hG hM (rc_E hG hM n) (rq_E_5.mp h),
    fun h => m_X13_call (dp := dp + n) hG hM (rc_E hG hM n) (rq_E_6.mp h),
    fun h => m_X13_argument (dp := dp + n) hG hM (rc_E hG hM n) (rq_E_7.mp h),
    fun h => m_X13_element (dp := dp + n) hG hM (rc_E hG hM n) (rq_E_8.mp h)⟩
def g_X13_expression (m : Nat) (Q : Int32 → xII → Prop) (I : xII) : Prop := ro_E m 700 0 0 0 Q I
def g_X13_chain (m : Nat) (Q : Int32 → xII → Prop) (I : xII) : Prop := ro_E m 700 1 0 0 Q I
def g_X13_operand (m : Nat) (Q : Int32 → xII → Prop) (I : xII) : Prop := ro_E m 700 2 0 0 Q I
def g_X13_plain (m : Nat) (Q : Int32 → xII → Prop) (I : xII) : Prop := ro_E m 700 3 0 0 Q I
def g_X13_inConstant (m : Nat) (n : Int32) (Q : Int32 → xII → Prop) (I : xII) : Prop := ro_E m 700 4 n 0 Q I
def g_X13_named (m : Nat) (n : Int32) (Q : Int32 → xII → Prop) (I : xII) : Prop := ro_E m 700 5 n 0 Q I
def g_X13_call (m : Nat) (n : Int32) (w : Int32) (Q : Int32 → xII → Prop) (I : xII) : Prop := ro_E m 700 6 n w Q I
def g_X13_argument (m : Nat) (f : Int32) (k : Int32) (Q : Int32 → xII → Prop) (I : xII) : Prop := ro_E m 700 7 f k Q I
def g_X13_element (m : Nat) (k : Int32) (Q : Int32 → xII → Prop) (I : xII) : Prop := ro_E m 700 8 k 0 Q I
end W034
