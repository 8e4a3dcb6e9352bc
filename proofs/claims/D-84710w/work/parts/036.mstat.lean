/-! ===== 036.mstat (tools/w030.py) ===== -/
set_option maxRecDepth 100000
section W036
variable {G : xG}
def xRC_S (G : xG) (D : Nat) (A : xA) (m : Nat) (Rk : Nat → Int32 → Int32 → (Int32 → xII → Prop) → xII → Prop) : Prop := (∀ {Q : Int32 → xII → Prop} {I : xII}, Rk 0 0 0 Q I → MX G D kX13_statement [.ref m] (A.wI I) (oZ A Q)) ∧ (∀ {Q : Int32 → xII → Prop} {I : xII}, Rk 1 0 0 Q I → MX G D kX13_block [.ref m] (A.wI I) (oZ A Q)) ∧ (∀ {Q : Int32 → xII → Prop} {I : xII}, Rk 2 0 0 Q I → MX G D kX13_scoped [.ref m] (A.wI I) (oZ A Q)) ∧ (∀ {Q : Int32 → xII → Prop} {I : xII}, Rk 3 0 0 Q I → MX G D kX13_choice [.ref m] (A.wI I) (oZ A Q)) ∧ (∀ {a : Int32} {Q : Int32 → xII → Prop} {I : xII}, Rk 4 a 0 Q I → MX G D kX13_body [.ref m, .int a] (A.wI I) (oZ A Q)) ∧ (∀ {Q : Int32 → xII → Prop} {I : xII}, Rk 5 0 0 Q I → MX G D kX13_loop [.ref m] (A.wI I) (oZ A Q)) ∧ (∀ {Q : Int32 → xII → Prop} {I : xII}, Rk 6 0 0 Q I → MX G D kX13_turnLoop [.ref m] (A.wI I) (oZ A Q)) ∧ (∀ {Q : Int32 → xII → Prop} {I : xII}, Rk 7 0 0 Q I → MX G D kX13_counted [.ref m] (A.wI I) (oZ A Q))
def w_X13_statement (Rk : Nat → Int32 → Int32 → (Int32 → xII → Prop) → xII → Prop) (m : Nat) (Q : Int32 → xII → Prop) (I : xII) : Prop := ∃ R1 : Int32 → xII → Prop, w_X13_isSign m (26 : Int32) R1 I ∧ (∀ (v1 : Int32) (I1 : xII), (v1 = 0 ∨ v1 = 1) → R1 v1 I1 → (((v1 = 0 → ∃ R2 : Int32 → xII → Prop, w_X13_isSign m (29 : Int32) R2 I1 ∧ (∀ (v2 : Int32) (I2 : xII), (v2 = 0 ∨ v2 = 1) → R2 v2 I2 → (((v2 = 0 → vp_in (I2 m 42) 4002 ∧ ((((I2 (m + 3) (ix (I2 m 42))) = (1 : Int32) → ∃ R22 : Int32 → xII → Prop, w_X13_simple m R22 I2 ∧ (∀ (v22 : Int32) (I22 : xII), (v22 = 0 ∨ v22 = 1) → R22 v22 I22 → (((v22 = 0 → Q (0 : Int32) I22) ∧ (¬ v22 = 0 → ∃ R23 : Int32 → xII → Prop, w_X13_sign m (29 : Int32) R23 I22 ∧ (∀ (v23 : Int32) (I23 : xII), (v23 = 0 ∨ v23 = 1) → R23 v23 I23 → (Q (if v23 = 0 then (0 : Int32) else (1 : Int32)) I23))))))) ∧ (¬ (I2 (m + 3) (ix (I2 m 42))) = (1 : Int32) → (((I2 (m + 3) (ix (I2 m 42))) = (2 : Int32) → ((((I2 (m + 4) (ix (I2 m 42))) = (0 : Int32) ∨ (I2 (m + 4) (ix (I2 m 42))) = (1 : Int32)) → ∃ R5 : Int32 → xII → Prop, w_X13_tellHere m (1 : Int32) R5 I2 ∧ (∀ (v5 : Int32) (I5 : xII), (v5 = 0 ∨ v5 = 1) → R5 v5 I5 → (((v5 = 0 → Q (0 : Int32) I5) ∧ (¬ v5 = 0 → ∃ R6 : Int32 → xII → Prop, w_X13_sign m (29 : Int32) R6 I5 ∧ (∀ (v6 : Int32) (I6 : xII), (v6 = 0 ∨ v6 = 1) → R6 v6 I6 → (Q (if v6 = 0 then (0 : Int32) else (1 : Int32)) I6))))))) ∧ (((I2 (m + 4) (ix (I2 m 42))) = (4 : Int32)) → ∃ R7 : Int32 → xII → Prop, Rk 3 0 0 R7 I2 ∧ (∀ (v7 : Int32) (I7 : xII), (v7 = 0 ∨ v7 = 1) → R7 v7 I7 → (Q v7 I7))) ∧ (((I2 (m + 4) (ix (I2 m 42))) = (6 : Int32)) → ∃ R8 : Int32 → xII → Prop, Rk 5 0 0 R8 I2 ∧ (∀ (v8 : Int32) (I8 : xII), (v8 = 0 ∨ v8 = 1) → R8 v8 I8 → (Q v8 I8))) ∧ (((I2 (m + 4) (ix (I2 m 42))) = (7 : Int32)) → ∃ R9 : Int32 → xII → Prop, Rk 6 0 0 R9 I2 ∧ (∀ (v9 : Int32) (I9 : xII), (v9 = 0 ∨ v9 = 1) → R9 v9 I9 → (Q v9 I9))) ∧ (((I2 (m + 4) (ix (I2 m 42))) = (8 : Int32)) → ∃ R10 : Int32 → xII → Prop, Rk 7 0 0 R10 I2 ∧ (∀ (v10 : Int32) (I10 : xII), (v10 = 0 ∨ v10 = 1) → R10 v10 I10 → (Q v10 I10))) ∧ (((I2 (m + 4) (ix (I2 m 42))) = (9 : Int32) ∨ (I2 (m + 4) (ix (I2 m 42))) = (10 : Int32)) → ∃ R11 : Int32 → xII → Prop, w_X13_leaves m R11 I2 ∧ (∀ (v11 : Int32) (I11 : xII), (v11 = 0 ∨ v11 = 1) → R11 v11 I11 → (Q v11 I11))) ∧ (((I2 (m + 4) (ix (I2 m 42))) = (11 : Int32)) → ∃ R12 : Int32 → xII → Prop, w_X13_returns m R12 I2 ∧ (∀ (v12 : Int32) (I12 : xII), (v12 = 0 ∨ v12 = 1) → R12 v12 I12 → (Q v12 I12))) ∧ (((I2 (m + 4) (ix (I2 m 42))) = (12 : Int32) ∨ (I2 (m + 4) (ix (I2 m 42))) = (14 : Int32)) → ∃ R13 : Int32 → xII → Prop, w_X13_isWord m (12 : Int32) R13 I2 ∧ (∀ (v13 : Int32) (I13 : xII), (v13 = 0 ∨ v13 = 1) → R13 v13 I13 → (∀ I14 : xII, I14 = xup I13 m 42 ((I13 m 42) + (1 : Int32)) → (∃ R15 : Int32 → xII → Prop, w_X13_openSign m (22 : Int32) R15 I14 ∧ (∀ (v15 : Int32) (I15 : xII), (v15 = 0 ∨ v15 = 1) → R15 v15 I15 → (((v15 = 0 → Q (0 : Int32) I15) ∧ (¬ v15 = 0 → ∃ R16 : Int32 → xII → Prop, g_X13_expression m R16 I15 ∧ (∀ (v16 : Int32) (I16 : xII), (v16 = 0 ∨ v16 = 1) → R16 v16 I16 → (((v16 = 0 → Q (0 : Int32) I16) ∧ (¬ v16 = 0 → ∃ R17 : Int32 → xII → Prop, w_X13_closeSign m (23 : Int32) R17 I16 ∧ (∀ (v17 : Int32) (I17 : xII), (v17 = 0 ∨ v17 = 1) → R17 v17 I17 → (((v17 = 0 → Q (0 : Int32) I17) ∧ (¬ v17 = 0 → ∃ R18 : Int32 → xII → Prop, w_X13_step m (if v13 = 0 then (20 : Int32) else (19 : Int32)) (0 : Int32) (0 : Int32) R18 I17 ∧ (∀ (v18 : Int32) (I18 : xII), R18 v18 I18 → (∃ R19 : Int32 → xII → Prop, w_X13_sign m (29 : Int32) R19 I18 ∧ (∀ (v19 : Int32) (I19 : xII), (v19 = 0 ∨ v19 = 1) → R19 v19 I19 → (Q v19 I19)))))))))))))))))))) ∧ ((¬ (I2 (m + 4) (ix (I2 m 42))) = (0 : Int32) ∧ ¬ (I2 (m + 4) (ix (I2 m 42))) = (1 : Int32) ∧ ¬ (I2 (m + 4) (ix (I2 m 42))) = (4 : Int32) ∧ ¬ (I2 (m + 4) (ix (I2 m 42))) = (6 : Int32) ∧ ¬ (I2 (m + 4) (ix (I2 m 42))) = (7 : Int32) ∧ ¬ (I2 (m + 4) (ix (I2 m 42))) = (8 : Int32) ∧ ¬ (I2 (m + 4) (ix (I2 m 42))) = (9 : Int32) ∧ ¬ (I2 (m + 4) (ix (I2 m 42))) = (10 : Int32) ∧ ¬ (I2 (m + 4) (ix (I2 m 42))) = (11 : Int32) ∧ ¬ (I2 (m + 4) (ix (I2 m 42))) = (12 : Int32) ∧ ¬ (I2 (m + 4) (ix (I2 m 42))) = (14 : Int32)) → ∃ R20 : Int32 → xII → Prop, w_X13_fails m (2 : Int32) R20 I2 ∧ (∀ (v20 : Int32) (I20 : xII), (v20 = 0 ∨ v20 = 1) → R20 v20 I20 → (Q v20 I20))))) ∧ (¬ (I2 (m + 3) (ix (I2 m 42))) = (2 : Int32) → ∃ R21 : Int32 → xII → Prop, w_X13_fails m (2 : Int32) R21 I2 ∧ (∀ (v21 : Int32) (I21 : xII), (v21 = 0 ∨ v21 = 1) → R21 v21 I21 → (Q v21 I21)))))))) ∧ (¬ v2 = 0 → ∃ R24 : Int32 → xII → Prop, w_X13_sign m (29 : Int32) R24 I2 ∧ (∀ (v24 : Int32) (I24 : xII), (v24 = 0 ∨ v24 = 1) → R24 v24 I24 → (Q v24 I24))))))) ∧ (¬ v1 = 0 → ∃ R25 : xII → Prop, w_X13_begins m R25 I1 ∧ (∀ I25 : xII, R25 I25 → (∃ R26 : Int32 → xII → Prop, Rk 1 0 0 R26 I25 ∧ (∀ (v26 : Int32) (I26 : xII), (v26 = 0 ∨ v26 = 1) → R26 v26 I26 → (∃ R27 : xII → Prop, w_X13_ends m (I1 m 15) R27 I26 ∧ (∀ I27 : xII, R27 I27 → (Q v26 I27))))))))))
theorem m_X13_statement (hG : xOK G) {dp : Nat} {A : xA} {m : Nat} (hM : xMo G A m) {Rk : Nat → Int32 → Int32 → (Int32 → xII → Prop) → xII → Prop} (hR : xRC_S G (dp + 716) A m Rk) {Q : Int32 → xII → Prop} {I : xII} (h : w_X13_statement Rk m Q I) : MX G (dp + 717) kX13_statement [.ref m] (A.wI I) (oZ A Q) := by
  unfold w_X13_statement at h
  refine MX.of rfl (Nat.le_of_ble_eq_true rfl) ?_
  change X _ _ _ _ _ _ [some (.ref m), none, none] _
  refine x_aload_n dX13_statement_0 rfl ?_
  refine x_bipush_ (v := (26 : Int32)) dX13_statement_1 (by decide) ?_
  obtain ⟨R1, g1, h⟩ := h
  refine x_callV hG (Ky := kX13_isSign) (As := [.int (26 : Int32)]) dX13_statement_3 (mo_t hM) rfl lk_X13_257 me_X13_isSign is_X13_isSign se_X13_isSign rfl rfl (Nat.le_of_ble_eq_true rfl) (MX.post (m_X13_isSign hG hM g1) ?_)
  rintro _ _ ⟨v1, I1, rfl, rfl, zv1, h1⟩
  replace h := h v1 I1 zv1 h1
  change X _ _ _ _ (A.wI I1) _ _ (.int v1 :: _)
  refine x_if_eq (tgt := 30) dX13_statement_6 (by decide) (fun c6 => ?_) (fun c6 => ?_)
  · replace h := h.1 c6
    refine x_aload_n dX13_statement_30 rfl ?_
    refine x_bipush_ (v := (29 : Int32)) dX13_statement_31 (by decide) ?_
    obtain ⟨R2, g2, h⟩ := h
    refine x_callV hG (Ky := kX13_isSign) (As := [.int (29 : Int32)]) dX13_statement_33 (mo_t hM) rfl lk_X13_257 me_X13_isSign is_X13_isSign se_X13_isSign rfl rfl (Nat.le_of_ble_eq_true rfl) (MX.post (m_X13_isSign hG hM g2) ?_)
    rintro _ _ ⟨v2, I2, rfl, rfl, zv2, h1⟩
    replace h := h v2 I2 zv2 h1
    change X _ _ _ _ (A.wI I2) _ _ (.int v2 :: _)
    refine x_if_eq (tgt := 46) dX13_statement_36 (by decide) (fun c36 => ?_) (fun c36 => ?_)
    · replace h := h.1 c36
      refine x_aload_n dX13_statement_46 rfl ?_
      refine x_get (v := .ref (m + 3)) hG dX13_statement_47 f_X13_16_12 (mo_t hM) (congrArg va_rf (mo_P4 hM)) ?_
      refine x_aload_n dX13_statement_50 rfl ?_
      refine x_get (v := .int (I2 m 42)) hG dX13_statement_51 f_X13_233_12 (mo_t hM) rfl ?_
      obtain ⟨o3, h⟩ := h
      refine y_iald hG dX13_statement_54 (mo_t4 hM) (mo_n4 hM) o3 ?_
      refine x_iconst_ (v := (1 : Int32)) dX13_statement_55 (by decide) ?_
      refine x_icmp_ne (tgt := 81) dX13_statement_56 (by decide) (fun c56 => ?_) (fun c56 => ?_)
      · replace h := h.2 c56
        refine x_aload_n dX13_statement_81 rfl ?_
        refine x_get (v := .ref (m + 3)) hG dX13_statement_82 f_X13_16_12 (mo_t hM) (congrArg va_rf (mo_P4 hM)) ?_
        refine x_aload_n dX13_statement_85 rfl ?_
        refine x_get (v := .int (I2 m 42)) hG dX13_statement_86 f_X13_233_12 (mo_t hM) rfl ?_
        refine y_iald hG dX13_statement_89 (mo_t4 hM) (mo_n4 hM) o3 ?_
        refine x_iconst_ (v := (2 : Int32)) dX13_statement_90 (by decide) ?_
        refine x_icmp_eq (tgt := 100) dX13_statement_91 (by decide) (fun c91 => ?_) (fun c91 => ?_)
        · replace h := h.1 c91
          refine x_aload_n dX13_statement_100 rfl ?_
          refine x_get (v := .ref (m + 4)) hG dX13_statement_101 f_X13_19_12 (mo_t hM) (congrArg va_rf (mo_P5 hM)) ?_
          refine x_aload_n dX13_statement_104 rfl ?_
          refine x_get (v := .int (I2 m 42)) hG dX13_statement_105 f_X13_233_12 (mo_t hM) rfl ?_
          refine y_iald hG dX13_statement_108 (mo_t5 hM) (mo_n5 hM) o3 ?_
          have kt4_0 : ((I2 (m + 4) (ix (I2 m 42))) = (0 : Int32) ∨ (I2 (m + 4) (ix (I2 m 42))) = (1 : Int32)) → X G (dp + 717) kX13_statement (oZ A Q) (A.wI I2) 184 [some (.ref m), none, none] [] := by
            intro c109
            replace h := h.1 c109
            refine x_aload_n dX13_statement_184 rfl ?_
            refine x_iconst_ (v := (1 : Int32)) dX13_statement_185 (by decide) ?_
            obtain ⟨R5, g5, h⟩ := h
            refine x_callV hG (Ky := kX13_tellHere) (As := [.int (1 : Int32)]) dX13_statement_186 (mo_t hM) rfl lk_X13_414 me_X13_tellHere is_X13_tellHere se_X13_tellHere rfl rfl (Nat.le_of_ble_eq_true rfl) (MX.post (m_X13_tellHere hG hM g5) ?_)
            rintro _ _ ⟨v5, I5, rfl, rfl, zv5, h1⟩
            replace h := h v5 I5 zv5 h1
            change X _ _ _ _ (A.wI I5) _ _ (.int v5 :: _)
            refine x_if_eq (tgt := 205) dX13_statement_189 (by decide) (fun c189 => ?_) (fun c189 => ?_)
            · replace h := h.1 c189
              refine x_iconst_ (v := (0 : Int32)) dX13_statement_205 (by decide) ?_
              exact x_zret dX13_statement_206 rfl (by decide) ⟨_, _, rfl, rfl, (by decide), h⟩
            · replace h := h.2 c189
              refine x_aload_n dX13_statement_192 rfl ?_
              refine x_bipush_ (v := (29 : Int32)) dX13_statement_193 (by decide) ?_
              obtain ⟨R6, g6, h⟩ := h
              refine x_callV hG (Ky := kX13_sign) (As := [.int (29 : Int32)]) dX13_statement_195 (mo_t hM) rfl lk_X13_273 me_X13_sign is_X13_sign se_X13_sign rfl rfl (Nat.le_of_ble_eq_true rfl) (MX.post (m_X13_sign hG hM g6) ?_)
              rintro _ _ ⟨v6, I6, rfl, rfl, zv6, h1⟩
              replace h := h v6 I6 zv6 h1
              change X _ _ _ _ (A.wI I6) _ _ (.int v6 :: _)
              refine x_via 206 (A' := (A.wI I6)) (lv' := [none, none, none]) (st' := [.int (if v6 = 0 then (0 : Int32) else (1 : Int32))]) ?_ (fun k206 => ?_)
              rotate_left
              · refine x_if_eq (tgt := 205) dX13_statement_198 (by decide) (fun c198 => ?_) (fun c198 => ?_)
                · refine x_iconst_ (v := (0 : Int32)) dX13_statement_205 (by decide) ?_
                  change X _ _ _ _ _ _ [some (.ref m), none, none] [.int (0 : Int32)]
                  simp only [if_pos c198] at k206 ⊢
                  exact X.weak (xle_n (xle_n (xle_n xle_nil))) k206
                · refine x_iconst_ (v := (1 : Int32)) dX13_statement_201 (by decide) ?_
                  refine x_goto (tgt := 206) dX13_statement_202 (by decide) ?_
                  change X _ _ _ _ _ _ [some (.ref m), none, none] [.int (1 : Int32)]
                  simp only [if_neg c198] at k206 ⊢
                  exact X.weak (xle_n (xle_n (xle_n xle_nil))) k206
              exact x_zret dX13_statement_206 rfl ite01 ⟨_, _, rfl, rfl, ite01, h⟩
          have kt4_1 : ((I2 (m + 4) (ix (I2 m 42))) = (4 : Int32)) → X G (dp + 717) kX13_statement (oZ A Q) (A.wI I2) 207 [some (.ref m), none, none] [] := by
            intro c109
            replace h := h.2.1 c109
            refine x_aload_n dX13_statement_207 rfl ?_
            obtain ⟨R7, g7, h⟩ := h
            refine x_callV hG (Ky := kX13_choice) (As := []) dX13_statement_208 (mo_t hM) rfl lk_X13_418 me_X13_choice is_X13_choice se_X13_choice rfl rfl (Nat.le_of_ble_eq_true rfl) (MX.post (hR.2.2.2.1 g7) ?_)
            rintro _ _ ⟨v7, I7, rfl, rfl, zv7, h1⟩
            replace h := h v7 I7 zv7 h1
            change X _ _ _ _ (A.wI I7) _ _ (.int v7 :: _)
            exact x_zret dX13_statement_211 rfl zv7 ⟨_, _, rfl, rfl, zv7, h⟩
          have kt4_2 : ((I2 (m + 4) (ix (I2 m 42))) = (6 : Int32)) → X G (dp + 717) kX13_statement (oZ A Q) (A.wI I2) 212 [some (.ref m), none, none] [] := by
            intro c109
            replace h := h.2.2.1 c109
            refine x_aload_n dX13_statement_212 rfl ?_
            obtain ⟨R8, g8, h⟩ := h
            refine x_callV hG (Ky := kX13_loop) (As := []) dX13_statement_213 (mo_t hM) rfl lk_X13_421 me_X13_loop is_X13_loop se_X13_loop rfl rfl (Nat.le_of_ble_eq_true rfl) (MX.post (hR.2.2.2.2.2.1 g8) ?_)
            rintro _ _ ⟨v8, I8, rfl, rfl, zv8, h1⟩
            replace h := h v8 I8 zv8 h1
            change X _ _ _ _ (A.wI I8) _ _ (.int v8 :: _)
            exact x_zret dX13_statement_216 rfl zv8 ⟨_, _, rfl, rfl, zv8, h⟩
          have kt4_3 : ((I2 (m + 4) (ix (I2 m 42))) = (7 : Int32)) → X G (dp + 717) kX13_statement (oZ A Q) (A.wI I2) 217 [some (.ref m), none, none] [] := by
            intro c109
            replace h := h.2.2.2.1 c109
            refine x_aload_n dX13_statement_217 rfl ?_
            obtain ⟨R9, g9, h⟩ := h
            refine x_callV hG (Ky := kX13_turnLoop) (As := []) dX13_statement_218 (mo_t hM) rfl lk_X13_424 me_X13_turnLoop is_X13_turnLoop se_X13_turnLoop rfl rfl (Nat.le_of_ble_eq_true rfl) (MX.post (hR.2.2.2.2.2.2.1 g9) ?_)
            rintro _ _ ⟨v9, I9, rfl, rfl, zv9, h1⟩
            replace h := h v9 I9 zv9 h1
            change X _ _ _ _ (A.wI I9) _ _ (.int v9 :: _)
            exact x_zret dX13_statement_221 rfl zv9 ⟨_, _, rfl, rfl, zv9, h⟩
          have kt4_4 : ((I2 (m + 4) (ix (I2 m 42))) = (8 : Int32)) → X G (dp + 717) kX13_statement (oZ A Q) (A.wI I2) 222 [some (.ref m), none, none] [] := by
            intro c109
            replace h := h.2.2.2.2.1 c109
            refine x_aload_n dX13_statement_222 rfl ?_
            obtain ⟨R10, g10, h⟩ := h
            refine x_callV hG (Ky := kX13_counted) (As := []) dX13_statement_223 (mo_t hM) rfl lk_X13_427 me_X13_counted is_X13_counted se_X13_counted rfl rfl (Nat.le_of_ble_eq_true rfl) (MX.post (hR.2.2.2.2.2.2.2 g10) ?_)
            rintro _ _ ⟨v10, I10, rfl, rfl, zv10, h1⟩
            replace h := h v10 I10 zv10 h1
            change X _ _ _ _ (A.wI I10) _ _ (.int v10 :: _)
            exact x_zret dX13_statement_226 rfl zv10 ⟨_, _, rfl, rfl, zv10, h⟩
          have kt4_5 : ((I2 (m + 4) (ix (I2 m 42))) = (9 : Int32) ∨ (I2 (m + 4) (ix (I2 m 42))) = (10 : Int32)) → X G (dp + 717) kX13_statement (oZ A Q) (A.wI I2) 227 [some (.ref m), none, none] [] := by
            intro c109
            replace h := h.2.2.2.2.2.1 c109
            refine x_aload_n dX13_statement_227 rfl ?_
            obtain ⟨R11, g11, h⟩ := h
            refine x_callV hG (Ky := kX13_leaves) (As := []) dX13_statement_228 (mo_t hM) rfl lk_X13_430 me_X13_leaves is_X13_leaves se_X13_leaves rfl rfl (Nat.le_of_ble_eq_true rfl) (MX.post (m_X13_leaves hG hM g11) ?_)
            rintro _ _ ⟨v11, I11, rfl, rfl, zv11, h1⟩
            replace h := h v11 I11 zv11 h1
            change X _ _ _ _ (A.wI I11) _ _ (.int v11 :: _)
            exact x_zret dX13_statement_231 rfl zv11 ⟨_, _, rfl, rfl, zv11, h⟩
          have kt4_6 : ((I2 (m + 4) (ix (I2 m 42))) = (11 : Int32)) → X G (dp + 717) kX13_statement (oZ A Q) (A.wI I2) 232 [some (.ref m), none, none] [] := by
            intro c109
            replace h := h.2.2.2.2.2.2.1 c109
            refine x_aload_n dX13_statement_232 rfl ?_
            obtain ⟨R12, g12, h⟩ := h
            refine x_callV hG (Ky := kX13_returns) (As := []) dX13_statement_233 (mo_t hM) rfl lk_X13_433 me_X13_returns is_X13_returns se_X13_returns rfl rfl (Nat.le_of_ble_eq_true rfl) (MX.post (m_X13_returns hG hM g12) ?_)
            rintro _ _ ⟨v12, I12, rfl, rfl, zv12, h1⟩
            replace h := h v12 I12 zv12 h1
            change X _ _ _ _ (A.wI I12) _ _ (.int v12 :: _)
            exact x_zret dX13_statement_236 rfl zv12 ⟨_, _, rfl, rfl, zv12, h⟩
          have kt4_7 : ((I2 (m + 4) (ix (I2 m 42))) = (12 : Int32) ∨ (I2 (m + 4) (ix (I2 m 42))) = (14 : Int32)) → X G (dp + 717) kX13_statement (oZ A Q) (A.wI I2) 237 [some (.ref m), none, none] [] := by
            intro c109
            replace h := h.2.2.2.2.2.2.2.1 c109
            refine x_aload_n dX13_statement_237 rfl ?_
            refine x_bipush_ (v := (12 : Int32)) dX13_statement_238 (by decide) ?_
            obtain ⟨R13, g13, h⟩ := h
            refine x_callV hG (Ky := kX13_isWord) (As := [.int (12 : Int32)]) dX13_statement_240 (mo_t hM) rfl lk_X13_263 me_X13_isWord is_X13_isWord se_X13_isWord rfl rfl (Nat.le_of_ble_eq_true rfl) (MX.post (m_X13_isWord hG hM g13) ?_)
            rintro _ _ ⟨v13, I13, rfl, rfl, zv13, h1⟩
            replace h := h v13 I13 zv13 h1
            change X _ _ _ _ (A.wI I13) _ _ (.int v13 :: _)
            refine x_via 253 (A' := (A.wI I13)) (lv' := [some (.ref m), none, none]) (st' := [.int (if v13 = 0 then (20 : Int32) else (19 : Int32))]) ?_ (fun k253 => ?_)
            rotate_left
            · refine x_if_eq (tgt := 251) dX13_statement_243 (by decide) (fun c243 => ?_) (fun c243 => ?_)
              · refine x_bipush_ (v := (20 : Int32)) dX13_statement_251 (by decide) ?_
                change X _ _ _ _ _ _ [some (.ref m), none, none] [.int (20 : Int32)]
                simp only [if_pos c243] at k253 ⊢
                exact X.weak (xle_c rfl (xle_n (xle_n xle_nil))) k253
              · refine x_bipush_ (v := (19 : Int32)) dX13_statement_246 (by decide) ?_
                refine x_goto (tgt := 253) dX13_statement_248 (by decide) ?_
                change X _ _ _ _ _ _ [some (.ref m), none, none] [.int (19 : Int32)]
                simp only [if_neg c243] at k253 ⊢
                exact X.weak (xle_c rfl (xle_n (xle_n xle_nil))) k253
            refine x_istore_n dX13_statement_253 (by decide) ?_
            refine x_aload_n dX13_statement_254 rfl ?_
            refine x_dup dX13_statement_255 rfl ?_
            refine x_get (v := .int (I13 m 42)) hG dX13_statement_256 f_X13_233_12 (mo_t hM) rfl ?_
            refine x_iconst_ (v := (1 : Int32)) dX13_statement_259 (by decide) ?_
            refine x_iadd dX13_statement_260 ?_
            refine y_put hG hM dX13_statement_261 f_X13_233_12 ⟨_, rfl, Or.inl rfl⟩ rfl rfl ⟨_, rfl⟩ (fun I14 e14 => ?_)
            replace h := h I14 e14
            refine x_aload_n dX13_statement_264 rfl ?_
            refine x_bipush_ (v := (22 : Int32)) dX13_statement_265 (by decide) ?_
            obtain ⟨R15, g15, h⟩ := h
            refine x_callV hG (Ky := kX13_openSign) (As := [.int (22 : Int32)]) dX13_statement_267 (mo_t hM) rfl lk_X13_356 me_X13_openSign is_X13_openSign se_X13_openSign rfl rfl (Nat.le_of_ble_eq_true rfl) (MX.post (m_X13_openSign hG hM g15) ?_)
            rintro _ _ ⟨v15, I15, rfl, rfl, zv15, h1⟩
            replace h := h v15 I15 zv15 h1
            change X _ _ _ _ (A.wI I15) _ _ (.int v15 :: _)
            refine x_if_eq (tgt := 289) dX13_statement_270 (by decide) (fun c270 => ?_) (fun c270 => ?_)
            · replace h := h.1 c270
              refine x_iconst_ (v := (0 : Int32)) dX13_statement_289 (by decide) ?_
              exact x_zret dX13_statement_290 rfl (by decide) ⟨_, _, rfl, rfl, (by decide), h⟩
            · replace h := h.2 c270
              refine x_aload_n dX13_statement_273 rfl ?_
              obtain ⟨R16, g16, h⟩ := h
              refine x_callV hG (Ky := kX13_expression) (As := []) dX13_statement_274 (mo_t hM) rfl lk_X13_368 me_X13_expression is_X13_expression se_X13_expression rfl rfl (Nat.le_of_ble_eq_true rfl) (MX.post ((rc_E hG hM 700).1 g16) ?_)
              rintro _ _ ⟨v16, I16, rfl, rfl, zv16, h1⟩
              replace h := h v16 I16 zv16 h1
              change X _ _ _ _ (A.wI I16) _ _ (.int v16 :: _)
              refine x_if_eq (tgt := 289) dX13_statement_277 (by decide) (fun c277 => ?_) (fun c277 => ?_)
              · replace h := h.1 c277
                refine x_iconst_ (v := (0 : Int32)) dX13_statement_289 (by decide) ?_
                exact x_zret dX13_statement_290 rfl (by decide) ⟨_, _, rfl, rfl, (by decide), h⟩
              · replace h := h.2 c277
                refine x_aload_n dX13_statement_280 rfl ?_
                refine x_bipush_ (v := (23 : Int32)) dX13_statement_281 (by decide) ?_
                obtain ⟨R17, g17, h⟩ := h
                refine x_callV hG (Ky := kX13_closeSign) (As := [.int (23 : Int32)]) dX13_statement_283 (mo_t hM) rfl lk_X13_362 me_X13_closeSign is_X13_closeSign se_X13_closeSign rfl rfl (Nat.le_of_ble_eq_true rfl) (MX.post (m_X13_closeSign hG hM g17) ?_)
                rintro _ _ ⟨v17, I17, rfl, rfl, zv17, h1⟩
                replace h := h v17 I17 zv17 h1
                change X _ _ _ _ (A.wI I17) _ _ (.int v17 :: _)
                refine x_if_ne (tgt := 291) dX13_statement_286 (by decide) (fun c286 => ?_) (fun c286 => ?_)
                · replace h := h.2 c286
                  refine x_aload_n dX13_statement_291 rfl ?_
                  refine x_iload_n dX13_statement_292 rfl ?_
                  refine x_iconst_ (v := (0 : Int32)) dX13_statement_293 (by decide) ?_
                  refine x_iconst_ (v := (0 : Int32)) dX13_statement_294 (by decide) ?_
                  obtain ⟨R18, g18, h⟩ := h
                  refine x_callV hG (Ky := kX13_step) (As := [.int (if v13 = 0 then (20 : Int32) else (19 : Int32)), .int (0 : Int32), .int (0 : Int32)]) dX13_statement_295 (mo_t hM) rfl lk_X13_401 me_X13_step is_X13_step se_X13_step rfl rfl (Nat.le_of_ble_eq_true rfl) (MX.post (m_X13_step hG hM g18) ?_)
                  rintro _ _ ⟨v18, I18, rfl, rfl, h1⟩
                  replace h := h v18 I18 h1
                  change X _ _ _ _ (A.wI I18) _ _ (.int v18 :: _)
                  refine x_pop dX13_statement_298 rfl ?_
                  refine x_aload_n dX13_statement_299 rfl ?_
                  refine x_bipush_ (v := (29 : Int32)) dX13_statement_300 (by decide) ?_
                  obtain ⟨R19, g19, h⟩ := h
                  refine x_callV hG (Ky := kX13_sign) (As := [.int (29 : Int32)]) dX13_statement_302 (mo_t hM) rfl lk_X13_273 me_X13_sign is_X13_sign se_X13_sign rfl rfl (Nat.le_of_ble_eq_true rfl) (MX.post (m_X13_sign hG hM g19) ?_)
                  rintro _ _ ⟨v19, I19, rfl, rfl, zv19, h1⟩
                  replace h := h v19 I19 zv19 h1
                  change X _ _ _ _ (A.wI I19) _ _ (.int v19 :: _)
                  exact x_zret dX13_statement_305 rfl zv19 ⟨_, _, rfl, rfl, zv19, h⟩
                · replace h := h.1 c286
                  refine x_iconst_ (v := (0 : Int32)) dX13_statement_289 (by decide) ?_
                  exact x_zret dX13_statement_290 rfl (by decide) ⟨_, _, rfl, rfl, (by decide), h⟩
          have kd4 : (¬ (I2 (m + 4) (ix (I2 m 42))) = (0 : Int32) ∧ ¬ (I2 (m + 4) (ix (I2 m 42))) = (1 : Int32) ∧ ¬ (I2 (m + 4) (ix (I2 m 42))) = (4 : Int32) ∧ ¬ (I2 (m + 4) (ix (I2 m 42))) = (6 : Int32) ∧ ¬ (I2 (m + 4) (ix (I2 m 42))) = (7 : Int32) ∧ ¬ (I2 (m + 4) (ix (I2 m 42))) = (8 : Int32) ∧ ¬ (I2 (m + 4) (ix (I2 m 42))) = (9 : Int32) ∧ ¬ (I2 (m + 4) (ix (I2 m 42))) = (10 : Int32) ∧ ¬ (I2 (m + 4) (ix (I2 m 42))) = (11 : Int32) ∧ ¬ (I2 (m + 4) (ix (I2 m 42))) = (12 : Int32) ∧ ¬ (I2 (m + 4) (ix (I2 m 42))) = (14 : Int32)) → X G (dp + 717) kX13_statement (oZ A Q) (A.wI I2) 306 [some (.ref m), none, none] [] := by
            intro c109
            replace h := h.2.2.2.2.2.2.2.2 c109
            refine x_aload_n dX13_statement_306 rfl ?_
            refine x_iconst_ (v := (2 : Int32)) dX13_statement_307 (by decide) ?_
            obtain ⟨R20, g20, h⟩ := h
            refine x_callV hG (Ky := kX13_fails) (As := [.int (2 : Int32)]) dX13_statement_308 (mo_t hM) rfl lk_X13_260 me_X13_fails is_X13_fails se_X13_fails rfl rfl (Nat.le_of_ble_eq_true rfl) (MX.post (m_X13_fails hG hM g20) ?_)
            rintro _ _ ⟨v20, I20, rfl, rfl, zv20, h1⟩
            replace h := h v20 I20 zv20 h1
            change X _ _ _ _ (A.wI I20) _ _ (.int v20 :: _)
            exact x_zret dX13_statement_311 rfl zv20 ⟨_, _, rfl, rfl, zv20, h⟩
          refine x_sw (0 : Int32) (fun s109_0 => ?_) (fun s109_0 => ?_)
          · refine x_tableIn (off := 75) (tgt := 184) dX13_statement_109 (by rw [s109_0]; decide) (by rw [s109_0]; decide) (by rw [s109_0]; rfl) (by decide) ?_
            exact kt4_0 (by simp only [s109_0]; decide)
          refine x_sw (1 : Int32) (fun s109_1 => ?_) (fun s109_1 => ?_)
          · refine x_tableIn (off := 75) (tgt := 184) dX13_statement_109 (by rw [s109_1]; decide) (by rw [s109_1]; decide) (by rw [s109_1]; rfl) (by decide) ?_
            exact kt4_0 (by simp only [s109_1]; decide)
          refine x_sw (2 : Int32) (fun s109_2 => ?_) (fun s109_2 => ?_)
          · refine x_tableIn (off := 197) (tgt := 306) dX13_statement_109 (by rw [s109_2]; decide) (by rw [s109_2]; decide) (by rw [s109_2]; rfl) (by decide) ?_
            exact kd4 (by rw [s109_2]; decide)
          refine x_sw (3 : Int32) (fun s109_3 => ?_) (fun s109_3 => ?_)
          · refine x_tableIn (off := 197) (tgt := 306) dX13_statement_109 (by rw [s109_3]; decide) (by rw [s109_3]; decide) (by rw [s109_3]; rfl) (by decide) ?_
            exact kd4 (by rw [s109_3]; decide)
          refine x_sw (4 : Int32) (fun s109_4 => ?_) (fun s109_4 => ?_)
          · refine x_tableIn (off := 98) (tgt := 207) dX13_statement_109 (by rw [s109_4]; decide) (by rw [s109_4]; decide) (by rw [s109_4]; rfl) (by decide) ?_
            exact kt4_1 s109_4
          refine x_sw (5 : Int32) (fun s109_5 => ?_) (fun s109_5 => ?_)
          · refine x_tableIn (off := 197) (tgt := 306) dX13_statement_109 (by rw [s109_5]; decide) (by rw [s109_5]; decide) (by rw [s109_5]; rfl) (by decide) ?_
            exact kd4 (by rw [s109_5]; decide)
          refine x_sw (6 : Int32) (fun s109_6 => ?_) (fun s109_6 => ?_)
          · refine x_tableIn (off := 103) (tgt := 212) dX13_statement_109 (by rw [s109_6]; decide) (by rw [s109_6]; decide) (by rw [s109_6]; rfl) (by decide) ?_
            exact kt4_2 s109_6
          refine x_sw (7 : Int32) (fun s109_7 => ?_) (fun s109_7 => ?_)
          · refine x_tableIn (off := 108) (tgt := 217) dX13_statement_109 (by rw [s109_7]; decide) (by rw [s109_7]; decide) (by rw [s109_7]; rfl) (by decide) ?_
            exact kt4_3 s109_7
          refine x_sw (8 : Int32) (fun s109_8 => ?_) (fun s109_8 => ?_)
          · refine x_tableIn (off := 113) (tgt := 222) dX13_statement_109 (by rw [s109_8]; decide) (by rw [s109_8]; decide) (by rw [s109_8]; rfl) (by decide) ?_
            exact kt4_4 s109_8
          refine x_sw (9 : Int32) (fun s109_9 => ?_) (fun s109_9 => ?_)
          · refine x_tableIn (off := 118) (tgt := 227) dX13_statement_109 (by rw [s109_9]; decide) (by rw [s109_9]; decide) (by rw [s109_9]; rfl) (by decide) ?_
            exact kt4_5 (by simp only [s109_9]; decide)
          refine x_sw (10 : Int32) (fun s109_10 => ?_) (fun s109_10 => ?_)
          · refine x_tableIn (off := 118) (tgt := 227) dX13_statement_109 (by rw [s109_10]; decide) (by rw [s109_10]; decide) (by rw [s109_10]; rfl) (by decide) ?_
            exact kt4_5 (by simp only [s109_10]; decide)
          refine x_sw (11 : Int32) (fun s109_11 => ?_) (fun s109_11 => ?_)
          · refine x_tableIn (off := 123) (tgt := 232) dX13_statement_109 (by rw [s109_11]; decide) (by rw [s109_11]; decide) (by rw [s109_11]; rfl) (by decide) ?_
            exact kt4_6 s109_11
          refine x_sw (12 : Int32) (fun s109_12 => ?_) (fun s109_12 => ?_)
          · refine x_tableIn (off := 128) (tgt := 237) dX13_statement_109 (by rw [s109_12]; decide) (by rw [s109_12]; decide) (by rw [s109_12]; rfl) (by decide) ?_
            exact kt4_7 (by simp only [s109_12]; decide)
          refine x_sw (13 : Int32) (fun s109_13 => ?_) (fun s109_13 => ?_)
          · refine x_tableIn (off := 197) (tgt := 306) dX13_statement_109 (by rw [s109_13]; decide) (by rw [s109_13]; decide) (by rw [s109_13]; rfl) (by decide) ?_
            exact kd4 (by rw [s109_13]; decide)
          refine x_sw (14 : Int32) (fun s109_14 => ?_) (fun s109_14 => ?_)
          · refine x_tableIn (off := 128) (tgt := 237) dX13_statement_109 (by rw [s109_14]; decide) (by rw [s109_14]; decide) (by rw [s109_14]; rfl) (by decide) ?_
            exact kt4_7 (by simp only [s109_14]; decide)
          have t109_0 := lv_neT s109_0 (a := 0) (by decide)
          have t109_1 := lv_neT s109_1 (a := 1) (by decide)
          have t109_2 := lv_neT s109_2 (a := 2) (by decide)
          have t109_3 := lv_neT s109_3 (a := 3) (by decide)
          have t109_4 := lv_neT s109_4 (a := 4) (by decide)
          have t109_5 := lv_neT s109_5 (a := 5) (by decide)
          have t109_6 := lv_neT s109_6 (a := 6) (by decide)
          have t109_7 := lv_neT s109_7 (a := 7) (by decide)
          have t109_8 := lv_neT s109_8 (a := 8) (by decide)
          have t109_9 := lv_neT s109_9 (a := 9) (by decide)
          have t109_10 := lv_neT s109_10 (a := 10) (by decide)
          have t109_11 := lv_neT s109_11 (a := 11) (by decide)
          have t109_12 := lv_neT s109_12 (a := 12) (by decide)
          have t109_13 := lv_neT s109_13 (a := 13) (by decide)
          have t109_14 := lv_neT s109_14 (a := 14) (by decide)
          refine x_tableOut (tgt := 306) dX13_statement_109 (by omega) (by decide) ?_
          exact kd4 ⟨s109_0, s109_1, s109_4, s109_6, s109_7, s109_8, s109_9, s109_10, s109_11, s109_12, s109_14⟩
        · replace h := h.2 c91
          refine x_aload_n dX13_statement_94 rfl ?_
          refine x_iconst_ (v := (2 : Int32)) dX13_statement_95 (by decide) ?_
          obtain ⟨R21, g21, h⟩ := h
          refine x_callV hG (Ky := kX13_fails) (As := [.int (2 : Int32)]) dX13_statement_96 (mo_t hM) rfl lk_X13_260 me_X13_fails is_X13_fails se_X13_fails rfl rfl (Nat.le_of_ble_eq_true rfl) (MX.post (m_X13_fails hG hM g21) ?_)
          rintro _ _ ⟨v21, I21, rfl, rfl, zv21, h1⟩
          replace h := h v21 I21 zv21 h1
          change X _ _ _ _ (A.wI I21) _ _ (.int v21 :: _)
          exact x_zret dX13_statement_99 rfl zv21 ⟨_, _, rfl, rfl, zv21, h⟩
      · replace h := h.1 c56
        refine x_aload_n dX13_statement_59 rfl ?_
        obtain ⟨R22, g22, h⟩ := h
        refine x_callV hG (Ky := kX13_simple) (As := []) dX13_statement_60 (mo_t hM) rfl lk_X13_411 me_X13_simple is_X13_simple se_X13_simple rfl rfl (Nat.le_of_ble_eq_true rfl) (MX.post (m_X13_simple hG hM g22) ?_)
        rintro _ _ ⟨v22, I22, rfl, rfl, zv22, h1⟩
        replace h := h v22 I22 zv22 h1
        change X _ _ _ _ (A.wI I22) _ _ (.int v22 :: _)
        refine x_if_eq (tgt := 79) dX13_statement_63 (by decide) (fun c63 => ?_) (fun c63 => ?_)
        · replace h := h.1 c63
          refine x_iconst_ (v := (0 : Int32)) dX13_statement_79 (by decide) ?_
          exact x_zret dX13_statement_80 rfl (by decide) ⟨_, _, rfl, rfl, (by decide), h⟩
        · replace h := h.2 c63
          refine x_aload_n dX13_statement_66 rfl ?_
          refine x_bipush_ (v := (29 : Int32)) dX13_statement_67 (by decide) ?_
          obtain ⟨R23, g23, h⟩ := h
          refine x_callV hG (Ky := kX13_sign) (As := [.int (29 : Int32)]) dX13_statement_69 (mo_t hM) rfl lk_X13_273 me_X13_sign is_X13_sign se_X13_sign rfl rfl (Nat.le_of_ble_eq_true rfl) (MX.post (m_X13_sign hG hM g23) ?_)
          rintro _ _ ⟨v23, I23, rfl, rfl, zv23, h1⟩
          replace h := h v23 I23 zv23 h1
          change X _ _ _ _ (A.wI I23) _ _ (.int v23 :: _)
          refine x_via 80 (A' := (A.wI I23)) (lv' := [none, none, none]) (st' := [.int (if v23 = 0 then (0 : Int32) else (1 : Int32))]) ?_ (fun k80 => ?_)
          rotate_left
          · refine x_if_eq (tgt := 79) dX13_statement_72 (by decide) (fun c72 => ?_) (fun c72 => ?_)
            · refine x_iconst_ (v := (0 : Int32)) dX13_statement_79 (by decide) ?_
              change X _ _ _ _ _ _ [some (.ref m), none, none] [.int (0 : Int32)]
              simp only [if_pos c72] at k80 ⊢
              exact X.weak (xle_n (xle_n (xle_n xle_nil))) k80
            · refine x_iconst_ (v := (1 : Int32)) dX13_statement_75 (by decide) ?_
              refine x_goto (tgt := 80) dX13_statement_76 (by decide) ?_
              change X _ _ _ _ _ _ [some (.ref m), none, none] [.int (1 : Int32)]
              simp only [if_neg c72] at k80 ⊢
              exact X.weak (xle_n (xle_n (xle_n xle_nil))) k80
          exact x_zret dX13_statement_80 rfl ite01 ⟨_, _, rfl, rfl, ite01, h⟩
    · replace h := h.2 c36
      refine x_aload_n dX13_statement_39 rfl ?_
      refine x_bipush_ (v := (29 : Int32)) dX13_statement_40 (by decide) ?_
      obtain ⟨R24, g24, h⟩ := h
      refine x_callV hG (Ky := kX13_sign) (As := [.int (29 : Int32)]) dX13_statement_42 (mo_t hM) rfl lk_X13_273 me_X13_sign is_X13_sign se_X13_sign rfl rfl (Nat.le_of_ble_eq_true rfl) (MX.post (m_X13_sign hG hM g24) ?_)
      rintro _ _ ⟨v24, I24, rfl, rfl, zv24, h1⟩
      replace h := h v24 I24 zv24 h1
      change X _ _ _ _ (A.wI I24) _ _ (.int v24 :: _)
      exact x_zret dX13_statement_45 rfl zv24 ⟨_, _, rfl, rfl, zv24, h⟩
  · replace h := h.2 c6
    refine x_aload_n dX13_statement_9 rfl ?_
    refine x_get (v := .int (I1 m 15)) hG dX13_statement_10 f_X13_282_12 (mo_t hM) rfl ?_
    refine x_istore_n dX13_statement_13 (by decide) ?_
    refine x_aload_n dX13_statement_14 rfl ?_
    obtain ⟨R25, g25, h⟩ := h
    refine x_callV hG (Ky := kX13_begins) (As := []) dX13_statement_15 (mo_t hM) rfl lk_X13_392 me_X13_begins is_X13_begins se_X13_begins rfl rfl (Nat.le_of_ble_eq_true rfl) (MX.post (m_X13_begins hG hM g25) ?_)
    rintro _ _ ⟨I25, rfl, rfl, h1⟩
    replace h := h I25 h1
    change X _ _ _ _ (A.wI I25) _ _ _
    refine x_aload_n dX13_statement_18 rfl ?_
    obtain ⟨R26, g26, h⟩ := h
    refine x_callV hG (Ky := kX13_block) (As := []) dX13_statement_19 (mo_t hM) rfl lk_X13_398 me_X13_block is_X13_block se_X13_block rfl rfl (Nat.le_of_ble_eq_true rfl) (MX.post (hR.2.1 g26) ?_)
    rintro _ _ ⟨v26, I26, rfl, rfl, zv26, h1⟩
    replace h := h v26 I26 zv26 h1
    change X _ _ _ _ (A.wI I26) _ _ (.int v26 :: _)
    refine x_istore_n dX13_statement_22 (by decide) ?_
    refine x_aload_n dX13_statement_23 rfl ?_
    refine x_iload_n dX13_statement_24 rfl ?_
    obtain ⟨R27, g27, h⟩ := h
    refine x_callV hG (Ky := kX13_ends) (As := [.int (I1 m 15)]) dX13_statement_25 (mo_t hM) rfl lk_X13_405 me_X13_ends is_X13_ends se_X13_ends rfl rfl (Nat.le_of_ble_eq_true rfl) (MX.post (m_X13_ends hG hM g27) ?_)
    rintro _ _ ⟨I27, rfl, rfl, h1⟩
    replace h := h I27 h1
    change X _ _ _ _ (A.wI I27) _ _ _
    refine x_iload_n dX13_statement_28 rfl ?_
    exact x_zret dX13_statement_29 rfl zv26 ⟨_, _, rfl, rfl, zv26, h⟩
def w_X13_block (Rk : Nat → Int32 → Int32 → (Int32 → xII → Prop) → xII → Prop) (m : Nat) (Q : Int32 → xII → Prop) (I : xII) : Prop := ∃ R1 : Int32 → xII → Prop, w_X13_openSign m (26 : Int32) R1 I ∧ (∀ (v1 : Int32) (I1 : xII), (v1 = 0 ∨ v1 = 1) → R1 v1 I1 → (((v1 = 0 → Q (0 : Int32) I1) ∧ (¬ v1 = 0 → ∃ L2 : Nat → xII → Prop, (∃ n2 : Nat, L2 n2 I1) ∧ (∀ (n2 : Nat) (I2 : xII), L2 n2 I2 → ∃ J3 : xII → Prop, (∀ (I3 : xII), J3 I3 → ∃ R4 : Int32 → xII → Prop, w_X13_closeSign m (27 : Int32) R4 I3 ∧ (∀ (v4 : Int32) (I4 : xII), (v4 = 0 ∨ v4 = 1) → R4 v4 I4 → (Q v4 I4))) ∧ (((I2 m 44) = 0 → ∃ R5 : Int32 → xII → Prop, w_X13_isSign m (27 : Int32) R5 I2 ∧ (∀ (v5 : Int32) (I5 : xII), (v5 = 0 ∨ v5 = 1) → R5 v5 I5 → (((v5 = 0 → ∃ R6 : Int32 → xII → Prop, Rk 0 0 0 R6 I5 ∧ (∀ (v6 : Int32) (I6 : xII), (v6 = 0 ∨ v6 = 1) → R6 v6 I6 → ((∃ q2 : Nat, q2 < n2 ∧ L2 q2 I6)))) ∧ (¬ v5 = 0 → J3 I5))))) ∧ (¬ (I2 m 44) = 0 → J3 I2)))))))
theorem m_X13_block (hG : xOK G) {dp : Nat} {A : xA} {m : Nat} (hM : xMo G A m) {Rk : Nat → Int32 → Int32 → (Int32 → xII → Prop) → xII → Prop} (hR : xRC_S G (dp + 716) A m Rk) {Q : Int32 → xII → Prop} {I : xII} (h : w_X13_block Rk m Q I) : MX G (dp + 717) kX13_block [.ref m] (A.wI I) (oZ A Q) := by
  unfold w_X13_block at h
  refine MX.of rfl (Nat.le_of_ble_eq_true rfl) ?_
  change X _ _ _ _ _ _ [some (.ref m)] _
  refine x_aload_n dX13_block_0 rfl ?_
  refine x_bipush_ (v := (26 : Int32)) dX13_block_1 (by decide) ?_
  obtain ⟨R1, g1, h⟩ := h
  refine x_callV hG (Ky := kX13_openSign) (As := [.int (26 : Int32)]) dX13_block_3 (mo_t hM) rfl lk_X13_356 me_X13_openSign is_X13_openSign se_X13_openSign rfl rfl (Nat.le_of_ble_eq_true rfl) (MX.post (m_X13_openSign hG hM g1) ?_)
  rintro _ _ ⟨v1, I1, rfl, rfl, zv1, h1⟩
  replace h := h v1 I1 zv1 h1
  change X _ _ _ _ (A.wI I1) _ _ (.int v1 :: _)
  refine x_if_ne (tgt := 11) dX13_block_6 (by decide) (fun c6 => ?_) (fun c6 => ?_)
  · replace h := h.2 c6
    obtain ⟨L2, ⟨n2, i2⟩, g2⟩ := h
    have kl2 : ∀ n2 : Nat, ∀ (I2 : xII), L2 n2 I2 → X G (dp + 717) kX13_block (oZ A Q) (A.wI I2) 11 [some (.ref m)] [] := by
      intro n2
      induction n2 using Nat.strongRecOn with
      | ind n2 ih2 =>
        intro I2 h
        replace h := g2 n2 I2 h
        refine x_aload_n dX13_block_11 rfl ?_
        refine x_get (v := .int (I2 m 44)) hG dX13_block_12 f_X13_230_12 (mo_t hM) rfl ?_
        obtain ⟨J3, g3, h⟩ := h
        have kj3 : ∀ (I3 : xII), J3 I3 → X G (dp + 717) kX13_block (oZ A Q) (A.wI I3) 35 [some (.ref m)] [] := by
          intro I3 h
          replace h := g3 I3 h
          refine x_aload_n dX13_block_35 rfl ?_
          refine x_bipush_ (v := (27 : Int32)) dX13_block_36 (by decide) ?_
          obtain ⟨R4, g4, h⟩ := h
          refine x_callV hG (Ky := kX13_closeSign) (As := [.int (27 : Int32)]) dX13_block_38 (mo_t hM) rfl lk_X13_362 me_X13_closeSign is_X13_closeSign se_X13_closeSign rfl rfl (Nat.le_of_ble_eq_true rfl) (MX.post (m_X13_closeSign hG hM g4) ?_)
          rintro _ _ ⟨v4, I4, rfl, rfl, zv4, h1⟩
          replace h := h v4 I4 zv4 h1
          change X _ _ _ _ (A.wI I4) _ _ (.int v4 :: _)
          exact x_zret dX13_block_41 rfl zv4 ⟨_, _, rfl, rfl, zv4, h⟩
        refine x_if_ne (tgt := 35) dX13_block_15 (by decide) (fun c15 => ?_) (fun c15 => ?_)
        · replace h := h.2 c15
          change X _ _ _ _ _ _ [some (.ref m)] []
          exact X.weak (xle_c rfl xle_nil) (kj3 I2 h)
        · replace h := h.1 c15
          refine x_aload_n dX13_block_18 rfl ?_
          refine x_bipush_ (v := (27 : Int32)) dX13_block_19 (by decide) ?_
          obtain ⟨R5, g5, h⟩ := h
          refine x_callV hG (Ky := kX13_isSign) (As := [.int (27 : Int32)]) dX13_block_21 (mo_t hM) rfl lk_X13_257 me_X13_isSign is_X13_isSign se_X13_isSign rfl rfl (Nat.le_of_ble_eq_true rfl) (MX.post (m_X13_isSign hG hM g5) ?_)
          rintro _ _ ⟨v5, I5, rfl, rfl, zv5, h1⟩
          replace h := h v5 I5 zv5 h1
          change X _ _ _ _ (A.wI I5) _ _ (.int v5 :: _)
          refine x_if_ne (tgt := 35) dX13_block_24 (by decide) (fun c24 => ?_) (fun c24 => ?_)
          · replace h := h.2 c24
            change X _ _ _ _ _ _ [some (.ref m)] []
            exact X.weak (xle_c rfl xle_nil) (kj3 I5 h)
          · replace h := h.1 c24
            refine x_aload_n dX13_block_27 rfl ?_
            obtain ⟨R6, g6, h⟩ := h
            refine x_callV hG (Ky := kX13_statement) (As := []) dX13_block_28 (mo_t hM) rfl lk_X13_408 me_X13_statement is_X13_statement se_X13_statement rfl rfl (Nat.le_of_ble_eq_true rfl) (MX.post (hR.1 g6) ?_)
            rintro _ _ ⟨v6, I6, rfl, rfl, zv6, h1⟩
            replace h := h v6 I6 zv6 h1
            change X _ _ _ _ (A.wI I6) _ _ (.int v6 :: _)
            refine x_pop dX13_block_31 rfl ?_
            refine x_goto (tgt := 11) dX13_block_32 (by decide) ?_
            obtain ⟨q2, l2, h⟩ := h
            change X _ _ _ _ _ _ [some (.ref m)] []
            exact X.weak (xle_c rfl xle_nil) (ih2 q2 l2 I6 h)
    change X _ _ _ _ _ _ [some (.ref m)] []
    exact X.weak (xle_c rfl xle_nil) (kl2 n2 I1 i2)
  · replace h := h.1 c6
    refine x_iconst_ (v := (0 : Int32)) dX13_block_9 (by decide) ?_
    exact x_zret dX13_block_10 rfl (by decide) ⟨_, _, rfl, rfl, (by decide), h⟩
def w_X13_scoped (Rk : Nat → Int32 → Int32 → (Int32 → xII → Prop) → xII → Prop) (m : Nat) (Q : Int32 → xII → Prop) (I : xII) : Prop := ∃ R1 : xII → Prop, w_X13_begins m R1 I ∧ (∀ I1 : xII, R1 I1 → (∃ R2 : Int32 → xII → Prop, Rk 0 0 0 R2 I1 ∧ (∀ (v2 : Int32) (I2 : xII), (v2 = 0 ∨ v2 = 1) → R2 v2 I2 → (∃ R3 : xII → Prop, w_X13_ends m (I m 15) R3 I2 ∧ (∀ I3 : xII, R3 I3 → (Q v2 I3))))))
theorem m_X13_scoped (hG : xOK G) {dp : Nat} {A : xA} {m : Nat} (hM : xMo G A m) {Rk : Nat → Int32 → Int32 → (Int32 → xII → Prop) → xII → Prop} (hR : xRC_S G (dp + 716) A m Rk) {Q : Int32 → xII → Prop} {I : xII} (h : w_X13_scoped Rk m Q I) : MX G (dp + 717) kX13_scoped [.ref m] (A.wI I) (oZ A Q) := by
  unfold w_X13_scoped at h
  refine MX.of rfl (Nat.le_of_ble_eq_true rfl) ?_
  change X _ _ _ _ _ _ [some (.ref m), none, none] _
  refine x_aload_n dX13_scoped_0 rfl ?_
  refine x_get (v := .int (I m 15)) hG dX13_scoped_1 f_X13_282_12 (mo_t hM) rfl ?_
  refine x_istore_n dX13_scoped_4 (by decide) ?_
  refine x_aload_n dX13_scoped_5 rfl ?_
  obtain ⟨R1, g1, h⟩ := h
  refine x_callV hG (Ky := kX13_begins) (As := []) dX13_scoped_6 (mo_t hM) rfl lk_X13_392 me_X13_begins is_X13_begins se_X13_begins rfl rfl (Nat.le_of_ble_eq_true rfl) (MX.post (m_X13_begins hG hM g1) ?_)
  rintro _ _ ⟨I1, rfl, rfl, h1⟩
  replace h := h I1 h1
  change X _ _ _ _ (A.wI I1) _ _ _
  refine x_aload_n dX13_scoped_9 rfl ?_
  obtain ⟨R2, g2, h⟩ := h
  refine x_callV hG (Ky := kX13_statement) (As := []) dX13_scoped_10 (mo_t hM) rfl lk_X13_408 me_X13_statement is_X13_statement se_X13_statement rfl rfl (Nat.le_of_ble_eq_true rfl) (MX.post (hR.1 g2) ?_)
  rintro _ _ ⟨v2, I2, rfl, rfl, zv2, h1⟩
  replace h := h v2 I2 zv2 h1
  change X _ _ _ _ (A.wI I2) _ _ (.int v2 :: _)
  refine x_istore_n dX13_scoped_13 (by decide) ?_
  refine x_aload_n dX13_scoped_14 rfl ?_
  refine x_iload_n dX13_scoped_15 rfl ?_
  obtain ⟨R3, g3, h⟩ := h
  refine x_callV hG (Ky := kX13_ends) (As := [.int (I m 15)]) dX13_scoped_16 (mo_t hM) rfl lk_X13_405 me_X13_ends is_X13_ends se_X13_ends rfl rfl (Nat.le_of_ble_eq_true rfl) (MX.post (m_X13_ends hG hM g3) ?_)
  rintro _ _ ⟨I3, rfl, rfl, h1⟩
  replace h := h I3 h1
  change X _ _ _ _ (A.wI I3) _ _ _
  refine x_iload_n dX13_scoped_19 rfl ?_
  exact x_zret dX13_scoped_20 rfl zv2 ⟨_, _, rfl, rfl, zv2, h⟩
def w_X13_choice (Rk : Nat → Int32 → Int32 → (Int32 → xII → Prop) → xII → Prop) (m : Nat) (Q : Int32 → xII → Prop) (I : xII) : Prop := ∃ R1 : Int32 → xII → Prop, w_X13_opens m R1 I ∧ (∀ (v1 : Int32) (I1 : xII), (v1 = 0 ∨ v1 = 1) → R1 v1 I1 → (((v1 = 0 → Q (0 : Int32) I1) ∧ (¬ v1 = 0 → ∃ R2 : Int32 → xII → Prop, w_X13_condition m R2 I1 ∧ (∀ (v2 : Int32) (I2 : xII), (v2 = 0 ∨ v2 = 1) → R2 v2 I2 → (((v2 = 0 → Q (0 : Int32) I2) ∧ (¬ v2 = 0 → ∃ R3 : Int32 → xII → Prop, w_X13_step m (13 : Int32) (0 : Int32) (0 : Int32) R3 I2 ∧ (∀ (v3 : Int32) (I3 : xII), R3 v3 I3 → (∃ R4 : Int32 → xII → Prop, Rk 2 0 0 R4 I3 ∧ (∀ (v4 : Int32) (I4 : xII), (v4 = 0 ∨ v4 = 1) → R4 v4 I4 → (((v4 = 0 → Q (0 : Int32) I4) ∧ (¬ v4 = 0 → (((I4 m 44) = 0 → ∃ R8 : Int32 → xII → Prop, w_X13_isWord m (5 : Int32) R8 I4 ∧ (∀ (v8 : Int32) (I8 : xII), (v8 = 0 ∨ v8 = 1) → R8 v8 I8 → (((v8 = 0 → vp_in v3 9000 ∧ (∀ I10 : xII, I10 = xup I8 (m + 33) (ix v3) (I8 m 60) → (∀ I11 : xII, I11 = xup I10 m 43 ((I8 m 43) - (1 : Int32)) → (Q (if (I8 m 44) = 0 then (1 : Int32) else (0 : Int32)) I11)))) ∧ (¬ v8 = 0 → ∀ I12 : xII, I12 = xup I8 m 42 ((I8 m 42) + (1 : Int32)) → (∃ R13 : Int32 → xII → Prop, w_X13_step m (12 : Int32) (0 : Int32) (0 : Int32) R13 I12 ∧ (∀ (v13 : Int32) (I13 : xII), R13 v13 I13 → (vp_in v3 9000 ∧ (∀ I15 : xII, I15 = xup I13 (m + 33) (ix v3) (I13 m 60) → (∃ R16 : Int32 → xII → Prop, Rk 2 0 0 R16 I15 ∧ (∀ (v16 : Int32) (I16 : xII), (v16 = 0 ∨ v16 = 1) → R16 v16 I16 → (((v16 = 0 → Q (0 : Int32) I16) ∧ (¬ v16 = 0 → vp_in v13 9000 ∧ (∀ I18 : xII, I18 = xup I16 (m + 33) (ix v13) (I16 m 60) → (∀ I19 : xII, I19 = xup I18 m 43 ((I16 m 43) - (1 : Int32)) → (Q (if (I16 m 44) = 0 then (1 : Int32) else (0 : Int32)) I19))))))))))))))))) ∧ (¬ (I4 m 44) = 0 → vp_in v3 9000 ∧ (∀ I6 : xII, I6 = xup I4 (m + 33) (ix v3) (I4 m 60) → (∀ I7 : xII, I7 = xup I6 m 43 ((I4 m 43) - (1 : Int32)) → (Q (0 : Int32) I7)))))))))))))))))))
theorem m_X13_choice (hG : xOK G) {dp : Nat} {A : xA} {m : Nat} (hM : xMo G A m) {Rk : Nat → Int32 → Int32 → (Int32 → xII → Prop) → xII → Prop} (hR : xRC_S G (dp + 716) A m Rk) {Q : Int32 → xII → Prop} {I : xII} (h : w_X13_choice Rk m Q I) : MX G (dp + 717) kX13_choice [.ref m] (A.wI I) (oZ A Q) := by
  unfold w_X13_choice at h
  refine MX.of rfl (Nat.le_of_ble_eq_true rfl) ?_
  change X _ _ _ _ _ _ [some (.ref m), none, none] _
  refine x_aload_n dX13_choice_0 rfl ?_
  obtain ⟨R1, g1, h⟩ := h
  refine x_callV hG (Ky := kX13_opens) (As := []) dX13_choice_1 (mo_t hM) rfl lk_X13_269 me_X13_opens is_X13_opens se_X13_opens rfl rfl (Nat.le_of_ble_eq_true rfl) (MX.post (m_X13_opens hG hM g1) ?_)
  rintro _ _ ⟨v1, I1, rfl, rfl, zv1, h1⟩
  replace h := h v1 I1 zv1 h1
  change X _ _ _ _ (A.wI I1) _ _ (.int v1 :: _)
  refine x_if_eq (tgt := 14) dX13_choice_4 (by decide) (fun c4 => ?_) (fun c4 => ?_)
  · replace h := h.1 c4
    refine x_iconst_ (v := (0 : Int32)) dX13_choice_14 (by decide) ?_
    exact x_zret dX13_choice_15 rfl (by decide) ⟨_, _, rfl, rfl, (by decide), h⟩
  · replace h := h.2 c4
    refine x_aload_n dX13_choice_7 rfl ?_
    obtain ⟨R2, g2, h⟩ := h
    refine x_callV hG (Ky := kX13_condition) (As := []) dX13_choice_8 (mo_t hM) rfl lk_X13_436 me_X13_condition is_X13_condition se_X13_condition rfl rfl (Nat.le_of_ble_eq_true rfl) (MX.post (m_X13_condition hG hM g2) ?_)
    rintro _ _ ⟨v2, I2, rfl, rfl, zv2, h1⟩
    replace h := h v2 I2 zv2 h1
    change X _ _ _ _ (A.wI I2) _ _ (.int v2 :: _)
    refine x_if_ne (tgt := 16) dX13_choice_11 (by decide) (fun c11 => ?_) (fun c11 => ?_)
    · replace h := h.2 c11
      refine x_aload_n dX13_choice_16 rfl ?_
      refine x_bipush_ (v := (13 : Int32)) dX13_choice_17 (by decide) ?_
      refine x_iconst_ (v := (0 : Int32)) dX13_choice_19 (by decide) ?_
      refine x_iconst_ (v := (0 : Int32)) dX13_choice_20 (by decide) ?_
      obtain ⟨R3, g3, h⟩ := h
      refine x_callV hG (Ky := kX13_step) (As := [.int (13 : Int32), .int (0 : Int32), .int (0 : Int32)]) dX13_choice_21 (mo_t hM) rfl lk_X13_401 me_X13_step is_X13_step se_X13_step rfl rfl (Nat.le_of_ble_eq_true rfl) (MX.post (m_X13_step hG hM g3) ?_)
      rintro _ _ ⟨v3, I3, rfl, rfl, h1⟩
      replace h := h v3 I3 h1
      change X _ _ _ _ (A.wI I3) _ _ (.int v3 :: _)
      refine x_istore_n dX13_choice_24 (by decide) ?_
      refine x_aload_n dX13_choice_25 rfl ?_
      obtain ⟨R4, g4, h⟩ := h
      refine x_callV hG (Ky := kX13_scoped) (As := []) dX13_choice_26 (mo_t hM) rfl lk_X13_439 me_X13_scoped is_X13_scoped se_X13_scoped rfl rfl (Nat.le_of_ble_eq_true rfl) (MX.post (hR.2.2.1 g4) ?_)
      rintro _ _ ⟨v4, I4, rfl, rfl, zv4, h1⟩
      replace h := h v4 I4 zv4 h1
      change X _ _ _ _ (A.wI I4) _ _ (.int v4 :: _)
      refine x_if_ne (tgt := 34) dX13_choice_29 (by decide) (fun c29 => ?_) (fun c29 => ?_)
      · replace h := h.2 c29
        refine x_aload_n dX13_choice_34 rfl ?_
        refine x_get (v := .int (I4 m 44)) hG dX13_choice_35 f_X13_230_12 (mo_t hM) rfl ?_
        refine x_if_ne (tgt := 100) dX13_choice_38 (by decide) (fun c38 => ?_) (fun c38 => ?_)
        · replace h := h.2 c38
          refine x_aload_n dX13_choice_100 rfl ?_
          refine x_get (v := .ref (m + 33)) hG dX13_choice_101 f_X13_107_12 (mo_t hM) (congrArg va_rf (mo_P57 hM)) ?_
          refine x_iload_n dX13_choice_104 rfl ?_
          refine x_aload_n dX13_choice_105 rfl ?_
          refine x_get (v := .int (I4 m 60)) hG dX13_choice_106 f_X13_276_12 (mo_t hM) rfl ?_
          obtain ⟨o5, h⟩ := h
          refine y_iast hG dX13_choice_109 (mo_t57 hM) (mo_aN hM) (mo_n57 hM) o5 (fun I6 e6 => ?_)
          replace h := h I6 e6
          refine x_aload_n dX13_choice_110 rfl ?_
          refine x_dup dX13_choice_111 rfl ?_
          refine x_get (v := .int (I6 m 43)) hG dX13_choice_112 f_X13_266_12 (mo_t hM) rfl ?_
          refine x_eqi (v := (I4 m 43)) (xup_ra e6 (by omega)) ?_
          refine x_iconst_ (v := (1 : Int32)) dX13_choice_115 (by decide) ?_
          refine x_isub dX13_choice_116 ?_
          refine y_put hG hM dX13_choice_117 f_X13_266_12 ⟨_, rfl, Or.inl rfl⟩ rfl rfl ⟨_, rfl⟩ (fun I7 e7 => ?_)
          replace h := h I7 e7
          refine x_aload_n dX13_choice_120 rfl ?_
          refine x_get (v := .int (I7 m 44)) hG dX13_choice_121 f_X13_230_12 (mo_t hM) rfl ?_
          refine x_eqi (v := (I4 m 44)) ((xup_rk e7 (by decide)).trans (xup_ra e6 (by omega))) ?_
          refine x_if_ne (tgt := 131) dX13_choice_124 (by decide) (fun _ => ?_) (fun h => absurd h c38)
          refine x_iconst_ (v := (0 : Int32)) dX13_choice_131 (by decide) ?_
          exact x_zret dX13_choice_132 rfl (by decide) ⟨_, _, rfl, rfl, (by decide), h⟩
        · replace h := h.1 c38
          refine x_aload_n dX13_choice_41 rfl ?_
          refine x_iconst_ (v := (5 : Int32)) dX13_choice_42 (by decide) ?_
          obtain ⟨R8, g8, h⟩ := h
          refine x_callV hG (Ky := kX13_isWord) (As := [.int (5 : Int32)]) dX13_choice_43 (mo_t hM) rfl lk_X13_263 me_X13_isWord is_X13_isWord se_X13_isWord rfl rfl (Nat.le_of_ble_eq_true rfl) (MX.post (m_X13_isWord hG hM g8) ?_)
          rintro _ _ ⟨v8, I8, rfl, rfl, zv8, h1⟩
          replace h := h v8 I8 zv8 h1
          change X _ _ _ _ (A.wI I8) _ _ (.int v8 :: _)
          refine x_if_eq (tgt := 100) dX13_choice_46 (by decide) (fun c46 => ?_) (fun c46 => ?_)
          · replace h := h.1 c46
            refine x_aload_n dX13_choice_100 rfl ?_
            refine x_get (v := .ref (m + 33)) hG dX13_choice_101 f_X13_107_12 (mo_t hM) (congrArg va_rf (mo_P57 hM)) ?_
            refine x_iload_n dX13_choice_104 rfl ?_
            refine x_aload_n dX13_choice_105 rfl ?_
            refine x_get (v := .int (I8 m 60)) hG dX13_choice_106 f_X13_276_12 (mo_t hM) rfl ?_
            obtain ⟨o9, h⟩ := h
            refine y_iast hG dX13_choice_109 (mo_t57 hM) (mo_aN hM) (mo_n57 hM) o9 (fun I10 e10 => ?_)
            replace h := h I10 e10
            refine x_aload_n dX13_choice_110 rfl ?_
            refine x_dup dX13_choice_111 rfl ?_
            refine x_get (v := .int (I10 m 43)) hG dX13_choice_112 f_X13_266_12 (mo_t hM) rfl ?_
            refine x_eqi (v := (I8 m 43)) (xup_ra e10 (by omega)) ?_
            refine x_iconst_ (v := (1 : Int32)) dX13_choice_115 (by decide) ?_
            refine x_isub dX13_choice_116 ?_
            refine y_put hG hM dX13_choice_117 f_X13_266_12 ⟨_, rfl, Or.inl rfl⟩ rfl rfl ⟨_, rfl⟩ (fun I11 e11 => ?_)
            replace h := h I11 e11
            refine x_aload_n dX13_choice_120 rfl ?_
            refine x_get (v := .int (I11 m 44)) hG dX13_choice_121 f_X13_230_12 (mo_t hM) rfl ?_
            refine x_eqi (v := (I8 m 44)) ((xup_rk e11 (by decide)).trans (xup_ra e10 (by omega))) ?_
            refine x_via 132 (A' := (A.wI I11)) (lv' := [none, none, none]) (st' := [.int (if (I8 m 44) = 0 then (1 : Int32) else (0 : Int32))]) ?_ (fun k132 => ?_)
            rotate_left
            · refine x_if_ne (tgt := 131) dX13_choice_124 (by decide) (fun c124 => ?_) (fun c124 => ?_)
              · refine x_iconst_ (v := (0 : Int32)) dX13_choice_131 (by decide) ?_
                change X _ _ _ _ _ _ [some (.ref m), some (.int v3), none] [.int (0 : Int32)]
                simp only [if_neg c124] at k132 ⊢
                exact X.weak (xle_n (xle_n (xle_n xle_nil))) k132
              · refine x_iconst_ (v := (1 : Int32)) dX13_choice_127 (by decide) ?_
                refine x_goto (tgt := 132) dX13_choice_128 (by decide) ?_
                change X _ _ _ _ _ _ [some (.ref m), some (.int v3), none] [.int (1 : Int32)]
                simp only [if_pos c124] at k132 ⊢
                exact X.weak (xle_n (xle_n (xle_n xle_nil))) k132
            exact x_zret dX13_choice_132 rfl ite10 ⟨_, _, rfl, rfl, ite10, h⟩
          · replace h := h.2 c46
            refine x_aload_n dX13_choice_49 rfl ?_
            refine x_dup dX13_choice_50 rfl ?_
            refine x_get (v := .int (I8 m 42)) hG dX13_choice_51 f_X13_233_12 (mo_t hM) rfl ?_
            refine x_iconst_ (v := (1 : Int32)) dX13_choice_54 (by decide) ?_
            refine x_iadd dX13_choice_55 ?_
            refine y_put hG hM dX13_choice_56 f_X13_233_12 ⟨_, rfl, Or.inl rfl⟩ rfl rfl ⟨_, rfl⟩ (fun I12 e12 => ?_)
            replace h := h I12 e12
            refine x_aload_n dX13_choice_59 rfl ?_
            refine x_bipush_ (v := (12 : Int32)) dX13_choice_60 (by decide) ?_
            refine x_iconst_ (v := (0 : Int32)) dX13_choice_62 (by decide) ?_
            refine x_iconst_ (v := (0 : Int32)) dX13_choice_63 (by decide) ?_
            obtain ⟨R13, g13, h⟩ := h
            refine x_callV hG (Ky := kX13_step) (As := [.int (12 : Int32), .int (0 : Int32), .int (0 : Int32)]) dX13_choice_64 (mo_t hM) rfl lk_X13_401 me_X13_step is_X13_step se_X13_step rfl rfl (Nat.le_of_ble_eq_true rfl) (MX.post (m_X13_step hG hM g13) ?_)
            rintro _ _ ⟨v13, I13, rfl, rfl, h1⟩
            replace h := h v13 I13 h1
            change X _ _ _ _ (A.wI I13) _ _ (.int v13 :: _)
            refine x_istore_n dX13_choice_67 (by decide) ?_
            refine x_aload_n dX13_choice_68 rfl ?_
            refine x_get (v := .ref (m + 33)) hG dX13_choice_69 f_X13_107_12 (mo_t hM) (congrArg va_rf (mo_P57 hM)) ?_
            refine x_iload_n dX13_choice_72 rfl ?_
            refine x_aload_n dX13_choice_73 rfl ?_
            refine x_get (v := .int (I13 m 60)) hG dX13_choice_74 f_X13_276_12 (mo_t hM) rfl ?_
            obtain ⟨o14, h⟩ := h
            refine y_iast hG dX13_choice_77 (mo_t57 hM) (mo_aN hM) (mo_n57 hM) o14 (fun I15 e15 => ?_)
            replace h := h I15 e15
            refine x_aload_n dX13_choice_78 rfl ?_
            obtain ⟨R16, g16, h⟩ := h
            refine x_callV hG (Ky := kX13_scoped) (As := []) dX13_choice_79 (mo_t hM) rfl lk_X13_439 me_X13_scoped is_X13_scoped se_X13_scoped rfl rfl (Nat.le_of_ble_eq_true rfl) (MX.post (hR.2.2.1 g16) ?_)
            rintro _ _ ⟨v16, I16, rfl, rfl, zv16, h1⟩
            replace h := h v16 I16 zv16 h1
            change X _ _ _ _ (A.wI I16) _ _ (.int v16 :: _)
            refine x_if_ne (tgt := 87) dX13_choice_82 (by decide) (fun c82 => ?_) (fun c82 => ?_)
            · replace h := h.2 c82
              refine x_aload_n dX13_choice_87 rfl ?_
              refine x_get (v := .ref (m + 33)) hG dX13_choice_88 f_X13_107_12 (mo_t hM) (congrArg va_rf (mo_P57 hM)) ?_
              refine x_iload_n dX13_choice_91 rfl ?_
              refine x_aload_n dX13_choice_92 rfl ?_
              refine x_get (v := .int (I16 m 60)) hG dX13_choice_93 f_X13_276_12 (mo_t hM) rfl ?_
              obtain ⟨o17, h⟩ := h
              refine y_iast hG dX13_choice_96 (mo_t57 hM) (mo_aN hM) (mo_n57 hM) o17 (fun I18 e18 => ?_)
              replace h := h I18 e18
              refine x_goto (tgt := 110) dX13_choice_97 (by decide) ?_
              refine x_aload_n dX13_choice_110 rfl ?_
              refine x_dup dX13_choice_111 rfl ?_
              refine x_get (v := .int (I18 m 43)) hG dX13_choice_112 f_X13_266_12 (mo_t hM) rfl ?_
              refine x_eqi (v := (I16 m 43)) (xup_ra e18 (by omega)) ?_
              refine x_iconst_ (v := (1 : Int32)) dX13_choice_115 (by decide) ?_
              refine x_isub dX13_choice_116 ?_
              refine y_put hG hM dX13_choice_117 f_X13_266_12 ⟨_, rfl, Or.inl rfl⟩ rfl rfl ⟨_, rfl⟩ (fun I19 e19 => ?_)
              replace h := h I19 e19
              refine x_aload_n dX13_choice_120 rfl ?_
              refine x_get (v := .int (I19 m 44)) hG dX13_choice_121 f_X13_230_12 (mo_t hM) rfl ?_
              refine x_eqi (v := (I16 m 44)) ((xup_rk e19 (by decide)).trans (xup_ra e18 (by omega))) ?_
              refine x_via 132 (A' := (A.wI I19)) (lv' := [none, none, none]) (st' := [.int (if (I16 m 44) = 0 then (1 : Int32) else (0 : Int32))]) ?_ (fun k132 => ?_)
              rotate_left
              · refine x_if_ne (tgt := 131) dX13_choice_124 (by decide) (fun c124 => ?_) (fun c124 => ?_)
                · refine x_iconst_ (v := (0 : Int32)) dX13_choice_131 (by decide) ?_
                  change X _ _ _ _ _ _ [some (.ref m), some (.int v3), some (.int v13)] [.int (0 : Int32)]
                  simp only [if_neg c124] at k132 ⊢
                  exact X.weak (xle_n (xle_n (xle_n xle_nil))) k132
                · refine x_iconst_ (v := (1 : Int32)) dX13_choice_127 (by decide) ?_
                  refine x_goto (tgt := 132) dX13_choice_128 (by decide) ?_
                  change X _ _ _ _ _ _ [some (.ref m), some (.int v3), some (.int v13)] [.int (1 : Int32)]
                  simp only [if_pos c124] at k132 ⊢
                  exact X.weak (xle_n (xle_n (xle_n xle_nil))) k132
              exact x_zret dX13_choice_132 rfl ite10 ⟨_, _, rfl, rfl, ite10, h⟩
            · replace h := h.1 c82
              refine x_iconst_ (v := (0 : Int32)) dX13_choice_85 (by decide) ?_
              exact x_zret dX13_choice_86 rfl (by decide) ⟨_, _, rfl, rfl, (by decide), h⟩
      · replace h := h.1 c29
        refine x_iconst_ (v := (0 : Int32)) dX13_choice_32 (by decide) ?_
        exact x_zret dX13_choice_33 rfl (by decide) ⟨_, _, rfl, rfl, (by decide), h⟩
    · replace h := h.1 c11
      refine x_iconst_ (v := (0 : Int32)) dX13_choice_14 (by decide) ?_
      exact x_zret dX13_choice_15 rfl (by decide) ⟨_, _, rfl, rfl, (by decide), h⟩
def w_X13_body (Rk : Nat → Int32 → Int32 → (Int32 → xII → Prop) → xII → Prop) (m : Nat) (a : Int32) (Q : Int32 → xII → Prop) (I : xII) : Prop := ∀ I1 : xII, I1 = xup I m 63 (-1 : Int32) → (∀ I2 : xII, I2 = xup I1 m 64 (-1 : Int32) → (∀ I3 : xII, I3 = xup I2 m 51 ((I m 51) + (1 : Int32)) → (∃ R4 : Int32 → xII → Prop, w_X13_step m (15 : Int32) (0 : Int32) (0 : Int32) R4 I3 ∧ (∀ (v4 : Int32) (I4 : xII), R4 v4 I4 → (∃ R5 : Int32 → xII → Prop, Rk 2 0 0 R5 I4 ∧ (∀ (v5 : Int32) (I5 : xII), (v5 = 0 ∨ v5 = 1) → R5 v5 I5 → (∀ I6 : xII, I6 = xup I5 m 51 ((I5 m 51) - (1 : Int32)) → (∃ J7 : xII → Prop, (∀ (I7 : xII), J7 I7 → ∀ I8 : xII, I8 = xup I7 m 65 (I7 m 63) → (∀ I9 : xII, I9 = xup I8 m 63 (I m 63) → (Q v5 I9))) ∧ ((a = (-1 : Int32) → ∀ I10 : xII, I10 = xup I6 m 66 (I5 m 64) → (∀ I11 : xII, I11 = xup I10 m 64 (I m 64) → (J7 I11))) ∧ (¬ a = (-1 : Int32) → ∃ R12 : xII → Prop, w_X13_settle m (I5 m 64) a R12 I6 ∧ (∀ I12 : xII, R12 I12 → (∀ I13 : xII, I13 = xup I12 m 64 (I m 64) → (J7 I13)))))))))))))
theorem m_X13_body (hG : xOK G) {dp : Nat} {A : xA} {m : Nat} (hM : xMo G A m) {Rk : Nat → Int32 → Int32 → (Int32 → xII → Prop) → xII → Prop} (hR : xRC_S G (dp + 716) A m Rk) {a : Int32} {Q : Int32 → xII → Prop} {I : xII} (h : w_X13_body Rk m a Q I) : MX G (dp + 717) kX13_body [.ref m, .int a] (A.wI I) (oZ A Q) := by
  unfold w_X13_body at h
  refine MX.of rfl (Nat.le_of_ble_eq_true rfl) ?_
  change X _ _ _ _ _ _ [some (.ref m), some (.int a), none, none, none] _
  refine x_aload_n dX13_body_0 rfl ?_
  refine x_get (v := .int (I m 63)) hG dX13_body_1 f_X13_377_12 (mo_t hM) rfl ?_
  refine x_istore_n dX13_body_4 (by decide) ?_
  refine x_aload_n dX13_body_5 rfl ?_
  refine x_get (v := .int (I m 64)) hG dX13_body_6 f_X13_380_12 (mo_t hM) rfl ?_
  refine x_istore_n dX13_body_9 (by decide) ?_
  refine x_aload_n dX13_body_10 rfl ?_
  refine x_iconst_ (v := (-1 : Int32)) dX13_body_11 (by decide) ?_
  refine y_put hG hM dX13_body_12 f_X13_377_12 ⟨_, rfl, Or.inl rfl⟩ rfl rfl ⟨_, rfl⟩ (fun I1 e1 => ?_)
  replace h := h I1 e1
  refine x_aload_n dX13_body_15 rfl ?_
  refine x_iconst_ (v := (-1 : Int32)) dX13_body_16 (by decide) ?_
  refine y_put hG hM dX13_body_17 f_X13_380_12 ⟨_, rfl, Or.inl rfl⟩ rfl rfl ⟨_, rfl⟩ (fun I2 e2 => ?_)
  replace h := h I2 e2
  refine x_aload_n dX13_body_20 rfl ?_
  refine x_dup dX13_body_21 rfl ?_
  refine x_get (v := .int (I2 m 51)) hG dX13_body_22 f_X13_389_12 (mo_t hM) rfl ?_
  refine x_eqi (v := (I m 51)) ((xup_rk e2 (by decide)).trans (xup_rk e1 (by decide))) ?_
  refine x_iconst_ (v := (1 : Int32)) dX13_body_25 (by decide) ?_
  refine x_iadd dX13_body_26 ?_
  refine y_put hG hM dX13_body_27 f_X13_389_12 ⟨_, rfl, Or.inl rfl⟩ rfl rfl ⟨_, rfl⟩ (fun I3 e3 => ?_)
  replace h := h I3 e3
  refine x_aload_n dX13_body_30 rfl ?_
  refine x_bipush_ (v := (15 : Int32)) dX13_body_31 (by decide) ?_
  refine x_iconst_ (v := (0 : Int32)) dX13_body_33 (by decide) ?_
  refine x_iconst_ (v := (0 : Int32)) dX13_body_34 (by decide) ?_
  obtain ⟨R4, g4, h⟩ := h
  refine x_callV hG (Ky := kX13_step) (As := [.int (15 : Int32), .int (0 : Int32), .int (0 : Int32)]) dX13_body_35 (mo_t hM) rfl lk_X13_401 me_X13_step is_X13_step se_X13_step rfl rfl (Nat.le_of_ble_eq_true rfl) (MX.post (m_X13_step hG hM g4) ?_)
  rintro _ _ ⟨v4, I4, rfl, rfl, h1⟩
  replace h := h v4 I4 h1
  change X _ _ _ _ (A.wI I4) _ _ (.int v4 :: _)
  refine x_pop dX13_body_38 rfl ?_
  refine x_aload_n dX13_body_39 rfl ?_
  obtain ⟨R5, g5, h⟩ := h
  refine x_callV hG (Ky := kX13_scoped) (As := []) dX13_body_40 (mo_t hM) rfl lk_X13_439 me_X13_scoped is_X13_scoped se_X13_scoped rfl rfl (Nat.le_of_ble_eq_true rfl) (MX.post (hR.2.2.1 g5) ?_)
  rintro _ _ ⟨v5, I5, rfl, rfl, zv5, h1⟩
  replace h := h v5 I5 zv5 h1
  change X _ _ _ _ (A.wI I5) _ _ (.int v5 :: _)
  refine x_istore dX13_body_43 (by decide) ?_
  refine x_aload_n dX13_body_45 rfl ?_
  refine x_dup dX13_body_46 rfl ?_
  refine x_get (v := .int (I5 m 51)) hG dX13_body_47 f_X13_389_12 (mo_t hM) rfl ?_
  refine x_iconst_ (v := (1 : Int32)) dX13_body_50 (by decide) ?_
  refine x_isub dX13_body_51 ?_
  refine y_put hG hM dX13_body_52 f_X13_389_12 ⟨_, rfl, Or.inl rfl⟩ rfl rfl ⟨_, rfl⟩ (fun I6 e6 => ?_)
  replace h := h I6 e6
  refine x_iload_n dX13_body_55 rfl ?_
  refine x_iconst_ (v := (-1 : Int32)) dX13_body_56 (by decide) ?_
  obtain ⟨J7, g7, h⟩ := h
  have kj7 : ∀ (I7 : xII), J7 I7 → X G (dp + 717) kX13_body (oZ A Q) (A.wI I7) 90 [some (.ref m), none, some (.int (I m 63)), none, some (.int v5)] [] := by
    intro I7 h
    replace h := g7 I7 h
    refine x_aload_n dX13_body_90 rfl ?_
    refine x_aload_n dX13_body_91 rfl ?_
    refine x_get (v := .int (I7 m 63)) hG dX13_body_92 f_X13_377_12 (mo_t hM) rfl ?_
    refine y_put hG hM dX13_body_95 f_X13_448_12 ⟨_, rfl, Or.inl rfl⟩ rfl rfl ⟨_, rfl⟩ (fun I8 e8 => ?_)
    replace h := h I8 e8
    refine x_aload_n dX13_body_98 rfl ?_
    refine x_iload_n dX13_body_99 rfl ?_
    refine y_put hG hM dX13_body_100 f_X13_377_12 ⟨_, rfl, Or.inl rfl⟩ rfl rfl ⟨_, rfl⟩ (fun I9 e9 => ?_)
    replace h := h I9 e9
    refine x_iload dX13_body_103 rfl ?_
    exact x_zret dX13_body_105 rfl zv5 ⟨_, _, rfl, rfl, zv5, h⟩
  refine x_icmp_eq (tgt := 77) dX13_body_57 (by decide) (fun c57 => ?_) (fun c57 => ?_)
  · replace h := h.1 c57
    refine x_aload_n dX13_body_77 rfl ?_
    refine x_aload_n dX13_body_78 rfl ?_
    refine x_get (v := .int (I6 m 64)) hG dX13_body_79 f_X13_380_12 (mo_t hM) rfl ?_
    refine x_eqi (v := (I5 m 64)) (xup_rk e6 (by decide)) ?_
    refine y_put hG hM dX13_body_82 f_X13_445_12 ⟨_, rfl, Or.inl rfl⟩ rfl rfl ⟨_, rfl⟩ (fun I10 e10 => ?_)
    replace h := h I10 e10
    refine x_aload_n dX13_body_85 rfl ?_
    refine x_iload_n dX13_body_86 rfl ?_
    refine y_put hG hM dX13_body_87 f_X13_380_12 ⟨_, rfl, Or.inl rfl⟩ rfl rfl ⟨_, rfl⟩ (fun I11 e11 => ?_)
    replace h := h I11 e11
    change X _ _ _ _ _ _ [some (.ref m), some (.int a), some (.int (I m 63)), some (.int (I m 64)), some (.int v5)] []
    exact X.weak (xle_c rfl (xle_n (xle_c rfl (xle_n (xle_c rfl xle_nil))))) (kj7 I11 h)
  · replace h := h.2 c57
    refine x_aload_n dX13_body_60 rfl ?_
    refine x_aload_n dX13_body_61 rfl ?_
    refine x_get (v := .int (I6 m 64)) hG dX13_body_62 f_X13_380_12 (mo_t hM) rfl ?_
    refine x_eqi (v := (I5 m 64)) (xup_rk e6 (by decide)) ?_
    refine x_iload_n dX13_body_65 rfl ?_
    obtain ⟨R12, g12, h⟩ := h
    refine x_callV hG (Ky := kX13_settle) (As := [.int (I5 m 64), .int a]) dX13_body_66 (mo_t hM) rfl lk_X13_442 me_X13_settle is_X13_settle se_X13_settle rfl rfl (Nat.le_of_ble_eq_true rfl) (MX.post (m_X13_settle hG hM g12) ?_)
    rintro _ _ ⟨I12, rfl, rfl, h1⟩
    replace h := h I12 h1
    change X _ _ _ _ (A.wI I12) _ _ _
    refine x_aload_n dX13_body_69 rfl ?_
    refine x_iload_n dX13_body_70 rfl ?_
    refine y_put hG hM dX13_body_71 f_X13_380_12 ⟨_, rfl, Or.inl rfl⟩ rfl rfl ⟨_, rfl⟩ (fun I13 e13 => ?_)
    replace h := h I13 e13
    refine x_goto (tgt := 90) dX13_body_74 (by decide) ?_
    change X _ _ _ _ _ _ [some (.ref m), some (.int a), some (.int (I m 63)), some (.int (I m 64)), some (.int v5)] []
    exact X.weak (xle_c rfl (xle_n (xle_c rfl (xle_n (xle_c rfl xle_nil))))) (kj7 I13 h)
def w_X13_loop (Rk : Nat → Int32 → Int32 → (Int32 → xII → Prop) → xII → Prop) (m : Nat) (Q : Int32 → xII → Prop) (I : xII) : Prop := ∃ R1 : Int32 → xII → Prop, w_X13_opens m R1 I ∧ (∀ (v1 : Int32) (I1 : xII), (v1 = 0 ∨ v1 = 1) → R1 v1 I1 → (((v1 = 0 → Q (0 : Int32) I1) ∧ (¬ v1 = 0 → ∃ R2 : Int32 → xII → Prop, w_X13_condition m R2 I1 ∧ (∀ (v2 : Int32) (I2 : xII), (v2 = 0 ∨ v2 = 1) → R2 v2 I2 → (((v2 = 0 → Q (0 : Int32) I2) ∧ (¬ v2 = 0 → ∃ R3 : Int32 → xII → Prop, w_X13_step m (13 : Int32) (0 : Int32) (0 : Int32) R3 I2 ∧ (∀ (v3 : Int32) (I3 : xII), R3 v3 I3 → (∃ R4 : Int32 → xII → Prop, Rk 4 (I m 60) 0 R4 I3 ∧ (∀ (v4 : Int32) (I4 : xII), (v4 = 0 ∨ v4 = 1) → R4 v4 I4 → (((v4 = 0 → Q (0 : Int32) I4) ∧ (¬ v4 = 0 → ∃ R5 : Int32 → xII → Prop, w_X13_step m (12 : Int32) (I m 60) (0 : Int32) R5 I4 ∧ (∀ (v5 : Int32) (I5 : xII), R5 v5 I5 → (vp_in v3 9000 ∧ (∀ I7 : xII, I7 = xup I5 (m + 33) (ix v3) (I5 m 60) → (∃ R8 : xII → Prop, w_X13_settle m (I4 m 65) (I5 m 60) R8 I7 ∧ (∀ I8 : xII, R8 I8 → (∀ I9 : xII, I9 = xup I8 m 43 ((I8 m 43) - (1 : Int32)) → (Q (1 : Int32) I9)))))))))))))))))))))
theorem m_X13_loop (hG : xOK G) {dp : Nat} {A : xA} {m : Nat} (hM : xMo G A m) {Rk : Nat → Int32 → Int32 → (Int32 → xII → Prop) → xII → Prop} (hR : xRC_S G (dp + 716) A m Rk) {Q : Int32 → xII → Prop} {I : xII} (h : w_X13_loop Rk m Q I) : MX G (dp + 717) kX13_loop [.ref m] (A.wI I) (oZ A Q) := by
  unfold w_X13_loop at h
  refine MX.of rfl (Nat.le_of_ble_eq_true rfl) ?_
  change X _ _ _ _ _ _ [some (.ref m), none, none, none] _
  refine x_aload_n dX13_loop_0 rfl ?_
  refine x_get (v := .int (I m 60)) hG dX13_loop_1 f_X13_276_12 (mo_t hM) rfl ?_
  refine x_istore_n dX13_loop_4 (by decide) ?_
  refine x_aload_n dX13_loop_5 rfl ?_
  obtain ⟨R1, g1, h⟩ := h
  refine x_callV hG (Ky := kX13_opens) (As := []) dX13_loop_6 (mo_t hM) rfl lk_X13_269 me_X13_opens is_X13_opens se_X13_opens rfl rfl (Nat.le_of_ble_eq_true rfl) (MX.post (m_X13_opens hG hM g1) ?_)
  rintro _ _ ⟨v1, I1, rfl, rfl, zv1, h1⟩
  replace h := h v1 I1 zv1 h1
  change X _ _ _ _ (A.wI I1) _ _ (.int v1 :: _)
  refine x_if_eq (tgt := 19) dX13_loop_9 (by decide) (fun c9 => ?_) (fun c9 => ?_)
  · replace h := h.1 c9
    refine x_iconst_ (v := (0 : Int32)) dX13_loop_19 (by decide) ?_
    exact x_zret dX13_loop_20 rfl (by decide) ⟨_, _, rfl, rfl, (by decide), h⟩
  · replace h := h.2 c9
    refine x_aload_n dX13_loop_12 rfl ?_
    obtain ⟨R2, g2, h⟩ := h
    refine x_callV hG (Ky := kX13_condition) (As := []) dX13_loop_13 (mo_t hM) rfl lk_X13_436 me_X13_condition is_X13_condition se_X13_condition rfl rfl (Nat.le_of_ble_eq_true rfl) (MX.post (m_X13_condition hG hM g2) ?_)
    rintro _ _ ⟨v2, I2, rfl, rfl, zv2, h1⟩
    replace h := h v2 I2 zv2 h1
    change X _ _ _ _ (A.wI I2) _ _ (.int v2 :: _)
    refine x_if_ne (tgt := 21) dX13_loop_16 (by decide) (fun c16 => ?_) (fun c16 => ?_)
    · replace h := h.2 c16
      refine x_aload_n dX13_loop_21 rfl ?_
      refine x_bipush_ (v := (13 : Int32)) dX13_loop_22 (by decide) ?_
      refine x_iconst_ (v := (0 : Int32)) dX13_loop_24 (by decide) ?_
      refine x_iconst_ (v := (0 : Int32)) dX13_loop_25 (by decide) ?_
      obtain ⟨R3, g3, h⟩ := h
      refine x_callV hG (Ky := kX13_step) (As := [.int (13 : Int32), .int (0 : Int32), .int (0 : Int32)]) dX13_loop_26 (mo_t hM) rfl lk_X13_401 me_X13_step is_X13_step se_X13_step rfl rfl (Nat.le_of_ble_eq_true rfl) (MX.post (m_X13_step hG hM g3) ?_)
      rintro _ _ ⟨v3, I3, rfl, rfl, h1⟩
      replace h := h v3 I3 h1
      change X _ _ _ _ (A.wI I3) _ _ (.int v3 :: _)
      refine x_istore_n dX13_loop_29 (by decide) ?_
      refine x_aload_n dX13_loop_30 rfl ?_
      refine x_iload_n dX13_loop_31 rfl ?_
      obtain ⟨R4, g4, h⟩ := h
      refine x_callV hG (Ky := kX13_body) (As := [.int (I m 60)]) dX13_loop_32 (mo_t hM) rfl lk_X13_451 me_X13_body is_X13_body se_X13_body rfl rfl (Nat.le_of_ble_eq_true rfl) (MX.post (hR.2.2.2.2.1 g4) ?_)
      rintro _ _ ⟨v4, I4, rfl, rfl, zv4, h1⟩
      replace h := h v4 I4 zv4 h1
      change X _ _ _ _ (A.wI I4) _ _ (.int v4 :: _)
      refine x_if_ne (tgt := 40) dX13_loop_35 (by decide) (fun c35 => ?_) (fun c35 => ?_)
      · replace h := h.2 c35
        refine x_aload_n dX13_loop_40 rfl ?_
        refine x_get (v := .int (I4 m 65)) hG dX13_loop_41 f_X13_448_12 (mo_t hM) rfl ?_
        refine x_istore_n dX13_loop_44 (by decide) ?_
        refine x_aload_n dX13_loop_45 rfl ?_
        refine x_bipush_ (v := (12 : Int32)) dX13_loop_46 (by decide) ?_
        refine x_iload_n dX13_loop_48 rfl ?_
        refine x_iconst_ (v := (0 : Int32)) dX13_loop_49 (by decide) ?_
        obtain ⟨R5, g5, h⟩ := h
        refine x_callV hG (Ky := kX13_step) (As := [.int (12 : Int32), .int (I m 60), .int (0 : Int32)]) dX13_loop_50 (mo_t hM) rfl lk_X13_401 me_X13_step is_X13_step se_X13_step rfl rfl (Nat.le_of_ble_eq_true rfl) (MX.post (m_X13_step hG hM g5) ?_)
        rintro _ _ ⟨v5, I5, rfl, rfl, h1⟩
        replace h := h v5 I5 h1
        change X _ _ _ _ (A.wI I5) _ _ (.int v5 :: _)
        refine x_pop dX13_loop_53 rfl ?_
        refine x_aload_n dX13_loop_54 rfl ?_
        refine x_get (v := .ref (m + 33)) hG dX13_loop_55 f_X13_107_12 (mo_t hM) (congrArg va_rf (mo_P57 hM)) ?_
        refine x_iload_n dX13_loop_58 rfl ?_
        refine x_aload_n dX13_loop_59 rfl ?_
        refine x_get (v := .int (I5 m 60)) hG dX13_loop_60 f_X13_276_12 (mo_t hM) rfl ?_
        obtain ⟨o6, h⟩ := h
        refine y_iast hG dX13_loop_63 (mo_t57 hM) (mo_aN hM) (mo_n57 hM) o6 (fun I7 e7 => ?_)
        replace h := h I7 e7
        refine x_aload_n dX13_loop_64 rfl ?_
        refine x_iload_n dX13_loop_65 rfl ?_
        refine x_aload_n dX13_loop_66 rfl ?_
        refine x_get (v := .int (I7 m 60)) hG dX13_loop_67 f_X13_276_12 (mo_t hM) rfl ?_
        refine x_eqi (v := (I5 m 60)) (xup_ra e7 (by omega)) ?_
        obtain ⟨R8, g8, h⟩ := h
        refine x_callV hG (Ky := kX13_settle) (As := [.int (I4 m 65), .int (I5 m 60)]) dX13_loop_70 (mo_t hM) rfl lk_X13_442 me_X13_settle is_X13_settle se_X13_settle rfl rfl (Nat.le_of_ble_eq_true rfl) (MX.post (m_X13_settle hG hM g8) ?_)
        rintro _ _ ⟨I8, rfl, rfl, h1⟩
        replace h := h I8 h1
        change X _ _ _ _ (A.wI I8) _ _ _
        refine x_aload_n dX13_loop_73 rfl ?_
        refine x_dup dX13_loop_74 rfl ?_
        refine x_get (v := .int (I8 m 43)) hG dX13_loop_75 f_X13_266_12 (mo_t hM) rfl ?_
        refine x_iconst_ (v := (1 : Int32)) dX13_loop_78 (by decide) ?_
        refine x_isub dX13_loop_79 ?_
        refine y_put hG hM dX13_loop_80 f_X13_266_12 ⟨_, rfl, Or.inl rfl⟩ rfl rfl ⟨_, rfl⟩ (fun I9 e9 => ?_)
        replace h := h I9 e9
        refine x_iconst_ (v := (1 : Int32)) dX13_loop_83 (by decide) ?_
        exact x_zret dX13_loop_84 rfl (by decide) ⟨_, _, rfl, rfl, (by decide), h⟩
      · replace h := h.1 c35
        refine x_iconst_ (v := (0 : Int32)) dX13_loop_38 (by decide) ?_
        exact x_zret dX13_loop_39 rfl (by decide) ⟨_, _, rfl, rfl, (by decide), h⟩
    · replace h := h.1 c16
      refine x_iconst_ (v := (0 : Int32)) dX13_loop_19 (by decide) ?_
      exact x_zret dX13_loop_20 rfl (by decide) ⟨_, _, rfl, rfl, (by decide), h⟩
def w_X13_turnLoop (Rk : Nat → Int32 → Int32 → (Int32 → xII → Prop) → xII → Prop) (m : Nat) (Q : Int32 → xII → Prop) (I : xII) : Prop := ∃ R1 : Int32 → xII → Prop, w_X13_opens m R1 I ∧ (∀ (v1 : Int32) (I1 : xII), (v1 = 0 ∨ v1 = 1) → R1 v1 I1 → (((v1 = 0 → Q (0 : Int32) I1) ∧ (¬ v1 = 0 → ∃ R2 : Int32 → xII → Prop, Rk 4 (-1 : Int32) 0 R2 I1 ∧ (∀ (v2 : Int32) (I2 : xII), (v2 = 0 ∨ v2 = 1) → R2 v2 I2 → (((v2 = 0 → Q (0 : Int32) I2) ∧ (¬ v2 = 0 → ∃ R3 : xII → Prop, w_X13_settle m (I2 m 66) (I2 m 60) R3 I2 ∧ (∀ I3 : xII, R3 I3 → (∃ R4 : Int32 → xII → Prop, w_X13_word m (6 : Int32) (1 : Int32) R4 I3 ∧ (∀ (v4 : Int32) (I4 : xII), (v4 = 0 ∨ v4 = 1) → R4 v4 I4 → (((v4 = 0 → Q (0 : Int32) I4) ∧ (¬ v4 = 0 → ∃ R5 : Int32 → xII → Prop, w_X13_condition m R5 I4 ∧ (∀ (v5 : Int32) (I5 : xII), (v5 = 0 ∨ v5 = 1) → R5 v5 I5 → (((v5 = 0 → Q (0 : Int32) I5) ∧ (¬ v5 = 0 → ∃ R6 : Int32 → xII → Prop, w_X13_step m (14 : Int32) (I m 60) (0 : Int32) R6 I5 ∧ (∀ (v6 : Int32) (I6 : xII), R6 v6 I6 → (∃ R7 : xII → Prop, w_X13_settle m (I2 m 65) (I6 m 60) R7 I6 ∧ (∀ I7 : xII, R7 I7 → (∀ I8 : xII, I8 = xup I7 m 43 ((I7 m 43) - (1 : Int32)) → (∃ R9 : Int32 → xII → Prop, w_X13_sign m (29 : Int32) R9 I8 ∧ (∀ (v9 : Int32) (I9 : xII), (v9 = 0 ∨ v9 = 1) → R9 v9 I9 → (Q v9 I9)))))))))))))))))))))))))
theorem m_X13_turnLoop (hG : xOK G) {dp : Nat} {A : xA} {m : Nat} (hM : xMo G A m) {Rk : Nat → Int32 → Int32 → (Int32 → xII → Prop) → xII → Prop} (hR : xRC_S G (dp + 716) A m Rk) {Q : Int32 → xII → Prop} {I : xII} (h : w_X13_turnLoop Rk m Q I) : MX G (dp + 717) kX13_turnLoop [.ref m] (A.wI I) (oZ A Q) := by
  unfold w_X13_turnLoop at h
  refine MX.of rfl (Nat.le_of_ble_eq_true rfl) ?_
  change X _ _ _ _ _ _ [some (.ref m), none, none, none] _
  refine x_aload_n dX13_turnLoop_0 rfl ?_
  refine x_get (v := .int (I m 60)) hG dX13_turnLoop_1 f_X13_276_12 (mo_t hM) rfl ?_
  refine x_istore_n dX13_turnLoop_4 (by decide) ?_
  refine x_aload_n dX13_turnLoop_5 rfl ?_
  obtain ⟨R1, g1, h⟩ := h
  refine x_callV hG (Ky := kX13_opens) (As := []) dX13_turnLoop_6 (mo_t hM) rfl lk_X13_269 me_X13_opens is_X13_opens se_X13_opens rfl rfl (Nat.le_of_ble_eq_true rfl) (MX.post (m_X13_opens hG hM g1) ?_)
  rintro _ _ ⟨v1, I1, rfl, rfl, zv1, h1⟩
  replace h := h v1 I1 zv1 h1
  change X _ _ _ _ (A.wI I1) _ _ (.int v1 :: _)
  refine x_if_eq (tgt := 20) dX13_turnLoop_9 (by decide) (fun c9 => ?_) (fun c9 => ?_)
  · replace h := h.1 c9
    refine x_iconst_ (v := (0 : Int32)) dX13_turnLoop_20 (by decide) ?_
    exact x_zret dX13_turnLoop_21 rfl (by decide) ⟨_, _, rfl, rfl, (by decide), h⟩
  · replace h := h.2 c9
    refine x_aload_n dX13_turnLoop_12 rfl ?_
    refine x_iconst_ (v := (-1 : Int32)) dX13_turnLoop_13 (by decide) ?_
    obtain ⟨R2, g2, h⟩ := h
    refine x_callV hG (Ky := kX13_body) (As := [.int (-1 : Int32)]) dX13_turnLoop_14 (mo_t hM) rfl lk_X13_451 me_X13_body is_X13_body se_X13_body rfl rfl (Nat.le_of_ble_eq_true rfl) (MX.post (hR.2.2.2.2.1 g2) ?_)
    rintro _ _ ⟨v2, I2, rfl, rfl, zv2, h1⟩
    replace h := h v2 I2 zv2 h1
    change X _ _ _ _ (A.wI I2) _ _ (.int v2 :: _)
    refine x_if_ne (tgt := 22) dX13_turnLoop_17 (by decide) (fun c17 => ?_) (fun c17 => ?_)
    · replace h := h.2 c17
      refine x_aload_n dX13_turnLoop_22 rfl ?_
      refine x_get (v := .int (I2 m 65)) hG dX13_turnLoop_23 f_X13_448_12 (mo_t hM) rfl ?_
      refine x_istore_n dX13_turnLoop_26 (by decide) ?_
      refine x_aload_n dX13_turnLoop_27 rfl ?_
      refine x_get (v := .int (I2 m 66)) hG dX13_turnLoop_28 f_X13_445_12 (mo_t hM) rfl ?_
      refine x_istore_n dX13_turnLoop_31 (by decide) ?_
      refine x_aload_n dX13_turnLoop_32 rfl ?_
      refine x_iload_n dX13_turnLoop_33 rfl ?_
      refine x_aload_n dX13_turnLoop_34 rfl ?_
      refine x_get (v := .int (I2 m 60)) hG dX13_turnLoop_35 f_X13_276_12 (mo_t hM) rfl ?_
      obtain ⟨R3, g3, h⟩ := h
      refine x_callV hG (Ky := kX13_settle) (As := [.int (I2 m 66), .int (I2 m 60)]) dX13_turnLoop_38 (mo_t hM) rfl lk_X13_442 me_X13_settle is_X13_settle se_X13_settle rfl rfl (Nat.le_of_ble_eq_true rfl) (MX.post (m_X13_settle hG hM g3) ?_)
      rintro _ _ ⟨I3, rfl, rfl, h1⟩
      replace h := h I3 h1
      change X _ _ _ _ (A.wI I3) _ _ _
      refine x_aload_n dX13_turnLoop_41 rfl ?_
      refine x_bipush_ (v := (6 : Int32)) dX13_turnLoop_42 (by decide) ?_
      refine x_iconst_ (v := (1 : Int32)) dX13_turnLoop_44 (by decide) ?_
      obtain ⟨R4, g4, h⟩ := h
      refine x_callV hG (Ky := kX13_word) (As := [.int (6 : Int32), .int (1 : Int32)]) dX13_turnLoop_45 (mo_t hM) rfl lk_X13_310 me_X13_word is_X13_word se_X13_word rfl rfl (Nat.le_of_ble_eq_true rfl) (MX.post (m_X13_word hG hM g4) ?_)
      rintro _ _ ⟨v4, I4, rfl, rfl, zv4, h1⟩
      replace h := h v4 I4 zv4 h1
      change X _ _ _ _ (A.wI I4) _ _ (.int v4 :: _)
      refine x_if_eq (tgt := 58) dX13_turnLoop_48 (by decide) (fun c48 => ?_) (fun c48 => ?_)
      · replace h := h.1 c48
        refine x_iconst_ (v := (0 : Int32)) dX13_turnLoop_58 (by decide) ?_
        exact x_zret dX13_turnLoop_59 rfl (by decide) ⟨_, _, rfl, rfl, (by decide), h⟩
      · replace h := h.2 c48
        refine x_aload_n dX13_turnLoop_51 rfl ?_
        obtain ⟨R5, g5, h⟩ := h
        refine x_callV hG (Ky := kX13_condition) (As := []) dX13_turnLoop_52 (mo_t hM) rfl lk_X13_436 me_X13_condition is_X13_condition se_X13_condition rfl rfl (Nat.le_of_ble_eq_true rfl) (MX.post (m_X13_condition hG hM g5) ?_)
        rintro _ _ ⟨v5, I5, rfl, rfl, zv5, h1⟩
        replace h := h v5 I5 zv5 h1
        change X _ _ _ _ (A.wI I5) _ _ (.int v5 :: _)
        refine x_if_ne (tgt := 60) dX13_turnLoop_55 (by decide) (fun c55 => ?_) (fun c55 => ?_)
        · replace h := h.2 c55
          refine x_aload_n dX13_turnLoop_60 rfl ?_
          refine x_bipush_ (v := (14 : Int32)) dX13_turnLoop_61 (by decide) ?_
          refine x_iload_n dX13_turnLoop_63 rfl ?_
          refine x_iconst_ (v := (0 : Int32)) dX13_turnLoop_64 (by decide) ?_
          obtain ⟨R6, g6, h⟩ := h
          refine x_callV hG (Ky := kX13_step) (As := [.int (14 : Int32), .int (I m 60), .int (0 : Int32)]) dX13_turnLoop_65 (mo_t hM) rfl lk_X13_401 me_X13_step is_X13_step se_X13_step rfl rfl (Nat.le_of_ble_eq_true rfl) (MX.post (m_X13_step hG hM g6) ?_)
          rintro _ _ ⟨v6, I6, rfl, rfl, h1⟩
          replace h := h v6 I6 h1
          change X _ _ _ _ (A.wI I6) _ _ (.int v6 :: _)
          refine x_pop dX13_turnLoop_68 rfl ?_
          refine x_aload_n dX13_turnLoop_69 rfl ?_
          refine x_iload_n dX13_turnLoop_70 rfl ?_
          refine x_aload_n dX13_turnLoop_71 rfl ?_
          refine x_get (v := .int (I6 m 60)) hG dX13_turnLoop_72 f_X13_276_12 (mo_t hM) rfl ?_
          obtain ⟨R7, g7, h⟩ := h
          refine x_callV hG (Ky := kX13_settle) (As := [.int (I2 m 65), .int (I6 m 60)]) dX13_turnLoop_75 (mo_t hM) rfl lk_X13_442 me_X13_settle is_X13_settle se_X13_settle rfl rfl (Nat.le_of_ble_eq_true rfl) (MX.post (m_X13_settle hG hM g7) ?_)
          rintro _ _ ⟨I7, rfl, rfl, h1⟩
          replace h := h I7 h1
          change X _ _ _ _ (A.wI I7) _ _ _
          refine x_aload_n dX13_turnLoop_78 rfl ?_
          refine x_dup dX13_turnLoop_79 rfl ?_
          refine x_get (v := .int (I7 m 43)) hG dX13_turnLoop_80 f_X13_266_12 (mo_t hM) rfl ?_
          refine x_iconst_ (v := (1 : Int32)) dX13_turnLoop_83 (by decide) ?_
          refine x_isub dX13_turnLoop_84 ?_
          refine y_put hG hM dX13_turnLoop_85 f_X13_266_12 ⟨_, rfl, Or.inl rfl⟩ rfl rfl ⟨_, rfl⟩ (fun I8 e8 => ?_)
          replace h := h I8 e8
          refine x_aload_n dX13_turnLoop_88 rfl ?_
          refine x_bipush_ (v := (29 : Int32)) dX13_turnLoop_89 (by decide) ?_
          obtain ⟨R9, g9, h⟩ := h
          refine x_callV hG (Ky := kX13_sign) (As := [.int (29 : Int32)]) dX13_turnLoop_91 (mo_t hM) rfl lk_X13_273 me_X13_sign is_X13_sign se_X13_sign rfl rfl (Nat.le_of_ble_eq_true rfl) (MX.post (m_X13_sign hG hM g9) ?_)
          rintro _ _ ⟨v9, I9, rfl, rfl, zv9, h1⟩
          replace h := h v9 I9 zv9 h1
          change X _ _ _ _ (A.wI I9) _ _ (.int v9 :: _)
          exact x_zret dX13_turnLoop_94 rfl zv9 ⟨_, _, rfl, rfl, zv9, h⟩
        · replace h := h.1 c55
          refine x_iconst_ (v := (0 : Int32)) dX13_turnLoop_58 (by decide) ?_
          exact x_zret dX13_turnLoop_59 rfl (by decide) ⟨_, _, rfl, rfl, (by decide), h⟩
    · replace h := h.1 c17
      refine x_iconst_ (v := (0 : Int32)) dX13_turnLoop_20 (by decide) ?_
      exact x_zret dX13_turnLoop_21 rfl (by decide) ⟨_, _, rfl, rfl, (by decide), h⟩
def w_X13_counted (Rk : Nat → Int32 → Int32 → (Int32 → xII → Prop) → xII → Prop) (m : Nat) (Q : Int32 → xII → Prop) (I : xII) : Prop := ∃ R1 : Int32 → xII → Prop, w_X13_opens m R1 I ∧ (∀ (v1 : Int32) (I1 : xII), (v1 = 0 ∨ v1 = 1) → R1 v1 I1 → (((v1 = 0 → Q (0 : Int32) I1) ∧ (¬ v1 = 0 → ∃ R2 : Int32 → xII → Prop, w_X13_openSign m (22 : Int32) R2 I1 ∧ (∀ (v2 : Int32) (I2 : xII), (v2 = 0 ∨ v2 = 1) → R2 v2 I2 → (((v2 = 0 → Q (0 : Int32) I2) ∧ (¬ v2 = 0 → ∃ R3 : xII → Prop, w_X13_begins m R3 I2 ∧ (∀ I3 : xII, R3 I3 → (∃ R4 : Int32 → xII → Prop, w_X13_isSign m (29 : Int32) R4 I3 ∧ (∀ (v4 : Int32) (I4 : xII), (v4 = 0 ∨ v4 = 1) → R4 v4 I4 → (((v4 = 0 → ∃ R59 : Int32 → xII → Prop, w_X13_isWord m (0 : Int32) R59 I4 ∧ (∀ (v59 : Int32) (I59 : xII), (v59 = 0 ∨ v59 = 1) → R59 v59 I59 → (∃ J60 : Int32 → xII → Prop, (∀ (y60_s0 : Int32) (I60 : xII), J60 y60_s0 I60 → ((y60_s0 = 0 → Q (0 : Int32) I60) ∧ (¬ y60_s0 = 0 → ∃ R61 : Int32 → xII → Prop, w_X13_sign m (29 : Int32) R61 I60 ∧ (∀ (v61 : Int32) (I61 : xII), (v61 = 0 ∨ v61 = 1) → R61 v61 I61 → (((v61 = 0 → Q (0 : Int32) I61) ∧ (¬ v61 = 0 → ∃ R62 : Int32 → xII → Prop, w_X13_isSign m (29 : Int32) R62 I61 ∧ (∀ (v62 : Int32) (I62 : xII), (v62 = 0 ∨ v62 = 1) → R62 v62 I62 → (((v62 = 0 → ∃ R85 : Int32 → xII → Prop, g_X13_expression m R85 I62 ∧ (∀ (v85 : Int32) (I85 : xII), (v85 = 0 ∨ v85 = 1) → R85 v85 I85 → (((v85 = 0 → Q (0 : Int32) I85) ∧ (¬ v85 = 0 → ∃ R86 : Int32 → xII → Prop, w_X13_step m (13 : Int32) (0 : Int32) (0 : Int32) R86 I85 ∧ (∀ (v86 : Int32) (I86 : xII), R86 v86 I86 → (∃ R87 : Int32 → xII → Prop, w_X13_sign m (29 : Int32) R87 I86 ∧ (∀ (v87 : Int32) (I87 : xII), (v87 = 0 ∨ v87 = 1) → R87 v87 I87 → (((v87 = 0 → Q (0 : Int32) I87) ∧ (¬ v87 = 0 → ∃ R88 : Int32 → xII → Prop, w_X13_step m (12 : Int32) (0 : Int32) (0 : Int32) R88 I87 ∧ (∀ (v88 : Int32) (I88 : xII), R88 v88 I88 → (∃ R89 : Int32 → xII → Prop, w_X13_isSign m (23 : Int32) R89 I88 ∧ (∀ (v89 : Int32) (I89 : xII), (v89 = 0 ∨ v89 = 1) → R89 v89 I89 → (((v89 = 0 → ∃ R102 : Int32 → xII → Prop, w_X13_simple m R102 I89 ∧ (∀ (v102 : Int32) (I102 : xII), (v102 = 0 ∨ v102 = 1) → R102 v102 I102 → (((v102 = 0 → Q (0 : Int32) I102) ∧ (¬ v102 = 0 → ∃ R103 : Int32 → xII → Prop, w_X13_closeSign m (23 : Int32) R103 I102 ∧ (∀ (v103 : Int32) (I103 : xII), (v103 = 0 ∨ v103 = 1) → R103 v103 I103 → (((v103 = 0 → Q (0 : Int32) I103) ∧ (¬ v103 = 0 → ∃ R104 : Int32 → xII → Prop, w_X13_step m (12 : Int32) (I61 m 60) (0 : Int32) R104 I103 ∧ (∀ (v104 : Int32) (I104 : xII), R104 v104 I104 → (vp_in v88 9000 ∧ (∀ I106 : xII, I106 = xup I104 (m + 33) (ix v88) (I104 m 60) → (∃ R107 : Int32 → xII → Prop, Rk 4 (I88 m 60) 0 R107 I106 ∧ (∀ (v107 : Int32) (I107 : xII), (v107 = 0 ∨ v107 = 1) → R107 v107 I107 → (((v107 = 0 → Q (0 : Int32) I107) ∧ (¬ v107 = 0 → ∃ R108 : Int32 → xII → Prop, w_X13_step m (12 : Int32) (I88 m 60) (0 : Int32) R108 I107 ∧ (∀ (v108 : Int32) (I108 : xII), R108 v108 I108 → (∃ J109 : xII → Prop, (∀ (I109 : xII), J109 I109 → ∃ R110 : xII → Prop, w_X13_settle m (I107 m 65) (I109 m 60) R110 I109 ∧ (∀ I110 : xII, R110 I110 → (∃ R111 : xII → Prop, w_X13_ends m (I2 m 15) R111 I110 ∧ (∀ I111 : xII, R111 I111 → (∀ I112 : xII, I112 = xup I111 m 43 ((I111 m 43) - (1 : Int32)) → (Q (1 : Int32) I112)))))) ∧ ((v86 = (-1 : Int32) → J109 I108) ∧ (¬ v86 = (-1 : Int32) → vp_in v86 9000 ∧ (∀ I114 : xII, I114 = xup I108 (m + 33) (ix v86) (I108 m 60) → (J109 I114))))))))))))))))))))))) ∧ (¬ v89 = 0 → ∃ R90 : Int32 → xII → Prop, w_X13_closeSign m (23 : Int32) R90 I89 ∧ (∀ (v90 : Int32) (I90 : xII), (v90 = 0 ∨ v90 = 1) → R90 v90 I90 → (((v90 = 0 → Q (0 : Int32) I90) ∧ (¬ v90 = 0 → ∃ R91 : Int32 → xII → Prop, w_X13_step m (12 : Int32) (I61 m 60) (0 : Int32) R91 I90 ∧ (∀ (v91 : Int32) (I91 : xII), R91 v91 I91 → (vp_in v88 9000 ∧ (∀ I93 : xII, I93 = xup I91 (m + 33) (ix v88) (I91 m 60) → (∃ R94 : Int32 → xII → Prop, Rk 4 (I88 m 60) 0 R94 I93 ∧ (∀ (v94 : Int32) (I94 : xII), (v94 = 0 ∨ v94 = 1) → R94 v94 I94 → (((v94 = 0 → Q (0 : Int32) I94) ∧ (¬ v94 = 0 → ∃ R95 : Int32 → xII → Prop, w_X13_step m (12 : Int32) (I88 m 60) (0 : Int32) R95 I94 ∧ (∀ (v95 : Int32) (I95 : xII), R95 v95 I95 → (∃ J96 : xII → Prop, (∀ (I96 : xII), J96 I96 → ∃ R97 : xII → Prop, w_X13_settle m (I94 m 65) (I96 m 60) R97 I96 ∧ (∀ I97 : xII, R97 I97 → (∃ R98 : xII → Prop, w_X13_ends m (I2 m 15) R98 I97 ∧ (∀ I98 : xII, R98 I98 → (∀ I99 : xII, I99 = xup I98 m 43 ((I98 m 43) - (1 : Int32)) → (Q (1 : Int32) I99)))))) ∧ ((v86 = (-1 : Int32) → J96 I95) ∧ (¬ v86 = (-1 : Int32) → vp_in v86 9000 ∧ (∀ I101 : xII, I101 = xup I95 (m + 33) (ix v86) (I95 m 60) → (J96 I101))))))))))))))))))))))))))))))))))) ∧ (¬ v62 = 0 → ∃ R63 : Int32 → xII → Prop, w_X13_sign m (29 : Int32) R63 I62 ∧ (∀ (v63 : Int32) (I63 : xII), (v63 = 0 ∨ v63 = 1) → R63 v63 I63 → (((v63 = 0 → Q (0 : Int32) I63) ∧ (¬ v63 = 0 → ∃ R64 : Int32 → xII → Prop, w_X13_step m (12 : Int32) (0 : Int32) (0 : Int32) R64 I63 ∧ (∀ (v64 : Int32) (I64 : xII), R64 v64 I64 → (∃ R65 : Int32 → xII → Prop, w_X13_isSign m (23 : Int32) R65 I64 ∧ (∀ (v65 : Int32) (I65 : xII), (v65 = 0 ∨ v65 = 1) → R65 v65 I65 → (((v65 = 0 → ∃ R75 : Int32 → xII → Prop, w_X13_simple m R75 I65 ∧ (∀ (v75 : Int32) (I75 : xII), (v75 = 0 ∨ v75 = 1) → R75 v75 I75 → (((v75 = 0 → Q (0 : Int32) I75) ∧ (¬ v75 = 0 → ∃ R76 : Int32 → xII → Prop, w_X13_closeSign m (23 : Int32) R76 I75 ∧ (∀ (v76 : Int32) (I76 : xII), (v76 = 0 ∨ v76 = 1) → R76 v76 I76 → (((v76 = 0 → Q (0 : Int32) I76) ∧ (¬ v76 = 0 → ∃ R77 : Int32 → xII → Prop, w_X13_step m (12 : Int32) (I61 m 60) (0 : Int32) R77 I76 ∧ (∀ (v77 : Int32) (I77 : xII), R77 v77 I77 → (vp_in v64 9000 ∧ (∀ I79 : xII, I79 = xup I77 (m + 33) (ix v64) (I77 m 60) → (∃ R80 : Int32 → xII → Prop, Rk 4 (I64 m 60) 0 R80 I79 ∧ (∀ (v80 : Int32) (I80 : xII), (v80 = 0 ∨ v80 = 1) → R80 v80 I80 → (((v80 = 0 → Q (0 : Int32) I80) ∧ (¬ v80 = 0 → ∃ R81 : Int32 → xII → Prop, w_X13_step m (12 : Int32) (I64 m 60) (0 : Int32) R81 I80 ∧ (∀ (v81 : Int32) (I81 : xII), R81 v81 I81 → (∃ R82 : xII → Prop, w_X13_settle m (I80 m 65) (I81 m 60) R82 I81 ∧ (∀ I82 : xII, R82 I82 → (∃ R83 : xII → Prop, w_X13_ends m (I2 m 15) R83 I82 ∧ (∀ I83 : xII, R83 I83 → (∀ I84 : xII, I84 = xup I83 m 43 ((I83 m 43) - (1 : Int32)) → (Q (1 : Int32) I84)))))))))))))))))))))))) ∧ (¬ v65 = 0 → ∃ R66 : Int32 → xII → Prop, w_X13_closeSign m (23 : Int32) R66 I65 ∧ (∀ (v66 : Int32) (I66 : xII), (v66 = 0 ∨ v66 = 1) → R66 v66 I66 → (((v66 = 0 → Q (0 : Int32) I66) ∧ (¬ v66 = 0 → ∃ R67 : Int32 → xII → Prop, w_X13_step m (12 : Int32) (I61 m 60) (0 : Int32) R67 I66 ∧ (∀ (v67 : Int32) (I67 : xII), R67 v67 I67 → (vp_in v64 9000 ∧ (∀ I69 : xII, I69 = xup I67 (m + 33) (ix v64) (I67 m 60) → (∃ R70 : Int32 → xII → Prop, Rk 4 (I64 m 60) 0 R70 I69 ∧ (∀ (v70 : Int32) (I70 : xII), (v70 = 0 ∨ v70 = 1) → R70 v70 I70 → (((v70 = 0 → Q (0 : Int32) I70) ∧ (¬ v70 = 0 → ∃ R71 : Int32 → xII → Prop, w_X13_step m (12 : Int32) (I64 m 60) (0 : Int32) R71 I70 ∧ (∀ (v71 : Int32) (I71 : xII), R71 v71 I71 → (∃ R72 : xII → Prop, w_X13_settle m (I70 m 65) (I71 m 60) R72 I71 ∧ (∀ I72 : xII, R72 I72 → (∃ R73 : xII → Prop, w_X13_ends m (I2 m 15) R73 I72 ∧ (∀ I73 : xII, R73 I73 → (∀ I74 : xII, I74 = xup I73 m 43 ((I73 m 43) - (1 : Int32)) → (Q (1 : Int32) I74)))))))))))))))))))))))))))))))))))))))) ∧ ((v59 = 0 → ∃ R115 : Int32 → xII → Prop, w_X13_simple m R115 I59 ∧ (∀ (v115 : Int32) (I115 : xII), (v115 = 0 ∨ v115 = 1) → R115 v115 I115 → (J60 v115 I115))) ∧ (¬ v59 = 0 → ∃ R116 : Int32 → xII → Prop, w_X13_tellHere m (0 : Int32) R116 I59 ∧ (∀ (v116 : Int32) (I116 : xII), (v116 = 0 ∨ v116 = 1) → R116 v116 I116 → (J60 v116 I116))))))) ∧ (¬ v4 = 0 → ∃ R5 : Int32 → xII → Prop, w_X13_sign m (29 : Int32) R5 I4 ∧ (∀ (v5 : Int32) (I5 : xII), (v5 = 0 ∨ v5 = 1) → R5 v5 I5 → (((v5 = 0 → Q (0 : Int32) I5) ∧ (¬ v5 = 0 → ∃ R6 : Int32 → xII → Prop, w_X13_isSign m (29 : Int32) R6 I5 ∧ (∀ (v6 : Int32) (I6 : xII), (v6 = 0 ∨ v6 = 1) → R6 v6 I6 → (((v6 = 0 → ∃ R29 : Int32 → xII → Prop, g_X13_expression m R29 I6 ∧ (∀ (v29 : Int32) (I29 : xII), (v29 = 0 ∨ v29 = 1) → R29 v29 I29 → (((v29 = 0 → Q (0 : Int32) I29) ∧ (¬ v29 = 0 → ∃ R30 : Int32 → xII → Prop, w_X13_step m (13 : Int32) (0 : Int32) (0 : Int32) R30 I29 ∧ (∀ (v30 : Int32) (I30 : xII), R30 v30 I30 → (∃ R31 : Int32 → xII → Prop, w_X13_sign m (29 : Int32) R31 I30 ∧ (∀ (v31 : Int32) (I31 : xII), (v31 = 0 ∨ v31 = 1) → R31 v31 I31 → (((v31 = 0 → Q (0 : Int32) I31) ∧ (¬ v31 = 0 → ∃ R32 : Int32 → xII → Prop, w_X13_step m (12 : Int32) (0 : Int32) (0 : Int32) R32 I31 ∧ (∀ (v32 : Int32) (I32 : xII), R32 v32 I32 → (∃ R33 : Int32 → xII → Prop, w_X13_isSign m (23 : Int32) R33 I32 ∧ (∀ (v33 : Int32) (I33 : xII), (v33 = 0 ∨ v33 = 1) → R33 v33 I33 → (((v33 = 0 → ∃ R46 : Int32 → xII → Prop, w_X13_simple m R46 I33 ∧ (∀ (v46 : Int32) (I46 : xII), (v46 = 0 ∨ v46 = 1) → R46 v46 I46 → (((v46 = 0 → Q (0 : Int32) I46) ∧ (¬ v46 = 0 → ∃ R47 : Int32 → xII → Prop, w_X13_closeSign m (23 : Int32) R47 I46 ∧ (∀ (v47 : Int32) (I47 : xII), (v47 = 0 ∨ v47 = 1) → R47 v47 I47 → (((v47 = 0 → Q (0 : Int32) I47) ∧ (¬ v47 = 0 → ∃ R48 : Int32 → xII → Prop, w_X13_step m (12 : Int32) (I5 m 60) (0 : Int32) R48 I47 ∧ (∀ (v48 : Int32) (I48 : xII), R48 v48 I48 → (vp_in v32 9000 ∧ (∀ I50 : xII, I50 = xup I48 (m + 33) (ix v32) (I48 m 60) → (∃ R51 : Int32 → xII → Prop, Rk 4 (I32 m 60) 0 R51 I50 ∧ (∀ (v51 : Int32) (I51 : xII), (v51 = 0 ∨ v51 = 1) → R51 v51 I51 → (((v51 = 0 → Q (0 : Int32) I51) ∧ (¬ v51 = 0 → ∃ R52 : Int32 → xII → Prop, w_X13_step m (12 : Int32) (I32 m 60) (0 : Int32) R52 I51 ∧ (∀ (v52 : Int32) (I52 : xII), R52 v52 I52 → (∃ J53 : xII → Prop, (∀ (I53 : xII), J53 I53 → ∃ R54 : xII → Prop, w_X13_settle m (I51 m 65) (I53 m 60) R54 I53 ∧ (∀ I54 : xII, R54 I54 → (∃ R55 : xII → Prop, w_X13_ends m (I2 m 15) R55 I54 ∧ (∀ I55 : xII, R55 I55 → (∀ I56 : xII, I56 = xup I55 m 43 ((I55 m 43) - (1 : Int32)) → (Q (1 : Int32) I56)))))) ∧ ((v30 = (-1 : Int32) → J53 I52) ∧ (¬ v30 = (-1 : Int32) → vp_in v30 9000 ∧ (∀ I58 : xII, I58 = xup I52 (m + 33) (ix v30) (I52 m 60) → (J53 I58))))))))))))))))))))))) ∧ (¬ v33 = 0 → ∃ R34 : Int32 → xII → Prop, w_X13_closeSign m (23 : Int32) R34 I33 ∧ (∀ (v34 : Int32) (I34 : xII), (v34 = 0 ∨ v34 = 1) → R34 v34 I34 → (((v34 = 0 → Q (0 : Int32) I34) ∧ (¬ v34 = 0 → ∃ R35 : Int32 → xII → Prop, w_X13_step m (12 : Int32) (I5 m 60) (0 : Int32) R35 I34 ∧ (∀ (v35 : Int32) (I35 : xII), R35 v35 I35 → (vp_in v32 9000 ∧ (∀ I37 : xII, I37 = xup I35 (m + 33) (ix v32) (I35 m 60) → (∃ R38 : Int32 → xII → Prop, Rk 4 (I32 m 60) 0 R38 I37 ∧ (∀ (v38 : Int32) (I38 : xII), (v38 = 0 ∨ v38 = 1) → R38 v38 I38 → (((v38 = 0 → Q (0 : Int32) I38) ∧ (¬ v38 = 0 → ∃ R39 : Int32 → xII → Prop, w_X13_step m (12 : Int32) (I32 m 60) (0 : Int32) R39 I38 ∧ (∀ (v39 : Int32) (I39 : xII), R39 v39 I39 → (∃ J40 : xII → Prop, (∀ (I40 : xII), J40 I40 → ∃ R41 : xII → Prop, w_X13_settle m (I38 m 65) (I40 m 60) R41 I40 ∧ (∀ I41 : xII, R41 I41 → (∃ R42 : xII → Prop, w_X13_ends m (I2 m 15) R42 I41 ∧ (∀ I42 : xII, R42 I42 → (∀ I43 : xII, I43 = xup I42 m 43 ((I42 m 43) - (1 : Int32)) → (Q (1 : Int32) I43)))))) ∧ ((v30 = (-1 : Int32) → J40 I39) ∧ (¬ v30 = (-1 : Int32) → vp_in v30 9000 ∧ (∀ I45 : xII, I45 = xup I39 (m + 33) (ix v30) (I39 m 60) → (J40 I45))))))))))))))))))))))))))))))))))) ∧ (¬ v6 = 0 → ∃ R7 : Int32 → xII → Prop, w_X13_sign m (29 : Int32) R7 I6 ∧ (∀ (v7 : Int32) (I7 : xII), (v7 = 0 ∨ v7 = 1) → R7 v7 I7 → (((v7 = 0 → Q (0 : Int32) I7) ∧ (¬ v7 = 0 → ∃ R8 : Int32 → xII → Prop, w_X13_step m (12 : Int32) (0 : Int32) (0 : Int32) R8 I7 ∧ (∀ (v8 : Int32) (I8 : xII), R8 v8 I8 → (∃ R9 : Int32 → xII → Prop, w_X13_isSign m (23 : Int32) R9 I8 ∧ (∀ (v9 : Int32) (I9 : xII), (v9 = 0 ∨ v9 = 1) → R9 v9 I9 → (((v9 = 0 → ∃ R19 : Int32 → xII → Prop, w_X13_simple m R19 I9 ∧ (∀ (v19 : Int32) (I19 : xII), (v19 = 0 ∨ v19 = 1) → R19 v19 I19 → (((v19 = 0 → Q (0 : Int32) I19) ∧ (¬ v19 = 0 → ∃ R20 : Int32 → xII → Prop, w_X13_closeSign m (23 : Int32) R20 I19 ∧ (∀ (v20 : Int32) (I20 : xII), (v20 = 0 ∨ v20 = 1) → R20 v20 I20 → (((v20 = 0 → Q (0 : Int32) I20) ∧ (¬ v20 = 0 → ∃ R21 : Int32 → xII → Prop, w_X13_step m (12 : Int32) (I5 m 60) (0 : Int32) R21 I20 ∧ (∀ (v21 : Int32) (I21 : xII), R21 v21 I21 → (vp_in v8 9000 ∧ (∀ I23 : xII, I23 = xup I21 (m + 33) (ix v8) (I21 m 60) → (∃ R24 : Int32 → xII → Prop, Rk 4 (I8 m 60) 0 R24 I23 ∧ (∀ (v24 : Int32) (I24 : xII), (v24 = 0 ∨ v24 = 1) → R24 v24 I24 → (((v24 = 0 → Q (0 : Int32) I24) ∧ (¬ v24 = 0 → ∃ R25 : Int32 → xII → Prop, w_X13_step m (12 : Int32) (I8 m 60) (0 : Int32) R25 I24 ∧ (∀ (v25 : Int32) (I25 : xII), R25 v25 I25 → (∃ R26 : xII → Prop, w_X13_settle m (I24 m 65) (I25 m 60) R26 I25 ∧ (∀ I26 : xII, R26 I26 → (∃ R27 : xII → Prop, w_X13_ends m (I2 m 15) R27 I26 ∧ (∀ I27 : xII, R27 I27 → (∀ I28 : xII, I28 = xup I27 m 43 ((I27 m 43) - (1 : Int32)) → (Q (1 : Int32) I28)))))))))))))))))))))))) ∧ (¬ v9 = 0 → ∃ R10 : Int32 → xII → Prop, w_X13_closeSign m (23 : Int32) R10 I9 ∧ (∀ (v10 : Int32) (I10 : xII), (v10 = 0 ∨ v10 = 1) → R10 v10 I10 → (((v10 = 0 → Q (0 : Int32) I10) ∧ (¬ v10 = 0 → ∃ R11 : Int32 → xII → Prop, w_X13_step m (12 : Int32) (I5 m 60) (0 : Int32) R11 I10 ∧ (∀ (v11 : Int32) (I11 : xII), R11 v11 I11 → (vp_in v8 9000 ∧ (∀ I13 : xII, I13 = xup I11 (m + 33) (ix v8) (I11 m 60) → (∃ R14 : Int32 → xII → Prop, Rk 4 (I8 m 60) 0 R14 I13 ∧ (∀ (v14 : Int32) (I14 : xII), (v14 = 0 ∨ v14 = 1) → R14 v14 I14 → (((v14 = 0 → Q (0 : Int32) I14) ∧ (¬ v14 = 0 → ∃ R15 : Int32 → xII → Prop, w_X13_step m (12 : Int32) (I8 m 60) (0 : Int32) R15 I14 ∧ (∀ (v15 : Int32) (I15 : xII), R15 v15 I15 → (∃ R16 : xII → Prop, w_X13_settle m (I14 m 65) (I15 m 60) R16 I15 ∧ (∀ I16 : xII, R16 I16 → (∃ R17 : xII → Prop, w_X13_ends m (I2 m 15) R17 I16 ∧ (∀ I17 : xII, R17 I17 → (∀ I18 : xII, I18 = xup I17 m 43 ((I17 m 43) - (1 : Int32)) → (Q (1 : Int32) I18)))))))))))))))))))))))))))))))))))))))))))))))))))
theorem m_X13_counted (hG : xOK G) {dp : Nat} {A : xA} {m : Nat} (hM : xMo G A m) {Rk : Nat → Int32 → Int32 → (Int32 → xII → Prop) → xII → Prop} (hR : xRC_S G (dp + 716) A m Rk) {Q : Int32 → xII → Prop} {I : xII} (h : w_X13_counted Rk m Q I) : MX G (dp + 717) kX13_counted [.ref m] (A.wI I) (oZ A Q) := by
  unfold w_X13_counted at h
  refine MX.of rfl (Nat.le_of_ble_eq_true rfl) ?_
  change X _ _ _ _ _ _ [some (.ref m), none, none, none, none, none, none] _
  refine x_aload_n dX13_counted_0 rfl ?_
  obtain ⟨R1, g1, h⟩ := h
  refine x_callV hG (Ky := kX13_opens) (As := []) dX13_counted_1 (mo_t hM) rfl lk_X13_269 me_X13_opens is_X13_opens se_X13_opens rfl rfl (Nat.le_of_ble_eq_true rfl) (MX.post (m_X13_opens hG hM g1) ?_)
  rintro _ _ ⟨v1, I1, rfl, rfl, zv1, h1⟩
  replace h := h v1 I1 zv1 h1
  change X _ _ _ _ (A.wI I1) _ _ (.int v1 :: _)
  refine x_if_eq (tgt := 16) dX13_counted_4 (by decide) (fun c4 => ?_) (fun c4 => ?_)
  · replace h := h.1 c4
    refine x_iconst_ (v := (0 : Int32)) dX13_counted_16 (by decide) ?_
    exact x_zret dX13_counted_17 rfl (by decide) ⟨_, _, rfl, rfl, (by decide), h⟩
  · replace h := h.2 c4
    refine x_aload_n dX13_counted_7 rfl ?_
    refine x_bipush_ (v := (22 : Int32)) dX13_counted_8 (by decide) ?_
    obtain ⟨R2, g2, h⟩ := h
    refine x_callV hG (Ky := kX13_openSign) (As := [.int (22 : Int32)]) dX13_counted_10 (mo_t hM) rfl lk_X13_356 me_X13_openSign is_X13_openSign se_X13_openSign rfl rfl (Nat.le_of_ble_eq_true rfl) (MX.post (m_X13_openSign hG hM g2) ?_)
    rintro _ _ ⟨v2, I2, rfl, rfl, zv2, h1⟩
    replace h := h v2 I2 zv2 h1
    change X _ _ _ _ (A.wI I2) _ _ (.int v2 :: _)
    refine x_if_ne (tgt := 18) dX13_counted_13 (by decide) (fun c13 => ?_) (fun c13 => ?_)
    · replace h := h.2 c13
      refine x_aload_n dX13_counted_18 rfl ?_
      refine x_get (v := .int (I2 m 15)) hG dX13_counted_19 f_X13_282_12 (mo_t hM) rfl ?_
      refine x_istore_n dX13_counted_22 (by decide) ?_
      refine x_aload_n dX13_counted_23 rfl ?_
      obtain ⟨R3, g3, h⟩ := h
      refine x_callV hG (Ky := kX13_begins) (As := []) dX13_counted_24 (mo_t hM) rfl lk_X13_392 me_X13_begins is_X13_begins se_X13_begins rfl rfl (Nat.le_of_ble_eq_true rfl) (MX.post (m_X13_begins hG hM g3) ?_)
      rintro _ _ ⟨I3, rfl, rfl, h1⟩
      replace h := h I3 h1
      change X _ _ _ _ (A.wI I3) _ _ _
      refine x_aload_n dX13_counted_27 rfl ?_
      refine x_bipush_ (v := (29 : Int32)) dX13_counted_28 (by decide) ?_
      obtain ⟨R4, g4, h⟩ := h
      refine x_callV hG (Ky := kX13_isSign) (As := [.int (29 : Int32)]) dX13_counted_30 (mo_t hM) rfl lk_X13_257 me_X13_isSign is_X13_isSign se_X13_isSign rfl rfl (Nat.le_of_ble_eq_true rfl) (MX.post (m_X13_isSign hG hM g4) ?_)
      rintro _ _ ⟨v4, I4, rfl, rfl, zv4, h1⟩
      replace h := h v4 I4 zv4 h1
      change X _ _ _ _ (A.wI I4) _ _ (.int v4 :: _)
      refine x_if_ne (tgt := 63) dX13_counted_33 (by decide) (fun c33 => ?_) (fun c33 => ?_)
      · replace h := h.2 c33
        refine x_aload_n dX13_counted_63 rfl ?_
        refine x_bipush_ (v := (29 : Int32)) dX13_counted_64 (by decide) ?_
        obtain ⟨R5, g5, h⟩ := h
        refine x_callV hG (Ky := kX13_sign) (As := [.int (29 : Int32)]) dX13_counted_66 (mo_t hM) rfl lk_X13_273 me_X13_sign is_X13_sign se_X13_sign rfl rfl (Nat.le_of_ble_eq_true rfl) (MX.post (m_X13_sign hG hM g5) ?_)
        rintro _ _ ⟨v5, I5, rfl, rfl, zv5, h1⟩
        replace h := h v5 I5 zv5 h1
        change X _ _ _ _ (A.wI I5) _ _ (.int v5 :: _)
        refine x_if_ne (tgt := 74) dX13_counted_69 (by decide) (fun c69 => ?_) (fun c69 => ?_)
        · replace h := h.2 c69
          refine x_aload_n dX13_counted_74 rfl ?_
          refine x_get (v := .int (I5 m 60)) hG dX13_counted_75 f_X13_276_12 (mo_t hM) rfl ?_
          refine x_istore_n dX13_counted_78 (by decide) ?_
          refine x_iconst_ (v := (-1 : Int32)) dX13_counted_79 (by decide) ?_
          refine x_istore_n dX13_counted_80 (by decide) ?_
          refine x_aload_n dX13_counted_81 rfl ?_
          refine x_bipush_ (v := (29 : Int32)) dX13_counted_82 (by decide) ?_
          obtain ⟨R6, g6, h⟩ := h
          refine x_callV hG (Ky := kX13_isSign) (As := [.int (29 : Int32)]) dX13_counted_84 (mo_t hM) rfl lk_X13_257 me_X13_isSign is_X13_isSign se_X13_isSign rfl rfl (Nat.le_of_ble_eq_true rfl) (MX.post (m_X13_isSign hG hM g6) ?_)
          rintro _ _ ⟨v6, I6, rfl, rfl, zv6, h1⟩
          replace h := h v6 I6 zv6 h1
          change X _ _ _ _ (A.wI I6) _ _ (.int v6 :: _)
          refine x_if_ne (tgt := 108) dX13_counted_87 (by decide) (fun c87 => ?_) (fun c87 => ?_)
          · replace h := h.2 c87
            refine x_aload_n dX13_counted_108 rfl ?_
            refine x_bipush_ (v := (29 : Int32)) dX13_counted_109 (by decide) ?_
            obtain ⟨R7, g7, h⟩ := h
            refine x_callV hG (Ky := kX13_sign) (As := [.int (29 : Int32)]) dX13_counted_111 (mo_t hM) rfl lk_X13_273 me_X13_sign is_X13_sign se_X13_sign rfl rfl (Nat.le_of_ble_eq_true rfl) (MX.post (m_X13_sign hG hM g7) ?_)
            rintro _ _ ⟨v7, I7, rfl, rfl, zv7, h1⟩
            replace h := h v7 I7 zv7 h1
            change X _ _ _ _ (A.wI I7) _ _ (.int v7 :: _)
            refine x_if_ne (tgt := 119) dX13_counted_114 (by decide) (fun c114 => ?_) (fun c114 => ?_)
            · replace h := h.2 c114
              refine x_aload_n dX13_counted_119 rfl ?_
              refine x_bipush_ (v := (12 : Int32)) dX13_counted_120 (by decide) ?_
              refine x_iconst_ (v := (0 : Int32)) dX13_counted_122 (by decide) ?_
              refine x_iconst_ (v := (0 : Int32)) dX13_counted_123 (by decide) ?_
              obtain ⟨R8, g8, h⟩ := h
              refine x_callV hG (Ky := kX13_step) (As := [.int (12 : Int32), .int (0 : Int32), .int (0 : Int32)]) dX13_counted_124 (mo_t hM) rfl lk_X13_401 me_X13_step is_X13_step se_X13_step rfl rfl (Nat.le_of_ble_eq_true rfl) (MX.post (m_X13_step hG hM g8) ?_)
              rintro _ _ ⟨v8, I8, rfl, rfl, h1⟩
              replace h := h v8 I8 h1
              change X _ _ _ _ (A.wI I8) _ _ (.int v8 :: _)
              refine x_istore dX13_counted_127 (by decide) ?_
              refine x_aload_n dX13_counted_129 rfl ?_
              refine x_get (v := .int (I8 m 60)) hG dX13_counted_130 f_X13_276_12 (mo_t hM) rfl ?_
              refine x_istore dX13_counted_133 (by decide) ?_
              refine x_aload_n dX13_counted_135 rfl ?_
              refine x_bipush_ (v := (23 : Int32)) dX13_counted_136 (by decide) ?_
              obtain ⟨R9, g9, h⟩ := h
              refine x_callV hG (Ky := kX13_isSign) (As := [.int (23 : Int32)]) dX13_counted_138 (mo_t hM) rfl lk_X13_257 me_X13_isSign is_X13_isSign se_X13_isSign rfl rfl (Nat.le_of_ble_eq_true rfl) (MX.post (m_X13_isSign hG hM g9) ?_)
              rintro _ _ ⟨v9, I9, rfl, rfl, zv9, h1⟩
              replace h := h v9 I9 zv9 h1
              change X _ _ _ _ (A.wI I9) _ _ (.int v9 :: _)
              refine x_if_ne (tgt := 153) dX13_counted_141 (by decide) (fun c141 => ?_) (fun c141 => ?_)
              · replace h := h.2 c141
                refine x_aload_n dX13_counted_153 rfl ?_
                refine x_bipush_ (v := (23 : Int32)) dX13_counted_154 (by decide) ?_
                obtain ⟨R10, g10, h⟩ := h
                refine x_callV hG (Ky := kX13_closeSign) (As := [.int (23 : Int32)]) dX13_counted_156 (mo_t hM) rfl lk_X13_362 me_X13_closeSign is_X13_closeSign se_X13_closeSign rfl rfl (Nat.le_of_ble_eq_true rfl) (MX.post (m_X13_closeSign hG hM g10) ?_)
                rintro _ _ ⟨v10, I10, rfl, rfl, zv10, h1⟩
                replace h := h v10 I10 zv10 h1
                change X _ _ _ _ (A.wI I10) _ _ (.int v10 :: _)
                refine x_if_ne (tgt := 164) dX13_counted_159 (by decide) (fun c159 => ?_) (fun c159 => ?_)
                · replace h := h.2 c159
                  refine x_aload_n dX13_counted_164 rfl ?_
                  refine x_bipush_ (v := (12 : Int32)) dX13_counted_165 (by decide) ?_
                  refine x_iload_n dX13_counted_167 rfl ?_
                  refine x_iconst_ (v := (0 : Int32)) dX13_counted_168 (by decide) ?_
                  obtain ⟨R11, g11, h⟩ := h
                  refine x_callV hG (Ky := kX13_step) (As := [.int (12 : Int32), .int (I5 m 60), .int (0 : Int32)]) dX13_counted_169 (mo_t hM) rfl lk_X13_401 me_X13_step is_X13_step se_X13_step rfl rfl (Nat.le_of_ble_eq_true rfl) (MX.post (m_X13_step hG hM g11) ?_)
                  rintro _ _ ⟨v11, I11, rfl, rfl, h1⟩
                  replace h := h v11 I11 h1
                  change X _ _ _ _ (A.wI I11) _ _ (.int v11 :: _)
                  refine x_pop dX13_counted_172 rfl ?_
                  refine x_aload_n dX13_counted_173 rfl ?_
                  refine x_get (v := .ref (m + 33)) hG dX13_counted_174 f_X13_107_12 (mo_t hM) (congrArg va_rf (mo_P57 hM)) ?_
                  refine x_iload dX13_counted_177 rfl ?_
                  refine x_aload_n dX13_counted_179 rfl ?_
                  refine x_get (v := .int (I11 m 60)) hG dX13_counted_180 f_X13_276_12 (mo_t hM) rfl ?_
                  obtain ⟨o12, h⟩ := h
                  refine y_iast hG dX13_counted_183 (mo_t57 hM) (mo_aN hM) (mo_n57 hM) o12 (fun I13 e13 => ?_)
                  replace h := h I13 e13
                  refine x_aload_n dX13_counted_184 rfl ?_
                  refine x_iload dX13_counted_185 rfl ?_
                  obtain ⟨R14, g14, h⟩ := h
                  refine x_callV hG (Ky := kX13_body) (As := [.int (I8 m 60)]) dX13_counted_187 (mo_t hM) rfl lk_X13_451 me_X13_body is_X13_body se_X13_body rfl rfl (Nat.le_of_ble_eq_true rfl) (MX.post (hR.2.2.2.2.1 g14) ?_)
                  rintro _ _ ⟨v14, I14, rfl, rfl, zv14, h1⟩
                  replace h := h v14 I14 zv14 h1
                  change X _ _ _ _ (A.wI I14) _ _ (.int v14 :: _)
                  refine x_if_ne (tgt := 195) dX13_counted_190 (by decide) (fun c190 => ?_) (fun c190 => ?_)
                  · replace h := h.2 c190
                    refine x_aload_n dX13_counted_195 rfl ?_
                    refine x_get (v := .int (I14 m 65)) hG dX13_counted_196 f_X13_448_12 (mo_t hM) rfl ?_
                    refine x_istore dX13_counted_199 (by decide) ?_
                    refine x_aload_n dX13_counted_201 rfl ?_
                    refine x_bipush_ (v := (12 : Int32)) dX13_counted_202 (by decide) ?_
                    refine x_iload dX13_counted_204 rfl ?_
                    refine x_iconst_ (v := (0 : Int32)) dX13_counted_206 (by decide) ?_
                    obtain ⟨R15, g15, h⟩ := h
                    refine x_callV hG (Ky := kX13_step) (As := [.int (12 : Int32), .int (I8 m 60), .int (0 : Int32)]) dX13_counted_207 (mo_t hM) rfl lk_X13_401 me_X13_step is_X13_step se_X13_step rfl rfl (Nat.le_of_ble_eq_true rfl) (MX.post (m_X13_step hG hM g15) ?_)
                    rintro _ _ ⟨v15, I15, rfl, rfl, h1⟩
                    replace h := h v15 I15 h1
                    change X _ _ _ _ (A.wI I15) _ _ (.int v15 :: _)
                    refine x_pop dX13_counted_210 rfl ?_
                    refine x_iload_n dX13_counted_211 rfl ?_
                    refine x_iconst_ (v := (-1 : Int32)) dX13_counted_212 (by decide) ?_
                    refine x_icmp_eq (tgt := 226) dX13_counted_213 (by decide) (fun _ => ?_) (fun h => absurd (by decide) h)
                    refine x_aload_n dX13_counted_226 rfl ?_
                    refine x_iload dX13_counted_227 rfl ?_
                    refine x_aload_n dX13_counted_229 rfl ?_
                    refine x_get (v := .int (I15 m 60)) hG dX13_counted_230 f_X13_276_12 (mo_t hM) rfl ?_
                    obtain ⟨R16, g16, h⟩ := h
                    refine x_callV hG (Ky := kX13_settle) (As := [.int (I14 m 65), .int (I15 m 60)]) dX13_counted_233 (mo_t hM) rfl lk_X13_442 me_X13_settle is_X13_settle se_X13_settle rfl rfl (Nat.le_of_ble_eq_true rfl) (MX.post (m_X13_settle hG hM g16) ?_)
                    rintro _ _ ⟨I16, rfl, rfl, h1⟩
                    replace h := h I16 h1
                    change X _ _ _ _ (A.wI I16) _ _ _
                    refine x_aload_n dX13_counted_236 rfl ?_
                    refine x_iload_n dX13_counted_237 rfl ?_
                    obtain ⟨R17, g17, h⟩ := h
                    refine x_callV hG (Ky := kX13_ends) (As := [.int (I2 m 15)]) dX13_counted_238 (mo_t hM) rfl lk_X13_405 me_X13_ends is_X13_ends se_X13_ends rfl rfl (Nat.le_of_ble_eq_true rfl) (MX.post (m_X13_ends hG hM g17) ?_)
                    rintro _ _ ⟨I17, rfl, rfl, h1⟩
                    replace h := h I17 h1
                    change X _ _ _ _ (A.wI I17) _ _ _
                    refine x_aload_n dX13_counted_241 rfl ?_
                    refine x_dup dX13_counted_242 rfl ?_
                    refine x_get (v := .int (I17 m 43)) hG dX13_counted_243 f_X13_266_12 (mo_t hM) rfl ?_
                    refine x_iconst_ (v := (1 : Int32)) dX13_counted_246 (by decide) ?_
                    refine x_isub dX13_counted_247 ?_
                    refine y_put hG hM dX13_counted_248 f_X13_266_12 ⟨_, rfl, Or.inl rfl⟩ rfl rfl ⟨_, rfl⟩ (fun I18 e18 => ?_)
                    replace h := h I18 e18
                    refine x_iconst_ (v := (1 : Int32)) dX13_counted_251 (by decide) ?_
                    exact x_zret dX13_counted_252 rfl (by decide) ⟨_, _, rfl, rfl, (by decide), h⟩
                  · replace h := h.1 c190
                    refine x_iconst_ (v := (0 : Int32)) dX13_counted_193 (by decide) ?_
                    exact x_zret dX13_counted_194 rfl (by decide) ⟨_, _, rfl, rfl, (by decide), h⟩
                · replace h := h.1 c159
                  refine x_iconst_ (v := (0 : Int32)) dX13_counted_162 (by decide) ?_
                  exact x_zret dX13_counted_163 rfl (by decide) ⟨_, _, rfl, rfl, (by decide), h⟩
              · replace h := h.1 c141
                refine x_aload_n dX13_counted_144 rfl ?_
                obtain ⟨R19, g19, h⟩ := h
                refine x_callV hG (Ky := kX13_simple) (As := []) dX13_counted_145 (mo_t hM) rfl lk_X13_411 me_X13_simple is_X13_simple se_X13_simple rfl rfl (Nat.le_of_ble_eq_true rfl) (MX.post (m_X13_simple hG hM g19) ?_)
                rintro _ _ ⟨v19, I19, rfl, rfl, zv19, h1⟩
                replace h := h v19 I19 zv19 h1
                change X _ _ _ _ (A.wI I19) _ _ (.int v19 :: _)
                refine x_if_ne (tgt := 153) dX13_counted_148 (by decide) (fun c148 => ?_) (fun c148 => ?_)
                · replace h := h.2 c148
                  refine x_aload_n dX13_counted_153 rfl ?_
                  refine x_bipush_ (v := (23 : Int32)) dX13_counted_154 (by decide) ?_
                  obtain ⟨R20, g20, h⟩ := h
                  refine x_callV hG (Ky := kX13_closeSign) (As := [.int (23 : Int32)]) dX13_counted_156 (mo_t hM) rfl lk_X13_362 me_X13_closeSign is_X13_closeSign se_X13_closeSign rfl rfl (Nat.le_of_ble_eq_true rfl) (MX.post (m_X13_closeSign hG hM g20) ?_)
                  rintro _ _ ⟨v20, I20, rfl, rfl, zv20, h1⟩
                  replace h := h v20 I20 zv20 h1
                  change X _ _ _ _ (A.wI I20) _ _ (.int v20 :: _)
                  refine x_if_ne (tgt := 164) dX13_counted_159 (by decide) (fun c159 => ?_) (fun c159 => ?_)
                  · replace h := h.2 c159
                    refine x_aload_n dX13_counted_164 rfl ?_
                    refine x_bipush_ (v := (12 : Int32)) dX13_counted_165 (by decide) ?_
                    refine x_iload_n dX13_counted_167 rfl ?_
                    refine x_iconst_ (v := (0 : Int32)) dX13_counted_168 (by decide) ?_
                    obtain ⟨R21, g21, h⟩ := h
                    refine x_callV hG (Ky := kX13_step) (As := [.int (12 : Int32), .int (I5 m 60), .int (0 : Int32)]) dX13_counted_169 (mo_t hM) rfl lk_X13_401 me_X13_step is_X13_step se_X13_step rfl rfl (Nat.le_of_ble_eq_true rfl) (MX.post (m_X13_step hG hM g21) ?_)
                    rintro _ _ ⟨v21, I21, rfl, rfl, h1⟩
                    replace h := h v21 I21 h1
                    change X _ _ _ _ (A.wI I21) _ _ (.int v21 :: _)
                    refine x_pop dX13_counted_172 rfl ?_
                    refine x_aload_n dX13_counted_173 rfl ?_
                    refine x_get (v := .ref (m + 33)) hG dX13_counted_174 f_X13_107_12 (mo_t hM) (congrArg va_rf (mo_P57 hM)) ?_
                    refine x_iload dX13_counted_177 rfl ?_
                    refine x_aload_n dX13_counted_179 rfl ?_
                    refine x_get (v := .int (I21 m 60)) hG dX13_counted_180 f_X13_276_12 (mo_t hM) rfl ?_
                    obtain ⟨o22, h⟩ := h
                    refine y_iast hG dX13_counted_183 (mo_t57 hM) (mo_aN hM) (mo_n57 hM) o22 (fun I23 e23 => ?_)
                    replace h := h I23 e23
                    refine x_aload_n dX13_counted_184 rfl ?_
                    refine x_iload dX13_counted_185 rfl ?_
                    obtain ⟨R24, g24, h⟩ := h
                    refine x_callV hG (Ky := kX13_body) (As := [.int (I8 m 60)]) dX13_counted_187 (mo_t hM) rfl lk_X13_451 me_X13_body is_X13_body se_X13_body rfl rfl (Nat.le_of_ble_eq_true rfl) (MX.post (hR.2.2.2.2.1 g24) ?_)
                    rintro _ _ ⟨v24, I24, rfl, rfl, zv24, h1⟩
                    replace h := h v24 I24 zv24 h1
                    change X _ _ _ _ (A.wI I24) _ _ (.int v24 :: _)
                    refine x_if_ne (tgt := 195) dX13_counted_190 (by decide) (fun c190 => ?_) (fun c190 => ?_)
                    · replace h := h.2 c190
                      refine x_aload_n dX13_counted_195 rfl ?_
                      refine x_get (v := .int (I24 m 65)) hG dX13_counted_196 f_X13_448_12 (mo_t hM) rfl ?_
                      refine x_istore dX13_counted_199 (by decide) ?_
                      refine x_aload_n dX13_counted_201 rfl ?_
                      refine x_bipush_ (v := (12 : Int32)) dX13_counted_202 (by decide) ?_
                      refine x_iload dX13_counted_204 rfl ?_
                      refine x_iconst_ (v := (0 : Int32)) dX13_counted_206 (by decide) ?_
                      obtain ⟨R25, g25, h⟩ := h
                      refine x_callV hG (Ky := kX13_step) (As := [.int (12 : Int32), .int (I8 m 60), .int (0 : Int32)]) dX13_counted_207 (mo_t hM) rfl lk_X13_401 me_X13_step is_X13_step se_X13_step rfl rfl (Nat.le_of_ble_eq_true rfl) (MX.post (m_X13_step hG hM g25) ?_)
                      rintro _ _ ⟨v25, I25, rfl, rfl, h1⟩
                      replace h := h v25 I25 h1
                      change X _ _ _ _ (A.wI I25) _ _ (.int v25 :: _)
                      refine x_pop dX13_counted_210 rfl ?_
                      refine x_iload_n dX13_counted_211 rfl ?_
                      refine x_iconst_ (v := (-1 : Int32)) dX13_counted_212 (by decide) ?_
                      refine x_icmp_eq (tgt := 226) dX13_counted_213 (by decide) (fun _ => ?_) (fun h => absurd (by decide) h)
                      refine x_aload_n dX13_counted_226 rfl ?_
                      refine x_iload dX13_counted_227 rfl ?_
                      refine x_aload_n dX13_counted_229 rfl ?_
                      refine x_get (v := .int (I25 m 60)) hG dX13_counted_230 f_X13_276_12 (mo_t hM) rfl ?_
                      obtain ⟨R26, g26, h⟩ := h
                      refine x_callV hG (Ky := kX13_settle) (As := [.int (I24 m 65), .int (I25 m 60)]) dX13_counted_233 (mo_t hM) rfl lk_X13_442 me_X13_settle is_X13_settle se_X13_settle rfl rfl (Nat.le_of_ble_eq_true rfl) (MX.post (m_X13_settle hG hM g26) ?_)
                      rintro _ _ ⟨I26, rfl, rfl, h1⟩
                      replace h := h I26 h1
                      change X _ _ _ _ (A.wI I26) _ _ _
                      refine x_aload_n dX13_counted_236 rfl ?_
                      refine x_iload_n dX13_counted_237 rfl ?_
                      obtain ⟨R27, g27, h⟩ := h
                      refine x_callV hG (Ky := kX13_ends) (As := [.int (I2 m 15)]) dX13_counted_238 (mo_t hM) rfl lk_X13_405 me_X13_ends is_X13_ends se_X13_ends rfl rfl (Nat.le_of_ble_eq_true rfl) (MX.post (m_X13_ends hG hM g27) ?_)
                      rintro _ _ ⟨I27, rfl, rfl, h1⟩
                      replace h := h I27 h1
                      change X _ _ _ _ (A.wI I27) _ _ _
                      refine x_aload_n dX13_counted_241 rfl ?_
                      refine x_dup dX13_counted_242 rfl ?_
                      refine x_get (v := .int (I27 m 43)) hG dX13_counted_243 f_X13_266_12 (mo_t hM) rfl ?_
                      refine x_iconst_ (v := (1 : Int32)) dX13_counted_246 (by decide) ?_
                      refine x_isub dX13_counted_247 ?_
                      refine y_put hG hM dX13_counted_248 f_X13_266_12 ⟨_, rfl, Or.inl rfl⟩ rfl rfl ⟨_, rfl⟩ (fun I28 e28 => ?_)
                      replace h := h I28 e28
                      refine x_iconst_ (v := (1 : Int32)) dX13_counted_251 (by decide) ?_
                      exact x_zret dX13_counted_252 rfl (by decide) ⟨_, _, rfl, rfl, (by decide), h⟩
                    · replace h := h.1 c190
                      refine x_iconst_ (v := (0 : Int32)) dX13_counted_193 (by decide) ?_
                      exact x_zret dX13_counted_194 rfl (by decide) ⟨_, _, rfl, rfl, (by decide), h⟩
                  · replace h := h.1 c159
                    refine x_iconst_ (v := (0 : Int32)) dX13_counted_162 (by decide) ?_
                    exact x_zret dX13_counted_163 rfl (by decide) ⟨_, _, rfl, rfl, (by decide), h⟩
                · replace h := h.1 c148
                  refine x_iconst_ (v := (0 : Int32)) dX13_counted_151 (by decide) ?_
                  exact x_zret dX13_counted_152 rfl (by decide) ⟨_, _, rfl, rfl, (by decide), h⟩
            · replace h := h.1 c114
              refine x_iconst_ (v := (0 : Int32)) dX13_counted_117 (by decide) ?_
              exact x_zret dX13_counted_118 rfl (by decide) ⟨_, _, rfl, rfl, (by decide), h⟩
          · replace h := h.1 c87
            refine x_aload_n dX13_counted_90 rfl ?_
            obtain ⟨R29, g29, h⟩ := h
            refine x_callV hG (Ky := kX13_expression) (As := []) dX13_counted_91 (mo_t hM) rfl lk_X13_368 me_X13_expression is_X13_expression se_X13_expression rfl rfl (Nat.le_of_ble_eq_true rfl) (MX.post ((rc_E hG hM 700).1 g29) ?_)
            rintro _ _ ⟨v29, I29, rfl, rfl, zv29, h1⟩
            replace h := h v29 I29 zv29 h1
            change X _ _ _ _ (A.wI I29) _ _ (.int v29 :: _)
            refine x_if_ne (tgt := 99) dX13_counted_94 (by decide) (fun c94 => ?_) (fun c94 => ?_)
            · replace h := h.2 c94
              refine x_aload_n dX13_counted_99 rfl ?_
              refine x_bipush_ (v := (13 : Int32)) dX13_counted_100 (by decide) ?_
              refine x_iconst_ (v := (0 : Int32)) dX13_counted_102 (by decide) ?_
              refine x_iconst_ (v := (0 : Int32)) dX13_counted_103 (by decide) ?_
              obtain ⟨R30, g30, h⟩ := h
              refine x_callV hG (Ky := kX13_step) (As := [.int (13 : Int32), .int (0 : Int32), .int (0 : Int32)]) dX13_counted_104 (mo_t hM) rfl lk_X13_401 me_X13_step is_X13_step se_X13_step rfl rfl (Nat.le_of_ble_eq_true rfl) (MX.post (m_X13_step hG hM g30) ?_)
              rintro _ _ ⟨v30, I30, rfl, rfl, h1⟩
              replace h := h v30 I30 h1
              change X _ _ _ _ (A.wI I30) _ _ (.int v30 :: _)
              refine x_istore_n dX13_counted_107 (by decide) ?_
              refine x_aload_n dX13_counted_108 rfl ?_
              refine x_bipush_ (v := (29 : Int32)) dX13_counted_109 (by decide) ?_
              obtain ⟨R31, g31, h⟩ := h
              refine x_callV hG (Ky := kX13_sign) (As := [.int (29 : Int32)]) dX13_counted_111 (mo_t hM) rfl lk_X13_273 me_X13_sign is_X13_sign se_X13_sign rfl rfl (Nat.le_of_ble_eq_true rfl) (MX.post (m_X13_sign hG hM g31) ?_)
              rintro _ _ ⟨v31, I31, rfl, rfl, zv31, h1⟩
              replace h := h v31 I31 zv31 h1
              change X _ _ _ _ (A.wI I31) _ _ (.int v31 :: _)
              refine x_if_ne (tgt := 119) dX13_counted_114 (by decide) (fun c114 => ?_) (fun c114 => ?_)
              · replace h := h.2 c114
                refine x_aload_n dX13_counted_119 rfl ?_
                refine x_bipush_ (v := (12 : Int32)) dX13_counted_120 (by decide) ?_
                refine x_iconst_ (v := (0 : Int32)) dX13_counted_122 (by decide) ?_
                refine x_iconst_ (v := (0 : Int32)) dX13_counted_123 (by decide) ?_
                obtain ⟨R32, g32, h⟩ := h
                refine x_callV hG (Ky := kX13_step) (As := [.int (12 : Int32), .int (0 : Int32), .int (0 : Int32)]) dX13_counted_124 (mo_t hM) rfl lk_X13_401 me_X13_step is_X13_step se_X13_step rfl rfl (Nat.le_of_ble_eq_true rfl) (MX.post (m_X13_step hG hM g32) ?_)
                rintro _ _ ⟨v32, I32, rfl, rfl, h1⟩
                replace h := h v32 I32 h1
                change X _ _ _ _ (A.wI I32) _ _ (.int v32 :: _)
                refine x_istore dX13_counted_127 (by decide) ?_
                refine x_aload_n dX13_counted_129 rfl ?_
                refine x_get (v := .int (I32 m 60)) hG dX13_counted_130 f_X13_276_12 (mo_t hM) rfl ?_
                refine x_istore dX13_counted_133 (by decide) ?_
                refine x_aload_n dX13_counted_135 rfl ?_
                refine x_bipush_ (v := (23 : Int32)) dX13_counted_136 (by decide) ?_
                obtain ⟨R33, g33, h⟩ := h
                refine x_callV hG (Ky := kX13_isSign) (As := [.int (23 : Int32)]) dX13_counted_138 (mo_t hM) rfl lk_X13_257 me_X13_isSign is_X13_isSign se_X13_isSign rfl rfl (Nat.le_of_ble_eq_true rfl) (MX.post (m_X13_isSign hG hM g33) ?_)
                rintro _ _ ⟨v33, I33, rfl, rfl, zv33, h1⟩
                replace h := h v33 I33 zv33 h1
                change X _ _ _ _ (A.wI I33) _ _ (.int v33 :: _)
                refine x_if_ne (tgt := 153) dX13_counted_141 (by decide) (fun c141 => ?_) (fun c141 => ?_)
                · replace h := h.2 c141
                  refine x_aload_n dX13_counted_153 rfl ?_
                  refine x_bipush_ (v := (23 : Int32)) dX13_counted_154 (by decide) ?_
                  obtain ⟨R34, g34, h⟩ := h
                  refine x_callV hG (Ky := kX13_closeSign) (As := [.int (23 : Int32)]) dX13_counted_156 (mo_t hM) rfl lk_X13_362 me_X13_closeSign is_X13_closeSign se_X13_closeSign rfl rfl (Nat.le_of_ble_eq_true rfl) (MX.post (m_X13_closeSign hG hM g34) ?_)
                  rintro _ _ ⟨v34, I34, rfl, rfl, zv34, h1⟩
                  replace h := h v34 I34 zv34 h1
                  change X _ _ _ _ (A.wI I34) _ _ (.int v34 :: _)
                  refine x_if_ne (tgt := 164) dX13_counted_159 (by decide) (fun c159 => ?_) (fun c159 => ?_)
                  · replace h := h.2 c159
                    refine x_aload_n dX13_counted_164 rfl ?_
                    refine x_bipush_ (v := (12 : Int32)) dX13_counted_165 (by decide) ?_
                    refine x_iload_n dX13_counted_167 rfl ?_
                    refine x_iconst_ (v := (0 : Int32)) dX13_counted_168 (by decide) ?_
                    obtain ⟨R35, g35, h⟩ := h
                    refine x_callV hG (Ky := kX13_step) (As := [.int (12 : Int32), .int (I5 m 60), .int (0 : Int32)]) dX13_counted_169 (mo_t hM) rfl lk_X13_401 me_X13_step is_X13_step se_X13_step rfl rfl (Nat.le_of_ble_eq_true rfl) (MX.post (m_X13_step hG hM g35) ?_)
                    rintro _ _ ⟨v35, I35, rfl, rfl, h1⟩
                    replace h := h v35 I35 h1
                    change X _ _ _ _ (A.wI I35) _ _ (.int v35 :: _)
                    refine x_pop dX13_counted_172 rfl ?_
                    refine x_aload_n dX13_counted_173 rfl ?_
                    refine x_get (v := .ref (m + 33)) hG dX13_counted_174 f_X13_107_12 (mo_t hM) (congrArg va_rf (mo_P57 hM)) ?_
                    refine x_iload dX13_counted_177 rfl ?_
                    refine x_aload_n dX13_counted_179 rfl ?_
                    refine x_get (v := .int (I35 m 60)) hG dX13_counted_180 f_X13_276_12 (mo_t hM) rfl ?_
                    obtain ⟨o36, h⟩ := h
                    refine y_iast hG dX13_counted_183 (mo_t57 hM) (mo_aN hM) (mo_n57 hM) o36 (fun I37 e37 => ?_)
                    replace h := h I37 e37
                    refine x_aload_n dX13_counted_184 rfl ?_
                    refine x_iload dX13_counted_185 rfl ?_
                    obtain ⟨R38, g38, h⟩ := h
                    refine x_callV hG (Ky := kX13_body) (As := [.int (I32 m 60)]) dX13_counted_187 (mo_t hM) rfl lk_X13_451 me_X13_body is_X13_body se_X13_body rfl rfl (Nat.le_of_ble_eq_true rfl) (MX.post (hR.2.2.2.2.1 g38) ?_)
                    rintro _ _ ⟨v38, I38, rfl, rfl, zv38, h1⟩
                    replace h := h v38 I38 zv38 h1
                    change X _ _ _ _ (A.wI I38) _ _ (.int v38 :: _)
                    refine x_if_ne (tgt := 195) dX13_counted_190 (by decide) (fun c190 => ?_) (fun c190 => ?_)
                    · replace h := h.2 c190
                      refine x_aload_n dX13_counted_195 rfl ?_
                      refine x_get (v := .int (I38 m 65)) hG dX13_counted_196 f_X13_448_12 (mo_t hM) rfl ?_
                      refine x_istore dX13_counted_199 (by decide) ?_
                      refine x_aload_n dX13_counted_201 rfl ?_
                      refine x_bipush_ (v := (12 : Int32)) dX13_counted_202 (by decide) ?_
                      refine x_iload dX13_counted_204 rfl ?_
                      refine x_iconst_ (v := (0 : Int32)) dX13_counted_206 (by decide) ?_
                      obtain ⟨R39, g39, h⟩ := h
                      refine x_callV hG (Ky := kX13_step) (As := [.int (12 : Int32), .int (I32 m 60), .int (0 : Int32)]) dX13_counted_207 (mo_t hM) rfl lk_X13_401 me_X13_step is_X13_step se_X13_step rfl rfl (Nat.le_of_ble_eq_true rfl) (MX.post (m_X13_step hG hM g39) ?_)
                      rintro _ _ ⟨v39, I39, rfl, rfl, h1⟩
                      replace h := h v39 I39 h1
                      change X _ _ _ _ (A.wI I39) _ _ (.int v39 :: _)
                      refine x_pop dX13_counted_210 rfl ?_
                      refine x_iload_n dX13_counted_211 rfl ?_
                      refine x_iconst_ (v := (-1 : Int32)) dX13_counted_212 (by decide) ?_
                      obtain ⟨J40, g40, h⟩ := h
                      have kj40 : ∀ (I40 : xII), J40 I40 → X G (dp + 717) kX13_counted (oZ A Q) (A.wI I40) 226 [some (.ref m), some (.int (I2 m 15)), none, none, none, none, some (.int (I38 m 65))] [] := by
                        intro I40 h
                        replace h := g40 I40 h
                        refine x_aload_n dX13_counted_226 rfl ?_
                        refine x_iload dX13_counted_227 rfl ?_
                        refine x_aload_n dX13_counted_229 rfl ?_
                        refine x_get (v := .int (I40 m 60)) hG dX13_counted_230 f_X13_276_12 (mo_t hM) rfl ?_
                        obtain ⟨R41, g41, h⟩ := h
                        refine x_callV hG (Ky := kX13_settle) (As := [.int (I38 m 65), .int (I40 m 60)]) dX13_counted_233 (mo_t hM) rfl lk_X13_442 me_X13_settle is_X13_settle se_X13_settle rfl rfl (Nat.le_of_ble_eq_true rfl) (MX.post (m_X13_settle hG hM g41) ?_)
                        rintro _ _ ⟨I41, rfl, rfl, h1⟩
                        replace h := h I41 h1
                        change X _ _ _ _ (A.wI I41) _ _ _
                        refine x_aload_n dX13_counted_236 rfl ?_
                        refine x_iload_n dX13_counted_237 rfl ?_
                        obtain ⟨R42, g42, h⟩ := h
                        refine x_callV hG (Ky := kX13_ends) (As := [.int (I2 m 15)]) dX13_counted_238 (mo_t hM) rfl lk_X13_405 me_X13_ends is_X13_ends se_X13_ends rfl rfl (Nat.le_of_ble_eq_true rfl) (MX.post (m_X13_ends hG hM g42) ?_)
                        rintro _ _ ⟨I42, rfl, rfl, h1⟩
                        replace h := h I42 h1
                        change X _ _ _ _ (A.wI I42) _ _ _
                        refine x_aload_n dX13_counted_241 rfl ?_
                        refine x_dup dX13_counted_242 rfl ?_
                        refine x_get (v := .int (I42 m 43)) hG dX13_counted_243 f_X13_266_12 (mo_t hM) rfl ?_
                        refine x_iconst_ (v := (1 : Int32)) dX13_counted_246 (by decide) ?_
                        refine x_isub dX13_counted_247 ?_
                        refine y_put hG hM dX13_counted_248 f_X13_266_12 ⟨_, rfl, Or.inl rfl⟩ rfl rfl ⟨_, rfl⟩ (fun I43 e43 => ?_)
                        replace h := h I43 e43
                        refine x_iconst_ (v := (1 : Int32)) dX13_counted_251 (by decide) ?_
                        exact x_zret dX13_counted_252 rfl (by decide) ⟨_, _, rfl, rfl, (by decide), h⟩
                      refine x_icmp_eq (tgt := 226) dX13_counted_213 (by decide) (fun c213 => ?_) (fun c213 => ?_)
                      · replace h := h.1 c213
                        change X _ _ _ _ _ _ [some (.ref m), some (.int (I2 m 15)), some (.int (I5 m 60)), some (.int v30), some (.int v32), some (.int (I32 m 60)), some (.int (I38 m 65))] []
                        exact X.weak (xle_c rfl (xle_c rfl (xle_n (xle_n (xle_n (xle_n (xle_c rfl xle_nil))))))) (kj40 I39 h)
                      · replace h := h.2 c213
                        refine x_aload_n dX13_counted_216 rfl ?_
                        refine x_get (v := .ref (m + 33)) hG dX13_counted_217 f_X13_107_12 (mo_t hM) (congrArg va_rf (mo_P57 hM)) ?_
                        refine x_iload_n dX13_counted_220 rfl ?_
                        refine x_aload_n dX13_counted_221 rfl ?_
                        refine x_get (v := .int (I39 m 60)) hG dX13_counted_222 f_X13_276_12 (mo_t hM) rfl ?_
                        obtain ⟨o44, h⟩ := h
                        refine y_iast hG dX13_counted_225 (mo_t57 hM) (mo_aN hM) (mo_n57 hM) o44 (fun I45 e45 => ?_)
                        replace h := h I45 e45
                        change X _ _ _ _ _ _ [some (.ref m), some (.int (I2 m 15)), some (.int (I5 m 60)), some (.int v30), some (.int v32), some (.int (I32 m 60)), some (.int (I38 m 65))] []
                        exact X.weak (xle_c rfl (xle_c rfl (xle_n (xle_n (xle_n (xle_n (xle_c rfl xle_nil))))))) (kj40 I45 h)
                    · replace h := h.1 c190
                      refine x_iconst_ (v := (0 : Int32)) dX13_counted_193 (by decide) ?_
                      exact x_zret dX13_counted_194 rfl (by decide) ⟨_, _, rfl, rfl, (by decide), h⟩
                  · replace h := h.1 c159
                    refine x_iconst_ (v := (0 : Int32)) dX13_counted_162 (by decide) ?_
                    exact x_zret dX13_counted_163 rfl (by decide) ⟨_, _, rfl, rfl, (by decide), h⟩
                · replace h := h.1 c141
                  refine x_aload_n dX13_counted_144 rfl ?_
                  obtain ⟨R46, g46, h⟩ := h
                  refine x_callV hG (Ky := kX13_simple) (As := []) dX13_counted_145 (mo_t hM) rfl lk_X13_411 me_X13_simple is_X13_simple se_X13_simple rfl rfl (Nat.le_of_ble_eq_true rfl) (MX.post (m_X13_simple hG hM g46) ?_)
                  rintro _ _ ⟨v46, I46, rfl, rfl, zv46, h1⟩
                  replace h := h v46 I46 zv46 h1
                  change X _ _ _ _ (A.wI I46) _ _ (.int v46 :: _)
                  refine x_if_ne (tgt := 153) dX13_counted_148 (by decide) (fun c148 => ?_) (fun c148 => ?_)
                  · replace h := h.2 c148
                    refine x_aload_n dX13_counted_153 rfl ?_
                    refine x_bipush_ (v := (23 : Int32)) dX13_counted_154 (by decide) ?_
                    obtain ⟨R47, g47, h⟩ := h
                    refine x_callV hG (Ky := kX13_closeSign) (As := [.int (23 : Int32)]) dX13_counted_156 (mo_t hM) rfl lk_X13_362 me_X13_closeSign is_X13_closeSign se_X13_closeSign rfl rfl (Nat.le_of_ble_eq_true rfl) (MX.post (m_X13_closeSign hG hM g47) ?_)
                    rintro _ _ ⟨v47, I47, rfl, rfl, zv47, h1⟩
                    replace h := h v47 I47 zv47 h1
                    change X _ _ _ _ (A.wI I47) _ _ (.int v47 :: _)
                    refine x_if_ne (tgt := 164) dX13_counted_159 (by decide) (fun c159 => ?_) (fun c159 => ?_)
                    · replace h := h.2 c159
                      refine x_aload_n dX13_counted_164 rfl ?_
                      refine x_bipush_ (v := (12 : Int32)) dX13_counted_165 (by decide) ?_
                      refine x_iload_n dX13_counted_167 rfl ?_
                      refine x_iconst_ (v := (0 : Int32)) dX13_counted_168 (by decide) ?_
                      obtain ⟨R48, g48, h⟩ := h
                      refine x_callV hG (Ky := kX13_step) (As := [.int (12 : Int32), .int (I5 m 60), .int (0 : Int32)]) dX13_counted_169 (mo_t hM) rfl lk_X13_401 me_X13_step is_X13_step se_X13_step rfl rfl (Nat.le_of_ble_eq_true rfl) (MX.post (m_X13_step hG hM g48) ?_)
                      rintro _ _ ⟨v48, I48, rfl, rfl, h1⟩
                      replace h := h v48 I48 h1
                      change X _ _ _ _ (A.wI I48) _ _ (.int v48 :: _)
                      refine x_pop dX13_counted_172 rfl ?_
                      refine x_aload_n dX13_counted_173 rfl ?_
                      refine x_get (v := .ref (m + 33)) hG dX13_counted_174 f_X13_107_12 (mo_t hM) (congrArg va_rf (mo_P57 hM)) ?_
                      refine x_iload dX13_counted_177 rfl ?_
                      refine x_aload_n dX13_counted_179 rfl ?_
                      refine x_get (v := .int (I48 m 60)) hG dX13_counted_180 f_X13_276_12 (mo_t hM) rfl ?_
                      obtain ⟨o49, h⟩ := h
                      refine y_iast hG dX13_counted_183 (mo_t57 hM) (mo_aN hM) (mo_n57 hM) o49 (fun I50 e50 => ?_)
                      replace h := h I50 e50
                      refine x_aload_n dX13_counted_184 rfl ?_
                      refine x_iload dX13_counted_185 rfl ?_
                      obtain ⟨R51, g51, h⟩ := h
                      refine x_callV hG (Ky := kX13_body) (As := [.int (I32 m 60)]) dX13_counted_187 (mo_t hM) rfl lk_X13_451 me_X13_body is_X13_body se_X13_body rfl rfl (Nat.le_of_ble_eq_true rfl) (MX.post (hR.2.2.2.2.1 g51) ?_)
                      rintro _ _ ⟨v51, I51, rfl, rfl, zv51, h1⟩
                      replace h := h v51 I51 zv51 h1
                      change X _ _ _ _ (A.wI I51) _ _ (.int v51 :: _)
                      refine x_if_ne (tgt := 195) dX13_counted_190 (by decide) (fun c190 => ?_) (fun c190 => ?_)
                      · replace h := h.2 c190
                        refine x_aload_n dX13_counted_195 rfl ?_
                        refine x_get (v := .int (I51 m 65)) hG dX13_counted_196 f_X13_448_12 (mo_t hM) rfl ?_
                        refine x_istore dX13_counted_199 (by decide) ?_
                        refine x_aload_n dX13_counted_201 rfl ?_
                        refine x_bipush_ (v := (12 : Int32)) dX13_counted_202 (by decide) ?_
                        refine x_iload dX13_counted_204 rfl ?_
                        refine x_iconst_ (v := (0 : Int32)) dX13_counted_206 (by decide) ?_
                        obtain ⟨R52, g52, h⟩ := h
                        refine x_callV hG (Ky := kX13_step) (As := [.int (12 : Int32), .int (I32 m 60), .int (0 : Int32)]) dX13_counted_207 (mo_t hM) rfl lk_X13_401 me_X13_step is_X13_step se_X13_step rfl rfl (Nat.le_of_ble_eq_true rfl) (MX.post (m_X13_step hG hM g52) ?_)
                        rintro _ _ ⟨v52, I52, rfl, rfl, h1⟩
                        replace h := h v52 I52 h1
                        change X _ _ _ _ (A.wI I52) _ _ (.int v52 :: _)
                        refine x_pop dX13_counted_210 rfl ?_
                        refine x_iload_n dX13_counted_211 rfl ?_
                        refine x_iconst_ (v := (-1 : Int32)) dX13_counted_212 (by decide) ?_
                        obtain ⟨J53, g53, h⟩ := h
                        have kj53 : ∀ (I53 : xII), J53 I53 → X G (dp + 717) kX13_counted (oZ A Q) (A.wI I53) 226 [some (.ref m), some (.int (I2 m 15)), none, none, none, none, some (.int (I51 m 65))] [] := by
                          intro I53 h
                          replace h := g53 I53 h
                          refine x_aload_n dX13_counted_226 rfl ?_
                          refine x_iload dX13_counted_227 rfl ?_
                          refine x_aload_n dX13_counted_229 rfl ?_
                          refine x_get (v := .int (I53 m 60)) hG dX13_counted_230 f_X13_276_12 (mo_t hM) rfl ?_
                          obtain ⟨R54, g54, h⟩ := h
                          refine x_callV hG (Ky := kX13_settle) (As := [.int (I51 m 65), .int (I53 m 60)]) dX13_counted_233 (mo_t hM) rfl lk_X13_442 me_X13_settle is_X13_settle se_X13_settle rfl rfl (Nat.le_of_ble_eq_true rfl) (MX.post (m_X13_settle hG hM g54) ?_)
                          rintro _ _ ⟨I54, rfl, rfl, h1⟩
                          replace h := h I54 h1
                          change X _ _ _ _ (A.wI I54) _ _ _
                          refine x_aload_n dX13_counted_236 rfl ?_
                          refine x_iload_n dX13_counted_237 rfl ?_
                          obtain ⟨R55, g55, h⟩ := h
                          refine x_callV hG (Ky := kX13_ends) (As := [.int (I2 m 15)]) dX13_counted_238 (mo_t hM) rfl lk_X13_405 me_X13_ends is_X13_ends se_X13_ends rfl rfl (Nat.le_of_ble_eq_true rfl) (MX.post (m_X13_ends hG hM g55) ?_)
                          rintro _ _ ⟨I55, rfl, rfl, h1⟩
                          replace h := h I55 h1
                          change X _ _ _ _ (A.wI I55) _ _ _
                          refine x_aload_n dX13_counted_241 rfl ?_
                          refine x_dup dX13_counted_242 rfl ?_
                          refine x_get (v := .int (I55 m 43)) hG dX13_counted_243 f_X13_266_12 (mo_t hM) rfl ?_
                          refine x_iconst_ (v := (1 : Int32)) dX13_counted_246 (by decide) ?_
                          refine x_isub dX13_counted_247 ?_
                          refine y_put hG hM dX13_counted_248 f_X13_266_12 ⟨_, rfl, Or.inl rfl⟩ rfl rfl ⟨_, rfl⟩ (fun I56 e56 => ?_)
                          replace h := h I56 e56
                          refine x_iconst_ (v := (1 : Int32)) dX13_counted_251 (by decide) ?_
                          exact x_zret dX13_counted_252 rfl (by decide) ⟨_, _, rfl, rfl, (by decide), h⟩
                        refine x_icmp_eq (tgt := 226) dX13_counted_213 (by decide) (fun c213 => ?_) (fun c213 => ?_)
                        · replace h := h.1 c213
                          change X _ _ _ _ _ _ [some (.ref m), some (.int (I2 m 15)), some (.int (I5 m 60)), some (.int v30), some (.int v32), some (.int (I32 m 60)), some (.int (I51 m 65))] []
                          exact X.weak (xle_c rfl (xle_c rfl (xle_n (xle_n (xle_n (xle_n (xle_c rfl xle_nil))))))) (kj53 I52 h)
                        · replace h := h.2 c213
                          refine x_aload_n dX13_counted_216 rfl ?_
                          refine x_get (v := .ref (m + 33)) hG dX13_counted_217 f_X13_107_12 (mo_t hM) (congrArg va_rf (mo_P57 hM)) ?_
                          refine x_iload_n dX13_counted_220 rfl ?_
                          refine x_aload_n dX13_counted_221 rfl ?_
                          refine x_get (v := .int (I52 m 60)) hG dX13_counted_222 f_X13_276_12 (mo_t hM) rfl ?_
                          obtain ⟨o57, h⟩ := h
                          refine y_iast hG dX13_counted_225 (mo_t57 hM) (mo_aN hM) (mo_n57 hM) o57 (fun I58 e58 => ?_)
                          replace h := h I58 e58
                          change X _ _ _ _ _ _ [some (.ref m), some (.int (I2 m 15)), some (.int (I5 m 60)), some (.int v30), some (.int v32), some (.int (I32 m 60)), some (.int (I51 m 65))] []
                          exact X.weak (xle_c rfl (xle_c rfl (xle_n (xle_n (xle_n (xle_n (xle_c rfl xle_nil))))))) (kj53 I58 h)
                      · replace h := h.1 c190
                        refine x_iconst_ (v := (0 : Int32)) dX13_counted_193 (by decide) ?_
                        exact x_zret dX13_counted_194 rfl (by decide) ⟨_, _, rfl, rfl, (by decide), h⟩
                    · replace h := h.1 c159
                      refine x_iconst_ (v := (0 : Int32)) dX13_counted_162 (by decide) ?_
                      exact x_zret dX13_counted_163 rfl (by decide) ⟨_, _, rfl, rfl, (by decide), h⟩
                  · replace h := h.1 c148
                    refine x_iconst_ (v := (0 : Int32)) dX13_counted_151 (by decide) ?_
                    exact x_zret dX13_counted_152 rfl (by decide) ⟨_, _, rfl, rfl, (by decide), h⟩
              · replace h := h.1 c114
                refine x_iconst_ (v := (0 : Int32)) dX13_counted_117 (by decide) ?_
                exact x_zret dX13_counted_118 rfl (by decide) ⟨_, _, rfl, rfl, (by decide), h⟩
            · replace h := h.1 c94
              refine x_iconst_ (v := (0 : Int32)) dX13_counted_97 (by decide) ?_
              exact x_zret dX13_counted_98 rfl (by decide) ⟨_, _, rfl, rfl, (by decide), h⟩
        · replace h := h.1 c69
          refine x_iconst_ (v := (0 : Int32)) dX13_counted_72 (by decide) ?_
          exact x_zret dX13_counted_73 rfl (by decide) ⟨_, _, rfl, rfl, (by decide), h⟩
      · replace h := h.1 c33
        refine x_aload_n dX13_counted_36 rfl ?_
        refine x_iconst_ (v := (0 : Int32)) dX13_counted_37 (by decide) ?_
        obtain ⟨R59, g59, h⟩ := h
        refine x_callV hG (Ky := kX13_isWord) (As := [.int (0 : Int32)]) dX13_counted_38 (mo_t hM) rfl lk_X13_263 me_X13_isWord is_X13_isWord se_X13_isWord rfl rfl (Nat.le_of_ble_eq_true rfl) (MX.post (m_X13_isWord hG hM g59) ?_)
        rintro _ _ ⟨v59, I59, rfl, rfl, zv59, h1⟩
        replace h := h v59 I59 zv59 h1
        change X _ _ _ _ (A.wI I59) _ _ (.int v59 :: _)
        obtain ⟨J60, g60, h⟩ := h
        have kj60 : ∀ (y60_s0 : Int32) (I60 : xII), J60 y60_s0 I60 → X G (dp + 717) kX13_counted (oZ A Q) (A.wI I60) 56 [some (.ref m), some (.int (I2 m 15)), none, none, none, none, none] [.int y60_s0] := by
          intro y60_s0 I60 h
          replace h := g60 y60_s0 I60 h
          refine x_istore_n dX13_counted_56 (by decide) ?_
          refine x_iload_n dX13_counted_57 rfl ?_
          refine x_if_ne (tgt := 63) dX13_counted_58 (by decide) (fun c58 => ?_) (fun c58 => ?_)
          · replace h := h.2 c58
            refine x_aload_n dX13_counted_63 rfl ?_
            refine x_bipush_ (v := (29 : Int32)) dX13_counted_64 (by decide) ?_
            obtain ⟨R61, g61, h⟩ := h
            refine x_callV hG (Ky := kX13_sign) (As := [.int (29 : Int32)]) dX13_counted_66 (mo_t hM) rfl lk_X13_273 me_X13_sign is_X13_sign se_X13_sign rfl rfl (Nat.le_of_ble_eq_true rfl) (MX.post (m_X13_sign hG hM g61) ?_)
            rintro _ _ ⟨v61, I61, rfl, rfl, zv61, h1⟩
            replace h := h v61 I61 zv61 h1
            change X _ _ _ _ (A.wI I61) _ _ (.int v61 :: _)
            refine x_if_ne (tgt := 74) dX13_counted_69 (by decide) (fun c69 => ?_) (fun c69 => ?_)
            · replace h := h.2 c69
              refine x_aload_n dX13_counted_74 rfl ?_
              refine x_get (v := .int (I61 m 60)) hG dX13_counted_75 f_X13_276_12 (mo_t hM) rfl ?_
              refine x_istore_n dX13_counted_78 (by decide) ?_
              refine x_iconst_ (v := (-1 : Int32)) dX13_counted_79 (by decide) ?_
              refine x_istore_n dX13_counted_80 (by decide) ?_
              refine x_aload_n dX13_counted_81 rfl ?_
              refine x_bipush_ (v := (29 : Int32)) dX13_counted_82 (by decide) ?_
              obtain ⟨R62, g62, h⟩ := h
              refine x_callV hG (Ky := kX13_isSign) (As := [.int (29 : Int32)]) dX13_counted_84 (mo_t hM) rfl lk_X13_257 me_X13_isSign is_X13_isSign se_X13_isSign rfl rfl (Nat.le_of_ble_eq_true rfl) (MX.post (m_X13_isSign hG hM g62) ?_)
              rintro _ _ ⟨v62, I62, rfl, rfl, zv62, h1⟩
              replace h := h v62 I62 zv62 h1
              change X _ _ _ _ (A.wI I62) _ _ (.int v62 :: _)
              refine x_if_ne (tgt := 108) dX13_counted_87 (by decide) (fun c87 => ?_) (fun c87 => ?_)
              · replace h := h.2 c87
                refine x_aload_n dX13_counted_108 rfl ?_
                refine x_bipush_ (v := (29 : Int32)) dX13_counted_109 (by decide) ?_
                obtain ⟨R63, g63, h⟩ := h
                refine x_callV hG (Ky := kX13_sign) (As := [.int (29 : Int32)]) dX13_counted_111 (mo_t hM) rfl lk_X13_273 me_X13_sign is_X13_sign se_X13_sign rfl rfl (Nat.le_of_ble_eq_true rfl) (MX.post (m_X13_sign hG hM g63) ?_)
                rintro _ _ ⟨v63, I63, rfl, rfl, zv63, h1⟩
                replace h := h v63 I63 zv63 h1
                change X _ _ _ _ (A.wI I63) _ _ (.int v63 :: _)
                refine x_if_ne (tgt := 119) dX13_counted_114 (by decide) (fun c114 => ?_) (fun c114 => ?_)
                · replace h := h.2 c114
                  refine x_aload_n dX13_counted_119 rfl ?_
                  refine x_bipush_ (v := (12 : Int32)) dX13_counted_120 (by decide) ?_
                  refine x_iconst_ (v := (0 : Int32)) dX13_counted_122 (by decide) ?_
                  refine x_iconst_ (v := (0 : Int32)) dX13_counted_123 (by decide) ?_
                  obtain ⟨R64, g64, h⟩ := h
                  refine x_callV hG (Ky := kX13_step) (As := [.int (12 : Int32), .int (0 : Int32), .int (0 : Int32)]) dX13_counted_124 (mo_t hM) rfl lk_X13_401 me_X13_step is_X13_step se_X13_step rfl rfl (Nat.le_of_ble_eq_true rfl) (MX.post (m_X13_step hG hM g64) ?_)
                  rintro _ _ ⟨v64, I64, rfl, rfl, h1⟩
                  replace h := h v64 I64 h1
                  change X _ _ _ _ (A.wI I64) _ _ (.int v64 :: _)
                  refine x_istore dX13_counted_127 (by decide) ?_
                  refine x_aload_n dX13_counted_129 rfl ?_
                  refine x_get (v := .int (I64 m 60)) hG dX13_counted_130 f_X13_276_12 (mo_t hM) rfl ?_
                  refine x_istore dX13_counted_133 (by decide) ?_
                  refine x_aload_n dX13_counted_135 rfl ?_
                  refine x_bipush_ (v := (23 : Int32)) dX13_counted_136 (by decide) ?_
                  obtain ⟨R65, g65, h⟩ := h
                  refine x_callV hG (Ky := kX13_isSign) (As := [.int (23 : Int32)]) dX13_counted_138 (mo_t hM) rfl lk_X13_257 me_X13_isSign is_X13_isSign se_X13_isSign rfl rfl (Nat.le_of_ble_eq_true rfl) (MX.post (m_X13_isSign hG hM g65) ?_)
                  rintro _ _ ⟨v65, I65, rfl, rfl, zv65, h1⟩
                  replace h := h v65 I65 zv65 h1
                  change X _ _ _ _ (A.wI I65) _ _ (.int v65 :: _)
                  refine x_if_ne (tgt := 153) dX13_counted_141 (by decide) (fun c141 => ?_) (fun c141 => ?_)
                  · replace h := h.2 c141
                    refine x_aload_n dX13_counted_153 rfl ?_
                    refine x_bipush_ (v := (23 : Int32)) dX13_counted_154 (by decide) ?_
                    obtain ⟨R66, g66, h⟩ := h
                    refine x_callV hG (Ky := kX13_closeSign) (As := [.int (23 : Int32)]) dX13_counted_156 (mo_t hM) rfl lk_X13_362 me_X13_closeSign is_X13_closeSign se_X13_closeSign rfl rfl (Nat.le_of_ble_eq_true rfl) (MX.post (m_X13_closeSign hG hM g66) ?_)
                    rintro _ _ ⟨v66, I66, rfl, rfl, zv66, h1⟩
                    replace h := h v66 I66 zv66 h1
                    change X _ _ _ _ (A.wI I66) _ _ (.int v66 :: _)
                    refine x_if_ne (tgt := 164) dX13_counted_159 (by decide) (fun c159 => ?_) (fun c159 => ?_)
                    · replace h := h.2 c159
                      refine x_aload_n dX13_counted_164 rfl ?_
                      refine x_bipush_ (v := (12 : Int32)) dX13_counted_165 (by decide) ?_
                      refine x_iload_n dX13_counted_167 rfl ?_
                      refine x_iconst_ (v := (0 : Int32)) dX13_counted_168 (by decide) ?_
                      obtain ⟨R67, g67, h⟩ := h
                      refine x_callV hG (Ky := kX13_step) (As := [.int (12 : Int32), .int (I61 m 60), .int (0 : Int32)]) dX13_counted_169 (mo_t hM) rfl lk_X13_401 me_X13_step is_X13_step se_X13_step rfl rfl (Nat.le_of_ble_eq_true rfl) (MX.post (m_X13_step hG hM g67) ?_)
                      rintro _ _ ⟨v67, I67, rfl, rfl, h1⟩
                      replace h := h v67 I67 h1
                      change X _ _ _ _ (A.wI I67) _ _ (.int v67 :: _)
                      refine x_pop dX13_counted_172 rfl ?_
                      refine x_aload_n dX13_counted_173 rfl ?_
                      refine x_get (v := .ref (m + 33)) hG dX13_counted_174 f_X13_107_12 (mo_t hM) (congrArg va_rf (mo_P57 hM)) ?_
                      refine x_iload dX13_counted_177 rfl ?_
                      refine x_aload_n dX13_counted_179 rfl ?_
                      refine x_get (v := .int (I67 m 60)) hG dX13_counted_180 f_X13_276_12 (mo_t hM) rfl ?_
                      obtain ⟨o68, h⟩ := h
                      refine y_iast hG dX13_counted_183 (mo_t57 hM) (mo_aN hM) (mo_n57 hM) o68 (fun I69 e69 => ?_)
                      replace h := h I69 e69
                      refine x_aload_n dX13_counted_184 rfl ?_
                      refine x_iload dX13_counted_185 rfl ?_
                      obtain ⟨R70, g70, h⟩ := h
                      refine x_callV hG (Ky := kX13_body) (As := [.int (I64 m 60)]) dX13_counted_187 (mo_t hM) rfl lk_X13_451 me_X13_body is_X13_body se_X13_body rfl rfl (Nat.le_of_ble_eq_true rfl) (MX.post (hR.2.2.2.2.1 g70) ?_)
                      rintro _ _ ⟨v70, I70, rfl, rfl, zv70, h1⟩
                      replace h := h v70 I70 zv70 h1
                      change X _ _ _ _ (A.wI I70) _ _ (.int v70 :: _)
                      refine x_if_ne (tgt := 195) dX13_counted_190 (by decide) (fun c190 => ?_) (fun c190 => ?_)
                      · replace h := h.2 c190
                        refine x_aload_n dX13_counted_195 rfl ?_
                        refine x_get (v := .int (I70 m 65)) hG dX13_counted_196 f_X13_448_12 (mo_t hM) rfl ?_
                        refine x_istore dX13_counted_199 (by decide) ?_
                        refine x_aload_n dX13_counted_201 rfl ?_
                        refine x_bipush_ (v := (12 : Int32)) dX13_counted_202 (by decide) ?_
                        refine x_iload dX13_counted_204 rfl ?_
                        refine x_iconst_ (v := (0 : Int32)) dX13_counted_206 (by decide) ?_
                        obtain ⟨R71, g71, h⟩ := h
                        refine x_callV hG (Ky := kX13_step) (As := [.int (12 : Int32), .int (I64 m 60), .int (0 : Int32)]) dX13_counted_207 (mo_t hM) rfl lk_X13_401 me_X13_step is_X13_step se_X13_step rfl rfl (Nat.le_of_ble_eq_true rfl) (MX.post (m_X13_step hG hM g71) ?_)
                        rintro _ _ ⟨v71, I71, rfl, rfl, h1⟩
                        replace h := h v71 I71 h1
                        change X _ _ _ _ (A.wI I71) _ _ (.int v71 :: _)
                        refine x_pop dX13_counted_210 rfl ?_
                        refine x_iload_n dX13_counted_211 rfl ?_
                        refine x_iconst_ (v := (-1 : Int32)) dX13_counted_212 (by decide) ?_
                        refine x_icmp_eq (tgt := 226) dX13_counted_213 (by decide) (fun _ => ?_) (fun h => absurd (by decide) h)
                        refine x_aload_n dX13_counted_226 rfl ?_
                        refine x_iload dX13_counted_227 rfl ?_
                        refine x_aload_n dX13_counted_229 rfl ?_
                        refine x_get (v := .int (I71 m 60)) hG dX13_counted_230 f_X13_276_12 (mo_t hM) rfl ?_
                        obtain ⟨R72, g72, h⟩ := h
                        refine x_callV hG (Ky := kX13_settle) (As := [.int (I70 m 65), .int (I71 m 60)]) dX13_counted_233 (mo_t hM) rfl lk_X13_442 me_X13_settle is_X13_settle se_X13_settle rfl rfl (Nat.le_of_ble_eq_true rfl) (MX.post (m_X13_settle hG hM g72) ?_)
                        rintro _ _ ⟨I72, rfl, rfl, h1⟩
                        replace h := h I72 h1
                        change X _ _ _ _ (A.wI I72) _ _ _
                        refine x_aload_n dX13_counted_236 rfl ?_
                        refine x_iload_n dX13_counted_237 rfl ?_
                        obtain ⟨R73, g73, h⟩ := h
                        refine x_callV hG (Ky := kX13_ends) (As := [.int (I2 m 15)]) dX13_counted_238 (mo_t hM) rfl lk_X13_405 me_X13_ends is_X13_ends se_X13_ends rfl rfl (Nat.le_of_ble_eq_true rfl) (MX.post (m_X13_ends hG hM g73) ?_)
                        rintro _ _ ⟨I73, rfl, rfl, h1⟩
                        replace h := h I73 h1
                        change X _ _ _ _ (A.wI I73) _ _ _
                        refine x_aload_n dX13_counted_241 rfl ?_
                        refine x_dup dX13_counted_242 rfl ?_
                        refine x_get (v := .int (I73 m 43)) hG dX13_counted_243 f_X13_266_12 (mo_t hM) rfl ?_
                        refine x_iconst_ (v := (1 : Int32)) dX13_counted_246 (by decide) ?_
                        refine x_isub dX13_counted_247 ?_
                        refine y_put hG hM dX13_counted_248 f_X13_266_12 ⟨_, rfl, Or.inl rfl⟩ rfl rfl ⟨_, rfl⟩ (fun I74 e74 => ?_)
                        replace h := h I74 e74
                        refine x_iconst_ (v := (1 : Int32)) dX13_counted_251 (by decide) ?_
                        exact x_zret dX13_counted_252 rfl (by decide) ⟨_, _, rfl, rfl, (by decide), h⟩
                      · replace h := h.1 c190
                        refine x_iconst_ (v := (0 : Int32)) dX13_counted_193 (by decide) ?_
                        exact x_zret dX13_counted_194 rfl (by decide) ⟨_, _, rfl, rfl, (by decide), h⟩
                    · replace h := h.1 c159
                      refine x_iconst_ (v := (0 : Int32)) dX13_counted_162 (by decide) ?_
                      exact x_zret dX13_counted_163 rfl (by decide) ⟨_, _, rfl, rfl, (by decide), h⟩
                  · replace h := h.1 c141
                    refine x_aload_n dX13_counted_144 rfl ?_
                    obtain ⟨R75, g75, h⟩ := h
                    refine x_callV hG (Ky := kX13_simple) (As := []) dX13_counted_145 (mo_t hM) rfl lk_X13_411 me_X13_simple is_X13_simple se_X13_simple rfl rfl (Nat.le_of_ble_eq_true rfl) (MX.post (m_X13_simple hG hM g75) ?_)
                    rintro _ _ ⟨v75, I75, rfl, rfl, zv75, h1⟩
                    replace h := h v75 I75 zv75 h1
                    change X _ _ _ _ (A.wI I75) _ _ (.int v75 :: _)
                    refine x_if_ne (tgt := 153) dX13_counted_148 (by decide) (fun c148 => ?_) (fun c148 => ?_)
                    · replace h := h.2 c148
                      refine x_aload_n dX13_counted_153 rfl ?_
                      refine x_bipush_ (v := (23 : Int32)) dX13_counted_154 (by decide) ?_
                      obtain ⟨R76, g76, h⟩ := h
                      refine x_callV hG (Ky := kX13_closeSign) (As := [.int (23 : Int32)]) dX13_counted_156 (mo_t hM) rfl lk_X13_362 me_X13_closeSign is_X13_closeSign se_X13_closeSign rfl rfl (Nat.le_of_ble_eq_true rfl) (MX.post (m_X13_closeSign hG hM g76) ?_)
                      rintro _ _ ⟨v76, I76, rfl, rfl, zv76, h1⟩
                      replace h := h v76 I76 zv76 h1
                      change X _ _ _ _ (A.wI I76) _ _ (.int v76 :: _)
                      refine x_if_ne (tgt := 164) dX13_counted_159 (by decide) (fun c159 => ?_) (fun c159 => ?_)
                      · replace h := h.2 c159
                        refine x_aload_n dX13_counted_164 rfl ?_
                        refine x_bipush_ (v := (12 : Int32)) dX13_counted_165 (by decide) ?_
                        refine x_iload_n dX13_counted_167 rfl ?_
                        refine x_iconst_ (v := (0 : Int32)) dX13_counted_168 (by decide) ?_
                        obtain ⟨R77, g77, h⟩ := h
                        refine x_callV hG (Ky := kX13_step) (As := [.int (12 : Int32), .int (I61 m 60), .int (0 : Int32)]) dX13_counted_169 (mo_t hM) rfl lk_X13_401 me_X13_step is_X13_step se_X13_step rfl rfl (Nat.le_of_ble_eq_true rfl) (MX.post (m_X13_step hG hM g77) ?_)
                        rintro _ _ ⟨v77, I77, rfl, rfl, h1⟩
                        replace h := h v77 I77 h1
                        change X _ _ _ _ (A.wI I77) _ _ (.int v77 :: _)
                        refine x_pop dX13_counted_172 rfl ?_
                        refine x_aload_n dX13_counted_173 rfl ?_
                        refine x_get (v := .ref (m + 33)) hG dX13_counted_174 f_X13_107_12 (mo_t hM) (congrArg va_rf (mo_P57 hM)) ?_
                        refine x_iload dX13_counted_177 rfl ?_
                        refine x_aload_n dX13_counted_179 rfl ?_
                        refine x_get (v := .int (I77 m 60)) hG dX13_counted_180 f_X13_276_12 (mo_t hM) rfl ?_
                        obtain ⟨o78, h⟩ := h
                        refine y_iast hG dX13_counted_183 (mo_t57 hM) (mo_aN hM) (mo_n57 hM) o78 (fun I79 e79 => ?_)
                        replace h := h I79 e79
                        refine x_aload_n dX13_counted_184 rfl ?_
                        refine x_iload dX13_counted_185 rfl ?_
                        obtain ⟨R80, g80, h⟩ := h
                        refine x_callV hG (Ky := kX13_body) (As := [.int (I64 m 60)]) dX13_counted_187 (mo_t hM) rfl lk_X13_451 me_X13_body is_X13_body se_X13_body rfl rfl (Nat.le_of_ble_eq_true rfl) (MX.post (hR.2.2.2.2.1 g80) ?_)
                        rintro _ _ ⟨v80, I80, rfl, rfl, zv80, h1⟩
                        replace h := h v80 I80 zv80 h1
                        change X _ _ _ _ (A.wI I80) _ _ (.int v80 :: _)
                        refine x_if_ne (tgt := 195) dX13_counted_190 (by decide) (fun c190 => ?_) (fun c190 => ?_)
                        · replace h := h.2 c190
                          refine x_aload_n dX13_counted_195 rfl ?_
                          refine x_get (v := .int (I80 m 65)) hG dX13_counted_196 f_X13_448_12 (mo_t hM) rfl ?_
                          refine x_istore dX13_counted_199 (by decide) ?_
                          refine x_aload_n dX13_counted_201 rfl ?_
                          refine x_bipush_ (v := (12 : Int32)) dX13_counted_202 (by decide) ?_
                          refine x_iload dX13_counted_204 rfl ?_
                          refine x_iconst_ (v := (0 : Int32)) dX13_counted_206 (by decide) ?_
                          obtain ⟨R81, g81, h⟩ := h
                          refine x_callV hG (Ky := kX13_step) (As := [.int (12 : Int32), .int (I64 m 60), .int (0 : Int32)]) dX13_counted_207 (mo_t hM) rfl lk_X13_401 me_X13_step is_X13_step se_X13_step rfl rfl (Nat.le_of_ble_eq_true rfl) (MX.post (m_X13_step hG hM g81) ?_)
                          rintro _ _ ⟨v81, I81, rfl, rfl, h1⟩
                          replace h := h v81 I81 h1
                          change X _ _ _ _ (A.wI I81) _ _ (.int v81 :: _)
                          refine x_pop dX13_counted_210 rfl ?_
                          refine x_iload_n dX13_counted_211 rfl ?_
                          refine x_iconst_ (v := (-1 : Int32)) dX13_counted_212 (by decide) ?_
                          refine x_icmp_eq (tgt := 226) dX13_counted_213 (by decide) (fun _ => ?_) (fun h => absurd (by decide) h)
                          refine x_aload_n dX13_counted_226 rfl ?_
                          refine x_iload dX13_counted_227 rfl ?_
                          refine x_aload_n dX13_counted_229 rfl ?_
                          refine x_get (v := .int (I81 m 60)) hG dX13_counted_230 f_X13_276_12 (mo_t hM) rfl ?_
                          obtain ⟨R82, g82, h⟩ := h
                          refine x_callV hG (Ky := kX13_settle) (As := [.int (I80 m 65), .int (I81 m 60)]) dX13_counted_233 (mo_t hM) rfl lk_X13_442 me_X13_settle is_X13_settle se_X13_settle rfl rfl (Nat.le_of_ble_eq_true rfl) (MX.post (m_X13_settle hG hM g82) ?_)
                          rintro _ _ ⟨I82, rfl, rfl, h1⟩
                          replace h := h I82 h1
                          change X _ _ _ _ (A.wI I82) _ _ _
                          refine x_aload_n dX13_counted_236 rfl ?_
                          refine x_iload_n dX13_counted_237 rfl ?_
                          obtain ⟨R83, g83, h⟩ := h
                          refine x_callV hG (Ky := kX13_ends) (As := [.int (I2 m 15)]) dX13_counted_238 (mo_t hM) rfl lk_X13_405 me_X13_ends is_X13_ends se_X13_ends rfl rfl (Nat.le_of_ble_eq_true rfl) (MX.post (m_X13_ends hG hM g83) ?_)
                          rintro _ _ ⟨I83, rfl, rfl, h1⟩
                          replace h := h I83 h1
                          change X _ _ _ _ (A.wI I83) _ _ _
                          refine x_aload_n dX13_counted_241 rfl ?_
                          refine x_dup dX13_counted_242 rfl ?_
                          refine x_get (v := .int (I83 m 43)) hG dX13_counted_243 f_X13_266_12 (mo_t hM) rfl ?_
                          refine x_iconst_ (v := (1 : Int32)) dX13_counted_246 (by decide) ?_
                          refine x_isub dX13_counted_247 ?_
                          refine y_put hG hM dX13_counted_248 f_X13_266_12 ⟨_, rfl, Or.inl rfl⟩ rfl rfl ⟨_, rfl⟩ (fun I84 e84 => ?_)
                          replace h := h I84 e84
                          refine x_iconst_ (v := (1 : Int32)) dX13_counted_251 (by decide) ?_
                          exact x_zret dX13_counted_252 rfl (by decide) ⟨_, _, rfl, rfl, (by decide), h⟩
                        · replace h := h.1 c190
                          refine x_iconst_ (v := (0 : Int32)) dX13_counted_193 (by decide) ?_
                          exact x_zret dX13_counted_194 rfl (by decide) ⟨_, _, rfl, rfl, (by decide), h⟩
                      · replace h := h.1 c159
                        refine x_iconst_ (v := (0 : Int32)) dX13_counted_162 (by decide) ?_
                        exact x_zret dX13_counted_163 rfl (by decide) ⟨_, _, rfl, rfl, (by decide), h⟩
                    · replace h := h.1 c148
                      refine x_iconst_ (v := (0 : Int32)) dX13_counted_151 (by decide) ?_
                      exact x_zret dX13_counted_152 rfl (by decide) ⟨_, _, rfl, rfl, (by decide), h⟩
                · replace h := h.1 c114
                  refine x_iconst_ (v := (0 : Int32)) dX13_counted_117 (by decide) ?_
                  exact x_zret dX13_counted_118 rfl (by decide) ⟨_, _, rfl, rfl, (by decide), h⟩
              · replace h := h.1 c87
                refine x_aload_n dX13_counted_90 rfl ?_
                obtain ⟨R85, g85, h⟩ := h
                refine x_callV hG (Ky := kX13_expression) (As := []) dX13_counted_91 (mo_t hM) rfl lk_X13_368 me_X13_expression is_X13_expression se_X13_expression rfl rfl (Nat.le_of_ble_eq_true rfl) (MX.post ((rc_E hG hM 700).1 g85) ?_)
                rintro _ _ ⟨v85, I85, rfl, rfl, zv85, h1⟩
                replace h := h v85 I85 zv85 h1
                change X _ _ _ _ (A.wI I85) _ _ (.int v85 :: _)
                refine x_if_ne (tgt := 99) dX13_counted_94 (by decide) (fun c94 => ?_) (fun c94 => ?_)
                · replace h := h.2 c94
                  refine x_aload_n dX13_counted_99 rfl ?_
                  refine x_bipush_ (v := (13 : Int32)) dX13_counted_100 (by decide) ?_
                  refine x_iconst_ (v := (0 : Int32)) dX13_counted_102 (by decide) ?_
                  refine x_iconst_ (v := (0 : Int32)) dX13_counted_103 (by decide) ?_
                  obtain ⟨R86, g86, h⟩ := h
                  refine x_callV hG (Ky := kX13_step) (As := [.int (13 : Int32), .int (0 : Int32), .int (0 : Int32)]) dX13_counted_104 (mo_t hM) rfl lk_X13_401 me_X13_step is_X13_step se_X13_step rfl rfl (Nat.le_of_ble_eq_true rfl) (MX.post (m_X13_step hG hM g86) ?_)
                  rintro _ _ ⟨v86, I86, rfl, rfl, h1⟩
                  replace h := h v86 I86 h1
                  change X _ _ _ _ (A.wI I86) _ _ (.int v86 :: _)
                  refine x_istore_n dX13_counted_107 (by decide) ?_
                  refine x_aload_n dX13_counted_108 rfl ?_
                  refine x_bipush_ (v := (29 : Int32)) dX13_counted_109 (by decide) ?_
                  obtain ⟨R87, g87, h⟩ := h
                  refine x_callV hG (Ky := kX13_sign) (As := [.int (29 : Int32)]) dX13_counted_111 (mo_t hM) rfl lk_X13_273 me_X13_sign is_X13_sign se_X13_sign rfl rfl (Nat.le_of_ble_eq_true rfl) (MX.post (m_X13_sign hG hM g87) ?_)
                  rintro _ _ ⟨v87, I87, rfl, rfl, zv87, h1⟩
                  replace h := h v87 I87 zv87 h1
                  change X _ _ _ _ (A.wI I87) _ _ (.int v87 :: _)
                  refine x_if_ne (tgt := 119) dX13_counted_114 (by decide) (fun c114 => ?_) (fun c114 => ?_)
                  · replace h := h.2 c114
                    refine x_aload_n dX13_counted_119 rfl ?_
                    refine x_bipush_ (v := (12 : Int32)) dX13_counted_120 (by decide) ?_
                    refine x_iconst_ (v := (0 : Int32)) dX13_counted_122 (by decide) ?_
                    refine x_iconst_ (v := (0 : Int32)) dX13_counted_123 (by decide) ?_
                    obtain ⟨R88, g88, h⟩ := h
                    refine x_callV hG (Ky := kX13_step) (As := [.int (12 : Int32), .int (0 : Int32), .int (0 : Int32)]) dX13_counted_124 (mo_t hM) rfl lk_X13_401 me_X13_step is_X13_step se_X13_step rfl rfl (Nat.le_of_ble_eq_true rfl) (MX.post (m_X13_step hG hM g88) ?_)
                    rintro _ _ ⟨v88, I88, rfl, rfl, h1⟩
                    replace h := h v88 I88 h1
                    change X _ _ _ _ (A.wI I88) _ _ (.int v88 :: _)
                    refine x_istore dX13_counted_127 (by decide) ?_
                    refine x_aload_n dX13_counted_129 rfl ?_
                    refine x_get (v := .int (I88 m 60)) hG dX13_counted_130 f_X13_276_12 (mo_t hM) rfl ?_
                    refine x_istore dX13_counted_133 (by decide) ?_
                    refine x_aload_n dX13_counted_135 rfl ?_
                    refine x_bipush_ (v := (23 : Int32)) dX13_counted_136 (by decide) ?_
                    obtain ⟨R89, g89, h⟩ := h
                    refine x_callV hG (Ky := kX13_isSign) (As := [.int (23 : Int32)]) dX13_counted_138 (mo_t hM) rfl lk_X13_257 me_X13_isSign is_X13_isSign se_X13_isSign rfl rfl (Nat.le_of_ble_eq_true rfl) (MX.post (m_X13_isSign hG hM g89) ?_)
                    rintro _ _ ⟨v89, I89, rfl, rfl, zv89, h1⟩
                    replace h := h v89 I89 zv89 h1
                    change X _ _ _ _ (A.wI I89) _ _ (.int v89 :: _)
                    refine x_if_ne (tgt := 153) dX13_counted_141 (by decide) (fun c141 => ?_) (fun c141 => ?_)
                    · replace h := h.2 c141
                      refine x_aload_n dX13_counted_153 rfl ?_
                      refine x_bipush_ (v := (23 : Int32)) dX13_counted_154 (by decide) ?_
                      obtain ⟨R90, g90, h⟩ := h
                      refine x_callV hG (Ky := kX13_closeSign) (As := [.int (23 : Int32)]) dX13_counted_156 (mo_t hM) rfl lk_X13_362 me_X13_closeSign is_X13_closeSign se_X13_closeSign rfl rfl (Nat.le_of_ble_eq_true rfl) (MX.post (m_X13_closeSign hG hM g90) ?_)
                      rintro _ _ ⟨v90, I90, rfl, rfl, zv90, h1⟩
                      replace h := h v90 I90 zv90 h1
                      change X _ _ _ _ (A.wI I90) _ _ (.int v90 :: _)
                      refine x_if_ne (tgt := 164) dX13_counted_159 (by decide) (fun c159 => ?_) (fun c159 => ?_)
                      · replace h := h.2 c159
                        refine x_aload_n dX13_counted_164 rfl ?_
                        refine x_bipush_ (v := (12 : Int32)) dX13_counted_165 (by decide) ?_
                        refine x_iload_n dX13_counted_167 rfl ?_
                        refine x_iconst_ (v := (0 : Int32)) dX13_counted_168 (by decide) ?_
                        obtain ⟨R91, g91, h⟩ := h
                        refine x_callV hG (Ky := kX13_step) (As := [.int (12 : Int32), .int (I61 m 60), .int (0 : Int32)]) dX13_counted_169 (mo_t hM) rfl lk_X13_401 me_X13_step is_X13_step se_X13_step rfl rfl (Nat.le_of_ble_eq_true rfl) (MX.post (m_X13_step hG hM g91) ?_)
                        rintro _ _ ⟨v91, I91, rfl, rfl, h1⟩
                        replace h := h v91 I91 h1
                        change X _ _ _ _ (A.wI I91) _ _ (.int v91 :: _)
                        refine x_pop dX13_counted_172 rfl ?_
                        refine x_aload_n dX13_counted_173 rfl ?_
                        refine x_get (v := .ref (m + 33)) hG dX13_counted_174 f_X13_107_12 (mo_t hM) (congrArg va_rf (mo_P57 hM)) ?_
                        refine x_iload dX13_counted_177 rfl ?_
                        refine x_aload_n dX13_counted_179 rfl ?_
                        refine x_get (v := .int (I91 m 60)) hG dX13_counted_180 f_X13_276_12 (mo_t hM) rfl ?_
                        obtain ⟨o92, h⟩ := h
                        refine y_iast hG dX13_counted_183 (mo_t57 hM) (mo_aN hM) (mo_n57 hM) o92 (fun I93 e93 => ?_)
                        replace h := h I93 e93
                        refine x_aload_n dX13_counted_184 rfl ?_
                        refine x_iload dX13_counted_185 rfl ?_
                        obtain ⟨R94, g94, h⟩ := h
                        refine x_callV hG (Ky := kX13_body) (As := [.int (I88 m 60)]) dX13_counted_187 (mo_t hM) rfl lk_X13_451 me_X13_body is_X13_body se_X13_body rfl rfl (Nat.le_of_ble_eq_true rfl) (MX.post (hR.2.2.2.2.1 g94) ?_)
                        rintro _ _ ⟨v94, I94, rfl, rfl, zv94, h1⟩
                        replace h := h v94 I94 zv94 h1
                        change X _ _ _ _ (A.wI I94) _ _ (.int v94 :: _)
                        refine x_if_ne (tgt := 195) dX13_counted_190 (by decide) (fun c190 => ?_) (fun c190 => ?_)
                        · replace h := h.2 c190
                          refine x_aload_n dX13_counted_195 rfl ?_
                          refine x_get (v := .int (I94 m 65)) hG dX13_counted_196 f_X13_448_12 (mo_t hM) rfl ?_
                          refine x_istore dX13_counted_199 (by decide) ?_
                          refine x_aload_n dX13_counted_201 rfl ?_
                          refine x_bipush_ (v := (12 : Int32)) dX13_counted_202 (by decide) ?_
                          refine x_iload dX13_counted_204 rfl ?_
                          refine x_iconst_ (v := (0 : Int32)) dX13_counted_206 (by decide) ?_
                          obtain ⟨R95, g95, h⟩ := h
                          refine x_callV hG (Ky := kX13_step) (As := [.int (12 : Int32), .int (I88 m 60), .int (0 : Int32)]) dX13_counted_207 (mo_t hM) rfl lk_X13_401 me_X13_step is_X13_step se_X13_step rfl rfl (Nat.le_of_ble_eq_true rfl) (MX.post (m_X13_step hG hM g95) ?_)
                          rintro _ _ ⟨v95, I95, rfl, rfl, h1⟩
                          replace h := h v95 I95 h1
                          change X _ _ _ _ (A.wI I95) _ _ (.int v95 :: _)
                          refine x_pop dX13_counted_210 rfl ?_
                          refine x_iload_n dX13_counted_211 rfl ?_
                          refine x_iconst_ (v := (-1 : Int32)) dX13_counted_212 (by decide) ?_
                          obtain ⟨J96, g96, h⟩ := h
                          have kj96 : ∀ (I96 : xII), J96 I96 → X G (dp + 717) kX13_counted (oZ A Q) (A.wI I96) 226 [some (.ref m), some (.int (I2 m 15)), none, none, none, none, some (.int (I94 m 65))] [] := by
                            intro I96 h
                            replace h := g96 I96 h
                            refine x_aload_n dX13_counted_226 rfl ?_
                            refine x_iload dX13_counted_227 rfl ?_
                            refine x_aload_n dX13_counted_229 rfl ?_
                            refine x_get (v := .int (I96 m 60)) hG dX13_counted_230 f_X13_276_12 (mo_t hM) rfl ?_
                            obtain ⟨R97, g97, h⟩ := h
                            refine x_callV hG (Ky := kX13_settle) (As := [.int (I94 m 65), .int (I96 m 60)]) dX13_counted_233 (mo_t hM) rfl lk_X13_442 me_X13_settle is_X13_settle se_X13_settle rfl rfl (Nat.le_of_ble_eq_true rfl) (MX.post (m_X13_settle hG hM g97) ?_)
                            rintro _ _ ⟨I97, rfl, rfl, h1⟩
                            replace h := h I97 h1
                            change X _ _ _ _ (A.wI I97) _ _ _
                            refine x_aload_n dX13_counted_236 rfl ?_
                            refine x_iload_n dX13_counted_237 rfl ?_
                            obtain ⟨R98, g98, h⟩ := h
                            refine x_callV hG (Ky := kX13_ends) (As := [.int (I2 m 15)]) dX13_counted_238 (mo_t hM) rfl lk_X13_405 me_X13_ends is_X13_ends se_X13_ends rfl rfl (Nat.le_of_ble_eq_true rfl) (MX.post (m_X13_ends hG hM g98) ?_)
                            rintro _ _ ⟨I98, rfl, rfl, h1⟩
                            replace h := h I98 h1
                            change X _ _ _ _ (A.wI I98) _ _ _
                            refine x_aload_n dX13_counted_241 rfl ?_
                            refine x_dup dX13_counted_242 rfl ?_
                            refine x_get (v := .int (I98 m 43)) hG dX13_counted_243 f_X13_266_12 (mo_t hM) rfl ?_
                            refine x_iconst_ (v := (1 : Int32)) dX13_counted_246 (by decide) ?_
                            refine x_isub dX13_counted_247 ?_
                            refine y_put hG hM dX13_counted_248 f_X13_266_12 ⟨_, rfl, Or.inl rfl⟩ rfl rfl ⟨_, rfl⟩ (fun I99 e99 => ?_)
                            replace h := h I99 e99
                            refine x_iconst_ (v := (1 : Int32)) dX13_counted_251 (by decide) ?_
                            exact x_zret dX13_counted_252 rfl (by decide) ⟨_, _, rfl, rfl, (by decide), h⟩
                          refine x_icmp_eq (tgt := 226) dX13_counted_213 (by decide) (fun c213 => ?_) (fun c213 => ?_)
                          · replace h := h.1 c213
                            change X _ _ _ _ _ _ [some (.ref m), some (.int (I2 m 15)), some (.int (I61 m 60)), some (.int v86), some (.int v88), some (.int (I88 m 60)), some (.int (I94 m 65))] []
                            exact X.weak (xle_c rfl (xle_c rfl (xle_n (xle_n (xle_n (xle_n (xle_c rfl xle_nil))))))) (kj96 I95 h)
                          · replace h := h.2 c213
                            refine x_aload_n dX13_counted_216 rfl ?_
                            refine x_get (v := .ref (m + 33)) hG dX13_counted_217 f_X13_107_12 (mo_t hM) (congrArg va_rf (mo_P57 hM)) ?_
                            refine x_iload_n dX13_counted_220 rfl ?_
                            refine x_aload_n dX13_counted_221 rfl ?_
                            refine x_get (v := .int (I95 m 60)) hG dX13_counted_222 f_X13_276_12 (mo_t hM) rfl ?_
                            obtain ⟨o100, h⟩ := h
                            refine y_iast hG dX13_counted_225 (mo_t57 hM) (mo_aN hM) (mo_n57 hM) o100 (fun I101 e101 => ?_)
                            replace h := h I101 e101
                            change X _ _ _ _ _ _ [some (.ref m), some (.int (I2 m 15)), some (.int (I61 m 60)), some (.int v86), some (.int v88), some (.int (I88 m 60)), some (.int (I94 m 65))] []
                            exact X.weak (xle_c rfl (xle_c rfl (xle_n (xle_n (xle_n (xle_n (xle_c rfl xle_nil))))))) (kj96 I101 h)
                        · replace h := h.1 c190
                          refine x_iconst_ (v := (0 : Int32)) dX13_counted_193 (by decide) ?_
                          exact x_zret dX13_counted_194 rfl (by decide) ⟨_, _, rfl, rfl, (by decide), h⟩
                      · replace h := h.1 c159
                        refine x_iconst_ (v := (0 : Int32)) dX13_counted_162 (by decide) ?_
                        exact x_zret dX13_counted_163 rfl (by decide) ⟨_, _, rfl, rfl, (by decide), h⟩
                    · replace h := h.1 c141
                      refine x_aload_n dX13_counted_144 rfl ?_
                      obtain ⟨R102, g102, h⟩ := h
                      refine x_callV hG (Ky := kX13_simple) (As := []) dX13_counted_145 (mo_t hM) rfl lk_X13_411 me_X13_simple is_X13_simple se_X13_simple rfl rfl (Nat.le_of_ble_eq_true rfl) (MX.post (m_X13_simple hG hM g102) ?_)
                      rintro _ _ ⟨v102, I102, rfl, rfl, zv102, h1⟩
                      replace h := h v102 I102 zv102 h1
                      change X _ _ _ _ (A.wI I102) _ _ (.int v102 :: _)
                      refine x_if_ne (tgt := 153) dX13_counted_148 (by decide) (fun c148 => ?_) (fun c148 => ?_)
                      · replace h := h.2 c148
                        refine x_aload_n dX13_counted_153 rfl ?_
                        refine x_bipush_ (v := (23 : Int32)) dX13_counted_154 (by decide) ?_
                        obtain ⟨R103, g103, h⟩ := h
                        refine x_callV hG (Ky := kX13_closeSign) (As := [.int (23 : Int32)]) dX13_counted_156 (mo_t hM) rfl lk_X13_362 me_X13_closeSign is_X13_closeSign se_X13_closeSign rfl rfl (Nat.le_of_ble_eq_true rfl) (MX.post (m_X13_closeSign hG hM g103) ?_)
                        rintro _ _ ⟨v103, I103, rfl, rfl, zv103, h1⟩
                        replace h := h v103 I103 zv103 h1
                        change X _ _ _ _ (A.wI I103) _ _ (.int v103 :: _)
                        refine x_if_ne (tgt := 164) dX13_counted_159 (by decide) (fun c159 => ?_) (fun c159 => ?_)
                        · replace h := h.2 c159
                          refine x_aload_n dX13_counted_164 rfl ?_
                          refine x_bipush_ (v := (12 : Int32)) dX13_counted_165 (by decide) ?_
                          refine x_iload_n dX13_counted_167 rfl ?_
                          refine x_iconst_ (v := (0 : Int32)) dX13_counted_168 (by decide) ?_
                          obtain ⟨R104, g104, h⟩ := h
                          refine x_callV hG (Ky := kX13_step) (As := [.int (12 : Int32), .int (I61 m 60), .int (0 : Int32)]) dX13_counted_169 (mo_t hM) rfl lk_X13_401 me_X13_step is_X13_step se_X13_step rfl rfl (Nat.le_of_ble_eq_true rfl) (MX.post (m_X13_step hG hM g104) ?_)
                          rintro _ _ ⟨v104, I104, rfl, rfl, h1⟩
                          replace h := h v104 I104 h1
                          change X _ _ _ _ (A.wI I104) _ _ (.int v104 :: _)
                          refine x_pop dX13_counted_172 rfl ?_
                          refine x_aload_n dX13_counted_173 rfl ?_
                          refine x_get (v := .ref (m + 33)) hG dX13_counted_174 f_X13_107_12 (mo_t hM) (congrArg va_rf (mo_P57 hM)) ?_
                          refine x_iload dX13_counted_177 rfl ?_
                          refine x_aload_n dX13_counted_179 rfl ?_
                          refine x_get (v := .int (I104 m 60)) hG dX13_counted_180 f_X13_276_12 (mo_t hM) rfl ?_
                          obtain ⟨o105, h⟩ := h
                          refine y_iast hG dX13_counted_183 (mo_t57 hM) (mo_aN hM) (mo_n57 hM) o105 (fun I106 e106 => ?_)
                          replace h := h I106 e106
                          refine x_aload_n dX13_counted_184 rfl ?_
                          refine x_iload dX13_counted_185 rfl ?_
                          obtain ⟨R107, g107, h⟩ := h
                          refine x_callV hG (Ky := kX13_body) (As := [.int (I88 m 60)]) dX13_counted_187 (mo_t hM) rfl lk_X13_451 me_X13_body is_X13_body se_X13_body rfl rfl (Nat.le_of_ble_eq_true rfl) (MX.post (hR.2.2.2.2.1 g107) ?_)
                          rintro _ _ ⟨v107, I107, rfl, rfl, zv107, h1⟩
                          replace h := h v107 I107 zv107 h1
                          change X _ _ _ _ (A.wI I107) _ _ (.int v107 :: _)
                          refine x_if_ne (tgt := 195) dX13_counted_190 (by decide) (fun c190 => ?_) (fun c190 => ?_)
                          · replace h := h.2 c190
                            refine x_aload_n dX13_counted_195 rfl ?_
                            refine x_get (v := .int (I107 m 65)) hG dX13_counted_196 f_X13_448_12 (mo_t hM) rfl ?_
                            refine x_istore dX13_counted_199 (by decide) ?_
                            refine x_aload_n dX13_counted_201 rfl ?_
                            refine x_bipush_ (v := (12 : Int32)) dX13_counted_202 (by decide) ?_
                            refine x_iload dX13_counted_204 rfl ?_
                            refine x_iconst_ (v := (0 : Int32)) dX13_counted_206 (by decide) ?_
                            obtain ⟨R108, g108, h⟩ := h
                            refine x_callV hG (Ky := kX13_step) (As := [.int (12 : Int32), .int (I88 m 60), .int (0 : Int32)]) dX13_counted_207 (mo_t hM) rfl lk_X13_401 me_X13_step is_X13_step se_X13_step rfl rfl (Nat.le_of_ble_eq_true rfl) (MX.post (m_X13_step hG hM g108) ?_)
                            rintro _ _ ⟨v108, I108, rfl, rfl, h1⟩
                            replace h := h v108 I108 h1
                            change X _ _ _ _ (A.wI I108) _ _ (.int v108 :: _)
                            refine x_pop dX13_counted_210 rfl ?_
                            refine x_iload_n dX13_counted_211 rfl ?_
                            refine x_iconst_ (v := (-1 : Int32)) dX13_counted_212 (by decide) ?_
                            obtain ⟨J109, g109, h⟩ := h
                            have kj109 : ∀ (I109 : xII), J109 I109 → X G (dp + 717) kX13_counted (oZ A Q) (A.wI I109) 226 [some (.ref m), some (.int (I2 m 15)), none, none, none, none, some (.int (I107 m 65))] [] := by
                              intro I109 h
                              replace h := g109 I109 h
                              refine x_aload_n dX13_counted_226 rfl ?_
                              refine x_iload dX13_counted_227 rfl ?_
                              refine x_aload_n dX13_counted_229 rfl ?_
                              refine x_get (v := .int (I109 m 60)) hG dX13_counted_230 f_X13_276_12 (mo_t hM) rfl ?_
                              obtain ⟨R110, g110, h⟩ := h
                              refine x_callV hG (Ky := kX13_settle) (As := [.int (I107 m 65), .int (I109 m 60)]) dX13_counted_233 (mo_t hM) rfl lk_X13_442 me_X13_settle is_X13_settle se_X13_settle rfl rfl (Nat.le_of_ble_eq_true rfl) (MX.post (m_X13_settle hG hM g110) ?_)
                              rintro _ _ ⟨I110, rfl, rfl, h1⟩
                              replace h := h I110 h1
                              change X _ _ _ _ (A.wI I110) _ _ _
                              refine x_aload_n dX13_counted_236 rfl ?_
                              refine x_iload_n dX13_counted_237 rfl ?_
                              obtain ⟨R111, g111, h⟩ := h
                              refine x_callV hG (Ky := kX13_ends) (As := [.int (I2 m 15)]) dX13_counted_238 (mo_t hM) rfl lk_X13_405 me_X13_ends is_X13_ends se_X13_ends rfl rfl (Nat.le_of_ble_eq_true rfl) (MX.post (m_X13_ends hG hM g111) ?_)
                              rintro _ _ ⟨I111, rfl, rfl, h1⟩
                              replace h := h I111 h1
                              change X _ _ _ _ (A.wI I111) _ _ _
                              refine x_aload_n dX13_counted_241 rfl ?_
                              refine x_dup dX13_counted_242 rfl ?_
                              refine x_get (v := .int (I111 m 43)) hG dX13_counted_243 f_X13_266_12 (mo_t hM) rfl ?_
                              refine x_iconst_ (v := (1 : Int32)) dX13_counted_246 (by decide) ?_
                              refine x_isub dX13_counted_247 ?_
                              refine y_put hG hM dX13_counted_248 f_X13_266_12 ⟨_, rfl, Or.inl rfl⟩ rfl rfl ⟨_, rfl⟩ (fun I112 e112 => ?_)
                              replace h := h I112 e112
                              refine x_iconst_ (v := (1 : Int32)) dX13_counted_251 (by decide) ?_
                              exact x_zret dX13_counted_252 rfl (by decide) ⟨_, _, rfl, rfl, (by decide), h⟩
                            refine x_icmp_eq (tgt := 226) dX13_counted_213 (by decide) (fun c213 => ?_) (fun c213 => ?_)
                            · replace h := h.1 c213
                              change X _ _ _ _ _ _ [some (.ref m), some (.int (I2 m 15)), some (.int (I61 m 60)), some (.int v86), some (.int v88), some (.int (I88 m 60)), some (.int (I107 m 65))] []
                              exact X.weak (xle_c rfl (xle_c rfl (xle_n (xle_n (xle_n (xle_n (xle_c rfl xle_nil))))))) (kj109 I108 h)
                            · replace h := h.2 c213
                              refine x_aload_n dX13_counted_216 rfl ?_
                              refine x_get (v := .ref (m + 33)) hG dX13_counted_217 f_X13_107_12 (mo_t hM) (congrArg va_rf (mo_P57 hM)) ?_
                              refine x_iload_n dX13_counted_220 rfl ?_
                              refine x_aload_n dX13_counted_221 rfl ?_
                              refine x_get (v := .int (I108 m 60)) hG dX13_counted_222 f_X13_276_12 (mo_t hM) rfl ?_
                              obtain ⟨o113, h⟩ := h
                              refine y_iast hG dX13_counted_225 (mo_t57 hM) (mo_aN hM) (mo_n57 hM) o113 (fun I114 e114 => ?_)
                              replace h := h I114 e114
                              change X _ _ _ _ _ _ [some (.ref m), some (.int (I2 m 15)), some (.int (I61 m 60)), some (.int v86), some (.int v88), some (.int (I88 m 60)), some (.int (I107 m 65))] []
                              exact X.weak (xle_c rfl (xle_c rfl (xle_n (xle_n (xle_n (xle_n (xle_c rfl xle_nil))))))) (kj109 I114 h)
                          · replace h := h.1 c190
                            refine x_iconst_ (v := (0 : Int32)) dX13_counted_193 (by decide) ?_
                            exact x_zret dX13_counted_194 rfl (by decide) ⟨_, _, rfl, rfl, (by decide), h⟩
                        · replace h := h.1 c159
                          refine x_iconst_ (v := (0 : Int32)) dX13_counted_162 (by decide) ?_
                          exact x_zret dX13_counted_163 rfl (by decide) ⟨_, _, rfl, rfl, (by decide), h⟩
                      · replace h := h.1 c148
                        refine x_iconst_ (v := (0 : Int32)) dX13_counted_151 (by decide) ?_
                        exact x_zret dX13_counted_152 rfl (by decide) ⟨_, _, rfl, rfl, (by decide), h⟩
                  · replace h := h.1 c114
                    refine x_iconst_ (v := (0 : Int32)) dX13_counted_117 (by decide) ?_
                    exact x_zret dX13_counted_118 rfl (by decide) ⟨_, _, rfl, rfl, (by decide), h⟩
                · replace h := h.1 c94
                  refine x_iconst_ (v := (0 : Int32)) dX13_counted_97 (by decide) ?_
                  exact x_zret dX13_counted_98 rfl (by decide) ⟨_, _, rfl, rfl, (by decide), h⟩
            · replace h := h.1 c69
              refine x_iconst_ (v := (0 : Int32)) dX13_counted_72 (by decide) ?_
              exact x_zret dX13_counted_73 rfl (by decide) ⟨_, _, rfl, rfl, (by decide), h⟩
          · replace h := h.1 c58
            refine x_iconst_ (v := (0 : Int32)) dX13_counted_61 (by decide) ?_
            exact x_zret dX13_counted_62 rfl (by decide) ⟨_, _, rfl, rfl, (by decide), h⟩
        refine x_if_eq (tgt := 52) dX13_counted_41 (by decide) (fun c41 => ?_) (fun c41 => ?_)
        · replace h := h.1 c41
          refine x_aload_n dX13_counted_52 rfl ?_
          obtain ⟨R115, g115, h⟩ := h
          refine x_callV hG (Ky := kX13_simple) (As := []) dX13_counted_53 (mo_t hM) rfl lk_X13_411 me_X13_simple is_X13_simple se_X13_simple rfl rfl (Nat.le_of_ble_eq_true rfl) (MX.post (m_X13_simple hG hM g115) ?_)
          rintro _ _ ⟨v115, I115, rfl, rfl, zv115, h1⟩
          replace h := h v115 I115 zv115 h1
          change X _ _ _ _ (A.wI I115) _ _ (.int v115 :: _)
          change X _ _ _ _ _ _ [some (.ref m), some (.int (I2 m 15)), none, none, none, none, none] [.int v115]
          exact X.weak (xle_c rfl (xle_c rfl (xle_n (xle_n (xle_n (xle_n (xle_n xle_nil))))))) (kj60 v115 I115 h)
        · replace h := h.2 c41
          refine x_aload_n dX13_counted_44 rfl ?_
          refine x_iconst_ (v := (0 : Int32)) dX13_counted_45 (by decide) ?_
          obtain ⟨R116, g116, h⟩ := h
          refine x_callV hG (Ky := kX13_tellHere) (As := [.int (0 : Int32)]) dX13_counted_46 (mo_t hM) rfl lk_X13_414 me_X13_tellHere is_X13_tellHere se_X13_tellHere rfl rfl (Nat.le_of_ble_eq_true rfl) (MX.post (m_X13_tellHere hG hM g116) ?_)
          rintro _ _ ⟨v116, I116, rfl, rfl, zv116, h1⟩
          replace h := h v116 I116 zv116 h1
          change X _ _ _ _ (A.wI I116) _ _ (.int v116 :: _)
          refine x_goto (tgt := 56) dX13_counted_49 (by decide) ?_
          change X _ _ _ _ _ _ [some (.ref m), some (.int (I2 m 15)), none, none, none, none, none] [.int v116]
          exact X.weak (xle_c rfl (xle_c rfl (xle_n (xle_n (xle_n (xle_n (xle_n xle_nil))))))) (kj60 v116 I116 h)
    · replace h := h.1 c13
      refine x_iconst_ (v := (0 : Int32)) dX13_counted_16 (by decide) ?_
      exact x_zret dX13_counted_17 rfl (by decide) ⟨_, _, rfl, rfl, (by decide), h⟩
def rs_S (Rk : Nat → Int32 → Int32 → (Int32 → xII → Prop) → xII → Prop) (m q : Nat) (a0 a1 : Int32) (Q : Int32 → xII → Prop) (I : xII) : Prop := if q = 0 then w_X13_statement Rk m Q I else if q = 1 then w_X13_block Rk m Q I else if q = 2 then w_X13_scoped Rk m Q I else if q = 3 then w_X13_choice Rk m Q I else if q = 4 then w_X13_body Rk m a0 Q I else if q = 5 then w_X13_loop Rk m Q I else if q = 6 then w_X13_turnLoop Rk m Q I else if q = 7 then w_X13_counted Rk m Q I else False
def ro_S (m : Nat) : Nat → Nat → Int32 → Int32 → (Int32 → xII → Prop) → xII → Prop
  | 0 => fun _ _ _ _ _ => False
  | n + 1 => rs_S (ro_S m n) m
theorem rq_S_0 {m n : Nat} {a0 a1 : Int32} {Q : Int32 → xII → Prop} {I : xII} : ro_S m (n + 1) 0 a0 a1 Q I = w_X13_statement (ro_S m n) m Q I := by
  show rs_S _ _ _ _ _ _ _ = _
  unfold rs_S
  rw [if_pos (show (0 : Nat) = 0 from rfl)]
theorem rq_S_1 {m n : Nat} {a0 a1 : Int32} {Q : Int32 → xII → Prop} {I : xII} : ro_S m (n + 1) 1 a0 a1 Q I = w_X13_block (ro_S m n) m Q I := by
  show rs_S _ _ _ _ _ _ _ = _
  unfold rs_S
  rw [if_neg (show ¬ (1 : Nat) = 0 by decide), if_pos (show (1 : Nat) = 1 from rfl)]
theorem rq_S_2 {m n : Nat} {a0 a1 : Int32} {Q : Int32 → xII → Prop} {I : xII} : ro_S m (n + 1) 2 a0 a1 Q I = w_X13_scoped (ro_S m n) m Q I := by
  show rs_S _ _ _ _ _ _ _ = _
  unfold rs_S
  rw [if_neg (show ¬ (2 : Nat) = 0 by decide), if_neg (show ¬ (2 : Nat) = 1 by decide), if_pos (show (2 : Nat) = 2 from rfl)]
theorem rq_S_3 {m n : Nat} {a0 a1 : Int32} {Q : Int32 → xII → Prop} {I : xII} : ro_S m (n + 1) 3 a0 a1 Q I = w_X13_choice (ro_S m n) m Q I := by
  show rs_S _ _ _ _ _ _ _ = _
  unfold rs_S
  rw [if_neg (show ¬ (3 : Nat) = 0 by decide), if_neg (show ¬ (3 : Nat) = 1 by decide), if_neg (show ¬ (3 : Nat) = 2 by decide), if_pos (show (3 : Nat) = 3 from rfl)]
theorem rq_S_4 {m n : Nat} {a0 a1 : Int32} {Q : Int32 → xII → Prop} {I : xII} : ro_S m (n + 1) 4 a0 a1 Q I = w_X13_body (ro_S m n) m a0 Q I := by
  show rs_S _ _ _ _ _ _ _ = _
  unfold rs_S
  rw [if_neg (show ¬ (4 : Nat) = 0 by decide), if_neg (show ¬ (4 : Nat) = 1 by decide), if_neg (show ¬ (4 : Nat) = 2 by decide), if_neg (show ¬ (4 : Nat) = 3 by decide), if_pos (show (4 : Nat) = 4 from rfl)]
theorem rq_S_5 {m n : Nat} {a0 a1 : Int32} {Q : Int32 → xII → Prop} {I : xII} : ro_S m (n + 1) 5 a0 a1 Q I = w_X13_loop (ro_S m n) m Q I := by
  show rs_S _ _ _ _ _ _ _ = _
  unfold rs_S
  rw [if_neg (show ¬ (5 : Nat) = 0 by decide), if_neg (show ¬ (5 : Nat) = 1 by decide), if_neg (show ¬ (5 : Nat) = 2 by decide), if_neg (show ¬ (5 : Nat) = 3 by decide), if_neg (show ¬ (5 : Nat) = 4 by decide), if_pos (show (5 : Nat) = 5 from rfl)]
theorem rq_S_6 {m n : Nat} {a0 a1 : Int32} {Q : Int32 → xII → Prop} {I : xII} : ro_S m (n + 1) 6 a0 a1 Q I = w_X13_turnLoop (ro_S m n) m Q I := by
  show rs_S _ _ _ _ _ _ _ = _
  unfold rs_S
  rw [if_neg (show ¬ (6 : Nat) = 0 by decide), if_neg (show ¬ (6 : Nat) = 1 by decide), if_neg (show ¬ (6 : Nat) = 2 by decide), if_neg (show ¬ (6 : Nat) = 3 by decide), if_neg (show ¬ (6 : Nat) = 4 by decide), if_neg (show ¬ (6 : Nat) = 5 by decide), if_pos (show (6 : Nat) = 6 from rfl)]
theorem rq_S_7 {m n : Nat} {a0 a1 : Int32} {Q : Int32 → xII → Prop} {I : xII} : ro_S m (n + 1) 7 a0 a1 Q I = w_X13_counted (ro_S m n) m Q I := by
  show rs_S _ _ _ _ _ _ _ = _
  unfold rs_S
  rw [if_neg (show ¬ (7 : Nat) = 0 by decide), if_neg (show ¬ (7 : Nat) = 1 by decide), if_neg (show ¬ (7 : Nat) = 2 by decide), if_neg (show ¬ (7 : Nat) = 3 by decide), if_neg (show ¬ (7 : Nat) = 4 by decide), if_neg (show ¬ (7 : Nat) = 5 by decide), if_neg (show ¬ (7 : Nat) = 6 by decide), if_pos (show (7 : Nat) = 7 from rfl)]
theorem rc_S (hG : xOK G) {dp : Nat} {A : xA} {m : Nat} (hM : xMo G A m) : ∀ n, xRC_S G (dp + n + 716) A m (ro_S m n)
  | 0 => ⟨fun h => False.elim h, fun h => False.elim h, fun h => False.elim h, fun h => False.elim h, fun h => False.elim h, fun h => False.elim h, fun h => False.elim h, fun h => False.elim h⟩
  | n + 1 => ⟨fun h => m_X13_statement (dp := dp + n) hG hM (rc_S hG hM n) (rq_S_0.mp h),
    fun h => m_X13_block (dp := dp + n) hG hM (rc_S hG hM n) (rq_S_1.mp h),
    fun h => m_X13_scoped (dp := dp + n) hG hM (rc_S hG hM n) (rq_S_2.mp h),
    fun h => m_X13_choice (dp := dp + n) hG hM (rc_S hG hM n) (rq_S_3.mp h),
    fun h => m_X13_body (dp := dp + n) hG hM (rc_S hG hM n) (rq_S_4.mp h),
    fun h => m_X13_loop (dp := dp + n) hG hM (rc_S hG hM n) (rq_S_5.mp h),
    fun h => m_X13_turnLoop (dp := dp + n) hG hM (rc_S hG hM n) (rq_S_6.mp h),
    fun h => m_X13_counted (dp := dp + n) hG hM (rc_S hG hM n) (rq_S_7.mp h)⟩
def g_X13_statement (m : Nat) (Q : Int32 → xII → Prop) (I : xII) : Prop := ro_S m 200 0 0 0 Q I
def g_X13_block (m : Nat) (Q : Int32 → xII → Prop) (I : xII) : Prop := ro_S m 200 1 0 0 Q I
def g_X13_scoped (m : Nat) (Q : Int32 → xII → Prop) (I : xII) : Prop := ro_S m 200 2 0 0 Q I
def g_X13_choice (m : Nat) (Q : Int32 → xII → Prop) (I : xII) : Prop := ro_S m 200 3 0 0 Q I
def g_X13_body (m : Nat) (a : Int32) (Q : Int32 → xII → Prop) (I : xII) : Prop := ro_S m 200 4 a 0 Q I
def g_X13_loop (m : Nat) (Q : Int32 → xII → Prop) (I : xII) : Prop := ro_S m 200 5 0 0 Q I
def g_X13_turnLoop (m : Nat) (Q : Int32 → xII → Prop) (I : xII) : Prop := ro_S m 200 6 0 0 Q I
def g_X13_counted (m : Nat) (Q : Int32 → xII → Prop) (I : xII) : Prop := ro_S m 200 7 0 0 Q I
end W036
