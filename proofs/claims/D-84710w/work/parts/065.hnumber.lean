/-! ===== 065.hnumber (tools/h045.py) ===== -/
set_option maxRecDepth 100000
section W065
variable {G : xG}
def w_X8_keep (G : xG) (p : Nat) (x : Option Nat) (Q : xA → Prop) (A : xA) : Prop := xok G A → A.tg p = 8 ∧ (∃ b3 : Nat, (A.P p 36) = some b3 ∧ (A.tg b3 = 37 ∧ (∃ R2 : Option Nat → xA → Prop, w_J5_set G b3 (A.I p 37) x R2 A ∧ (∀ (v2 : Option Nat) (A2 : xA), xok G A2 → R2 v2 A2 → (A2.tg p = 8 ∧ (∀ A6 : xA, A6 = A2.setI p 37 ((A2.I p 37) + (1 : Int32)) → (Q A6)))))))
theorem m_X8_keep (hG : xOK G) (hO : xHO G) {dp : Nat} {p : Nat} {x : Option Nat} {Q : xA → Prop} {A : xA} (h : w_X8_keep G p x Q A) : MX G (dp + 3) kX8_keep [.ref p, va_rf x] A (hV Q) := by
  unfold w_X8_keep at h
  refine MX.of rfl (by cases x <;> exact Nat.le_of_ble_eq_true rfl) ?_
  refine X.lvs (lv' := [some (.ref p), some (va_rf x)]) (by cases x <;> rfl) ?_
  refine X.xok (fun w0 => ?_)
  replace h := h w0
  refine x_aload_n dX8_keep_0 rfl ?_
  obtain ⟨o1, h⟩ := h
  refine x_get (v := va_rf (A.P p 36)) hG dX8_keep_1 f_X8_238_7 o1 rfl ?_
  refine x_aload_n dX8_keep_4 rfl ?_
  refine x_get (v := .int (A.I p 37)) hG dX8_keep_5 f_X8_241_7 o1 rfl ?_
  refine x_aloadq_n dX8_keep_8 rfl ?_
  obtain ⟨b3, e3, h⟩ := h
  rw [e3]
  obtain ⟨o4, h⟩ := h
  obtain ⟨R2, g2, h⟩ := h
  refine x_callV hG (Ky := kJ5_set) (As := [.int (A.I p 37), va_rf x]) dX8_keep_9 o4 rfl lk_X8_145 me_J5_set is_J5_set se_J5_set rfl rfl (Nat.le_of_ble_eq_true rfl) (MX.post (m_w_J5_set hG hO g2) ?_)
  rintro _ A2 ⟨v2, rfl, h1⟩
  refine X.xok (fun w2 => ?_)
  replace h := h v2 A2 w2 h1
  change X _ _ _ _ A2 _ _ [va_rf v2]
  refine x_pop dX8_keep_12 (va_rf_cat _) ?_
  refine x_aload_n dX8_keep_13 rfl ?_
  refine x_dup dX8_keep_14 rfl ?_
  obtain ⟨o5, h⟩ := h
  refine x_get (v := .int (A2.I p 37)) hG dX8_keep_15 f_X8_241_7 o5 rfl ?_
  refine x_iconst_ (v := (1 : Int32)) dX8_keep_18 (by decide) ?_
  refine x_iadd dX8_keep_19 ?_
  refine z_putI hG hO.1 dX8_keep_20 f_X8_241_7 ⟨_, rfl, Or.inl rfl⟩ o5 (by decide) rfl rfl ⟨_, rfl⟩ (fun A6 e6 => ?_)
  replace h := h A6 e6
  exact x_vret dX8_keep_23 rfl ⟨rfl, h⟩
def w_X8_begin (G : xG) (p : Nat) (r : Int32) (Q : xA → Prop) (A : xA) : Prop := xok G A → A.tg p = 8 ∧ (∀ A2 : xA, A2 = A.setI p 14 ((A.I p 14) + (1 : Int32)) → (∀ A3 : xA, A3 = A2.setI p 13 (0 : Int32) → (∀ A4 : xA, A4 = A3.setI p 15 (0 : Int32) → (∀ A5 : xA, A5 = A4.setI p 16 (0 : Int32) → (∀ A6 : xA, A6 = A5.setI p 17 (0 : Int32) → (∀ A7 : xA, A7 = A6.setI p 18 (0 : Int32) → (∃ b8 : Nat, (A.P p 21) = some b8 ∧ (A7.tg b8 = 200 ∧ ((((nI (A7.ln b8)) < r → rmA G A7 (f_J11_max r ((2 : Int32) * (nI (A7.ln b8)))) ∧ (∀ A11 : xA, A11 = A7.new 200 (ix (f_J11_max r ((2 : Int32) * (nI (A7.ln b8))))) (ix (f_J11_max r ((2 : Int32) * (nI (A7.ln b8))))) 0 → (∀ A12 : xA, A12 = A11.setP p 21 (some A7.n) → (rmA G A12 (f_J11_max r ((2 : Int32) * (nI (A7.ln b8)))) ∧ (∀ A14 : xA, A14 = A12.new 200 (ix (f_J11_max r ((2 : Int32) * (nI (A7.ln b8))))) (ix (f_J11_max r ((2 : Int32) * (nI (A7.ln b8))))) 0 → (∀ A15 : xA, A15 = A14.setP p 22 (some A12.n) → (rmA G A15 (f_J11_max r ((2 : Int32) * (nI (A7.ln b8)))) ∧ (∀ A17 : xA, A17 = A15.new 203 (ix (f_J11_max r ((2 : Int32) * (nI (A7.ln b8))))) (ix (f_J11_max r ((2 : Int32) * (nI (A7.ln b8))))) 0 → (∀ A18 : xA, A18 = A17.setP p 34 (some A15.n) → (rmA G A18 (f_J11_max r ((2 : Int32) * (nI (A7.ln b8)))) ∧ (∀ A20 : xA, A20 = A18.new 200 (ix (f_J11_max r ((2 : Int32) * (nI (A7.ln b8))))) (ix (f_J11_max r ((2 : Int32) * (nI (A7.ln b8))))) 0 → (∀ A21 : xA, A21 = A20.setP p 23 (some A18.n) → (rmA G A21 (f_J11_max r ((2 : Int32) * (nI (A7.ln b8)))) ∧ (∀ A23 : xA, A23 = A21.new 200 (ix (f_J11_max r ((2 : Int32) * (nI (A7.ln b8))))) (ix (f_J11_max r ((2 : Int32) * (nI (A7.ln b8))))) 0 → (∀ A24 : xA, A24 = A23.setP p 24 (some A21.n) → (rmA G A24 (f_J11_max r ((2 : Int32) * (nI (A7.ln b8)))) ∧ (∀ A26 : xA, A26 = A24.new 200 (ix (f_J11_max r ((2 : Int32) * (nI (A7.ln b8))))) (ix (f_J11_max r ((2 : Int32) * (nI (A7.ln b8))))) 0 → (∀ A27 : xA, A27 = A26.setP p 25 (some A24.n) → (rmA G A27 (f_J11_max r ((2 : Int32) * (nI (A7.ln b8)))) ∧ (∀ A29 : xA, A29 = A27.new 200 (ix (f_J11_max r ((2 : Int32) * (nI (A7.ln b8))))) (ix (f_J11_max r ((2 : Int32) * (nI (A7.ln b8))))) 0 → (∀ A30 : xA, A30 = A29.setP p 26 (some A27.n) → (rmA G A30 (f_J11_max r ((2 : Int32) * (nI (A7.ln b8)))) ∧ (∀ A32 : xA, A32 = A30.new 200 (ix (f_J11_max r ((2 : Int32) * (nI (A7.ln b8))))) (ix (f_J11_max r ((2 : Int32) * (nI (A7.ln b8))))) 0 → (∀ A33 : xA, A33 = A32.setP p 27 (some A30.n) → (rmA G A33 (f_J11_max r ((2 : Int32) * (nI (A7.ln b8)))) ∧ (∀ A35 : xA, A35 = A33.new 200 (ix (f_J11_max r ((2 : Int32) * (nI (A7.ln b8))))) (ix (f_J11_max r ((2 : Int32) * (nI (A7.ln b8))))) 0 → (∀ A36 : xA, A36 = A35.setP p 28 (some A33.n) → (rmA G A36 (f_J11_max r ((2 : Int32) * (nI (A7.ln b8)))) ∧ (∀ A38 : xA, A38 = A36.new 200 (ix (f_J11_max r ((2 : Int32) * (nI (A7.ln b8))))) (ix (f_J11_max r ((2 : Int32) * (nI (A7.ln b8))))) 0 → (∀ A39 : xA, A39 = A38.setP p 29 (some A36.n) → (rmA G A39 (f_J11_max r ((2 : Int32) * (nI (A7.ln b8)))) ∧ (∀ A41 : xA, A41 = A39.new 200 (ix (f_J11_max r ((2 : Int32) * (nI (A7.ln b8))))) (ix (f_J11_max r ((2 : Int32) * (nI (A7.ln b8))))) 0 → (∀ A42 : xA, A42 = A41.setP p 30 (some A39.n) → (rmA G A42 (f_J11_max r ((2 : Int32) * (nI (A7.ln b8)))) ∧ (∀ A44 : xA, A44 = A42.new 206 (ix (f_J11_max r ((2 : Int32) * (nI (A7.ln b8))))) (ix (f_J11_max r ((2 : Int32) * (nI (A7.ln b8))))) 0 → (∀ A45 : xA, A45 = A44.setP p 35 (some A42.n) → (rmA G A45 (f_J11_max r ((2 : Int32) * (nI (A7.ln b8)))) ∧ (∀ A47 : xA, A47 = A45.new 200 (ix (f_J11_max r ((2 : Int32) * (nI (A7.ln b8))))) (ix (f_J11_max r ((2 : Int32) * (nI (A7.ln b8))))) 0 → (∀ A48 : xA, A48 = A47.setP p 31 (some A45.n) → (rmA G A48 (f_J11_max r ((2 : Int32) * (nI (A7.ln b8)))) ∧ (∀ A50 : xA, A50 = A48.new 200 (ix (f_J11_max r ((2 : Int32) * (nI (A7.ln b8))))) (ix (f_J11_max r ((2 : Int32) * (nI (A7.ln b8))))) 0 → (∀ A51 : xA, A51 = A50.setP p 32 (some A48.n) → (rmA G A51 (f_J11_max r ((2 : Int32) * (nI (A7.ln b8)))) ∧ (∀ A53 : xA, A53 = A51.new 200 (ix (f_J11_max r ((2 : Int32) * (nI (A7.ln b8))))) (ix (f_J11_max r ((2 : Int32) * (nI (A7.ln b8))))) 0 → (∀ A54 : xA, A54 = A53.setP p 33 (some A51.n) → (Q A54)))))))))))))))))))))))))))))))))))))))))))))) ∧ (¬ (nI (A7.ln b8)) < r → Q A7)))))))))))
theorem m_X8_begin (hG : xOK G) (hO : xHO G) {dp : Nat} {p : Nat} {r : Int32} {Q : xA → Prop} {A : xA} (h : w_X8_begin G p r Q A) : MX G (dp + 1) kX8_begin [.ref p, .int r] A (hV Q) := by
  unfold w_X8_begin at h
  refine MX.of rfl (Nat.le_of_ble_eq_true rfl) ?_
  change X _ _ _ _ _ _ [some (.ref p), some (.int r), none] _
  refine X.xok (fun w0 => ?_)
  replace h := h w0
  refine x_aload_n dX8_begin_0 rfl ?_
  refine x_dup dX8_begin_1 rfl ?_
  obtain ⟨o1, h⟩ := h
  refine x_get (v := .int (A.I p 14)) hG dX8_begin_2 f_X8_219_7 o1 rfl ?_
  refine x_iconst_ (v := (1 : Int32)) dX8_begin_5 (by decide) ?_
  refine x_iadd dX8_begin_6 ?_
  refine z_putI hG hO.1 dX8_begin_7 f_X8_219_7 ⟨_, rfl, Or.inl rfl⟩ o1 (by decide) rfl rfl ⟨_, rfl⟩ (fun A2 e2 => ?_)
  replace h := h A2 e2
  refine x_aload_n dX8_begin_10 rfl ?_
  refine x_iconst_ (v := (0 : Int32)) dX8_begin_11 (by decide) ?_
  refine z_putI hG hO.1 dX8_begin_12 f_X8_248_7 ⟨_, rfl, Or.inl rfl⟩ (kI e2 o1) (by decide) rfl rfl ⟨_, rfl⟩ (fun A3 e3 => ?_)
  replace h := h A3 e3
  refine x_aload_n dX8_begin_15 rfl ?_
  refine x_iconst_ (v := (0 : Int32)) dX8_begin_16 (by decide) ?_
  refine z_putI hG hO.1 dX8_begin_17 f_X8_251_7 ⟨_, rfl, Or.inl rfl⟩ (kI e3 (kI e2 o1)) (by decide) rfl rfl ⟨_, rfl⟩ (fun A4 e4 => ?_)
  replace h := h A4 e4
  refine x_aload_n dX8_begin_20 rfl ?_
  refine x_iconst_ (v := (0 : Int32)) dX8_begin_21 (by decide) ?_
  refine z_putI hG hO.1 dX8_begin_22 f_X8_254_7 ⟨_, rfl, Or.inl rfl⟩ (kI e4 (kI e3 (kI e2 o1))) (by decide) rfl rfl ⟨_, rfl⟩ (fun A5 e5 => ?_)
  replace h := h A5 e5
  refine x_aload_n dX8_begin_25 rfl ?_
  refine x_iconst_ (v := (0 : Int32)) dX8_begin_26 (by decide) ?_
  refine z_putI hG hO.1 dX8_begin_27 f_X8_257_7 ⟨_, rfl, Or.inl rfl⟩ (kI e5 (kI e4 (kI e3 (kI e2 o1)))) (by decide) rfl rfl ⟨_, rfl⟩ (fun A6 e6 => ?_)
  replace h := h A6 e6
  refine x_aload_n dX8_begin_30 rfl ?_
  refine x_iconst_ (v := (0 : Int32)) dX8_begin_31 (by decide) ?_
  refine z_putI hG hO.1 dX8_begin_32 f_X8_260_7 ⟨_, rfl, Or.inl rfl⟩ (kI e6 (kI e5 (kI e4 (kI e3 (kI e2 o1))))) (by decide) rfl rfl ⟨_, rfl⟩ (fun A7 e7 => ?_)
  replace h := h A7 e7
  refine x_aload_n dX8_begin_35 rfl ?_
  refine x_get (v := va_rf (A.P p 21)) hG dX8_begin_36 f_X8_49_7 (kI e7 (kI e6 (kI e5 (kI e4 (kI e3 (kI e2 o1)))))) (congrArg va_rf ((sI_P e7).trans ((sI_P e6).trans ((sI_P e5).trans ((sI_P e4).trans ((sI_P e3).trans (sI_P e2))))))) ?_
  obtain ⟨b8, e8, h⟩ := h
  rw [e8]
  obtain ⟨o9, h⟩ := h
  refine x_alen hG (j := 0) dX8_begin_39 o9 ?_
  refine x_iload_n dX8_begin_40 rfl ?_
  refine x_icmp_lt (tgt := 45) dX8_begin_41 (by decide) (fun c41 => ?_) (fun c41 => ?_)
  · replace h := h.1 c41
    refine x_iload_n dX8_begin_45 rfl ?_
    refine x_iconst_ (v := (2 : Int32)) dX8_begin_46 (by decide) ?_
    refine x_aload_n dX8_begin_47 rfl ?_
    refine x_get (v := .ref b8) hG dX8_begin_48 f_X8_49_7 (kI e7 (kI e6 (kI e5 (kI e4 (kI e3 (kI e2 o1)))))) (congrArg va_rf (((sI_P e7).trans ((sI_P e6).trans ((sI_P e5).trans ((sI_P e4).trans ((sI_P e3).trans (sI_P e2)))))).trans e8)) ?_
    refine x_alen hG (j := 0) dX8_begin_51 o9 ?_
    refine x_imul dX8_begin_52 ?_
    refine x_callS hG (Ky := kJ11_max) (As := [.int r, .int ((2 : Int32) * (nI (A7.ln b8)))]) dX8_begin_53 lk_X8_263 me_J11_max st_J11_max rfl rfl (Nat.le_of_ble_eq_true rfl) (MX.post (m_J11_max hG) ?_)
    rintro _ _ ⟨rfl, rfl⟩
    change X _ _ _ _ _ _ _ (.int (f_J11_max r ((2 : Int32) * (nI (A7.ln b8)))) :: _)
    refine x_istore_n dX8_begin_56 (by decide) ?_
    refine x_aload_n dX8_begin_57 rfl ?_
    refine x_iload_n dX8_begin_58 rfl ?_
    obtain ⟨o10, h⟩ := h
    refine z_newa hG (j := 0) dX8_begin_59 (by decide) rfl o10 q378 (fun A11 e11 w11 => ?_)
    replace h := h A11 e11
    refine z_putP hG hO.1 (some A7.n) dX8_begin_61 f_X8_49_7 ⟨_, rfl, Or.inl rfl⟩ (kN e11 w11 (kI e7 (kI e6 (kI e5 (kI e4 (kI e3 (kI e2 o1))))))) (by decide) (Or.inr ⟨_, rfl⟩) (fun A12 e12 => ?_)
    replace h := h A12 e12
    refine x_aload_n dX8_begin_64 rfl ?_
    refine x_iload_n dX8_begin_65 rfl ?_
    obtain ⟨o13, h⟩ := h
    refine z_newa hG (j := 0) dX8_begin_66 (by decide) rfl o13 q378 (fun A14 e14 w14 => ?_)
    replace h := h A14 e14
    refine z_putP hG hO.1 (some A12.n) dX8_begin_68 f_X8_269_7 ⟨_, rfl, Or.inl rfl⟩ (kN e14 w14 (kP e12 (kN e11 w11 (kI e7 (kI e6 (kI e5 (kI e4 (kI e3 (kI e2 o1))))))))) (by decide) (Or.inr ⟨_, rfl⟩) (fun A15 e15 => ?_)
    replace h := h A15 e15
    refine x_aload_n dX8_begin_71 rfl ?_
    refine x_iload_n dX8_begin_72 rfl ?_
    obtain ⟨o16, h⟩ := h
    refine z_newa hG (j := 3) dX8_begin_73 (by decide) rfl o16 q756 (fun A17 e17 w17 => ?_)
    replace h := h A17 e17
    refine z_putP hG hO.1 (some A15.n) dX8_begin_75 f_X8_272_7 ⟨_, rfl, Or.inl rfl⟩ (kN e17 w17 (kP e15 (kN e14 w14 (kP e12 (kN e11 w11 (kI e7 (kI e6 (kI e5 (kI e4 (kI e3 (kI e2 o1))))))))))) (by decide) (Or.inr ⟨_, rfl⟩) (fun A18 e18 => ?_)
    replace h := h A18 e18
    refine x_aload_n dX8_begin_78 rfl ?_
    refine x_iload_n dX8_begin_79 rfl ?_
    obtain ⟨o19, h⟩ := h
    refine z_newa hG (j := 0) dX8_begin_80 (by decide) rfl o19 q378 (fun A20 e20 w20 => ?_)
    replace h := h A20 e20
    refine z_putP hG hO.1 (some A18.n) dX8_begin_82 f_X8_276_7 ⟨_, rfl, Or.inl rfl⟩ (kN e20 w20 (kP e18 (kN e17 w17 (kP e15 (kN e14 w14 (kP e12 (kN e11 w11 (kI e7 (kI e6 (kI e5 (kI e4 (kI e3 (kI e2 o1))))))))))))) (by decide) (Or.inr ⟨_, rfl⟩) (fun A21 e21 => ?_)
    replace h := h A21 e21
    refine x_aload_n dX8_begin_85 rfl ?_
    refine x_iload_n dX8_begin_86 rfl ?_
    obtain ⟨o22, h⟩ := h
    refine z_newa hG (j := 0) dX8_begin_87 (by decide) rfl o22 q378 (fun A23 e23 w23 => ?_)
    replace h := h A23 e23
    refine z_putP hG hO.1 (some A21.n) dX8_begin_89 f_X8_279_7 ⟨_, rfl, Or.inl rfl⟩ (kN e23 w23 (kP e21 (kN e20 w20 (kP e18 (kN e17 w17 (kP e15 (kN e14 w14 (kP e12 (kN e11 w11 (kI e7 (kI e6 (kI e5 (kI e4 (kI e3 (kI e2 o1))))))))))))))) (by decide) (Or.inr ⟨_, rfl⟩) (fun A24 e24 => ?_)
    replace h := h A24 e24
    refine x_aload_n dX8_begin_92 rfl ?_
    refine x_iload_n dX8_begin_93 rfl ?_
    obtain ⟨o25, h⟩ := h
    refine z_newa hG (j := 0) dX8_begin_94 (by decide) rfl o25 q378 (fun A26 e26 w26 => ?_)
    replace h := h A26 e26
    refine z_putP hG hO.1 (some A24.n) dX8_begin_96 f_X8_282_7 ⟨_, rfl, Or.inl rfl⟩ (kN e26 w26 (kP e24 (kN e23 w23 (kP e21 (kN e20 w20 (kP e18 (kN e17 w17 (kP e15 (kN e14 w14 (kP e12 (kN e11 w11 (kI e7 (kI e6 (kI e5 (kI e4 (kI e3 (kI e2 o1))))))))))))))))) (by decide) (Or.inr ⟨_, rfl⟩) (fun A27 e27 => ?_)
    replace h := h A27 e27
    refine x_aload_n dX8_begin_99 rfl ?_
    refine x_iload_n dX8_begin_100 rfl ?_
    obtain ⟨o28, h⟩ := h
    refine z_newa hG (j := 0) dX8_begin_101 (by decide) rfl o28 q378 (fun A29 e29 w29 => ?_)
    replace h := h A29 e29
    refine z_putP hG hO.1 (some A27.n) dX8_begin_103 f_X8_285_7 ⟨_, rfl, Or.inl rfl⟩ (kN e29 w29 (kP e27 (kN e26 w26 (kP e24 (kN e23 w23 (kP e21 (kN e20 w20 (kP e18 (kN e17 w17 (kP e15 (kN e14 w14 (kP e12 (kN e11 w11 (kI e7 (kI e6 (kI e5 (kI e4 (kI e3 (kI e2 o1))))))))))))))))))) (by decide) (Or.inr ⟨_, rfl⟩) (fun A30 e30 => ?_)
    replace h := h A30 e30
    refine x_aload_n dX8_begin_106 rfl ?_
    refine x_iload_n dX8_begin_107 rfl ?_
    obtain ⟨o31, h⟩ := h
    refine z_newa hG (j := 0) dX8_begin_108 (by decide) rfl o31 q378 (fun A32 e32 w32 => ?_)
    replace h := h A32 e32
    refine z_putP hG hO.1 (some A30.n) dX8_begin_110 f_X8_288_7 ⟨_, rfl, Or.inl rfl⟩ (kN e32 w32 (kP e30 (kN e29 w29 (kP e27 (kN e26 w26 (kP e24 (kN e23 w23 (kP e21 (kN e20 w20 (kP e18 (kN e17 w17 (kP e15 (kN e14 w14 (kP e12 (kN e11 w11 (kI e7 (kI e6 (kI e5 (kI e4 (kI e3 (kI e2 o1))))))))))))))))))))) (by decide) (Or.inr ⟨_, rfl⟩) (fun A33 e33 => ?_)
    replace h := h A33 e33
    refine x_aload_n dX8_begin_113 rfl ?_
    refine x_iload_n dX8_begin_114 rfl ?_
    obtain ⟨o34, h⟩ := h
    refine z_newa hG (j := 0) dX8_begin_115 (by decide) rfl o34 q378 (fun A35 e35 w35 => ?_)
    replace h := h A35 e35
    refine z_putP hG hO.1 (some A33.n) dX8_begin_117 f_X8_291_7 ⟨_, rfl, Or.inl rfl⟩ (kN e35 w35 (kP e33 (kN e32 w32 (kP e30 (kN e29 w29 (kP e27 (kN e26 w26 (kP e24 (kN e23 w23 (kP e21 (kN e20 w20 (kP e18 (kN e17 w17 (kP e15 (kN e14 w14 (kP e12 (kN e11 w11 (kI e7 (kI e6 (kI e5 (kI e4 (kI e3 (kI e2 o1))))))))))))))))))))))) (by decide) (Or.inr ⟨_, rfl⟩) (fun A36 e36 => ?_)
    replace h := h A36 e36
    refine x_aload_n dX8_begin_120 rfl ?_
    refine x_iload_n dX8_begin_121 rfl ?_
    obtain ⟨o37, h⟩ := h
    refine z_newa hG (j := 0) dX8_begin_122 (by decide) rfl o37 q378 (fun A38 e38 w38 => ?_)
    replace h := h A38 e38
    refine z_putP hG hO.1 (some A36.n) dX8_begin_124 f_X8_294_7 ⟨_, rfl, Or.inl rfl⟩ (kN e38 w38 (kP e36 (kN e35 w35 (kP e33 (kN e32 w32 (kP e30 (kN e29 w29 (kP e27 (kN e26 w26 (kP e24 (kN e23 w23 (kP e21 (kN e20 w20 (kP e18 (kN e17 w17 (kP e15 (kN e14 w14 (kP e12 (kN e11 w11 (kI e7 (kI e6 (kI e5 (kI e4 (kI e3 (kI e2 o1))))))))))))))))))))))))) (by decide) (Or.inr ⟨_, rfl⟩) (fun A39 e39 => ?_)
    replace h := h A39 e39
    refine x_aload_n dX8_begin_127 rfl ?_
    refine x_iload_n dX8_begin_128 rfl ?_
    obtain ⟨o40, h⟩ := h
    refine z_newa hG (j := 0) dX8_begin_129 (by decide) rfl o40 q378 (fun A41 e41 w41 => ?_)
    replace h := h A41 e41
    refine z_putP hG hO.1 (some A39.n) dX8_begin_131 f_X8_297_7 ⟨_, rfl, Or.inl rfl⟩ (kN e41 w41 (kP e39 (kN e38 w38 (kP e36 (kN e35 w35 (kP e33 (kN e32 w32 (kP e30 (kN e29 w29 (kP e27 (kN e26 w26 (kP e24 (kN e23 w23 (kP e21 (kN e20 w20 (kP e18 (kN e17 w17 (kP e15 (kN e14 w14 (kP e12 (kN e11 w11 (kI e7 (kI e6 (kI e5 (kI e4 (kI e3 (kI e2 o1))))))))))))))))))))))))))) (by decide) (Or.inr ⟨_, rfl⟩) (fun A42 e42 => ?_)
    replace h := h A42 e42
    refine x_aload_n dX8_begin_134 rfl ?_
    refine x_iload_n dX8_begin_135 rfl ?_
    obtain ⟨o43, h⟩ := h
    refine z_anew hG (j := 6) dX8_begin_136 (by decide) rfl o43 q2514 q2515 (fun A44 e44 w44 => ?_)
    replace h := h A44 e44
    refine z_putP hG hO.1 (some A42.n) dX8_begin_139 f_X8_302_7 ⟨_, rfl, Or.inl rfl⟩ (kN e44 w44 (kP e42 (kN e41 w41 (kP e39 (kN e38 w38 (kP e36 (kN e35 w35 (kP e33 (kN e32 w32 (kP e30 (kN e29 w29 (kP e27 (kN e26 w26 (kP e24 (kN e23 w23 (kP e21 (kN e20 w20 (kP e18 (kN e17 w17 (kP e15 (kN e14 w14 (kP e12 (kN e11 w11 (kI e7 (kI e6 (kI e5 (kI e4 (kI e3 (kI e2 o1))))))))))))))))))))))))))))) (by decide) (Or.inr ⟨_, rfl⟩) (fun A45 e45 => ?_)
    replace h := h A45 e45
    refine x_aload_n dX8_begin_142 rfl ?_
    refine x_iload_n dX8_begin_143 rfl ?_
    obtain ⟨o46, h⟩ := h
    refine z_newa hG (j := 0) dX8_begin_144 (by decide) rfl o46 q378 (fun A47 e47 w47 => ?_)
    replace h := h A47 e47
    refine z_putP hG hO.1 (some A45.n) dX8_begin_146 f_X8_306_7 ⟨_, rfl, Or.inl rfl⟩ (kN e47 w47 (kP e45 (kN e44 w44 (kP e42 (kN e41 w41 (kP e39 (kN e38 w38 (kP e36 (kN e35 w35 (kP e33 (kN e32 w32 (kP e30 (kN e29 w29 (kP e27 (kN e26 w26 (kP e24 (kN e23 w23 (kP e21 (kN e20 w20 (kP e18 (kN e17 w17 (kP e15 (kN e14 w14 (kP e12 (kN e11 w11 (kI e7 (kI e6 (kI e5 (kI e4 (kI e3 (kI e2 o1))))))))))))))))))))))))))))))) (by decide) (Or.inr ⟨_, rfl⟩) (fun A48 e48 => ?_)
    replace h := h A48 e48
    refine x_aload_n dX8_begin_149 rfl ?_
    refine x_iload_n dX8_begin_150 rfl ?_
    obtain ⟨o49, h⟩ := h
    refine z_newa hG (j := 0) dX8_begin_151 (by decide) rfl o49 q378 (fun A50 e50 w50 => ?_)
    replace h := h A50 e50
    refine z_putP hG hO.1 (some A48.n) dX8_begin_153 f_X8_309_7 ⟨_, rfl, Or.inl rfl⟩ (kN e50 w50 (kP e48 (kN e47 w47 (kP e45 (kN e44 w44 (kP e42 (kN e41 w41 (kP e39 (kN e38 w38 (kP e36 (kN e35 w35 (kP e33 (kN e32 w32 (kP e30 (kN e29 w29 (kP e27 (kN e26 w26 (kP e24 (kN e23 w23 (kP e21 (kN e20 w20 (kP e18 (kN e17 w17 (kP e15 (kN e14 w14 (kP e12 (kN e11 w11 (kI e7 (kI e6 (kI e5 (kI e4 (kI e3 (kI e2 o1))))))))))))))))))))))))))))))))) (by decide) (Or.inr ⟨_, rfl⟩) (fun A51 e51 => ?_)
    replace h := h A51 e51
    refine x_aload_n dX8_begin_156 rfl ?_
    refine x_iload_n dX8_begin_157 rfl ?_
    obtain ⟨o52, h⟩ := h
    refine z_newa hG (j := 0) dX8_begin_158 (by decide) rfl o52 q378 (fun A53 e53 w53 => ?_)
    replace h := h A53 e53
    refine z_putP hG hO.1 (some A51.n) dX8_begin_160 f_X8_312_7 ⟨_, rfl, Or.inl rfl⟩ (kN e53 w53 (kP e51 (kN e50 w50 (kP e48 (kN e47 w47 (kP e45 (kN e44 w44 (kP e42 (kN e41 w41 (kP e39 (kN e38 w38 (kP e36 (kN e35 w35 (kP e33 (kN e32 w32 (kP e30 (kN e29 w29 (kP e27 (kN e26 w26 (kP e24 (kN e23 w23 (kP e21 (kN e20 w20 (kP e18 (kN e17 w17 (kP e15 (kN e14 w14 (kP e12 (kN e11 w11 (kI e7 (kI e6 (kI e5 (kI e4 (kI e3 (kI e2 o1))))))))))))))))))))))))))))))))))) (by decide) (Or.inr ⟨_, rfl⟩) (fun A54 e54 => ?_)
    replace h := h A54 e54
    exact x_vret dX8_begin_163 rfl ⟨rfl, h⟩
  · replace h := h.2 c41
    exact x_vret dX8_begin_44 rfl ⟨rfl, h⟩
def w_X8_fresh (G : xG) (p : Nat) (Q : Int32 → xA → Prop) (A : xA) : Prop := xok G A → A.tg p = 8 ∧ (∃ b2 : Nat, (A.P p 21) = some b2 ∧ (A.tg b2 = 200 ∧ (G.N ≤ b2 ∧ (vp_in (A.I p 13) (A.ln b2) ∧ (∀ A6 : xA, A6 = A.setI b2 (ix (A.I p 13)) (-1 : Int32) → (∃ b7 : Nat, (A.P p 34) = some b7 ∧ (A6.tg b7 = 203 ∧ (G.N ≤ b7 ∧ (vp_in (A.I p 13) (A6.ln b7) ∧ (∀ A11 : xA, A11 = A6.setI b7 (ix (A.I p 13)) (0 : Int32) → (∀ A12 : xA, A12 = A11.setI p 13 ((A.I p 13) + (1 : Int32)) → (Q (((A.I p 13) + (1 : Int32)) - (1 : Int32)) A12))))))))))))
theorem m_X8_fresh (hG : xOK G) (hO : xHO G) {dp : Nat} {p : Nat} {Q : Int32 → xA → Prop} {A : xA} (h : w_X8_fresh G p Q A) : MX G (dp + 0) kX8_fresh [.ref p] A (hI Q) := by
  unfold w_X8_fresh at h
  refine MX.of rfl (Nat.le_of_ble_eq_true rfl) ?_
  change X _ _ _ _ _ _ [some (.ref p)] _
  refine X.xok (fun w0 => ?_)
  replace h := h w0
  refine x_aload_n dX8_fresh_0 rfl ?_
  obtain ⟨o1, h⟩ := h
  refine x_get (v := va_rf (A.P p 21)) hG dX8_fresh_1 f_X8_49_7 o1 rfl ?_
  refine x_aload_n dX8_fresh_4 rfl ?_
  refine x_get (v := .int (A.I p 13)) hG dX8_fresh_5 f_X8_248_7 o1 rfl ?_
  refine x_iconst_ (v := (-1 : Int32)) dX8_fresh_8 (by decide) ?_
  obtain ⟨b2, e2, h⟩ := h
  rw [e2]
  obtain ⟨o3, h⟩ := h
  obtain ⟨o4, h⟩ := h
  obtain ⟨o5, h⟩ := h
  refine z_iast hG dX8_fresh_9 o3 o4 o5 (fun A6 e6 => ?_)
  replace h := h A6 e6
  refine x_aload_n dX8_fresh_10 rfl ?_
  refine x_get (v := va_rf (A.P p 34)) hG dX8_fresh_11 f_X8_272_7 (kI e6 o1) (congrArg va_rf (sI_P e6)) ?_
  refine x_aload_n dX8_fresh_14 rfl ?_
  refine x_get (v := .int (A.I p 13)) hG dX8_fresh_15 f_X8_248_7 (kI e6 o1) (congrArg Value.int (sI_a e6 (tne o1 o3 (by decide)))) ?_
  refine x_iconst_ (v := (0 : Int32)) dX8_fresh_18 (by decide) ?_
  obtain ⟨b7, e7, h⟩ := h
  rw [e7]
  obtain ⟨o8, h⟩ := h
  obtain ⟨o9, h⟩ := h
  obtain ⟨o10, h⟩ := h
  refine z_zast hG dX8_fresh_19 o8 o9 o10 (by decide) (fun A11 e11 => ?_)
  replace h := h A11 e11
  refine x_aload_n dX8_fresh_20 rfl ?_
  refine x_dup dX8_fresh_21 rfl ?_
  refine x_get (v := .int (A.I p 13)) hG dX8_fresh_22 f_X8_248_7 (kI e11 (kI e6 o1)) (congrArg Value.int ((sI_a e11 (tne (kI e6 o1) o8 (by decide))).trans (sI_a e6 (tne o1 o3 (by decide))))) ?_
  refine x_iconst_ (v := (1 : Int32)) dX8_fresh_25 (by decide) ?_
  refine x_iadd dX8_fresh_26 ?_
  refine z_putI hG hO.1 dX8_fresh_27 f_X8_248_7 ⟨_, rfl, Or.inl rfl⟩ (kI e11 (kI e6 o1)) (by decide) rfl rfl ⟨_, rfl⟩ (fun A12 e12 => ?_)
  replace h := h A12 e12
  refine x_aload_n dX8_fresh_30 rfl ?_
  refine x_get (v := .int ((A.I p 13) + (1 : Int32))) hG dX8_fresh_31 f_X8_248_7 (kI e12 (kI e11 (kI e6 o1))) (congrArg Value.int (sI_s e12)) ?_
  refine x_iconst_ (v := (1 : Int32)) dX8_fresh_34 (by decide) ?_
  refine x_isub dX8_fresh_35 ?_
  exact x_iret dX8_fresh_36 rfl ⟨_, rfl, h⟩
def w_X8_ofConstant (G : xG) (p : Nat) (v : Int32) (Q : Int32 → xA → Prop) (A : xA) : Prop := xok G A → ∃ L1 : Nat → Int32 → Prop, (∃ n1 : Nat, L1 n1 (0 : Int32)) ∧ (∀ (n1 : Nat) (y1_2 : Int32), L1 n1 y1_2 → A.tg p = 8 ∧ ((((A.I p 18) ≤ y1_2 → ∃ R3 : Int32 → xA → Prop, w_X8_fresh G p R3 A ∧ (∀ (v3 : Int32) (A3 : xA), xok G A3 → R3 v3 A3 → (A3.tg p = 8 ∧ (∃ b5 : Nat, (A3.P p 34) = some b5 ∧ (A3.tg b5 = 203 ∧ (G.N ≤ b5 ∧ (vp_in v3 (A3.ln b5) ∧ (∀ A9 : xA, A9 = A3.setI b5 (ix v3) (1 : Int32) → (∃ b10 : Nat, (A3.P p 22) = some b10 ∧ (A9.tg b10 = 200 ∧ (G.N ≤ b10 ∧ (vp_in v3 (A9.ln b10) ∧ (∀ A14 : xA, A14 = A9.setI b10 (ix v3) v → (∃ b15 : Nat, (A3.P p 33) = some b15 ∧ (A14.tg b15 = 200 ∧ (G.N ≤ b15 ∧ (vp_in (A3.I p 18) (A14.ln b15) ∧ (∀ A19 : xA, A19 = A14.setI b15 (ix (A3.I p 18)) v3 → (∀ A20 : xA, A20 = A19.setI p 18 ((A3.I p 18) + (1 : Int32)) → (Q v3 A20)))))))))))))))))))) ∧ (¬ (A.I p 18) ≤ y1_2 → ∃ b21 : Nat, (A.P p 33) = some b21 ∧ (A.tg b21 = 200 ∧ (vp_in y1_2 (A.ln b21) ∧ (∃ b24 : Nat, (A.P p 22) = some b24 ∧ (A.tg b24 = 200 ∧ (vp_in (A.I b21 (ix y1_2)) (A.ln b24) ∧ ((((A.I b24 (ix (A.I b21 (ix y1_2)))) = v → Q (A.I b21 (ix y1_2)) A) ∧ (¬ (A.I b24 (ix (A.I b21 (ix y1_2)))) = v → (∃ q1 : Nat, q1 < n1 ∧ L1 q1 (y1_2 + (1 : Int32)))))))))))))))
theorem m_X8_ofConstant (hG : xOK G) (hO : xHO G) {dp : Nat} {p : Nat} {v : Int32} {Q : Int32 → xA → Prop} {A : xA} (h : w_X8_ofConstant G p v Q A) : MX G (dp + 1) kX8_ofConstant [.ref p, .int v] A (hI Q) := by
  unfold w_X8_ofConstant at h
  refine MX.of rfl (Nat.le_of_ble_eq_true rfl) ?_
  change X _ _ _ _ _ _ [some (.ref p), some (.int v), none] _
  refine X.xok (fun w0 => ?_)
  replace h := h w0
  refine x_iconst_ (v := (0 : Int32)) dX8_ofConstant_0 (by decide) ?_
  refine x_istore_n dX8_ofConstant_1 (by decide) ?_
  obtain ⟨L1, ⟨n1, i1⟩, g1⟩ := h
  have kl1 : ∀ n1 : Nat, ∀ (y1_2 : Int32), L1 n1 y1_2 → X G (dp + 1) kX8_ofConstant (hI Q) A 2 [some (.ref p), some (.int v), some (.int y1_2)] [] := by
    intro n1
    induction n1 using Nat.strongRecOn with
    | ind n1 ih1 =>
      intro y1_2 h
      replace h := g1 n1 y1_2 h
      refine x_iload_n dX8_ofConstant_2 rfl ?_
      refine x_aload_n dX8_ofConstant_3 rfl ?_
      obtain ⟨o2, h⟩ := h
      refine x_get (v := .int (A.I p 18)) hG dX8_ofConstant_4 f_X8_260_7 o2 rfl ?_
      refine x_icmp_ge (tgt := 38) dX8_ofConstant_7 (by decide) (fun c7 => ?_) (fun c7 => ?_)
      · replace h := h.1 c7
        refine x_aload_n dX8_ofConstant_38 rfl ?_
        obtain ⟨R3, g3, h⟩ := h
        refine x_callV hG (Ky := kX8_fresh) (As := []) dX8_ofConstant_39 o2 rfl lk_X8_315 me_X8_fresh is_X8_fresh se_X8_fresh rfl rfl (Nat.le_of_ble_eq_true rfl) (MX.post (m_X8_fresh hG hO g3) ?_)
        rintro _ A3 ⟨v3, rfl, h1⟩
        refine X.xok (fun w3 => ?_)
        replace h := h v3 A3 w3 h1
        change X _ _ _ _ A3 _ _ [.int v3]
        refine x_istore_n dX8_ofConstant_42 (by decide) ?_
        refine x_aload_n dX8_ofConstant_43 rfl ?_
        obtain ⟨o4, h⟩ := h
        refine x_get (v := va_rf (A3.P p 34)) hG dX8_ofConstant_44 f_X8_272_7 o4 rfl ?_
        refine x_iload_n dX8_ofConstant_47 rfl ?_
        refine x_iconst_ (v := (1 : Int32)) dX8_ofConstant_48 (by decide) ?_
        obtain ⟨b5, e5, h⟩ := h
        rw [e5]
        obtain ⟨o6, h⟩ := h
        obtain ⟨o7, h⟩ := h
        obtain ⟨o8, h⟩ := h
        refine z_zast hG dX8_ofConstant_49 o6 o7 o8 (by decide) (fun A9 e9 => ?_)
        replace h := h A9 e9
        refine x_aload_n dX8_ofConstant_50 rfl ?_
        refine x_get (v := va_rf (A3.P p 22)) hG dX8_ofConstant_51 f_X8_269_7 (kI e9 o4) (congrArg va_rf (sI_P e9)) ?_
        refine x_iload_n dX8_ofConstant_54 rfl ?_
        refine x_iload_n dX8_ofConstant_55 rfl ?_
        obtain ⟨b10, e10, h⟩ := h
        rw [e10]
        obtain ⟨o11, h⟩ := h
        obtain ⟨o12, h⟩ := h
        obtain ⟨o13, h⟩ := h
        refine z_iast hG dX8_ofConstant_56 o11 o12 o13 (fun A14 e14 => ?_)
        replace h := h A14 e14
        refine x_aload_n dX8_ofConstant_57 rfl ?_
        refine x_get (v := va_rf (A3.P p 33)) hG dX8_ofConstant_58 f_X8_312_7 (kI e14 (kI e9 o4)) (congrArg va_rf ((sI_P e14).trans (sI_P e9))) ?_
        refine x_aload_n dX8_ofConstant_61 rfl ?_
        refine x_get (v := .int (A3.I p 18)) hG dX8_ofConstant_62 f_X8_260_7 (kI e14 (kI e9 o4)) (congrArg Value.int ((sI_a e14 (tne (kI e9 o4) o11 (by decide))).trans (sI_a e9 (tne o4 o6 (by decide))))) ?_
        refine x_iload_n dX8_ofConstant_65 rfl ?_
        obtain ⟨b15, e15, h⟩ := h
        rw [e15]
        obtain ⟨o16, h⟩ := h
        obtain ⟨o17, h⟩ := h
        obtain ⟨o18, h⟩ := h
        refine z_iast hG dX8_ofConstant_66 o16 o17 o18 (fun A19 e19 => ?_)
        replace h := h A19 e19
        refine x_aload_n dX8_ofConstant_67 rfl ?_
        refine x_dup dX8_ofConstant_68 rfl ?_
        refine x_get (v := .int (A3.I p 18)) hG dX8_ofConstant_69 f_X8_260_7 (kI e19 (kI e14 (kI e9 o4))) (congrArg Value.int ((sI_a e19 (tne (kI e14 (kI e9 o4)) o16 (by decide))).trans ((sI_a e14 (tne (kI e9 o4) o11 (by decide))).trans (sI_a e9 (tne o4 o6 (by decide)))))) ?_
        refine x_iconst_ (v := (1 : Int32)) dX8_ofConstant_72 (by decide) ?_
        refine x_iadd dX8_ofConstant_73 ?_
        refine z_putI hG hO.1 dX8_ofConstant_74 f_X8_260_7 ⟨_, rfl, Or.inl rfl⟩ (kI e19 (kI e14 (kI e9 o4))) (by decide) rfl rfl ⟨_, rfl⟩ (fun A20 e20 => ?_)
        replace h := h A20 e20
        refine x_iload_n dX8_ofConstant_77 rfl ?_
        exact x_iret dX8_ofConstant_78 rfl ⟨_, rfl, h⟩
      · replace h := h.2 c7
        refine x_aload_n dX8_ofConstant_10 rfl ?_
        refine x_get (v := va_rf (A.P p 22)) hG dX8_ofConstant_11 f_X8_269_7 o2 rfl ?_
        refine x_aload_n dX8_ofConstant_14 rfl ?_
        refine x_get (v := va_rf (A.P p 33)) hG dX8_ofConstant_15 f_X8_312_7 o2 rfl ?_
        refine x_iload_n dX8_ofConstant_18 rfl ?_
        obtain ⟨b21, e21, h⟩ := h
        rw [e21]
        obtain ⟨o22, h⟩ := h
        obtain ⟨o23, h⟩ := h
        refine x_iald hG dX8_ofConstant_19 o22 o23 ?_
        obtain ⟨b24, e24, h⟩ := h
        rw [e24]
        obtain ⟨o25, h⟩ := h
        obtain ⟨o26, h⟩ := h
        refine x_iald hG dX8_ofConstant_20 o25 o26 ?_
        refine x_iload_n dX8_ofConstant_21 rfl ?_
        refine x_icmp_ne (tgt := 32) dX8_ofConstant_22 (by decide) (fun c22 => ?_) (fun c22 => ?_)
        · replace h := h.2 c22
          refine x_iinc (v := (y1_2 + (1 : Int32))) dX8_ofConstant_32 rfl rfl (by decide) ?_
          refine x_goto (tgt := 2) dX8_ofConstant_35 (by decide) ?_
          obtain ⟨q1, l1, h⟩ := h
          change X _ _ _ _ _ _ [some (.ref p), some (.int v), some (.int (y1_2 + (1 : Int32)))] []
          exact X.weak (xle_c rfl (xle_c rfl (xle_c rfl xle_nil))) (ih1 q1 l1 (y1_2 + (1 : Int32)) h)
        · replace h := h.1 c22
          refine x_aload_n dX8_ofConstant_25 rfl ?_
          refine x_get (v := .ref b21) hG dX8_ofConstant_26 f_X8_312_7 o2 (congrArg va_rf e21) ?_
          refine x_iload_n dX8_ofConstant_29 rfl ?_
          refine x_iald hG dX8_ofConstant_30 o22 o23 ?_
          exact x_iret dX8_ofConstant_31 rfl ⟨_, rfl, h⟩
  change X _ _ _ _ _ _ [some (.ref p), some (.int v), some (.int (0 : Int32))] []
  exact X.weak (xle_c rfl (xle_c rfl (xle_c rfl xle_nil))) (kl1 n1 (0 : Int32) i1)
def w_X8_holds (G : xG) (p : Nat) (r : Int32) (n : Int32) (Q : Int32 → xA → Prop) (A : xA) : Prop := xok G A → ((r < 0 → Q (0 : Int32) A) ∧ (¬ r < 0 → A.tg p = 8 ∧ (∃ b2 : Nat, (A.P p 20) = some b2 ∧ (A.tg b2 = 200 ∧ (vp_in r (A.ln b2) ∧ ((((A.I b2 (ix r)) = (A.I p 14) → ∃ b5 : Nat, (A.P p 19) = some b5 ∧ (A.tg b5 = 200 ∧ (vp_in r (A.ln b5) ∧ (Q (if (A.I b5 (ix r)) = n then (1 : Int32) else (0 : Int32)) A)))) ∧ (¬ (A.I b2 (ix r)) = (A.I p 14) → Q (0 : Int32) A))))))))
theorem m_X8_holds (hG : xOK G) (hO : xHO G) {dp : Nat} {p : Nat} {r : Int32} {n : Int32} {Q : Int32 → xA → Prop} {A : xA} (h : w_X8_holds G p r n Q A) : MX G (dp + 0) kX8_holds [.ref p, .int r, .int n] A (hZ Q) := by
  unfold w_X8_holds at h
  refine MX.of rfl (Nat.le_of_ble_eq_true rfl) ?_
  change X _ _ _ _ _ _ [some (.ref p), some (.int r), some (.int n)] _
  refine X.xok (fun w0 => ?_)
  replace h := h w0
  refine x_iload_n dX8_holds_0 rfl ?_
  refine x_if_lt (tgt := 31) dX8_holds_1 (by decide) (fun c1 => ?_) (fun c1 => ?_)
  · replace h := h.1 c1
    refine x_iconst_ (v := (0 : Int32)) dX8_holds_31 (by decide) ?_
    exact x_zret dX8_holds_32 rfl (by decide) ⟨_, rfl, (by decide), h⟩
  · replace h := h.2 c1
    refine x_aload_n dX8_holds_4 rfl ?_
    obtain ⟨o1, h⟩ := h
    refine x_get (v := va_rf (A.P p 20)) hG dX8_holds_5 f_X8_46_7 o1 rfl ?_
    refine x_iload_n dX8_holds_8 rfl ?_
    obtain ⟨b2, e2, h⟩ := h
    rw [e2]
    obtain ⟨o3, h⟩ := h
    obtain ⟨o4, h⟩ := h
    refine x_iald hG dX8_holds_9 o3 o4 ?_
    refine x_aload_n dX8_holds_10 rfl ?_
    refine x_get (v := .int (A.I p 14)) hG dX8_holds_11 f_X8_219_7 o1 rfl ?_
    refine x_icmp_ne (tgt := 31) dX8_holds_14 (by decide) (fun c14 => ?_) (fun c14 => ?_)
    · replace h := h.2 c14
      refine x_iconst_ (v := (0 : Int32)) dX8_holds_31 (by decide) ?_
      exact x_zret dX8_holds_32 rfl (by decide) ⟨_, rfl, (by decide), h⟩
    · replace h := h.1 c14
      refine x_aload_n dX8_holds_17 rfl ?_
      refine x_get (v := va_rf (A.P p 19)) hG dX8_holds_18 f_X8_43_7 o1 rfl ?_
      refine x_iload_n dX8_holds_21 rfl ?_
      obtain ⟨b5, e5, h⟩ := h
      rw [e5]
      obtain ⟨o6, h⟩ := h
      obtain ⟨o7, h⟩ := h
      refine x_iald hG dX8_holds_22 o6 o7 ?_
      refine x_iload_n dX8_holds_23 rfl ?_
      refine x_via 32 (A' := A) (lv' := [none, none, none]) (st' := [.int (if (A.I b5 (ix r)) = n then (1 : Int32) else (0 : Int32))]) ?_ (fun k32 => ?_)
      rotate_left
      · refine x_icmp_ne (tgt := 31) dX8_holds_24 (by decide) (fun c24 => ?_) (fun c24 => ?_)
        · refine x_iconst_ (v := (0 : Int32)) dX8_holds_31 (by decide) ?_
          change X _ _ _ _ _ _ [some (.ref p), some (.int r), some (.int n)] [.int (0 : Int32)]
          simp only [if_neg c24] at k32 ⊢
          exact X.weak (xle_n (xle_n (xle_n xle_nil))) k32
        · refine x_iconst_ (v := (1 : Int32)) dX8_holds_27 (by decide) ?_
          refine x_goto (tgt := 32) dX8_holds_28 (by decide) ?_
          change X _ _ _ _ _ _ [some (.ref p), some (.int r), some (.int n)] [.int (1 : Int32)]
          simp only [if_pos c24] at k32 ⊢
          exact X.weak (xle_n (xle_n (xle_n xle_nil))) k32
      exact x_zret dX8_holds_32 rfl ite10 ⟨_, rfl, ite10, h⟩
def w_X8_define (G : xG) (p : Nat) (r : Int32) (n : Int32) (Q : xA → Prop) (A : xA) : Prop := xok G A → A.tg p = 8 ∧ (∃ b2 : Nat, (A.P p 20) = some b2 ∧ (A.tg b2 = 200 ∧ (G.N ≤ b2 ∧ (vp_in r (A.ln b2) ∧ (∀ A6 : xA, A6 = A.setI b2 (ix r) (A.I p 14) → (∃ b7 : Nat, (A.P p 19) = some b7 ∧ (A6.tg b7 = 200 ∧ (G.N ≤ b7 ∧ (vp_in r (A6.ln b7) ∧ (∀ A11 : xA, A11 = A6.setI b7 (ix r) n → (∃ b12 : Nat, (A.P p 21) = some b12 ∧ (A11.tg b12 = 200 ∧ (vp_in n (A11.ln b12) ∧ (∃ R15 : Int32 → xA → Prop, w_X8_holds G p (A11.I b12 (ix n)) n R15 A11 ∧ (∀ (v15 : Int32) (A15 : xA), xok G A15 → (v15 = 0 ∨ v15 = 1) → R15 v15 A15 → (((v15 = 0 → A15.tg p = 8 ∧ (∃ b17 : Nat, (A15.P p 21) = some b17 ∧ (A15.tg b17 = 200 ∧ (G.N ≤ b17 ∧ (vp_in n (A15.ln b17) ∧ (∀ A21 : xA, A21 = A15.setI b17 (ix n) r → (Q A21))))))) ∧ (¬ v15 = 0 → Q A15))))))))))))))))))
theorem m_X8_define (hG : xOK G) (hO : xHO G) {dp : Nat} {p : Nat} {r : Int32} {n : Int32} {Q : xA → Prop} {A : xA} (h : w_X8_define G p r n Q A) : MX G (dp + 1) kX8_define [.ref p, .int r, .int n] A (hV Q) := by
  unfold w_X8_define at h
  refine MX.of rfl (Nat.le_of_ble_eq_true rfl) ?_
  change X _ _ _ _ _ _ [some (.ref p), some (.int r), some (.int n)] _
  refine X.xok (fun w0 => ?_)
  replace h := h w0
  refine x_aload_n dX8_define_0 rfl ?_
  obtain ⟨o1, h⟩ := h
  refine x_get (v := va_rf (A.P p 20)) hG dX8_define_1 f_X8_46_7 o1 rfl ?_
  refine x_iload_n dX8_define_4 rfl ?_
  refine x_aload_n dX8_define_5 rfl ?_
  refine x_get (v := .int (A.I p 14)) hG dX8_define_6 f_X8_219_7 o1 rfl ?_
  obtain ⟨b2, e2, h⟩ := h
  rw [e2]
  obtain ⟨o3, h⟩ := h
  obtain ⟨o4, h⟩ := h
  obtain ⟨o5, h⟩ := h
  refine z_iast hG dX8_define_9 o3 o4 o5 (fun A6 e6 => ?_)
  replace h := h A6 e6
  refine x_aload_n dX8_define_10 rfl ?_
  refine x_get (v := va_rf (A.P p 19)) hG dX8_define_11 f_X8_43_7 (kI e6 o1) (congrArg va_rf (sI_P e6)) ?_
  refine x_iload_n dX8_define_14 rfl ?_
  refine x_iload_n dX8_define_15 rfl ?_
  obtain ⟨b7, e7, h⟩ := h
  rw [e7]
  obtain ⟨o8, h⟩ := h
  obtain ⟨o9, h⟩ := h
  obtain ⟨o10, h⟩ := h
  refine z_iast hG dX8_define_16 o8 o9 o10 (fun A11 e11 => ?_)
  replace h := h A11 e11
  refine x_aload_n dX8_define_17 rfl ?_
  refine x_aload_n dX8_define_18 rfl ?_
  refine x_get (v := va_rf (A.P p 21)) hG dX8_define_19 f_X8_49_7 (kI e11 (kI e6 o1)) (congrArg va_rf ((sI_P e11).trans (sI_P e6))) ?_
  refine x_iload_n dX8_define_22 rfl ?_
  obtain ⟨b12, e12, h⟩ := h
  rw [e12]
  obtain ⟨o13, h⟩ := h
  obtain ⟨o14, h⟩ := h
  refine x_iald hG dX8_define_23 o13 o14 ?_
  refine x_iload_n dX8_define_24 rfl ?_
  obtain ⟨R15, g15, h⟩ := h
  refine x_callV hG (Ky := kX8_holds) (As := [.int (A11.I b12 (ix n)), .int n]) dX8_define_25 (kI e11 (kI e6 o1)) rfl lk_X8_318 me_X8_holds is_X8_holds se_X8_holds rfl rfl (Nat.le_of_ble_eq_true rfl) (MX.post (m_X8_holds hG hO g15) ?_)
  rintro _ A15 ⟨v15, rfl, zv15, h1⟩
  refine X.xok (fun w15 => ?_)
  replace h := h v15 A15 w15 zv15 h1
  change X _ _ _ _ A15 _ _ [.int v15]
  refine x_if_ne (tgt := 38) dX8_define_28 (by decide) (fun c28 => ?_) (fun c28 => ?_)
  · replace h := h.2 c28
    exact x_vret dX8_define_38 rfl ⟨rfl, h⟩
  · replace h := h.1 c28
    refine x_aload_n dX8_define_31 rfl ?_
    obtain ⟨o16, h⟩ := h
    refine x_get (v := va_rf (A15.P p 21)) hG dX8_define_32 f_X8_49_7 o16 rfl ?_
    refine x_iload_n dX8_define_35 rfl ?_
    refine x_iload_n dX8_define_36 rfl ?_
    obtain ⟨b17, e17, h⟩ := h
    rw [e17]
    obtain ⟨o18, h⟩ := h
    obtain ⟨o19, h⟩ := h
    obtain ⟨o20, h⟩ := h
    refine z_iast hG dX8_define_37 o18 o19 o20 (fun A21 e21 => ?_)
    replace h := h A21 e21
    exact x_vret dX8_define_38 rfl ⟨rfl, h⟩
def w_X8_number (G : xG) (p : Nat) (o : Int64) (Q : Int32 → xA → Prop) (A : xA) : Prop := xok G A → (((f_X0_isConstant o) = 0 → A.tg p = 8 ∧ (∃ b2 : Nat, (A.P p 20) = some b2 ∧ (A.tg b2 = 200 ∧ (vp_in o.toInt32 (A.ln b2) ∧ ((((A.I b2 (ix o.toInt32)) = (A.I p 14) → ∃ b5 : Nat, (A.P p 19) = some b5 ∧ (A.tg b5 = 200 ∧ (vp_in o.toInt32 (A.ln b5) ∧ (Q (A.I b5 (ix o.toInt32)) A)))) ∧ (¬ (A.I b2 (ix o.toInt32)) = (A.I p 14) → ∃ R8 : Int32 → xA → Prop, w_X8_fresh G p R8 A ∧ (∀ (v8 : Int32) (A8 : xA), xok G A8 → R8 v8 A8 → (A8.tg p = 8 ∧ (∃ R9 : xA → Prop, w_X8_define G p o.toInt32 v8 R9 A8 ∧ (∀ A9 : xA, xok G A9 → R9 A9 → (A9.tg p = 8 ∧ (∃ b12 : Nat, (A9.P p 19) = some b12 ∧ (A9.tg b12 = 200 ∧ (vp_in o.toInt32 (A9.ln b12) ∧ (Q (A9.I b12 (ix o.toInt32)) A9)))))))))))))))) ∧ (¬ (f_X0_isConstant o) = 0 → A.tg p = 8 ∧ (∃ R15 : Int32 → xA → Prop, w_X8_ofConstant G p o.toInt32 R15 A ∧ (∀ (v15 : Int32) (A15 : xA), xok G A15 → R15 v15 A15 → (Q v15 A15)))))
theorem m_X8_number (hG : xOK G) (hO : xHO G) {dp : Nat} {p : Nat} {o : Int64} {Q : Int32 → xA → Prop} {A : xA} (h : w_X8_number G p o Q A) : MX G (dp + 2) kX8_number [.ref p, .long o] A (hI Q) := by
  unfold w_X8_number at h
  refine MX.of rfl (Nat.le_of_ble_eq_true rfl) ?_
  change X _ _ _ _ _ _ [some (.ref p), some (.long o), none, none] _
  refine X.xok (fun w0 => ?_)
  replace h := h w0
  refine x_lload_n dX8_number_0 rfl ?_
  refine x_callS hG (Ky := kX0_isConstant) (As := [.long o]) dX8_number_1 lk_X8_205 me_X0_isConstant st_X0_isConstant rfl rfl (Nat.le_of_ble_eq_true rfl) (MX.post (m_X0_isConstant hG) ?_)
  rintro _ _ ⟨rfl, rfl⟩
  change X _ _ _ _ _ _ _ (.int (f_X0_isConstant o) :: _)
  refine x_if_eq (tgt := 14) dX8_number_4 (by decide) (fun c4 => ?_) (fun c4 => ?_)
  · replace h := h.1 c4
    refine x_lload_n dX8_number_14 rfl ?_
    refine x_l2i dX8_number_15 ?_
    refine x_istore_n dX8_number_16 (by decide) ?_
    refine x_aload_n dX8_number_17 rfl ?_
    obtain ⟨o1, h⟩ := h
    refine x_get (v := va_rf (A.P p 20)) hG dX8_number_18 f_X8_46_7 o1 rfl ?_
    refine x_iload_n dX8_number_21 rfl ?_
    obtain ⟨b2, e2, h⟩ := h
    rw [e2]
    obtain ⟨o3, h⟩ := h
    obtain ⟨o4, h⟩ := h
    refine x_iald hG dX8_number_22 o3 o4 ?_
    refine x_aload_n dX8_number_23 rfl ?_
    refine x_get (v := .int (A.I p 14)) hG dX8_number_24 f_X8_219_7 o1 rfl ?_
    refine x_icmp_eq (tgt := 39) dX8_number_27 (by decide) (fun c27 => ?_) (fun c27 => ?_)
    · replace h := h.1 c27
      refine x_aload_n dX8_number_39 rfl ?_
      refine x_get (v := va_rf (A.P p 19)) hG dX8_number_40 f_X8_43_7 o1 rfl ?_
      refine x_iload_n dX8_number_43 rfl ?_
      obtain ⟨b5, e5, h⟩ := h
      rw [e5]
      obtain ⟨o6, h⟩ := h
      obtain ⟨o7, h⟩ := h
      refine x_iald hG dX8_number_44 o6 o7 ?_
      exact x_iret dX8_number_45 rfl ⟨_, rfl, h⟩
    · replace h := h.2 c27
      refine x_aload_n dX8_number_30 rfl ?_
      refine x_iload_n dX8_number_31 rfl ?_
      refine x_aload_n dX8_number_32 rfl ?_
      obtain ⟨R8, g8, h⟩ := h
      refine x_callV hG (Ky := kX8_fresh) (As := []) dX8_number_33 o1 rfl lk_X8_315 me_X8_fresh is_X8_fresh se_X8_fresh rfl rfl (Nat.le_of_ble_eq_true rfl) (MX.post (m_X8_fresh hG hO g8) ?_)
      rintro _ A8 ⟨v8, rfl, h1⟩
      refine X.xok (fun w8 => ?_)
      replace h := h v8 A8 w8 h1
      change X _ _ _ _ A8 _ _ [.int v8, .int o.toInt32, .ref p]
      obtain ⟨o10, h⟩ := h
      obtain ⟨R9, g9, h⟩ := h
      refine x_callV hG (Ky := kX8_define) (As := [.int o.toInt32, .int v8]) dX8_number_36 o10 rfl lk_X8_234 me_X8_define is_X8_define se_X8_define rfl rfl (Nat.le_of_ble_eq_true rfl) (MX.post (m_X8_define hG hO g9) ?_)
      rintro _ A9 ⟨rfl, h1⟩
      refine X.xok (fun w9 => ?_)
      replace h := h A9 w9 h1
      change X _ _ _ _ A9 _ _ []
      refine x_aload_n dX8_number_39 rfl ?_
      obtain ⟨o11, h⟩ := h
      refine x_get (v := va_rf (A9.P p 19)) hG dX8_number_40 f_X8_43_7 o11 rfl ?_
      refine x_iload_n dX8_number_43 rfl ?_
      obtain ⟨b12, e12, h⟩ := h
      rw [e12]
      obtain ⟨o13, h⟩ := h
      obtain ⟨o14, h⟩ := h
      refine x_iald hG dX8_number_44 o13 o14 ?_
      exact x_iret dX8_number_45 rfl ⟨_, rfl, h⟩
  · replace h := h.2 c4
    refine x_aload_n dX8_number_7 rfl ?_
    refine x_lload_n dX8_number_8 rfl ?_
    refine x_l2i dX8_number_9 ?_
    obtain ⟨o16, h⟩ := h
    obtain ⟨R15, g15, h⟩ := h
    refine x_callV hG (Ky := kX8_ofConstant) (As := [.int o.toInt32]) dX8_number_10 o16 rfl lk_X8_230 me_X8_ofConstant is_X8_ofConstant se_X8_ofConstant rfl rfl (Nat.le_of_ble_eq_true rfl) (MX.post (m_X8_ofConstant hG hO g15) ?_)
    rintro _ A15 ⟨v15, rfl, h1⟩
    refine X.xok (fun w15 => ?_)
    replace h := h v15 A15 w15 h1
    change X _ _ _ _ A15 _ _ [.int v15]
    exact x_iret dX8_number_13 rfl ⟨_, rfl, h⟩
def w_X8_fit (G : xG) (p : Nat) (o : Int64) (Q : Int64 → xA → Prop) (A : xA) : Prop := xok G A → A.tg p = 8 ∧ (∃ R1 : Int32 → xA → Prop, w_X8_number G p o R1 A ∧ (∀ (v1 : Int32) (A1 : xA), xok G A1 → R1 v1 A1 → (A1.tg p = 8 ∧ (∃ b4 : Nat, (A1.P p 34) = some b4 ∧ (A1.tg b4 = 203 ∧ (vp_in v1 (A1.ln b4) ∧ ((((A1.I b4 (ix v1)) = 0 → ∃ b7 : Nat, (A1.P p 21) = some b7 ∧ (A1.tg b7 = 200 ∧ (vp_in v1 (A1.ln b7) ∧ (∃ R10 : Int32 → xA → Prop, w_X8_holds G p (A1.I b7 (ix v1)) v1 R10 A1 ∧ (∀ (v10 : Int32) (A10 : xA), xok G A10 → (v10 = 0 ∨ v10 = 1) → R10 v10 A10 → (((v10 = 0 → Q o A10) ∧ (¬ v10 = 0 → A10.tg p = 8 ∧ (∃ b12 : Nat, (A10.P p 21) = some b12 ∧ (A10.tg b12 = 200 ∧ (vp_in v1 (A10.ln b12) ∧ (Q (A10.I b12 (ix v1)).toInt64 A10)))))))))))) ∧ (¬ (A1.I b4 (ix v1)) = 0 → ∃ b15 : Nat, (A1.P p 22) = some b15 ∧ (A1.tg b15 = 200 ∧ (vp_in v1 (A1.ln b15) ∧ (Q (f_X6_constant (A1.I b15 (ix v1))) A1))))))))))))
theorem m_X8_fit (hG : xOK G) (hO : xHO G) {dp : Nat} {p : Nat} {o : Int64} {Q : Int64 → xA → Prop} {A : xA} (h : w_X8_fit G p o Q A) : MX G (dp + 3) kX8_fit [.ref p, .long o] A (hL Q) := by
  unfold w_X8_fit at h
  refine MX.of rfl (Nat.le_of_ble_eq_true rfl) ?_
  change X _ _ _ _ _ _ [some (.ref p), some (.long o), none, none] _
  refine X.xok (fun w0 => ?_)
  replace h := h w0
  refine x_aload_n dX8_fit_0 rfl ?_
  refine x_lload_n dX8_fit_1 rfl ?_
  obtain ⟨o2, h⟩ := h
  obtain ⟨R1, g1, h⟩ := h
  refine x_callV hG (Ky := kX8_number) (As := [.long o]) dX8_fit_2 o2 rfl lk_X8_322 me_X8_number is_X8_number se_X8_number rfl rfl (Nat.le_of_ble_eq_true rfl) (MX.post (m_X8_number hG hO g1) ?_)
  rintro _ A1 ⟨v1, rfl, h1⟩
  refine X.xok (fun w1 => ?_)
  replace h := h v1 A1 w1 h1
  change X _ _ _ _ A1 _ _ [.int v1]
  refine x_istore_n dX8_fit_5 (by decide) ?_
  refine x_aload_n dX8_fit_6 rfl ?_
  obtain ⟨o3, h⟩ := h
  refine x_get (v := va_rf (A1.P p 34)) hG dX8_fit_7 f_X8_272_7 o3 rfl ?_
  refine x_iload_n dX8_fit_10 rfl ?_
  obtain ⟨b4, e4, h⟩ := h
  rw [e4]
  obtain ⟨o5, h⟩ := h
  obtain ⟨o6, h⟩ := h
  refine x_zald hG dX8_fit_11 o5 o6 ?_
  refine x_if_eq (tgt := 27) dX8_fit_12 (by decide) (fun c12 => ?_) (fun c12 => ?_)
  · replace h := h.1 c12
    refine x_aload_n dX8_fit_27 rfl ?_
    refine x_aload_n dX8_fit_28 rfl ?_
    refine x_get (v := va_rf (A1.P p 21)) hG dX8_fit_29 f_X8_49_7 o3 rfl ?_
    refine x_iload_n dX8_fit_32 rfl ?_
    obtain ⟨b7, e7, h⟩ := h
    rw [e7]
    obtain ⟨o8, h⟩ := h
    obtain ⟨o9, h⟩ := h
    refine x_iald hG dX8_fit_33 o8 o9 ?_
    refine x_iload_n dX8_fit_34 rfl ?_
    obtain ⟨R10, g10, h⟩ := h
    refine x_callV hG (Ky := kX8_holds) (As := [.int (A1.I b7 (ix v1)), .int v1]) dX8_fit_35 o3 rfl lk_X8_318 me_X8_holds is_X8_holds se_X8_holds rfl rfl (Nat.le_of_ble_eq_true rfl) (MX.post (m_X8_holds hG hO g10) ?_)
    rintro _ A10 ⟨v10, rfl, zv10, h1⟩
    refine X.xok (fun w10 => ?_)
    replace h := h v10 A10 w10 zv10 h1
    change X _ _ _ _ A10 _ _ [.int v10]
    refine x_if_eq (tgt := 51) dX8_fit_38 (by decide) (fun c38 => ?_) (fun c38 => ?_)
    · replace h := h.1 c38
      refine x_lload_n dX8_fit_51 rfl ?_
      exact x_lret dX8_fit_52 rfl ⟨_, rfl, h⟩
    · replace h := h.2 c38
      refine x_aload_n dX8_fit_41 rfl ?_
      obtain ⟨o11, h⟩ := h
      refine x_get (v := va_rf (A10.P p 21)) hG dX8_fit_42 f_X8_49_7 o11 rfl ?_
      refine x_iload_n dX8_fit_45 rfl ?_
      obtain ⟨b12, e12, h⟩ := h
      rw [e12]
      obtain ⟨o13, h⟩ := h
      obtain ⟨o14, h⟩ := h
      refine x_iald hG dX8_fit_46 o13 o14 ?_
      refine x_i2l dX8_fit_47 ?_
      refine x_goto (tgt := 52) dX8_fit_48 (by decide) ?_
      exact x_lret dX8_fit_52 rfl ⟨_, rfl, h⟩
  · replace h := h.2 c12
    refine x_aload_n dX8_fit_15 rfl ?_
    refine x_get (v := va_rf (A1.P p 22)) hG dX8_fit_16 f_X8_269_7 o3 rfl ?_
    refine x_iload_n dX8_fit_19 rfl ?_
    obtain ⟨b15, e15, h⟩ := h
    rw [e15]
    obtain ⟨o16, h⟩ := h
    obtain ⟨o17, h⟩ := h
    refine x_iald hG dX8_fit_20 o16 o17 ?_
    refine x_callS hG (Ky := kX6_constant) (As := [.int (A1.I b15 (ix v1))]) dX8_fit_21 lk_X8_325 me_X6_constant st_X6_constant rfl rfl (Nat.le_of_ble_eq_true rfl) (MX.post (m_X6_constant hG) ?_)
    rintro _ _ ⟨rfl, rfl⟩
    change X _ _ _ _ _ _ _ (.long (f_X6_constant (A1.I b15 (ix v1))) :: _)
    refine x_goto (tgt := 52) dX8_fit_24 (by decide) ?_
    exact x_lret dX8_fit_52 rfl ⟨_, rfl, h⟩
def w_X8_move (G : xG) (p : Nat) (x : Option Nat) (v : Int64) (Q : xA → Prop) (A : xA) : Prop := xok G A → ∃ b1 : Nat, x = some b1 ∧ (A.tg b1 = 36 ∧ (∀ A3 : xA, A3 = A.setI b1 0 (20 : Int32) → (A3.tg p = 8 ∧ (∃ R4 : Int64 → xA → Prop, w_X8_fit G p v R4 A3 ∧ (∀ (v4 : Int64) (A4 : xA), xok G A4 → R4 v4 A4 → (A4.tg b1 = 36 ∧ (∀ A7 : xA, A7 = A4.setL b1 2 v4 → (∀ A8 : xA, A8 = A7.setL b1 3 (0 : Int64) → (∀ A9 : xA, A9 = A8.setP b1 7 (none : Option Nat) → (A9.tg p = 8 ∧ (∃ R10 : Int32 → xA → Prop, w_X8_number G p v4 R10 A9 ∧ (∀ (v10 : Int32) (A10 : xA), xok G A10 → R10 v10 A10 → (A10.tg b1 = 36 ∧ ((((f_X0_isConstant (A10.L b1 2)) = 0 → (((A10.L b1 2).toInt32 = (A10.I b1 1) → Q A10) ∧ (¬ (A10.L b1 2).toInt32 = (A10.I b1 1) → A10.tg p = 8 ∧ (∃ R17 : xA → Prop, w_X8_define G p (A10.I b1 1) v10 R17 A10 ∧ (∀ A17 : xA, xok G A17 → R17 A17 → (A17.tg p = 8 ∧ (∃ R19 : xA → Prop, w_X8_keep G p (some b1) R19 A17 ∧ (∀ A19 : xA, xok G A19 → R19 A19 → (Q A19))))))))) ∧ (¬ (f_X0_isConstant (A10.L b1 2)) = 0 → A10.tg p = 8 ∧ (∃ R13 : xA → Prop, w_X8_define G p (A10.I b1 1) v10 R13 A10 ∧ (∀ A13 : xA, xok G A13 → R13 A13 → (A13.tg p = 8 ∧ (∃ R15 : xA → Prop, w_X8_keep G p (some b1) R15 A13 ∧ (∀ A15 : xA, xok G A15 → R15 A15 → (Q A15))))))))))))))))))))))
theorem m_X8_move (hG : xOK G) (hO : xHO G) {dp : Nat} {p : Nat} {x : Option Nat} {v : Int64} {Q : xA → Prop} {A : xA} (h : w_X8_move G p x v Q A) : MX G (dp + 4) kX8_move [.ref p, va_rf x, .long v] A (hV Q) := by
  unfold w_X8_move at h
  refine MX.of rfl (by cases x <;> exact Nat.le_of_ble_eq_true rfl) ?_
  refine X.lvs (lv' := [some (.ref p), some (va_rf x), some (.long v), none, none]) (by cases x <;> rfl) ?_
  refine X.xok (fun w0 => ?_)
  replace h := h w0
  refine x_aloadq_n dX8_move_0 rfl ?_
  refine x_bipush_ (v := (20 : Int32)) dX8_move_1 (by decide) ?_
  obtain ⟨b1, e1, h⟩ := h
  rw [e1]
  obtain ⟨o2, h⟩ := h
  refine z_putI hG hO.1 dX8_move_3 f_X8_212_35 ⟨_, rfl, Or.inl rfl⟩ o2 (by decide) rfl rfl ⟨_, rfl⟩ (fun A3 e3 => ?_)
  replace h := h A3 e3
  refine x_aload_n dX8_move_6 rfl ?_
  refine x_aload_n dX8_move_7 rfl ?_
  refine x_lload_n dX8_move_8 rfl ?_
  obtain ⟨o5, h⟩ := h
  obtain ⟨R4, g4, h⟩ := h
  refine x_callV hG (Ky := kX8_fit) (As := [.long v]) dX8_move_9 o5 rfl lk_X8_331 me_X8_fit is_X8_fit se_X8_fit rfl rfl (Nat.le_of_ble_eq_true rfl) (MX.post (m_X8_fit hG hO g4) ?_)
  rintro _ A4 ⟨v4, rfl, h1⟩
  refine X.xok (fun w4 => ?_)
  replace h := h v4 A4 w4 h1
  change X _ _ _ _ A4 _ _ [.long v4, .ref b1]
  obtain ⟨o6, h⟩ := h
  refine z_putL hG hO.1 dX8_move_12 f_X8_213_35 ⟨_, rfl, Or.inl rfl⟩ o6 (by decide) rfl rfl ⟨_, rfl⟩ (fun A7 e7 => ?_)
  replace h := h A7 e7
  refine x_aload_n dX8_move_15 rfl ?_
  refine x_lconst_ (v := (0 : Int64)) dX8_move_16 (by decide) ?_
  refine z_putL hG hO.1 dX8_move_17 f_X8_218_35 ⟨_, rfl, Or.inl rfl⟩ (kL e7 o6) (by decide) rfl rfl ⟨_, rfl⟩ (fun A8 e8 => ?_)
  replace h := h A8 e8
  refine x_aload_n dX8_move_20 rfl ?_
  refine x_null dX8_move_21 ?_
  refine z_putP hG hO.1 (none : Option Nat) dX8_move_22 f_X8_335_35 ⟨_, rfl, Or.inl rfl⟩ (kL e8 (kL e7 o6)) (by decide) (Or.inl ⟨_, rfl⟩) (fun A9 e9 => ?_)
  replace h := h A9 e9
  refine x_aload_n dX8_move_25 rfl ?_
  refine x_aload_n dX8_move_26 rfl ?_
  refine x_get (v := .long v4) hG dX8_move_27 f_X8_213_35 (kP e9 (kL e8 (kL e7 o6))) (congrArg Value.long ((sP_L e9).trans ((sL_k e8 (by decide)).trans (sL_s e7)))) ?_
  obtain ⟨o11, h⟩ := h
  obtain ⟨R10, g10, h⟩ := h
  refine x_callV hG (Ky := kX8_number) (As := [.long v4]) dX8_move_30 o11 rfl lk_X8_322 me_X8_number is_X8_number se_X8_number rfl rfl (Nat.le_of_ble_eq_true rfl) (MX.post (m_X8_number hG hO g10) ?_)
  rintro _ A10 ⟨v10, rfl, h1⟩
  refine X.xok (fun w10 => ?_)
  replace h := h v10 A10 w10 h1
  change X _ _ _ _ A10 _ _ [.int v10]
  refine x_istore dX8_move_33 (by decide) ?_
  refine x_aload_n dX8_move_35 rfl ?_
  obtain ⟨o12, h⟩ := h
  refine x_get (v := .long (A10.L b1 2)) hG dX8_move_36 f_X8_213_35 o12 rfl ?_
  refine x_callS hG (Ky := kX0_isConstant) (As := [.long (A10.L b1 2)]) dX8_move_39 lk_X8_205 me_X0_isConstant st_X0_isConstant rfl rfl (Nat.le_of_ble_eq_true rfl) (MX.post (m_X0_isConstant hG) ?_)
  rintro _ _ ⟨rfl, rfl⟩
  change X _ _ _ _ _ _ _ (.int (f_X0_isConstant (A10.L b1 2)) :: _)
  refine x_if_ne (tgt := 58) dX8_move_42 (by decide) (fun c42 => ?_) (fun c42 => ?_)
  · replace h := h.2 c42
    refine x_aload_n dX8_move_58 rfl ?_
    refine x_aload_n dX8_move_59 rfl ?_
    refine x_get (v := .int (A10.I b1 1)) hG dX8_move_60 f_X8_209_35 o12 rfl ?_
    refine x_iload dX8_move_63 rfl ?_
    obtain ⟨o14, h⟩ := h
    obtain ⟨R13, g13, h⟩ := h
    refine x_callV hG (Ky := kX8_define) (As := [.int (A10.I b1 1), .int v10]) dX8_move_65 o14 rfl lk_X8_234 me_X8_define is_X8_define se_X8_define rfl rfl (Nat.le_of_ble_eq_true rfl) (MX.post (m_X8_define hG hO g13) ?_)
    rintro _ A13 ⟨rfl, h1⟩
    refine X.xok (fun w13 => ?_)
    replace h := h A13 w13 h1
    change X _ _ _ _ A13 _ _ []
    refine x_aload_n dX8_move_68 rfl ?_
    refine x_aload_n dX8_move_69 rfl ?_
    obtain ⟨o16, h⟩ := h
    obtain ⟨R15, g15, h⟩ := h
    refine x_callV hG (Ky := kX8_keep) (As := [.ref b1]) dX8_move_70 o16 rfl lk_X8_339 me_X8_keep is_X8_keep se_X8_keep rfl rfl (Nat.le_of_ble_eq_true rfl) (MX.post (m_X8_keep hG hO g15) ?_)
    rintro _ A15 ⟨rfl, h1⟩
    refine X.xok (fun w15 => ?_)
    replace h := h A15 w15 h1
    change X _ _ _ _ A15 _ _ []
    exact x_vret dX8_move_73 rfl ⟨rfl, h⟩
  · replace h := h.1 c42
    refine x_aload_n dX8_move_45 rfl ?_
    refine x_get (v := .long (A10.L b1 2)) hG dX8_move_46 f_X8_213_35 o12 rfl ?_
    refine x_l2i dX8_move_49 ?_
    refine x_aload_n dX8_move_50 rfl ?_
    refine x_get (v := .int (A10.I b1 1)) hG dX8_move_51 f_X8_209_35 o12 rfl ?_
    refine x_icmp_ne (tgt := 58) dX8_move_54 (by decide) (fun c54 => ?_) (fun c54 => ?_)
    · replace h := h.2 c54
      refine x_aload_n dX8_move_58 rfl ?_
      refine x_aload_n dX8_move_59 rfl ?_
      refine x_get (v := .int (A10.I b1 1)) hG dX8_move_60 f_X8_209_35 o12 rfl ?_
      refine x_iload dX8_move_63 rfl ?_
      obtain ⟨o18, h⟩ := h
      obtain ⟨R17, g17, h⟩ := h
      refine x_callV hG (Ky := kX8_define) (As := [.int (A10.I b1 1), .int v10]) dX8_move_65 o18 rfl lk_X8_234 me_X8_define is_X8_define se_X8_define rfl rfl (Nat.le_of_ble_eq_true rfl) (MX.post (m_X8_define hG hO g17) ?_)
      rintro _ A17 ⟨rfl, h1⟩
      refine X.xok (fun w17 => ?_)
      replace h := h A17 w17 h1
      change X _ _ _ _ A17 _ _ []
      refine x_aload_n dX8_move_68 rfl ?_
      refine x_aload_n dX8_move_69 rfl ?_
      obtain ⟨o20, h⟩ := h
      obtain ⟨R19, g19, h⟩ := h
      refine x_callV hG (Ky := kX8_keep) (As := [.ref b1]) dX8_move_70 o20 rfl lk_X8_339 me_X8_keep is_X8_keep se_X8_keep rfl rfl (Nat.le_of_ble_eq_true rfl) (MX.post (m_X8_keep hG hO g19) ?_)
      rintro _ A19 ⟨rfl, h1⟩
      refine X.xok (fun w19 => ?_)
      replace h := h A19 w19 h1
      change X _ _ _ _ A19 _ _ []
      exact x_vret dX8_move_73 rfl ⟨rfl, h⟩
    · replace h := h.1 c54
      exact x_vret dX8_move_57 rfl ⟨rfl, h⟩
def w_X8_simple (G : xG) (x : Option Nat) (v : Int32) (Q : Int64 → xA → Prop) (A : xA) : Prop := xok G A → ∃ b1 : Nat, x = some b1 ∧ (A.tg b1 = 36 ∧ (((((A.I b1 0) = (1 : Int32)) → ∀ A4 : xA, A4 = A.setI b1 0 (0 : Int32) → (∀ A5 : xA, A5 = A4.setL b1 3 (f_X6_constant (-v)) → (Q (if v = 0 then (A.L b1 2) else (-1 : Int64)) A5))) ∧ (((A.I b1 0) = (0 : Int32) ∨ (A.I b1 0) = (6 : Int32) ∨ (A.I b1 0) = (7 : Int32)) → (((A.I b1 0) = (6 : Int32) → ((v = (-1 : Int32) → Q (f_X6_constant (-1 : Int32)) A) ∧ (¬ v = (-1 : Int32) → Q (if v = 0 then (A.L b1 2) else (-1 : Int64)) A))) ∧ (¬ (A.I b1 0) = (6 : Int32) → Q (if v = 0 then (A.L b1 2) else (-1 : Int64)) A))) ∧ (((A.I b1 0) = (8 : Int32) ∨ (A.I b1 0) = (9 : Int32) ∨ (A.I b1 0) = (10 : Int32)) → Q (if (v &&& (31 : Int32)) = 0 then (A.L b1 2) else (-1 : Int64)) A) ∧ (((A.I b1 0) = (2 : Int32)) → ((v = 0 → Q (f_X6_constant (0 : Int32)) A) ∧ (¬ v = 0 → ((v = (1 : Int32) → Q (A.L b1 2) A) ∧ (¬ v = (1 : Int32) → ((v ≤ 0 → Q (-1 : Int64) A) ∧ (¬ v ≤ 0 → (((v &&& (v - (1 : Int32))) = 0 → ∀ A6 : xA, A6 = A.setI b1 0 (8 : Int32) → (∀ A7 : xA, A7 = A6.setL b1 3 (f_X6_constant (f_J15_numberOfTrailingZeros v)) → (Q (-1 : Int64) A7))) ∧ (¬ (v &&& (v - (1 : Int32))) = 0 → Q (-1 : Int64) A))))))))) ∧ (((A.I b1 0) = (5 : Int32)) → Q (if v = 0 then (f_X6_constant (0 : Int32)) else (if v = (-1 : Int32) then (A.L b1 2) else (-1 : Int64))) A) ∧ (((A.I b1 0) = (3 : Int32)) → ∃ J8 : xA → Prop, (∀ (A8 : xA), J8 A8 → ((v = (1 : Int32) → A8.tg b1 = 36 ∧ (Q (A8.L b1 2) A8)) ∧ (¬ v = (1 : Int32) → Q (if v = 0 then (f_X6_constant (-1 : Int32)) else (-1 : Int64)) A8))) ∧ ((v = (-1 : Int32) → ∀ A10 : xA, A10 = A.setI b1 0 (1 : Int32) → (∀ A11 : xA, A11 = A10.setL b1 3 (A.L b1 2) → (∀ A12 : xA, A12 = A11.setL b1 2 (f_X6_constant (0 : Int32)) → (J8 A12)))) ∧ (¬ v = (-1 : Int32) → J8 A))) ∧ (((A.I b1 0) = (4 : Int32)) → Q (if v = (1 : Int32) then (f_X6_constant (0 : Int32)) else (if v = (-1 : Int32) then (f_X6_constant (0 : Int32)) else (if v = 0 then (A.L b1 2) else (-1 : Int64)))) A) ∧ ((¬ (A.I b1 0) = (1 : Int32) ∧ ¬ (A.I b1 0) = (0 : Int32) ∧ ¬ (A.I b1 0) = (6 : Int32) ∧ ¬ (A.I b1 0) = (7 : Int32) ∧ ¬ (A.I b1 0) = (8 : Int32) ∧ ¬ (A.I b1 0) = (9 : Int32) ∧ ¬ (A.I b1 0) = (10 : Int32) ∧ ¬ (A.I b1 0) = (2 : Int32) ∧ ¬ (A.I b1 0) = (5 : Int32) ∧ ¬ (A.I b1 0) = (3 : Int32) ∧ ¬ (A.I b1 0) = (4 : Int32)) → Q (-1 : Int64) A))))
theorem m_X8_simple (hG : xOK G) (hO : xHO G) {dp : Nat} {x : Option Nat} {v : Int32} {Q : Int64 → xA → Prop} {A : xA} (h : w_X8_simple G x v Q A) : MX G (dp + 1) kX8_simple [va_rf x, .int v] A (hL Q) := by
  unfold w_X8_simple at h
  refine MX.of rfl (by cases x <;> exact Nat.le_of_ble_eq_true rfl) ?_
  refine X.lvs (lv' := [some (va_rf x), some (.int v)]) (by cases x <;> rfl) ?_
  refine X.xok (fun w0 => ?_)
  replace h := h w0
  refine x_aloadq_n dX8_simple_0 rfl ?_
  obtain ⟨b1, e1, h⟩ := h
  rw [e1]
  obtain ⟨o2, h⟩ := h
  refine x_get (v := .int (A.I b1 0)) hG dX8_simple_1 f_X8_212_35 o2 rfl ?_
  have kt3_0 : ((A.I b1 0) = (1 : Int32)) → X G (dp + 1) kX8_simple (hL Q) A 64 [some (.ref b1), some (.int v)] [] := by
    intro c4
    replace h := h.1 c4
    refine x_aload_n dX8_simple_64 rfl ?_
    refine x_iconst_ (v := (0 : Int32)) dX8_simple_65 (by decide) ?_
    refine z_putI hG hO.1 dX8_simple_66 f_X8_212_35 ⟨_, rfl, Or.inl rfl⟩ o2 (by decide) rfl rfl ⟨_, rfl⟩ (fun A4 e4 => ?_)
    replace h := h A4 e4
    refine x_aload_n dX8_simple_69 rfl ?_
    refine x_iload_n dX8_simple_70 rfl ?_
    refine x_ineg dX8_simple_71 ?_
    refine x_callS hG (Ky := kX6_constant) (As := [.int (-v)]) dX8_simple_72 lk_X8_325 me_X6_constant st_X6_constant rfl rfl (Nat.le_of_ble_eq_true rfl) (MX.post (m_X6_constant hG) ?_)
    rintro _ _ ⟨rfl, rfl⟩
    change X _ _ _ _ _ _ _ (.long (f_X6_constant (-v)) :: _)
    refine z_putL hG hO.1 dX8_simple_75 f_X8_218_35 ⟨_, rfl, Or.inl rfl⟩ (kI e4 o2) (by decide) rfl rfl ⟨_, rfl⟩ (fun A5 e5 => ?_)
    replace h := h A5 e5
    refine x_iload_n dX8_simple_78 rfl ?_
    refine x_via 92 (A' := A5) (lv' := [none, none]) (st' := [.long (if v = 0 then (A.L b1 2) else (-1 : Int64))]) ?_ (fun k92 => ?_)
    rotate_left
    · refine x_if_ne (tgt := 89) dX8_simple_79 (by decide) (fun c79 => ?_) (fun c79 => ?_)
      · refine x_ldc2 hG dX8_simple_89 q2560 ?_
        change X _ _ _ _ _ _ [some (.ref b1), some (.int v)] [.long (-1 : Int64)]
        simp only [if_neg c79] at k92 ⊢
        exact X.weak (xle_n (xle_n xle_nil)) k92
      · refine x_aload_n dX8_simple_82 rfl ?_
        refine x_get (v := .long (A.L b1 2)) hG dX8_simple_83 f_X8_213_35 (kL e5 (kI e4 o2)) (congrArg Value.long ((sL_k e5 (by decide)).trans (sI_L e4))) ?_
        refine x_goto (tgt := 92) dX8_simple_86 (by decide) ?_
        change X _ _ _ _ _ _ [some (.ref b1), some (.int v)] [.long (A.L b1 2)]
        simp only [if_pos c79] at k92 ⊢
        exact X.weak (xle_n (xle_n xle_nil)) k92
    exact x_lret dX8_simple_92 rfl ⟨_, rfl, h⟩
  have kt3_1 : ((A.I b1 0) = (0 : Int32) ∨ (A.I b1 0) = (6 : Int32) ∨ (A.I b1 0) = (7 : Int32)) → X G (dp + 1) kX8_simple (hL Q) A 93 [some (.ref b1), some (.int v)] [] := by
    intro c4
    replace h := h.2.1 c4
    refine x_aload_n dX8_simple_93 rfl ?_
    refine x_get (v := .int (A.I b1 0)) hG dX8_simple_94 f_X8_212_35 o2 rfl ?_
    refine x_bipush_ (v := (6 : Int32)) dX8_simple_97 (by decide) ?_
    refine x_icmp_ne (tgt := 112) dX8_simple_99 (by decide) (fun c99 => ?_) (fun c99 => ?_)
    · replace h := h.2 c99
      refine x_iload_n dX8_simple_112 rfl ?_
      refine x_via 126 (A' := A) (lv' := [none, none]) (st' := [.long (if v = 0 then (A.L b1 2) else (-1 : Int64))]) ?_ (fun k126 => ?_)
      rotate_left
      · refine x_if_ne (tgt := 123) dX8_simple_113 (by decide) (fun c113 => ?_) (fun c113 => ?_)
        · refine x_ldc2 hG dX8_simple_123 q2560 ?_
          change X _ _ _ _ _ _ [some (.ref b1), some (.int v)] [.long (-1 : Int64)]
          simp only [if_neg c113] at k126 ⊢
          exact X.weak (xle_n (xle_n xle_nil)) k126
        · refine x_aload_n dX8_simple_116 rfl ?_
          refine x_get (v := .long (A.L b1 2)) hG dX8_simple_117 f_X8_213_35 o2 rfl ?_
          refine x_goto (tgt := 126) dX8_simple_120 (by decide) ?_
          change X _ _ _ _ _ _ [some (.ref b1), some (.int v)] [.long (A.L b1 2)]
          simp only [if_pos c113] at k126 ⊢
          exact X.weak (xle_n (xle_n xle_nil)) k126
      exact x_lret dX8_simple_126 rfl ⟨_, rfl, h⟩
    · replace h := h.1 c99
      refine x_iload_n dX8_simple_102 rfl ?_
      refine x_iconst_ (v := (-1 : Int32)) dX8_simple_103 (by decide) ?_
      refine x_icmp_ne (tgt := 112) dX8_simple_104 (by decide) (fun c104 => ?_) (fun c104 => ?_)
      · replace h := h.2 c104
        refine x_iload_n dX8_simple_112 rfl ?_
        refine x_via 126 (A' := A) (lv' := [none, none]) (st' := [.long (if v = 0 then (A.L b1 2) else (-1 : Int64))]) ?_ (fun k126 => ?_)
        rotate_left
        · refine x_if_ne (tgt := 123) dX8_simple_113 (by decide) (fun c113 => ?_) (fun c113 => ?_)
          · refine x_ldc2 hG dX8_simple_123 q2560 ?_
            change X _ _ _ _ _ _ [some (.ref b1), some (.int v)] [.long (-1 : Int64)]
            simp only [if_neg c113] at k126 ⊢
            exact X.weak (xle_n (xle_n xle_nil)) k126
          · refine x_aload_n dX8_simple_116 rfl ?_
            refine x_get (v := .long (A.L b1 2)) hG dX8_simple_117 f_X8_213_35 o2 rfl ?_
            refine x_goto (tgt := 126) dX8_simple_120 (by decide) ?_
            change X _ _ _ _ _ _ [some (.ref b1), some (.int v)] [.long (A.L b1 2)]
            simp only [if_pos c113] at k126 ⊢
            exact X.weak (xle_n (xle_n xle_nil)) k126
        exact x_lret dX8_simple_126 rfl ⟨_, rfl, h⟩
      · replace h := h.1 c104
        refine x_iconst_ (v := (-1 : Int32)) dX8_simple_107 (by decide) ?_
        refine x_callS hG (Ky := kX6_constant) (As := [.int (-1 : Int32)]) dX8_simple_108 lk_X8_325 me_X6_constant st_X6_constant rfl rfl (Nat.le_of_ble_eq_true rfl) (MX.post (m_X6_constant hG) ?_)
        rintro _ _ ⟨rfl, rfl⟩
        change X _ _ _ _ _ _ _ (.long (f_X6_constant (-1 : Int32)) :: _)
        exact x_lret dX8_simple_111 rfl ⟨_, rfl, h⟩
  have kt3_2 : ((A.I b1 0) = (8 : Int32) ∨ (A.I b1 0) = (9 : Int32) ∨ (A.I b1 0) = (10 : Int32)) → X G (dp + 1) kX8_simple (hL Q) A 127 [some (.ref b1), some (.int v)] [] := by
    intro c4
    replace h := h.2.2.1 c4
    refine x_iload_n dX8_simple_127 rfl ?_
    refine x_bipush_ (v := (31 : Int32)) dX8_simple_128 (by decide) ?_
    refine x_iand dX8_simple_130 ?_
    refine x_via 144 (A' := A) (lv' := [none, none]) (st' := [.long (if (v &&& (31 : Int32)) = 0 then (A.L b1 2) else (-1 : Int64))]) ?_ (fun k144 => ?_)
    rotate_left
    · refine x_if_ne (tgt := 141) dX8_simple_131 (by decide) (fun c131 => ?_) (fun c131 => ?_)
      · refine x_ldc2 hG dX8_simple_141 q2560 ?_
        change X _ _ _ _ _ _ [some (.ref b1), some (.int v)] [.long (-1 : Int64)]
        simp only [if_neg c131] at k144 ⊢
        exact X.weak (xle_n (xle_n xle_nil)) k144
      · refine x_aload_n dX8_simple_134 rfl ?_
        refine x_get (v := .long (A.L b1 2)) hG dX8_simple_135 f_X8_213_35 o2 rfl ?_
        refine x_goto (tgt := 144) dX8_simple_138 (by decide) ?_
        change X _ _ _ _ _ _ [some (.ref b1), some (.int v)] [.long (A.L b1 2)]
        simp only [if_pos c131] at k144 ⊢
        exact X.weak (xle_n (xle_n xle_nil)) k144
    exact x_lret dX8_simple_144 rfl ⟨_, rfl, h⟩
  have kt3_3 : ((A.I b1 0) = (2 : Int32)) → X G (dp + 1) kX8_simple (hL Q) A 145 [some (.ref b1), some (.int v)] [] := by
    intro c4
    replace h := h.2.2.2.1 c4
    refine x_iload_n dX8_simple_145 rfl ?_
    refine x_if_ne (tgt := 154) dX8_simple_146 (by decide) (fun c146 => ?_) (fun c146 => ?_)
    · replace h := h.2 c146
      refine x_iload_n dX8_simple_154 rfl ?_
      refine x_iconst_ (v := (1 : Int32)) dX8_simple_155 (by decide) ?_
      refine x_icmp_ne (tgt := 164) dX8_simple_156 (by decide) (fun c156 => ?_) (fun c156 => ?_)
      · replace h := h.2 c156
        refine x_iload_n dX8_simple_164 rfl ?_
        refine x_if_le (tgt := 193) dX8_simple_165 (by decide) (fun c165 => ?_) (fun c165 => ?_)
        · replace h := h.1 c165
          refine x_ldc2 hG dX8_simple_193 q2560 ?_
          exact x_lret dX8_simple_196 rfl ⟨_, rfl, h⟩
        · replace h := h.2 c165
          refine x_iload_n dX8_simple_168 rfl ?_
          refine x_iload_n dX8_simple_169 rfl ?_
          refine x_iconst_ (v := (1 : Int32)) dX8_simple_170 (by decide) ?_
          refine x_isub dX8_simple_171 ?_
          refine x_iand dX8_simple_172 ?_
          refine x_if_ne (tgt := 193) dX8_simple_173 (by decide) (fun c173 => ?_) (fun c173 => ?_)
          · replace h := h.2 c173
            refine x_ldc2 hG dX8_simple_193 q2560 ?_
            exact x_lret dX8_simple_196 rfl ⟨_, rfl, h⟩
          · replace h := h.1 c173
            refine x_aload_n dX8_simple_176 rfl ?_
            refine x_bipush_ (v := (8 : Int32)) dX8_simple_177 (by decide) ?_
            refine z_putI hG hO.1 dX8_simple_179 f_X8_212_35 ⟨_, rfl, Or.inl rfl⟩ o2 (by decide) rfl rfl ⟨_, rfl⟩ (fun A6 e6 => ?_)
            replace h := h A6 e6
            refine x_aload_n dX8_simple_182 rfl ?_
            refine x_iload_n dX8_simple_183 rfl ?_
            refine x_callS hG (Ky := kJ15_numberOfTrailingZeros) (As := [.int v]) dX8_simple_184 lk_X8_394 me_J15_numberOfTrailingZeros st_J15_numberOfTrailingZeros rfl rfl (Nat.le_of_ble_eq_true rfl) (MX.post (m_J15_numberOfTrailingZeros hG) ?_)
            rintro _ _ ⟨rfl, rfl⟩
            change X _ _ _ _ _ _ _ (.int (f_J15_numberOfTrailingZeros v) :: _)
            refine x_callS hG (Ky := kX6_constant) (As := [.int (f_J15_numberOfTrailingZeros v)]) dX8_simple_187 lk_X8_325 me_X6_constant st_X6_constant rfl rfl (Nat.le_of_ble_eq_true rfl) (MX.post (m_X6_constant hG) ?_)
            rintro _ _ ⟨rfl, rfl⟩
            change X _ _ _ _ _ _ _ (.long (f_X6_constant (f_J15_numberOfTrailingZeros v)) :: _)
            refine z_putL hG hO.1 dX8_simple_190 f_X8_218_35 ⟨_, rfl, Or.inl rfl⟩ (kI e6 o2) (by decide) rfl rfl ⟨_, rfl⟩ (fun A7 e7 => ?_)
            replace h := h A7 e7
            refine x_ldc2 hG dX8_simple_193 q2560 ?_
            exact x_lret dX8_simple_196 rfl ⟨_, rfl, h⟩
      · replace h := h.1 c156
        refine x_aload_n dX8_simple_159 rfl ?_
        refine x_get (v := .long (A.L b1 2)) hG dX8_simple_160 f_X8_213_35 o2 rfl ?_
        exact x_lret dX8_simple_163 rfl ⟨_, rfl, h⟩
    · replace h := h.1 c146
      refine x_iconst_ (v := (0 : Int32)) dX8_simple_149 (by decide) ?_
      refine x_callS hG (Ky := kX6_constant) (As := [.int (0 : Int32)]) dX8_simple_150 lk_X8_325 me_X6_constant st_X6_constant rfl rfl (Nat.le_of_ble_eq_true rfl) (MX.post (m_X6_constant hG) ?_)
      rintro _ _ ⟨rfl, rfl⟩
      change X _ _ _ _ _ _ _ (.long (f_X6_constant (0 : Int32)) :: _)
      exact x_lret dX8_simple_153 rfl ⟨_, rfl, h⟩
  have kt3_4 : ((A.I b1 0) = (5 : Int32)) → X G (dp + 1) kX8_simple (hL Q) A 197 [some (.ref b1), some (.int v)] [] := by
    intro c4
    replace h := h.2.2.2.2.1 c4
    refine x_iload_n dX8_simple_197 rfl ?_
    refine x_via 223 (A' := A) (lv' := [none, none]) (st' := [.long (if v = 0 then (f_X6_constant (0 : Int32)) else (if v = (-1 : Int32) then (A.L b1 2) else (-1 : Int64)))]) ?_ (fun k223 => ?_)
    rotate_left
    · refine x_if_ne (tgt := 208) dX8_simple_198 (by decide) (fun c198 => ?_) (fun c198 => ?_)
      · refine x_iload_n dX8_simple_208 rfl ?_
        refine x_iconst_ (v := (-1 : Int32)) dX8_simple_209 (by decide) ?_
        refine x_icmp_ne (tgt := 220) dX8_simple_210 (by decide) (fun c210 => ?_) (fun c210 => ?_)
        · refine x_ldc2 hG dX8_simple_220 q2560 ?_
          change X _ _ _ _ _ _ [some (.ref b1), some (.int v)] [.long (-1 : Int64)]
          try simp only [if_neg c198] at c210 k223 ⊢
          try simp only [if_neg c210] at k223 ⊢
          exact X.weak (xle_n (xle_n xle_nil)) k223
        · refine x_aload_n dX8_simple_213 rfl ?_
          refine x_get (v := .long (A.L b1 2)) hG dX8_simple_214 f_X8_213_35 o2 rfl ?_
          refine x_goto (tgt := 223) dX8_simple_217 (by decide) ?_
          change X _ _ _ _ _ _ [some (.ref b1), some (.int v)] [.long (A.L b1 2)]
          try simp only [if_neg c198] at c210 k223 ⊢
          try simp only [if_pos c210] at k223 ⊢
          exact X.weak (xle_n (xle_n xle_nil)) k223
      · refine x_iconst_ (v := (0 : Int32)) dX8_simple_201 (by decide) ?_
        refine x_callS hG (Ky := kX6_constant) (As := [.int (0 : Int32)]) dX8_simple_202 lk_X8_325 me_X6_constant st_X6_constant rfl rfl (Nat.le_of_ble_eq_true rfl) (MX.post (m_X6_constant hG) ?_)
        rintro _ _ ⟨rfl, rfl⟩
        change X _ _ _ _ _ _ _ (.long (f_X6_constant (0 : Int32)) :: _)
        refine x_goto (tgt := 223) dX8_simple_205 (by decide) ?_
        change X _ _ _ _ _ _ [some (.ref b1), some (.int v)] [.long (f_X6_constant (0 : Int32))]
        simp only [if_pos c198] at k223 ⊢
        exact X.weak (xle_n (xle_n xle_nil)) k223
    exact x_lret dX8_simple_223 rfl ⟨_, rfl, h⟩
  have kt3_5 : ((A.I b1 0) = (3 : Int32)) → X G (dp + 1) kX8_simple (hL Q) A 224 [some (.ref b1), some (.int v)] [] := by
    intro c4
    replace h := h.2.2.2.2.2.1 c4
    refine x_iload_n dX8_simple_224 rfl ?_
    refine x_iconst_ (v := (-1 : Int32)) dX8_simple_225 (by decide) ?_
    obtain ⟨J8, g8, h⟩ := h
    have kj8 : ∀ (A8 : xA), J8 A8 → X G (dp + 1) kX8_simple (hL Q) A8 250 [some (.ref b1), some (.int v)] [] := by
      intro A8 h
      replace h := g8 A8 h
      refine x_iload_n dX8_simple_250 rfl ?_
      refine x_iconst_ (v := (1 : Int32)) dX8_simple_251 (by decide) ?_
      refine x_icmp_ne (tgt := 262) dX8_simple_252 (by decide) (fun c252 => ?_) (fun c252 => ?_)
      · replace h := h.2 c252
        refine x_iload_n dX8_simple_262 rfl ?_
        refine x_via 276 (A' := A8) (lv' := [none, none]) (st' := [.long (if v = 0 then (f_X6_constant (-1 : Int32)) else (-1 : Int64))]) ?_ (fun k276 => ?_)
        rotate_left
        · refine x_if_ne (tgt := 273) dX8_simple_263 (by decide) (fun c263 => ?_) (fun c263 => ?_)
          · refine x_ldc2 hG dX8_simple_273 q2560 ?_
            change X _ _ _ _ _ _ [some (.ref b1), some (.int v)] [.long (-1 : Int64)]
            simp only [if_neg c263] at k276 ⊢
            exact X.weak (xle_n (xle_n xle_nil)) k276
          · refine x_iconst_ (v := (-1 : Int32)) dX8_simple_266 (by decide) ?_
            refine x_callS hG (Ky := kX6_constant) (As := [.int (-1 : Int32)]) dX8_simple_267 lk_X8_325 me_X6_constant st_X6_constant rfl rfl (Nat.le_of_ble_eq_true rfl) (MX.post (m_X6_constant hG) ?_)
            rintro _ _ ⟨rfl, rfl⟩
            change X _ _ _ _ _ _ _ (.long (f_X6_constant (-1 : Int32)) :: _)
            refine x_goto (tgt := 276) dX8_simple_270 (by decide) ?_
            change X _ _ _ _ _ _ [some (.ref b1), some (.int v)] [.long (f_X6_constant (-1 : Int32))]
            simp only [if_pos c263] at k276 ⊢
            exact X.weak (xle_n (xle_n xle_nil)) k276
        exact x_lret dX8_simple_276 rfl ⟨_, rfl, h⟩
      · replace h := h.1 c252
        refine x_aload_n dX8_simple_255 rfl ?_
        obtain ⟨o9, h⟩ := h
        refine x_get (v := .long (A8.L b1 2)) hG dX8_simple_256 f_X8_213_35 o9 rfl ?_
        refine x_goto (tgt := 276) dX8_simple_259 (by decide) ?_
        exact x_lret dX8_simple_276 rfl ⟨_, rfl, h⟩
    refine x_icmp_ne (tgt := 250) dX8_simple_226 (by decide) (fun c226 => ?_) (fun c226 => ?_)
    · replace h := h.2 c226
      change X _ _ _ _ _ _ [some (.ref b1), some (.int v)] []
      exact X.weak (xle_c rfl (xle_c rfl xle_nil)) (kj8 A h)
    · replace h := h.1 c226
      refine x_aload_n dX8_simple_229 rfl ?_
      refine x_iconst_ (v := (1 : Int32)) dX8_simple_230 (by decide) ?_
      refine z_putI hG hO.1 dX8_simple_231 f_X8_212_35 ⟨_, rfl, Or.inl rfl⟩ o2 (by decide) rfl rfl ⟨_, rfl⟩ (fun A10 e10 => ?_)
      replace h := h A10 e10
      refine x_aload_n dX8_simple_234 rfl ?_
      refine x_aload_n dX8_simple_235 rfl ?_
      refine x_get (v := .long (A.L b1 2)) hG dX8_simple_236 f_X8_213_35 (kI e10 o2) (congrArg Value.long (sI_L e10)) ?_
      refine z_putL hG hO.1 dX8_simple_239 f_X8_218_35 ⟨_, rfl, Or.inl rfl⟩ (kI e10 o2) (by decide) rfl rfl ⟨_, rfl⟩ (fun A11 e11 => ?_)
      replace h := h A11 e11
      refine x_aload_n dX8_simple_242 rfl ?_
      refine x_iconst_ (v := (0 : Int32)) dX8_simple_243 (by decide) ?_
      refine x_callS hG (Ky := kX6_constant) (As := [.int (0 : Int32)]) dX8_simple_244 lk_X8_325 me_X6_constant st_X6_constant rfl rfl (Nat.le_of_ble_eq_true rfl) (MX.post (m_X6_constant hG) ?_)
      rintro _ _ ⟨rfl, rfl⟩
      change X _ _ _ _ _ _ _ (.long (f_X6_constant (0 : Int32)) :: _)
      refine z_putL hG hO.1 dX8_simple_247 f_X8_213_35 ⟨_, rfl, Or.inl rfl⟩ (kL e11 (kI e10 o2)) (by decide) rfl rfl ⟨_, rfl⟩ (fun A12 e12 => ?_)
      replace h := h A12 e12
      change X _ _ _ _ _ _ [some (.ref b1), some (.int v)] []
      exact X.weak (xle_c rfl (xle_c rfl xle_nil)) (kj8 A12 h)
  have kt3_6 : ((A.I b1 0) = (4 : Int32)) → X G (dp + 1) kX8_simple (hL Q) A 277 [some (.ref b1), some (.int v)] [] := by
    intro c4
    replace h := h.2.2.2.2.2.2.1 c4
    refine x_iload_n dX8_simple_277 rfl ?_
    refine x_iconst_ (v := (1 : Int32)) dX8_simple_278 (by decide) ?_
    refine x_via 308 (A' := A) (lv' := [none, none]) (st' := [.long (if v = (1 : Int32) then (f_X6_constant (0 : Int32)) else (if v = (-1 : Int32) then (f_X6_constant (0 : Int32)) else (if v = 0 then (A.L b1 2) else (-1 : Int64))))]) ?_ (fun k308 => ?_)
    rotate_left
    · refine x_icmp_eq (tgt := 287) dX8_simple_279 (by decide) (fun c279 => ?_) (fun c279 => ?_)
      · refine x_iconst_ (v := (0 : Int32)) dX8_simple_287 (by decide) ?_
        refine x_callS hG (Ky := kX6_constant) (As := [.int (0 : Int32)]) dX8_simple_288 lk_X8_325 me_X6_constant st_X6_constant rfl rfl (Nat.le_of_ble_eq_true rfl) (MX.post (m_X6_constant hG) ?_)
        rintro _ _ ⟨rfl, rfl⟩
        change X _ _ _ _ _ _ _ (.long (f_X6_constant (0 : Int32)) :: _)
        refine x_goto (tgt := 308) dX8_simple_291 (by decide) ?_
        change X _ _ _ _ _ _ [some (.ref b1), some (.int v)] [.long (f_X6_constant (0 : Int32))]
        simp only [if_pos c279] at k308 ⊢
        exact X.weak (xle_n (xle_n xle_nil)) k308
      · refine x_iload_n dX8_simple_282 rfl ?_
        refine x_iconst_ (v := (-1 : Int32)) dX8_simple_283 (by decide) ?_
        refine x_icmp_ne (tgt := 294) dX8_simple_284 (by decide) (fun c284 => ?_) (fun c284 => ?_)
        · refine x_iload_n dX8_simple_294 rfl ?_
          refine x_if_ne (tgt := 305) dX8_simple_295 (by decide) (fun c295 => ?_) (fun c295 => ?_)
          · refine x_ldc2 hG dX8_simple_305 q2560 ?_
            change X _ _ _ _ _ _ [some (.ref b1), some (.int v)] [.long (-1 : Int64)]
            try simp only [if_neg c279] at c284 c295 k308 ⊢
            try simp only [if_neg c284] at c295 k308 ⊢
            try simp only [if_neg c295] at k308 ⊢
            exact X.weak (xle_n (xle_n xle_nil)) k308
          · refine x_aload_n dX8_simple_298 rfl ?_
            refine x_get (v := .long (A.L b1 2)) hG dX8_simple_299 f_X8_213_35 o2 rfl ?_
            refine x_goto (tgt := 308) dX8_simple_302 (by decide) ?_
            change X _ _ _ _ _ _ [some (.ref b1), some (.int v)] [.long (A.L b1 2)]
            try simp only [if_neg c279] at c284 c295 k308 ⊢
            try simp only [if_neg c284] at c295 k308 ⊢
            try simp only [if_pos c295] at k308 ⊢
            exact X.weak (xle_n (xle_n xle_nil)) k308
        · refine x_iconst_ (v := (0 : Int32)) dX8_simple_287 (by decide) ?_
          refine x_callS hG (Ky := kX6_constant) (As := [.int (0 : Int32)]) dX8_simple_288 lk_X8_325 me_X6_constant st_X6_constant rfl rfl (Nat.le_of_ble_eq_true rfl) (MX.post (m_X6_constant hG) ?_)
          rintro _ _ ⟨rfl, rfl⟩
          change X _ _ _ _ _ _ _ (.long (f_X6_constant (0 : Int32)) :: _)
          refine x_goto (tgt := 308) dX8_simple_291 (by decide) ?_
          change X _ _ _ _ _ _ [some (.ref b1), some (.int v)] [.long (f_X6_constant (0 : Int32))]
          try simp only [if_neg c279] at c284 k308 ⊢
          try simp only [if_pos c284] at k308 ⊢
          exact X.weak (xle_n (xle_n xle_nil)) k308
    exact x_lret dX8_simple_308 rfl ⟨_, rfl, h⟩
  have kd3 : (¬ (A.I b1 0) = (1 : Int32) ∧ ¬ (A.I b1 0) = (0 : Int32) ∧ ¬ (A.I b1 0) = (6 : Int32) ∧ ¬ (A.I b1 0) = (7 : Int32) ∧ ¬ (A.I b1 0) = (8 : Int32) ∧ ¬ (A.I b1 0) = (9 : Int32) ∧ ¬ (A.I b1 0) = (10 : Int32) ∧ ¬ (A.I b1 0) = (2 : Int32) ∧ ¬ (A.I b1 0) = (5 : Int32) ∧ ¬ (A.I b1 0) = (3 : Int32) ∧ ¬ (A.I b1 0) = (4 : Int32)) → X G (dp + 1) kX8_simple (hL Q) A 309 [some (.ref b1), some (.int v)] [] := by
    intro c4
    replace h := h.2.2.2.2.2.2.2 c4
    refine x_ldc2 hG dX8_simple_309 q2560 ?_
    exact x_lret dX8_simple_312 rfl ⟨_, rfl, h⟩
  refine x_sw (0 : Int32) (fun s4_0 => ?_) (fun s4_0 => ?_)
  · refine x_tableIn (off := 89) (tgt := 93) dX8_simple_4 (by rw [s4_0]; decide) (by rw [s4_0]; decide) (by rw [s4_0]; rfl) (by decide) ?_
    exact kt3_1 (by simp only [s4_0]; decide)
  refine x_sw (1 : Int32) (fun s4_1 => ?_) (fun s4_1 => ?_)
  · refine x_tableIn (off := 60) (tgt := 64) dX8_simple_4 (by rw [s4_1]; decide) (by rw [s4_1]; decide) (by rw [s4_1]; rfl) (by decide) ?_
    exact kt3_0 s4_1
  refine x_sw (2 : Int32) (fun s4_2 => ?_) (fun s4_2 => ?_)
  · refine x_tableIn (off := 141) (tgt := 145) dX8_simple_4 (by rw [s4_2]; decide) (by rw [s4_2]; decide) (by rw [s4_2]; rfl) (by decide) ?_
    exact kt3_3 s4_2
  refine x_sw (3 : Int32) (fun s4_3 => ?_) (fun s4_3 => ?_)
  · refine x_tableIn (off := 220) (tgt := 224) dX8_simple_4 (by rw [s4_3]; decide) (by rw [s4_3]; decide) (by rw [s4_3]; rfl) (by decide) ?_
    exact kt3_5 s4_3
  refine x_sw (4 : Int32) (fun s4_4 => ?_) (fun s4_4 => ?_)
  · refine x_tableIn (off := 273) (tgt := 277) dX8_simple_4 (by rw [s4_4]; decide) (by rw [s4_4]; decide) (by rw [s4_4]; rfl) (by decide) ?_
    exact kt3_6 s4_4
  refine x_sw (5 : Int32) (fun s4_5 => ?_) (fun s4_5 => ?_)
  · refine x_tableIn (off := 193) (tgt := 197) dX8_simple_4 (by rw [s4_5]; decide) (by rw [s4_5]; decide) (by rw [s4_5]; rfl) (by decide) ?_
    exact kt3_4 s4_5
  refine x_sw (6 : Int32) (fun s4_6 => ?_) (fun s4_6 => ?_)
  · refine x_tableIn (off := 89) (tgt := 93) dX8_simple_4 (by rw [s4_6]; decide) (by rw [s4_6]; decide) (by rw [s4_6]; rfl) (by decide) ?_
    exact kt3_1 (by simp only [s4_6]; decide)
  refine x_sw (7 : Int32) (fun s4_7 => ?_) (fun s4_7 => ?_)
  · refine x_tableIn (off := 89) (tgt := 93) dX8_simple_4 (by rw [s4_7]; decide) (by rw [s4_7]; decide) (by rw [s4_7]; rfl) (by decide) ?_
    exact kt3_1 (by simp only [s4_7]; decide)
  refine x_sw (8 : Int32) (fun s4_8 => ?_) (fun s4_8 => ?_)
  · refine x_tableIn (off := 123) (tgt := 127) dX8_simple_4 (by rw [s4_8]; decide) (by rw [s4_8]; decide) (by rw [s4_8]; rfl) (by decide) ?_
    exact kt3_2 (by simp only [s4_8]; decide)
  refine x_sw (9 : Int32) (fun s4_9 => ?_) (fun s4_9 => ?_)
  · refine x_tableIn (off := 123) (tgt := 127) dX8_simple_4 (by rw [s4_9]; decide) (by rw [s4_9]; decide) (by rw [s4_9]; rfl) (by decide) ?_
    exact kt3_2 (by simp only [s4_9]; decide)
  refine x_sw (10 : Int32) (fun s4_10 => ?_) (fun s4_10 => ?_)
  · refine x_tableIn (off := 123) (tgt := 127) dX8_simple_4 (by rw [s4_10]; decide) (by rw [s4_10]; decide) (by rw [s4_10]; rfl) (by decide) ?_
    exact kt3_2 (by simp only [s4_10]; decide)
  have t4_0 := lv_neT s4_0 (a := 0) (by decide)
  have t4_1 := lv_neT s4_1 (a := 1) (by decide)
  have t4_2 := lv_neT s4_2 (a := 2) (by decide)
  have t4_3 := lv_neT s4_3 (a := 3) (by decide)
  have t4_4 := lv_neT s4_4 (a := 4) (by decide)
  have t4_5 := lv_neT s4_5 (a := 5) (by decide)
  have t4_6 := lv_neT s4_6 (a := 6) (by decide)
  have t4_7 := lv_neT s4_7 (a := 7) (by decide)
  have t4_8 := lv_neT s4_8 (a := 8) (by decide)
  have t4_9 := lv_neT s4_9 (a := 9) (by decide)
  have t4_10 := lv_neT s4_10 (a := 10) (by decide)
  refine x_tableOut (tgt := 309) dX8_simple_4 (by omega) (by decide) ?_
  exact kd3 ⟨s4_1, s4_0, s4_6, s4_7, s4_8, s4_9, s4_10, s4_2, s4_5, s4_3, s4_4⟩
def w_X8_alike (G : xG) (x : Option Nat) (Q : Int64 → xA → Prop) (A : xA) : Prop := xok G A → ∃ b1 : Nat, x = some b1 ∧ (A.tg b1 = 36 ∧ (((((A.I b1 0) = (1 : Int32) ∨ (A.I b1 0) = (7 : Int32) ∨ (A.I b1 0) = (12 : Int32) ∨ (A.I b1 0) = (13 : Int32)) → Q (f_X6_constant (0 : Int32)) A) ∧ (((A.I b1 0) = (5 : Int32) ∨ (A.I b1 0) = (6 : Int32)) → Q (A.L b1 2) A) ∧ (((A.I b1 0) = (11 : Int32) ∨ (A.I b1 0) = (16 : Int32)) → Q (f_X6_constant (1 : Int32)) A) ∧ ((¬ (A.I b1 0) = (1 : Int32) ∧ ¬ (A.I b1 0) = (7 : Int32) ∧ ¬ (A.I b1 0) = (12 : Int32) ∧ ¬ (A.I b1 0) = (13 : Int32) ∧ ¬ (A.I b1 0) = (5 : Int32) ∧ ¬ (A.I b1 0) = (6 : Int32) ∧ ¬ (A.I b1 0) = (11 : Int32) ∧ ¬ (A.I b1 0) = (16 : Int32)) → Q (-1 : Int64) A))))
theorem m_X8_alike (hG : xOK G) (hO : xHO G) {dp : Nat} {x : Option Nat} {Q : Int64 → xA → Prop} {A : xA} (h : w_X8_alike G x Q A) : MX G (dp + 1) kX8_alike [va_rf x] A (hL Q) := by
  unfold w_X8_alike at h
  refine MX.of rfl (by cases x <;> exact Nat.le_of_ble_eq_true rfl) ?_
  refine X.lvs (lv' := [some (va_rf x)]) (by cases x <;> rfl) ?_
  refine X.xok (fun w0 => ?_)
  replace h := h w0
  refine x_aloadq_n dX8_alike_0 rfl ?_
  obtain ⟨b1, e1, h⟩ := h
  rw [e1]
  obtain ⟨o2, h⟩ := h
  refine x_get (v := .int (A.I b1 0)) hG dX8_alike_1 f_X8_212_35 o2 rfl ?_
  have kt3_0 : ((A.I b1 0) = (1 : Int32) ∨ (A.I b1 0) = (7 : Int32) ∨ (A.I b1 0) = (12 : Int32) ∨ (A.I b1 0) = (13 : Int32)) → X G (dp + 1) kX8_alike (hL Q) A 84 [some (.ref b1)] [] := by
    intro c4
    replace h := h.1 c4
    refine x_iconst_ (v := (0 : Int32)) dX8_alike_84 (by decide) ?_
    refine x_callS hG (Ky := kX6_constant) (As := [.int (0 : Int32)]) dX8_alike_85 lk_X8_325 me_X6_constant st_X6_constant rfl rfl (Nat.le_of_ble_eq_true rfl) (MX.post (m_X6_constant hG) ?_)
    rintro _ _ ⟨rfl, rfl⟩
    change X _ _ _ _ _ _ _ (.long (f_X6_constant (0 : Int32)) :: _)
    exact x_lret dX8_alike_88 rfl ⟨_, rfl, h⟩
  have kt3_1 : ((A.I b1 0) = (5 : Int32) ∨ (A.I b1 0) = (6 : Int32)) → X G (dp + 1) kX8_alike (hL Q) A 89 [some (.ref b1)] [] := by
    intro c4
    replace h := h.2.1 c4
    refine x_aload_n dX8_alike_89 rfl ?_
    refine x_get (v := .long (A.L b1 2)) hG dX8_alike_90 f_X8_213_35 o2 rfl ?_
    exact x_lret dX8_alike_93 rfl ⟨_, rfl, h⟩
  have kt3_2 : ((A.I b1 0) = (11 : Int32) ∨ (A.I b1 0) = (16 : Int32)) → X G (dp + 1) kX8_alike (hL Q) A 94 [some (.ref b1)] [] := by
    intro c4
    replace h := h.2.2.1 c4
    refine x_iconst_ (v := (1 : Int32)) dX8_alike_94 (by decide) ?_
    refine x_callS hG (Ky := kX6_constant) (As := [.int (1 : Int32)]) dX8_alike_95 lk_X8_325 me_X6_constant st_X6_constant rfl rfl (Nat.le_of_ble_eq_true rfl) (MX.post (m_X6_constant hG) ?_)
    rintro _ _ ⟨rfl, rfl⟩
    change X _ _ _ _ _ _ _ (.long (f_X6_constant (1 : Int32)) :: _)
    exact x_lret dX8_alike_98 rfl ⟨_, rfl, h⟩
  have kd3 : (¬ (A.I b1 0) = (1 : Int32) ∧ ¬ (A.I b1 0) = (7 : Int32) ∧ ¬ (A.I b1 0) = (12 : Int32) ∧ ¬ (A.I b1 0) = (13 : Int32) ∧ ¬ (A.I b1 0) = (5 : Int32) ∧ ¬ (A.I b1 0) = (6 : Int32) ∧ ¬ (A.I b1 0) = (11 : Int32) ∧ ¬ (A.I b1 0) = (16 : Int32)) → X G (dp + 1) kX8_alike (hL Q) A 99 [some (.ref b1)] [] := by
    intro c4
    replace h := h.2.2.2 c4
    refine x_ldc2 hG dX8_alike_99 q2560 ?_
    exact x_lret dX8_alike_102 rfl ⟨_, rfl, h⟩
  refine x_sw (1 : Int32) (fun s4_0 => ?_) (fun s4_0 => ?_)
  · refine x_tableIn (off := 80) (tgt := 84) dX8_alike_4 (by rw [s4_0]; decide) (by rw [s4_0]; decide) (by rw [s4_0]; rfl) (by decide) ?_
    exact kt3_0 (by simp only [s4_0]; decide)
  refine x_sw (2 : Int32) (fun s4_1 => ?_) (fun s4_1 => ?_)
  · refine x_tableIn (off := 95) (tgt := 99) dX8_alike_4 (by rw [s4_1]; decide) (by rw [s4_1]; decide) (by rw [s4_1]; rfl) (by decide) ?_
    exact kd3 (by rw [s4_1]; decide)
  refine x_sw (3 : Int32) (fun s4_2 => ?_) (fun s4_2 => ?_)
  · refine x_tableIn (off := 95) (tgt := 99) dX8_alike_4 (by rw [s4_2]; decide) (by rw [s4_2]; decide) (by rw [s4_2]; rfl) (by decide) ?_
    exact kd3 (by rw [s4_2]; decide)
  refine x_sw (4 : Int32) (fun s4_3 => ?_) (fun s4_3 => ?_)
  · refine x_tableIn (off := 95) (tgt := 99) dX8_alike_4 (by rw [s4_3]; decide) (by rw [s4_3]; decide) (by rw [s4_3]; rfl) (by decide) ?_
    exact kd3 (by rw [s4_3]; decide)
  refine x_sw (5 : Int32) (fun s4_4 => ?_) (fun s4_4 => ?_)
  · refine x_tableIn (off := 85) (tgt := 89) dX8_alike_4 (by rw [s4_4]; decide) (by rw [s4_4]; decide) (by rw [s4_4]; rfl) (by decide) ?_
    exact kt3_1 (by simp only [s4_4]; decide)
  refine x_sw (6 : Int32) (fun s4_5 => ?_) (fun s4_5 => ?_)
  · refine x_tableIn (off := 85) (tgt := 89) dX8_alike_4 (by rw [s4_5]; decide) (by rw [s4_5]; decide) (by rw [s4_5]; rfl) (by decide) ?_
    exact kt3_1 (by simp only [s4_5]; decide)
  refine x_sw (7 : Int32) (fun s4_6 => ?_) (fun s4_6 => ?_)
  · refine x_tableIn (off := 80) (tgt := 84) dX8_alike_4 (by rw [s4_6]; decide) (by rw [s4_6]; decide) (by rw [s4_6]; rfl) (by decide) ?_
    exact kt3_0 (by simp only [s4_6]; decide)
  refine x_sw (8 : Int32) (fun s4_7 => ?_) (fun s4_7 => ?_)
  · refine x_tableIn (off := 95) (tgt := 99) dX8_alike_4 (by rw [s4_7]; decide) (by rw [s4_7]; decide) (by rw [s4_7]; rfl) (by decide) ?_
    exact kd3 (by rw [s4_7]; decide)
  refine x_sw (9 : Int32) (fun s4_8 => ?_) (fun s4_8 => ?_)
  · refine x_tableIn (off := 95) (tgt := 99) dX8_alike_4 (by rw [s4_8]; decide) (by rw [s4_8]; decide) (by rw [s4_8]; rfl) (by decide) ?_
    exact kd3 (by rw [s4_8]; decide)
  refine x_sw (10 : Int32) (fun s4_9 => ?_) (fun s4_9 => ?_)
  · refine x_tableIn (off := 95) (tgt := 99) dX8_alike_4 (by rw [s4_9]; decide) (by rw [s4_9]; decide) (by rw [s4_9]; rfl) (by decide) ?_
    exact kd3 (by rw [s4_9]; decide)
  refine x_sw (11 : Int32) (fun s4_10 => ?_) (fun s4_10 => ?_)
  · refine x_tableIn (off := 90) (tgt := 94) dX8_alike_4 (by rw [s4_10]; decide) (by rw [s4_10]; decide) (by rw [s4_10]; rfl) (by decide) ?_
    exact kt3_2 (by simp only [s4_10]; decide)
  refine x_sw (12 : Int32) (fun s4_11 => ?_) (fun s4_11 => ?_)
  · refine x_tableIn (off := 80) (tgt := 84) dX8_alike_4 (by rw [s4_11]; decide) (by rw [s4_11]; decide) (by rw [s4_11]; rfl) (by decide) ?_
    exact kt3_0 (by simp only [s4_11]; decide)
  refine x_sw (13 : Int32) (fun s4_12 => ?_) (fun s4_12 => ?_)
  · refine x_tableIn (off := 80) (tgt := 84) dX8_alike_4 (by rw [s4_12]; decide) (by rw [s4_12]; decide) (by rw [s4_12]; rfl) (by decide) ?_
    exact kt3_0 (by simp only [s4_12]; decide)
  refine x_sw (14 : Int32) (fun s4_13 => ?_) (fun s4_13 => ?_)
  · refine x_tableIn (off := 95) (tgt := 99) dX8_alike_4 (by rw [s4_13]; decide) (by rw [s4_13]; decide) (by rw [s4_13]; rfl) (by decide) ?_
    exact kd3 (by rw [s4_13]; decide)
  refine x_sw (15 : Int32) (fun s4_14 => ?_) (fun s4_14 => ?_)
  · refine x_tableIn (off := 95) (tgt := 99) dX8_alike_4 (by rw [s4_14]; decide) (by rw [s4_14]; decide) (by rw [s4_14]; rfl) (by decide) ?_
    exact kd3 (by rw [s4_14]; decide)
  refine x_sw (16 : Int32) (fun s4_15 => ?_) (fun s4_15 => ?_)
  · refine x_tableIn (off := 90) (tgt := 94) dX8_alike_4 (by rw [s4_15]; decide) (by rw [s4_15]; decide) (by rw [s4_15]; rfl) (by decide) ?_
    exact kt3_2 (by simp only [s4_15]; decide)
  have t4_0 := lv_neT s4_0 (a := 1) (by decide)
  have t4_1 := lv_neT s4_1 (a := 2) (by decide)
  have t4_2 := lv_neT s4_2 (a := 3) (by decide)
  have t4_3 := lv_neT s4_3 (a := 4) (by decide)
  have t4_4 := lv_neT s4_4 (a := 5) (by decide)
  have t4_5 := lv_neT s4_5 (a := 6) (by decide)
  have t4_6 := lv_neT s4_6 (a := 7) (by decide)
  have t4_7 := lv_neT s4_7 (a := 8) (by decide)
  have t4_8 := lv_neT s4_8 (a := 9) (by decide)
  have t4_9 := lv_neT s4_9 (a := 10) (by decide)
  have t4_10 := lv_neT s4_10 (a := 11) (by decide)
  have t4_11 := lv_neT s4_11 (a := 12) (by decide)
  have t4_12 := lv_neT s4_12 (a := 13) (by decide)
  have t4_13 := lv_neT s4_13 (a := 14) (by decide)
  have t4_14 := lv_neT s4_14 (a := 15) (by decide)
  have t4_15 := lv_neT s4_15 (a := 16) (by decide)
  refine x_tableOut (tgt := 99) dX8_alike_4 (by omega) (by decide) ?_
  exact kd3 ⟨s4_0, s4_6, s4_11, s4_12, s4_4, s4_5, s4_10, s4_15⟩
def w_X8_remember (G : xG) (p : Nat) (x : Option Nat) (a : Int32) (b : Int32) (Q : xA → Prop) (A : xA) : Prop := xok G A → A.tg p = 8 ∧ (∃ L2 : Nat → Int32 → Prop, (∃ n2 : Nat, L2 n2 ((A.I p 15) - (1 : Int32))) ∧ (∀ (n2 : Nat) (y2_4 : Int32), L2 n2 y2_4 → ((y2_4 < 0 → ∃ R3 : Int32 → xA → Prop, w_X8_fresh G p R3 A ∧ (∀ (v3 : Int32) (A3 : xA), xok G A3 → R3 v3 A3 → (A3.tg p = 8 ∧ (∃ b5 : Nat, x = some b5 ∧ (A3.tg b5 = 36 ∧ (∃ b7 : Nat, (A3.P p 23) = some b7 ∧ (A3.tg b7 = 200 ∧ (G.N ≤ b7 ∧ (vp_in (A3.I p 15) (A3.ln b7) ∧ (∀ A11 : xA, A11 = A3.setI b7 (ix (A3.I p 15)) (A3.I b5 0) → (∃ b12 : Nat, (A3.P p 24) = some b12 ∧ (A11.tg b12 = 200 ∧ (G.N ≤ b12 ∧ (vp_in (A3.I p 15) (A11.ln b12) ∧ (∀ A16 : xA, A16 = A11.setI b12 (ix (A3.I p 15)) a → (∃ b17 : Nat, (A3.P p 25) = some b17 ∧ (A16.tg b17 = 200 ∧ (G.N ≤ b17 ∧ (vp_in (A3.I p 15) (A16.ln b17) ∧ (∀ A21 : xA, A21 = A16.setI b17 (ix (A3.I p 15)) b → (∃ b22 : Nat, (A3.P p 26) = some b22 ∧ (A21.tg b22 = 200 ∧ (G.N ≤ b22 ∧ (vp_in (A3.I p 15) (A21.ln b22) ∧ (∀ A26 : xA, A26 = A21.setI b22 (ix (A3.I p 15)) v3 → (∀ A27 : xA, A27 = A26.setI p 15 ((A3.I p 15) + (1 : Int32)) → (∃ R28 : xA → Prop, w_X8_define G p (A3.I b5 1) v3 R28 A27 ∧ (∀ A28 : xA, xok G A28 → R28 A28 → (A28.tg p = 8 ∧ (∃ R29 : xA → Prop, w_X8_keep G p (some b5) R29 A28 ∧ (∀ A29 : xA, xok G A29 → R29 A29 → (Q A29)))))))))))))))))))))))))))))))) ∧ (¬ y2_4 < 0 → ∃ b31 : Nat, (A.P p 23) = some b31 ∧ (A.tg b31 = 200 ∧ (vp_in y2_4 (A.ln b31) ∧ (∃ b34 : Nat, x = some b34 ∧ (A.tg b34 = 36 ∧ ((((A.I b31 (ix y2_4)) = (A.I b34 0) → ∃ b36 : Nat, (A.P p 24) = some b36 ∧ (A.tg b36 = 200 ∧ (vp_in y2_4 (A.ln b36) ∧ ((((A.I b36 (ix y2_4)) = a → ∃ b39 : Nat, (A.P p 25) = some b39 ∧ (A.tg b39 = 200 ∧ (vp_in y2_4 (A.ln b39) ∧ ((((A.I b39 (ix y2_4)) = b → ∃ b42 : Nat, (A.P p 26) = some b42 ∧ (A.tg b42 = 200 ∧ (vp_in y2_4 (A.ln b42) ∧ (∃ b45 : Nat, (A.P p 21) = some b45 ∧ (A.tg b45 = 200 ∧ (vp_in (A.I b42 (ix y2_4)) (A.ln b45) ∧ (∃ R48 : Int32 → xA → Prop, w_X8_holds G p (A.I b45 (ix (A.I b42 (ix y2_4)))) (A.I b42 (ix y2_4)) R48 A ∧ (∀ (v48 : Int32) (A48 : xA), xok G A48 → (v48 = 0 ∨ v48 = 1) → R48 v48 A48 → (((v48 = 0 → A48.tg b34 = 36 ∧ (A48.tg p = 8 ∧ (∃ b51 : Nat, (A48.P p 26) = some b51 ∧ (A48.tg b51 = 200 ∧ (vp_in y2_4 (A48.ln b51) ∧ (∃ R54 : xA → Prop, w_X8_define G p (A48.I b34 1) (A48.I b51 (ix y2_4)) R54 A48 ∧ (∀ A54 : xA, xok G A54 → R54 A54 → (A54.tg p = 8 ∧ (∃ R55 : xA → Prop, w_X8_keep G p (some b34) R55 A54 ∧ (∀ A55 : xA, xok G A55 → R55 A55 → (Q A55))))))))))) ∧ (¬ v48 = 0 → A48.tg p = 8 ∧ (∃ b58 : Nat, (A48.P p 26) = some b58 ∧ (A48.tg b58 = 200 ∧ (vp_in y2_4 (A48.ln b58) ∧ (∃ b61 : Nat, (A48.P p 21) = some b61 ∧ (A48.tg b61 = 200 ∧ (vp_in (A48.I b58 (ix y2_4)) (A48.ln b61) ∧ (∃ R64 : xA → Prop, w_X8_move G p (some b34) (A48.I b61 (ix (A48.I b58 (ix y2_4)))).toInt64 R64 A48 ∧ (∀ A64 : xA, xok G A64 → R64 A64 → (Q A64)))))))))))))))))))) ∧ (¬ (A.I b39 (ix y2_4)) = b → (∃ q2 : Nat, q2 < n2 ∧ L2 q2 (y2_4 + (-1 : Int32))))))))) ∧ (¬ (A.I b36 (ix y2_4)) = a → (∃ q2 : Nat, q2 < n2 ∧ L2 q2 (y2_4 + (-1 : Int32))))))))) ∧ (¬ (A.I b31 (ix y2_4)) = (A.I b34 0) → (∃ q2 : Nat, q2 < n2 ∧ L2 q2 (y2_4 + (-1 : Int32))))))))))))))
theorem m_X8_remember (hG : xOK G) (hO : xHO G) {dp : Nat} {p : Nat} {x : Option Nat} {a : Int32} {b : Int32} {Q : xA → Prop} {A : xA} (h : w_X8_remember G p x a b Q A) : MX G (dp + 5) kX8_remember [.ref p, va_rf x, .int a, .int b] A (hV Q) := by
  unfold w_X8_remember at h
  refine MX.of rfl (by cases x <;> exact Nat.le_of_ble_eq_true rfl) ?_
  refine X.lvs (lv' := [some (.ref p), some (va_rf x), some (.int a), some (.int b), none]) (by cases x <;> rfl) ?_
  refine X.xok (fun w0 => ?_)
  replace h := h w0
  refine x_aload_n dX8_remember_0 rfl ?_
  obtain ⟨o1, h⟩ := h
  refine x_get (v := .int (A.I p 15)) hG dX8_remember_1 f_X8_251_7 o1 rfl ?_
  refine x_iconst_ (v := (1 : Int32)) dX8_remember_4 (by decide) ?_
  refine x_isub dX8_remember_5 ?_
  refine x_istore dX8_remember_6 (by decide) ?_
  obtain ⟨L2, ⟨n2, i2⟩, g2⟩ := h
  have kl2 : ∀ n2 : Nat, ∀ (y2_4 : Int32), L2 n2 y2_4 → X G (dp + 5) kX8_remember (hV Q) A 8 [some (.ref p), some (va_rf x), some (.int a), some (.int b), some (.int y2_4)] [] := by
    intro n2
    induction n2 using Nat.strongRecOn with
    | ind n2 ih2 =>
      intro y2_4 h
      replace h := g2 n2 y2_4 h
      refine x_iload dX8_remember_8 rfl ?_
      refine x_if_lt (tgt := 124) dX8_remember_10 (by decide) (fun c10 => ?_) (fun c10 => ?_)
      · replace h := h.1 c10
        refine x_aload_n dX8_remember_124 rfl ?_
        obtain ⟨R3, g3, h⟩ := h
        refine x_callV hG (Ky := kX8_fresh) (As := []) dX8_remember_125 o1 rfl lk_X8_315 me_X8_fresh is_X8_fresh se_X8_fresh rfl rfl (Nat.le_of_ble_eq_true rfl) (MX.post (m_X8_fresh hG hO g3) ?_)
        rintro _ A3 ⟨v3, rfl, h1⟩
        refine X.xok (fun w3 => ?_)
        replace h := h v3 A3 w3 h1
        change X _ _ _ _ A3 _ _ [.int v3]
        refine x_istore dX8_remember_128 (by decide) ?_
        refine x_aload_n dX8_remember_130 rfl ?_
        obtain ⟨o4, h⟩ := h
        refine x_get (v := va_rf (A3.P p 23)) hG dX8_remember_131 f_X8_276_7 o4 rfl ?_
        refine x_aload_n dX8_remember_134 rfl ?_
        refine x_get (v := .int (A3.I p 15)) hG dX8_remember_135 f_X8_251_7 o4 rfl ?_
        refine x_aloadq_n dX8_remember_138 rfl ?_
        obtain ⟨b5, e5, h⟩ := h
        rw [e5]
        obtain ⟨o6, h⟩ := h
        refine x_get (v := .int (A3.I b5 0)) hG dX8_remember_139 f_X8_212_35 o6 rfl ?_
        obtain ⟨b7, e7, h⟩ := h
        rw [e7]
        obtain ⟨o8, h⟩ := h
        obtain ⟨o9, h⟩ := h
        obtain ⟨o10, h⟩ := h
        refine z_iast hG dX8_remember_142 o8 o9 o10 (fun A11 e11 => ?_)
        replace h := h A11 e11
        refine x_aload_n dX8_remember_143 rfl ?_
        refine x_get (v := va_rf (A3.P p 24)) hG dX8_remember_144 f_X8_279_7 (kI e11 o4) (congrArg va_rf (sI_P e11)) ?_
        refine x_aload_n dX8_remember_147 rfl ?_
        refine x_get (v := .int (A3.I p 15)) hG dX8_remember_148 f_X8_251_7 (kI e11 o4) (congrArg Value.int (sI_a e11 (tne o4 o8 (by decide)))) ?_
        refine x_iload_n dX8_remember_151 rfl ?_
        obtain ⟨b12, e12, h⟩ := h
        rw [e12]
        obtain ⟨o13, h⟩ := h
        obtain ⟨o14, h⟩ := h
        obtain ⟨o15, h⟩ := h
        refine z_iast hG dX8_remember_152 o13 o14 o15 (fun A16 e16 => ?_)
        replace h := h A16 e16
        refine x_aload_n dX8_remember_153 rfl ?_
        refine x_get (v := va_rf (A3.P p 25)) hG dX8_remember_154 f_X8_282_7 (kI e16 (kI e11 o4)) (congrArg va_rf ((sI_P e16).trans (sI_P e11))) ?_
        refine x_aload_n dX8_remember_157 rfl ?_
        refine x_get (v := .int (A3.I p 15)) hG dX8_remember_158 f_X8_251_7 (kI e16 (kI e11 o4)) (congrArg Value.int ((sI_a e16 (tne (kI e11 o4) o13 (by decide))).trans (sI_a e11 (tne o4 o8 (by decide))))) ?_
        refine x_iload_n dX8_remember_161 rfl ?_
        obtain ⟨b17, e17, h⟩ := h
        rw [e17]
        obtain ⟨o18, h⟩ := h
        obtain ⟨o19, h⟩ := h
        obtain ⟨o20, h⟩ := h
        refine z_iast hG dX8_remember_162 o18 o19 o20 (fun A21 e21 => ?_)
        replace h := h A21 e21
        refine x_aload_n dX8_remember_163 rfl ?_
        refine x_get (v := va_rf (A3.P p 26)) hG dX8_remember_164 f_X8_285_7 (kI e21 (kI e16 (kI e11 o4))) (congrArg va_rf ((sI_P e21).trans ((sI_P e16).trans (sI_P e11)))) ?_
        refine x_aload_n dX8_remember_167 rfl ?_
        refine x_get (v := .int (A3.I p 15)) hG dX8_remember_168 f_X8_251_7 (kI e21 (kI e16 (kI e11 o4))) (congrArg Value.int ((sI_a e21 (tne (kI e16 (kI e11 o4)) o18 (by decide))).trans ((sI_a e16 (tne (kI e11 o4) o13 (by decide))).trans (sI_a e11 (tne o4 o8 (by decide)))))) ?_
        refine x_iload dX8_remember_171 rfl ?_
        obtain ⟨b22, e22, h⟩ := h
        rw [e22]
        obtain ⟨o23, h⟩ := h
        obtain ⟨o24, h⟩ := h
        obtain ⟨o25, h⟩ := h
        refine z_iast hG dX8_remember_173 o23 o24 o25 (fun A26 e26 => ?_)
        replace h := h A26 e26
        refine x_aload_n dX8_remember_174 rfl ?_
        refine x_dup dX8_remember_175 rfl ?_
        refine x_get (v := .int (A3.I p 15)) hG dX8_remember_176 f_X8_251_7 (kI e26 (kI e21 (kI e16 (kI e11 o4)))) (congrArg Value.int ((sI_a e26 (tne (kI e21 (kI e16 (kI e11 o4))) o23 (by decide))).trans ((sI_a e21 (tne (kI e16 (kI e11 o4)) o18 (by decide))).trans ((sI_a e16 (tne (kI e11 o4) o13 (by decide))).trans (sI_a e11 (tne o4 o8 (by decide))))))) ?_
        refine x_iconst_ (v := (1 : Int32)) dX8_remember_179 (by decide) ?_
        refine x_iadd dX8_remember_180 ?_
        refine z_putI hG hO.1 dX8_remember_181 f_X8_251_7 ⟨_, rfl, Or.inl rfl⟩ (kI e26 (kI e21 (kI e16 (kI e11 o4)))) (by decide) rfl rfl ⟨_, rfl⟩ (fun A27 e27 => ?_)
        replace h := h A27 e27
        refine x_aload_n dX8_remember_184 rfl ?_
        refine x_aload_n dX8_remember_185 rfl ?_
        refine x_get (v := .int (A3.I b5 1)) hG dX8_remember_186 f_X8_209_35 (kI e27 (kI e26 (kI e21 (kI e16 (kI e11 o6))))) (congrArg Value.int ((sI_a e27 (tne (kI e26 (kI e21 (kI e16 (kI e11 o6)))) (kI e26 (kI e21 (kI e16 (kI e11 o4)))) (by decide))).trans ((sI_a e26 (tne (kI e21 (kI e16 (kI e11 o6))) o23 (by decide))).trans ((sI_a e21 (tne (kI e16 (kI e11 o6)) o18 (by decide))).trans ((sI_a e16 (tne (kI e11 o6) o13 (by decide))).trans (sI_a e11 (tne o6 o8 (by decide)))))))) ?_
        refine x_iload dX8_remember_189 rfl ?_
        obtain ⟨R28, g28, h⟩ := h
        refine x_callV hG (Ky := kX8_define) (As := [.int (A3.I b5 1), .int v3]) dX8_remember_191 (kI e27 (kI e26 (kI e21 (kI e16 (kI e11 o4))))) rfl lk_X8_234 me_X8_define is_X8_define se_X8_define rfl rfl (Nat.le_of_ble_eq_true rfl) (MX.post (m_X8_define hG hO g28) ?_)
        rintro _ A28 ⟨rfl, h1⟩
        refine X.xok (fun w28 => ?_)
        replace h := h A28 w28 h1
        change X _ _ _ _ A28 _ _ []
        refine x_aload_n dX8_remember_194 rfl ?_
        refine x_aload_n dX8_remember_195 rfl ?_
        obtain ⟨o30, h⟩ := h
        obtain ⟨R29, g29, h⟩ := h
        refine x_callV hG (Ky := kX8_keep) (As := [.ref b5]) dX8_remember_196 o30 rfl lk_X8_339 me_X8_keep is_X8_keep se_X8_keep rfl rfl (Nat.le_of_ble_eq_true rfl) (MX.post (m_X8_keep hG hO g29) ?_)
        rintro _ A29 ⟨rfl, h1⟩
        refine X.xok (fun w29 => ?_)
        replace h := h A29 w29 h1
        change X _ _ _ _ A29 _ _ []
        exact x_vret dX8_remember_199 rfl ⟨rfl, h⟩
      · replace h := h.2 c10
        refine x_aload_n dX8_remember_13 rfl ?_
        refine x_get (v := va_rf (A.P p 23)) hG dX8_remember_14 f_X8_276_7 o1 rfl ?_
        refine x_iload dX8_remember_17 rfl ?_
        obtain ⟨b31, e31, h⟩ := h
        rw [e31]
        obtain ⟨o32, h⟩ := h
        obtain ⟨o33, h⟩ := h
        refine x_iald hG dX8_remember_19 o32 o33 ?_
        refine x_aloadq_n dX8_remember_20 rfl ?_
        obtain ⟨b34, e34, h⟩ := h
        rw [e34]
        obtain ⟨o35, h⟩ := h
        refine x_get (v := .int (A.I b34 0)) hG dX8_remember_21 f_X8_212_35 o35 rfl ?_
        refine x_icmp_ne (tgt := 118) dX8_remember_24 (by decide) (fun c24 => ?_) (fun c24 => ?_)
        · replace h := h.2 c24
          refine x_iinc (v := (y2_4 + (-1 : Int32))) dX8_remember_118 rfl rfl (by decide) ?_
          refine x_goto (tgt := 8) dX8_remember_121 (by decide) ?_
          obtain ⟨q2, l2, h⟩ := h
          change X _ _ _ _ _ _ [some (.ref p), some (.ref b34), some (.int a), some (.int b), some (.int (y2_4 + (-1 : Int32)))] []
          exact X.weak (xle_c rfl (xle_c (congrArg (fun z => some (va_rf z)) e34.symm) (xle_c rfl (xle_c rfl (xle_c rfl xle_nil))))) (ih2 q2 l2 (y2_4 + (-1 : Int32)) h)
        · replace h := h.1 c24
          refine x_aload_n dX8_remember_27 rfl ?_
          refine x_get (v := va_rf (A.P p 24)) hG dX8_remember_28 f_X8_279_7 o1 rfl ?_
          refine x_iload dX8_remember_31 rfl ?_
          obtain ⟨b36, e36, h⟩ := h
          rw [e36]
          obtain ⟨o37, h⟩ := h
          obtain ⟨o38, h⟩ := h
          refine x_iald hG dX8_remember_33 o37 o38 ?_
          refine x_iload_n dX8_remember_34 rfl ?_
          refine x_icmp_ne (tgt := 118) dX8_remember_35 (by decide) (fun c35 => ?_) (fun c35 => ?_)
          · replace h := h.2 c35
            refine x_iinc (v := (y2_4 + (-1 : Int32))) dX8_remember_118 rfl rfl (by decide) ?_
            refine x_goto (tgt := 8) dX8_remember_121 (by decide) ?_
            obtain ⟨q2, l2, h⟩ := h
            change X _ _ _ _ _ _ [some (.ref p), some (.ref b34), some (.int a), some (.int b), some (.int (y2_4 + (-1 : Int32)))] []
            exact X.weak (xle_c rfl (xle_c (congrArg (fun z => some (va_rf z)) e34.symm) (xle_c rfl (xle_c rfl (xle_c rfl xle_nil))))) (ih2 q2 l2 (y2_4 + (-1 : Int32)) h)
          · replace h := h.1 c35
            refine x_aload_n dX8_remember_38 rfl ?_
            refine x_get (v := va_rf (A.P p 25)) hG dX8_remember_39 f_X8_282_7 o1 rfl ?_
            refine x_iload dX8_remember_42 rfl ?_
            obtain ⟨b39, e39, h⟩ := h
            rw [e39]
            obtain ⟨o40, h⟩ := h
            obtain ⟨o41, h⟩ := h
            refine x_iald hG dX8_remember_44 o40 o41 ?_
            refine x_iload_n dX8_remember_45 rfl ?_
            refine x_icmp_eq (tgt := 52) dX8_remember_46 (by decide) (fun c46 => ?_) (fun c46 => ?_)
            · replace h := h.1 c46
              refine x_aload_n dX8_remember_52 rfl ?_
              refine x_aload_n dX8_remember_53 rfl ?_
              refine x_get (v := va_rf (A.P p 21)) hG dX8_remember_54 f_X8_49_7 o1 rfl ?_
              refine x_aload_n dX8_remember_57 rfl ?_
              refine x_get (v := va_rf (A.P p 26)) hG dX8_remember_58 f_X8_285_7 o1 rfl ?_
              refine x_iload dX8_remember_61 rfl ?_
              obtain ⟨b42, e42, h⟩ := h
              rw [e42]
              obtain ⟨o43, h⟩ := h
              obtain ⟨o44, h⟩ := h
              refine x_iald hG dX8_remember_63 o43 o44 ?_
              obtain ⟨b45, e45, h⟩ := h
              rw [e45]
              obtain ⟨o46, h⟩ := h
              obtain ⟨o47, h⟩ := h
              refine x_iald hG dX8_remember_64 o46 o47 ?_
              refine x_aload_n dX8_remember_65 rfl ?_
              refine x_get (v := .ref b42) hG dX8_remember_66 f_X8_285_7 o1 (congrArg va_rf e42) ?_
              refine x_iload dX8_remember_69 rfl ?_
              refine x_iald hG dX8_remember_71 o43 o44 ?_
              obtain ⟨R48, g48, h⟩ := h
              refine x_callV hG (Ky := kX8_holds) (As := [.int (A.I b45 (ix (A.I b42 (ix y2_4)))), .int (A.I b42 (ix y2_4))]) dX8_remember_72 o1 rfl lk_X8_318 me_X8_holds is_X8_holds se_X8_holds rfl rfl (Nat.le_of_ble_eq_true rfl) (MX.post (m_X8_holds hG hO g48) ?_)
              rintro _ A48 ⟨v48, rfl, zv48, h1⟩
              refine X.xok (fun w48 => ?_)
              replace h := h v48 A48 w48 zv48 h1
              change X _ _ _ _ A48 _ _ [.int v48]
              refine x_if_eq (tgt := 97) dX8_remember_75 (by decide) (fun c75 => ?_) (fun c75 => ?_)
              · replace h := h.1 c75
                refine x_aload_n dX8_remember_97 rfl ?_
                refine x_aload_n dX8_remember_98 rfl ?_
                obtain ⟨o49, h⟩ := h
                refine x_get (v := .int (A48.I b34 1)) hG dX8_remember_99 f_X8_209_35 o49 rfl ?_
                refine x_aload_n dX8_remember_102 rfl ?_
                obtain ⟨o50, h⟩ := h
                refine x_get (v := va_rf (A48.P p 26)) hG dX8_remember_103 f_X8_285_7 o50 rfl ?_
                refine x_iload dX8_remember_106 rfl ?_
                obtain ⟨b51, e51, h⟩ := h
                rw [e51]
                obtain ⟨o52, h⟩ := h
                obtain ⟨o53, h⟩ := h
                refine x_iald hG dX8_remember_108 o52 o53 ?_
                obtain ⟨R54, g54, h⟩ := h
                refine x_callV hG (Ky := kX8_define) (As := [.int (A48.I b34 1), .int (A48.I b51 (ix y2_4))]) dX8_remember_109 o50 rfl lk_X8_234 me_X8_define is_X8_define se_X8_define rfl rfl (Nat.le_of_ble_eq_true rfl) (MX.post (m_X8_define hG hO g54) ?_)
                rintro _ A54 ⟨rfl, h1⟩
                refine X.xok (fun w54 => ?_)
                replace h := h A54 w54 h1
                change X _ _ _ _ A54 _ _ []
                refine x_aload_n dX8_remember_112 rfl ?_
                refine x_aload_n dX8_remember_113 rfl ?_
                obtain ⟨o56, h⟩ := h
                obtain ⟨R55, g55, h⟩ := h
                refine x_callV hG (Ky := kX8_keep) (As := [.ref b34]) dX8_remember_114 o56 rfl lk_X8_339 me_X8_keep is_X8_keep se_X8_keep rfl rfl (Nat.le_of_ble_eq_true rfl) (MX.post (m_X8_keep hG hO g55) ?_)
                rintro _ A55 ⟨rfl, h1⟩
                refine X.xok (fun w55 => ?_)
                replace h := h A55 w55 h1
                change X _ _ _ _ A55 _ _ []
                exact x_vret dX8_remember_117 rfl ⟨rfl, h⟩
              · replace h := h.2 c75
                refine x_aload_n dX8_remember_78 rfl ?_
                refine x_aload_n dX8_remember_79 rfl ?_
                refine x_aload_n dX8_remember_80 rfl ?_
                obtain ⟨o57, h⟩ := h
                refine x_get (v := va_rf (A48.P p 21)) hG dX8_remember_81 f_X8_49_7 o57 rfl ?_
                refine x_aload_n dX8_remember_84 rfl ?_
                refine x_get (v := va_rf (A48.P p 26)) hG dX8_remember_85 f_X8_285_7 o57 rfl ?_
                refine x_iload dX8_remember_88 rfl ?_
                obtain ⟨b58, e58, h⟩ := h
                rw [e58]
                obtain ⟨o59, h⟩ := h
                obtain ⟨o60, h⟩ := h
                refine x_iald hG dX8_remember_90 o59 o60 ?_
                obtain ⟨b61, e61, h⟩ := h
                rw [e61]
                obtain ⟨o62, h⟩ := h
                obtain ⟨o63, h⟩ := h
                refine x_iald hG dX8_remember_91 o62 o63 ?_
                refine x_i2l dX8_remember_92 ?_
                obtain ⟨R64, g64, h⟩ := h
                refine x_callV hG (Ky := kX8_move) (As := [.ref b34, .long (A48.I b61 (ix (A48.I b58 (ix y2_4)))).toInt64]) dX8_remember_93 o57 rfl lk_X8_351 me_X8_move is_X8_move se_X8_move rfl rfl (Nat.le_of_ble_eq_true rfl) (MX.post (m_X8_move hG hO g64) ?_)
                rintro _ A64 ⟨rfl, h1⟩
                refine X.xok (fun w64 => ?_)
                replace h := h A64 w64 h1
                change X _ _ _ _ A64 _ _ []
                exact x_vret dX8_remember_96 rfl ⟨rfl, h⟩
            · replace h := h.2 c46
              refine x_goto (tgt := 118) dX8_remember_49 (by decide) ?_
              refine x_iinc (v := (y2_4 + (-1 : Int32))) dX8_remember_118 rfl rfl (by decide) ?_
              refine x_goto (tgt := 8) dX8_remember_121 (by decide) ?_
              obtain ⟨q2, l2, h⟩ := h
              change X _ _ _ _ _ _ [some (.ref p), some (.ref b34), some (.int a), some (.int b), some (.int (y2_4 + (-1 : Int32)))] []
              exact X.weak (xle_c rfl (xle_c (congrArg (fun z => some (va_rf z)) e34.symm) (xle_c rfl (xle_c rfl (xle_c rfl xle_nil))))) (ih2 q2 l2 (y2_4 + (-1 : Int32)) h)
  change X _ _ _ _ _ _ [some (.ref p), some (va_rf x), some (.int a), some (.int b), some (.int ((A.I p 15) - (1 : Int32)))] []
  exact X.weak (xle_c rfl (xle_c rfl (xle_c rfl (xle_c rfl (xle_c rfl xle_nil))))) (kl2 n2 ((A.I p 15) - (1 : Int32)) i2)
def w_X8_loaded (G : xG) (p : Nat) (t : Int32) (s : Option Nat) (a : Int32) (b : Int32) (n : Int32) (Q : xA → Prop) (A : xA) : Prop := xok G A → A.tg p = 8 ∧ (∃ b2 : Nat, (A.P p 27) = some b2 ∧ (A.tg b2 = 200 ∧ (G.N ≤ b2 ∧ (vp_in (A.I p 16) (A.ln b2) ∧ (∀ A6 : xA, A6 = A.setI b2 (ix (A.I p 16)) t → (∃ b7 : Nat, (A.P p 35) = some b7 ∧ (A6.tg b7 = 206 ∧ (G.N ≤ b7 ∧ (vp_in (A.I p 16) (A6.ln b7) ∧ (∃ b11 : Nat, s = some b11 ∧ (A6.tg b11 = 33 ∧ (∀ A13 : xA, A13 = A6.setP b7 (ix (A.I p 16)) (some b11) → (∃ b14 : Nat, (A.P p 28) = some b14 ∧ (A13.tg b14 = 200 ∧ (G.N ≤ b14 ∧ (vp_in (A.I p 16) (A13.ln b14) ∧ (∀ A18 : xA, A18 = A13.setI b14 (ix (A.I p 16)) a → (∃ b19 : Nat, (A.P p 29) = some b19 ∧ (A18.tg b19 = 200 ∧ (G.N ≤ b19 ∧ (vp_in (A.I p 16) (A18.ln b19) ∧ (∀ A23 : xA, A23 = A18.setI b19 (ix (A.I p 16)) b → (∃ b24 : Nat, (A.P p 30) = some b24 ∧ (A23.tg b24 = 200 ∧ (G.N ≤ b24 ∧ (vp_in (A.I p 16) (A23.ln b24) ∧ (∀ A28 : xA, A28 = A23.setI b24 (ix (A.I p 16)) n → (∀ A29 : xA, A29 = A28.setI p 16 ((A.I p 16) + (1 : Int32)) → (Q A29)))))))))))))))))))))))))))))
theorem m_X8_loaded (hG : xOK G) (hO : xHO G) {dp : Nat} {p : Nat} {t : Int32} {s : Option Nat} {a : Int32} {b : Int32} {n : Int32} {Q : xA → Prop} {A : xA} (h : w_X8_loaded G p t s a b n Q A) : MX G (dp + 0) kX8_loaded [.ref p, .int t, va_rf s, .int a, .int b, .int n] A (hV Q) := by
  unfold w_X8_loaded at h
  refine MX.of rfl (by cases s <;> exact Nat.le_of_ble_eq_true rfl) ?_
  refine X.lvs (lv' := [some (.ref p), some (.int t), some (va_rf s), some (.int a), some (.int b), some (.int n)]) (by cases s <;> rfl) ?_
  refine X.xok (fun w0 => ?_)
  replace h := h w0
  refine x_aload_n dX8_loaded_0 rfl ?_
  obtain ⟨o1, h⟩ := h
  refine x_get (v := va_rf (A.P p 27)) hG dX8_loaded_1 f_X8_288_7 o1 rfl ?_
  refine x_aload_n dX8_loaded_4 rfl ?_
  refine x_get (v := .int (A.I p 16)) hG dX8_loaded_5 f_X8_254_7 o1 rfl ?_
  refine x_iload_n dX8_loaded_8 rfl ?_
  obtain ⟨b2, e2, h⟩ := h
  rw [e2]
  obtain ⟨o3, h⟩ := h
  obtain ⟨o4, h⟩ := h
  obtain ⟨o5, h⟩ := h
  refine z_iast hG dX8_loaded_9 o3 o4 o5 (fun A6 e6 => ?_)
  replace h := h A6 e6
  refine x_aload_n dX8_loaded_10 rfl ?_
  refine x_get (v := va_rf (A.P p 35)) hG dX8_loaded_11 f_X8_302_7 (kI e6 o1) (congrArg va_rf (sI_P e6)) ?_
  refine x_aload_n dX8_loaded_14 rfl ?_
  refine x_get (v := .int (A.I p 16)) hG dX8_loaded_15 f_X8_254_7 (kI e6 o1) (congrArg Value.int (sI_a e6 (tne o1 o3 (by decide)))) ?_
  refine x_aloadq_n dX8_loaded_18 rfl ?_
  obtain ⟨b7, e7, h⟩ := h
  rw [e7]
  obtain ⟨o8, h⟩ := h
  obtain ⟨o9, h⟩ := h
  obtain ⟨o10, h⟩ := h
  obtain ⟨b11, e11, h⟩ := h
  rw [e11]
  obtain ⟨o12, h⟩ := h
  refine z_aast hG (j := 6) dX8_loaded_19 o8 rfl o9 o10 o12 rfl (Or.inl rfl) (fun A13 e13 => ?_)
  replace h := h A13 e13
  refine x_aload_n dX8_loaded_20 rfl ?_
  refine x_get (v := va_rf (A.P p 28)) hG dX8_loaded_21 f_X8_291_7 (kP e13 (kI e6 o1)) (congrArg va_rf ((sP_a e13 (tne (kI e6 o1) o8 (by decide))).trans (sI_P e6))) ?_
  refine x_aload_n dX8_loaded_24 rfl ?_
  refine x_get (v := .int (A.I p 16)) hG dX8_loaded_25 f_X8_254_7 (kP e13 (kI e6 o1)) (congrArg Value.int ((sP_I e13).trans (sI_a e6 (tne o1 o3 (by decide))))) ?_
  refine x_iload_n dX8_loaded_28 rfl ?_
  obtain ⟨b14, e14, h⟩ := h
  rw [e14]
  obtain ⟨o15, h⟩ := h
  obtain ⟨o16, h⟩ := h
  obtain ⟨o17, h⟩ := h
  refine z_iast hG dX8_loaded_29 o15 o16 o17 (fun A18 e18 => ?_)
  replace h := h A18 e18
  refine x_aload_n dX8_loaded_30 rfl ?_
  refine x_get (v := va_rf (A.P p 29)) hG dX8_loaded_31 f_X8_294_7 (kI e18 (kP e13 (kI e6 o1))) (congrArg va_rf ((sI_P e18).trans ((sP_a e13 (tne (kI e6 o1) o8 (by decide))).trans (sI_P e6)))) ?_
  refine x_aload_n dX8_loaded_34 rfl ?_
  refine x_get (v := .int (A.I p 16)) hG dX8_loaded_35 f_X8_254_7 (kI e18 (kP e13 (kI e6 o1))) (congrArg Value.int ((sI_a e18 (tne (kP e13 (kI e6 o1)) o15 (by decide))).trans ((sP_I e13).trans (sI_a e6 (tne o1 o3 (by decide)))))) ?_
  refine x_iload dX8_loaded_38 rfl ?_
  obtain ⟨b19, e19, h⟩ := h
  rw [e19]
  obtain ⟨o20, h⟩ := h
  obtain ⟨o21, h⟩ := h
  obtain ⟨o22, h⟩ := h
  refine z_iast hG dX8_loaded_40 o20 o21 o22 (fun A23 e23 => ?_)
  replace h := h A23 e23
  refine x_aload_n dX8_loaded_41 rfl ?_
  refine x_get (v := va_rf (A.P p 30)) hG dX8_loaded_42 f_X8_297_7 (kI e23 (kI e18 (kP e13 (kI e6 o1)))) (congrArg va_rf ((sI_P e23).trans ((sI_P e18).trans ((sP_a e13 (tne (kI e6 o1) o8 (by decide))).trans (sI_P e6))))) ?_
  refine x_aload_n dX8_loaded_45 rfl ?_
  refine x_get (v := .int (A.I p 16)) hG dX8_loaded_46 f_X8_254_7 (kI e23 (kI e18 (kP e13 (kI e6 o1)))) (congrArg Value.int ((sI_a e23 (tne (kI e18 (kP e13 (kI e6 o1))) o20 (by decide))).trans ((sI_a e18 (tne (kP e13 (kI e6 o1)) o15 (by decide))).trans ((sP_I e13).trans (sI_a e6 (tne o1 o3 (by decide))))))) ?_
  refine x_iload dX8_loaded_49 rfl ?_
  obtain ⟨b24, e24, h⟩ := h
  rw [e24]
  obtain ⟨o25, h⟩ := h
  obtain ⟨o26, h⟩ := h
  obtain ⟨o27, h⟩ := h
  refine z_iast hG dX8_loaded_51 o25 o26 o27 (fun A28 e28 => ?_)
  replace h := h A28 e28
  refine x_aload_n dX8_loaded_52 rfl ?_
  refine x_dup dX8_loaded_53 rfl ?_
  refine x_get (v := .int (A.I p 16)) hG dX8_loaded_54 f_X8_254_7 (kI e28 (kI e23 (kI e18 (kP e13 (kI e6 o1))))) (congrArg Value.int ((sI_a e28 (tne (kI e23 (kI e18 (kP e13 (kI e6 o1)))) o25 (by decide))).trans ((sI_a e23 (tne (kI e18 (kP e13 (kI e6 o1))) o20 (by decide))).trans ((sI_a e18 (tne (kP e13 (kI e6 o1)) o15 (by decide))).trans ((sP_I e13).trans (sI_a e6 (tne o1 o3 (by decide)))))))) ?_
  refine x_iconst_ (v := (1 : Int32)) dX8_loaded_57 (by decide) ?_
  refine x_iadd dX8_loaded_58 ?_
  refine z_putI hG hO.1 dX8_loaded_59 f_X8_254_7 ⟨_, rfl, Or.inl rfl⟩ (kI e28 (kI e23 (kI e18 (kP e13 (kI e6 o1))))) (by decide) rfl rfl ⟨_, rfl⟩ (fun A29 e29 => ?_)
  replace h := h A29 e29
  exact x_vret dX8_loaded_62 rfl ⟨rfl, h⟩
def w_X8_load (G : xG) (p : Nat) (x : Option Nat) (Q : xA → Prop) (A : xA) : Prop := xok G A → ∃ b1 : Nat, x = some b1 ∧ (A.tg b1 = 36 ∧ (A.tg p = 8 ∧ (∃ R3 : Int64 → xA → Prop, w_X8_fit G p (A.L b1 2) R3 A ∧ (∀ (v3 : Int64) (A3 : xA), xok G A3 → R3 v3 A3 → (A3.tg b1 = 36 ∧ (∀ A6 : xA, A6 = A3.setL b1 2 v3 → (A6.tg p = 8 ∧ (∃ R7 : Int64 → xA → Prop, w_X8_fit G p (A3.L b1 3) R7 A6 ∧ (∀ (v7 : Int64) (A7 : xA), xok G A7 → R7 v7 A7 → (A7.tg b1 = 36 ∧ (∀ A10 : xA, A10 = A7.setL b1 3 v7 → (A10.tg p = 8 ∧ (∃ R11 : Int32 → xA → Prop, w_X8_number G p (A7.L b1 2) R11 A10 ∧ (∀ (v11 : Int32) (A11 : xA), xok G A11 → R11 v11 A11 → (A11.tg b1 = 36 ∧ (A11.tg p = 8 ∧ (∃ R14 : Int32 → xA → Prop, w_X8_number G p (A11.L b1 3) R14 A11 ∧ (∀ (v14 : Int32) (A14 : xA), xok G A14 → R14 v14 A14 → (A14.tg p = 8 ∧ (∃ L17 : Nat → Int32 → Prop, (∃ n17 : Nat, L17 n17 ((A14.I p 16) - (1 : Int32))) ∧ (∀ (n17 : Nat) (y17_4 : Int32), L17 n17 y17_4 → ((y17_4 < 0 → ∃ R18 : Int32 → xA → Prop, w_X8_fresh G p R18 A14 ∧ (∀ (v18 : Int32) (A18 : xA), xok G A18 → R18 v18 A18 → (A18.tg b1 = 36 ∧ (A18.tg p = 8 ∧ (∃ R20 : xA → Prop, w_X8_loaded G p (A18.I b1 0) (A18.P b1 7) v11 v14 v18 R20 A18 ∧ (∀ A20 : xA, xok G A20 → R20 A20 → (A20.tg b1 = 36 ∧ (A20.tg p = 8 ∧ (∃ R23 : xA → Prop, w_X8_define G p (A20.I b1 1) v18 R23 A20 ∧ (∀ A23 : xA, xok G A23 → R23 A23 → (A23.tg p = 8 ∧ (∃ R25 : xA → Prop, w_X8_keep G p (some b1) R25 A23 ∧ (∀ A25 : xA, xok G A25 → R25 A25 → (Q A25)))))))))))))) ∧ (¬ y17_4 < 0 → ∃ b27 : Nat, (A14.P p 27) = some b27 ∧ (A14.tg b27 = 200 ∧ (vp_in y17_4 (A14.ln b27) ∧ (A14.tg b1 = 36 ∧ ((((A14.I b27 (ix y17_4)) = (A14.I b1 0) → ∃ b31 : Nat, (A14.P p 35) = some b31 ∧ (A14.tg b31 = 206 ∧ (vp_in y17_4 (A14.ln b31) ∧ ((((A14.P b31 (ix y17_4)) = (A14.P b1 7) → ∃ b34 : Nat, (A14.P p 28) = some b34 ∧ (A14.tg b34 = 200 ∧ (vp_in y17_4 (A14.ln b34) ∧ ((((A14.I b34 (ix y17_4)) = v11 → ∃ b37 : Nat, (A14.P p 29) = some b37 ∧ (A14.tg b37 = 200 ∧ (vp_in y17_4 (A14.ln b37) ∧ ((((A14.I b37 (ix y17_4)) = v14 → ∃ b40 : Nat, (A14.P p 30) = some b40 ∧ (A14.tg b40 = 200 ∧ (vp_in y17_4 (A14.ln b40) ∧ (∃ b43 : Nat, (A14.P p 34) = some b43 ∧ (A14.tg b43 = 203 ∧ (vp_in (A14.I b40 (ix y17_4)) (A14.ln b43) ∧ ((((A14.I b43 (ix (A14.I b40 (ix y17_4)))) = 0 → ∃ b50 : Nat, (A14.P p 21) = some b50 ∧ (A14.tg b50 = 200 ∧ (vp_in (A14.I b40 (ix y17_4)) (A14.ln b50) ∧ (∃ R53 : Int32 → xA → Prop, w_X8_holds G p (A14.I b50 (ix (A14.I b40 (ix y17_4)))) (A14.I b40 (ix y17_4)) R53 A14 ∧ (∀ (v53 : Int32) (A53 : xA), xok G A53 → (v53 = 0 ∨ v53 = 1) → R53 v53 A53 → (((v53 = 0 → A53.tg b1 = 36 ∧ (A53.tg p = 8 ∧ (∃ R55 : xA → Prop, w_X8_define G p (A53.I b1 1) (A14.I b40 (ix y17_4)) R55 A53 ∧ (∀ A55 : xA, xok G A55 → R55 A55 → (A55.tg p = 8 ∧ (∃ R57 : xA → Prop, w_X8_keep G p (some b1) R57 A55 ∧ (∀ A57 : xA, xok G A57 → R57 A57 → (Q A57)))))))) ∧ (¬ v53 = 0 → A53.tg p = 8 ∧ (∃ b60 : Nat, (A53.P p 34) = some b60 ∧ (A53.tg b60 = 203 ∧ (vp_in (A14.I b40 (ix y17_4)) (A53.ln b60) ∧ (∃ J63 : Int64 → Prop, (∀ (y63_s0 : Int64), J63 y63_s0 → ∃ R64 : xA → Prop, w_X8_move G p (some b1) y63_s0 R64 A53 ∧ (∀ A64 : xA, xok G A64 → R64 A64 → (Q A64))) ∧ (((A53.I b60 (ix (A14.I b40 (ix y17_4)))) = 0 → ∃ b65 : Nat, (A53.P p 21) = some b65 ∧ (A53.tg b65 = 200 ∧ (vp_in (A14.I b40 (ix y17_4)) (A53.ln b65) ∧ (J63 (A53.I b65 (ix (A14.I b40 (ix y17_4)))).toInt64)))) ∧ (¬ (A53.I b60 (ix (A14.I b40 (ix y17_4)))) = 0 → ∃ b68 : Nat, (A53.P p 22) = some b68 ∧ (A53.tg b68 = 200 ∧ (vp_in (A14.I b40 (ix y17_4)) (A53.ln b68) ∧ (J63 (f_X6_constant (A53.I b68 (ix (A14.I b40 (ix y17_4)))))))))))))))))))))) ∧ (¬ (A14.I b43 (ix (A14.I b40 (ix y17_4)))) = 0 → ∃ b46 : Nat, (A14.P p 22) = some b46 ∧ (A14.tg b46 = 200 ∧ (vp_in (A14.I b40 (ix y17_4)) (A14.ln b46) ∧ (∃ R49 : xA → Prop, w_X8_move G p (some b1) (f_X6_constant (A14.I b46 (ix (A14.I b40 (ix y17_4))))) R49 A14 ∧ (∀ A49 : xA, xok G A49 → R49 A49 → (Q A49)))))))))))))) ∧ (¬ (A14.I b37 (ix y17_4)) = v14 → (∃ q17 : Nat, q17 < n17 ∧ L17 q17 (y17_4 + (-1 : Int32))))))))) ∧ (¬ (A14.I b34 (ix y17_4)) = v11 → (∃ q17 : Nat, q17 < n17 ∧ L17 q17 (y17_4 + (-1 : Int32))))))))) ∧ (¬ (A14.P b31 (ix y17_4)) = (A14.P b1 7) → (∃ q17 : Nat, q17 < n17 ∧ L17 q17 (y17_4 + (-1 : Int32))))))))) ∧ (¬ (A14.I b27 (ix y17_4)) = (A14.I b1 0) → (∃ q17 : Nat, q17 < n17 ∧ L17 q17 (y17_4 + (-1 : Int32))))))))))))))))))))))))))))))))
theorem m_X8_load (hG : xOK G) (hO : xHO G) {dp : Nat} {p : Nat} {x : Option Nat} {Q : xA → Prop} {A : xA} (h : w_X8_load G p x Q A) : MX G (dp + 5) kX8_load [.ref p, va_rf x] A (hV Q) := by
  unfold w_X8_load at h
  refine MX.of rfl (by cases x <;> exact Nat.le_of_ble_eq_true rfl) ?_
  refine X.lvs (lv' := [some (.ref p), some (va_rf x), none, none, none, none]) (by cases x <;> rfl) ?_
  refine X.xok (fun w0 => ?_)
  replace h := h w0
  refine x_aloadq_n dX8_load_0 rfl ?_
  refine x_aload_n dX8_load_1 rfl ?_
  refine x_aloadq_n dX8_load_2 rfl ?_
  obtain ⟨b1, e1, h⟩ := h
  rw [e1]
  obtain ⟨o2, h⟩ := h
  refine x_get (v := .long (A.L b1 2)) hG dX8_load_3 f_X8_213_35 o2 rfl ?_
  obtain ⟨o4, h⟩ := h
  obtain ⟨R3, g3, h⟩ := h
  refine x_callV hG (Ky := kX8_fit) (As := [.long (A.L b1 2)]) dX8_load_6 o4 rfl lk_X8_331 me_X8_fit is_X8_fit se_X8_fit rfl rfl (Nat.le_of_ble_eq_true rfl) (MX.post (m_X8_fit hG hO g3) ?_)
  rintro _ A3 ⟨v3, rfl, h1⟩
  refine X.xok (fun w3 => ?_)
  replace h := h v3 A3 w3 h1
  change X _ _ _ _ A3 _ _ [.long v3, .ref b1]
  obtain ⟨o5, h⟩ := h
  refine z_putL hG hO.1 dX8_load_9 f_X8_213_35 ⟨_, rfl, Or.inl rfl⟩ o5 (by decide) rfl rfl ⟨_, rfl⟩ (fun A6 e6 => ?_)
  replace h := h A6 e6
  refine x_aload_n dX8_load_12 rfl ?_
  refine x_aload_n dX8_load_13 rfl ?_
  refine x_aload_n dX8_load_14 rfl ?_
  refine x_get (v := .long (A3.L b1 3)) hG dX8_load_15 f_X8_218_35 (kL e6 o5) (congrArg Value.long (sL_k e6 (by decide))) ?_
  obtain ⟨o8, h⟩ := h
  obtain ⟨R7, g7, h⟩ := h
  refine x_callV hG (Ky := kX8_fit) (As := [.long (A3.L b1 3)]) dX8_load_18 o8 rfl lk_X8_331 me_X8_fit is_X8_fit se_X8_fit rfl rfl (Nat.le_of_ble_eq_true rfl) (MX.post (m_X8_fit hG hO g7) ?_)
  rintro _ A7 ⟨v7, rfl, h1⟩
  refine X.xok (fun w7 => ?_)
  replace h := h v7 A7 w7 h1
  change X _ _ _ _ A7 _ _ [.long v7, .ref b1]
  obtain ⟨o9, h⟩ := h
  refine z_putL hG hO.1 dX8_load_21 f_X8_218_35 ⟨_, rfl, Or.inl rfl⟩ o9 (by decide) rfl rfl ⟨_, rfl⟩ (fun A10 e10 => ?_)
  replace h := h A10 e10
  refine x_aload_n dX8_load_24 rfl ?_
  refine x_aload_n dX8_load_25 rfl ?_
  refine x_get (v := .long (A7.L b1 2)) hG dX8_load_26 f_X8_213_35 (kL e10 o9) (congrArg Value.long (sL_k e10 (by decide))) ?_
  obtain ⟨o12, h⟩ := h
  obtain ⟨R11, g11, h⟩ := h
  refine x_callV hG (Ky := kX8_number) (As := [.long (A7.L b1 2)]) dX8_load_29 o12 rfl lk_X8_322 me_X8_number is_X8_number se_X8_number rfl rfl (Nat.le_of_ble_eq_true rfl) (MX.post (m_X8_number hG hO g11) ?_)
  rintro _ A11 ⟨v11, rfl, h1⟩
  refine X.xok (fun w11 => ?_)
  replace h := h v11 A11 w11 h1
  change X _ _ _ _ A11 _ _ [.int v11]
  refine x_istore_n dX8_load_32 (by decide) ?_
  refine x_aload_n dX8_load_33 rfl ?_
  refine x_aload_n dX8_load_34 rfl ?_
  obtain ⟨o13, h⟩ := h
  refine x_get (v := .long (A11.L b1 3)) hG dX8_load_35 f_X8_218_35 o13 rfl ?_
  obtain ⟨o15, h⟩ := h
  obtain ⟨R14, g14, h⟩ := h
  refine x_callV hG (Ky := kX8_number) (As := [.long (A11.L b1 3)]) dX8_load_38 o15 rfl lk_X8_322 me_X8_number is_X8_number se_X8_number rfl rfl (Nat.le_of_ble_eq_true rfl) (MX.post (m_X8_number hG hO g14) ?_)
  rintro _ A14 ⟨v14, rfl, h1⟩
  refine X.xok (fun w14 => ?_)
  replace h := h v14 A14 w14 h1
  change X _ _ _ _ A14 _ _ [.int v14]
  refine x_istore_n dX8_load_41 (by decide) ?_
  refine x_aload_n dX8_load_42 rfl ?_
  obtain ⟨o16, h⟩ := h
  refine x_get (v := .int (A14.I p 16)) hG dX8_load_43 f_X8_254_7 o16 rfl ?_
  refine x_iconst_ (v := (1 : Int32)) dX8_load_46 (by decide) ?_
  refine x_isub dX8_load_47 ?_
  refine x_istore dX8_load_48 (by decide) ?_
  obtain ⟨L17, ⟨n17, i17⟩, g17⟩ := h
  have kl17 : ∀ n17 : Nat, ∀ (y17_4 : Int32), L17 n17 y17_4 → X G (dp + 5) kX8_load (hV Q) A14 50 [some (.ref p), some (.ref b1), some (.int v11), some (.int v14), some (.int y17_4), none] [] := by
    intro n17
    induction n17 using Nat.strongRecOn with
    | ind n17 ih17 =>
      intro y17_4 h
      replace h := g17 n17 y17_4 h
      refine x_iload dX8_load_50 rfl ?_
      refine x_if_lt (tgt := 202) dX8_load_52 (by decide) (fun c52 => ?_) (fun c52 => ?_)
      · replace h := h.1 c52
        refine x_aload_n dX8_load_202 rfl ?_
        obtain ⟨R18, g18, h⟩ := h
        refine x_callV hG (Ky := kX8_fresh) (As := []) dX8_load_203 o16 rfl lk_X8_315 me_X8_fresh is_X8_fresh se_X8_fresh rfl rfl (Nat.le_of_ble_eq_true rfl) (MX.post (m_X8_fresh hG hO g18) ?_)
        rintro _ A18 ⟨v18, rfl, h1⟩
        refine X.xok (fun w18 => ?_)
        replace h := h v18 A18 w18 h1
        change X _ _ _ _ A18 _ _ [.int v18]
        refine x_istore dX8_load_206 (by decide) ?_
        refine x_aload_n dX8_load_208 rfl ?_
        refine x_aload_n dX8_load_209 rfl ?_
        obtain ⟨o19, h⟩ := h
        refine x_get (v := .int (A18.I b1 0)) hG dX8_load_210 f_X8_212_35 o19 rfl ?_
        refine x_aload_n dX8_load_213 rfl ?_
        refine x_get (v := va_rf (A18.P b1 7)) hG dX8_load_214 f_X8_335_35 o19 rfl ?_
        refine x_iload_n dX8_load_217 rfl ?_
        refine x_iload_n dX8_load_218 rfl ?_
        refine x_iload dX8_load_219 rfl ?_
        obtain ⟨o21, h⟩ := h
        obtain ⟨R20, g20, h⟩ := h
        refine x_callV hG (Ky := kX8_loaded) (As := [.int (A18.I b1 0), va_rf (A18.P b1 7), .int v11, .int v14, .int v18]) dX8_load_221 o21 rfl lk_X8_397 me_X8_loaded is_X8_loaded se_X8_loaded rfl rfl (Nat.le_of_ble_eq_true rfl) (MX.post (m_X8_loaded hG hO g20) ?_)
        rintro _ A20 ⟨rfl, h1⟩
        refine X.xok (fun w20 => ?_)
        replace h := h A20 w20 h1
        change X _ _ _ _ A20 _ _ []
        refine x_aload_n dX8_load_224 rfl ?_
        refine x_aload_n dX8_load_225 rfl ?_
        obtain ⟨o22, h⟩ := h
        refine x_get (v := .int (A20.I b1 1)) hG dX8_load_226 f_X8_209_35 o22 rfl ?_
        refine x_iload dX8_load_229 rfl ?_
        obtain ⟨o24, h⟩ := h
        obtain ⟨R23, g23, h⟩ := h
        refine x_callV hG (Ky := kX8_define) (As := [.int (A20.I b1 1), .int v18]) dX8_load_231 o24 rfl lk_X8_234 me_X8_define is_X8_define se_X8_define rfl rfl (Nat.le_of_ble_eq_true rfl) (MX.post (m_X8_define hG hO g23) ?_)
        rintro _ A23 ⟨rfl, h1⟩
        refine X.xok (fun w23 => ?_)
        replace h := h A23 w23 h1
        change X _ _ _ _ A23 _ _ []
        refine x_aload_n dX8_load_234 rfl ?_
        refine x_aload_n dX8_load_235 rfl ?_
        obtain ⟨o26, h⟩ := h
        obtain ⟨R25, g25, h⟩ := h
        refine x_callV hG (Ky := kX8_keep) (As := [.ref b1]) dX8_load_236 o26 rfl lk_X8_339 me_X8_keep is_X8_keep se_X8_keep rfl rfl (Nat.le_of_ble_eq_true rfl) (MX.post (m_X8_keep hG hO g25) ?_)
        rintro _ A25 ⟨rfl, h1⟩
        refine X.xok (fun w25 => ?_)
        replace h := h A25 w25 h1
        change X _ _ _ _ A25 _ _ []
        exact x_vret dX8_load_239 rfl ⟨rfl, h⟩
      · replace h := h.2 c52
        refine x_aload_n dX8_load_55 rfl ?_
        refine x_get (v := va_rf (A14.P p 27)) hG dX8_load_56 f_X8_288_7 o16 rfl ?_
        refine x_iload dX8_load_59 rfl ?_
        obtain ⟨b27, e27, h⟩ := h
        rw [e27]
        obtain ⟨o28, h⟩ := h
        obtain ⟨o29, h⟩ := h
        refine x_iald hG dX8_load_61 o28 o29 ?_
        refine x_aload_n dX8_load_62 rfl ?_
        obtain ⟨o30, h⟩ := h
        refine x_get (v := .int (A14.I b1 0)) hG dX8_load_63 f_X8_212_35 o30 rfl ?_
        refine x_icmp_ne (tgt := 196) dX8_load_66 (by decide) (fun c66 => ?_) (fun c66 => ?_)
        · replace h := h.2 c66
          refine x_iinc (v := (y17_4 + (-1 : Int32))) dX8_load_196 rfl rfl (by decide) ?_
          refine x_goto (tgt := 50) dX8_load_199 (by decide) ?_
          obtain ⟨q17, l17, h⟩ := h
          change X _ _ _ _ _ _ [some (.ref p), some (.ref b1), some (.int v11), some (.int v14), some (.int (y17_4 + (-1 : Int32))), none] []
          exact X.weak (xle_c rfl (xle_c rfl (xle_c rfl (xle_c rfl (xle_c rfl (xle_n xle_nil)))))) (ih17 q17 l17 (y17_4 + (-1 : Int32)) h)
        · replace h := h.1 c66
          refine x_aload_n dX8_load_69 rfl ?_
          refine x_get (v := va_rf (A14.P p 35)) hG dX8_load_70 f_X8_302_7 o16 rfl ?_
          refine x_iload dX8_load_73 rfl ?_
          obtain ⟨b31, e31, h⟩ := h
          rw [e31]
          obtain ⟨o32, h⟩ := h
          obtain ⟨o33, h⟩ := h
          refine x_aald hG (j := 6) dX8_load_75 o32 rfl o33 ?_
          refine x_aload_n dX8_load_76 rfl ?_
          refine x_get (v := va_rf (A14.P b1 7)) hG dX8_load_77 f_X8_335_35 o30 rfl ?_
          refine x_acmp_ne (rx := (A14.P b31 (ix y17_4))) (ry := (A14.P b1 7)) (tgt := 196) dX8_load_80 (by decide) (fun c80 => ?_) (fun c80 => ?_)
          · replace h := h.2 c80
            refine x_iinc (v := (y17_4 + (-1 : Int32))) dX8_load_196 rfl rfl (by decide) ?_
            refine x_goto (tgt := 50) dX8_load_199 (by decide) ?_
            obtain ⟨q17, l17, h⟩ := h
            change X _ _ _ _ _ _ [some (.ref p), some (.ref b1), some (.int v11), some (.int v14), some (.int (y17_4 + (-1 : Int32))), none] []
            exact X.weak (xle_c rfl (xle_c rfl (xle_c rfl (xle_c rfl (xle_c rfl (xle_n xle_nil)))))) (ih17 q17 l17 (y17_4 + (-1 : Int32)) h)
          · replace h := h.1 c80
            refine x_aload_n dX8_load_83 rfl ?_
            refine x_get (v := va_rf (A14.P p 28)) hG dX8_load_84 f_X8_291_7 o16 rfl ?_
            refine x_iload dX8_load_87 rfl ?_
            obtain ⟨b34, e34, h⟩ := h
            rw [e34]
            obtain ⟨o35, h⟩ := h
            obtain ⟨o36, h⟩ := h
            refine x_iald hG dX8_load_89 o35 o36 ?_
            refine x_iload_n dX8_load_90 rfl ?_
            refine x_icmp_ne (tgt := 196) dX8_load_91 (by decide) (fun c91 => ?_) (fun c91 => ?_)
            · replace h := h.2 c91
              refine x_iinc (v := (y17_4 + (-1 : Int32))) dX8_load_196 rfl rfl (by decide) ?_
              refine x_goto (tgt := 50) dX8_load_199 (by decide) ?_
              obtain ⟨q17, l17, h⟩ := h
              change X _ _ _ _ _ _ [some (.ref p), some (.ref b1), some (.int v11), some (.int v14), some (.int (y17_4 + (-1 : Int32))), none] []
              exact X.weak (xle_c rfl (xle_c rfl (xle_c rfl (xle_c rfl (xle_c rfl (xle_n xle_nil)))))) (ih17 q17 l17 (y17_4 + (-1 : Int32)) h)
            · replace h := h.1 c91
              refine x_aload_n dX8_load_94 rfl ?_
              refine x_get (v := va_rf (A14.P p 29)) hG dX8_load_95 f_X8_294_7 o16 rfl ?_
              refine x_iload dX8_load_98 rfl ?_
              obtain ⟨b37, e37, h⟩ := h
              rw [e37]
              obtain ⟨o38, h⟩ := h
              obtain ⟨o39, h⟩ := h
              refine x_iald hG dX8_load_100 o38 o39 ?_
              refine x_iload_n dX8_load_101 rfl ?_
              refine x_icmp_eq (tgt := 108) dX8_load_102 (by decide) (fun c102 => ?_) (fun c102 => ?_)
              · replace h := h.1 c102
                refine x_aload_n dX8_load_108 rfl ?_
                refine x_get (v := va_rf (A14.P p 30)) hG dX8_load_109 f_X8_297_7 o16 rfl ?_
                refine x_iload dX8_load_112 rfl ?_
                obtain ⟨b40, e40, h⟩ := h
                rw [e40]
                obtain ⟨o41, h⟩ := h
                obtain ⟨o42, h⟩ := h
                refine x_iald hG dX8_load_114 o41 o42 ?_
                refine x_istore dX8_load_115 (by decide) ?_
                refine x_aload_n dX8_load_117 rfl ?_
                refine x_get (v := va_rf (A14.P p 34)) hG dX8_load_118 f_X8_272_7 o16 rfl ?_
                refine x_iload dX8_load_121 rfl ?_
                obtain ⟨b43, e43, h⟩ := h
                rw [e43]
                obtain ⟨o44, h⟩ := h
                obtain ⟨o45, h⟩ := h
                refine x_zald hG dX8_load_123 o44 o45 ?_
                refine x_if_ne (tgt := 143) dX8_load_124 (by decide) (fun c124 => ?_) (fun c124 => ?_)
                · replace h := h.2 c124
                  refine x_aload_n dX8_load_143 rfl ?_
                  refine x_aload_n dX8_load_144 rfl ?_
                  refine x_aload_n dX8_load_145 rfl ?_
                  refine x_get (v := .ref b43) hG dX8_load_146 f_X8_272_7 o16 (congrArg va_rf e43) ?_
                  refine x_iload dX8_load_149 rfl ?_
                  refine x_zald hG dX8_load_151 o44 o45 ?_
                  refine x_if_eq (tgt := 168) dX8_load_152 (by decide) (fun h => absurd h c124) (fun _ => ?_)
                  refine x_aload_n dX8_load_155 rfl ?_
                  refine x_get (v := va_rf (A14.P p 22)) hG dX8_load_156 f_X8_269_7 o16 rfl ?_
                  refine x_iload dX8_load_159 rfl ?_
                  obtain ⟨b46, e46, h⟩ := h
                  rw [e46]
                  obtain ⟨o47, h⟩ := h
                  obtain ⟨o48, h⟩ := h
                  refine x_iald hG dX8_load_161 o47 o48 ?_
                  refine x_callS hG (Ky := kX6_constant) (As := [.int (A14.I b46 (ix (A14.I b40 (ix y17_4))))]) dX8_load_162 lk_X8_325 me_X6_constant st_X6_constant rfl rfl (Nat.le_of_ble_eq_true rfl) (MX.post (m_X6_constant hG) ?_)
                  rintro _ _ ⟨rfl, rfl⟩
                  change X _ _ _ _ _ _ _ (.long (f_X6_constant (A14.I b46 (ix (A14.I b40 (ix y17_4))))) :: _)
                  refine x_goto (tgt := 176) dX8_load_165 (by decide) ?_
                  obtain ⟨R49, g49, h⟩ := h
                  refine x_callV hG (Ky := kX8_move) (As := [.ref b1, .long (f_X6_constant (A14.I b46 (ix (A14.I b40 (ix y17_4)))))]) dX8_load_176 o16 rfl lk_X8_351 me_X8_move is_X8_move se_X8_move rfl rfl (Nat.le_of_ble_eq_true rfl) (MX.post (m_X8_move hG hO g49) ?_)
                  rintro _ A49 ⟨rfl, h1⟩
                  refine X.xok (fun w49 => ?_)
                  replace h := h A49 w49 h1
                  change X _ _ _ _ A49 _ _ []
                  exact x_vret dX8_load_179 rfl ⟨rfl, h⟩
                · replace h := h.1 c124
                  refine x_aload_n dX8_load_127 rfl ?_
                  refine x_aload_n dX8_load_128 rfl ?_
                  refine x_get (v := va_rf (A14.P p 21)) hG dX8_load_129 f_X8_49_7 o16 rfl ?_
                  refine x_iload dX8_load_132 rfl ?_
                  obtain ⟨b50, e50, h⟩ := h
                  rw [e50]
                  obtain ⟨o51, h⟩ := h
                  obtain ⟨o52, h⟩ := h
                  refine x_iald hG dX8_load_134 o51 o52 ?_
                  refine x_iload dX8_load_135 rfl ?_
                  obtain ⟨R53, g53, h⟩ := h
                  refine x_callV hG (Ky := kX8_holds) (As := [.int (A14.I b50 (ix (A14.I b40 (ix y17_4)))), .int (A14.I b40 (ix y17_4))]) dX8_load_137 o16 rfl lk_X8_318 me_X8_holds is_X8_holds se_X8_holds rfl rfl (Nat.le_of_ble_eq_true rfl) (MX.post (m_X8_holds hG hO g53) ?_)
                  rintro _ A53 ⟨v53, rfl, zv53, h1⟩
                  refine X.xok (fun w53 => ?_)
                  replace h := h v53 A53 w53 zv53 h1
                  change X _ _ _ _ A53 _ _ [.int v53]
                  refine x_if_eq (tgt := 180) dX8_load_140 (by decide) (fun c140 => ?_) (fun c140 => ?_)
                  · replace h := h.1 c140
                    refine x_aload_n dX8_load_180 rfl ?_
                    refine x_aload_n dX8_load_181 rfl ?_
                    obtain ⟨o54, h⟩ := h
                    refine x_get (v := .int (A53.I b1 1)) hG dX8_load_182 f_X8_209_35 o54 rfl ?_
                    refine x_iload dX8_load_185 rfl ?_
                    obtain ⟨o56, h⟩ := h
                    obtain ⟨R55, g55, h⟩ := h
                    refine x_callV hG (Ky := kX8_define) (As := [.int (A53.I b1 1), .int (A14.I b40 (ix y17_4))]) dX8_load_187 o56 rfl lk_X8_234 me_X8_define is_X8_define se_X8_define rfl rfl (Nat.le_of_ble_eq_true rfl) (MX.post (m_X8_define hG hO g55) ?_)
                    rintro _ A55 ⟨rfl, h1⟩
                    refine X.xok (fun w55 => ?_)
                    replace h := h A55 w55 h1
                    change X _ _ _ _ A55 _ _ []
                    refine x_aload_n dX8_load_190 rfl ?_
                    refine x_aload_n dX8_load_191 rfl ?_
                    obtain ⟨o58, h⟩ := h
                    obtain ⟨R57, g57, h⟩ := h
                    refine x_callV hG (Ky := kX8_keep) (As := [.ref b1]) dX8_load_192 o58 rfl lk_X8_339 me_X8_keep is_X8_keep se_X8_keep rfl rfl (Nat.le_of_ble_eq_true rfl) (MX.post (m_X8_keep hG hO g57) ?_)
                    rintro _ A57 ⟨rfl, h1⟩
                    refine X.xok (fun w57 => ?_)
                    replace h := h A57 w57 h1
                    change X _ _ _ _ A57 _ _ []
                    exact x_vret dX8_load_195 rfl ⟨rfl, h⟩
                  · replace h := h.2 c140
                    refine x_aload_n dX8_load_143 rfl ?_
                    refine x_aload_n dX8_load_144 rfl ?_
                    refine x_aload_n dX8_load_145 rfl ?_
                    obtain ⟨o59, h⟩ := h
                    refine x_get (v := va_rf (A53.P p 34)) hG dX8_load_146 f_X8_272_7 o59 rfl ?_
                    refine x_iload dX8_load_149 rfl ?_
                    obtain ⟨b60, e60, h⟩ := h
                    rw [e60]
                    obtain ⟨o61, h⟩ := h
                    obtain ⟨o62, h⟩ := h
                    refine x_zald hG dX8_load_151 o61 o62 ?_
                    obtain ⟨J63, g63, h⟩ := h
                    have kj63 : ∀ (y63_s0 : Int64), J63 y63_s0 → X G (dp + 5) kX8_load (hV Q) A53 176 [none, none, none, none, none, none] [.long y63_s0, .ref b1, .ref p] := by
                      intro y63_s0 h
                      replace h := g63 y63_s0 h
                      obtain ⟨R64, g64, h⟩ := h
                      refine x_callV hG (Ky := kX8_move) (As := [.ref b1, .long y63_s0]) dX8_load_176 o59 rfl lk_X8_351 me_X8_move is_X8_move se_X8_move rfl rfl (Nat.le_of_ble_eq_true rfl) (MX.post (m_X8_move hG hO g64) ?_)
                      rintro _ A64 ⟨rfl, h1⟩
                      refine X.xok (fun w64 => ?_)
                      replace h := h A64 w64 h1
                      change X _ _ _ _ A64 _ _ []
                      exact x_vret dX8_load_179 rfl ⟨rfl, h⟩
                    refine x_if_eq (tgt := 168) dX8_load_152 (by decide) (fun c152 => ?_) (fun c152 => ?_)
                    · replace h := h.1 c152
                      refine x_aload_n dX8_load_168 rfl ?_
                      refine x_get (v := va_rf (A53.P p 21)) hG dX8_load_169 f_X8_49_7 o59 rfl ?_
                      refine x_iload dX8_load_172 rfl ?_
                      obtain ⟨b65, e65, h⟩ := h
                      rw [e65]
                      obtain ⟨o66, h⟩ := h
                      obtain ⟨o67, h⟩ := h
                      refine x_iald hG dX8_load_174 o66 o67 ?_
                      refine x_i2l dX8_load_175 ?_
                      change X _ _ _ _ _ _ [some (.ref p), some (.ref b1), some (.int v11), some (.int v14), some (.int y17_4), some (.int (A14.I b40 (ix y17_4)))] [.long (A53.I b65 (ix (A14.I b40 (ix y17_4)))).toInt64, .ref b1, .ref p]
                      exact X.weak (xle_n (xle_n (xle_n (xle_n (xle_n (xle_n xle_nil)))))) (kj63 (A53.I b65 (ix (A14.I b40 (ix y17_4)))).toInt64 h)
                    · replace h := h.2 c152
                      refine x_aload_n dX8_load_155 rfl ?_
                      refine x_get (v := va_rf (A53.P p 22)) hG dX8_load_156 f_X8_269_7 o59 rfl ?_
                      refine x_iload dX8_load_159 rfl ?_
                      obtain ⟨b68, e68, h⟩ := h
                      rw [e68]
                      obtain ⟨o69, h⟩ := h
                      obtain ⟨o70, h⟩ := h
                      refine x_iald hG dX8_load_161 o69 o70 ?_
                      refine x_callS hG (Ky := kX6_constant) (As := [.int (A53.I b68 (ix (A14.I b40 (ix y17_4))))]) dX8_load_162 lk_X8_325 me_X6_constant st_X6_constant rfl rfl (Nat.le_of_ble_eq_true rfl) (MX.post (m_X6_constant hG) ?_)
                      rintro _ _ ⟨rfl, rfl⟩
                      change X _ _ _ _ _ _ _ (.long (f_X6_constant (A53.I b68 (ix (A14.I b40 (ix y17_4))))) :: _)
                      refine x_goto (tgt := 176) dX8_load_165 (by decide) ?_
                      change X _ _ _ _ _ _ [some (.ref p), some (.ref b1), some (.int v11), some (.int v14), some (.int y17_4), some (.int (A14.I b40 (ix y17_4)))] [.long (f_X6_constant (A53.I b68 (ix (A14.I b40 (ix y17_4))))), .ref b1, .ref p]
                      exact X.weak (xle_n (xle_n (xle_n (xle_n (xle_n (xle_n xle_nil)))))) (kj63 (f_X6_constant (A53.I b68 (ix (A14.I b40 (ix y17_4))))) h)
              · replace h := h.2 c102
                refine x_goto (tgt := 196) dX8_load_105 (by decide) ?_
                refine x_iinc (v := (y17_4 + (-1 : Int32))) dX8_load_196 rfl rfl (by decide) ?_
                refine x_goto (tgt := 50) dX8_load_199 (by decide) ?_
                obtain ⟨q17, l17, h⟩ := h
                change X _ _ _ _ _ _ [some (.ref p), some (.ref b1), some (.int v11), some (.int v14), some (.int (y17_4 + (-1 : Int32))), none] []
                exact X.weak (xle_c rfl (xle_c rfl (xle_c rfl (xle_c rfl (xle_c rfl (xle_n xle_nil)))))) (ih17 q17 l17 (y17_4 + (-1 : Int32)) h)
  change X _ _ _ _ _ _ [some (.ref p), some (.ref b1), some (.int v11), some (.int v14), some (.int ((A14.I p 16) - (1 : Int32))), none] []
  exact X.weak (xle_c rfl (xle_c rfl (xle_c rfl (xle_c rfl (xle_c rfl (xle_n xle_nil)))))) (kl17 n17 ((A14.I p 16) - (1 : Int32)) i17)
def w_X8_forget (G : xG) (p : Nat) (s : Option Nat) (o : Int32) (Q : xA → Prop) (A : xA) : Prop := xok G A → ∃ L1 : Nat → Int32 → Int32 → xA → Prop, (∃ n1 : Nat, L1 n1 (0 : Int32) (0 : Int32) A) ∧ (∀ (n1 : Nat) (y1_3 : Int32) (y1_4 : Int32) (A1 : xA), L1 n1 y1_3 y1_4 A1 → A1.tg p = 8 ∧ ((((A1.I p 16) ≤ y1_4 → ∀ A3 : xA, A3 = A1.setI p 16 y1_3 → (Q A3)) ∧ (¬ (A1.I p 16) ≤ y1_4 → ∃ b4 : Nat, (A1.P p 35) = some b4 ∧ (A1.tg b4 = 206 ∧ (vp_in y1_4 (A1.ln b4) ∧ (∃ J7 : Int32 → Prop, (∀ (y7_s0 : Int32), J7 y7_s0 → ∃ J8 : Int32 → xA → Prop, (∀ (y8_3 : Int32) (A8 : xA), J8 y8_3 A8 → (∃ q1 : Nat, q1 < n1 ∧ L1 q1 y8_3 (y1_4 + (1 : Int32)) A8)) ∧ ((y7_s0 = 0 → ∃ b9 : Nat, (A1.P p 27) = some b9 ∧ (A1.tg b9 = 200 ∧ (vp_in y1_4 (A1.ln b9) ∧ (G.N ≤ b9 ∧ (vp_in y1_3 (A1.ln b9) ∧ (∀ A14 : xA, A14 = A1.setI b9 (ix y1_3) (A1.I b9 (ix y1_4)) → (G.N ≤ b4 ∧ (vp_in y1_3 (A14.ln b4) ∧ (∃ b17 : Nat, (A1.P b4 (ix y1_4)) = some b17 ∧ (A14.tg b17 = 33 ∧ (∀ A19 : xA, A19 = A14.setP b4 (ix y1_3) (some b17) → (∃ b20 : Nat, (A1.P p 28) = some b20 ∧ (A19.tg b20 = 200 ∧ (vp_in y1_4 (A19.ln b20) ∧ (G.N ≤ b20 ∧ (vp_in y1_3 (A19.ln b20) ∧ (∀ A25 : xA, A25 = A19.setI b20 (ix y1_3) (A14.I b20 (ix y1_4)) → (∃ b26 : Nat, (A1.P p 29) = some b26 ∧ (A25.tg b26 = 200 ∧ (vp_in y1_4 (A25.ln b26) ∧ (G.N ≤ b26 ∧ (vp_in y1_3 (A25.ln b26) ∧ (∀ A31 : xA, A31 = A25.setI b26 (ix y1_3) (A25.I b26 (ix y1_4)) → (∃ b32 : Nat, (A1.P p 30) = some b32 ∧ (A31.tg b32 = 200 ∧ (vp_in y1_4 (A31.ln b32) ∧ (G.N ≤ b32 ∧ (vp_in y1_3 (A31.ln b32) ∧ (∀ A37 : xA, A37 = A31.setI b32 (ix y1_3) (A31.I b32 (ix y1_4)) → (J8 (y1_3 + (1 : Int32)) A37)))))))))))))))))))))))))))))) ∧ (¬ y7_s0 = 0 → J8 y1_3 A1))) ∧ ((s = none → ∃ b42 : Nat, (A1.P b4 (ix y1_4)) = some b42 ∧ (A1.tg b42 = 33 ∧ ((((A1.I b42 1) = (4 : Int32) → ((o = 0 → J7 (0 : Int32)) ∧ (¬ o = 0 → J7 (1 : Int32)))) ∧ (¬ (A1.I b42 1) = (4 : Int32) → J7 (1 : Int32)))))) ∧ (∀ b38 : Nat, s = some b38 → (((A1.P b4 (ix y1_4)) = (some b38) → J7 (1 : Int32)) ∧ (¬ (A1.P b4 (ix y1_4)) = (some b38) → ∃ b39 : Nat, (A1.P b4 (ix y1_4)) = some b39 ∧ (A1.tg b39 = 33 ∧ (A1.tg b38 = 33 ∧ ((((A1.I b39 3) = (A1.I b38 3) → (((A1.I b39 1) = (5 : Int32) → (((A1.I b38 1) = (5 : Int32) → J7 (1 : Int32)) ∧ (¬ (A1.I b38 1) = (5 : Int32) → (((A1.I b38 1) = (2 : Int32) → J7 (1 : Int32)) ∧ (¬ (A1.I b38 1) = (2 : Int32) → J7 (0 : Int32)))))) ∧ (¬ (A1.I b39 1) = (5 : Int32) → (((A1.I b39 1) = (2 : Int32) → (((A1.I b38 1) = (5 : Int32) → J7 (1 : Int32)) ∧ (¬ (A1.I b38 1) = (5 : Int32) → J7 (0 : Int32)))) ∧ (¬ (A1.I b39 1) = (2 : Int32) → J7 (0 : Int32)))))) ∧ (¬ (A1.I b39 3) = (A1.I b38 3) → J7 (0 : Int32)))))))))))))))))
theorem m_X8_forget (hG : xOK G) (hO : xHO G) {dp : Nat} {p : Nat} {s : Option Nat} {o : Int32} {Q : xA → Prop} {A : xA} (h : w_X8_forget G p s o Q A) : MX G (dp + 0) kX8_forget [.ref p, va_rf s, .int o] A (hV Q) := by
  unfold w_X8_forget at h
  refine MX.of rfl (by cases s <;> exact Nat.le_of_ble_eq_true rfl) ?_
  refine X.lvs (lv' := [some (.ref p), some (va_rf s), some (.int o), none, none, none, none]) (by cases s <;> rfl) ?_
  refine X.xok (fun w0 => ?_)
  replace h := h w0
  refine x_iconst_ (v := (0 : Int32)) dX8_forget_0 (by decide) ?_
  refine x_istore_n dX8_forget_1 (by decide) ?_
  refine x_iconst_ (v := (0 : Int32)) dX8_forget_2 (by decide) ?_
  refine x_istore dX8_forget_3 (by decide) ?_
  obtain ⟨L1, ⟨n1, i1⟩, g1⟩ := h
  have kl1 : ∀ n1 : Nat, ∀ (y1_3 : Int32) (y1_4 : Int32) (A1 : xA), L1 n1 y1_3 y1_4 A1 → X G (dp + 0) kX8_forget (hV Q) A1 5 [some (.ref p), some (va_rf s), some (.int o), some (.int y1_3), some (.int y1_4), none, none] [] := by
    intro n1
    induction n1 using Nat.strongRecOn with
    | ind n1 ih1 =>
      intro y1_3 y1_4 A1 h
      replace h := g1 n1 y1_3 y1_4 A1 h
      refine x_iload dX8_forget_5 rfl ?_
      refine x_aload_n dX8_forget_7 rfl ?_
      obtain ⟨o2, h⟩ := h
      refine x_get (v := .int (A1.I p 16)) hG dX8_forget_8 f_X8_254_7 o2 rfl ?_
      refine x_icmp_ge (tgt := 192) dX8_forget_11 (by decide) (fun c11 => ?_) (fun c11 => ?_)
      · replace h := h.1 c11
        refine x_aload_n dX8_forget_192 rfl ?_
        refine x_iload_n dX8_forget_193 rfl ?_
        refine z_putI hG hO.1 dX8_forget_194 f_X8_254_7 ⟨_, rfl, Or.inl rfl⟩ o2 (by decide) rfl rfl ⟨_, rfl⟩ (fun A3 e3 => ?_)
        replace h := h A3 e3
        exact x_vret dX8_forget_197 rfl ⟨rfl, h⟩
      · replace h := h.2 c11
        refine x_aload_n dX8_forget_14 rfl ?_
        refine x_get (v := va_rf (A1.P p 35)) hG dX8_forget_15 f_X8_302_7 o2 rfl ?_
        refine x_iload dX8_forget_18 rfl ?_
        obtain ⟨b4, e4, h⟩ := h
        rw [e4]
        obtain ⟨o5, h⟩ := h
        obtain ⟨o6, h⟩ := h
        refine x_aald hG (j := 6) dX8_forget_20 o5 rfl o6 ?_
        refine x_astoreq dX8_forget_21 (by decide) ?_
        refine x_aloadq_n dX8_forget_23 rfl ?_
        obtain ⟨J7, g7, h⟩ := h
        have kj7 : ∀ (y7_s0 : Int32), J7 y7_s0 → X G (dp + 0) kX8_forget (hV Q) A1 113 [some (.ref p), some (va_rf s), some (.int o), some (.int y1_3), some (.int y1_4), some (va_rf (A1.P b4 (ix y1_4))), none] [.int y7_s0] := by
          intro y7_s0 h
          replace h := g7 y7_s0 h
          refine x_istore dX8_forget_113 (by decide) ?_
          refine X.lvs (lv' := [some (.ref p), some (va_rf s), some (.int o), some (.int y1_3), some (.int y1_4), some (va_rf (A1.P b4 (ix y1_4))), some (.int y7_s0)]) (by generalize (A1.P b4 (ix y1_4)) = z; cases z <;> rfl) ?_
          refine x_iload dX8_forget_115 rfl ?_
          obtain ⟨J8, g8, h⟩ := h
          have kj8 : ∀ (y8_3 : Int32) (A8 : xA), J8 y8_3 A8 → X G (dp + 0) kX8_forget (hV Q) A8 186 [some (.ref p), some (va_rf s), some (.int o), some (.int y8_3), some (.int y1_4), none, none] [] := by
            intro y8_3 A8 h
            replace h := g8 y8_3 A8 h
            refine x_iinc (v := (y1_4 + (1 : Int32))) dX8_forget_186 rfl rfl (by decide) ?_
            refine x_goto (tgt := 5) dX8_forget_189 (by decide) ?_
            obtain ⟨q1, l1, h⟩ := h
            change X _ _ _ _ _ _ [some (.ref p), some (va_rf s), some (.int o), some (.int y8_3), some (.int (y1_4 + (1 : Int32))), none, none] []
            exact X.weak (xle_c rfl (xle_c rfl (xle_c rfl (xle_c rfl (xle_c rfl (xle_n (xle_n xle_nil))))))) (ih1 q1 l1 y8_3 (y1_4 + (1 : Int32)) A8 h)
          refine x_if_eq (tgt := 123) dX8_forget_117 (by decide) (fun c117 => ?_) (fun c117 => ?_)
          · replace h := h.1 c117
            refine x_aload_n dX8_forget_123 rfl ?_
            refine x_get (v := va_rf (A1.P p 27)) hG dX8_forget_124 f_X8_288_7 o2 rfl ?_
            refine x_iload_n dX8_forget_127 rfl ?_
            refine x_aload_n dX8_forget_128 rfl ?_
            refine x_get (v := va_rf (A1.P p 27)) hG dX8_forget_129 f_X8_288_7 o2 rfl ?_
            refine x_iload dX8_forget_132 rfl ?_
            obtain ⟨b9, e9, h⟩ := h
            rw [e9]
            obtain ⟨o10, h⟩ := h
            obtain ⟨o11, h⟩ := h
            refine x_iald hG dX8_forget_134 o10 o11 ?_
            obtain ⟨o12, h⟩ := h
            obtain ⟨o13, h⟩ := h
            refine z_iast hG dX8_forget_135 o10 o12 o13 (fun A14 e14 => ?_)
            replace h := h A14 e14
            refine x_aload_n dX8_forget_136 rfl ?_
            refine x_get (v := .ref b4) hG dX8_forget_137 f_X8_302_7 (kI e14 o2) (congrArg va_rf ((sI_P e14).trans e4)) ?_
            refine x_iload_n dX8_forget_140 rfl ?_
            refine x_aloadq dX8_forget_141 rfl ?_
            obtain ⟨o15, h⟩ := h
            obtain ⟨o16, h⟩ := h
            obtain ⟨b17, e17, h⟩ := h
            rw [e17]
            obtain ⟨o18, h⟩ := h
            refine z_aast hG (j := 6) dX8_forget_143 (kI e14 o5) rfl o15 o16 o18 rfl (Or.inl rfl) (fun A19 e19 => ?_)
            replace h := h A19 e19
            refine x_aload_n dX8_forget_144 rfl ?_
            refine x_get (v := va_rf (A1.P p 28)) hG dX8_forget_145 f_X8_291_7 (kP e19 (kI e14 o2)) (congrArg va_rf ((sP_a e19 (tne (kI e14 o2) (kI e14 o5) (by decide))).trans (sI_P e14))) ?_
            refine x_iload_n dX8_forget_148 rfl ?_
            refine x_aload_n dX8_forget_149 rfl ?_
            refine x_get (v := va_rf (A1.P p 28)) hG dX8_forget_150 f_X8_291_7 (kP e19 (kI e14 o2)) (congrArg va_rf ((sP_a e19 (tne (kI e14 o2) (kI e14 o5) (by decide))).trans (sI_P e14))) ?_
            refine x_iload dX8_forget_153 rfl ?_
            obtain ⟨b20, e20, h⟩ := h
            rw [e20]
            obtain ⟨o21, h⟩ := h
            obtain ⟨o22, h⟩ := h
            refine x_iald hG dX8_forget_155 o21 o22 ?_
            refine x_eqi (v := (A14.I b20 (ix y1_4))) (sP_I e19) ?_
            obtain ⟨o23, h⟩ := h
            obtain ⟨o24, h⟩ := h
            refine z_iast hG dX8_forget_156 o21 o23 o24 (fun A25 e25 => ?_)
            replace h := h A25 e25
            refine x_aload_n dX8_forget_157 rfl ?_
            refine x_get (v := va_rf (A1.P p 29)) hG dX8_forget_158 f_X8_294_7 (kI e25 (kP e19 (kI e14 o2))) (congrArg va_rf ((sI_P e25).trans ((sP_a e19 (tne (kI e14 o2) (kI e14 o5) (by decide))).trans (sI_P e14)))) ?_
            refine x_iload_n dX8_forget_161 rfl ?_
            refine x_aload_n dX8_forget_162 rfl ?_
            refine x_get (v := va_rf (A1.P p 29)) hG dX8_forget_163 f_X8_294_7 (kI e25 (kP e19 (kI e14 o2))) (congrArg va_rf ((sI_P e25).trans ((sP_a e19 (tne (kI e14 o2) (kI e14 o5) (by decide))).trans (sI_P e14)))) ?_
            refine x_iload dX8_forget_166 rfl ?_
            obtain ⟨b26, e26, h⟩ := h
            rw [e26]
            obtain ⟨o27, h⟩ := h
            obtain ⟨o28, h⟩ := h
            refine x_iald hG dX8_forget_168 o27 o28 ?_
            obtain ⟨o29, h⟩ := h
            obtain ⟨o30, h⟩ := h
            refine z_iast hG dX8_forget_169 o27 o29 o30 (fun A31 e31 => ?_)
            replace h := h A31 e31
            refine x_aload_n dX8_forget_170 rfl ?_
            refine x_get (v := va_rf (A1.P p 30)) hG dX8_forget_171 f_X8_297_7 (kI e31 (kI e25 (kP e19 (kI e14 o2)))) (congrArg va_rf ((sI_P e31).trans ((sI_P e25).trans ((sP_a e19 (tne (kI e14 o2) (kI e14 o5) (by decide))).trans (sI_P e14))))) ?_
            refine x_iload_n dX8_forget_174 rfl ?_
            refine x_aload_n dX8_forget_175 rfl ?_
            refine x_get (v := va_rf (A1.P p 30)) hG dX8_forget_176 f_X8_297_7 (kI e31 (kI e25 (kP e19 (kI e14 o2)))) (congrArg va_rf ((sI_P e31).trans ((sI_P e25).trans ((sP_a e19 (tne (kI e14 o2) (kI e14 o5) (by decide))).trans (sI_P e14))))) ?_
            refine x_iload dX8_forget_179 rfl ?_
            obtain ⟨b32, e32, h⟩ := h
            rw [e32]
            obtain ⟨o33, h⟩ := h
            obtain ⟨o34, h⟩ := h
            refine x_iald hG dX8_forget_181 o33 o34 ?_
            obtain ⟨o35, h⟩ := h
            obtain ⟨o36, h⟩ := h
            refine z_iast hG dX8_forget_182 o33 o35 o36 (fun A37 e37 => ?_)
            replace h := h A37 e37
            refine x_iinc (v := (y1_3 + (1 : Int32))) dX8_forget_183 rfl rfl (by decide) ?_
            change X _ _ _ _ _ _ [some (.ref p), some (va_rf s), some (.int o), some (.int (y1_3 + (1 : Int32))), some (.int y1_4), some (.ref b17), some (.int y7_s0)] []
            exact X.weak (xle_c rfl (xle_c rfl (xle_c rfl (xle_c rfl (xle_c rfl (xle_n (xle_n xle_nil))))))) (kj8 (y1_3 + (1 : Int32)) A37 h)
          · replace h := h.2 c117
            refine x_goto (tgt := 186) dX8_forget_120 (by decide) ?_
            change X _ _ _ _ _ _ [some (.ref p), some (va_rf s), some (.int o), some (.int y1_3), some (.int y1_4), some (va_rf (A1.P b4 (ix y1_4))), some (.int y7_s0)] []
            exact X.weak (xle_c rfl (xle_c rfl (xle_c rfl (xle_c rfl (xle_c rfl (xle_n (xle_n xle_nil))))))) (kj8 y1_3 A1 h)
        refine x_ifnonnull (tgt := 48) dX8_forget_24 (by decide) (fun b38 c24 => ?_) (fun c24 => ?_)
        · replace h := h.2 b38 c24
          rw [c24]
          refine x_aloadq dX8_forget_48 rfl ?_
          refine x_aload_n dX8_forget_50 rfl ?_
          refine x_acmp_eq (rx := (A1.P b4 (ix y1_4))) (ry := (some b38)) (tgt := 108) dX8_forget_51 (by decide) (fun c51 => ?_) (fun c51 => ?_)
          · replace h := h.1 c51
            refine x_iconst_ (v := (1 : Int32)) dX8_forget_108 (by decide) ?_
            refine x_goto (tgt := 113) dX8_forget_109 (by decide) ?_
            change X _ _ _ _ _ _ [some (.ref p), some (.ref b38), some (.int o), some (.int y1_3), some (.int y1_4), some (va_rf (A1.P b4 (ix y1_4))), none] [.int (1 : Int32)]
            exact X.weak (xle_c rfl (xle_c (congrArg (fun z => some (va_rf z)) c24.symm) (xle_c rfl (xle_c rfl (xle_c rfl (xle_c rfl (xle_n xle_nil))))))) (kj7 (1 : Int32) h)
          · replace h := h.2 c51
            refine x_aloadq dX8_forget_54 rfl ?_
            obtain ⟨b39, e39, h⟩ := h
            rw [e39]
            obtain ⟨o40, h⟩ := h
            refine x_get (v := .int (A1.I b39 3)) hG dX8_forget_56 f_X8_407_32 o40 rfl ?_
            refine x_aload_n dX8_forget_59 rfl ?_
            obtain ⟨o41, h⟩ := h
            refine x_get (v := .int (A1.I b38 3)) hG dX8_forget_60 f_X8_407_32 o41 rfl ?_
            refine x_icmp_ne (tgt := 112) dX8_forget_63 (by decide) (fun c63 => ?_) (fun c63 => ?_)
            · replace h := h.2 c63
              refine x_iconst_ (v := (0 : Int32)) dX8_forget_112 (by decide) ?_
              change X _ _ _ _ _ _ [some (.ref p), some (.ref b38), some (.int o), some (.int y1_3), some (.int y1_4), some (.ref b39), none] [.int (0 : Int32)]
              exact X.weak (xle_c rfl (xle_c (congrArg (fun z => some (va_rf z)) c24.symm) (xle_c rfl (xle_c rfl (xle_c rfl (xle_c (congrArg (fun z => some (va_rf z)) e39.symm) (xle_n xle_nil))))))) (kj7 (0 : Int32) h)
            · replace h := h.1 c63
              refine x_aload dX8_forget_66 rfl ?_
              refine x_get (v := .int (A1.I b39 1)) hG dX8_forget_68 f_X8_404_32 o40 rfl ?_
              refine x_iconst_ (v := (5 : Int32)) dX8_forget_71 (by decide) ?_
              refine x_icmp_ne (tgt := 91) dX8_forget_72 (by decide) (fun c72 => ?_) (fun c72 => ?_)
              · replace h := h.2 c72
                refine x_aload dX8_forget_91 rfl ?_
                refine x_get (v := .int (A1.I b39 1)) hG dX8_forget_93 f_X8_404_32 o40 rfl ?_
                refine x_iconst_ (v := (2 : Int32)) dX8_forget_96 (by decide) ?_
                refine x_icmp_ne (tgt := 112) dX8_forget_97 (by decide) (fun c97 => ?_) (fun c97 => ?_)
                · replace h := h.2 c97
                  refine x_iconst_ (v := (0 : Int32)) dX8_forget_112 (by decide) ?_
                  change X _ _ _ _ _ _ [some (.ref p), some (.ref b38), some (.int o), some (.int y1_3), some (.int y1_4), some (.ref b39), none] [.int (0 : Int32)]
                  exact X.weak (xle_c rfl (xle_c (congrArg (fun z => some (va_rf z)) c24.symm) (xle_c rfl (xle_c rfl (xle_c rfl (xle_c (congrArg (fun z => some (va_rf z)) e39.symm) (xle_n xle_nil))))))) (kj7 (0 : Int32) h)
                · replace h := h.1 c97
                  refine x_aload_n dX8_forget_100 rfl ?_
                  refine x_get (v := .int (A1.I b38 1)) hG dX8_forget_101 f_X8_404_32 o41 rfl ?_
                  refine x_iconst_ (v := (5 : Int32)) dX8_forget_104 (by decide) ?_
                  refine x_icmp_ne (tgt := 112) dX8_forget_105 (by decide) (fun c105 => ?_) (fun c105 => ?_)
                  · replace h := h.2 c105
                    refine x_iconst_ (v := (0 : Int32)) dX8_forget_112 (by decide) ?_
                    change X _ _ _ _ _ _ [some (.ref p), some (.ref b38), some (.int o), some (.int y1_3), some (.int y1_4), some (.ref b39), none] [.int (0 : Int32)]
                    exact X.weak (xle_c rfl (xle_c (congrArg (fun z => some (va_rf z)) c24.symm) (xle_c rfl (xle_c rfl (xle_c rfl (xle_c (congrArg (fun z => some (va_rf z)) e39.symm) (xle_n xle_nil))))))) (kj7 (0 : Int32) h)
                  · replace h := h.1 c105
                    refine x_iconst_ (v := (1 : Int32)) dX8_forget_108 (by decide) ?_
                    refine x_goto (tgt := 113) dX8_forget_109 (by decide) ?_
                    change X _ _ _ _ _ _ [some (.ref p), some (.ref b38), some (.int o), some (.int y1_3), some (.int y1_4), some (.ref b39), none] [.int (1 : Int32)]
                    exact X.weak (xle_c rfl (xle_c (congrArg (fun z => some (va_rf z)) c24.symm) (xle_c rfl (xle_c rfl (xle_c rfl (xle_c (congrArg (fun z => some (va_rf z)) e39.symm) (xle_n xle_nil))))))) (kj7 (1 : Int32) h)
              · replace h := h.1 c72
                refine x_aload_n dX8_forget_75 rfl ?_
                refine x_get (v := .int (A1.I b38 1)) hG dX8_forget_76 f_X8_404_32 o41 rfl ?_
                refine x_iconst_ (v := (5 : Int32)) dX8_forget_79 (by decide) ?_
                refine x_icmp_eq (tgt := 108) dX8_forget_80 (by decide) (fun c80 => ?_) (fun c80 => ?_)
                · replace h := h.1 c80
                  refine x_iconst_ (v := (1 : Int32)) dX8_forget_108 (by decide) ?_
                  refine x_goto (tgt := 113) dX8_forget_109 (by decide) ?_
                  change X _ _ _ _ _ _ [some (.ref p), some (.ref b38), some (.int o), some (.int y1_3), some (.int y1_4), some (.ref b39), none] [.int (1 : Int32)]
                  exact X.weak (xle_c rfl (xle_c (congrArg (fun z => some (va_rf z)) c24.symm) (xle_c rfl (xle_c rfl (xle_c rfl (xle_c (congrArg (fun z => some (va_rf z)) e39.symm) (xle_n xle_nil))))))) (kj7 (1 : Int32) h)
                · replace h := h.2 c80
                  refine x_aload_n dX8_forget_83 rfl ?_
                  refine x_get (v := .int (A1.I b38 1)) hG dX8_forget_84 f_X8_404_32 o41 rfl ?_
                  refine x_iconst_ (v := (2 : Int32)) dX8_forget_87 (by decide) ?_
                  refine x_icmp_eq (tgt := 108) dX8_forget_88 (by decide) (fun c88 => ?_) (fun c88 => ?_)
                  · replace h := h.1 c88
                    refine x_iconst_ (v := (1 : Int32)) dX8_forget_108 (by decide) ?_
                    refine x_goto (tgt := 113) dX8_forget_109 (by decide) ?_
                    change X _ _ _ _ _ _ [some (.ref p), some (.ref b38), some (.int o), some (.int y1_3), some (.int y1_4), some (.ref b39), none] [.int (1 : Int32)]
                    exact X.weak (xle_c rfl (xle_c (congrArg (fun z => some (va_rf z)) c24.symm) (xle_c rfl (xle_c rfl (xle_c rfl (xle_c (congrArg (fun z => some (va_rf z)) e39.symm) (xle_n xle_nil))))))) (kj7 (1 : Int32) h)
                  · replace h := h.2 c88
                    refine x_aload dX8_forget_91 rfl ?_
                    refine x_get (v := .int (A1.I b39 1)) hG dX8_forget_93 f_X8_404_32 o40 rfl ?_
                    refine x_iconst_ (v := (2 : Int32)) dX8_forget_96 (by decide) ?_
                    refine x_icmp_ne (tgt := 112) dX8_forget_97 (by decide) (fun _ => ?_) (fun h => absurd h (by rw [c72]; decide))
                    refine x_iconst_ (v := (0 : Int32)) dX8_forget_112 (by decide) ?_
                    change X _ _ _ _ _ _ [some (.ref p), some (.ref b38), some (.int o), some (.int y1_3), some (.int y1_4), some (.ref b39), none] [.int (0 : Int32)]
                    exact X.weak (xle_c rfl (xle_c (congrArg (fun z => some (va_rf z)) c24.symm) (xle_c rfl (xle_c rfl (xle_c rfl (xle_c (congrArg (fun z => some (va_rf z)) e39.symm) (xle_n xle_nil))))))) (kj7 (0 : Int32) h)
        · replace h := h.1 c24
          refine x_aloadq dX8_forget_27 rfl ?_
          obtain ⟨b42, e42, h⟩ := h
          rw [e42]
          obtain ⟨o43, h⟩ := h
          refine x_get (v := .int (A1.I b42 1)) hG dX8_forget_29 f_X8_404_32 o43 rfl ?_
          refine x_iconst_ (v := (4 : Int32)) dX8_forget_32 (by decide) ?_
          refine x_icmp_ne (tgt := 40) dX8_forget_33 (by decide) (fun c33 => ?_) (fun c33 => ?_)
          · replace h := h.2 c33
            refine x_iconst_ (v := (1 : Int32)) dX8_forget_40 (by decide) ?_
            refine x_goto (tgt := 113) dX8_forget_41 (by decide) ?_
            change X _ _ _ _ _ _ [some (.ref p), some (va_rf s), some (.int o), some (.int y1_3), some (.int y1_4), some (.ref b42), none] [.int (1 : Int32)]
            exact X.weak (xle_c rfl (xle_c rfl (xle_c rfl (xle_c rfl (xle_c rfl (xle_c (congrArg (fun z => some (va_rf z)) e42.symm) (xle_n xle_nil))))))) (kj7 (1 : Int32) h)
          · replace h := h.1 c33
            refine x_iload_n dX8_forget_36 rfl ?_
            refine x_if_eq (tgt := 44) dX8_forget_37 (by decide) (fun c37 => ?_) (fun c37 => ?_)
            · replace h := h.1 c37
              refine x_iconst_ (v := (0 : Int32)) dX8_forget_44 (by decide) ?_
              refine x_goto (tgt := 113) dX8_forget_45 (by decide) ?_
              change X _ _ _ _ _ _ [some (.ref p), some (va_rf s), some (.int o), some (.int y1_3), some (.int y1_4), some (.ref b42), none] [.int (0 : Int32)]
              exact X.weak (xle_c rfl (xle_c rfl (xle_c rfl (xle_c rfl (xle_c rfl (xle_c (congrArg (fun z => some (va_rf z)) e42.symm) (xle_n xle_nil))))))) (kj7 (0 : Int32) h)
            · replace h := h.2 c37
              refine x_iconst_ (v := (1 : Int32)) dX8_forget_40 (by decide) ?_
              refine x_goto (tgt := 113) dX8_forget_41 (by decide) ?_
              change X _ _ _ _ _ _ [some (.ref p), some (va_rf s), some (.int o), some (.int y1_3), some (.int y1_4), some (.ref b42), none] [.int (1 : Int32)]
              exact X.weak (xle_c rfl (xle_c rfl (xle_c rfl (xle_c rfl (xle_c rfl (xle_c (congrArg (fun z => some (va_rf z)) e42.symm) (xle_n xle_nil))))))) (kj7 (1 : Int32) h)
  change X _ _ _ _ _ _ [some (.ref p), some (va_rf s), some (.int o), some (.int (0 : Int32)), some (.int (0 : Int32)), none, none] []
  exact X.weak (xle_c rfl (xle_c rfl (xle_c rfl (xle_c rfl (xle_c rfl (xle_n (xle_n xle_nil))))))) (kl1 n1 (0 : Int32) (0 : Int32) A i1)
def w_X8_store (G : xG) (p : Nat) (x : Option Nat) (Q : xA → Prop) (A : xA) : Prop := xok G A → ∃ b1 : Nat, x = some b1 ∧ (A.tg b1 = 36 ∧ (A.tg p = 8 ∧ (∃ R3 : Int64 → xA → Prop, w_X8_fit G p (A.L b1 2) R3 A ∧ (∀ (v3 : Int64) (A3 : xA), xok G A3 → R3 v3 A3 → (A3.tg b1 = 36 ∧ (∀ A6 : xA, A6 = A3.setL b1 2 v3 → (A6.tg p = 8 ∧ (∃ R7 : Int64 → xA → Prop, w_X8_fit G p (A3.L b1 3) R7 A6 ∧ (∀ (v7 : Int64) (A7 : xA), xok G A7 → R7 v7 A7 → (A7.tg b1 = 36 ∧ (∀ A10 : xA, A10 = A7.setL b1 3 v7 → (A10.tg p = 8 ∧ (∃ R11 : Int64 → xA → Prop, w_X8_fit G p (A7.L b1 4) R11 A10 ∧ (∀ (v11 : Int64) (A11 : xA), xok G A11 → R11 v11 A11 → (A11.tg b1 = 36 ∧ (∀ A14 : xA, A14 = A11.setL b1 4 v11 → (A14.tg p = 8 ∧ (∃ R15 : xA → Prop, w_X8_forget G p (A11.P b1 7) (0 : Int32) R15 A14 ∧ (∀ A15 : xA, xok G A15 → R15 A15 → (A15.tg b1 = 36 ∧ (∃ J18 : xA → Prop, (∀ (A18 : xA), J18 A18 → A18.tg p = 8 ∧ (∃ R19 : xA → Prop, w_X8_keep G p (some b1) R19 A18 ∧ (∀ A19 : xA, xok G A19 → R19 A19 → (Q A19)))) ∧ (((A15.I b1 0) = (23 : Int32) → A15.tg p = 8 ∧ (∃ R21 : Int32 → xA → Prop, w_X8_number G p (A15.L b1 2) R21 A15 ∧ (∀ (v21 : Int32) (A21 : xA), xok G A21 → R21 v21 A21 → (A21.tg b1 = 36 ∧ (A21.tg p = 8 ∧ (∃ R24 : Int32 → xA → Prop, w_X8_number G p (A21.L b1 3) R24 A21 ∧ (∀ (v24 : Int32) (A24 : xA), xok G A24 → R24 v24 A24 → (A24.tg b1 = 36 ∧ (A24.tg p = 8 ∧ (∃ R27 : Int32 → xA → Prop, w_X8_number G p (A24.L b1 4) R27 A24 ∧ (∀ (v27 : Int32) (A27 : xA), xok G A27 → R27 v27 A27 → (A27.tg p = 8 ∧ (∃ R29 : xA → Prop, w_X8_loaded G p (21 : Int32) (A15.P b1 7) v21 v24 v27 R29 A27 ∧ (∀ A29 : xA, xok G A29 → R29 A29 → (J18 A29))))))))))))))) ∧ (¬ (A15.I b1 0) = (23 : Int32) → J18 A15)))))))))))))))))))))))
theorem m_X8_store (hG : xOK G) (hO : xHO G) {dp : Nat} {p : Nat} {x : Option Nat} {Q : xA → Prop} {A : xA} (h : w_X8_store G p x Q A) : MX G (dp + 4) kX8_store [.ref p, va_rf x] A (hV Q) := by
  unfold w_X8_store at h
  refine MX.of rfl (by cases x <;> exact Nat.le_of_ble_eq_true rfl) ?_
  refine X.lvs (lv' := [some (.ref p), some (va_rf x)]) (by cases x <;> rfl) ?_
  refine X.xok (fun w0 => ?_)
  replace h := h w0
  refine x_aloadq_n dX8_store_0 rfl ?_
  refine x_aload_n dX8_store_1 rfl ?_
  refine x_aloadq_n dX8_store_2 rfl ?_
  obtain ⟨b1, e1, h⟩ := h
  rw [e1]
  obtain ⟨o2, h⟩ := h
  refine x_get (v := .long (A.L b1 2)) hG dX8_store_3 f_X8_213_35 o2 rfl ?_
  obtain ⟨o4, h⟩ := h
  obtain ⟨R3, g3, h⟩ := h
  refine x_callV hG (Ky := kX8_fit) (As := [.long (A.L b1 2)]) dX8_store_6 o4 rfl lk_X8_331 me_X8_fit is_X8_fit se_X8_fit rfl rfl (Nat.le_of_ble_eq_true rfl) (MX.post (m_X8_fit hG hO g3) ?_)
  rintro _ A3 ⟨v3, rfl, h1⟩
  refine X.xok (fun w3 => ?_)
  replace h := h v3 A3 w3 h1
  change X _ _ _ _ A3 _ _ [.long v3, .ref b1]
  obtain ⟨o5, h⟩ := h
  refine z_putL hG hO.1 dX8_store_9 f_X8_213_35 ⟨_, rfl, Or.inl rfl⟩ o5 (by decide) rfl rfl ⟨_, rfl⟩ (fun A6 e6 => ?_)
  replace h := h A6 e6
  refine x_aload_n dX8_store_12 rfl ?_
  refine x_aload_n dX8_store_13 rfl ?_
  refine x_aload_n dX8_store_14 rfl ?_
  refine x_get (v := .long (A3.L b1 3)) hG dX8_store_15 f_X8_218_35 (kL e6 o5) (congrArg Value.long (sL_k e6 (by decide))) ?_
  obtain ⟨o8, h⟩ := h
  obtain ⟨R7, g7, h⟩ := h
  refine x_callV hG (Ky := kX8_fit) (As := [.long (A3.L b1 3)]) dX8_store_18 o8 rfl lk_X8_331 me_X8_fit is_X8_fit se_X8_fit rfl rfl (Nat.le_of_ble_eq_true rfl) (MX.post (m_X8_fit hG hO g7) ?_)
  rintro _ A7 ⟨v7, rfl, h1⟩
  refine X.xok (fun w7 => ?_)
  replace h := h v7 A7 w7 h1
  change X _ _ _ _ A7 _ _ [.long v7, .ref b1]
  obtain ⟨o9, h⟩ := h
  refine z_putL hG hO.1 dX8_store_21 f_X8_218_35 ⟨_, rfl, Or.inl rfl⟩ o9 (by decide) rfl rfl ⟨_, rfl⟩ (fun A10 e10 => ?_)
  replace h := h A10 e10
  refine x_aload_n dX8_store_24 rfl ?_
  refine x_aload_n dX8_store_25 rfl ?_
  refine x_aload_n dX8_store_26 rfl ?_
  refine x_get (v := .long (A7.L b1 4)) hG dX8_store_27 f_X8_401_35 (kL e10 o9) (congrArg Value.long (sL_k e10 (by decide))) ?_
  obtain ⟨o12, h⟩ := h
  obtain ⟨R11, g11, h⟩ := h
  refine x_callV hG (Ky := kX8_fit) (As := [.long (A7.L b1 4)]) dX8_store_30 o12 rfl lk_X8_331 me_X8_fit is_X8_fit se_X8_fit rfl rfl (Nat.le_of_ble_eq_true rfl) (MX.post (m_X8_fit hG hO g11) ?_)
  rintro _ A11 ⟨v11, rfl, h1⟩
  refine X.xok (fun w11 => ?_)
  replace h := h v11 A11 w11 h1
  change X _ _ _ _ A11 _ _ [.long v11, .ref b1]
  obtain ⟨o13, h⟩ := h
  refine z_putL hG hO.1 dX8_store_33 f_X8_401_35 ⟨_, rfl, Or.inl rfl⟩ o13 (by decide) rfl rfl ⟨_, rfl⟩ (fun A14 e14 => ?_)
  replace h := h A14 e14
  refine x_aload_n dX8_store_36 rfl ?_
  refine x_aload_n dX8_store_37 rfl ?_
  refine x_get (v := va_rf (A11.P b1 7)) hG dX8_store_38 f_X8_335_35 (kL e14 o13) (congrArg va_rf (sL_P e14)) ?_
  refine x_iconst_ (v := (0 : Int32)) dX8_store_41 (by decide) ?_
  obtain ⟨o16, h⟩ := h
  obtain ⟨R15, g15, h⟩ := h
  refine x_callV hG (Ky := kX8_forget) (As := [va_rf (A11.P b1 7), .int (0 : Int32)]) dX8_store_42 o16 rfl lk_X8_380 me_X8_forget is_X8_forget se_X8_forget rfl rfl (Nat.le_of_ble_eq_true rfl) (MX.post (m_X8_forget hG hO g15) ?_)
  rintro _ A15 ⟨rfl, h1⟩
  refine X.xok (fun w15 => ?_)
  replace h := h A15 w15 h1
  change X _ _ _ _ A15 _ _ []
  refine x_aload_n dX8_store_45 rfl ?_
  obtain ⟨o17, h⟩ := h
  refine x_get (v := .int (A15.I b1 0)) hG dX8_store_46 f_X8_212_35 o17 rfl ?_
  refine x_bipush_ (v := (23 : Int32)) dX8_store_49 (by decide) ?_
  obtain ⟨J18, g18, h⟩ := h
  have kj18 : ∀ (A18 : xA), J18 A18 → X G (dp + 4) kX8_store (hV Q) A18 88 [some (.ref p), some (.ref b1)] [] := by
    intro A18 h
    replace h := g18 A18 h
    refine x_aload_n dX8_store_88 rfl ?_
    refine x_aload_n dX8_store_89 rfl ?_
    obtain ⟨o20, h⟩ := h
    obtain ⟨R19, g19, h⟩ := h
    refine x_callV hG (Ky := kX8_keep) (As := [.ref b1]) dX8_store_90 o20 rfl lk_X8_339 me_X8_keep is_X8_keep se_X8_keep rfl rfl (Nat.le_of_ble_eq_true rfl) (MX.post (m_X8_keep hG hO g19) ?_)
    rintro _ A19 ⟨rfl, h1⟩
    refine X.xok (fun w19 => ?_)
    replace h := h A19 w19 h1
    change X _ _ _ _ A19 _ _ []
    exact x_vret dX8_store_93 rfl ⟨rfl, h⟩
  refine x_icmp_ne (tgt := 88) dX8_store_51 (by decide) (fun c51 => ?_) (fun c51 => ?_)
  · replace h := h.2 c51
    change X _ _ _ _ _ _ [some (.ref p), some (.ref b1)] []
    exact X.weak (xle_c rfl (xle_c rfl xle_nil)) (kj18 A15 h)
  · replace h := h.1 c51
    refine x_aload_n dX8_store_54 rfl ?_
    refine x_bipush_ (v := (21 : Int32)) dX8_store_55 (by decide) ?_
    refine x_aload_n dX8_store_57 rfl ?_
    refine x_get (v := va_rf (A15.P b1 7)) hG dX8_store_58 f_X8_335_35 o17 rfl ?_
    refine x_aload_n dX8_store_61 rfl ?_
    refine x_aload_n dX8_store_62 rfl ?_
    refine x_get (v := .long (A15.L b1 2)) hG dX8_store_63 f_X8_213_35 o17 rfl ?_
    obtain ⟨o22, h⟩ := h
    obtain ⟨R21, g21, h⟩ := h
    refine x_callV hG (Ky := kX8_number) (As := [.long (A15.L b1 2)]) dX8_store_66 o22 rfl lk_X8_322 me_X8_number is_X8_number se_X8_number rfl rfl (by simp only [List.append_eq, List.nil_append, List.map_cons, va_rf_cat]; exact Nat.le_of_ble_eq_true rfl) (MX.post (m_X8_number hG hO g21) ?_)
    rintro _ A21 ⟨v21, rfl, h1⟩
    refine X.xok (fun w21 => ?_)
    replace h := h v21 A21 w21 h1
    change X _ _ _ _ A21 _ _ [.int v21, va_rf (A15.P b1 7), .int (21 : Int32), .ref p]
    refine x_aload_n dX8_store_69 rfl ?_
    refine x_aload_n dX8_store_70 rfl ?_
    obtain ⟨o23, h⟩ := h
    refine x_get (v := .long (A21.L b1 3)) hG dX8_store_71 f_X8_218_35 o23 rfl ?_
    obtain ⟨o25, h⟩ := h
    obtain ⟨R24, g24, h⟩ := h
    refine x_callV hG (Ky := kX8_number) (As := [.long (A21.L b1 3)]) dX8_store_74 o25 rfl lk_X8_322 me_X8_number is_X8_number se_X8_number rfl rfl (by simp only [List.append_eq, List.nil_append, List.map_cons, va_rf_cat]; exact Nat.le_of_ble_eq_true rfl) (MX.post (m_X8_number hG hO g24) ?_)
    rintro _ A24 ⟨v24, rfl, h1⟩
    refine X.xok (fun w24 => ?_)
    replace h := h v24 A24 w24 h1
    change X _ _ _ _ A24 _ _ [.int v24, .int v21, va_rf (A15.P b1 7), .int (21 : Int32), .ref p]
    refine x_aload_n dX8_store_77 rfl ?_
    refine x_aload_n dX8_store_78 rfl ?_
    obtain ⟨o26, h⟩ := h
    refine x_get (v := .long (A24.L b1 4)) hG dX8_store_79 f_X8_401_35 o26 rfl ?_
    obtain ⟨o28, h⟩ := h
    obtain ⟨R27, g27, h⟩ := h
    refine x_callV hG (Ky := kX8_number) (As := [.long (A24.L b1 4)]) dX8_store_82 o28 rfl lk_X8_322 me_X8_number is_X8_number se_X8_number rfl rfl (by simp only [List.append_eq, List.nil_append, List.map_cons, va_rf_cat]; exact Nat.le_of_ble_eq_true rfl) (MX.post (m_X8_number hG hO g27) ?_)
    rintro _ A27 ⟨v27, rfl, h1⟩
    refine X.xok (fun w27 => ?_)
    replace h := h v27 A27 w27 h1
    change X _ _ _ _ A27 _ _ [.int v27, .int v24, .int v21, va_rf (A15.P b1 7), .int (21 : Int32), .ref p]
    obtain ⟨o30, h⟩ := h
    obtain ⟨R29, g29, h⟩ := h
    refine x_callV hG (Ky := kX8_loaded) (As := [.int (21 : Int32), va_rf (A15.P b1 7), .int v21, .int v24, .int v27]) dX8_store_85 o30 rfl lk_X8_397 me_X8_loaded is_X8_loaded se_X8_loaded rfl rfl (Nat.le_of_ble_eq_true rfl) (MX.post (m_X8_loaded hG hO g29) ?_)
    rintro _ A29 ⟨rfl, h1⟩
    refine X.xok (fun w29 => ?_)
    replace h := h A29 w29 h1
    change X _ _ _ _ A29 _ _ []
    change X _ _ _ _ _ _ [some (.ref p), some (.ref b1)] []
    exact X.weak (xle_c rfl (xle_c rfl xle_nil)) (kj18 A29 h)
def w_X8_check (G : xG) (p : Nat) (x : Option Nat) (Q : xA → Prop) (A : xA) : Prop := xok G A → ∃ b1 : Nat, x = some b1 ∧ (A.tg b1 = 36 ∧ (A.tg p = 8 ∧ (∃ R3 : Int64 → xA → Prop, w_X8_fit G p (A.L b1 2) R3 A ∧ (∀ (v3 : Int64) (A3 : xA), xok G A3 → R3 v3 A3 → (A3.tg b1 = 36 ∧ (∀ A6 : xA, A6 = A3.setL b1 2 v3 → (A6.tg p = 8 ∧ (∃ R7 : Int64 → xA → Prop, w_X8_fit G p (A3.L b1 3) R7 A6 ∧ (∀ (v7 : Int64) (A7 : xA), xok G A7 → R7 v7 A7 → (A7.tg b1 = 36 ∧ (∀ A10 : xA, A10 = A7.setL b1 3 v7 → ((((f_X0_isConstant (A7.L b1 2)) = 0 → A10.tg p = 8 ∧ (∃ R11 : Int32 → xA → Prop, w_X8_number G p (A7.L b1 2) R11 A10 ∧ (∀ (v11 : Int32) (A11 : xA), xok G A11 → R11 v11 A11 → (A11.tg b1 = 36 ∧ (A11.tg p = 8 ∧ (∃ R14 : Int32 → xA → Prop, w_X8_number G p (A11.L b1 3) R14 A11 ∧ (∀ (v14 : Int32) (A14 : xA), xok G A14 → R14 v14 A14 → (∃ L16 : Nat → Int32 → Prop, (∃ n16 : Nat, L16 n16 (0 : Int32)) ∧ (∀ (n16 : Nat) (y16_4 : Int32), L16 n16 y16_4 → A14.tg p = 8 ∧ ((((A14.I p 17) ≤ y16_4 → ∃ b18 : Nat, (A14.P p 31) = some b18 ∧ (A14.tg b18 = 200 ∧ (G.N ≤ b18 ∧ (vp_in (A14.I p 17) (A14.ln b18) ∧ (∀ A22 : xA, A22 = A14.setI b18 (ix (A14.I p 17)) v11 → (∃ b23 : Nat, (A14.P p 32) = some b23 ∧ (A22.tg b23 = 200 ∧ (G.N ≤ b23 ∧ (vp_in (A14.I p 17) (A22.ln b23) ∧ (∀ A27 : xA, A27 = A22.setI b23 (ix (A14.I p 17)) v14 → (∀ A28 : xA, A28 = A27.setI p 17 ((A14.I p 17) + (1 : Int32)) → (∃ R29 : xA → Prop, w_X8_keep G p (some b1) R29 A28 ∧ (∀ A29 : xA, xok G A29 → R29 A29 → (Q A29)))))))))))))) ∧ (¬ (A14.I p 17) ≤ y16_4 → ∃ b30 : Nat, (A14.P p 31) = some b30 ∧ (A14.tg b30 = 200 ∧ (vp_in y16_4 (A14.ln b30) ∧ ((((A14.I b30 (ix y16_4)) = v11 → ∃ b33 : Nat, (A14.P p 32) = some b33 ∧ (A14.tg b33 = 200 ∧ (vp_in y16_4 (A14.ln b33) ∧ ((((A14.I b33 (ix y16_4)) = v14 → Q A14) ∧ (¬ (A14.I b33 (ix y16_4)) = v14 → (∃ q16 : Nat, q16 < n16 ∧ L16 q16 (y16_4 + (1 : Int32))))))))) ∧ (¬ (A14.I b30 (ix y16_4)) = v11 → (∃ q16 : Nat, q16 < n16 ∧ L16 q16 (y16_4 + (1 : Int32)))))))))))))))))))) ∧ (¬ (f_X0_isConstant (A7.L b1 2)) = 0 → (((f_X0_isConstant v7) = 0 → A10.tg p = 8 ∧ (∃ R36 : Int32 → xA → Prop, w_X8_number G p (A7.L b1 2) R36 A10 ∧ (∀ (v36 : Int32) (A36 : xA), xok G A36 → R36 v36 A36 → (A36.tg b1 = 36 ∧ (A36.tg p = 8 ∧ (∃ R39 : Int32 → xA → Prop, w_X8_number G p (A36.L b1 3) R39 A36 ∧ (∀ (v39 : Int32) (A39 : xA), xok G A39 → R39 v39 A39 → (∃ L41 : Nat → Int32 → Prop, (∃ n41 : Nat, L41 n41 (0 : Int32)) ∧ (∀ (n41 : Nat) (y41_4 : Int32), L41 n41 y41_4 → A39.tg p = 8 ∧ ((((A39.I p 17) ≤ y41_4 → ∃ b43 : Nat, (A39.P p 31) = some b43 ∧ (A39.tg b43 = 200 ∧ (G.N ≤ b43 ∧ (vp_in (A39.I p 17) (A39.ln b43) ∧ (∀ A47 : xA, A47 = A39.setI b43 (ix (A39.I p 17)) v36 → (∃ b48 : Nat, (A39.P p 32) = some b48 ∧ (A47.tg b48 = 200 ∧ (G.N ≤ b48 ∧ (vp_in (A39.I p 17) (A47.ln b48) ∧ (∀ A52 : xA, A52 = A47.setI b48 (ix (A39.I p 17)) v39 → (∀ A53 : xA, A53 = A52.setI p 17 ((A39.I p 17) + (1 : Int32)) → (∃ R54 : xA → Prop, w_X8_keep G p (some b1) R54 A53 ∧ (∀ A54 : xA, xok G A54 → R54 A54 → (Q A54)))))))))))))) ∧ (¬ (A39.I p 17) ≤ y41_4 → ∃ b55 : Nat, (A39.P p 31) = some b55 ∧ (A39.tg b55 = 200 ∧ (vp_in y41_4 (A39.ln b55) ∧ ((((A39.I b55 (ix y41_4)) = v36 → ∃ b58 : Nat, (A39.P p 32) = some b58 ∧ (A39.tg b58 = 200 ∧ (vp_in y41_4 (A39.ln b58) ∧ ((((A39.I b58 (ix y41_4)) = v39 → Q A39) ∧ (¬ (A39.I b58 (ix y41_4)) = v39 → (∃ q41 : Nat, q41 < n41 ∧ L41 q41 (y41_4 + (1 : Int32))))))))) ∧ (¬ (A39.I b55 (ix y41_4)) = v36 → (∃ q41 : Nat, q41 < n41 ∧ L41 q41 (y41_4 + (1 : Int32)))))))))))))))))))) ∧ (¬ (f_X0_isConstant v7) = 0 → (((A7.L b1 2).toInt32 < 0 → A10.tg p = 8 ∧ (∃ R61 : Int32 → xA → Prop, w_X8_number G p (A7.L b1 2) R61 A10 ∧ (∀ (v61 : Int32) (A61 : xA), xok G A61 → R61 v61 A61 → (A61.tg b1 = 36 ∧ (A61.tg p = 8 ∧ (∃ R64 : Int32 → xA → Prop, w_X8_number G p (A61.L b1 3) R64 A61 ∧ (∀ (v64 : Int32) (A64 : xA), xok G A64 → R64 v64 A64 → (∃ L66 : Nat → Int32 → Prop, (∃ n66 : Nat, L66 n66 (0 : Int32)) ∧ (∀ (n66 : Nat) (y66_4 : Int32), L66 n66 y66_4 → A64.tg p = 8 ∧ ((((A64.I p 17) ≤ y66_4 → ∃ b68 : Nat, (A64.P p 31) = some b68 ∧ (A64.tg b68 = 200 ∧ (G.N ≤ b68 ∧ (vp_in (A64.I p 17) (A64.ln b68) ∧ (∀ A72 : xA, A72 = A64.setI b68 (ix (A64.I p 17)) v61 → (∃ b73 : Nat, (A64.P p 32) = some b73 ∧ (A72.tg b73 = 200 ∧ (G.N ≤ b73 ∧ (vp_in (A64.I p 17) (A72.ln b73) ∧ (∀ A77 : xA, A77 = A72.setI b73 (ix (A64.I p 17)) v64 → (∀ A78 : xA, A78 = A77.setI p 17 ((A64.I p 17) + (1 : Int32)) → (∃ R79 : xA → Prop, w_X8_keep G p (some b1) R79 A78 ∧ (∀ A79 : xA, xok G A79 → R79 A79 → (Q A79)))))))))))))) ∧ (¬ (A64.I p 17) ≤ y66_4 → ∃ b80 : Nat, (A64.P p 31) = some b80 ∧ (A64.tg b80 = 200 ∧ (vp_in y66_4 (A64.ln b80) ∧ ((((A64.I b80 (ix y66_4)) = v61 → ∃ b83 : Nat, (A64.P p 32) = some b83 ∧ (A64.tg b83 = 200 ∧ (vp_in y66_4 (A64.ln b83) ∧ ((((A64.I b83 (ix y66_4)) = v64 → Q A64) ∧ (¬ (A64.I b83 (ix y66_4)) = v64 → (∃ q66 : Nat, q66 < n66 ∧ L66 q66 (y66_4 + (1 : Int32))))))))) ∧ (¬ (A64.I b80 (ix y66_4)) = v61 → (∃ q66 : Nat, q66 < n66 ∧ L66 q66 (y66_4 + (1 : Int32)))))))))))))))))))) ∧ (¬ (A7.L b1 2).toInt32 < 0 → ((v7.toInt32 ≤ (A7.L b1 2).toInt32 → A10.tg p = 8 ∧ (∃ R86 : Int32 → xA → Prop, w_X8_number G p (A7.L b1 2) R86 A10 ∧ (∀ (v86 : Int32) (A86 : xA), xok G A86 → R86 v86 A86 → (A86.tg b1 = 36 ∧ (A86.tg p = 8 ∧ (∃ R89 : Int32 → xA → Prop, w_X8_number G p (A86.L b1 3) R89 A86 ∧ (∀ (v89 : Int32) (A89 : xA), xok G A89 → R89 v89 A89 → (∃ L91 : Nat → Int32 → Prop, (∃ n91 : Nat, L91 n91 (0 : Int32)) ∧ (∀ (n91 : Nat) (y91_4 : Int32), L91 n91 y91_4 → A89.tg p = 8 ∧ ((((A89.I p 17) ≤ y91_4 → ∃ b93 : Nat, (A89.P p 31) = some b93 ∧ (A89.tg b93 = 200 ∧ (G.N ≤ b93 ∧ (vp_in (A89.I p 17) (A89.ln b93) ∧ (∀ A97 : xA, A97 = A89.setI b93 (ix (A89.I p 17)) v86 → (∃ b98 : Nat, (A89.P p 32) = some b98 ∧ (A97.tg b98 = 200 ∧ (G.N ≤ b98 ∧ (vp_in (A89.I p 17) (A97.ln b98) ∧ (∀ A102 : xA, A102 = A97.setI b98 (ix (A89.I p 17)) v89 → (∀ A103 : xA, A103 = A102.setI p 17 ((A89.I p 17) + (1 : Int32)) → (∃ R104 : xA → Prop, w_X8_keep G p (some b1) R104 A103 ∧ (∀ A104 : xA, xok G A104 → R104 A104 → (Q A104)))))))))))))) ∧ (¬ (A89.I p 17) ≤ y91_4 → ∃ b105 : Nat, (A89.P p 31) = some b105 ∧ (A89.tg b105 = 200 ∧ (vp_in y91_4 (A89.ln b105) ∧ ((((A89.I b105 (ix y91_4)) = v86 → ∃ b108 : Nat, (A89.P p 32) = some b108 ∧ (A89.tg b108 = 200 ∧ (vp_in y91_4 (A89.ln b108) ∧ ((((A89.I b108 (ix y91_4)) = v89 → Q A89) ∧ (¬ (A89.I b108 (ix y91_4)) = v89 → (∃ q91 : Nat, q91 < n91 ∧ L91 q91 (y91_4 + (1 : Int32))))))))) ∧ (¬ (A89.I b105 (ix y91_4)) = v86 → (∃ q91 : Nat, q91 < n91 ∧ L91 q91 (y91_4 + (1 : Int32)))))))))))))))))))) ∧ (¬ v7.toInt32 ≤ (A7.L b1 2).toInt32 → Q A10))))))))))))))))))))
theorem m_X8_check (hG : xOK G) (hO : xHO G) {dp : Nat} {p : Nat} {x : Option Nat} {Q : xA → Prop} {A : xA} (h : w_X8_check G p x Q A) : MX G (dp + 4) kX8_check [.ref p, va_rf x] A (hV Q) := by
  unfold w_X8_check at h
  refine MX.of rfl (by cases x <;> exact Nat.le_of_ble_eq_true rfl) ?_
  refine X.lvs (lv' := [some (.ref p), some (va_rf x), none, none, none]) (by cases x <;> rfl) ?_
  refine X.xok (fun w0 => ?_)
  replace h := h w0
  refine x_aloadq_n dX8_check_0 rfl ?_
  refine x_aload_n dX8_check_1 rfl ?_
  refine x_aloadq_n dX8_check_2 rfl ?_
  obtain ⟨b1, e1, h⟩ := h
  rw [e1]
  obtain ⟨o2, h⟩ := h
  refine x_get (v := .long (A.L b1 2)) hG dX8_check_3 f_X8_213_35 o2 rfl ?_
  obtain ⟨o4, h⟩ := h
  obtain ⟨R3, g3, h⟩ := h
  refine x_callV hG (Ky := kX8_fit) (As := [.long (A.L b1 2)]) dX8_check_6 o4 rfl lk_X8_331 me_X8_fit is_X8_fit se_X8_fit rfl rfl (Nat.le_of_ble_eq_true rfl) (MX.post (m_X8_fit hG hO g3) ?_)
  rintro _ A3 ⟨v3, rfl, h1⟩
  refine X.xok (fun w3 => ?_)
  replace h := h v3 A3 w3 h1
  change X _ _ _ _ A3 _ _ [.long v3, .ref b1]
  obtain ⟨o5, h⟩ := h
  refine z_putL hG hO.1 dX8_check_9 f_X8_213_35 ⟨_, rfl, Or.inl rfl⟩ o5 (by decide) rfl rfl ⟨_, rfl⟩ (fun A6 e6 => ?_)
  replace h := h A6 e6
  refine x_aload_n dX8_check_12 rfl ?_
  refine x_aload_n dX8_check_13 rfl ?_
  refine x_aload_n dX8_check_14 rfl ?_
  refine x_get (v := .long (A3.L b1 3)) hG dX8_check_15 f_X8_218_35 (kL e6 o5) (congrArg Value.long (sL_k e6 (by decide))) ?_
  obtain ⟨o8, h⟩ := h
  obtain ⟨R7, g7, h⟩ := h
  refine x_callV hG (Ky := kX8_fit) (As := [.long (A3.L b1 3)]) dX8_check_18 o8 rfl lk_X8_331 me_X8_fit is_X8_fit se_X8_fit rfl rfl (Nat.le_of_ble_eq_true rfl) (MX.post (m_X8_fit hG hO g7) ?_)
  rintro _ A7 ⟨v7, rfl, h1⟩
  refine X.xok (fun w7 => ?_)
  replace h := h v7 A7 w7 h1
  change X _ _ _ _ A7 _ _ [.long v7, .ref b1]
  obtain ⟨o9, h⟩ := h
  refine z_putL hG hO.1 dX8_check_21 f_X8_218_35 ⟨_, rfl, Or.inl rfl⟩ o9 (by decide) rfl rfl ⟨_, rfl⟩ (fun A10 e10 => ?_)
  replace h := h A10 e10
  refine x_aload_n dX8_check_24 rfl ?_
  refine x_get (v := .long (A7.L b1 2)) hG dX8_check_25 f_X8_213_35 (kL e10 o9) (congrArg Value.long (sL_k e10 (by decide))) ?_
  refine x_callS hG (Ky := kX0_isConstant) (As := [.long (A7.L b1 2)]) dX8_check_28 lk_X8_205 me_X0_isConstant st_X0_isConstant rfl rfl (Nat.le_of_ble_eq_true rfl) (MX.post (m_X0_isConstant hG) ?_)
  rintro _ _ ⟨rfl, rfl⟩
  change X _ _ _ _ _ _ _ (.int (f_X0_isConstant (A7.L b1 2)) :: _)
  refine x_if_eq (tgt := 66) dX8_check_31 (by decide) (fun c31 => ?_) (fun c31 => ?_)
  · replace h := h.1 c31
    refine x_aload_n dX8_check_66 rfl ?_
    refine x_aload_n dX8_check_67 rfl ?_
    refine x_get (v := .long (A7.L b1 2)) hG dX8_check_68 f_X8_213_35 (kL e10 o9) (congrArg Value.long (sL_k e10 (by decide))) ?_
    obtain ⟨o12, h⟩ := h
    obtain ⟨R11, g11, h⟩ := h
    refine x_callV hG (Ky := kX8_number) (As := [.long (A7.L b1 2)]) dX8_check_71 o12 rfl lk_X8_322 me_X8_number is_X8_number se_X8_number rfl rfl (Nat.le_of_ble_eq_true rfl) (MX.post (m_X8_number hG hO g11) ?_)
    rintro _ A11 ⟨v11, rfl, h1⟩
    refine X.xok (fun w11 => ?_)
    replace h := h v11 A11 w11 h1
    change X _ _ _ _ A11 _ _ [.int v11]
    refine x_istore_n dX8_check_74 (by decide) ?_
    refine x_aload_n dX8_check_75 rfl ?_
    refine x_aload_n dX8_check_76 rfl ?_
    obtain ⟨o13, h⟩ := h
    refine x_get (v := .long (A11.L b1 3)) hG dX8_check_77 f_X8_218_35 o13 rfl ?_
    obtain ⟨o15, h⟩ := h
    obtain ⟨R14, g14, h⟩ := h
    refine x_callV hG (Ky := kX8_number) (As := [.long (A11.L b1 3)]) dX8_check_80 o15 rfl lk_X8_322 me_X8_number is_X8_number se_X8_number rfl rfl (Nat.le_of_ble_eq_true rfl) (MX.post (m_X8_number hG hO g14) ?_)
    rintro _ A14 ⟨v14, rfl, h1⟩
    refine X.xok (fun w14 => ?_)
    replace h := h v14 A14 w14 h1
    change X _ _ _ _ A14 _ _ [.int v14]
    refine x_istore_n dX8_check_83 (by decide) ?_
    refine x_iconst_ (v := (0 : Int32)) dX8_check_84 (by decide) ?_
    refine x_istore dX8_check_85 (by decide) ?_
    obtain ⟨L16, ⟨n16, i16⟩, g16⟩ := h
    have kl16 : ∀ n16 : Nat, ∀ (y16_4 : Int32), L16 n16 y16_4 → X G (dp + 4) kX8_check (hV Q) A14 87 [some (.ref p), some (.ref b1), some (.int v11), some (.int v14), some (.int y16_4)] [] := by
      intro n16
      induction n16 using Nat.strongRecOn with
      | ind n16 ih16 =>
        intro y16_4 h
        replace h := g16 n16 y16_4 h
        refine x_iload dX8_check_87 rfl ?_
        refine x_aload_n dX8_check_89 rfl ?_
        obtain ⟨o17, h⟩ := h
        refine x_get (v := .int (A14.I p 17)) hG dX8_check_90 f_X8_257_7 o17 rfl ?_
        refine x_icmp_ge (tgt := 125) dX8_check_93 (by decide) (fun c93 => ?_) (fun c93 => ?_)
        · replace h := h.1 c93
          refine x_aload_n dX8_check_125 rfl ?_
          refine x_get (v := va_rf (A14.P p 31)) hG dX8_check_126 f_X8_306_7 o17 rfl ?_
          refine x_aload_n dX8_check_129 rfl ?_
          refine x_get (v := .int (A14.I p 17)) hG dX8_check_130 f_X8_257_7 o17 rfl ?_
          refine x_iload_n dX8_check_133 rfl ?_
          obtain ⟨b18, e18, h⟩ := h
          rw [e18]
          obtain ⟨o19, h⟩ := h
          obtain ⟨o20, h⟩ := h
          obtain ⟨o21, h⟩ := h
          refine z_iast hG dX8_check_134 o19 o20 o21 (fun A22 e22 => ?_)
          replace h := h A22 e22
          refine x_aload_n dX8_check_135 rfl ?_
          refine x_get (v := va_rf (A14.P p 32)) hG dX8_check_136 f_X8_309_7 (kI e22 o17) (congrArg va_rf (sI_P e22)) ?_
          refine x_aload_n dX8_check_139 rfl ?_
          refine x_get (v := .int (A14.I p 17)) hG dX8_check_140 f_X8_257_7 (kI e22 o17) (congrArg Value.int (sI_a e22 (tne o17 o19 (by decide)))) ?_
          refine x_iload_n dX8_check_143 rfl ?_
          obtain ⟨b23, e23, h⟩ := h
          rw [e23]
          obtain ⟨o24, h⟩ := h
          obtain ⟨o25, h⟩ := h
          obtain ⟨o26, h⟩ := h
          refine z_iast hG dX8_check_144 o24 o25 o26 (fun A27 e27 => ?_)
          replace h := h A27 e27
          refine x_aload_n dX8_check_145 rfl ?_
          refine x_dup dX8_check_146 rfl ?_
          refine x_get (v := .int (A14.I p 17)) hG dX8_check_147 f_X8_257_7 (kI e27 (kI e22 o17)) (congrArg Value.int ((sI_a e27 (tne (kI e22 o17) o24 (by decide))).trans (sI_a e22 (tne o17 o19 (by decide))))) ?_
          refine x_iconst_ (v := (1 : Int32)) dX8_check_150 (by decide) ?_
          refine x_iadd dX8_check_151 ?_
          refine z_putI hG hO.1 dX8_check_152 f_X8_257_7 ⟨_, rfl, Or.inl rfl⟩ (kI e27 (kI e22 o17)) (by decide) rfl rfl ⟨_, rfl⟩ (fun A28 e28 => ?_)
          replace h := h A28 e28
          refine x_aload_n dX8_check_155 rfl ?_
          refine x_aload_n dX8_check_156 rfl ?_
          obtain ⟨R29, g29, h⟩ := h
          refine x_callV hG (Ky := kX8_keep) (As := [.ref b1]) dX8_check_157 (kI e28 (kI e27 (kI e22 o17))) rfl lk_X8_339 me_X8_keep is_X8_keep se_X8_keep rfl rfl (Nat.le_of_ble_eq_true rfl) (MX.post (m_X8_keep hG hO g29) ?_)
          rintro _ A29 ⟨rfl, h1⟩
          refine X.xok (fun w29 => ?_)
          replace h := h A29 w29 h1
          change X _ _ _ _ A29 _ _ []
          exact x_vret dX8_check_160 rfl ⟨rfl, h⟩
        · replace h := h.2 c93
          refine x_aload_n dX8_check_96 rfl ?_
          refine x_get (v := va_rf (A14.P p 31)) hG dX8_check_97 f_X8_306_7 o17 rfl ?_
          refine x_iload dX8_check_100 rfl ?_
          obtain ⟨b30, e30, h⟩ := h
          rw [e30]
          obtain ⟨o31, h⟩ := h
          obtain ⟨o32, h⟩ := h
          refine x_iald hG dX8_check_102 o31 o32 ?_
          refine x_iload_n dX8_check_103 rfl ?_
          refine x_icmp_ne (tgt := 119) dX8_check_104 (by decide) (fun c104 => ?_) (fun c104 => ?_)
          · replace h := h.2 c104
            refine x_iinc (v := (y16_4 + (1 : Int32))) dX8_check_119 rfl rfl (by decide) ?_
            refine x_goto (tgt := 87) dX8_check_122 (by decide) ?_
            obtain ⟨q16, l16, h⟩ := h
            change X _ _ _ _ _ _ [some (.ref p), some (.ref b1), some (.int v11), some (.int v14), some (.int (y16_4 + (1 : Int32)))] []
            exact X.weak (xle_c rfl (xle_c rfl (xle_c rfl (xle_c rfl (xle_c rfl xle_nil))))) (ih16 q16 l16 (y16_4 + (1 : Int32)) h)
          · replace h := h.1 c104
            refine x_aload_n dX8_check_107 rfl ?_
            refine x_get (v := va_rf (A14.P p 32)) hG dX8_check_108 f_X8_309_7 o17 rfl ?_
            refine x_iload dX8_check_111 rfl ?_
            obtain ⟨b33, e33, h⟩ := h
            rw [e33]
            obtain ⟨o34, h⟩ := h
            obtain ⟨o35, h⟩ := h
            refine x_iald hG dX8_check_113 o34 o35 ?_
            refine x_iload_n dX8_check_114 rfl ?_
            refine x_icmp_ne (tgt := 119) dX8_check_115 (by decide) (fun c115 => ?_) (fun c115 => ?_)
            · replace h := h.2 c115
              refine x_iinc (v := (y16_4 + (1 : Int32))) dX8_check_119 rfl rfl (by decide) ?_
              refine x_goto (tgt := 87) dX8_check_122 (by decide) ?_
              obtain ⟨q16, l16, h⟩ := h
              change X _ _ _ _ _ _ [some (.ref p), some (.ref b1), some (.int v11), some (.int v14), some (.int (y16_4 + (1 : Int32)))] []
              exact X.weak (xle_c rfl (xle_c rfl (xle_c rfl (xle_c rfl (xle_c rfl xle_nil))))) (ih16 q16 l16 (y16_4 + (1 : Int32)) h)
            · replace h := h.1 c115
              exact x_vret dX8_check_118 rfl ⟨rfl, h⟩
    change X _ _ _ _ _ _ [some (.ref p), some (.ref b1), some (.int v11), some (.int v14), some (.int (0 : Int32))] []
    exact X.weak (xle_c rfl (xle_c rfl (xle_c rfl (xle_c rfl (xle_c rfl xle_nil))))) (kl16 n16 (0 : Int32) i16)
  · replace h := h.2 c31
    refine x_aload_n dX8_check_34 rfl ?_
    refine x_get (v := .long v7) hG dX8_check_35 f_X8_218_35 (kL e10 o9) (congrArg Value.long (sL_s e10)) ?_
    refine x_callS hG (Ky := kX0_isConstant) (As := [.long v7]) dX8_check_38 lk_X8_205 me_X0_isConstant st_X0_isConstant rfl rfl (Nat.le_of_ble_eq_true rfl) (MX.post (m_X0_isConstant hG) ?_)
    rintro _ _ ⟨rfl, rfl⟩
    change X _ _ _ _ _ _ _ (.int (f_X0_isConstant v7) :: _)
    refine x_if_eq (tgt := 66) dX8_check_41 (by decide) (fun c41 => ?_) (fun c41 => ?_)
    · replace h := h.1 c41
      refine x_aload_n dX8_check_66 rfl ?_
      refine x_aload_n dX8_check_67 rfl ?_
      refine x_get (v := .long (A7.L b1 2)) hG dX8_check_68 f_X8_213_35 (kL e10 o9) (congrArg Value.long (sL_k e10 (by decide))) ?_
      obtain ⟨o37, h⟩ := h
      obtain ⟨R36, g36, h⟩ := h
      refine x_callV hG (Ky := kX8_number) (As := [.long (A7.L b1 2)]) dX8_check_71 o37 rfl lk_X8_322 me_X8_number is_X8_number se_X8_number rfl rfl (Nat.le_of_ble_eq_true rfl) (MX.post (m_X8_number hG hO g36) ?_)
      rintro _ A36 ⟨v36, rfl, h1⟩
      refine X.xok (fun w36 => ?_)
      replace h := h v36 A36 w36 h1
      change X _ _ _ _ A36 _ _ [.int v36]
      refine x_istore_n dX8_check_74 (by decide) ?_
      refine x_aload_n dX8_check_75 rfl ?_
      refine x_aload_n dX8_check_76 rfl ?_
      obtain ⟨o38, h⟩ := h
      refine x_get (v := .long (A36.L b1 3)) hG dX8_check_77 f_X8_218_35 o38 rfl ?_
      obtain ⟨o40, h⟩ := h
      obtain ⟨R39, g39, h⟩ := h
      refine x_callV hG (Ky := kX8_number) (As := [.long (A36.L b1 3)]) dX8_check_80 o40 rfl lk_X8_322 me_X8_number is_X8_number se_X8_number rfl rfl (Nat.le_of_ble_eq_true rfl) (MX.post (m_X8_number hG hO g39) ?_)
      rintro _ A39 ⟨v39, rfl, h1⟩
      refine X.xok (fun w39 => ?_)
      replace h := h v39 A39 w39 h1
      change X _ _ _ _ A39 _ _ [.int v39]
      refine x_istore_n dX8_check_83 (by decide) ?_
      refine x_iconst_ (v := (0 : Int32)) dX8_check_84 (by decide) ?_
      refine x_istore dX8_check_85 (by decide) ?_
      obtain ⟨L41, ⟨n41, i41⟩, g41⟩ := h
      have kl41 : ∀ n41 : Nat, ∀ (y41_4 : Int32), L41 n41 y41_4 → X G (dp + 4) kX8_check (hV Q) A39 87 [some (.ref p), some (.ref b1), some (.int v36), some (.int v39), some (.int y41_4)] [] := by
        intro n41
        induction n41 using Nat.strongRecOn with
        | ind n41 ih41 =>
          intro y41_4 h
          replace h := g41 n41 y41_4 h
          refine x_iload dX8_check_87 rfl ?_
          refine x_aload_n dX8_check_89 rfl ?_
          obtain ⟨o42, h⟩ := h
          refine x_get (v := .int (A39.I p 17)) hG dX8_check_90 f_X8_257_7 o42 rfl ?_
          refine x_icmp_ge (tgt := 125) dX8_check_93 (by decide) (fun c93 => ?_) (fun c93 => ?_)
          · replace h := h.1 c93
            refine x_aload_n dX8_check_125 rfl ?_
            refine x_get (v := va_rf (A39.P p 31)) hG dX8_check_126 f_X8_306_7 o42 rfl ?_
            refine x_aload_n dX8_check_129 rfl ?_
            refine x_get (v := .int (A39.I p 17)) hG dX8_check_130 f_X8_257_7 o42 rfl ?_
            refine x_iload_n dX8_check_133 rfl ?_
            obtain ⟨b43, e43, h⟩ := h
            rw [e43]
            obtain ⟨o44, h⟩ := h
            obtain ⟨o45, h⟩ := h
            obtain ⟨o46, h⟩ := h
            refine z_iast hG dX8_check_134 o44 o45 o46 (fun A47 e47 => ?_)
            replace h := h A47 e47
            refine x_aload_n dX8_check_135 rfl ?_
            refine x_get (v := va_rf (A39.P p 32)) hG dX8_check_136 f_X8_309_7 (kI e47 o42) (congrArg va_rf (sI_P e47)) ?_
            refine x_aload_n dX8_check_139 rfl ?_
            refine x_get (v := .int (A39.I p 17)) hG dX8_check_140 f_X8_257_7 (kI e47 o42) (congrArg Value.int (sI_a e47 (tne o42 o44 (by decide)))) ?_
            refine x_iload_n dX8_check_143 rfl ?_
            obtain ⟨b48, e48, h⟩ := h
            rw [e48]
            obtain ⟨o49, h⟩ := h
            obtain ⟨o50, h⟩ := h
            obtain ⟨o51, h⟩ := h
            refine z_iast hG dX8_check_144 o49 o50 o51 (fun A52 e52 => ?_)
            replace h := h A52 e52
            refine x_aload_n dX8_check_145 rfl ?_
            refine x_dup dX8_check_146 rfl ?_
            refine x_get (v := .int (A39.I p 17)) hG dX8_check_147 f_X8_257_7 (kI e52 (kI e47 o42)) (congrArg Value.int ((sI_a e52 (tne (kI e47 o42) o49 (by decide))).trans (sI_a e47 (tne o42 o44 (by decide))))) ?_
            refine x_iconst_ (v := (1 : Int32)) dX8_check_150 (by decide) ?_
            refine x_iadd dX8_check_151 ?_
            refine z_putI hG hO.1 dX8_check_152 f_X8_257_7 ⟨_, rfl, Or.inl rfl⟩ (kI e52 (kI e47 o42)) (by decide) rfl rfl ⟨_, rfl⟩ (fun A53 e53 => ?_)
            replace h := h A53 e53
            refine x_aload_n dX8_check_155 rfl ?_
            refine x_aload_n dX8_check_156 rfl ?_
            obtain ⟨R54, g54, h⟩ := h
            refine x_callV hG (Ky := kX8_keep) (As := [.ref b1]) dX8_check_157 (kI e53 (kI e52 (kI e47 o42))) rfl lk_X8_339 me_X8_keep is_X8_keep se_X8_keep rfl rfl (Nat.le_of_ble_eq_true rfl) (MX.post (m_X8_keep hG hO g54) ?_)
            rintro _ A54 ⟨rfl, h1⟩
            refine X.xok (fun w54 => ?_)
            replace h := h A54 w54 h1
            change X _ _ _ _ A54 _ _ []
            exact x_vret dX8_check_160 rfl ⟨rfl, h⟩
          · replace h := h.2 c93
            refine x_aload_n dX8_check_96 rfl ?_
            refine x_get (v := va_rf (A39.P p 31)) hG dX8_check_97 f_X8_306_7 o42 rfl ?_
            refine x_iload dX8_check_100 rfl ?_
            obtain ⟨b55, e55, h⟩ := h
            rw [e55]
            obtain ⟨o56, h⟩ := h
            obtain ⟨o57, h⟩ := h
            refine x_iald hG dX8_check_102 o56 o57 ?_
            refine x_iload_n dX8_check_103 rfl ?_
            refine x_icmp_ne (tgt := 119) dX8_check_104 (by decide) (fun c104 => ?_) (fun c104 => ?_)
            · replace h := h.2 c104
              refine x_iinc (v := (y41_4 + (1 : Int32))) dX8_check_119 rfl rfl (by decide) ?_
              refine x_goto (tgt := 87) dX8_check_122 (by decide) ?_
              obtain ⟨q41, l41, h⟩ := h
              change X _ _ _ _ _ _ [some (.ref p), some (.ref b1), some (.int v36), some (.int v39), some (.int (y41_4 + (1 : Int32)))] []
              exact X.weak (xle_c rfl (xle_c rfl (xle_c rfl (xle_c rfl (xle_c rfl xle_nil))))) (ih41 q41 l41 (y41_4 + (1 : Int32)) h)
            · replace h := h.1 c104
              refine x_aload_n dX8_check_107 rfl ?_
              refine x_get (v := va_rf (A39.P p 32)) hG dX8_check_108 f_X8_309_7 o42 rfl ?_
              refine x_iload dX8_check_111 rfl ?_
              obtain ⟨b58, e58, h⟩ := h
              rw [e58]
              obtain ⟨o59, h⟩ := h
              obtain ⟨o60, h⟩ := h
              refine x_iald hG dX8_check_113 o59 o60 ?_
              refine x_iload_n dX8_check_114 rfl ?_
              refine x_icmp_ne (tgt := 119) dX8_check_115 (by decide) (fun c115 => ?_) (fun c115 => ?_)
              · replace h := h.2 c115
                refine x_iinc (v := (y41_4 + (1 : Int32))) dX8_check_119 rfl rfl (by decide) ?_
                refine x_goto (tgt := 87) dX8_check_122 (by decide) ?_
                obtain ⟨q41, l41, h⟩ := h
                change X _ _ _ _ _ _ [some (.ref p), some (.ref b1), some (.int v36), some (.int v39), some (.int (y41_4 + (1 : Int32)))] []
                exact X.weak (xle_c rfl (xle_c rfl (xle_c rfl (xle_c rfl (xle_c rfl xle_nil))))) (ih41 q41 l41 (y41_4 + (1 : Int32)) h)
              · replace h := h.1 c115
                exact x_vret dX8_check_118 rfl ⟨rfl, h⟩
      change X _ _ _ _ _ _ [some (.ref p), some (.ref b1), some (.int v36), some (.int v39), some (.int (0 : Int32))] []
      exact X.weak (xle_c rfl (xle_c rfl (xle_c rfl (xle_c rfl (xle_c rfl xle_nil))))) (kl41 n41 (0 : Int32) i41)
    · replace h := h.2 c41
      refine x_aload_n dX8_check_44 rfl ?_
      refine x_get (v := .long (A7.L b1 2)) hG dX8_check_45 f_X8_213_35 (kL e10 o9) (congrArg Value.long (sL_k e10 (by decide))) ?_
      refine x_l2i dX8_check_48 ?_
      refine x_if_lt (tgt := 66) dX8_check_49 (by decide) (fun c49 => ?_) (fun c49 => ?_)
      · replace h := h.1 c49
        refine x_aload_n dX8_check_66 rfl ?_
        refine x_aload_n dX8_check_67 rfl ?_
        refine x_get (v := .long (A7.L b1 2)) hG dX8_check_68 f_X8_213_35 (kL e10 o9) (congrArg Value.long (sL_k e10 (by decide))) ?_
        obtain ⟨o62, h⟩ := h
        obtain ⟨R61, g61, h⟩ := h
        refine x_callV hG (Ky := kX8_number) (As := [.long (A7.L b1 2)]) dX8_check_71 o62 rfl lk_X8_322 me_X8_number is_X8_number se_X8_number rfl rfl (Nat.le_of_ble_eq_true rfl) (MX.post (m_X8_number hG hO g61) ?_)
        rintro _ A61 ⟨v61, rfl, h1⟩
        refine X.xok (fun w61 => ?_)
        replace h := h v61 A61 w61 h1
        change X _ _ _ _ A61 _ _ [.int v61]
        refine x_istore_n dX8_check_74 (by decide) ?_
        refine x_aload_n dX8_check_75 rfl ?_
        refine x_aload_n dX8_check_76 rfl ?_
        obtain ⟨o63, h⟩ := h
        refine x_get (v := .long (A61.L b1 3)) hG dX8_check_77 f_X8_218_35 o63 rfl ?_
        obtain ⟨o65, h⟩ := h
        obtain ⟨R64, g64, h⟩ := h
        refine x_callV hG (Ky := kX8_number) (As := [.long (A61.L b1 3)]) dX8_check_80 o65 rfl lk_X8_322 me_X8_number is_X8_number se_X8_number rfl rfl (Nat.le_of_ble_eq_true rfl) (MX.post (m_X8_number hG hO g64) ?_)
        rintro _ A64 ⟨v64, rfl, h1⟩
        refine X.xok (fun w64 => ?_)
        replace h := h v64 A64 w64 h1
        change X _ _ _ _ A64 _ _ [.int v64]
        refine x_istore_n dX8_check_83 (by decide) ?_
        refine x_iconst_ (v := (0 : Int32)) dX8_check_84 (by decide) ?_
        refine x_istore dX8_check_85 (by decide) ?_
        obtain ⟨L66, ⟨n66, i66⟩, g66⟩ := h
        have kl66 : ∀ n66 : Nat, ∀ (y66_4 : Int32), L66 n66 y66_4 → X G (dp + 4) kX8_check (hV Q) A64 87 [some (.ref p), some (.ref b1), some (.int v61), some (.int v64), some (.int y66_4)] [] := by
          intro n66
          induction n66 using Nat.strongRecOn with
          | ind n66 ih66 =>
            intro y66_4 h
            replace h := g66 n66 y66_4 h
            refine x_iload dX8_check_87 rfl ?_
            refine x_aload_n dX8_check_89 rfl ?_
            obtain ⟨o67, h⟩ := h
            refine x_get (v := .int (A64.I p 17)) hG dX8_check_90 f_X8_257_7 o67 rfl ?_
            refine x_icmp_ge (tgt := 125) dX8_check_93 (by decide) (fun c93 => ?_) (fun c93 => ?_)
            · replace h := h.1 c93
              refine x_aload_n dX8_check_125 rfl ?_
              refine x_get (v := va_rf (A64.P p 31)) hG dX8_check_126 f_X8_306_7 o67 rfl ?_
              refine x_aload_n dX8_check_129 rfl ?_
              refine x_get (v := .int (A64.I p 17)) hG dX8_check_130 f_X8_257_7 o67 rfl ?_
              refine x_iload_n dX8_check_133 rfl ?_
              obtain ⟨b68, e68, h⟩ := h
              rw [e68]
              obtain ⟨o69, h⟩ := h
              obtain ⟨o70, h⟩ := h
              obtain ⟨o71, h⟩ := h
              refine z_iast hG dX8_check_134 o69 o70 o71 (fun A72 e72 => ?_)
              replace h := h A72 e72
              refine x_aload_n dX8_check_135 rfl ?_
              refine x_get (v := va_rf (A64.P p 32)) hG dX8_check_136 f_X8_309_7 (kI e72 o67) (congrArg va_rf (sI_P e72)) ?_
              refine x_aload_n dX8_check_139 rfl ?_
              refine x_get (v := .int (A64.I p 17)) hG dX8_check_140 f_X8_257_7 (kI e72 o67) (congrArg Value.int (sI_a e72 (tne o67 o69 (by decide)))) ?_
              refine x_iload_n dX8_check_143 rfl ?_
              obtain ⟨b73, e73, h⟩ := h
              rw [e73]
              obtain ⟨o74, h⟩ := h
              obtain ⟨o75, h⟩ := h
              obtain ⟨o76, h⟩ := h
              refine z_iast hG dX8_check_144 o74 o75 o76 (fun A77 e77 => ?_)
              replace h := h A77 e77
              refine x_aload_n dX8_check_145 rfl ?_
              refine x_dup dX8_check_146 rfl ?_
              refine x_get (v := .int (A64.I p 17)) hG dX8_check_147 f_X8_257_7 (kI e77 (kI e72 o67)) (congrArg Value.int ((sI_a e77 (tne (kI e72 o67) o74 (by decide))).trans (sI_a e72 (tne o67 o69 (by decide))))) ?_
              refine x_iconst_ (v := (1 : Int32)) dX8_check_150 (by decide) ?_
              refine x_iadd dX8_check_151 ?_
              refine z_putI hG hO.1 dX8_check_152 f_X8_257_7 ⟨_, rfl, Or.inl rfl⟩ (kI e77 (kI e72 o67)) (by decide) rfl rfl ⟨_, rfl⟩ (fun A78 e78 => ?_)
              replace h := h A78 e78
              refine x_aload_n dX8_check_155 rfl ?_
              refine x_aload_n dX8_check_156 rfl ?_
              obtain ⟨R79, g79, h⟩ := h
              refine x_callV hG (Ky := kX8_keep) (As := [.ref b1]) dX8_check_157 (kI e78 (kI e77 (kI e72 o67))) rfl lk_X8_339 me_X8_keep is_X8_keep se_X8_keep rfl rfl (Nat.le_of_ble_eq_true rfl) (MX.post (m_X8_keep hG hO g79) ?_)
              rintro _ A79 ⟨rfl, h1⟩
              refine X.xok (fun w79 => ?_)
              replace h := h A79 w79 h1
              change X _ _ _ _ A79 _ _ []
              exact x_vret dX8_check_160 rfl ⟨rfl, h⟩
            · replace h := h.2 c93
              refine x_aload_n dX8_check_96 rfl ?_
              refine x_get (v := va_rf (A64.P p 31)) hG dX8_check_97 f_X8_306_7 o67 rfl ?_
              refine x_iload dX8_check_100 rfl ?_
              obtain ⟨b80, e80, h⟩ := h
              rw [e80]
              obtain ⟨o81, h⟩ := h
              obtain ⟨o82, h⟩ := h
              refine x_iald hG dX8_check_102 o81 o82 ?_
              refine x_iload_n dX8_check_103 rfl ?_
              refine x_icmp_ne (tgt := 119) dX8_check_104 (by decide) (fun c104 => ?_) (fun c104 => ?_)
              · replace h := h.2 c104
                refine x_iinc (v := (y66_4 + (1 : Int32))) dX8_check_119 rfl rfl (by decide) ?_
                refine x_goto (tgt := 87) dX8_check_122 (by decide) ?_
                obtain ⟨q66, l66, h⟩ := h
                change X _ _ _ _ _ _ [some (.ref p), some (.ref b1), some (.int v61), some (.int v64), some (.int (y66_4 + (1 : Int32)))] []
                exact X.weak (xle_c rfl (xle_c rfl (xle_c rfl (xle_c rfl (xle_c rfl xle_nil))))) (ih66 q66 l66 (y66_4 + (1 : Int32)) h)
              · replace h := h.1 c104
                refine x_aload_n dX8_check_107 rfl ?_
                refine x_get (v := va_rf (A64.P p 32)) hG dX8_check_108 f_X8_309_7 o67 rfl ?_
                refine x_iload dX8_check_111 rfl ?_
                obtain ⟨b83, e83, h⟩ := h
                rw [e83]
                obtain ⟨o84, h⟩ := h
                obtain ⟨o85, h⟩ := h
                refine x_iald hG dX8_check_113 o84 o85 ?_
                refine x_iload_n dX8_check_114 rfl ?_
                refine x_icmp_ne (tgt := 119) dX8_check_115 (by decide) (fun c115 => ?_) (fun c115 => ?_)
                · replace h := h.2 c115
                  refine x_iinc (v := (y66_4 + (1 : Int32))) dX8_check_119 rfl rfl (by decide) ?_
                  refine x_goto (tgt := 87) dX8_check_122 (by decide) ?_
                  obtain ⟨q66, l66, h⟩ := h
                  change X _ _ _ _ _ _ [some (.ref p), some (.ref b1), some (.int v61), some (.int v64), some (.int (y66_4 + (1 : Int32)))] []
                  exact X.weak (xle_c rfl (xle_c rfl (xle_c rfl (xle_c rfl (xle_c rfl xle_nil))))) (ih66 q66 l66 (y66_4 + (1 : Int32)) h)
                · replace h := h.1 c115
                  exact x_vret dX8_check_118 rfl ⟨rfl, h⟩
        change X _ _ _ _ _ _ [some (.ref p), some (.ref b1), some (.int v61), some (.int v64), some (.int (0 : Int32))] []
        exact X.weak (xle_c rfl (xle_c rfl (xle_c rfl (xle_c rfl (xle_c rfl xle_nil))))) (kl66 n66 (0 : Int32) i66)
      · replace h := h.2 c49
        refine x_aload_n dX8_check_52 rfl ?_
        refine x_get (v := .long (A7.L b1 2)) hG dX8_check_53 f_X8_213_35 (kL e10 o9) (congrArg Value.long (sL_k e10 (by decide))) ?_
        refine x_l2i dX8_check_56 ?_
        refine x_aload_n dX8_check_57 rfl ?_
        refine x_get (v := .long v7) hG dX8_check_58 f_X8_218_35 (kL e10 o9) (congrArg Value.long (sL_s e10)) ?_
        refine x_l2i dX8_check_61 ?_
        refine x_icmp_ge (tgt := 66) dX8_check_62 (by decide) (fun c62 => ?_) (fun c62 => ?_)
        · replace h := h.1 c62
          refine x_aload_n dX8_check_66 rfl ?_
          refine x_aload_n dX8_check_67 rfl ?_
          refine x_get (v := .long (A7.L b1 2)) hG dX8_check_68 f_X8_213_35 (kL e10 o9) (congrArg Value.long (sL_k e10 (by decide))) ?_
          obtain ⟨o87, h⟩ := h
          obtain ⟨R86, g86, h⟩ := h
          refine x_callV hG (Ky := kX8_number) (As := [.long (A7.L b1 2)]) dX8_check_71 o87 rfl lk_X8_322 me_X8_number is_X8_number se_X8_number rfl rfl (Nat.le_of_ble_eq_true rfl) (MX.post (m_X8_number hG hO g86) ?_)
          rintro _ A86 ⟨v86, rfl, h1⟩
          refine X.xok (fun w86 => ?_)
          replace h := h v86 A86 w86 h1
          change X _ _ _ _ A86 _ _ [.int v86]
          refine x_istore_n dX8_check_74 (by decide) ?_
          refine x_aload_n dX8_check_75 rfl ?_
          refine x_aload_n dX8_check_76 rfl ?_
          obtain ⟨o88, h⟩ := h
          refine x_get (v := .long (A86.L b1 3)) hG dX8_check_77 f_X8_218_35 o88 rfl ?_
          obtain ⟨o90, h⟩ := h
          obtain ⟨R89, g89, h⟩ := h
          refine x_callV hG (Ky := kX8_number) (As := [.long (A86.L b1 3)]) dX8_check_80 o90 rfl lk_X8_322 me_X8_number is_X8_number se_X8_number rfl rfl (Nat.le_of_ble_eq_true rfl) (MX.post (m_X8_number hG hO g89) ?_)
          rintro _ A89 ⟨v89, rfl, h1⟩
          refine X.xok (fun w89 => ?_)
          replace h := h v89 A89 w89 h1
          change X _ _ _ _ A89 _ _ [.int v89]
          refine x_istore_n dX8_check_83 (by decide) ?_
          refine x_iconst_ (v := (0 : Int32)) dX8_check_84 (by decide) ?_
          refine x_istore dX8_check_85 (by decide) ?_
          obtain ⟨L91, ⟨n91, i91⟩, g91⟩ := h
          have kl91 : ∀ n91 : Nat, ∀ (y91_4 : Int32), L91 n91 y91_4 → X G (dp + 4) kX8_check (hV Q) A89 87 [some (.ref p), some (.ref b1), some (.int v86), some (.int v89), some (.int y91_4)] [] := by
            intro n91
            induction n91 using Nat.strongRecOn with
            | ind n91 ih91 =>
              intro y91_4 h
              replace h := g91 n91 y91_4 h
              refine x_iload dX8_check_87 rfl ?_
              refine x_aload_n dX8_check_89 rfl ?_
              obtain ⟨o92, h⟩ := h
              refine x_get (v := .int (A89.I p 17)) hG dX8_check_90 f_X8_257_7 o92 rfl ?_
              refine x_icmp_ge (tgt := 125) dX8_check_93 (by decide) (fun c93 => ?_) (fun c93 => ?_)
              · replace h := h.1 c93
                refine x_aload_n dX8_check_125 rfl ?_
                refine x_get (v := va_rf (A89.P p 31)) hG dX8_check_126 f_X8_306_7 o92 rfl ?_
                refine x_aload_n dX8_check_129 rfl ?_
                refine x_get (v := .int (A89.I p 17)) hG dX8_check_130 f_X8_257_7 o92 rfl ?_
                refine x_iload_n dX8_check_133 rfl ?_
                obtain ⟨b93, e93, h⟩ := h
                rw [e93]
                obtain ⟨o94, h⟩ := h
                obtain ⟨o95, h⟩ := h
                obtain ⟨o96, h⟩ := h
                refine z_iast hG dX8_check_134 o94 o95 o96 (fun A97 e97 => ?_)
                replace h := h A97 e97
                refine x_aload_n dX8_check_135 rfl ?_
                refine x_get (v := va_rf (A89.P p 32)) hG dX8_check_136 f_X8_309_7 (kI e97 o92) (congrArg va_rf (sI_P e97)) ?_
                refine x_aload_n dX8_check_139 rfl ?_
                refine x_get (v := .int (A89.I p 17)) hG dX8_check_140 f_X8_257_7 (kI e97 o92) (congrArg Value.int (sI_a e97 (tne o92 o94 (by decide)))) ?_
                refine x_iload_n dX8_check_143 rfl ?_
                obtain ⟨b98, e98, h⟩ := h
                rw [e98]
                obtain ⟨o99, h⟩ := h
                obtain ⟨o100, h⟩ := h
                obtain ⟨o101, h⟩ := h
                refine z_iast hG dX8_check_144 o99 o100 o101 (fun A102 e102 => ?_)
                replace h := h A102 e102
                refine x_aload_n dX8_check_145 rfl ?_
                refine x_dup dX8_check_146 rfl ?_
                refine x_get (v := .int (A89.I p 17)) hG dX8_check_147 f_X8_257_7 (kI e102 (kI e97 o92)) (congrArg Value.int ((sI_a e102 (tne (kI e97 o92) o99 (by decide))).trans (sI_a e97 (tne o92 o94 (by decide))))) ?_
                refine x_iconst_ (v := (1 : Int32)) dX8_check_150 (by decide) ?_
                refine x_iadd dX8_check_151 ?_
                refine z_putI hG hO.1 dX8_check_152 f_X8_257_7 ⟨_, rfl, Or.inl rfl⟩ (kI e102 (kI e97 o92)) (by decide) rfl rfl ⟨_, rfl⟩ (fun A103 e103 => ?_)
                replace h := h A103 e103
                refine x_aload_n dX8_check_155 rfl ?_
                refine x_aload_n dX8_check_156 rfl ?_
                obtain ⟨R104, g104, h⟩ := h
                refine x_callV hG (Ky := kX8_keep) (As := [.ref b1]) dX8_check_157 (kI e103 (kI e102 (kI e97 o92))) rfl lk_X8_339 me_X8_keep is_X8_keep se_X8_keep rfl rfl (Nat.le_of_ble_eq_true rfl) (MX.post (m_X8_keep hG hO g104) ?_)
                rintro _ A104 ⟨rfl, h1⟩
                refine X.xok (fun w104 => ?_)
                replace h := h A104 w104 h1
                change X _ _ _ _ A104 _ _ []
                exact x_vret dX8_check_160 rfl ⟨rfl, h⟩
              · replace h := h.2 c93
                refine x_aload_n dX8_check_96 rfl ?_
                refine x_get (v := va_rf (A89.P p 31)) hG dX8_check_97 f_X8_306_7 o92 rfl ?_
                refine x_iload dX8_check_100 rfl ?_
                obtain ⟨b105, e105, h⟩ := h
                rw [e105]
                obtain ⟨o106, h⟩ := h
                obtain ⟨o107, h⟩ := h
                refine x_iald hG dX8_check_102 o106 o107 ?_
                refine x_iload_n dX8_check_103 rfl ?_
                refine x_icmp_ne (tgt := 119) dX8_check_104 (by decide) (fun c104 => ?_) (fun c104 => ?_)
                · replace h := h.2 c104
                  refine x_iinc (v := (y91_4 + (1 : Int32))) dX8_check_119 rfl rfl (by decide) ?_
                  refine x_goto (tgt := 87) dX8_check_122 (by decide) ?_
                  obtain ⟨q91, l91, h⟩ := h
                  change X _ _ _ _ _ _ [some (.ref p), some (.ref b1), some (.int v86), some (.int v89), some (.int (y91_4 + (1 : Int32)))] []
                  exact X.weak (xle_c rfl (xle_c rfl (xle_c rfl (xle_c rfl (xle_c rfl xle_nil))))) (ih91 q91 l91 (y91_4 + (1 : Int32)) h)
                · replace h := h.1 c104
                  refine x_aload_n dX8_check_107 rfl ?_
                  refine x_get (v := va_rf (A89.P p 32)) hG dX8_check_108 f_X8_309_7 o92 rfl ?_
                  refine x_iload dX8_check_111 rfl ?_
                  obtain ⟨b108, e108, h⟩ := h
                  rw [e108]
                  obtain ⟨o109, h⟩ := h
                  obtain ⟨o110, h⟩ := h
                  refine x_iald hG dX8_check_113 o109 o110 ?_
                  refine x_iload_n dX8_check_114 rfl ?_
                  refine x_icmp_ne (tgt := 119) dX8_check_115 (by decide) (fun c115 => ?_) (fun c115 => ?_)
                  · replace h := h.2 c115
                    refine x_iinc (v := (y91_4 + (1 : Int32))) dX8_check_119 rfl rfl (by decide) ?_
                    refine x_goto (tgt := 87) dX8_check_122 (by decide) ?_
                    obtain ⟨q91, l91, h⟩ := h
                    change X _ _ _ _ _ _ [some (.ref p), some (.ref b1), some (.int v86), some (.int v89), some (.int (y91_4 + (1 : Int32)))] []
                    exact X.weak (xle_c rfl (xle_c rfl (xle_c rfl (xle_c rfl (xle_c rfl xle_nil))))) (ih91 q91 l91 (y91_4 + (1 : Int32)) h)
                  · replace h := h.1 c115
                    exact x_vret dX8_check_118 rfl ⟨rfl, h⟩
          change X _ _ _ _ _ _ [some (.ref p), some (.ref b1), some (.int v86), some (.int v89), some (.int (0 : Int32))] []
          exact X.weak (xle_c rfl (xle_c rfl (xle_c rfl (xle_c rfl (xle_c rfl xle_nil))))) (kl91 n91 (0 : Int32) i91)
        · replace h := h.2 c62
          exact x_vret dX8_check_65 rfl ⟨rfl, h⟩
def w_X8_sum (G : xG) (p : Nat) (x : Option Nat) (Q : xA → Prop) (A : xA) : Prop := xok G A → ∃ b1 : Nat, x = some b1 ∧ (A.tg b1 = 36 ∧ (A.tg p = 8 ∧ (∃ R3 : Int64 → xA → Prop, w_X8_fit G p (A.L b1 2) R3 A ∧ (∀ (v3 : Int64) (A3 : xA), xok G A3 → R3 v3 A3 → (A3.tg b1 = 36 ∧ (∀ A6 : xA, A6 = A3.setL b1 2 v3 → (A6.tg p = 8 ∧ (∃ R7 : Int64 → xA → Prop, w_X8_fit G p (A3.L b1 3) R7 A6 ∧ (∀ (v7 : Int64) (A7 : xA), xok G A7 → R7 v7 A7 → (A7.tg b1 = 36 ∧ (∀ A10 : xA, A10 = A7.setL b1 3 v7 → ((((f_X0_isConstant (A7.L b1 2)) = 0 → ∃ J11 : Int64 → xA → Prop, (∀ (y11_s0 : Int64) (A11 : xA), J11 y11_s0 A11 → (((lg_cmp y11_s0 (0 : Int64)) < 0 → A11.tg b1 = 36 ∧ (A11.tg p = 8 ∧ (∃ R13 : Int32 → xA → Prop, w_X8_number G p (A11.L b1 2) R13 A11 ∧ (∀ (v13 : Int32) (A13 : xA), xok G A13 → R13 v13 A13 → (A13.tg b1 = 36 ∧ (A13.tg p = 8 ∧ (∃ R16 : Int32 → xA → Prop, w_X8_number G p (A13.L b1 3) R16 A13 ∧ (∀ (v16 : Int32) (A16 : xA), xok G A16 → R16 v16 A16 → (∃ J18 : Int32 → Prop, (∀ (y18_s0 : Int32), J18 y18_s0 → A16.tg p = 8 ∧ (∃ R19 : xA → Prop, w_X8_remember G p (some b1) (if y18_s0 = 0 then v13 else v16) (if y18_s0 = 0 then v16 else v13) R19 A16 ∧ (∀ A19 : xA, xok G A19 → R19 A19 → (Q A19)))) ∧ (((if (A7.I b1 0) = 0 then (1 : Int32) else (if (A7.I b1 0) = (2 : Int32) then (1 : Int32) else (if (A7.I b1 0) = (5 : Int32) then (1 : Int32) else (if (A7.I b1 0) = (6 : Int32) then (1 : Int32) else (if (A7.I b1 0) = (7 : Int32) then (1 : Int32) else (if (A7.I b1 0) = (11 : Int32) then (1 : Int32) else (if (A7.I b1 0) = (12 : Int32) then (1 : Int32) else (0 : Int32)))))))) = 0 → J18 (0 : Int32)) ∧ (¬ (if (A7.I b1 0) = 0 then (1 : Int32) else (if (A7.I b1 0) = (2 : Int32) then (1 : Int32) else (if (A7.I b1 0) = (5 : Int32) then (1 : Int32) else (if (A7.I b1 0) = (6 : Int32) then (1 : Int32) else (if (A7.I b1 0) = (7 : Int32) then (1 : Int32) else (if (A7.I b1 0) = (11 : Int32) then (1 : Int32) else (if (A7.I b1 0) = (12 : Int32) then (1 : Int32) else (0 : Int32)))))))) = 0 → ((v13 ≤ v16 → J18 (0 : Int32)) ∧ (¬ v13 ≤ v16 → A16.tg b1 = 36 ∧ ((((f_X0_isConstant (A16.L b1 3)) = 0 → J18 (1 : Int32)) ∧ (¬ (f_X0_isConstant (A16.L b1 3)) = 0 → J18 (0 : Int32))))))))))))))))) ∧ (¬ (lg_cmp y11_s0 (0 : Int64)) < 0 → A11.tg p = 8 ∧ (∃ R22 : xA → Prop, w_X8_move G p (some b1) y11_s0 R22 A11 ∧ (∀ A22 : xA, xok G A22 → R22 A22 → (Q A22)))))) ∧ (((f_X0_isConstant v7) = 0 → A10.tg p = 8 ∧ (∃ R24 : Int32 → xA → Prop, w_X8_number G p (A7.L b1 2) R24 A10 ∧ (∀ (v24 : Int32) (A24 : xA), xok G A24 → R24 v24 A24 → (A24.tg b1 = 36 ∧ (A24.tg p = 8 ∧ (∃ R27 : Int32 → xA → Prop, w_X8_number G p (A24.L b1 3) R27 A24 ∧ (∀ (v27 : Int32) (A27 : xA), xok G A27 → R27 v27 A27 → (((v24 = v27 → ∃ R29 : Int64 → xA → Prop, w_X8_alike G (some b1) R29 A27 ∧ (∀ (v29 : Int64) (A29 : xA), xok G A29 → R29 v29 A29 → (J11 v29 A29))) ∧ (¬ v24 = v27 → J11 (-1 : Int64) A27)))))))))) ∧ (¬ (f_X0_isConstant v7) = 0 → ∃ R30 : Int64 → xA → Prop, w_X8_simple G (some b1) v7.toInt32 R30 A10 ∧ (∀ (v30 : Int64) (A30 : xA), xok G A30 → R30 v30 A30 → (J11 v30 A30))))) ∧ (¬ (f_X0_isConstant (A7.L b1 2)) = 0 → (((f_X0_isConstant v7) = 0 → ∃ J31 : xA → Prop, (∀ (A31 : xA), J31 A31 → A31.tg b1 = 36 ∧ (∃ J33 : Int64 → xA → Prop, (∀ (y33_s0 : Int64) (A33 : xA), J33 y33_s0 A33 → (((lg_cmp y33_s0 (0 : Int64)) < 0 → A33.tg b1 = 36 ∧ (A33.tg p = 8 ∧ (∃ R35 : Int32 → xA → Prop, w_X8_number G p (A33.L b1 2) R35 A33 ∧ (∀ (v35 : Int32) (A35 : xA), xok G A35 → R35 v35 A35 → (A35.tg b1 = 36 ∧ (A35.tg p = 8 ∧ (∃ R38 : Int32 → xA → Prop, w_X8_number G p (A35.L b1 3) R38 A35 ∧ (∀ (v38 : Int32) (A38 : xA), xok G A38 → R38 v38 A38 → (∃ J40 : Int32 → Prop, (∀ (y40_s0 : Int32), J40 y40_s0 → A38.tg p = 8 ∧ (∃ R41 : xA → Prop, w_X8_remember G p (some b1) (if y40_s0 = 0 then v35 else v38) (if y40_s0 = 0 then v38 else v35) R41 A38 ∧ (∀ A41 : xA, xok G A41 → R41 A41 → (Q A41)))) ∧ (((if (A7.I b1 0) = 0 then (1 : Int32) else (if (A7.I b1 0) = (2 : Int32) then (1 : Int32) else (if (A7.I b1 0) = (5 : Int32) then (1 : Int32) else (if (A7.I b1 0) = (6 : Int32) then (1 : Int32) else (if (A7.I b1 0) = (7 : Int32) then (1 : Int32) else (if (A7.I b1 0) = (11 : Int32) then (1 : Int32) else (if (A7.I b1 0) = (12 : Int32) then (1 : Int32) else (0 : Int32)))))))) = 0 → J40 (0 : Int32)) ∧ (¬ (if (A7.I b1 0) = 0 then (1 : Int32) else (if (A7.I b1 0) = (2 : Int32) then (1 : Int32) else (if (A7.I b1 0) = (5 : Int32) then (1 : Int32) else (if (A7.I b1 0) = (6 : Int32) then (1 : Int32) else (if (A7.I b1 0) = (7 : Int32) then (1 : Int32) else (if (A7.I b1 0) = (11 : Int32) then (1 : Int32) else (if (A7.I b1 0) = (12 : Int32) then (1 : Int32) else (0 : Int32)))))))) = 0 → ((v35 ≤ v38 → J40 (0 : Int32)) ∧ (¬ v35 ≤ v38 → A38.tg b1 = 36 ∧ ((((f_X0_isConstant (A38.L b1 3)) = 0 → J40 (1 : Int32)) ∧ (¬ (f_X0_isConstant (A38.L b1 3)) = 0 → J40 (0 : Int32))))))))))))))))) ∧ (¬ (lg_cmp y33_s0 (0 : Int64)) < 0 → A33.tg p = 8 ∧ (∃ R44 : xA → Prop, w_X8_move G p (some b1) y33_s0 R44 A33 ∧ (∀ A44 : xA, xok G A44 → R44 A44 → (Q A44)))))) ∧ (((f_X0_isConstant (A31.L b1 3)) = 0 → A31.tg p = 8 ∧ (∃ R46 : Int32 → xA → Prop, w_X8_number G p (A31.L b1 2) R46 A31 ∧ (∀ (v46 : Int32) (A46 : xA), xok G A46 → R46 v46 A46 → (A46.tg b1 = 36 ∧ (A46.tg p = 8 ∧ (∃ R49 : Int32 → xA → Prop, w_X8_number G p (A46.L b1 3) R49 A46 ∧ (∀ (v49 : Int32) (A49 : xA), xok G A49 → R49 v49 A49 → (((v46 = v49 → ∃ R51 : Int64 → xA → Prop, w_X8_alike G (some b1) R51 A49 ∧ (∀ (v51 : Int64) (A51 : xA), xok G A51 → R51 v51 A51 → (J33 v51 A51))) ∧ (¬ v46 = v49 → J33 (-1 : Int64) A49)))))))))) ∧ (¬ (f_X0_isConstant (A31.L b1 3)) = 0 → ∃ R52 : Int64 → xA → Prop, w_X8_simple G (some b1) (A31.L b1 3).toInt32 R52 A31 ∧ (∀ (v52 : Int64) (A52 : xA), xok G A52 → R52 v52 A52 → (J33 v52 A52)))))) ∧ (((if (A7.I b1 0) = 0 then (1 : Int32) else (if (A7.I b1 0) = (2 : Int32) then (1 : Int32) else (if (A7.I b1 0) = (5 : Int32) then (1 : Int32) else (if (A7.I b1 0) = (6 : Int32) then (1 : Int32) else (if (A7.I b1 0) = (7 : Int32) then (1 : Int32) else (if (A7.I b1 0) = (11 : Int32) then (1 : Int32) else (if (A7.I b1 0) = (12 : Int32) then (1 : Int32) else (0 : Int32)))))))) = 0 → J31 A10) ∧ (¬ (if (A7.I b1 0) = 0 then (1 : Int32) else (if (A7.I b1 0) = (2 : Int32) then (1 : Int32) else (if (A7.I b1 0) = (5 : Int32) then (1 : Int32) else (if (A7.I b1 0) = (6 : Int32) then (1 : Int32) else (if (A7.I b1 0) = (7 : Int32) then (1 : Int32) else (if (A7.I b1 0) = (11 : Int32) then (1 : Int32) else (if (A7.I b1 0) = (12 : Int32) then (1 : Int32) else (0 : Int32)))))))) = 0 → ∀ A53 : xA, A53 = A10.setL b1 2 v7 → (∀ A54 : xA, A54 = A53.setL b1 3 (A7.L b1 2) → (J31 A54))))) ∧ (¬ (f_X0_isConstant v7) = 0 → A10.tg p = 8 ∧ (∃ R55 : xA → Prop, w_X8_move G p (some b1) (f_X6_constant (f_X0_done (A7.I b1 0) (A7.L b1 2).toInt32 v7.toInt32)) R55 A10 ∧ (∀ A55 : xA, xok G A55 → R55 A55 → (Q A55)))))))))))))))))))
theorem m_X8_sum (hG : xOK G) (hO : xHO G) {dp : Nat} {p : Nat} {x : Option Nat} {Q : xA → Prop} {A : xA} (h : w_X8_sum G p x Q A) : MX G (dp + 6) kX8_sum [.ref p, va_rf x] A (hV Q) := by
  unfold w_X8_sum at h
  refine MX.of rfl (by cases x <;> exact Nat.le_of_ble_eq_true rfl) ?_
  refine X.lvs (lv' := [some (.ref p), some (va_rf x), none, none, none, none, none, none]) (by cases x <;> rfl) ?_
  refine X.xok (fun w0 => ?_)
  replace h := h w0
  refine x_aloadq_n dX8_sum_0 rfl ?_
  refine x_aload_n dX8_sum_1 rfl ?_
  refine x_aloadq_n dX8_sum_2 rfl ?_
  obtain ⟨b1, e1, h⟩ := h
  rw [e1]
  obtain ⟨o2, h⟩ := h
  refine x_get (v := .long (A.L b1 2)) hG dX8_sum_3 f_X8_213_35 o2 rfl ?_
  obtain ⟨o4, h⟩ := h
  obtain ⟨R3, g3, h⟩ := h
  refine x_callV hG (Ky := kX8_fit) (As := [.long (A.L b1 2)]) dX8_sum_6 o4 rfl lk_X8_331 me_X8_fit is_X8_fit se_X8_fit rfl rfl (Nat.le_of_ble_eq_true rfl) (MX.post (m_X8_fit hG hO g3) ?_)
  rintro _ A3 ⟨v3, rfl, h1⟩
  refine X.xok (fun w3 => ?_)
  replace h := h v3 A3 w3 h1
  change X _ _ _ _ A3 _ _ [.long v3, .ref b1]
  obtain ⟨o5, h⟩ := h
  refine z_putL hG hO.1 dX8_sum_9 f_X8_213_35 ⟨_, rfl, Or.inl rfl⟩ o5 (by decide) rfl rfl ⟨_, rfl⟩ (fun A6 e6 => ?_)
  replace h := h A6 e6
  refine x_aload_n dX8_sum_12 rfl ?_
  refine x_aload_n dX8_sum_13 rfl ?_
  refine x_aload_n dX8_sum_14 rfl ?_
  refine x_get (v := .long (A3.L b1 3)) hG dX8_sum_15 f_X8_218_35 (kL e6 o5) (congrArg Value.long (sL_k e6 (by decide))) ?_
  obtain ⟨o8, h⟩ := h
  obtain ⟨R7, g7, h⟩ := h
  refine x_callV hG (Ky := kX8_fit) (As := [.long (A3.L b1 3)]) dX8_sum_18 o8 rfl lk_X8_331 me_X8_fit is_X8_fit se_X8_fit rfl rfl (Nat.le_of_ble_eq_true rfl) (MX.post (m_X8_fit hG hO g7) ?_)
  rintro _ A7 ⟨v7, rfl, h1⟩
  refine X.xok (fun w7 => ?_)
  replace h := h v7 A7 w7 h1
  change X _ _ _ _ A7 _ _ [.long v7, .ref b1]
  obtain ⟨o9, h⟩ := h
  refine z_putL hG hO.1 dX8_sum_21 f_X8_218_35 ⟨_, rfl, Or.inl rfl⟩ o9 (by decide) rfl rfl ⟨_, rfl⟩ (fun A10 e10 => ?_)
  replace h := h A10 e10
  refine x_aload_n dX8_sum_24 rfl ?_
  refine x_get (v := .long (A7.L b1 2)) hG dX8_sum_25 f_X8_213_35 (kL e10 o9) (congrArg Value.long (sL_k e10 (by decide))) ?_
  refine x_callS hG (Ky := kX0_isConstant) (As := [.long (A7.L b1 2)]) dX8_sum_28 lk_X8_205 me_X0_isConstant st_X0_isConstant rfl rfl (Nat.le_of_ble_eq_true rfl) (MX.post (m_X0_isConstant hG) ?_)
  rintro _ _ ⟨rfl, rfl⟩
  change X _ _ _ _ _ _ _ (.int (f_X0_isConstant (A7.L b1 2)) :: _)
  refine x_if_eq (tgt := 70) dX8_sum_31 (by decide) (fun c31 => ?_) (fun c31 => ?_)
  · replace h := h.1 c31
    refine x_aload_n dX8_sum_70 rfl ?_
    refine x_get (v := .int (A7.I b1 0)) hG dX8_sum_71 f_X8_212_35 (kL e10 o9) (congrArg Value.int (sL_I e10)) ?_
    refine x_via 134 (A' := A10) (lv' := [some (.ref p), some (.ref b1), none, none, none, none, none, none]) (st' := [.int (if (A7.I b1 0) = 0 then (1 : Int32) else (if (A7.I b1 0) = (2 : Int32) then (1 : Int32) else (if (A7.I b1 0) = (5 : Int32) then (1 : Int32) else (if (A7.I b1 0) = (6 : Int32) then (1 : Int32) else (if (A7.I b1 0) = (7 : Int32) then (1 : Int32) else (if (A7.I b1 0) = (11 : Int32) then (1 : Int32) else (if (A7.I b1 0) = (12 : Int32) then (1 : Int32) else (0 : Int32))))))))]) ?_ (fun k134 => ?_)
    rotate_left
    · refine x_if_eq (tgt := 129) dX8_sum_74 (by decide) (fun c74 => ?_) (fun c74 => ?_)
      · refine x_iconst_ (v := (1 : Int32)) dX8_sum_129 (by decide) ?_
        refine x_goto (tgt := 134) dX8_sum_130 (by decide) ?_
        change X _ _ _ _ _ _ [some (.ref p), some (.ref b1), none, none, none, none, none, none] [.int (1 : Int32)]
        simp only [if_pos c74] at k134 ⊢
        exact X.weak (xle_c rfl (xle_c rfl (xle_n (xle_n (xle_n (xle_n (xle_n (xle_n xle_nil)))))))) k134
      · refine x_aload_n dX8_sum_77 rfl ?_
        refine x_get (v := .int (A7.I b1 0)) hG dX8_sum_78 f_X8_212_35 (kL e10 o9) (congrArg Value.int (sL_I e10)) ?_
        refine x_iconst_ (v := (2 : Int32)) dX8_sum_81 (by decide) ?_
        refine x_icmp_eq (tgt := 129) dX8_sum_82 (by decide) (fun c82 => ?_) (fun c82 => ?_)
        · refine x_iconst_ (v := (1 : Int32)) dX8_sum_129 (by decide) ?_
          refine x_goto (tgt := 134) dX8_sum_130 (by decide) ?_
          change X _ _ _ _ _ _ [some (.ref p), some (.ref b1), none, none, none, none, none, none] [.int (1 : Int32)]
          try simp only [if_neg c74] at c82 k134 ⊢
          try simp only [if_pos c82] at k134 ⊢
          exact X.weak (xle_c rfl (xle_c rfl (xle_n (xle_n (xle_n (xle_n (xle_n (xle_n xle_nil)))))))) k134
        · refine x_aload_n dX8_sum_85 rfl ?_
          refine x_get (v := .int (A7.I b1 0)) hG dX8_sum_86 f_X8_212_35 (kL e10 o9) (congrArg Value.int (sL_I e10)) ?_
          refine x_iconst_ (v := (5 : Int32)) dX8_sum_89 (by decide) ?_
          refine x_icmp_eq (tgt := 129) dX8_sum_90 (by decide) (fun c90 => ?_) (fun c90 => ?_)
          · refine x_iconst_ (v := (1 : Int32)) dX8_sum_129 (by decide) ?_
            refine x_goto (tgt := 134) dX8_sum_130 (by decide) ?_
            change X _ _ _ _ _ _ [some (.ref p), some (.ref b1), none, none, none, none, none, none] [.int (1 : Int32)]
            try simp only [if_neg c74] at c82 c90 k134 ⊢
            try simp only [if_neg c82] at c90 k134 ⊢
            try simp only [if_pos c90] at k134 ⊢
            exact X.weak (xle_c rfl (xle_c rfl (xle_n (xle_n (xle_n (xle_n (xle_n (xle_n xle_nil)))))))) k134
          · refine x_aload_n dX8_sum_93 rfl ?_
            refine x_get (v := .int (A7.I b1 0)) hG dX8_sum_94 f_X8_212_35 (kL e10 o9) (congrArg Value.int (sL_I e10)) ?_
            refine x_bipush_ (v := (6 : Int32)) dX8_sum_97 (by decide) ?_
            refine x_icmp_eq (tgt := 129) dX8_sum_99 (by decide) (fun c99 => ?_) (fun c99 => ?_)
            · refine x_iconst_ (v := (1 : Int32)) dX8_sum_129 (by decide) ?_
              refine x_goto (tgt := 134) dX8_sum_130 (by decide) ?_
              change X _ _ _ _ _ _ [some (.ref p), some (.ref b1), none, none, none, none, none, none] [.int (1 : Int32)]
              try simp only [if_neg c74] at c82 c90 c99 k134 ⊢
              try simp only [if_neg c82] at c90 c99 k134 ⊢
              try simp only [if_neg c90] at c99 k134 ⊢
              try simp only [if_pos c99] at k134 ⊢
              exact X.weak (xle_c rfl (xle_c rfl (xle_n (xle_n (xle_n (xle_n (xle_n (xle_n xle_nil)))))))) k134
            · refine x_aload_n dX8_sum_102 rfl ?_
              refine x_get (v := .int (A7.I b1 0)) hG dX8_sum_103 f_X8_212_35 (kL e10 o9) (congrArg Value.int (sL_I e10)) ?_
              refine x_bipush_ (v := (7 : Int32)) dX8_sum_106 (by decide) ?_
              refine x_icmp_eq (tgt := 129) dX8_sum_108 (by decide) (fun c108 => ?_) (fun c108 => ?_)
              · refine x_iconst_ (v := (1 : Int32)) dX8_sum_129 (by decide) ?_
                refine x_goto (tgt := 134) dX8_sum_130 (by decide) ?_
                change X _ _ _ _ _ _ [some (.ref p), some (.ref b1), none, none, none, none, none, none] [.int (1 : Int32)]
                try simp only [if_neg c74] at c82 c90 c99 c108 k134 ⊢
                try simp only [if_neg c82] at c90 c99 c108 k134 ⊢
                try simp only [if_neg c90] at c99 c108 k134 ⊢
                try simp only [if_neg c99] at c108 k134 ⊢
                try simp only [if_pos c108] at k134 ⊢
                exact X.weak (xle_c rfl (xle_c rfl (xle_n (xle_n (xle_n (xle_n (xle_n (xle_n xle_nil)))))))) k134
              · refine x_aload_n dX8_sum_111 rfl ?_
                refine x_get (v := .int (A7.I b1 0)) hG dX8_sum_112 f_X8_212_35 (kL e10 o9) (congrArg Value.int (sL_I e10)) ?_
                refine x_bipush_ (v := (11 : Int32)) dX8_sum_115 (by decide) ?_
                refine x_icmp_eq (tgt := 129) dX8_sum_117 (by decide) (fun c117 => ?_) (fun c117 => ?_)
                · refine x_iconst_ (v := (1 : Int32)) dX8_sum_129 (by decide) ?_
                  refine x_goto (tgt := 134) dX8_sum_130 (by decide) ?_
                  change X _ _ _ _ _ _ [some (.ref p), some (.ref b1), none, none, none, none, none, none] [.int (1 : Int32)]
                  try simp only [if_neg c74] at c82 c90 c99 c108 c117 k134 ⊢
                  try simp only [if_neg c82] at c90 c99 c108 c117 k134 ⊢
                  try simp only [if_neg c90] at c99 c108 c117 k134 ⊢
                  try simp only [if_neg c99] at c108 c117 k134 ⊢
                  try simp only [if_neg c108] at c117 k134 ⊢
                  try simp only [if_pos c117] at k134 ⊢
                  exact X.weak (xle_c rfl (xle_c rfl (xle_n (xle_n (xle_n (xle_n (xle_n (xle_n xle_nil)))))))) k134
                · refine x_aload_n dX8_sum_120 rfl ?_
                  refine x_get (v := .int (A7.I b1 0)) hG dX8_sum_121 f_X8_212_35 (kL e10 o9) (congrArg Value.int (sL_I e10)) ?_
                  refine x_bipush_ (v := (12 : Int32)) dX8_sum_124 (by decide) ?_
                  refine x_icmp_ne (tgt := 133) dX8_sum_126 (by decide) (fun c126 => ?_) (fun c126 => ?_)
                  · refine x_iconst_ (v := (0 : Int32)) dX8_sum_133 (by decide) ?_
                    change X _ _ _ _ _ _ [some (.ref p), some (.ref b1), none, none, none, none, none, none] [.int (0 : Int32)]
                    try simp only [if_neg c74] at c82 c90 c99 c108 c117 c126 k134 ⊢
                    try simp only [if_neg c82] at c90 c99 c108 c117 c126 k134 ⊢
                    try simp only [if_neg c90] at c99 c108 c117 c126 k134 ⊢
                    try simp only [if_neg c99] at c108 c117 c126 k134 ⊢
                    try simp only [if_neg c108] at c117 c126 k134 ⊢
                    try simp only [if_neg c117] at c126 k134 ⊢
                    try simp only [if_neg c126] at k134 ⊢
                    exact X.weak (xle_c rfl (xle_c rfl (xle_n (xle_n (xle_n (xle_n (xle_n (xle_n xle_nil)))))))) k134
                  · refine x_iconst_ (v := (1 : Int32)) dX8_sum_129 (by decide) ?_
                    refine x_goto (tgt := 134) dX8_sum_130 (by decide) ?_
                    change X _ _ _ _ _ _ [some (.ref p), some (.ref b1), none, none, none, none, none, none] [.int (1 : Int32)]
                    try simp only [if_neg c74] at c82 c90 c99 c108 c117 c126 k134 ⊢
                    try simp only [if_neg c82] at c90 c99 c108 c117 c126 k134 ⊢
                    try simp only [if_neg c90] at c99 c108 c117 c126 k134 ⊢
                    try simp only [if_neg c99] at c108 c117 c126 k134 ⊢
                    try simp only [if_neg c108] at c117 c126 k134 ⊢
                    try simp only [if_neg c117] at c126 k134 ⊢
                    try simp only [if_pos c126] at k134 ⊢
                    exact X.weak (xle_c rfl (xle_c rfl (xle_n (xle_n (xle_n (xle_n (xle_n (xle_n xle_nil)))))))) k134
    refine x_istore_n dX8_sum_134 (by decide) ?_
    refine x_iload_n dX8_sum_135 rfl ?_
    refine x_via 167 (A' := A10) (lv' := [some (.ref p), some (.ref b1), some (.int (if (A7.I b1 0) = 0 then (1 : Int32) else (if (A7.I b1 0) = (2 : Int32) then (1 : Int32) else (if (A7.I b1 0) = (5 : Int32) then (1 : Int32) else (if (A7.I b1 0) = (6 : Int32) then (1 : Int32) else (if (A7.I b1 0) = (7 : Int32) then (1 : Int32) else (if (A7.I b1 0) = (11 : Int32) then (1 : Int32) else (if (A7.I b1 0) = (12 : Int32) then (1 : Int32) else (0 : Int32))))))))), none, none, none, none, none]) (st' := []) ?_ (fun k167 => ?_)
    rotate_left
    · refine x_if_eq (tgt := 167) dX8_sum_136 (by decide) (fun c136 => ?_) (fun c136 => ?_)
      · change X _ _ _ _ _ _ [some (.ref p), some (.ref b1), some (.int (if (A7.I b1 0) = 0 then (1 : Int32) else (if (A7.I b1 0) = (2 : Int32) then (1 : Int32) else (if (A7.I b1 0) = (5 : Int32) then (1 : Int32) else (if (A7.I b1 0) = (6 : Int32) then (1 : Int32) else (if (A7.I b1 0) = (7 : Int32) then (1 : Int32) else (if (A7.I b1 0) = (11 : Int32) then (1 : Int32) else (if (A7.I b1 0) = (12 : Int32) then (1 : Int32) else (0 : Int32))))))))), none, none, none, none, none] []
        exact X.weak (xle_c rfl (xle_c rfl (xle_c rfl (xle_n (xle_n (xle_n (xle_n (xle_n xle_nil)))))))) k167
      · refine x_aload_n dX8_sum_139 rfl ?_
        refine x_get (v := .long (A7.L b1 2)) hG dX8_sum_140 f_X8_213_35 (kL e10 o9) (congrArg Value.long (sL_k e10 (by decide))) ?_
        refine x_callS hG (Ky := kX0_isConstant) (As := [.long (A7.L b1 2)]) dX8_sum_143 lk_X8_205 me_X0_isConstant st_X0_isConstant rfl rfl (Nat.le_of_ble_eq_true rfl) (MX.post (m_X0_isConstant hG) ?_)
        rintro _ _ ⟨rfl, rfl⟩
        change X _ _ _ _ _ _ _ (.int (f_X0_isConstant (A7.L b1 2)) :: _)
        refine x_if_eq (tgt := 167) dX8_sum_146 (by decide) (fun _ => ?_) (fun h => absurd c31 h)
        change X _ _ _ _ _ _ [some (.ref p), some (.ref b1), some (.int (if (A7.I b1 0) = 0 then (1 : Int32) else (if (A7.I b1 0) = (2 : Int32) then (1 : Int32) else (if (A7.I b1 0) = (5 : Int32) then (1 : Int32) else (if (A7.I b1 0) = (6 : Int32) then (1 : Int32) else (if (A7.I b1 0) = (7 : Int32) then (1 : Int32) else (if (A7.I b1 0) = (11 : Int32) then (1 : Int32) else (if (A7.I b1 0) = (12 : Int32) then (1 : Int32) else (0 : Int32))))))))), none, none, none, none, none] []
        exact X.weak (xle_c rfl (xle_c rfl (xle_c rfl (xle_n (xle_n (xle_n (xle_n (xle_n xle_nil)))))))) k167
    refine x_aload_n dX8_sum_167 rfl ?_
    refine x_get (v := .long v7) hG dX8_sum_168 f_X8_218_35 (kL e10 o9) (congrArg Value.long (sL_s e10)) ?_
    refine x_callS hG (Ky := kX0_isConstant) (As := [.long v7]) dX8_sum_171 lk_X8_205 me_X0_isConstant st_X0_isConstant rfl rfl (Nat.le_of_ble_eq_true rfl) (MX.post (m_X0_isConstant hG) ?_)
    rintro _ _ ⟨rfl, rfl⟩
    change X _ _ _ _ _ _ _ (.int (f_X0_isConstant v7) :: _)
    obtain ⟨J11, g11, h⟩ := h
    have kj11 : ∀ (y11_s0 : Int64) (A11 : xA), J11 y11_s0 A11 → X G (dp + 6) kX8_sum (hV Q) A11 218 [some (.ref p), some (.ref b1), some (.int (if (A7.I b1 0) = 0 then (1 : Int32) else (if (A7.I b1 0) = (2 : Int32) then (1 : Int32) else (if (A7.I b1 0) = (5 : Int32) then (1 : Int32) else (if (A7.I b1 0) = (6 : Int32) then (1 : Int32) else (if (A7.I b1 0) = (7 : Int32) then (1 : Int32) else (if (A7.I b1 0) = (11 : Int32) then (1 : Int32) else (if (A7.I b1 0) = (12 : Int32) then (1 : Int32) else (0 : Int32))))))))), none, none, none, none, none] [.long y11_s0] := by
      intro y11_s0 A11 h
      replace h := g11 y11_s0 A11 h
      refine x_lstore_n dX8_sum_218 (by decide) ?_
      refine x_lload_n dX8_sum_219 rfl ?_
      refine x_lconst_ (v := (0 : Int64)) dX8_sum_220 (by decide) ?_
      refine x_lcmp dX8_sum_221 ?_
      refine x_if_lt (tgt := 232) dX8_sum_222 (by decide) (fun c222 => ?_) (fun c222 => ?_)
      · replace h := h.1 c222
        refine x_aload_n dX8_sum_232 rfl ?_
        refine x_aload_n dX8_sum_233 rfl ?_
        obtain ⟨o12, h⟩ := h
        refine x_get (v := .long (A11.L b1 2)) hG dX8_sum_234 f_X8_213_35 o12 rfl ?_
        obtain ⟨o14, h⟩ := h
        obtain ⟨R13, g13, h⟩ := h
        refine x_callV hG (Ky := kX8_number) (As := [.long (A11.L b1 2)]) dX8_sum_237 o14 rfl lk_X8_322 me_X8_number is_X8_number se_X8_number rfl rfl (Nat.le_of_ble_eq_true rfl) (MX.post (m_X8_number hG hO g13) ?_)
        rintro _ A13 ⟨v13, rfl, h1⟩
        refine X.xok (fun w13 => ?_)
        replace h := h v13 A13 w13 h1
        change X _ _ _ _ A13 _ _ [.int v13]
        refine x_istore dX8_sum_240 (by decide) ?_
        refine x_aload_n dX8_sum_242 rfl ?_
        refine x_aload_n dX8_sum_243 rfl ?_
        obtain ⟨o15, h⟩ := h
        refine x_get (v := .long (A13.L b1 3)) hG dX8_sum_244 f_X8_218_35 o15 rfl ?_
        obtain ⟨o17, h⟩ := h
        obtain ⟨R16, g16, h⟩ := h
        refine x_callV hG (Ky := kX8_number) (As := [.long (A13.L b1 3)]) dX8_sum_247 o17 rfl lk_X8_322 me_X8_number is_X8_number se_X8_number rfl rfl (Nat.le_of_ble_eq_true rfl) (MX.post (m_X8_number hG hO g16) ?_)
        rintro _ A16 ⟨v16, rfl, h1⟩
        refine X.xok (fun w16 => ?_)
        replace h := h v16 A16 w16 h1
        change X _ _ _ _ A16 _ _ [.int v16]
        refine x_istore dX8_sum_250 (by decide) ?_
        refine x_iload_n dX8_sum_252 rfl ?_
        obtain ⟨J18, g18, h⟩ := h
        have kj18 : ∀ (y18_s0 : Int32), J18 y18_s0 → X G (dp + 6) kX8_sum (hV Q) A16 278 [some (.ref p), some (.ref b1), none, none, none, some (.int v13), some (.int v16), none] [.int y18_s0] := by
          intro y18_s0 h
          replace h := g18 y18_s0 h
          refine x_istore dX8_sum_278 (by decide) ?_
          refine x_aload_n dX8_sum_280 rfl ?_
          refine x_aload_n dX8_sum_281 rfl ?_
          refine x_iload dX8_sum_282 rfl ?_
          refine x_via 294 (A' := A16) (lv' := [none, none, none, none, none, some (.int v13), some (.int v16), some (.int y18_s0)]) (st' := [.int (if y18_s0 = 0 then v13 else v16), .ref b1, .ref p]) ?_ (fun k294 => ?_)
          rotate_left
          · refine x_if_eq (tgt := 292) dX8_sum_284 (by decide) (fun c284 => ?_) (fun c284 => ?_)
            · refine x_iload dX8_sum_292 rfl ?_
              change X _ _ _ _ _ _ [some (.ref p), some (.ref b1), none, none, none, some (.int v13), some (.int v16), some (.int y18_s0)] [.int v13, .ref b1, .ref p]
              simp only [if_pos c284] at k294 ⊢
              exact X.weak (xle_n (xle_n (xle_n (xle_n (xle_n (xle_c rfl (xle_c rfl (xle_c rfl xle_nil)))))))) k294
            · refine x_iload dX8_sum_287 rfl ?_
              refine x_goto (tgt := 294) dX8_sum_289 (by decide) ?_
              change X _ _ _ _ _ _ [some (.ref p), some (.ref b1), none, none, none, some (.int v13), some (.int v16), some (.int y18_s0)] [.int v16, .ref b1, .ref p]
              simp only [if_neg c284] at k294 ⊢
              exact X.weak (xle_n (xle_n (xle_n (xle_n (xle_n (xle_c rfl (xle_c rfl (xle_c rfl xle_nil)))))))) k294
          refine x_iload dX8_sum_294 rfl ?_
          refine x_via 306 (A' := A16) (lv' := [none, none, none, none, none, none, none, none]) (st' := [.int (if y18_s0 = 0 then v16 else v13), .int (if y18_s0 = 0 then v13 else v16), .ref b1, .ref p]) ?_ (fun k306 => ?_)
          rotate_left
          · refine x_if_eq (tgt := 304) dX8_sum_296 (by decide) (fun c296 => ?_) (fun c296 => ?_)
            · refine x_iload dX8_sum_304 rfl ?_
              change X _ _ _ _ _ _ [none, none, none, none, none, some (.int v13), some (.int v16), some (.int y18_s0)] [.int v16, .int (if y18_s0 = 0 then v13 else v16), .ref b1, .ref p]
              simp only [if_pos c296] at k306 ⊢
              exact X.weak (xle_n (xle_n (xle_n (xle_n (xle_n (xle_n (xle_n (xle_n xle_nil)))))))) k306
            · refine x_iload dX8_sum_299 rfl ?_
              refine x_goto (tgt := 306) dX8_sum_301 (by decide) ?_
              change X _ _ _ _ _ _ [none, none, none, none, none, some (.int v13), some (.int v16), some (.int y18_s0)] [.int v13, .int (if y18_s0 = 0 then v13 else v16), .ref b1, .ref p]
              simp only [if_neg c296] at k306 ⊢
              exact X.weak (xle_n (xle_n (xle_n (xle_n (xle_n (xle_n (xle_n (xle_n xle_nil)))))))) k306
          obtain ⟨o20, h⟩ := h
          obtain ⟨R19, g19, h⟩ := h
          refine x_callV hG (Ky := kX8_remember) (As := [.ref b1, .int (if y18_s0 = 0 then v13 else v16), .int (if y18_s0 = 0 then v16 else v13)]) dX8_sum_306 o20 rfl lk_X8_358 me_X8_remember is_X8_remember se_X8_remember rfl rfl (Nat.le_of_ble_eq_true rfl) (MX.post (m_X8_remember hG hO g19) ?_)
          rintro _ A19 ⟨rfl, h1⟩
          refine X.xok (fun w19 => ?_)
          replace h := h A19 w19 h1
          change X _ _ _ _ A19 _ _ []
          exact x_vret dX8_sum_309 rfl ⟨rfl, h⟩
        refine x_if_eq (tgt := 277) dX8_sum_253 (by decide) (fun c253 => ?_) (fun c253 => ?_)
        · replace h := h.1 c253
          refine x_iconst_ (v := (0 : Int32)) dX8_sum_277 (by decide) ?_
          change X _ _ _ _ _ _ [some (.ref p), some (.ref b1), some (.int (if (A7.I b1 0) = 0 then (1 : Int32) else (if (A7.I b1 0) = (2 : Int32) then (1 : Int32) else (if (A7.I b1 0) = (5 : Int32) then (1 : Int32) else (if (A7.I b1 0) = (6 : Int32) then (1 : Int32) else (if (A7.I b1 0) = (7 : Int32) then (1 : Int32) else (if (A7.I b1 0) = (11 : Int32) then (1 : Int32) else (if (A7.I b1 0) = (12 : Int32) then (1 : Int32) else (0 : Int32))))))))), some (.long y11_s0), none, some (.int v13), some (.int v16), none] [.int (0 : Int32)]
          exact X.weak (xle_c rfl (xle_c rfl (xle_n (xle_n (xle_n (xle_c rfl (xle_c rfl (xle_n xle_nil)))))))) (kj18 (0 : Int32) h)
        · replace h := h.2 c253
          refine x_iload dX8_sum_256 rfl ?_
          refine x_iload dX8_sum_258 rfl ?_
          refine x_icmp_le (tgt := 277) dX8_sum_260 (by decide) (fun c260 => ?_) (fun c260 => ?_)
          · replace h := h.1 c260
            refine x_iconst_ (v := (0 : Int32)) dX8_sum_277 (by decide) ?_
            change X _ _ _ _ _ _ [some (.ref p), some (.ref b1), some (.int (if (A7.I b1 0) = 0 then (1 : Int32) else (if (A7.I b1 0) = (2 : Int32) then (1 : Int32) else (if (A7.I b1 0) = (5 : Int32) then (1 : Int32) else (if (A7.I b1 0) = (6 : Int32) then (1 : Int32) else (if (A7.I b1 0) = (7 : Int32) then (1 : Int32) else (if (A7.I b1 0) = (11 : Int32) then (1 : Int32) else (if (A7.I b1 0) = (12 : Int32) then (1 : Int32) else (0 : Int32))))))))), some (.long y11_s0), none, some (.int v13), some (.int v16), none] [.int (0 : Int32)]
            exact X.weak (xle_c rfl (xle_c rfl (xle_n (xle_n (xle_n (xle_c rfl (xle_c rfl (xle_n xle_nil)))))))) (kj18 (0 : Int32) h)
          · replace h := h.2 c260
            refine x_aload_n dX8_sum_263 rfl ?_
            obtain ⟨o21, h⟩ := h
            refine x_get (v := .long (A16.L b1 3)) hG dX8_sum_264 f_X8_218_35 o21 rfl ?_
            refine x_callS hG (Ky := kX0_isConstant) (As := [.long (A16.L b1 3)]) dX8_sum_267 lk_X8_205 me_X0_isConstant st_X0_isConstant rfl rfl (Nat.le_of_ble_eq_true rfl) (MX.post (m_X0_isConstant hG) ?_)
            rintro _ _ ⟨rfl, rfl⟩
            change X _ _ _ _ _ _ _ (.int (f_X0_isConstant (A16.L b1 3)) :: _)
            refine x_if_ne (tgt := 277) dX8_sum_270 (by decide) (fun c270 => ?_) (fun c270 => ?_)
            · replace h := h.2 c270
              refine x_iconst_ (v := (0 : Int32)) dX8_sum_277 (by decide) ?_
              change X _ _ _ _ _ _ [some (.ref p), some (.ref b1), some (.int (if (A7.I b1 0) = 0 then (1 : Int32) else (if (A7.I b1 0) = (2 : Int32) then (1 : Int32) else (if (A7.I b1 0) = (5 : Int32) then (1 : Int32) else (if (A7.I b1 0) = (6 : Int32) then (1 : Int32) else (if (A7.I b1 0) = (7 : Int32) then (1 : Int32) else (if (A7.I b1 0) = (11 : Int32) then (1 : Int32) else (if (A7.I b1 0) = (12 : Int32) then (1 : Int32) else (0 : Int32))))))))), some (.long y11_s0), none, some (.int v13), some (.int v16), none] [.int (0 : Int32)]
              exact X.weak (xle_c rfl (xle_c rfl (xle_n (xle_n (xle_n (xle_c rfl (xle_c rfl (xle_n xle_nil)))))))) (kj18 (0 : Int32) h)
            · replace h := h.1 c270
              refine x_iconst_ (v := (1 : Int32)) dX8_sum_273 (by decide) ?_
              refine x_goto (tgt := 278) dX8_sum_274 (by decide) ?_
              change X _ _ _ _ _ _ [some (.ref p), some (.ref b1), some (.int (if (A7.I b1 0) = 0 then (1 : Int32) else (if (A7.I b1 0) = (2 : Int32) then (1 : Int32) else (if (A7.I b1 0) = (5 : Int32) then (1 : Int32) else (if (A7.I b1 0) = (6 : Int32) then (1 : Int32) else (if (A7.I b1 0) = (7 : Int32) then (1 : Int32) else (if (A7.I b1 0) = (11 : Int32) then (1 : Int32) else (if (A7.I b1 0) = (12 : Int32) then (1 : Int32) else (0 : Int32))))))))), some (.long y11_s0), none, some (.int v13), some (.int v16), none] [.int (1 : Int32)]
              exact X.weak (xle_c rfl (xle_c rfl (xle_n (xle_n (xle_n (xle_c rfl (xle_c rfl (xle_n xle_nil)))))))) (kj18 (1 : Int32) h)
      · replace h := h.2 c222
        refine x_aload_n dX8_sum_225 rfl ?_
        refine x_aload_n dX8_sum_226 rfl ?_
        refine x_lload_n dX8_sum_227 rfl ?_
        obtain ⟨o23, h⟩ := h
        obtain ⟨R22, g22, h⟩ := h
        refine x_callV hG (Ky := kX8_move) (As := [.ref b1, .long y11_s0]) dX8_sum_228 o23 rfl lk_X8_351 me_X8_move is_X8_move se_X8_move rfl rfl (Nat.le_of_ble_eq_true rfl) (MX.post (m_X8_move hG hO g22) ?_)
        rintro _ A22 ⟨rfl, h1⟩
        refine X.xok (fun w22 => ?_)
        replace h := h A22 w22 h1
        change X _ _ _ _ A22 _ _ []
        exact x_vret dX8_sum_231 rfl ⟨rfl, h⟩
    refine x_if_eq (tgt := 189) dX8_sum_174 (by decide) (fun c174 => ?_) (fun c174 => ?_)
    · replace h := h.1 c174
      refine x_aload_n dX8_sum_189 rfl ?_
      refine x_aload_n dX8_sum_190 rfl ?_
      refine x_get (v := .long (A7.L b1 2)) hG dX8_sum_191 f_X8_213_35 (kL e10 o9) (congrArg Value.long (sL_k e10 (by decide))) ?_
      obtain ⟨o25, h⟩ := h
      obtain ⟨R24, g24, h⟩ := h
      refine x_callV hG (Ky := kX8_number) (As := [.long (A7.L b1 2)]) dX8_sum_194 o25 rfl lk_X8_322 me_X8_number is_X8_number se_X8_number rfl rfl (Nat.le_of_ble_eq_true rfl) (MX.post (m_X8_number hG hO g24) ?_)
      rintro _ A24 ⟨v24, rfl, h1⟩
      refine X.xok (fun w24 => ?_)
      replace h := h v24 A24 w24 h1
      change X _ _ _ _ A24 _ _ [.int v24]
      refine x_aload_n dX8_sum_197 rfl ?_
      refine x_aload_n dX8_sum_198 rfl ?_
      obtain ⟨o26, h⟩ := h
      refine x_get (v := .long (A24.L b1 3)) hG dX8_sum_199 f_X8_218_35 o26 rfl ?_
      obtain ⟨o28, h⟩ := h
      obtain ⟨R27, g27, h⟩ := h
      refine x_callV hG (Ky := kX8_number) (As := [.long (A24.L b1 3)]) dX8_sum_202 o28 rfl lk_X8_322 me_X8_number is_X8_number se_X8_number rfl rfl (Nat.le_of_ble_eq_true rfl) (MX.post (m_X8_number hG hO g27) ?_)
      rintro _ A27 ⟨v27, rfl, h1⟩
      refine X.xok (fun w27 => ?_)
      replace h := h v27 A27 w27 h1
      change X _ _ _ _ A27 _ _ [.int v27, .int v24]
      refine x_icmp_ne (tgt := 215) dX8_sum_205 (by decide) (fun c205 => ?_) (fun c205 => ?_)
      · replace h := h.2 c205
        refine x_ldc2 hG dX8_sum_215 q2560 ?_
        change X _ _ _ _ _ _ [some (.ref p), some (.ref b1), some (.int (if (A7.I b1 0) = 0 then (1 : Int32) else (if (A7.I b1 0) = (2 : Int32) then (1 : Int32) else (if (A7.I b1 0) = (5 : Int32) then (1 : Int32) else (if (A7.I b1 0) = (6 : Int32) then (1 : Int32) else (if (A7.I b1 0) = (7 : Int32) then (1 : Int32) else (if (A7.I b1 0) = (11 : Int32) then (1 : Int32) else (if (A7.I b1 0) = (12 : Int32) then (1 : Int32) else (0 : Int32))))))))), none, none, none, none, none] [.long (-1 : Int64)]
        exact X.weak (xle_c rfl (xle_c rfl (xle_c rfl (xle_n (xle_n (xle_n (xle_n (xle_n xle_nil)))))))) (kj11 (-1 : Int64) A27 h)
      · replace h := h.1 c205
        refine x_aload_n dX8_sum_208 rfl ?_
        obtain ⟨R29, g29, h⟩ := h
        refine x_callS hG (Ky := kX8_alike) (As := [.ref b1]) dX8_sum_209 lk_X8_388 me_X8_alike st_X8_alike rfl rfl (Nat.le_of_ble_eq_true rfl) (MX.post (m_X8_alike hG hO g29) ?_)
        rintro _ A29 ⟨v29, rfl, h1⟩
        refine X.xok (fun w29 => ?_)
        replace h := h v29 A29 w29 h1
        change X _ _ _ _ A29 _ _ [.long v29]
        refine x_goto (tgt := 218) dX8_sum_212 (by decide) ?_
        change X _ _ _ _ _ _ [some (.ref p), some (.ref b1), some (.int (if (A7.I b1 0) = 0 then (1 : Int32) else (if (A7.I b1 0) = (2 : Int32) then (1 : Int32) else (if (A7.I b1 0) = (5 : Int32) then (1 : Int32) else (if (A7.I b1 0) = (6 : Int32) then (1 : Int32) else (if (A7.I b1 0) = (7 : Int32) then (1 : Int32) else (if (A7.I b1 0) = (11 : Int32) then (1 : Int32) else (if (A7.I b1 0) = (12 : Int32) then (1 : Int32) else (0 : Int32))))))))), none, none, none, none, none] [.long v29]
        exact X.weak (xle_c rfl (xle_c rfl (xle_c rfl (xle_n (xle_n (xle_n (xle_n (xle_n xle_nil)))))))) (kj11 v29 A29 h)
    · replace h := h.2 c174
      refine x_aload_n dX8_sum_177 rfl ?_
      refine x_aload_n dX8_sum_178 rfl ?_
      refine x_get (v := .long v7) hG dX8_sum_179 f_X8_218_35 (kL e10 o9) (congrArg Value.long (sL_s e10)) ?_
      refine x_l2i dX8_sum_182 ?_
      obtain ⟨R30, g30, h⟩ := h
      refine x_callS hG (Ky := kX8_simple) (As := [.ref b1, .int v7.toInt32]) dX8_sum_183 lk_X8_384 me_X8_simple st_X8_simple rfl rfl (Nat.le_of_ble_eq_true rfl) (MX.post (m_X8_simple hG hO g30) ?_)
      rintro _ A30 ⟨v30, rfl, h1⟩
      refine X.xok (fun w30 => ?_)
      replace h := h v30 A30 w30 h1
      change X _ _ _ _ A30 _ _ [.long v30]
      refine x_goto (tgt := 218) dX8_sum_186 (by decide) ?_
      change X _ _ _ _ _ _ [some (.ref p), some (.ref b1), some (.int (if (A7.I b1 0) = 0 then (1 : Int32) else (if (A7.I b1 0) = (2 : Int32) then (1 : Int32) else (if (A7.I b1 0) = (5 : Int32) then (1 : Int32) else (if (A7.I b1 0) = (6 : Int32) then (1 : Int32) else (if (A7.I b1 0) = (7 : Int32) then (1 : Int32) else (if (A7.I b1 0) = (11 : Int32) then (1 : Int32) else (if (A7.I b1 0) = (12 : Int32) then (1 : Int32) else (0 : Int32))))))))), none, none, none, none, none] [.long v30]
      exact X.weak (xle_c rfl (xle_c rfl (xle_c rfl (xle_n (xle_n (xle_n (xle_n (xle_n xle_nil)))))))) (kj11 v30 A30 h)
  · replace h := h.2 c31
    refine x_aload_n dX8_sum_34 rfl ?_
    refine x_get (v := .long v7) hG dX8_sum_35 f_X8_218_35 (kL e10 o9) (congrArg Value.long (sL_s e10)) ?_
    refine x_callS hG (Ky := kX0_isConstant) (As := [.long v7]) dX8_sum_38 lk_X8_205 me_X0_isConstant st_X0_isConstant rfl rfl (Nat.le_of_ble_eq_true rfl) (MX.post (m_X0_isConstant hG) ?_)
    rintro _ _ ⟨rfl, rfl⟩
    change X _ _ _ _ _ _ _ (.int (f_X0_isConstant v7) :: _)
    refine x_if_eq (tgt := 70) dX8_sum_41 (by decide) (fun c41 => ?_) (fun c41 => ?_)
    · replace h := h.1 c41
      refine x_aload_n dX8_sum_70 rfl ?_
      refine x_get (v := .int (A7.I b1 0)) hG dX8_sum_71 f_X8_212_35 (kL e10 o9) (congrArg Value.int (sL_I e10)) ?_
      refine x_via 134 (A' := A10) (lv' := [some (.ref p), some (.ref b1), none, none, none, none, none, none]) (st' := [.int (if (A7.I b1 0) = 0 then (1 : Int32) else (if (A7.I b1 0) = (2 : Int32) then (1 : Int32) else (if (A7.I b1 0) = (5 : Int32) then (1 : Int32) else (if (A7.I b1 0) = (6 : Int32) then (1 : Int32) else (if (A7.I b1 0) = (7 : Int32) then (1 : Int32) else (if (A7.I b1 0) = (11 : Int32) then (1 : Int32) else (if (A7.I b1 0) = (12 : Int32) then (1 : Int32) else (0 : Int32))))))))]) ?_ (fun k134 => ?_)
      rotate_left
      · refine x_if_eq (tgt := 129) dX8_sum_74 (by decide) (fun c74 => ?_) (fun c74 => ?_)
        · refine x_iconst_ (v := (1 : Int32)) dX8_sum_129 (by decide) ?_
          refine x_goto (tgt := 134) dX8_sum_130 (by decide) ?_
          change X _ _ _ _ _ _ [some (.ref p), some (.ref b1), none, none, none, none, none, none] [.int (1 : Int32)]
          simp only [if_pos c74] at k134 ⊢
          exact X.weak (xle_c rfl (xle_c rfl (xle_n (xle_n (xle_n (xle_n (xle_n (xle_n xle_nil)))))))) k134
        · refine x_aload_n dX8_sum_77 rfl ?_
          refine x_get (v := .int (A7.I b1 0)) hG dX8_sum_78 f_X8_212_35 (kL e10 o9) (congrArg Value.int (sL_I e10)) ?_
          refine x_iconst_ (v := (2 : Int32)) dX8_sum_81 (by decide) ?_
          refine x_icmp_eq (tgt := 129) dX8_sum_82 (by decide) (fun c82 => ?_) (fun c82 => ?_)
          · refine x_iconst_ (v := (1 : Int32)) dX8_sum_129 (by decide) ?_
            refine x_goto (tgt := 134) dX8_sum_130 (by decide) ?_
            change X _ _ _ _ _ _ [some (.ref p), some (.ref b1), none, none, none, none, none, none] [.int (1 : Int32)]
            try simp only [if_neg c74] at c82 k134 ⊢
            try simp only [if_pos c82] at k134 ⊢
            exact X.weak (xle_c rfl (xle_c rfl (xle_n (xle_n (xle_n (xle_n (xle_n (xle_n xle_nil)))))))) k134
          · refine x_aload_n dX8_sum_85 rfl ?_
            refine x_get (v := .int (A7.I b1 0)) hG dX8_sum_86 f_X8_212_35 (kL e10 o9) (congrArg Value.int (sL_I e10)) ?_
            refine x_iconst_ (v := (5 : Int32)) dX8_sum_89 (by decide) ?_
            refine x_icmp_eq (tgt := 129) dX8_sum_90 (by decide) (fun c90 => ?_) (fun c90 => ?_)
            · refine x_iconst_ (v := (1 : Int32)) dX8_sum_129 (by decide) ?_
              refine x_goto (tgt := 134) dX8_sum_130 (by decide) ?_
              change X _ _ _ _ _ _ [some (.ref p), some (.ref b1), none, none, none, none, none, none] [.int (1 : Int32)]
              try simp only [if_neg c74] at c82 c90 k134 ⊢
              try simp only [if_neg c82] at c90 k134 ⊢
              try simp only [if_pos c90] at k134 ⊢
              exact X.weak (xle_c rfl (xle_c rfl (xle_n (xle_n (xle_n (xle_n (xle_n (xle_n xle_nil)))))))) k134
            · refine x_aload_n dX8_sum_93 rfl ?_
              refine x_get (v := .int (A7.I b1 0)) hG dX8_sum_94 f_X8_212_35 (kL e10 o9) (congrArg Value.int (sL_I e10)) ?_
              refine x_bipush_ (v := (6 : Int32)) dX8_sum_97 (by decide) ?_
              refine x_icmp_eq (tgt := 129) dX8_sum_99 (by decide) (fun c99 => ?_) (fun c99 => ?_)
              · refine x_iconst_ (v := (1 : Int32)) dX8_sum_129 (by decide) ?_
                refine x_goto (tgt := 134) dX8_sum_130 (by decide) ?_
                change X _ _ _ _ _ _ [some (.ref p), some (.ref b1), none, none, none, none, none, none] [.int (1 : Int32)]
                try simp only [if_neg c74] at c82 c90 c99 k134 ⊢
                try simp only [if_neg c82] at c90 c99 k134 ⊢
                try simp only [if_neg c90] at c99 k134 ⊢
                try simp only [if_pos c99] at k134 ⊢
                exact X.weak (xle_c rfl (xle_c rfl (xle_n (xle_n (xle_n (xle_n (xle_n (xle_n xle_nil)))))))) k134
              · refine x_aload_n dX8_sum_102 rfl ?_
                refine x_get (v := .int (A7.I b1 0)) hG dX8_sum_103 f_X8_212_35 (kL e10 o9) (congrArg Value.int (sL_I e10)) ?_
                refine x_bipush_ (v := (7 : Int32)) dX8_sum_106 (by decide) ?_
                refine x_icmp_eq (tgt := 129) dX8_sum_108 (by decide) (fun c108 => ?_) (fun c108 => ?_)
                · refine x_iconst_ (v := (1 : Int32)) dX8_sum_129 (by decide) ?_
                  refine x_goto (tgt := 134) dX8_sum_130 (by decide) ?_
                  change X _ _ _ _ _ _ [some (.ref p), some (.ref b1), none, none, none, none, none, none] [.int (1 : Int32)]
                  try simp only [if_neg c74] at c82 c90 c99 c108 k134 ⊢
                  try simp only [if_neg c82] at c90 c99 c108 k134 ⊢
                  try simp only [if_neg c90] at c99 c108 k134 ⊢
                  try simp only [if_neg c99] at c108 k134 ⊢
                  try simp only [if_pos c108] at k134 ⊢
                  exact X.weak (xle_c rfl (xle_c rfl (xle_n (xle_n (xle_n (xle_n (xle_n (xle_n xle_nil)))))))) k134
                · refine x_aload_n dX8_sum_111 rfl ?_
                  refine x_get (v := .int (A7.I b1 0)) hG dX8_sum_112 f_X8_212_35 (kL e10 o9) (congrArg Value.int (sL_I e10)) ?_
                  refine x_bipush_ (v := (11 : Int32)) dX8_sum_115 (by decide) ?_
                  refine x_icmp_eq (tgt := 129) dX8_sum_117 (by decide) (fun c117 => ?_) (fun c117 => ?_)
                  · refine x_iconst_ (v := (1 : Int32)) dX8_sum_129 (by decide) ?_
                    refine x_goto (tgt := 134) dX8_sum_130 (by decide) ?_
                    change X _ _ _ _ _ _ [some (.ref p), some (.ref b1), none, none, none, none, none, none] [.int (1 : Int32)]
                    try simp only [if_neg c74] at c82 c90 c99 c108 c117 k134 ⊢
                    try simp only [if_neg c82] at c90 c99 c108 c117 k134 ⊢
                    try simp only [if_neg c90] at c99 c108 c117 k134 ⊢
                    try simp only [if_neg c99] at c108 c117 k134 ⊢
                    try simp only [if_neg c108] at c117 k134 ⊢
                    try simp only [if_pos c117] at k134 ⊢
                    exact X.weak (xle_c rfl (xle_c rfl (xle_n (xle_n (xle_n (xle_n (xle_n (xle_n xle_nil)))))))) k134
                  · refine x_aload_n dX8_sum_120 rfl ?_
                    refine x_get (v := .int (A7.I b1 0)) hG dX8_sum_121 f_X8_212_35 (kL e10 o9) (congrArg Value.int (sL_I e10)) ?_
                    refine x_bipush_ (v := (12 : Int32)) dX8_sum_124 (by decide) ?_
                    refine x_icmp_ne (tgt := 133) dX8_sum_126 (by decide) (fun c126 => ?_) (fun c126 => ?_)
                    · refine x_iconst_ (v := (0 : Int32)) dX8_sum_133 (by decide) ?_
                      change X _ _ _ _ _ _ [some (.ref p), some (.ref b1), none, none, none, none, none, none] [.int (0 : Int32)]
                      try simp only [if_neg c74] at c82 c90 c99 c108 c117 c126 k134 ⊢
                      try simp only [if_neg c82] at c90 c99 c108 c117 c126 k134 ⊢
                      try simp only [if_neg c90] at c99 c108 c117 c126 k134 ⊢
                      try simp only [if_neg c99] at c108 c117 c126 k134 ⊢
                      try simp only [if_neg c108] at c117 c126 k134 ⊢
                      try simp only [if_neg c117] at c126 k134 ⊢
                      try simp only [if_neg c126] at k134 ⊢
                      exact X.weak (xle_c rfl (xle_c rfl (xle_n (xle_n (xle_n (xle_n (xle_n (xle_n xle_nil)))))))) k134
                    · refine x_iconst_ (v := (1 : Int32)) dX8_sum_129 (by decide) ?_
                      refine x_goto (tgt := 134) dX8_sum_130 (by decide) ?_
                      change X _ _ _ _ _ _ [some (.ref p), some (.ref b1), none, none, none, none, none, none] [.int (1 : Int32)]
                      try simp only [if_neg c74] at c82 c90 c99 c108 c117 c126 k134 ⊢
                      try simp only [if_neg c82] at c90 c99 c108 c117 c126 k134 ⊢
                      try simp only [if_neg c90] at c99 c108 c117 c126 k134 ⊢
                      try simp only [if_neg c99] at c108 c117 c126 k134 ⊢
                      try simp only [if_neg c108] at c117 c126 k134 ⊢
                      try simp only [if_neg c117] at c126 k134 ⊢
                      try simp only [if_pos c126] at k134 ⊢
                      exact X.weak (xle_c rfl (xle_c rfl (xle_n (xle_n (xle_n (xle_n (xle_n (xle_n xle_nil)))))))) k134
      refine x_istore_n dX8_sum_134 (by decide) ?_
      refine x_iload_n dX8_sum_135 rfl ?_
      obtain ⟨J31, g31, h⟩ := h
      have kj31 : ∀ (A31 : xA), J31 A31 → X G (dp + 6) kX8_sum (hV Q) A31 167 [some (.ref p), some (.ref b1), some (.int (if (A7.I b1 0) = 0 then (1 : Int32) else (if (A7.I b1 0) = (2 : Int32) then (1 : Int32) else (if (A7.I b1 0) = (5 : Int32) then (1 : Int32) else (if (A7.I b1 0) = (6 : Int32) then (1 : Int32) else (if (A7.I b1 0) = (7 : Int32) then (1 : Int32) else (if (A7.I b1 0) = (11 : Int32) then (1 : Int32) else (if (A7.I b1 0) = (12 : Int32) then (1 : Int32) else (0 : Int32))))))))), none, none, none, none, none] [] := by
        intro A31 h
        replace h := g31 A31 h
        refine x_aload_n dX8_sum_167 rfl ?_
        obtain ⟨o32, h⟩ := h
        refine x_get (v := .long (A31.L b1 3)) hG dX8_sum_168 f_X8_218_35 o32 rfl ?_
        refine x_callS hG (Ky := kX0_isConstant) (As := [.long (A31.L b1 3)]) dX8_sum_171 lk_X8_205 me_X0_isConstant st_X0_isConstant rfl rfl (Nat.le_of_ble_eq_true rfl) (MX.post (m_X0_isConstant hG) ?_)
        rintro _ _ ⟨rfl, rfl⟩
        change X _ _ _ _ _ _ _ (.int (f_X0_isConstant (A31.L b1 3)) :: _)
        obtain ⟨J33, g33, h⟩ := h
        have kj33 : ∀ (y33_s0 : Int64) (A33 : xA), J33 y33_s0 A33 → X G (dp + 6) kX8_sum (hV Q) A33 218 [some (.ref p), some (.ref b1), some (.int (if (A7.I b1 0) = 0 then (1 : Int32) else (if (A7.I b1 0) = (2 : Int32) then (1 : Int32) else (if (A7.I b1 0) = (5 : Int32) then (1 : Int32) else (if (A7.I b1 0) = (6 : Int32) then (1 : Int32) else (if (A7.I b1 0) = (7 : Int32) then (1 : Int32) else (if (A7.I b1 0) = (11 : Int32) then (1 : Int32) else (if (A7.I b1 0) = (12 : Int32) then (1 : Int32) else (0 : Int32))))))))), none, none, none, none, none] [.long y33_s0] := by
          intro y33_s0 A33 h
          replace h := g33 y33_s0 A33 h
          refine x_lstore_n dX8_sum_218 (by decide) ?_
          refine x_lload_n dX8_sum_219 rfl ?_
          refine x_lconst_ (v := (0 : Int64)) dX8_sum_220 (by decide) ?_
          refine x_lcmp dX8_sum_221 ?_
          refine x_if_lt (tgt := 232) dX8_sum_222 (by decide) (fun c222 => ?_) (fun c222 => ?_)
          · replace h := h.1 c222
            refine x_aload_n dX8_sum_232 rfl ?_
            refine x_aload_n dX8_sum_233 rfl ?_
            obtain ⟨o34, h⟩ := h
            refine x_get (v := .long (A33.L b1 2)) hG dX8_sum_234 f_X8_213_35 o34 rfl ?_
            obtain ⟨o36, h⟩ := h
            obtain ⟨R35, g35, h⟩ := h
            refine x_callV hG (Ky := kX8_number) (As := [.long (A33.L b1 2)]) dX8_sum_237 o36 rfl lk_X8_322 me_X8_number is_X8_number se_X8_number rfl rfl (Nat.le_of_ble_eq_true rfl) (MX.post (m_X8_number hG hO g35) ?_)
            rintro _ A35 ⟨v35, rfl, h1⟩
            refine X.xok (fun w35 => ?_)
            replace h := h v35 A35 w35 h1
            change X _ _ _ _ A35 _ _ [.int v35]
            refine x_istore dX8_sum_240 (by decide) ?_
            refine x_aload_n dX8_sum_242 rfl ?_
            refine x_aload_n dX8_sum_243 rfl ?_
            obtain ⟨o37, h⟩ := h
            refine x_get (v := .long (A35.L b1 3)) hG dX8_sum_244 f_X8_218_35 o37 rfl ?_
            obtain ⟨o39, h⟩ := h
            obtain ⟨R38, g38, h⟩ := h
            refine x_callV hG (Ky := kX8_number) (As := [.long (A35.L b1 3)]) dX8_sum_247 o39 rfl lk_X8_322 me_X8_number is_X8_number se_X8_number rfl rfl (Nat.le_of_ble_eq_true rfl) (MX.post (m_X8_number hG hO g38) ?_)
            rintro _ A38 ⟨v38, rfl, h1⟩
            refine X.xok (fun w38 => ?_)
            replace h := h v38 A38 w38 h1
            change X _ _ _ _ A38 _ _ [.int v38]
            refine x_istore dX8_sum_250 (by decide) ?_
            refine x_iload_n dX8_sum_252 rfl ?_
            obtain ⟨J40, g40, h⟩ := h
            have kj40 : ∀ (y40_s0 : Int32), J40 y40_s0 → X G (dp + 6) kX8_sum (hV Q) A38 278 [some (.ref p), some (.ref b1), none, none, none, some (.int v35), some (.int v38), none] [.int y40_s0] := by
              intro y40_s0 h
              replace h := g40 y40_s0 h
              refine x_istore dX8_sum_278 (by decide) ?_
              refine x_aload_n dX8_sum_280 rfl ?_
              refine x_aload_n dX8_sum_281 rfl ?_
              refine x_iload dX8_sum_282 rfl ?_
              refine x_via 294 (A' := A38) (lv' := [none, none, none, none, none, some (.int v35), some (.int v38), some (.int y40_s0)]) (st' := [.int (if y40_s0 = 0 then v35 else v38), .ref b1, .ref p]) ?_ (fun k294 => ?_)
              rotate_left
              · refine x_if_eq (tgt := 292) dX8_sum_284 (by decide) (fun c284 => ?_) (fun c284 => ?_)
                · refine x_iload dX8_sum_292 rfl ?_
                  change X _ _ _ _ _ _ [some (.ref p), some (.ref b1), none, none, none, some (.int v35), some (.int v38), some (.int y40_s0)] [.int v35, .ref b1, .ref p]
                  simp only [if_pos c284] at k294 ⊢
                  exact X.weak (xle_n (xle_n (xle_n (xle_n (xle_n (xle_c rfl (xle_c rfl (xle_c rfl xle_nil)))))))) k294
                · refine x_iload dX8_sum_287 rfl ?_
                  refine x_goto (tgt := 294) dX8_sum_289 (by decide) ?_
                  change X _ _ _ _ _ _ [some (.ref p), some (.ref b1), none, none, none, some (.int v35), some (.int v38), some (.int y40_s0)] [.int v38, .ref b1, .ref p]
                  simp only [if_neg c284] at k294 ⊢
                  exact X.weak (xle_n (xle_n (xle_n (xle_n (xle_n (xle_c rfl (xle_c rfl (xle_c rfl xle_nil)))))))) k294
              refine x_iload dX8_sum_294 rfl ?_
              refine x_via 306 (A' := A38) (lv' := [none, none, none, none, none, none, none, none]) (st' := [.int (if y40_s0 = 0 then v38 else v35), .int (if y40_s0 = 0 then v35 else v38), .ref b1, .ref p]) ?_ (fun k306 => ?_)
              rotate_left
              · refine x_if_eq (tgt := 304) dX8_sum_296 (by decide) (fun c296 => ?_) (fun c296 => ?_)
                · refine x_iload dX8_sum_304 rfl ?_
                  change X _ _ _ _ _ _ [none, none, none, none, none, some (.int v35), some (.int v38), some (.int y40_s0)] [.int v38, .int (if y40_s0 = 0 then v35 else v38), .ref b1, .ref p]
                  simp only [if_pos c296] at k306 ⊢
                  exact X.weak (xle_n (xle_n (xle_n (xle_n (xle_n (xle_n (xle_n (xle_n xle_nil)))))))) k306
                · refine x_iload dX8_sum_299 rfl ?_
                  refine x_goto (tgt := 306) dX8_sum_301 (by decide) ?_
                  change X _ _ _ _ _ _ [none, none, none, none, none, some (.int v35), some (.int v38), some (.int y40_s0)] [.int v35, .int (if y40_s0 = 0 then v35 else v38), .ref b1, .ref p]
                  simp only [if_neg c296] at k306 ⊢
                  exact X.weak (xle_n (xle_n (xle_n (xle_n (xle_n (xle_n (xle_n (xle_n xle_nil)))))))) k306
              obtain ⟨o42, h⟩ := h
              obtain ⟨R41, g41, h⟩ := h
              refine x_callV hG (Ky := kX8_remember) (As := [.ref b1, .int (if y40_s0 = 0 then v35 else v38), .int (if y40_s0 = 0 then v38 else v35)]) dX8_sum_306 o42 rfl lk_X8_358 me_X8_remember is_X8_remember se_X8_remember rfl rfl (Nat.le_of_ble_eq_true rfl) (MX.post (m_X8_remember hG hO g41) ?_)
              rintro _ A41 ⟨rfl, h1⟩
              refine X.xok (fun w41 => ?_)
              replace h := h A41 w41 h1
              change X _ _ _ _ A41 _ _ []
              exact x_vret dX8_sum_309 rfl ⟨rfl, h⟩
            refine x_if_eq (tgt := 277) dX8_sum_253 (by decide) (fun c253 => ?_) (fun c253 => ?_)
            · replace h := h.1 c253
              refine x_iconst_ (v := (0 : Int32)) dX8_sum_277 (by decide) ?_
              change X _ _ _ _ _ _ [some (.ref p), some (.ref b1), some (.int (if (A7.I b1 0) = 0 then (1 : Int32) else (if (A7.I b1 0) = (2 : Int32) then (1 : Int32) else (if (A7.I b1 0) = (5 : Int32) then (1 : Int32) else (if (A7.I b1 0) = (6 : Int32) then (1 : Int32) else (if (A7.I b1 0) = (7 : Int32) then (1 : Int32) else (if (A7.I b1 0) = (11 : Int32) then (1 : Int32) else (if (A7.I b1 0) = (12 : Int32) then (1 : Int32) else (0 : Int32))))))))), some (.long y33_s0), none, some (.int v35), some (.int v38), none] [.int (0 : Int32)]
              exact X.weak (xle_c rfl (xle_c rfl (xle_n (xle_n (xle_n (xle_c rfl (xle_c rfl (xle_n xle_nil)))))))) (kj40 (0 : Int32) h)
            · replace h := h.2 c253
              refine x_iload dX8_sum_256 rfl ?_
              refine x_iload dX8_sum_258 rfl ?_
              refine x_icmp_le (tgt := 277) dX8_sum_260 (by decide) (fun c260 => ?_) (fun c260 => ?_)
              · replace h := h.1 c260
                refine x_iconst_ (v := (0 : Int32)) dX8_sum_277 (by decide) ?_
                change X _ _ _ _ _ _ [some (.ref p), some (.ref b1), some (.int (if (A7.I b1 0) = 0 then (1 : Int32) else (if (A7.I b1 0) = (2 : Int32) then (1 : Int32) else (if (A7.I b1 0) = (5 : Int32) then (1 : Int32) else (if (A7.I b1 0) = (6 : Int32) then (1 : Int32) else (if (A7.I b1 0) = (7 : Int32) then (1 : Int32) else (if (A7.I b1 0) = (11 : Int32) then (1 : Int32) else (if (A7.I b1 0) = (12 : Int32) then (1 : Int32) else (0 : Int32))))))))), some (.long y33_s0), none, some (.int v35), some (.int v38), none] [.int (0 : Int32)]
                exact X.weak (xle_c rfl (xle_c rfl (xle_n (xle_n (xle_n (xle_c rfl (xle_c rfl (xle_n xle_nil)))))))) (kj40 (0 : Int32) h)
              · replace h := h.2 c260
                refine x_aload_n dX8_sum_263 rfl ?_
                obtain ⟨o43, h⟩ := h
                refine x_get (v := .long (A38.L b1 3)) hG dX8_sum_264 f_X8_218_35 o43 rfl ?_
                refine x_callS hG (Ky := kX0_isConstant) (As := [.long (A38.L b1 3)]) dX8_sum_267 lk_X8_205 me_X0_isConstant st_X0_isConstant rfl rfl (Nat.le_of_ble_eq_true rfl) (MX.post (m_X0_isConstant hG) ?_)
                rintro _ _ ⟨rfl, rfl⟩
                change X _ _ _ _ _ _ _ (.int (f_X0_isConstant (A38.L b1 3)) :: _)
                refine x_if_ne (tgt := 277) dX8_sum_270 (by decide) (fun c270 => ?_) (fun c270 => ?_)
                · replace h := h.2 c270
                  refine x_iconst_ (v := (0 : Int32)) dX8_sum_277 (by decide) ?_
                  change X _ _ _ _ _ _ [some (.ref p), some (.ref b1), some (.int (if (A7.I b1 0) = 0 then (1 : Int32) else (if (A7.I b1 0) = (2 : Int32) then (1 : Int32) else (if (A7.I b1 0) = (5 : Int32) then (1 : Int32) else (if (A7.I b1 0) = (6 : Int32) then (1 : Int32) else (if (A7.I b1 0) = (7 : Int32) then (1 : Int32) else (if (A7.I b1 0) = (11 : Int32) then (1 : Int32) else (if (A7.I b1 0) = (12 : Int32) then (1 : Int32) else (0 : Int32))))))))), some (.long y33_s0), none, some (.int v35), some (.int v38), none] [.int (0 : Int32)]
                  exact X.weak (xle_c rfl (xle_c rfl (xle_n (xle_n (xle_n (xle_c rfl (xle_c rfl (xle_n xle_nil)))))))) (kj40 (0 : Int32) h)
                · replace h := h.1 c270
                  refine x_iconst_ (v := (1 : Int32)) dX8_sum_273 (by decide) ?_
                  refine x_goto (tgt := 278) dX8_sum_274 (by decide) ?_
                  change X _ _ _ _ _ _ [some (.ref p), some (.ref b1), some (.int (if (A7.I b1 0) = 0 then (1 : Int32) else (if (A7.I b1 0) = (2 : Int32) then (1 : Int32) else (if (A7.I b1 0) = (5 : Int32) then (1 : Int32) else (if (A7.I b1 0) = (6 : Int32) then (1 : Int32) else (if (A7.I b1 0) = (7 : Int32) then (1 : Int32) else (if (A7.I b1 0) = (11 : Int32) then (1 : Int32) else (if (A7.I b1 0) = (12 : Int32) then (1 : Int32) else (0 : Int32))))))))), some (.long y33_s0), none, some (.int v35), some (.int v38), none] [.int (1 : Int32)]
                  exact X.weak (xle_c rfl (xle_c rfl (xle_n (xle_n (xle_n (xle_c rfl (xle_c rfl (xle_n xle_nil)))))))) (kj40 (1 : Int32) h)
          · replace h := h.2 c222
            refine x_aload_n dX8_sum_225 rfl ?_
            refine x_aload_n dX8_sum_226 rfl ?_
            refine x_lload_n dX8_sum_227 rfl ?_
            obtain ⟨o45, h⟩ := h
            obtain ⟨R44, g44, h⟩ := h
            refine x_callV hG (Ky := kX8_move) (As := [.ref b1, .long y33_s0]) dX8_sum_228 o45 rfl lk_X8_351 me_X8_move is_X8_move se_X8_move rfl rfl (Nat.le_of_ble_eq_true rfl) (MX.post (m_X8_move hG hO g44) ?_)
            rintro _ A44 ⟨rfl, h1⟩
            refine X.xok (fun w44 => ?_)
            replace h := h A44 w44 h1
            change X _ _ _ _ A44 _ _ []
            exact x_vret dX8_sum_231 rfl ⟨rfl, h⟩
        refine x_if_eq (tgt := 189) dX8_sum_174 (by decide) (fun c174 => ?_) (fun c174 => ?_)
        · replace h := h.1 c174
          refine x_aload_n dX8_sum_189 rfl ?_
          refine x_aload_n dX8_sum_190 rfl ?_
          refine x_get (v := .long (A31.L b1 2)) hG dX8_sum_191 f_X8_213_35 o32 rfl ?_
          obtain ⟨o47, h⟩ := h
          obtain ⟨R46, g46, h⟩ := h
          refine x_callV hG (Ky := kX8_number) (As := [.long (A31.L b1 2)]) dX8_sum_194 o47 rfl lk_X8_322 me_X8_number is_X8_number se_X8_number rfl rfl (Nat.le_of_ble_eq_true rfl) (MX.post (m_X8_number hG hO g46) ?_)
          rintro _ A46 ⟨v46, rfl, h1⟩
          refine X.xok (fun w46 => ?_)
          replace h := h v46 A46 w46 h1
          change X _ _ _ _ A46 _ _ [.int v46]
          refine x_aload_n dX8_sum_197 rfl ?_
          refine x_aload_n dX8_sum_198 rfl ?_
          obtain ⟨o48, h⟩ := h
          refine x_get (v := .long (A46.L b1 3)) hG dX8_sum_199 f_X8_218_35 o48 rfl ?_
          obtain ⟨o50, h⟩ := h
          obtain ⟨R49, g49, h⟩ := h
          refine x_callV hG (Ky := kX8_number) (As := [.long (A46.L b1 3)]) dX8_sum_202 o50 rfl lk_X8_322 me_X8_number is_X8_number se_X8_number rfl rfl (Nat.le_of_ble_eq_true rfl) (MX.post (m_X8_number hG hO g49) ?_)
          rintro _ A49 ⟨v49, rfl, h1⟩
          refine X.xok (fun w49 => ?_)
          replace h := h v49 A49 w49 h1
          change X _ _ _ _ A49 _ _ [.int v49, .int v46]
          refine x_icmp_ne (tgt := 215) dX8_sum_205 (by decide) (fun c205 => ?_) (fun c205 => ?_)
          · replace h := h.2 c205
            refine x_ldc2 hG dX8_sum_215 q2560 ?_
            change X _ _ _ _ _ _ [some (.ref p), some (.ref b1), some (.int (if (A7.I b1 0) = 0 then (1 : Int32) else (if (A7.I b1 0) = (2 : Int32) then (1 : Int32) else (if (A7.I b1 0) = (5 : Int32) then (1 : Int32) else (if (A7.I b1 0) = (6 : Int32) then (1 : Int32) else (if (A7.I b1 0) = (7 : Int32) then (1 : Int32) else (if (A7.I b1 0) = (11 : Int32) then (1 : Int32) else (if (A7.I b1 0) = (12 : Int32) then (1 : Int32) else (0 : Int32))))))))), none, none, none, none, none] [.long (-1 : Int64)]
            exact X.weak (xle_c rfl (xle_c rfl (xle_c rfl (xle_n (xle_n (xle_n (xle_n (xle_n xle_nil)))))))) (kj33 (-1 : Int64) A49 h)
          · replace h := h.1 c205
            refine x_aload_n dX8_sum_208 rfl ?_
            obtain ⟨R51, g51, h⟩ := h
            refine x_callS hG (Ky := kX8_alike) (As := [.ref b1]) dX8_sum_209 lk_X8_388 me_X8_alike st_X8_alike rfl rfl (Nat.le_of_ble_eq_true rfl) (MX.post (m_X8_alike hG hO g51) ?_)
            rintro _ A51 ⟨v51, rfl, h1⟩
            refine X.xok (fun w51 => ?_)
            replace h := h v51 A51 w51 h1
            change X _ _ _ _ A51 _ _ [.long v51]
            refine x_goto (tgt := 218) dX8_sum_212 (by decide) ?_
            change X _ _ _ _ _ _ [some (.ref p), some (.ref b1), some (.int (if (A7.I b1 0) = 0 then (1 : Int32) else (if (A7.I b1 0) = (2 : Int32) then (1 : Int32) else (if (A7.I b1 0) = (5 : Int32) then (1 : Int32) else (if (A7.I b1 0) = (6 : Int32) then (1 : Int32) else (if (A7.I b1 0) = (7 : Int32) then (1 : Int32) else (if (A7.I b1 0) = (11 : Int32) then (1 : Int32) else (if (A7.I b1 0) = (12 : Int32) then (1 : Int32) else (0 : Int32))))))))), none, none, none, none, none] [.long v51]
            exact X.weak (xle_c rfl (xle_c rfl (xle_c rfl (xle_n (xle_n (xle_n (xle_n (xle_n xle_nil)))))))) (kj33 v51 A51 h)
        · replace h := h.2 c174
          refine x_aload_n dX8_sum_177 rfl ?_
          refine x_aload_n dX8_sum_178 rfl ?_
          refine x_get (v := .long (A31.L b1 3)) hG dX8_sum_179 f_X8_218_35 o32 rfl ?_
          refine x_l2i dX8_sum_182 ?_
          obtain ⟨R52, g52, h⟩ := h
          refine x_callS hG (Ky := kX8_simple) (As := [.ref b1, .int (A31.L b1 3).toInt32]) dX8_sum_183 lk_X8_384 me_X8_simple st_X8_simple rfl rfl (Nat.le_of_ble_eq_true rfl) (MX.post (m_X8_simple hG hO g52) ?_)
          rintro _ A52 ⟨v52, rfl, h1⟩
          refine X.xok (fun w52 => ?_)
          replace h := h v52 A52 w52 h1
          change X _ _ _ _ A52 _ _ [.long v52]
          refine x_goto (tgt := 218) dX8_sum_186 (by decide) ?_
          change X _ _ _ _ _ _ [some (.ref p), some (.ref b1), some (.int (if (A7.I b1 0) = 0 then (1 : Int32) else (if (A7.I b1 0) = (2 : Int32) then (1 : Int32) else (if (A7.I b1 0) = (5 : Int32) then (1 : Int32) else (if (A7.I b1 0) = (6 : Int32) then (1 : Int32) else (if (A7.I b1 0) = (7 : Int32) then (1 : Int32) else (if (A7.I b1 0) = (11 : Int32) then (1 : Int32) else (if (A7.I b1 0) = (12 : Int32) then (1 : Int32) else (0 : Int32))))))))), none, none, none, none, none] [.long v52]
          exact X.weak (xle_c rfl (xle_c rfl (xle_c rfl (xle_n (xle_n (xle_n (xle_n (xle_n xle_nil)))))))) (kj33 v52 A52 h)
      refine x_if_eq (tgt := 167) dX8_sum_136 (by decide) (fun c136 => ?_) (fun c136 => ?_)
      · replace h := h.1 c136
        change X _ _ _ _ _ _ [some (.ref p), some (.ref b1), some (.int (if (A7.I b1 0) = 0 then (1 : Int32) else (if (A7.I b1 0) = (2 : Int32) then (1 : Int32) else (if (A7.I b1 0) = (5 : Int32) then (1 : Int32) else (if (A7.I b1 0) = (6 : Int32) then (1 : Int32) else (if (A7.I b1 0) = (7 : Int32) then (1 : Int32) else (if (A7.I b1 0) = (11 : Int32) then (1 : Int32) else (if (A7.I b1 0) = (12 : Int32) then (1 : Int32) else (0 : Int32))))))))), none, none, none, none, none] []
        exact X.weak (xle_c rfl (xle_c rfl (xle_c rfl (xle_n (xle_n (xle_n (xle_n (xle_n xle_nil)))))))) (kj31 A10 h)
      · replace h := h.2 c136
        refine x_aload_n dX8_sum_139 rfl ?_
        refine x_get (v := .long (A7.L b1 2)) hG dX8_sum_140 f_X8_213_35 (kL e10 o9) (congrArg Value.long (sL_k e10 (by decide))) ?_
        refine x_callS hG (Ky := kX0_isConstant) (As := [.long (A7.L b1 2)]) dX8_sum_143 lk_X8_205 me_X0_isConstant st_X0_isConstant rfl rfl (Nat.le_of_ble_eq_true rfl) (MX.post (m_X0_isConstant hG) ?_)
        rintro _ _ ⟨rfl, rfl⟩
        change X _ _ _ _ _ _ _ (.int (f_X0_isConstant (A7.L b1 2)) :: _)
        refine x_if_eq (tgt := 167) dX8_sum_146 (by decide) (fun h => absurd h c31) (fun _ => ?_)
        refine x_aload_n dX8_sum_149 rfl ?_
        refine x_get (v := .long (A7.L b1 2)) hG dX8_sum_150 f_X8_213_35 (kL e10 o9) (congrArg Value.long (sL_k e10 (by decide))) ?_
        refine x_lstore_n dX8_sum_153 (by decide) ?_
        refine x_aload_n dX8_sum_154 rfl ?_
        refine x_aload_n dX8_sum_155 rfl ?_
        refine x_get (v := .long v7) hG dX8_sum_156 f_X8_218_35 (kL e10 o9) (congrArg Value.long (sL_s e10)) ?_
        refine z_putL hG hO.1 dX8_sum_159 f_X8_213_35 ⟨_, rfl, Or.inl rfl⟩ (kL e10 o9) (by decide) rfl rfl ⟨_, rfl⟩ (fun A53 e53 => ?_)
        replace h := h A53 e53
        refine x_aload_n dX8_sum_162 rfl ?_
        refine x_lload_n dX8_sum_163 rfl ?_
        refine z_putL hG hO.1 dX8_sum_164 f_X8_218_35 ⟨_, rfl, Or.inl rfl⟩ (kL e53 (kL e10 o9)) (by decide) rfl rfl ⟨_, rfl⟩ (fun A54 e54 => ?_)
        replace h := h A54 e54
        change X _ _ _ _ _ _ [some (.ref p), some (.ref b1), some (.int (if (A7.I b1 0) = 0 then (1 : Int32) else (if (A7.I b1 0) = (2 : Int32) then (1 : Int32) else (if (A7.I b1 0) = (5 : Int32) then (1 : Int32) else (if (A7.I b1 0) = (6 : Int32) then (1 : Int32) else (if (A7.I b1 0) = (7 : Int32) then (1 : Int32) else (if (A7.I b1 0) = (11 : Int32) then (1 : Int32) else (if (A7.I b1 0) = (12 : Int32) then (1 : Int32) else (0 : Int32))))))))), some (.long (A7.L b1 2)), none, none, none, none] []
        exact X.weak (xle_c rfl (xle_c rfl (xle_c rfl (xle_n (xle_n (xle_n (xle_n (xle_n xle_nil)))))))) (kj31 A54 h)
    · replace h := h.2 c41
      refine x_aload_n dX8_sum_44 rfl ?_
      refine x_aload_n dX8_sum_45 rfl ?_
      refine x_aload_n dX8_sum_46 rfl ?_
      refine x_get (v := .int (A7.I b1 0)) hG dX8_sum_47 f_X8_212_35 (kL e10 o9) (congrArg Value.int (sL_I e10)) ?_
      refine x_aload_n dX8_sum_50 rfl ?_
      refine x_get (v := .long (A7.L b1 2)) hG dX8_sum_51 f_X8_213_35 (kL e10 o9) (congrArg Value.long (sL_k e10 (by decide))) ?_
      refine x_l2i dX8_sum_54 ?_
      refine x_aload_n dX8_sum_55 rfl ?_
      refine x_get (v := .long v7) hG dX8_sum_56 f_X8_218_35 (kL e10 o9) (congrArg Value.long (sL_s e10)) ?_
      refine x_l2i dX8_sum_59 ?_
      refine x_callS hG (Ky := kX0_done) (As := [.int (A7.I b1 0), .int (A7.L b1 2).toInt32, .int v7.toInt32]) dX8_sum_60 lk_X8_201 me_X0_done st_X0_done rfl rfl (Nat.le_of_ble_eq_true rfl) (MX.post (m_X0_done hG pp_X0_done) ?_)
      rintro _ _ ⟨rfl, rfl⟩
      change X _ _ _ _ _ _ _ (.int (f_X0_done (A7.I b1 0) (A7.L b1 2).toInt32 v7.toInt32) :: _)
      refine x_callS hG (Ky := kX6_constant) (As := [.int (f_X0_done (A7.I b1 0) (A7.L b1 2).toInt32 v7.toInt32)]) dX8_sum_63 lk_X8_325 me_X6_constant st_X6_constant rfl rfl (Nat.le_of_ble_eq_true rfl) (MX.post (m_X6_constant hG) ?_)
      rintro _ _ ⟨rfl, rfl⟩
      change X _ _ _ _ _ _ _ (.long (f_X6_constant (f_X0_done (A7.I b1 0) (A7.L b1 2).toInt32 v7.toInt32)) :: _)
      obtain ⟨o56, h⟩ := h
      obtain ⟨R55, g55, h⟩ := h
      refine x_callV hG (Ky := kX8_move) (As := [.ref b1, .long (f_X6_constant (f_X0_done (A7.I b1 0) (A7.L b1 2).toInt32 v7.toInt32))]) dX8_sum_66 o56 rfl lk_X8_351 me_X8_move is_X8_move se_X8_move rfl rfl (Nat.le_of_ble_eq_true rfl) (MX.post (m_X8_move hG hO g55) ?_)
      rintro _ A55 ⟨rfl, h1⟩
      refine X.xok (fun w55 => ?_)
      replace h := h A55 w55 h1
      change X _ _ _ _ A55 _ _ []
      exact x_vret dX8_sum_69 rfl ⟨rfl, h⟩
def w_X8_act (G : xG) (p : Nat) (x : Option Nat) (Q : xA → Prop) (A : xA) : Prop := xok G A → ∃ b1 : Nat, x = some b1 ∧ (A.tg b1 = 36 ∧ ((((f_X0_below (A.I b1 0)) = 0 → ∃ R3 : Int32 → xA → Prop, w_X37_isLoad G b1 R3 A ∧ (∀ (v3 : Int32) (A3 : xA), xok G A3 → (v3 = 0 ∨ v3 = 1) → R3 v3 A3 → (((v3 = 0 → A3.tg b1 = 36 ∧ (((((A3.I b1 0) = (20 : Int32)) → A3.tg p = 8 ∧ (∃ R6 : xA → Prop, w_X8_move G p (some b1) (A3.L b1 2) R6 A3 ∧ (∀ A6 : xA, xok G A6 → R6 A6 → (Q A6)))) ∧ (((A3.I b1 0) = (32 : Int32)) → A3.tg p = 8 ∧ (∃ R8 : Int32 → xA → Prop, w_X8_ofConstant G p (A3.I b1 5) R8 A3 ∧ (∀ (v8 : Int32) (A8 : xA), xok G A8 → R8 v8 A8 → (A8.tg p = 8 ∧ (∃ R10 : Int32 → xA → Prop, w_X8_ofConstant G p (0 : Int32) R10 A8 ∧ (∀ (v10 : Int32) (A10 : xA), xok G A10 → R10 v10 A10 → (A10.tg p = 8 ∧ (∃ R12 : xA → Prop, w_X8_remember G p (some b1) v8 v10 R12 A10 ∧ (∀ A12 : xA, xok G A12 → R12 A12 → (Q A12)))))))))) ∧ (((A3.I b1 0) = (23 : Int32) ∨ (A3.I b1 0) = (24 : Int32)) → A3.tg p = 8 ∧ (∃ R14 : xA → Prop, w_X8_store G p (some b1) R14 A3 ∧ (∀ A14 : xA, xok G A14 → R14 A14 → (Q A14)))) ∧ (((A3.I b1 0) = (25 : Int32)) → A3.tg p = 8 ∧ (∃ R16 : xA → Prop, w_X8_check G p (some b1) R16 A3 ∧ (∀ A16 : xA, xok G A16 → R16 A16 → (Q A16)))) ∧ (((A3.I b1 0) = (26 : Int32)) → ∃ L18 : Nat → Int32 → xA → Prop, (∃ n18 : Nat, L18 n18 (0 : Int32) A3) ∧ (∀ (n18 : Nat) (y18_2 : Int32) (A18 : xA), L18 n18 y18_2 A18 → A18.tg b1 = 36 ∧ (∃ b20 : Nat, (A18.P b1 9) = some b20 ∧ (A18.tg b20 = 201 ∧ ((((nI (A18.ln b20)) ≤ y18_2 → ∃ b23 : Nat, (A18.P b1 8) = some b23 ∧ (A18.tg b23 = 14 ∧ (∃ R22 : Int32 → xA → Prop, w_X14_words G b23 R22 A18 ∧ (∀ (v22 : Int32) (A22 : xA), xok G A22 → R22 v22 A22 → (A22.tg b1 = 36 ∧ (∃ b26 : Nat, (A22.P b1 8) = some b26 ∧ (A22.tg b26 = 14 ∧ (∃ b29 : Nat, (A22.P b26 8) = some b29 ∧ (A22.tg b29 = 37 ∧ (∃ R28 : Int32 → xA → Prop, w_J5_size G b29 R28 A22 ∧ (∀ (v28 : Int32) (A28 : xA), xok G A28 → R28 v28 A28 → (A28.tg p = 8 ∧ (∃ R31 : xA → Prop, w_X8_forget G p (none : Option Nat) (if v22 ≤ v28 then (0 : Int32) else (1 : Int32)) R31 A28 ∧ (∀ A31 : xA, xok G A31 → R31 A31 → (A31.tg b1 = 36 ∧ (∃ J34 : xA → Prop, (∀ (A34 : xA), J34 A34 → A34.tg p = 8 ∧ (∃ R35 : xA → Prop, w_X8_keep G p (some b1) R35 A34 ∧ (∀ A35 : xA, xok G A35 → R35 A35 → (Q A35)))) ∧ (((A31.I b1 1) < 0 → J34 A31) ∧ (¬ (A31.I b1 1) < 0 → A31.tg p = 8 ∧ (∃ R37 : Int32 → xA → Prop, w_X8_fresh G p R37 A31 ∧ (∀ (v37 : Int32) (A37 : xA), xok G A37 → R37 v37 A37 → (A37.tg p = 8 ∧ (∃ R39 : xA → Prop, w_X8_define G p (A31.I b1 1) v37 R39 A37 ∧ (∀ A39 : xA, xok G A39 → R39 A39 → (J34 A39)))))))))))))))))))))))) ∧ (¬ (nI (A18.ln b20)) ≤ y18_2 → vp_in y18_2 (A18.ln b20) ∧ (A18.tg p = 8 ∧ (∃ R42 : Int64 → xA → Prop, w_X8_fit G p (A18.L b20 (ix y18_2)) R42 A18 ∧ (∀ (v42 : Int64) (A42 : xA), xok G A42 → R42 v42 A42 → (A42.tg b20 = 201 ∧ (G.N ≤ b20 ∧ (vp_in y18_2 (A42.ln b20) ∧ (∀ A47 : xA, A47 = A42.setL b20 (ix y18_2) v42 → ((∃ q18 : Nat, q18 < n18 ∧ L18 q18 (y18_2 + (1 : Int32)) A47)))))))))))))))) ∧ (((A3.I b1 0) = (28 : Int32) ∨ (A3.I b1 0) = (30 : Int32)) → A3.tg p = 8 ∧ (∃ R48 : Int64 → xA → Prop, w_X8_fit G p (A3.L b1 2) R48 A3 ∧ (∀ (v48 : Int64) (A48 : xA), xok G A48 → R48 v48 A48 → (A48.tg b1 = 36 ∧ (∀ A51 : xA, A51 = A48.setL b1 2 v48 → (∃ J52 : xA → Prop, (∀ (A52 : xA), J52 A52 → A52.tg p = 8 ∧ (∃ R53 : xA → Prop, w_X8_keep G p (some b1) R53 A52 ∧ (∀ A53 : xA, xok G A53 → R53 A53 → (Q A53)))) ∧ (((A48.I b1 1) < 0 → J52 A51) ∧ (¬ (A48.I b1 1) < 0 → A51.tg p = 8 ∧ (∃ R55 : Int32 → xA → Prop, w_X8_fresh G p R55 A51 ∧ (∀ (v55 : Int32) (A55 : xA), xok G A55 → R55 v55 A55 → (A55.tg p = 8 ∧ (∃ R57 : xA → Prop, w_X8_define G p (A48.I b1 1) v55 R57 A55 ∧ (∀ A57 : xA, xok G A57 → R57 A57 → (J52 A57)))))))))))))) ∧ (((A3.I b1 0) = (31 : Int32)) → A3.tg p = 8 ∧ (∃ R59 : xA → Prop, w_X8_forget G p (A3.P b1 7) (0 : Int32) R59 A3 ∧ (∀ A59 : xA, xok G A59 → R59 A59 → (A59.tg b1 = 36 ∧ (∃ J62 : xA → Prop, (∀ (A62 : xA), J62 A62 → A62.tg p = 8 ∧ (∃ R63 : xA → Prop, w_X8_keep G p (some b1) R63 A62 ∧ (∀ A63 : xA, xok G A63 → R63 A63 → (Q A63)))) ∧ (((A59.I b1 1) < 0 → J62 A59) ∧ (¬ (A59.I b1 1) < 0 → A59.tg p = 8 ∧ (∃ R65 : Int32 → xA → Prop, w_X8_fresh G p R65 A59 ∧ (∀ (v65 : Int32) (A65 : xA), xok G A65 → R65 v65 A65 → (A65.tg p = 8 ∧ (∃ R67 : xA → Prop, w_X8_define G p (A59.I b1 1) v65 R67 A65 ∧ (∀ A67 : xA, xok G A67 → R67 A67 → (J62 A67))))))))))))) ∧ ((¬ (A3.I b1 0) = (20 : Int32) ∧ ¬ (A3.I b1 0) = (32 : Int32) ∧ ¬ (A3.I b1 0) = (23 : Int32) ∧ ¬ (A3.I b1 0) = (24 : Int32) ∧ ¬ (A3.I b1 0) = (25 : Int32) ∧ ¬ (A3.I b1 0) = (26 : Int32) ∧ ¬ (A3.I b1 0) = (28 : Int32) ∧ ¬ (A3.I b1 0) = (30 : Int32) ∧ ¬ (A3.I b1 0) = (31 : Int32)) → ∃ J69 : xA → Prop, (∀ (A69 : xA), J69 A69 → A69.tg p = 8 ∧ (∃ R70 : xA → Prop, w_X8_keep G p (some b1) R70 A69 ∧ (∀ A70 : xA, xok G A70 → R70 A70 → (Q A70)))) ∧ (((A3.I b1 1) < 0 → J69 A3) ∧ (¬ (A3.I b1 1) < 0 → A3.tg p = 8 ∧ (∃ R72 : Int32 → xA → Prop, w_X8_fresh G p R72 A3 ∧ (∀ (v72 : Int32) (A72 : xA), xok G A72 → R72 v72 A72 → (A72.tg p = 8 ∧ (∃ R74 : xA → Prop, w_X8_define G p (A3.I b1 1) v72 R74 A72 ∧ (∀ A74 : xA, xok G A74 → R74 A74 → (J69 A74)))))))))))) ∧ (¬ v3 = 0 → A3.tg p = 8 ∧ (∃ R76 : xA → Prop, w_X8_load G p (some b1) R76 A3 ∧ (∀ A76 : xA, xok G A76 → R76 A76 → (Q A76)))))))) ∧ (¬ (f_X0_below (A.I b1 0)) = 0 → A.tg p = 8 ∧ (∃ R78 : xA → Prop, w_X8_sum G p (some b1) R78 A ∧ (∀ A78 : xA, xok G A78 → R78 A78 → (Q A78)))))))
theorem m_X8_act (hG : xOK G) (hO : xHO G) {dp : Nat} {p : Nat} {x : Option Nat} {Q : xA → Prop} {A : xA} (h : w_X8_act G p x Q A) : MX G (dp + 7) kX8_act [.ref p, va_rf x] A (hV Q) := by
  unfold w_X8_act at h
  refine MX.of rfl (by cases x <;> exact Nat.le_of_ble_eq_true rfl) ?_
  refine X.lvs (lv' := [some (.ref p), some (va_rf x), none]) (by cases x <;> rfl) ?_
  refine X.xok (fun w0 => ?_)
  replace h := h w0
  refine x_aloadq_n dX8_act_0 rfl ?_
  obtain ⟨b1, e1, h⟩ := h
  rw [e1]
  obtain ⟨o2, h⟩ := h
  refine x_get (v := .int (A.I b1 0)) hG dX8_act_1 f_X8_212_35 o2 rfl ?_
  refine x_callS hG (Ky := kX0_below) (As := [.int (A.I b1 0)]) dX8_act_4 lk_X8_214 me_X0_below st_X0_below rfl rfl (Nat.le_of_ble_eq_true rfl) (MX.post (m_X0_below hG) ?_)
  rintro _ _ ⟨rfl, rfl⟩
  change X _ _ _ _ _ _ _ (.int (f_X0_below (A.I b1 0)) :: _)
  refine x_if_eq (tgt := 16) dX8_act_7 (by decide) (fun c7 => ?_) (fun c7 => ?_)
  · replace h := h.1 c7
    refine x_aload_n dX8_act_16 rfl ?_
    obtain ⟨R3, g3, h⟩ := h
    refine x_callV hG (Ky := kX37_isLoad) (As := []) dX8_act_17 o2 rfl lk_X8_345 me_X37_isLoad is_X37_isLoad se_X37_isLoad rfl rfl (Nat.le_of_ble_eq_true rfl) (MX.post (m_X37_isLoad hG hO g3) ?_)
    rintro _ A3 ⟨v3, rfl, zv3, h1⟩
    refine X.xok (fun w3 => ?_)
    replace h := h v3 A3 w3 zv3 h1
    change X _ _ _ _ A3 _ _ [.int v3]
    refine x_if_eq (tgt := 29) dX8_act_20 (by decide) (fun c20 => ?_) (fun c20 => ?_)
    · replace h := h.1 c20
      refine x_aload_n dX8_act_29 rfl ?_
      obtain ⟨o4, h⟩ := h
      refine x_get (v := .int (A3.I b1 0)) hG dX8_act_30 f_X8_212_35 o4 rfl ?_
      have kt5_0 : ((A3.I b1 0) = (20 : Int32)) → X G (dp + 7) kX8_act (hV Q) A3 100 [some (.ref p), some (.ref b1), none] [] := by
        intro c33
        replace h := h.1 c33
        refine x_aload_n dX8_act_100 rfl ?_
        refine x_aload_n dX8_act_101 rfl ?_
        refine x_aload_n dX8_act_102 rfl ?_
        refine x_get (v := .long (A3.L b1 2)) hG dX8_act_103 f_X8_213_35 o4 rfl ?_
        obtain ⟨o7, h⟩ := h
        obtain ⟨R6, g6, h⟩ := h
        refine x_callV hG (Ky := kX8_move) (As := [.ref b1, .long (A3.L b1 2)]) dX8_act_106 o7 rfl lk_X8_351 me_X8_move is_X8_move se_X8_move rfl rfl (Nat.le_of_ble_eq_true rfl) (MX.post (m_X8_move hG hO g6) ?_)
        rintro _ A6 ⟨rfl, h1⟩
        refine X.xok (fun w6 => ?_)
        replace h := h A6 w6 h1
        change X _ _ _ _ A6 _ _ []
        exact x_vret dX8_act_109 rfl ⟨rfl, h⟩
      have kt5_1 : ((A3.I b1 0) = (32 : Int32)) → X G (dp + 7) kX8_act (hV Q) A3 110 [some (.ref p), some (.ref b1), none] [] := by
        intro c33
        replace h := h.2.1 c33
        refine x_aload_n dX8_act_110 rfl ?_
        refine x_aload_n dX8_act_111 rfl ?_
        refine x_aload_n dX8_act_112 rfl ?_
        refine x_aload_n dX8_act_113 rfl ?_
        refine x_get (v := .int (A3.I b1 5)) hG dX8_act_114 f_X8_355_35 o4 rfl ?_
        obtain ⟨o9, h⟩ := h
        obtain ⟨R8, g8, h⟩ := h
        refine x_callV hG (Ky := kX8_ofConstant) (As := [.int (A3.I b1 5)]) dX8_act_117 o9 rfl lk_X8_230 me_X8_ofConstant is_X8_ofConstant se_X8_ofConstant rfl rfl (Nat.le_of_ble_eq_true rfl) (MX.post (m_X8_ofConstant hG hO g8) ?_)
        rintro _ A8 ⟨v8, rfl, h1⟩
        refine X.xok (fun w8 => ?_)
        replace h := h v8 A8 w8 h1
        change X _ _ _ _ A8 _ _ [.int v8, .ref b1, .ref p]
        refine x_aload_n dX8_act_120 rfl ?_
        refine x_iconst_ (v := (0 : Int32)) dX8_act_121 (by decide) ?_
        obtain ⟨o11, h⟩ := h
        obtain ⟨R10, g10, h⟩ := h
        refine x_callV hG (Ky := kX8_ofConstant) (As := [.int (0 : Int32)]) dX8_act_122 o11 rfl lk_X8_230 me_X8_ofConstant is_X8_ofConstant se_X8_ofConstant rfl rfl (Nat.le_of_ble_eq_true rfl) (MX.post (m_X8_ofConstant hG hO g10) ?_)
        rintro _ A10 ⟨v10, rfl, h1⟩
        refine X.xok (fun w10 => ?_)
        replace h := h v10 A10 w10 h1
        change X _ _ _ _ A10 _ _ [.int v10, .int v8, .ref b1, .ref p]
        obtain ⟨o13, h⟩ := h
        obtain ⟨R12, g12, h⟩ := h
        refine x_callV hG (Ky := kX8_remember) (As := [.ref b1, .int v8, .int v10]) dX8_act_125 o13 rfl lk_X8_358 me_X8_remember is_X8_remember se_X8_remember rfl rfl (Nat.le_of_ble_eq_true rfl) (MX.post (m_X8_remember hG hO g12) ?_)
        rintro _ A12 ⟨rfl, h1⟩
        refine X.xok (fun w12 => ?_)
        replace h := h A12 w12 h1
        change X _ _ _ _ A12 _ _ []
        exact x_vret dX8_act_128 rfl ⟨rfl, h⟩
      have kt5_2 : ((A3.I b1 0) = (23 : Int32) ∨ (A3.I b1 0) = (24 : Int32)) → X G (dp + 7) kX8_act (hV Q) A3 129 [some (.ref p), some (.ref b1), none] [] := by
        intro c33
        replace h := h.2.2.1 c33
        refine x_aload_n dX8_act_129 rfl ?_
        refine x_aload_n dX8_act_130 rfl ?_
        obtain ⟨o15, h⟩ := h
        obtain ⟨R14, g14, h⟩ := h
        refine x_callV hG (Ky := kX8_store) (As := [.ref b1]) dX8_act_131 o15 rfl lk_X8_362 me_X8_store is_X8_store se_X8_store rfl rfl (Nat.le_of_ble_eq_true rfl) (MX.post (m_X8_store hG hO g14) ?_)
        rintro _ A14 ⟨rfl, h1⟩
        refine X.xok (fun w14 => ?_)
        replace h := h A14 w14 h1
        change X _ _ _ _ A14 _ _ []
        exact x_vret dX8_act_134 rfl ⟨rfl, h⟩
      have kt5_3 : ((A3.I b1 0) = (25 : Int32)) → X G (dp + 7) kX8_act (hV Q) A3 135 [some (.ref p), some (.ref b1), none] [] := by
        intro c33
        replace h := h.2.2.2.1 c33
        refine x_aload_n dX8_act_135 rfl ?_
        refine x_aload_n dX8_act_136 rfl ?_
        obtain ⟨o17, h⟩ := h
        obtain ⟨R16, g16, h⟩ := h
        refine x_callV hG (Ky := kX8_check) (As := [.ref b1]) dX8_act_137 o17 rfl lk_X8_365 me_X8_check is_X8_check se_X8_check rfl rfl (Nat.le_of_ble_eq_true rfl) (MX.post (m_X8_check hG hO g16) ?_)
        rintro _ A16 ⟨rfl, h1⟩
        refine X.xok (fun w16 => ?_)
        replace h := h A16 w16 h1
        change X _ _ _ _ A16 _ _ []
        exact x_vret dX8_act_140 rfl ⟨rfl, h⟩
      have kt5_4 : ((A3.I b1 0) = (26 : Int32)) → X G (dp + 7) kX8_act (hV Q) A3 141 [some (.ref p), some (.ref b1), none] [] := by
        intro c33
        replace h := h.2.2.2.2.1 c33
        refine x_iconst_ (v := (0 : Int32)) dX8_act_141 (by decide) ?_
        refine x_istore_n dX8_act_142 (by decide) ?_
        obtain ⟨L18, ⟨n18, i18⟩, g18⟩ := h
        have kl18 : ∀ n18 : Nat, ∀ (y18_2 : Int32) (A18 : xA), L18 n18 y18_2 A18 → X G (dp + 7) kX8_act (hV Q) A18 143 [some (.ref p), some (.ref b1), some (.int y18_2)] [] := by
          intro n18
          induction n18 using Nat.strongRecOn with
          | ind n18 ih18 =>
            intro y18_2 A18 h
            replace h := g18 n18 y18_2 A18 h
            refine x_iload_n dX8_act_143 rfl ?_
            refine x_aload_n dX8_act_144 rfl ?_
            obtain ⟨o19, h⟩ := h
            refine x_get (v := va_rf (A18.P b1 9)) hG dX8_act_145 f_X8_222_35 o19 rfl ?_
            obtain ⟨b20, e20, h⟩ := h
            rw [e20]
            obtain ⟨o21, h⟩ := h
            refine x_alen hG (j := 1) dX8_act_148 o21 ?_
            refine x_icmp_ge (tgt := 174) dX8_act_149 (by decide) (fun c149 => ?_) (fun c149 => ?_)
            · replace h := h.1 c149
              refine x_aload_n dX8_act_174 rfl ?_
              refine x_null dX8_act_175 ?_
              refine x_aload_n dX8_act_176 rfl ?_
              refine x_get (v := va_rf (A18.P b1 8)) hG dX8_act_177 f_X8_368_35 o19 rfl ?_
              obtain ⟨b23, e23, h⟩ := h
              rw [e23]
              obtain ⟨o24, h⟩ := h
              obtain ⟨R22, g22, h⟩ := h
              refine x_callV hG (Ky := kX14_words) (As := []) dX8_act_180 o24 rfl lk_X8_372 me_X14_words is_X14_words se_X14_words rfl rfl (Nat.le_of_ble_eq_true rfl) (MX.post (m_X14_words hG hO g22) ?_)
              rintro _ A22 ⟨v22, rfl, h1⟩
              refine X.xok (fun w22 => ?_)
              replace h := h v22 A22 w22 h1
              change X _ _ _ _ A22 _ _ [.int v22, .null, .ref p]
              refine x_aload_n dX8_act_183 rfl ?_
              obtain ⟨o25, h⟩ := h
              refine x_get (v := va_rf (A22.P b1 8)) hG dX8_act_184 f_X8_368_35 o25 rfl ?_
              obtain ⟨b26, e26, h⟩ := h
              rw [e26]
              obtain ⟨o27, h⟩ := h
              refine x_get (v := va_rf (A22.P b26 8)) hG dX8_act_187 f_X8_377_13 o27 rfl ?_
              obtain ⟨b29, e29, h⟩ := h
              rw [e29]
              obtain ⟨o30, h⟩ := h
              obtain ⟨R28, g28, h⟩ := h
              refine x_callV hG (Ky := kJ5_size) (As := []) dX8_act_190 o30 rfl lk_X8_73 me_J5_size is_J5_size se_J5_size rfl rfl (Nat.le_of_ble_eq_true rfl) (MX.post (m_w_J5_size hG hO g28) ?_)
              rintro _ A28 ⟨v28, rfl, h1⟩
              refine X.xok (fun w28 => ?_)
              replace h := h v28 A28 w28 h1
              change X _ _ _ _ A28 _ _ [.int v28, .int v22, .null, .ref p]
              refine x_via 201 (A' := A28) (lv' := [some (.ref p), some (.ref b1), none]) (st' := [.int (if v22 ≤ v28 then (0 : Int32) else (1 : Int32)), .null, .ref p]) ?_ (fun k201 => ?_)
              rotate_left
              · refine x_icmp_le (tgt := 200) dX8_act_193 (by decide) (fun c193 => ?_) (fun c193 => ?_)
                · refine x_iconst_ (v := (0 : Int32)) dX8_act_200 (by decide) ?_
                  change X _ _ _ _ _ _ [some (.ref p), some (.ref b1), some (.int y18_2)] [.int (0 : Int32), .null, .ref p]
                  simp only [if_pos c193] at k201 ⊢
                  exact X.weak (xle_c rfl (xle_c rfl (xle_n xle_nil))) k201
                · refine x_iconst_ (v := (1 : Int32)) dX8_act_196 (by decide) ?_
                  refine x_goto (tgt := 201) dX8_act_197 (by decide) ?_
                  change X _ _ _ _ _ _ [some (.ref p), some (.ref b1), some (.int y18_2)] [.int (1 : Int32), .null, .ref p]
                  simp only [if_neg c193] at k201 ⊢
                  exact X.weak (xle_c rfl (xle_c rfl (xle_n xle_nil))) k201
              obtain ⟨o32, h⟩ := h
              obtain ⟨R31, g31, h⟩ := h
              refine x_callV hG (Ky := kX8_forget) (As := [.null, .int (if v22 ≤ v28 then (0 : Int32) else (1 : Int32))]) dX8_act_201 o32 rfl lk_X8_380 me_X8_forget is_X8_forget se_X8_forget rfl rfl (Nat.le_of_ble_eq_true rfl) (MX.post (m_X8_forget hG hO g31) ?_)
              rintro _ A31 ⟨rfl, h1⟩
              refine X.xok (fun w31 => ?_)
              replace h := h A31 w31 h1
              change X _ _ _ _ A31 _ _ []
              refine x_goto (tgt := 234) dX8_act_204 (by decide) ?_
              refine x_aload_n dX8_act_234 rfl ?_
              obtain ⟨o33, h⟩ := h
              refine x_get (v := .int (A31.I b1 1)) hG dX8_act_235 f_X8_209_35 o33 rfl ?_
              obtain ⟨J34, g34, h⟩ := h
              have kj34 : ∀ (A34 : xA), J34 A34 → X G (dp + 7) kX8_act (hV Q) A34 253 [some (.ref p), some (.ref b1), none] [] := by
                intro A34 h
                replace h := g34 A34 h
                refine x_aload_n dX8_act_253 rfl ?_
                refine x_aload_n dX8_act_254 rfl ?_
                obtain ⟨o36, h⟩ := h
                obtain ⟨R35, g35, h⟩ := h
                refine x_callV hG (Ky := kX8_keep) (As := [.ref b1]) dX8_act_255 o36 rfl lk_X8_339 me_X8_keep is_X8_keep se_X8_keep rfl rfl (Nat.le_of_ble_eq_true rfl) (MX.post (m_X8_keep hG hO g35) ?_)
                rintro _ A35 ⟨rfl, h1⟩
                refine X.xok (fun w35 => ?_)
                replace h := h A35 w35 h1
                change X _ _ _ _ A35 _ _ []
                exact x_vret dX8_act_258 rfl ⟨rfl, h⟩
              refine x_if_lt (tgt := 253) dX8_act_238 (by decide) (fun c238 => ?_) (fun c238 => ?_)
              · replace h := h.1 c238
                change X _ _ _ _ _ _ [some (.ref p), some (.ref b1), none] []
                exact X.weak (xle_c rfl (xle_c rfl (xle_n xle_nil))) (kj34 A31 h)
              · replace h := h.2 c238
                refine x_aload_n dX8_act_241 rfl ?_
                refine x_aload_n dX8_act_242 rfl ?_
                refine x_get (v := .int (A31.I b1 1)) hG dX8_act_243 f_X8_209_35 o33 rfl ?_
                refine x_aload_n dX8_act_246 rfl ?_
                obtain ⟨o38, h⟩ := h
                obtain ⟨R37, g37, h⟩ := h
                refine x_callV hG (Ky := kX8_fresh) (As := []) dX8_act_247 o38 rfl lk_X8_315 me_X8_fresh is_X8_fresh se_X8_fresh rfl rfl (Nat.le_of_ble_eq_true rfl) (MX.post (m_X8_fresh hG hO g37) ?_)
                rintro _ A37 ⟨v37, rfl, h1⟩
                refine X.xok (fun w37 => ?_)
                replace h := h v37 A37 w37 h1
                change X _ _ _ _ A37 _ _ [.int v37, .int (A31.I b1 1), .ref p]
                obtain ⟨o40, h⟩ := h
                obtain ⟨R39, g39, h⟩ := h
                refine x_callV hG (Ky := kX8_define) (As := [.int (A31.I b1 1), .int v37]) dX8_act_250 o40 rfl lk_X8_234 me_X8_define is_X8_define se_X8_define rfl rfl (Nat.le_of_ble_eq_true rfl) (MX.post (m_X8_define hG hO g39) ?_)
                rintro _ A39 ⟨rfl, h1⟩
                refine X.xok (fun w39 => ?_)
                replace h := h A39 w39 h1
                change X _ _ _ _ A39 _ _ []
                change X _ _ _ _ _ _ [some (.ref p), some (.ref b1), none] []
                exact X.weak (xle_c rfl (xle_c rfl (xle_n xle_nil))) (kj34 A39 h)
            · replace h := h.2 c149
              refine x_aload_n dX8_act_152 rfl ?_
              refine x_get (v := .ref b20) hG dX8_act_153 f_X8_222_35 o19 (congrArg va_rf e20) ?_
              refine x_iload_n dX8_act_156 rfl ?_
              refine x_aload_n dX8_act_157 rfl ?_
              refine x_aload_n dX8_act_158 rfl ?_
              refine x_get (v := .ref b20) hG dX8_act_159 f_X8_222_35 o19 (congrArg va_rf e20) ?_
              refine x_iload_n dX8_act_162 rfl ?_
              obtain ⟨o41, h⟩ := h
              refine x_lald hG dX8_act_163 o21 o41 ?_
              obtain ⟨o43, h⟩ := h
              obtain ⟨R42, g42, h⟩ := h
              refine x_callV hG (Ky := kX8_fit) (As := [.long (A18.L b20 (ix y18_2))]) dX8_act_164 o43 rfl lk_X8_331 me_X8_fit is_X8_fit se_X8_fit rfl rfl (Nat.le_of_ble_eq_true rfl) (MX.post (m_X8_fit hG hO g42) ?_)
              rintro _ A42 ⟨v42, rfl, h1⟩
              refine X.xok (fun w42 => ?_)
              replace h := h v42 A42 w42 h1
              change X _ _ _ _ A42 _ _ [.long v42, .int y18_2, .ref b20]
              obtain ⟨o44, h⟩ := h
              obtain ⟨o45, h⟩ := h
              obtain ⟨o46, h⟩ := h
              refine z_last hG dX8_act_167 o44 o45 o46 (fun A47 e47 => ?_)
              replace h := h A47 e47
              refine x_iinc (v := (y18_2 + (1 : Int32))) dX8_act_168 rfl rfl (by decide) ?_
              refine x_goto (tgt := 143) dX8_act_171 (by decide) ?_
              obtain ⟨q18, l18, h⟩ := h
              change X _ _ _ _ _ _ [some (.ref p), some (.ref b1), some (.int (y18_2 + (1 : Int32)))] []
              exact X.weak (xle_c rfl (xle_c rfl (xle_c rfl xle_nil))) (ih18 q18 l18 (y18_2 + (1 : Int32)) A47 h)
        change X _ _ _ _ _ _ [some (.ref p), some (.ref b1), some (.int (0 : Int32))] []
        exact X.weak (xle_c rfl (xle_c rfl (xle_c rfl xle_nil))) (kl18 n18 (0 : Int32) A3 i18)
      have kt5_5 : ((A3.I b1 0) = (28 : Int32) ∨ (A3.I b1 0) = (30 : Int32)) → X G (dp + 7) kX8_act (hV Q) A3 207 [some (.ref p), some (.ref b1), none] [] := by
        intro c33
        replace h := h.2.2.2.2.2.1 c33
        refine x_aload_n dX8_act_207 rfl ?_
        refine x_aload_n dX8_act_208 rfl ?_
        refine x_aload_n dX8_act_209 rfl ?_
        refine x_get (v := .long (A3.L b1 2)) hG dX8_act_210 f_X8_213_35 o4 rfl ?_
        obtain ⟨o49, h⟩ := h
        obtain ⟨R48, g48, h⟩ := h
        refine x_callV hG (Ky := kX8_fit) (As := [.long (A3.L b1 2)]) dX8_act_213 o49 rfl lk_X8_331 me_X8_fit is_X8_fit se_X8_fit rfl rfl (Nat.le_of_ble_eq_true rfl) (MX.post (m_X8_fit hG hO g48) ?_)
        rintro _ A48 ⟨v48, rfl, h1⟩
        refine X.xok (fun w48 => ?_)
        replace h := h v48 A48 w48 h1
        change X _ _ _ _ A48 _ _ [.long v48, .ref b1]
        obtain ⟨o50, h⟩ := h
        refine z_putL hG hO.1 dX8_act_216 f_X8_213_35 ⟨_, rfl, Or.inl rfl⟩ o50 (by decide) rfl rfl ⟨_, rfl⟩ (fun A51 e51 => ?_)
        replace h := h A51 e51
        refine x_goto (tgt := 234) dX8_act_219 (by decide) ?_
        refine x_aload_n dX8_act_234 rfl ?_
        refine x_get (v := .int (A48.I b1 1)) hG dX8_act_235 f_X8_209_35 (kL e51 o50) (congrArg Value.int (sL_I e51)) ?_
        obtain ⟨J52, g52, h⟩ := h
        have kj52 : ∀ (A52 : xA), J52 A52 → X G (dp + 7) kX8_act (hV Q) A52 253 [some (.ref p), some (.ref b1), none] [] := by
          intro A52 h
          replace h := g52 A52 h
          refine x_aload_n dX8_act_253 rfl ?_
          refine x_aload_n dX8_act_254 rfl ?_
          obtain ⟨o54, h⟩ := h
          obtain ⟨R53, g53, h⟩ := h
          refine x_callV hG (Ky := kX8_keep) (As := [.ref b1]) dX8_act_255 o54 rfl lk_X8_339 me_X8_keep is_X8_keep se_X8_keep rfl rfl (Nat.le_of_ble_eq_true rfl) (MX.post (m_X8_keep hG hO g53) ?_)
          rintro _ A53 ⟨rfl, h1⟩
          refine X.xok (fun w53 => ?_)
          replace h := h A53 w53 h1
          change X _ _ _ _ A53 _ _ []
          exact x_vret dX8_act_258 rfl ⟨rfl, h⟩
        refine x_if_lt (tgt := 253) dX8_act_238 (by decide) (fun c238 => ?_) (fun c238 => ?_)
        · replace h := h.1 c238
          change X _ _ _ _ _ _ [some (.ref p), some (.ref b1), none] []
          exact X.weak (xle_c rfl (xle_c rfl (xle_n xle_nil))) (kj52 A51 h)
        · replace h := h.2 c238
          refine x_aload_n dX8_act_241 rfl ?_
          refine x_aload_n dX8_act_242 rfl ?_
          refine x_get (v := .int (A48.I b1 1)) hG dX8_act_243 f_X8_209_35 (kL e51 o50) (congrArg Value.int (sL_I e51)) ?_
          refine x_aload_n dX8_act_246 rfl ?_
          obtain ⟨o56, h⟩ := h
          obtain ⟨R55, g55, h⟩ := h
          refine x_callV hG (Ky := kX8_fresh) (As := []) dX8_act_247 o56 rfl lk_X8_315 me_X8_fresh is_X8_fresh se_X8_fresh rfl rfl (Nat.le_of_ble_eq_true rfl) (MX.post (m_X8_fresh hG hO g55) ?_)
          rintro _ A55 ⟨v55, rfl, h1⟩
          refine X.xok (fun w55 => ?_)
          replace h := h v55 A55 w55 h1
          change X _ _ _ _ A55 _ _ [.int v55, .int (A48.I b1 1), .ref p]
          obtain ⟨o58, h⟩ := h
          obtain ⟨R57, g57, h⟩ := h
          refine x_callV hG (Ky := kX8_define) (As := [.int (A48.I b1 1), .int v55]) dX8_act_250 o58 rfl lk_X8_234 me_X8_define is_X8_define se_X8_define rfl rfl (Nat.le_of_ble_eq_true rfl) (MX.post (m_X8_define hG hO g57) ?_)
          rintro _ A57 ⟨rfl, h1⟩
          refine X.xok (fun w57 => ?_)
          replace h := h A57 w57 h1
          change X _ _ _ _ A57 _ _ []
          change X _ _ _ _ _ _ [some (.ref p), some (.ref b1), none] []
          exact X.weak (xle_c rfl (xle_c rfl (xle_n xle_nil))) (kj52 A57 h)
      have kt5_6 : ((A3.I b1 0) = (31 : Int32)) → X G (dp + 7) kX8_act (hV Q) A3 222 [some (.ref p), some (.ref b1), none] [] := by
        intro c33
        replace h := h.2.2.2.2.2.2.1 c33
        refine x_aload_n dX8_act_222 rfl ?_
        refine x_aload_n dX8_act_223 rfl ?_
        refine x_get (v := va_rf (A3.P b1 7)) hG dX8_act_224 f_X8_335_35 o4 rfl ?_
        refine x_iconst_ (v := (0 : Int32)) dX8_act_227 (by decide) ?_
        obtain ⟨o60, h⟩ := h
        obtain ⟨R59, g59, h⟩ := h
        refine x_callV hG (Ky := kX8_forget) (As := [va_rf (A3.P b1 7), .int (0 : Int32)]) dX8_act_228 o60 rfl lk_X8_380 me_X8_forget is_X8_forget se_X8_forget rfl rfl (Nat.le_of_ble_eq_true rfl) (MX.post (m_X8_forget hG hO g59) ?_)
        rintro _ A59 ⟨rfl, h1⟩
        refine X.xok (fun w59 => ?_)
        replace h := h A59 w59 h1
        change X _ _ _ _ A59 _ _ []
        refine x_goto (tgt := 234) dX8_act_231 (by decide) ?_
        refine x_aload_n dX8_act_234 rfl ?_
        obtain ⟨o61, h⟩ := h
        refine x_get (v := .int (A59.I b1 1)) hG dX8_act_235 f_X8_209_35 o61 rfl ?_
        obtain ⟨J62, g62, h⟩ := h
        have kj62 : ∀ (A62 : xA), J62 A62 → X G (dp + 7) kX8_act (hV Q) A62 253 [some (.ref p), some (.ref b1), none] [] := by
          intro A62 h
          replace h := g62 A62 h
          refine x_aload_n dX8_act_253 rfl ?_
          refine x_aload_n dX8_act_254 rfl ?_
          obtain ⟨o64, h⟩ := h
          obtain ⟨R63, g63, h⟩ := h
          refine x_callV hG (Ky := kX8_keep) (As := [.ref b1]) dX8_act_255 o64 rfl lk_X8_339 me_X8_keep is_X8_keep se_X8_keep rfl rfl (Nat.le_of_ble_eq_true rfl) (MX.post (m_X8_keep hG hO g63) ?_)
          rintro _ A63 ⟨rfl, h1⟩
          refine X.xok (fun w63 => ?_)
          replace h := h A63 w63 h1
          change X _ _ _ _ A63 _ _ []
          exact x_vret dX8_act_258 rfl ⟨rfl, h⟩
        refine x_if_lt (tgt := 253) dX8_act_238 (by decide) (fun c238 => ?_) (fun c238 => ?_)
        · replace h := h.1 c238
          change X _ _ _ _ _ _ [some (.ref p), some (.ref b1), none] []
          exact X.weak (xle_c rfl (xle_c rfl (xle_n xle_nil))) (kj62 A59 h)
        · replace h := h.2 c238
          refine x_aload_n dX8_act_241 rfl ?_
          refine x_aload_n dX8_act_242 rfl ?_
          refine x_get (v := .int (A59.I b1 1)) hG dX8_act_243 f_X8_209_35 o61 rfl ?_
          refine x_aload_n dX8_act_246 rfl ?_
          obtain ⟨o66, h⟩ := h
          obtain ⟨R65, g65, h⟩ := h
          refine x_callV hG (Ky := kX8_fresh) (As := []) dX8_act_247 o66 rfl lk_X8_315 me_X8_fresh is_X8_fresh se_X8_fresh rfl rfl (Nat.le_of_ble_eq_true rfl) (MX.post (m_X8_fresh hG hO g65) ?_)
          rintro _ A65 ⟨v65, rfl, h1⟩
          refine X.xok (fun w65 => ?_)
          replace h := h v65 A65 w65 h1
          change X _ _ _ _ A65 _ _ [.int v65, .int (A59.I b1 1), .ref p]
          obtain ⟨o68, h⟩ := h
          obtain ⟨R67, g67, h⟩ := h
          refine x_callV hG (Ky := kX8_define) (As := [.int (A59.I b1 1), .int v65]) dX8_act_250 o68 rfl lk_X8_234 me_X8_define is_X8_define se_X8_define rfl rfl (Nat.le_of_ble_eq_true rfl) (MX.post (m_X8_define hG hO g67) ?_)
          rintro _ A67 ⟨rfl, h1⟩
          refine X.xok (fun w67 => ?_)
          replace h := h A67 w67 h1
          change X _ _ _ _ A67 _ _ []
          change X _ _ _ _ _ _ [some (.ref p), some (.ref b1), none] []
          exact X.weak (xle_c rfl (xle_c rfl (xle_n xle_nil))) (kj62 A67 h)
      have kd5 : (¬ (A3.I b1 0) = (20 : Int32) ∧ ¬ (A3.I b1 0) = (32 : Int32) ∧ ¬ (A3.I b1 0) = (23 : Int32) ∧ ¬ (A3.I b1 0) = (24 : Int32) ∧ ¬ (A3.I b1 0) = (25 : Int32) ∧ ¬ (A3.I b1 0) = (26 : Int32) ∧ ¬ (A3.I b1 0) = (28 : Int32) ∧ ¬ (A3.I b1 0) = (30 : Int32) ∧ ¬ (A3.I b1 0) = (31 : Int32)) → X G (dp + 7) kX8_act (hV Q) A3 234 [some (.ref p), some (.ref b1), none] [] := by
        intro c33
        replace h := h.2.2.2.2.2.2.2 c33
        refine x_aload_n dX8_act_234 rfl ?_
        refine x_get (v := .int (A3.I b1 1)) hG dX8_act_235 f_X8_209_35 o4 rfl ?_
        obtain ⟨J69, g69, h⟩ := h
        have kj69 : ∀ (A69 : xA), J69 A69 → X G (dp + 7) kX8_act (hV Q) A69 253 [some (.ref p), some (.ref b1), none] [] := by
          intro A69 h
          replace h := g69 A69 h
          refine x_aload_n dX8_act_253 rfl ?_
          refine x_aload_n dX8_act_254 rfl ?_
          obtain ⟨o71, h⟩ := h
          obtain ⟨R70, g70, h⟩ := h
          refine x_callV hG (Ky := kX8_keep) (As := [.ref b1]) dX8_act_255 o71 rfl lk_X8_339 me_X8_keep is_X8_keep se_X8_keep rfl rfl (Nat.le_of_ble_eq_true rfl) (MX.post (m_X8_keep hG hO g70) ?_)
          rintro _ A70 ⟨rfl, h1⟩
          refine X.xok (fun w70 => ?_)
          replace h := h A70 w70 h1
          change X _ _ _ _ A70 _ _ []
          exact x_vret dX8_act_258 rfl ⟨rfl, h⟩
        refine x_if_lt (tgt := 253) dX8_act_238 (by decide) (fun c238 => ?_) (fun c238 => ?_)
        · replace h := h.1 c238
          change X _ _ _ _ _ _ [some (.ref p), some (.ref b1), none] []
          exact X.weak (xle_c rfl (xle_c rfl (xle_n xle_nil))) (kj69 A3 h)
        · replace h := h.2 c238
          refine x_aload_n dX8_act_241 rfl ?_
          refine x_aload_n dX8_act_242 rfl ?_
          refine x_get (v := .int (A3.I b1 1)) hG dX8_act_243 f_X8_209_35 o4 rfl ?_
          refine x_aload_n dX8_act_246 rfl ?_
          obtain ⟨o73, h⟩ := h
          obtain ⟨R72, g72, h⟩ := h
          refine x_callV hG (Ky := kX8_fresh) (As := []) dX8_act_247 o73 rfl lk_X8_315 me_X8_fresh is_X8_fresh se_X8_fresh rfl rfl (Nat.le_of_ble_eq_true rfl) (MX.post (m_X8_fresh hG hO g72) ?_)
          rintro _ A72 ⟨v72, rfl, h1⟩
          refine X.xok (fun w72 => ?_)
          replace h := h v72 A72 w72 h1
          change X _ _ _ _ A72 _ _ [.int v72, .int (A3.I b1 1), .ref p]
          obtain ⟨o75, h⟩ := h
          obtain ⟨R74, g74, h⟩ := h
          refine x_callV hG (Ky := kX8_define) (As := [.int (A3.I b1 1), .int v72]) dX8_act_250 o75 rfl lk_X8_234 me_X8_define is_X8_define se_X8_define rfl rfl (Nat.le_of_ble_eq_true rfl) (MX.post (m_X8_define hG hO g74) ?_)
          rintro _ A74 ⟨rfl, h1⟩
          refine X.xok (fun w74 => ?_)
          replace h := h A74 w74 h1
          change X _ _ _ _ A74 _ _ []
          change X _ _ _ _ _ _ [some (.ref p), some (.ref b1), none] []
          exact X.weak (xle_c rfl (xle_c rfl (xle_n xle_nil))) (kj69 A74 h)
      refine x_sw (20 : Int32) (fun s33_0 => ?_) (fun s33_0 => ?_)
      · refine x_tableIn (off := 67) (tgt := 100) dX8_act_33 (by rw [s33_0]; decide) (by rw [s33_0]; decide) (by rw [s33_0]; rfl) (by decide) ?_
        exact kt5_0 s33_0
      refine x_sw (21 : Int32) (fun s33_1 => ?_) (fun s33_1 => ?_)
      · refine x_tableIn (off := 201) (tgt := 234) dX8_act_33 (by rw [s33_1]; decide) (by rw [s33_1]; decide) (by rw [s33_1]; rfl) (by decide) ?_
        exact kd5 (by rw [s33_1]; decide)
      refine x_sw (22 : Int32) (fun s33_2 => ?_) (fun s33_2 => ?_)
      · refine x_tableIn (off := 201) (tgt := 234) dX8_act_33 (by rw [s33_2]; decide) (by rw [s33_2]; decide) (by rw [s33_2]; rfl) (by decide) ?_
        exact kd5 (by rw [s33_2]; decide)
      refine x_sw (23 : Int32) (fun s33_3 => ?_) (fun s33_3 => ?_)
      · refine x_tableIn (off := 96) (tgt := 129) dX8_act_33 (by rw [s33_3]; decide) (by rw [s33_3]; decide) (by rw [s33_3]; rfl) (by decide) ?_
        exact kt5_2 (by simp only [s33_3]; decide)
      refine x_sw (24 : Int32) (fun s33_4 => ?_) (fun s33_4 => ?_)
      · refine x_tableIn (off := 96) (tgt := 129) dX8_act_33 (by rw [s33_4]; decide) (by rw [s33_4]; decide) (by rw [s33_4]; rfl) (by decide) ?_
        exact kt5_2 (by simp only [s33_4]; decide)
      refine x_sw (25 : Int32) (fun s33_5 => ?_) (fun s33_5 => ?_)
      · refine x_tableIn (off := 102) (tgt := 135) dX8_act_33 (by rw [s33_5]; decide) (by rw [s33_5]; decide) (by rw [s33_5]; rfl) (by decide) ?_
        exact kt5_3 s33_5
      refine x_sw (26 : Int32) (fun s33_6 => ?_) (fun s33_6 => ?_)
      · refine x_tableIn (off := 108) (tgt := 141) dX8_act_33 (by rw [s33_6]; decide) (by rw [s33_6]; decide) (by rw [s33_6]; rfl) (by decide) ?_
        exact kt5_4 s33_6
      refine x_sw (27 : Int32) (fun s33_7 => ?_) (fun s33_7 => ?_)
      · refine x_tableIn (off := 201) (tgt := 234) dX8_act_33 (by rw [s33_7]; decide) (by rw [s33_7]; decide) (by rw [s33_7]; rfl) (by decide) ?_
        exact kd5 (by rw [s33_7]; decide)
      refine x_sw (28 : Int32) (fun s33_8 => ?_) (fun s33_8 => ?_)
      · refine x_tableIn (off := 174) (tgt := 207) dX8_act_33 (by rw [s33_8]; decide) (by rw [s33_8]; decide) (by rw [s33_8]; rfl) (by decide) ?_
        exact kt5_5 (by simp only [s33_8]; decide)
      refine x_sw (29 : Int32) (fun s33_9 => ?_) (fun s33_9 => ?_)
      · refine x_tableIn (off := 201) (tgt := 234) dX8_act_33 (by rw [s33_9]; decide) (by rw [s33_9]; decide) (by rw [s33_9]; rfl) (by decide) ?_
        exact kd5 (by rw [s33_9]; decide)
      refine x_sw (30 : Int32) (fun s33_10 => ?_) (fun s33_10 => ?_)
      · refine x_tableIn (off := 174) (tgt := 207) dX8_act_33 (by rw [s33_10]; decide) (by rw [s33_10]; decide) (by rw [s33_10]; rfl) (by decide) ?_
        exact kt5_5 (by simp only [s33_10]; decide)
      refine x_sw (31 : Int32) (fun s33_11 => ?_) (fun s33_11 => ?_)
      · refine x_tableIn (off := 189) (tgt := 222) dX8_act_33 (by rw [s33_11]; decide) (by rw [s33_11]; decide) (by rw [s33_11]; rfl) (by decide) ?_
        exact kt5_6 s33_11
      refine x_sw (32 : Int32) (fun s33_12 => ?_) (fun s33_12 => ?_)
      · refine x_tableIn (off := 77) (tgt := 110) dX8_act_33 (by rw [s33_12]; decide) (by rw [s33_12]; decide) (by rw [s33_12]; rfl) (by decide) ?_
        exact kt5_1 s33_12
      have t33_0 := lv_neT s33_0 (a := 20) (by decide)
      have t33_1 := lv_neT s33_1 (a := 21) (by decide)
      have t33_2 := lv_neT s33_2 (a := 22) (by decide)
      have t33_3 := lv_neT s33_3 (a := 23) (by decide)
      have t33_4 := lv_neT s33_4 (a := 24) (by decide)
      have t33_5 := lv_neT s33_5 (a := 25) (by decide)
      have t33_6 := lv_neT s33_6 (a := 26) (by decide)
      have t33_7 := lv_neT s33_7 (a := 27) (by decide)
      have t33_8 := lv_neT s33_8 (a := 28) (by decide)
      have t33_9 := lv_neT s33_9 (a := 29) (by decide)
      have t33_10 := lv_neT s33_10 (a := 30) (by decide)
      have t33_11 := lv_neT s33_11 (a := 31) (by decide)
      have t33_12 := lv_neT s33_12 (a := 32) (by decide)
      refine x_tableOut (tgt := 234) dX8_act_33 (by omega) (by decide) ?_
      exact kd5 ⟨s33_0, s33_12, s33_3, s33_4, s33_5, s33_6, s33_8, s33_10, s33_11⟩
    · replace h := h.2 c20
      refine x_aload_n dX8_act_23 rfl ?_
      refine x_aload_n dX8_act_24 rfl ?_
      obtain ⟨o77, h⟩ := h
      obtain ⟨R76, g76, h⟩ := h
      refine x_callV hG (Ky := kX8_load) (As := [.ref b1]) dX8_act_25 o77 rfl lk_X8_348 me_X8_load is_X8_load se_X8_load rfl rfl (Nat.le_of_ble_eq_true rfl) (MX.post (m_X8_load hG hO g76) ?_)
      rintro _ A76 ⟨rfl, h1⟩
      refine X.xok (fun w76 => ?_)
      replace h := h A76 w76 h1
      change X _ _ _ _ A76 _ _ []
      exact x_vret dX8_act_28 rfl ⟨rfl, h⟩
  · replace h := h.2 c7
    refine x_aload_n dX8_act_10 rfl ?_
    refine x_aload_n dX8_act_11 rfl ?_
    obtain ⟨o79, h⟩ := h
    obtain ⟨R78, g78, h⟩ := h
    refine x_callV hG (Ky := kX8_sum) (As := [.ref b1]) dX8_act_12 o79 rfl lk_X8_342 me_X8_sum is_X8_sum se_X8_sum rfl rfl (Nat.le_of_ble_eq_true rfl) (MX.post (m_X8_sum hG hO g78) ?_)
    rintro _ A78 ⟨rfl, h1⟩
    refine X.xok (fun w78 => ?_)
    replace h := h A78 w78 h1
    change X _ _ _ _ A78 _ _ []
    exact x_vret dX8_act_15 rfl ⟨rfl, h⟩
def w_X8_end (G : xG) (p : Nat) (b : Option Nat) (Q : xA → Prop) (A : xA) : Prop := xok G A → ∃ b1 : Nat, b = some b1 ∧ (A.tg b1 = 35 ∧ (∃ J3 : xA → Prop, (∀ (A3 : xA), J3 A3 → A3.tg b1 = 35 ∧ ((((A3.I b1 1) = (2 : Int32) → A3.tg p = 8 ∧ (∃ R5 : Int64 → xA → Prop, w_X8_fit G p (A3.L b1 3) R5 A3 ∧ (∀ (v5 : Int64) (A5 : xA), xok G A5 → R5 v5 A5 → (A5.tg b1 = 35 ∧ (∀ A8 : xA, A8 = A5.setL b1 3 v5 → (A8.tg p = 8 ∧ (∃ R9 : Int64 → xA → Prop, w_X8_fit G p (A5.L b1 4) R9 A8 ∧ (∀ (v9 : Int64) (A9 : xA), xok G A9 → R9 v9 A9 → (A9.tg b1 = 35 ∧ (∀ A12 : xA, A12 = A9.setL b1 4 v9 → ((((f_X0_isConstant (A9.L b1 3)) = 0 → A12.tg p = 8 ∧ (∃ R13 : Int32 → xA → Prop, w_X8_number G p (A9.L b1 3) R13 A12 ∧ (∀ (v13 : Int32) (A13 : xA), xok G A13 → R13 v13 A13 → (A13.tg b1 = 35 ∧ (A13.tg p = 8 ∧ (∃ R16 : Int32 → xA → Prop, w_X8_number G p (A13.L b1 4) R16 A13 ∧ (∀ (v16 : Int32) (A16 : xA), xok G A16 → R16 v16 A16 → (((v13 = v16 → A16.tg b1 = 35 ∧ (∃ R19 : xA → Prop, w_X36_settle G b1 (if (A16.I b1 2) = (11 : Int32) then (1 : Int32) else (if (A16.I b1 2) = (16 : Int32) then (1 : Int32) else (0 : Int32))) R19 A16 ∧ (∀ A19 : xA, xok G A19 → R19 A19 → (Q A19)))) ∧ (¬ v13 = v16 → Q A16)))))))))) ∧ (¬ (f_X0_isConstant (A9.L b1 3)) = 0 → (((f_X0_isConstant v9) = 0 → A12.tg p = 8 ∧ (∃ R20 : Int32 → xA → Prop, w_X8_number G p (A9.L b1 3) R20 A12 ∧ (∀ (v20 : Int32) (A20 : xA), xok G A20 → R20 v20 A20 → (A20.tg b1 = 35 ∧ (A20.tg p = 8 ∧ (∃ R23 : Int32 → xA → Prop, w_X8_number G p (A20.L b1 4) R23 A20 ∧ (∀ (v23 : Int32) (A23 : xA), xok G A23 → R23 v23 A23 → (((v20 = v23 → A23.tg b1 = 35 ∧ (∃ R26 : xA → Prop, w_X36_settle G b1 (if (A23.I b1 2) = (11 : Int32) then (1 : Int32) else (if (A23.I b1 2) = (16 : Int32) then (1 : Int32) else (0 : Int32))) R26 A23 ∧ (∀ A26 : xA, xok G A26 → R26 A26 → (Q A26)))) ∧ (¬ v20 = v23 → Q A23)))))))))) ∧ (¬ (f_X0_isConstant v9) = 0 → ∃ R27 : xA → Prop, w_X36_settle G b1 (if (f_X0_done (A9.I b1 2) (A9.L b1 3).toInt32 v9.toInt32) = 0 then (0 : Int32) else (1 : Int32)) R27 A12 ∧ (∀ A27 : xA, xok G A27 → R27 A27 → (Q A27))))))))))))))))) ∧ (¬ (A3.I b1 1) = (2 : Int32) → Q A3)))) ∧ (((A.I b1 1) = (3 : Int32) → A.tg p = 8 ∧ (∃ R28 : Int64 → xA → Prop, w_X8_fit G p (A.L b1 3) R28 A ∧ (∀ (v28 : Int64) (A28 : xA), xok G A28 → R28 v28 A28 → (A28.tg b1 = 35 ∧ (∀ A31 : xA, A31 = A28.setL b1 3 v28 → (J3 A31)))))) ∧ (¬ (A.I b1 1) = (3 : Int32) → J3 A))))
theorem m_X8_end (hG : xOK G) (hO : xHO G) {dp : Nat} {p : Nat} {b : Option Nat} {Q : xA → Prop} {A : xA} (h : w_X8_end G p b Q A) : MX G (dp + 4) kX8_end [.ref p, va_rf b] A (hV Q) := by
  unfold w_X8_end at h
  refine MX.of rfl (by cases b <;> exact Nat.le_of_ble_eq_true rfl) ?_
  refine X.lvs (lv' := [some (.ref p), some (va_rf b)]) (by cases b <;> rfl) ?_
  refine X.xok (fun w0 => ?_)
  replace h := h w0
  refine x_aloadq_n dX8_end_0 rfl ?_
  obtain ⟨b1, e1, h⟩ := h
  rw [e1]
  obtain ⟨o2, h⟩ := h
  refine x_get (v := .int (A.I b1 1)) hG dX8_end_1 f_X8_124_34 o2 rfl ?_
  refine x_iconst_ (v := (3 : Int32)) dX8_end_4 (by decide) ?_
  obtain ⟨J3, g3, h⟩ := h
  have kj3 : ∀ (A3 : xA), J3 A3 → X G (dp + 4) kX8_end (hV Q) A3 20 [some (.ref p), some (.ref b1)] [] := by
    intro A3 h
    replace h := g3 A3 h
    refine x_aload_n dX8_end_20 rfl ?_
    obtain ⟨o4, h⟩ := h
    refine x_get (v := .int (A3.I b1 1)) hG dX8_end_21 f_X8_124_34 o4 rfl ?_
    refine x_iconst_ (v := (2 : Int32)) dX8_end_24 (by decide) ?_
    refine x_icmp_eq (tgt := 29) dX8_end_25 (by decide) (fun c25 => ?_) (fun c25 => ?_)
    · replace h := h.1 c25
      refine x_aload_n dX8_end_29 rfl ?_
      refine x_aload_n dX8_end_30 rfl ?_
      refine x_aload_n dX8_end_31 rfl ?_
      refine x_get (v := .long (A3.L b1 3)) hG dX8_end_32 f_X8_165_34 o4 rfl ?_
      obtain ⟨o6, h⟩ := h
      obtain ⟨R5, g5, h⟩ := h
      refine x_callV hG (Ky := kX8_fit) (As := [.long (A3.L b1 3)]) dX8_end_35 o6 rfl lk_X8_331 me_X8_fit is_X8_fit se_X8_fit rfl rfl (Nat.le_of_ble_eq_true rfl) (MX.post (m_X8_fit hG hO g5) ?_)
      rintro _ A5 ⟨v5, rfl, h1⟩
      refine X.xok (fun w5 => ?_)
      replace h := h v5 A5 w5 h1
      change X _ _ _ _ A5 _ _ [.long v5, .ref b1]
      obtain ⟨o7, h⟩ := h
      refine z_putL hG hO.1 dX8_end_38 f_X8_165_34 ⟨_, rfl, Or.inl rfl⟩ o7 (by decide) rfl rfl ⟨_, rfl⟩ (fun A8 e8 => ?_)
      replace h := h A8 e8
      refine x_aload_n dX8_end_41 rfl ?_
      refine x_aload_n dX8_end_42 rfl ?_
      refine x_aload_n dX8_end_43 rfl ?_
      refine x_get (v := .long (A5.L b1 4)) hG dX8_end_44 f_X8_169_34 (kL e8 o7) (congrArg Value.long (sL_k e8 (by decide))) ?_
      obtain ⟨o10, h⟩ := h
      obtain ⟨R9, g9, h⟩ := h
      refine x_callV hG (Ky := kX8_fit) (As := [.long (A5.L b1 4)]) dX8_end_47 o10 rfl lk_X8_331 me_X8_fit is_X8_fit se_X8_fit rfl rfl (Nat.le_of_ble_eq_true rfl) (MX.post (m_X8_fit hG hO g9) ?_)
      rintro _ A9 ⟨v9, rfl, h1⟩
      refine X.xok (fun w9 => ?_)
      replace h := h v9 A9 w9 h1
      change X _ _ _ _ A9 _ _ [.long v9, .ref b1]
      obtain ⟨o11, h⟩ := h
      refine z_putL hG hO.1 dX8_end_50 f_X8_169_34 ⟨_, rfl, Or.inl rfl⟩ o11 (by decide) rfl rfl ⟨_, rfl⟩ (fun A12 e12 => ?_)
      replace h := h A12 e12
      refine x_aload_n dX8_end_53 rfl ?_
      refine x_get (v := .long (A9.L b1 3)) hG dX8_end_54 f_X8_165_34 (kL e12 o11) (congrArg Value.long (sL_k e12 (by decide))) ?_
      refine x_callS hG (Ky := kX0_isConstant) (As := [.long (A9.L b1 3)]) dX8_end_57 lk_X8_205 me_X0_isConstant st_X0_isConstant rfl rfl (Nat.le_of_ble_eq_true rfl) (MX.post (m_X0_isConstant hG) ?_)
      rintro _ _ ⟨rfl, rfl⟩
      change X _ _ _ _ _ _ _ (.int (f_X0_isConstant (A9.L b1 3)) :: _)
      refine x_if_eq (tgt := 105) dX8_end_60 (by decide) (fun c60 => ?_) (fun c60 => ?_)
      · replace h := h.1 c60
        refine x_aload_n dX8_end_105 rfl ?_
        refine x_aload_n dX8_end_106 rfl ?_
        refine x_get (v := .long (A9.L b1 3)) hG dX8_end_107 f_X8_165_34 (kL e12 o11) (congrArg Value.long (sL_k e12 (by decide))) ?_
        obtain ⟨o14, h⟩ := h
        obtain ⟨R13, g13, h⟩ := h
        refine x_callV hG (Ky := kX8_number) (As := [.long (A9.L b1 3)]) dX8_end_110 o14 rfl lk_X8_322 me_X8_number is_X8_number se_X8_number rfl rfl (Nat.le_of_ble_eq_true rfl) (MX.post (m_X8_number hG hO g13) ?_)
        rintro _ A13 ⟨v13, rfl, h1⟩
        refine X.xok (fun w13 => ?_)
        replace h := h v13 A13 w13 h1
        change X _ _ _ _ A13 _ _ [.int v13]
        refine x_aload_n dX8_end_113 rfl ?_
        refine x_aload_n dX8_end_114 rfl ?_
        obtain ⟨o15, h⟩ := h
        refine x_get (v := .long (A13.L b1 4)) hG dX8_end_115 f_X8_169_34 o15 rfl ?_
        obtain ⟨o17, h⟩ := h
        obtain ⟨R16, g16, h⟩ := h
        refine x_callV hG (Ky := kX8_number) (As := [.long (A13.L b1 4)]) dX8_end_118 o17 rfl lk_X8_322 me_X8_number is_X8_number se_X8_number rfl rfl (Nat.le_of_ble_eq_true rfl) (MX.post (m_X8_number hG hO g16) ?_)
        rintro _ A16 ⟨v16, rfl, h1⟩
        refine X.xok (fun w16 => ?_)
        replace h := h v16 A16 w16 h1
        change X _ _ _ _ A16 _ _ [.int v16, .int v13]
        refine x_icmp_ne (tgt := 151) dX8_end_121 (by decide) (fun c121 => ?_) (fun c121 => ?_)
        · replace h := h.2 c121
          exact x_vret dX8_end_151 rfl ⟨rfl, h⟩
        · replace h := h.1 c121
          refine x_aload_n dX8_end_124 rfl ?_
          refine x_aload_n dX8_end_125 rfl ?_
          obtain ⟨o18, h⟩ := h
          refine x_get (v := .int (A16.I b1 2)) hG dX8_end_126 f_X8_162_34 o18 rfl ?_
          refine x_bipush_ (v := (11 : Int32)) dX8_end_129 (by decide) ?_
          refine x_via 148 (A' := A16) (lv' := [none, none]) (st' := [.int (if (A16.I b1 2) = (11 : Int32) then (1 : Int32) else (if (A16.I b1 2) = (16 : Int32) then (1 : Int32) else (0 : Int32))), .ref b1]) ?_ (fun k148 => ?_)
          rotate_left
          · refine x_icmp_eq (tgt := 143) dX8_end_131 (by decide) (fun c131 => ?_) (fun c131 => ?_)
            · refine x_iconst_ (v := (1 : Int32)) dX8_end_143 (by decide) ?_
              refine x_goto (tgt := 148) dX8_end_144 (by decide) ?_
              change X _ _ _ _ _ _ [some (.ref p), some (.ref b1)] [.int (1 : Int32), .ref b1]
              simp only [if_pos c131] at k148 ⊢
              exact X.weak (xle_n (xle_n xle_nil)) k148
            · refine x_aload_n dX8_end_134 rfl ?_
              refine x_get (v := .int (A16.I b1 2)) hG dX8_end_135 f_X8_162_34 o18 rfl ?_
              refine x_bipush_ (v := (16 : Int32)) dX8_end_138 (by decide) ?_
              refine x_icmp_ne (tgt := 147) dX8_end_140 (by decide) (fun c140 => ?_) (fun c140 => ?_)
              · refine x_iconst_ (v := (0 : Int32)) dX8_end_147 (by decide) ?_
                change X _ _ _ _ _ _ [some (.ref p), some (.ref b1)] [.int (0 : Int32), .ref b1]
                try simp only [if_neg c131] at c140 k148 ⊢
                try simp only [if_neg c140] at k148 ⊢
                exact X.weak (xle_n (xle_n xle_nil)) k148
              · refine x_iconst_ (v := (1 : Int32)) dX8_end_143 (by decide) ?_
                refine x_goto (tgt := 148) dX8_end_144 (by decide) ?_
                change X _ _ _ _ _ _ [some (.ref p), some (.ref b1)] [.int (1 : Int32), .ref b1]
                try simp only [if_neg c131] at c140 k148 ⊢
                try simp only [if_pos c140] at k148 ⊢
                exact X.weak (xle_n (xle_n xle_nil)) k148
          obtain ⟨R19, g19, h⟩ := h
          refine x_callV hG (Ky := kX36_settle) (As := [.int (if (A16.I b1 2) = (11 : Int32) then (1 : Int32) else (if (A16.I b1 2) = (16 : Int32) then (1 : Int32) else (0 : Int32)))]) dX8_end_148 o18 rfl lk_X8_134 me_X36_settle is_X36_settle se_X36_settle rfl rfl (Nat.le_of_ble_eq_true rfl) (MX.post (m_X36_settle hG hO g19) ?_)
          rintro _ A19 ⟨rfl, h1⟩
          refine X.xok (fun w19 => ?_)
          replace h := h A19 w19 h1
          change X _ _ _ _ A19 _ _ []
          exact x_vret dX8_end_151 rfl ⟨rfl, h⟩
      · replace h := h.2 c60
        refine x_aload_n dX8_end_63 rfl ?_
        refine x_get (v := .long v9) hG dX8_end_64 f_X8_169_34 (kL e12 o11) (congrArg Value.long (sL_s e12)) ?_
        refine x_callS hG (Ky := kX0_isConstant) (As := [.long v9]) dX8_end_67 lk_X8_205 me_X0_isConstant st_X0_isConstant rfl rfl (Nat.le_of_ble_eq_true rfl) (MX.post (m_X0_isConstant hG) ?_)
        rintro _ _ ⟨rfl, rfl⟩
        change X _ _ _ _ _ _ _ (.int (f_X0_isConstant v9) :: _)
        refine x_if_eq (tgt := 105) dX8_end_70 (by decide) (fun c70 => ?_) (fun c70 => ?_)
        · replace h := h.1 c70
          refine x_aload_n dX8_end_105 rfl ?_
          refine x_aload_n dX8_end_106 rfl ?_
          refine x_get (v := .long (A9.L b1 3)) hG dX8_end_107 f_X8_165_34 (kL e12 o11) (congrArg Value.long (sL_k e12 (by decide))) ?_
          obtain ⟨o21, h⟩ := h
          obtain ⟨R20, g20, h⟩ := h
          refine x_callV hG (Ky := kX8_number) (As := [.long (A9.L b1 3)]) dX8_end_110 o21 rfl lk_X8_322 me_X8_number is_X8_number se_X8_number rfl rfl (Nat.le_of_ble_eq_true rfl) (MX.post (m_X8_number hG hO g20) ?_)
          rintro _ A20 ⟨v20, rfl, h1⟩
          refine X.xok (fun w20 => ?_)
          replace h := h v20 A20 w20 h1
          change X _ _ _ _ A20 _ _ [.int v20]
          refine x_aload_n dX8_end_113 rfl ?_
          refine x_aload_n dX8_end_114 rfl ?_
          obtain ⟨o22, h⟩ := h
          refine x_get (v := .long (A20.L b1 4)) hG dX8_end_115 f_X8_169_34 o22 rfl ?_
          obtain ⟨o24, h⟩ := h
          obtain ⟨R23, g23, h⟩ := h
          refine x_callV hG (Ky := kX8_number) (As := [.long (A20.L b1 4)]) dX8_end_118 o24 rfl lk_X8_322 me_X8_number is_X8_number se_X8_number rfl rfl (Nat.le_of_ble_eq_true rfl) (MX.post (m_X8_number hG hO g23) ?_)
          rintro _ A23 ⟨v23, rfl, h1⟩
          refine X.xok (fun w23 => ?_)
          replace h := h v23 A23 w23 h1
          change X _ _ _ _ A23 _ _ [.int v23, .int v20]
          refine x_icmp_ne (tgt := 151) dX8_end_121 (by decide) (fun c121 => ?_) (fun c121 => ?_)
          · replace h := h.2 c121
            exact x_vret dX8_end_151 rfl ⟨rfl, h⟩
          · replace h := h.1 c121
            refine x_aload_n dX8_end_124 rfl ?_
            refine x_aload_n dX8_end_125 rfl ?_
            obtain ⟨o25, h⟩ := h
            refine x_get (v := .int (A23.I b1 2)) hG dX8_end_126 f_X8_162_34 o25 rfl ?_
            refine x_bipush_ (v := (11 : Int32)) dX8_end_129 (by decide) ?_
            refine x_via 148 (A' := A23) (lv' := [none, none]) (st' := [.int (if (A23.I b1 2) = (11 : Int32) then (1 : Int32) else (if (A23.I b1 2) = (16 : Int32) then (1 : Int32) else (0 : Int32))), .ref b1]) ?_ (fun k148 => ?_)
            rotate_left
            · refine x_icmp_eq (tgt := 143) dX8_end_131 (by decide) (fun c131 => ?_) (fun c131 => ?_)
              · refine x_iconst_ (v := (1 : Int32)) dX8_end_143 (by decide) ?_
                refine x_goto (tgt := 148) dX8_end_144 (by decide) ?_
                change X _ _ _ _ _ _ [some (.ref p), some (.ref b1)] [.int (1 : Int32), .ref b1]
                simp only [if_pos c131] at k148 ⊢
                exact X.weak (xle_n (xle_n xle_nil)) k148
              · refine x_aload_n dX8_end_134 rfl ?_
                refine x_get (v := .int (A23.I b1 2)) hG dX8_end_135 f_X8_162_34 o25 rfl ?_
                refine x_bipush_ (v := (16 : Int32)) dX8_end_138 (by decide) ?_
                refine x_icmp_ne (tgt := 147) dX8_end_140 (by decide) (fun c140 => ?_) (fun c140 => ?_)
                · refine x_iconst_ (v := (0 : Int32)) dX8_end_147 (by decide) ?_
                  change X _ _ _ _ _ _ [some (.ref p), some (.ref b1)] [.int (0 : Int32), .ref b1]
                  try simp only [if_neg c131] at c140 k148 ⊢
                  try simp only [if_neg c140] at k148 ⊢
                  exact X.weak (xle_n (xle_n xle_nil)) k148
                · refine x_iconst_ (v := (1 : Int32)) dX8_end_143 (by decide) ?_
                  refine x_goto (tgt := 148) dX8_end_144 (by decide) ?_
                  change X _ _ _ _ _ _ [some (.ref p), some (.ref b1)] [.int (1 : Int32), .ref b1]
                  try simp only [if_neg c131] at c140 k148 ⊢
                  try simp only [if_pos c140] at k148 ⊢
                  exact X.weak (xle_n (xle_n xle_nil)) k148
            obtain ⟨R26, g26, h⟩ := h
            refine x_callV hG (Ky := kX36_settle) (As := [.int (if (A23.I b1 2) = (11 : Int32) then (1 : Int32) else (if (A23.I b1 2) = (16 : Int32) then (1 : Int32) else (0 : Int32)))]) dX8_end_148 o25 rfl lk_X8_134 me_X36_settle is_X36_settle se_X36_settle rfl rfl (Nat.le_of_ble_eq_true rfl) (MX.post (m_X36_settle hG hO g26) ?_)
            rintro _ A26 ⟨rfl, h1⟩
            refine X.xok (fun w26 => ?_)
            replace h := h A26 w26 h1
            change X _ _ _ _ A26 _ _ []
            exact x_vret dX8_end_151 rfl ⟨rfl, h⟩
        · replace h := h.2 c70
          refine x_aload_n dX8_end_73 rfl ?_
          refine x_aload_n dX8_end_74 rfl ?_
          refine x_get (v := .int (A9.I b1 2)) hG dX8_end_75 f_X8_162_34 (kL e12 o11) (congrArg Value.int (sL_I e12)) ?_
          refine x_aload_n dX8_end_78 rfl ?_
          refine x_get (v := .long (A9.L b1 3)) hG dX8_end_79 f_X8_165_34 (kL e12 o11) (congrArg Value.long (sL_k e12 (by decide))) ?_
          refine x_l2i dX8_end_82 ?_
          refine x_aload_n dX8_end_83 rfl ?_
          refine x_get (v := .long v9) hG dX8_end_84 f_X8_169_34 (kL e12 o11) (congrArg Value.long (sL_s e12)) ?_
          refine x_l2i dX8_end_87 ?_
          refine x_callS hG (Ky := kX0_done) (As := [.int (A9.I b1 2), .int (A9.L b1 3).toInt32, .int v9.toInt32]) dX8_end_88 lk_X8_201 me_X0_done st_X0_done rfl rfl (Nat.le_of_ble_eq_true rfl) (MX.post (m_X0_done hG pp_X0_done) ?_)
          rintro _ _ ⟨rfl, rfl⟩
          change X _ _ _ _ _ _ _ (.int (f_X0_done (A9.I b1 2) (A9.L b1 3).toInt32 v9.toInt32) :: _)
          refine x_via 99 (A' := A12) (lv' := [none, none]) (st' := [.int (if (f_X0_done (A9.I b1 2) (A9.L b1 3).toInt32 v9.toInt32) = 0 then (0 : Int32) else (1 : Int32)), .ref b1]) ?_ (fun k99 => ?_)
          rotate_left
          · refine x_if_eq (tgt := 98) dX8_end_91 (by decide) (fun c91 => ?_) (fun c91 => ?_)
            · refine x_iconst_ (v := (0 : Int32)) dX8_end_98 (by decide) ?_
              change X _ _ _ _ _ _ [some (.ref p), some (.ref b1)] [.int (0 : Int32), .ref b1]
              simp only [if_pos c91] at k99 ⊢
              exact X.weak (xle_n (xle_n xle_nil)) k99
            · refine x_iconst_ (v := (1 : Int32)) dX8_end_94 (by decide) ?_
              refine x_goto (tgt := 99) dX8_end_95 (by decide) ?_
              change X _ _ _ _ _ _ [some (.ref p), some (.ref b1)] [.int (1 : Int32), .ref b1]
              simp only [if_neg c91] at k99 ⊢
              exact X.weak (xle_n (xle_n xle_nil)) k99
          obtain ⟨R27, g27, h⟩ := h
          refine x_callV hG (Ky := kX36_settle) (As := [.int (if (f_X0_done (A9.I b1 2) (A9.L b1 3).toInt32 v9.toInt32) = 0 then (0 : Int32) else (1 : Int32))]) dX8_end_99 (kL e12 o11) rfl lk_X8_134 me_X36_settle is_X36_settle se_X36_settle rfl rfl (Nat.le_of_ble_eq_true rfl) (MX.post (m_X36_settle hG hO g27) ?_)
          rintro _ A27 ⟨rfl, h1⟩
          refine X.xok (fun w27 => ?_)
          replace h := h A27 w27 h1
          change X _ _ _ _ A27 _ _ []
          refine x_goto (tgt := 151) dX8_end_102 (by decide) ?_
          exact x_vret dX8_end_151 rfl ⟨rfl, h⟩
    · replace h := h.2 c25
      exact x_vret dX8_end_28 rfl ⟨rfl, h⟩
  refine x_icmp_ne (tgt := 20) dX8_end_5 (by decide) (fun c5 => ?_) (fun c5 => ?_)
  · replace h := h.2 c5
    change X _ _ _ _ _ _ [some (.ref p), some (.ref b1)] []
    exact X.weak (xle_c rfl (xle_c rfl xle_nil)) (kj3 A h)
  · replace h := h.1 c5
    refine x_aload_n dX8_end_8 rfl ?_
    refine x_aload_n dX8_end_9 rfl ?_
    refine x_aload_n dX8_end_10 rfl ?_
    refine x_get (v := .long (A.L b1 3)) hG dX8_end_11 f_X8_165_34 o2 rfl ?_
    obtain ⟨o29, h⟩ := h
    obtain ⟨R28, g28, h⟩ := h
    refine x_callV hG (Ky := kX8_fit) (As := [.long (A.L b1 3)]) dX8_end_14 o29 rfl lk_X8_331 me_X8_fit is_X8_fit se_X8_fit rfl rfl (Nat.le_of_ble_eq_true rfl) (MX.post (m_X8_fit hG hO g28) ?_)
    rintro _ A28 ⟨v28, rfl, h1⟩
    refine X.xok (fun w28 => ?_)
    replace h := h v28 A28 w28 h1
    change X _ _ _ _ A28 _ _ [.long v28, .ref b1]
    obtain ⟨o30, h⟩ := h
    refine z_putL hG hO.1 dX8_end_17 f_X8_165_34 ⟨_, rfl, Or.inl rfl⟩ o30 (by decide) rfl rfl ⟨_, rfl⟩ (fun A31 e31 => ?_)
    replace h := h A31 e31
    change X _ _ _ _ _ _ [some (.ref p), some (.ref b1)] []
    exact X.weak (xle_c rfl (xle_c rfl xle_nil)) (kj3 A31 h)
def w_X8_numberAll (G : xG) (p : Nat) (Q : xA → Prop) (A : xA) : Prop := xok G A → A.tg p = 8 ∧ (∃ b2 : Nat, (A.P p 1) = some b2 ∧ (A.tg b2 = 34 ∧ (∃ R4 : Option Nat → xA → Prop, w_X0_roomFor G (A.P p 19) (A.I b2 2) R4 A ∧ (∀ (v4 : Option Nat) (A4 : xA), xok G A4 → R4 v4 A4 → (A4.tg p = 8 ∧ (∀ A6 : xA, A6 = A4.setP p 19 v4 → (∃ b7 : Nat, (A4.P p 20) = some b7 ∧ (A6.tg b7 = 200 ∧ (∃ J9 : xA → Prop, (∀ (A9 : xA), J9 A9 → ∃ L10 : Nat → Int32 → xA → Prop, (∃ n10 : Nat, L10 n10 (0 : Int32) A9) ∧ (∀ (n10 : Nat) (y10_2 : Int32) (A10 : xA), L10 n10 y10_2 A10 → A10.tg p = 8 ∧ (∃ b12 : Nat, (A10.P p 1) = some b12 ∧ (A10.tg b12 = 34 ∧ (∃ b15 : Nat, (A10.P b12 1) = some b15 ∧ (A10.tg b15 = 37 ∧ (∃ R14 : Int32 → xA → Prop, w_J5_size G b15 R14 A10 ∧ (∀ (v14 : Int32) (A14 : xA), xok G A14 → R14 v14 A14 → (((v14 ≤ y10_2 → Q A14) ∧ (¬ v14 ≤ y10_2 → A14.tg p = 8 ∧ (∃ b18 : Nat, (A14.P p 1) = some b18 ∧ (A14.tg b18 = 34 ∧ (∃ b21 : Nat, (A14.P b18 1) = some b21 ∧ (A14.tg b21 = 37 ∧ (∃ R20 : Option Nat → xA → Prop, w_J5_get G b21 y10_2 R20 A14 ∧ (∀ (v20 : Option Nat) (A20 : xA), xok G A20 → R20 v20 A20 → (∃ b23 : Nat, v20 = some b23 ∧ (A20.tg b23 = 35 ∧ (∃ J25 : xA → Prop, (∀ (A25 : xA), J25 A25 → (∃ q10 : Nat, q10 < n10 ∧ L10 q10 (y10_2 + (1 : Int32)) A25)) ∧ (((A20.I b23 11) = 0 → J25 A20) ∧ (¬ (A20.I b23 11) = 0 → ∃ b27 : Nat, (A20.P b23 0) = some b27 ∧ (A20.tg b27 = 37 ∧ (∃ R26 : Int32 → xA → Prop, w_J5_size G b27 R26 A20 ∧ (∀ (v26 : Int32) (A26 : xA), xok G A26 → R26 v26 A26 → (A26.tg p = 8 ∧ (∃ L30 : Nat → Int32 → Int32 → xA → Prop, (∃ n30 : Nat, L30 n30 ((((5 : Int32) * v26) + ((2 : Int32) * (A26.I p 12))) + (20 : Int32)) (0 : Int32) A26) ∧ (∀ (n30 : Nat) (y30_4 : Int32) (y30_5 : Int32) (A30 : xA), L30 n30 y30_4 y30_5 A30 → A30.tg b23 = 35 ∧ (∃ b33 : Nat, (A30.P b23 0) = some b33 ∧ (A30.tg b33 = 37 ∧ (∃ R32 : Int32 → xA → Prop, w_J5_size G b33 R32 A30 ∧ (∀ (v32 : Int32) (A32 : xA), xok G A32 → R32 v32 A32 → (((v32 ≤ y30_5 → A32.tg p = 8 ∧ (∃ R35 : xA → Prop, w_X8_begin G p y30_4 R35 A32 ∧ (∀ A35 : xA, xok G A35 → R35 A35 → (∃ L37 : Nat → Int32 → xA → Prop, (∃ n37 : Nat, L37 n37 (0 : Int32) A35) ∧ (∀ (n37 : Nat) (y37_5 : Int32) (A37 : xA), L37 n37 y37_5 A37 → A37.tg p = 8 ∧ ((((A37.I p 12) ≤ y37_5 → A37.tg b23 = 35 ∧ (∀ A40 : xA, A40 = A37.setP p 36 (A37.P b23 0) → (∀ A41 : xA, A41 = A40.setI p 37 (0 : Int32) → (∃ L42 : Nat → Int32 → xA → Prop, (∃ n42 : Nat, L42 n42 (0 : Int32) A41) ∧ (∀ (n42 : Nat) (y42_5 : Int32) (A42 : xA), L42 n42 y42_5 A42 → A42.tg p = 8 ∧ (∃ b45 : Nat, (A42.P p 36) = some b45 ∧ (A42.tg b45 = 37 ∧ (∃ R44 : Int32 → xA → Prop, w_J5_size G b45 R44 A42 ∧ (∀ (v44 : Int32) (A44 : xA), xok G A44 → R44 v44 A44 → (((v44 ≤ y42_5 → A44.tg p = 8 ∧ (∃ R48 : xA → Prop, w_X0_cut G (A44.P p 36) (A44.I p 37) R48 A44 ∧ (∀ A48 : xA, xok G A48 → R48 A48 → (A48.tg p = 8 ∧ (∃ R49 : xA → Prop, w_X8_end G p (some b23) R49 A48 ∧ (∀ A49 : xA, xok G A49 → R49 A49 → (J25 A49))))))) ∧ (¬ v44 ≤ y42_5 → A44.tg p = 8 ∧ (∃ b53 : Nat, (A44.P p 36) = some b53 ∧ (A44.tg b53 = 37 ∧ (∃ R52 : Option Nat → xA → Prop, w_J5_get G b53 y42_5 R52 A44 ∧ (∀ (v52 : Option Nat) (A52 : xA), xok G A52 → R52 v52 A52 → (∃ b55 : Nat, v52 = some b55 ∧ (A52.tg b55 = 36 ∧ (A52.tg p = 8 ∧ (∃ R57 : xA → Prop, w_X8_act G p (some b55) R57 A52 ∧ (∀ A57 : xA, xok G A57 → R57 A57 → ((∃ q42 : Nat, q42 < n42 ∧ L42 q42 (y42_5 + (1 : Int32)) A57))))))))))))))))))))))) ∧ (¬ (A37.I p 12) ≤ y37_5 → A37.tg b23 = 35 ∧ (∃ b60 : Nat, (A37.P p 4) = some b60 ∧ (A37.tg b60 = 200 ∧ (vp_in (((A37.I p 12) * (A37.I b23 8)) + y37_5) (A37.ln b60) ∧ (∃ J63 : xA → Prop, (∀ (A63 : xA), J63 A63 → (∃ q37 : Nat, q37 < n37 ∧ L37 q37 (y37_5 + (1 : Int32)) A63)) ∧ (((A37.I b60 (ix (((A37.I p 12) * (A37.I b23 8)) + y37_5))) = (1 : Int32) → ∃ b64 : Nat, (A37.P p 1) = some b64 ∧ (A37.tg b64 = 34 ∧ (∃ b67 : Nat, (A37.P b64 4) = some b67 ∧ (A37.tg b67 = 37 ∧ (∃ R66 : Option Nat → xA → Prop, w_J5_get G b67 y37_5 R66 A37 ∧ (∀ (v66 : Option Nat) (A66 : xA), xok G A66 → R66 v66 A66 → (∃ b69 : Nat, v66 = some b69 ∧ (A66.tg b69 = 38 ∧ (∃ R71 : Int32 → xA → Prop, w_J15_intValue G b69 R71 A66 ∧ (∀ (v71 : Int32) (A71 : xA), xok G A71 → R71 v71 A71 → (A71.tg p = 8 ∧ (A71.tg b23 = 35 ∧ (∃ b74 : Nat, (A71.P p 5) = some b74 ∧ (A71.tg b74 = 200 ∧ (vp_in (((A71.I p 12) * (A71.I b23 8)) + y37_5) (A71.ln b74) ∧ (∃ R77 : Int32 → xA → Prop, w_X8_ofConstant G p (A71.I b74 (ix (((A71.I p 12) * (A71.I b23 8)) + y37_5))) R77 A71 ∧ (∀ (v77 : Int32) (A77 : xA), xok G A77 → R77 v77 A77 → (A77.tg p = 8 ∧ (∃ R78 : xA → Prop, w_X8_define G p v71 v77 R78 A77 ∧ (∀ A78 : xA, xok G A78 → R78 A78 → (J63 A78))))))))))))))))))))) ∧ (¬ (A37.I b60 (ix (((A37.I p 12) * (A37.I b23 8)) + y37_5))) = (1 : Int32) → J63 A37)))))))))))))) ∧ (¬ v32 ≤ y30_5 → A32.tg b23 = 35 ∧ (∃ b82 : Nat, (A32.P b23 0) = some b82 ∧ (A32.tg b82 = 37 ∧ (∃ R81 : Option Nat → xA → Prop, w_J5_get G b82 y30_5 R81 A32 ∧ (∀ (v81 : Option Nat) (A81 : xA), xok G A81 → R81 v81 A81 → (∃ b84 : Nat, v81 = some b84 ∧ (A81.tg b84 = 36 ∧ (∃ J86 : Int32 → xA → Prop, (∀ (y86_4 : Int32) (A86 : xA), J86 y86_4 A86 → (∃ q30 : Nat, q30 < n30 ∧ L30 q30 y86_4 (y30_5 + (1 : Int32)) A86)) ∧ (((A81.P b84 9) = none → J86 y30_4 A81) ∧ (∀ b87 : Nat, (A81.P b84 9) = some b87 → A81.tg b23 = 35 ∧ (∃ b90 : Nat, (A81.P b23 0) = some b90 ∧ (A81.tg b90 = 37 ∧ (∃ R89 : Option Nat → xA → Prop, w_J5_get G b90 y30_5 R89 A81 ∧ (∀ (v89 : Option Nat) (A89 : xA), xok G A89 → R89 v89 A89 → (∃ b92 : Nat, v89 = some b92 ∧ (A89.tg b92 = 36 ∧ (∃ b94 : Nat, (A89.P b92 9) = some b94 ∧ (A89.tg b94 = 201 ∧ (J86 (y30_4 + ((2 : Int32) * (nI (A89.ln b94)))) A89))))))))))))))))))))))))))))))))))))))))))))))))))))) ∧ (((A.I b2 2) ≤ (nI (A6.ln b7)) → J9 A6) ∧ (¬ (A.I b2 2) ≤ (nI (A6.ln b7)) → ∃ R96 : Option Nat → xA → Prop, w_X0_roomFor G (some b7) (A.I b2 2) R96 A6 ∧ (∀ (v96 : Option Nat) (A96 : xA), xok G A96 → R96 v96 A96 → (A96.tg p = 8 ∧ (∀ A98 : xA, A98 = A96.setP p 20 v96 → (∀ A99 : xA, A99 = A98.setI p 14 (0 : Int32) → (J9 A99))))))))))))))))
theorem m_X8_numberAll (hG : xOK G) (hO : xHO G) {dp : Nat} {p : Nat} {Q : xA → Prop} {A : xA} (h : w_X8_numberAll G p Q A) : MX G (dp + 8) kX8_numberAll [.ref p] A (hV Q) := by
  unfold w_X8_numberAll at h
  refine MX.of rfl (Nat.le_of_ble_eq_true rfl) ?_
  change X _ _ _ _ _ _ [some (.ref p), none, none, none, none, none] _
  refine X.xok (fun w0 => ?_)
  replace h := h w0
  refine x_aload_n dX8_numberAll_0 rfl ?_
  obtain ⟨o1, h⟩ := h
  refine x_get (v := va_rf (A.P p 1)) hG dX8_numberAll_1 f_X8_56_7 o1 rfl ?_
  obtain ⟨b2, e2, h⟩ := h
  rw [e2]
  obtain ⟨o3, h⟩ := h
  refine x_get (v := .int (A.I b2 2)) hG dX8_numberAll_4 f_X8_60_33 o3 rfl ?_
  refine x_istore_n dX8_numberAll_7 (by decide) ?_
  refine x_aload_n dX8_numberAll_8 rfl ?_
  refine x_aload_n dX8_numberAll_9 rfl ?_
  refine x_get (v := va_rf (A.P p 19)) hG dX8_numberAll_10 f_X8_43_7 o1 rfl ?_
  refine x_iload_n dX8_numberAll_13 rfl ?_
  obtain ⟨R4, g4, h⟩ := h
  refine x_callS hG (Ky := kX0_roomFor) (As := [va_rf (A.P p 19), .int (A.I b2 2)]) dX8_numberAll_14 lk_X8_66 me_X0_roomFor st_X0_roomFor rfl rfl (Nat.le_of_ble_eq_true rfl) (MX.post (m_X0_roomFor hG hO g4) ?_)
  rintro _ A4 ⟨v4, rfl, h1⟩
  refine X.xok (fun w4 => ?_)
  replace h := h v4 A4 w4 h1
  change X _ _ _ _ A4 _ _ [va_rf v4, .ref p]
  obtain ⟨o5, h⟩ := h
  refine z_putP hG hO.1 v4 dX8_numberAll_17 f_X8_43_7 ⟨_, rfl, Or.inl rfl⟩ o5 (by decide) (Or.inr ⟨_, rfl⟩) (fun A6 e6 => ?_)
  replace h := h A6 e6
  refine x_aload_n dX8_numberAll_20 rfl ?_
  refine x_get (v := va_rf (A4.P p 20)) hG dX8_numberAll_21 f_X8_46_7 (kP e6 o5) (congrArg va_rf (sP_k e6 (by decide))) ?_
  obtain ⟨b7, e7, h⟩ := h
  rw [e7]
  obtain ⟨o8, h⟩ := h
  refine x_alen hG (j := 0) dX8_numberAll_24 o8 ?_
  refine x_iload_n dX8_numberAll_25 rfl ?_
  obtain ⟨J9, g9, h⟩ := h
  have kj9 : ∀ (A9 : xA), J9 A9 → X G (dp + 8) kX8_numberAll (hV Q) A9 46 [some (.ref p), none, none, none, none, none] [] := by
    intro A9 h
    replace h := g9 A9 h
    refine x_iconst_ (v := (0 : Int32)) dX8_numberAll_46 (by decide) ?_
    refine x_istore_n dX8_numberAll_47 (by decide) ?_
    obtain ⟨L10, ⟨n10, i10⟩, g10⟩ := h
    have kl10 : ∀ n10 : Nat, ∀ (y10_2 : Int32) (A10 : xA), L10 n10 y10_2 A10 → X G (dp + 8) kX8_numberAll (hV Q) A10 48 [some (.ref p), none, some (.int y10_2), none, none, none] [] := by
      intro n10
      induction n10 using Nat.strongRecOn with
      | ind n10 ih10 =>
        intro y10_2 A10 h
        replace h := g10 n10 y10_2 A10 h
        refine x_iload_n dX8_numberAll_48 rfl ?_
        refine x_aload_n dX8_numberAll_49 rfl ?_
        obtain ⟨o11, h⟩ := h
        refine x_get (v := va_rf (A10.P p 1)) hG dX8_numberAll_50 f_X8_56_7 o11 rfl ?_
        obtain ⟨b12, e12, h⟩ := h
        rw [e12]
        obtain ⟨o13, h⟩ := h
        refine x_get (v := va_rf (A10.P b12 1)) hG dX8_numberAll_53 f_X8_101_33 o13 rfl ?_
        obtain ⟨b15, e15, h⟩ := h
        rw [e15]
        obtain ⟨o16, h⟩ := h
        obtain ⟨R14, g14, h⟩ := h
        refine x_callV hG (Ky := kJ5_size) (As := []) dX8_numberAll_56 o16 rfl lk_X8_73 me_J5_size is_J5_size se_J5_size rfl rfl (Nat.le_of_ble_eq_true rfl) (MX.post (m_w_J5_size hG hO g14) ?_)
        rintro _ A14 ⟨v14, rfl, h1⟩
        refine X.xok (fun w14 => ?_)
        replace h := h v14 A14 w14 h1
        change X _ _ _ _ A14 _ _ [.int v14, .int y10_2]
        refine x_icmp_ge (tgt := 330) dX8_numberAll_59 (by decide) (fun c59 => ?_) (fun c59 => ?_)
        · replace h := h.1 c59
          exact x_vret dX8_numberAll_330 rfl ⟨rfl, h⟩
        · replace h := h.2 c59
          refine x_aload_n dX8_numberAll_62 rfl ?_
          obtain ⟨o17, h⟩ := h
          refine x_get (v := va_rf (A14.P p 1)) hG dX8_numberAll_63 f_X8_56_7 o17 rfl ?_
          obtain ⟨b18, e18, h⟩ := h
          rw [e18]
          obtain ⟨o19, h⟩ := h
          refine x_get (v := va_rf (A14.P b18 1)) hG dX8_numberAll_66 f_X8_101_33 o19 rfl ?_
          refine x_iload_n dX8_numberAll_69 rfl ?_
          obtain ⟨b21, e21, h⟩ := h
          rw [e21]
          obtain ⟨o22, h⟩ := h
          obtain ⟨R20, g20, h⟩ := h
          refine x_callV hG (Ky := kJ5_get) (As := [.int y10_2]) dX8_numberAll_70 o22 rfl lk_X8_77 me_J5_get is_J5_get se_J5_get rfl rfl (Nat.le_of_ble_eq_true rfl) (MX.post (m_w_J5_get hG hO g20) ?_)
          rintro _ A20 ⟨v20, rfl, h1⟩
          refine X.xok (fun w20 => ?_)
          replace h := h v20 A20 w20 h1
          change X _ _ _ _ A20 _ _ [va_rf v20]
          obtain ⟨b23, e23, h⟩ := h
          rw [e23]
          obtain ⟨o24, h⟩ := h
          refine x_cast hG dX8_numberAll_73 q2452 o24 rfl (Or.inl rfl) ?_
          refine x_astore_n dX8_numberAll_76 (by decide) ?_
          refine x_aload_n dX8_numberAll_77 rfl ?_
          refine x_get (v := .int (A20.I b23 11)) hG dX8_numberAll_78 f_X8_181_34 o24 rfl ?_
          obtain ⟨J25, g25, h⟩ := h
          have kj25 : ∀ (A25 : xA), J25 A25 → X G (dp + 8) kX8_numberAll (hV Q) A25 324 [some (.ref p), none, some (.int y10_2), none, none, none] [] := by
            intro A25 h
            replace h := g25 A25 h
            refine x_iinc (v := (y10_2 + (1 : Int32))) dX8_numberAll_324 rfl rfl (by decide) ?_
            refine x_goto (tgt := 48) dX8_numberAll_327 (by decide) ?_
            obtain ⟨q10, l10, h⟩ := h
            change X _ _ _ _ _ _ [some (.ref p), none, some (.int (y10_2 + (1 : Int32))), none, none, none] []
            exact X.weak (xle_c rfl (xle_n (xle_c rfl (xle_n (xle_n (xle_n xle_nil)))))) (ih10 q10 l10 (y10_2 + (1 : Int32)) A25 h)
          refine x_if_ne (tgt := 87) dX8_numberAll_81 (by decide) (fun c81 => ?_) (fun c81 => ?_)
          · replace h := h.2 c81
            refine x_iconst_ (v := (5 : Int32)) dX8_numberAll_87 (by decide) ?_
            refine x_aload_n dX8_numberAll_88 rfl ?_
            refine x_get (v := va_rf (A20.P b23 0)) hG dX8_numberAll_89 f_X8_153_34 o24 rfl ?_
            obtain ⟨b27, e27, h⟩ := h
            rw [e27]
            obtain ⟨o28, h⟩ := h
            obtain ⟨R26, g26, h⟩ := h
            refine x_callV hG (Ky := kJ5_size) (As := []) dX8_numberAll_92 o28 rfl lk_X8_73 me_J5_size is_J5_size se_J5_size rfl rfl (Nat.le_of_ble_eq_true rfl) (MX.post (m_w_J5_size hG hO g26) ?_)
            rintro _ A26 ⟨v26, rfl, h1⟩
            refine X.xok (fun w26 => ?_)
            replace h := h v26 A26 w26 h1
            change X _ _ _ _ A26 _ _ [.int v26, .int (5 : Int32)]
            refine x_imul dX8_numberAll_95 ?_
            refine x_iconst_ (v := (2 : Int32)) dX8_numberAll_96 (by decide) ?_
            refine x_aload_n dX8_numberAll_97 rfl ?_
            obtain ⟨o29, h⟩ := h
            refine x_get (v := .int (A26.I p 12)) hG dX8_numberAll_98 f_X8_179_7 o29 rfl ?_
            refine x_imul dX8_numberAll_101 ?_
            refine x_iadd dX8_numberAll_102 ?_
            refine x_bipush_ (v := (20 : Int32)) dX8_numberAll_103 (by decide) ?_
            refine x_iadd dX8_numberAll_105 ?_
            refine x_istore dX8_numberAll_106 (by decide) ?_
            refine x_iconst_ (v := (0 : Int32)) dX8_numberAll_108 (by decide) ?_
            refine x_istore dX8_numberAll_109 (by decide) ?_
            obtain ⟨L30, ⟨n30, i30⟩, g30⟩ := h
            have kl30 : ∀ n30 : Nat, ∀ (y30_4 : Int32) (y30_5 : Int32) (A30 : xA), L30 n30 y30_4 y30_5 A30 → X G (dp + 8) kX8_numberAll (hV Q) A30 111 [some (.ref p), none, some (.int y10_2), some (.ref b23), some (.int y30_4), some (.int y30_5)] [] := by
              intro n30
              induction n30 using Nat.strongRecOn with
              | ind n30 ih30 =>
                intro y30_4 y30_5 A30 h
                replace h := g30 n30 y30_4 y30_5 A30 h
                refine x_iload dX8_numberAll_111 rfl ?_
                refine x_aload_n dX8_numberAll_113 rfl ?_
                obtain ⟨o31, h⟩ := h
                refine x_get (v := va_rf (A30.P b23 0)) hG dX8_numberAll_114 f_X8_153_34 o31 rfl ?_
                obtain ⟨b33, e33, h⟩ := h
                rw [e33]
                obtain ⟨o34, h⟩ := h
                obtain ⟨R32, g32, h⟩ := h
                refine x_callV hG (Ky := kJ5_size) (As := []) dX8_numberAll_117 o34 rfl lk_X8_73 me_J5_size is_J5_size se_J5_size rfl rfl (Nat.le_of_ble_eq_true rfl) (MX.post (m_w_J5_size hG hO g32) ?_)
                rintro _ A32 ⟨v32, rfl, h1⟩
                refine X.xok (fun w32 => ?_)
                replace h := h v32 A32 w32 h1
                change X _ _ _ _ A32 _ _ [.int v32, .int y30_5]
                refine x_icmp_ge (tgt := 170) dX8_numberAll_120 (by decide) (fun c120 => ?_) (fun c120 => ?_)
                · replace h := h.1 c120
                  refine x_aload_n dX8_numberAll_170 rfl ?_
                  refine x_iload dX8_numberAll_171 rfl ?_
                  obtain ⟨o36, h⟩ := h
                  obtain ⟨R35, g35, h⟩ := h
                  refine x_callV hG (Ky := kX8_begin) (As := [.int y30_4]) dX8_numberAll_173 o36 rfl lk_X8_226 me_X8_begin is_X8_begin se_X8_begin rfl rfl (Nat.le_of_ble_eq_true rfl) (MX.post (m_X8_begin hG hO g35) ?_)
                  rintro _ A35 ⟨rfl, h1⟩
                  refine X.xok (fun w35 => ?_)
                  replace h := h A35 w35 h1
                  change X _ _ _ _ A35 _ _ []
                  refine x_iconst_ (v := (0 : Int32)) dX8_numberAll_176 (by decide) ?_
                  refine x_istore dX8_numberAll_177 (by decide) ?_
                  obtain ⟨L37, ⟨n37, i37⟩, g37⟩ := h
                  have kl37 : ∀ n37 : Nat, ∀ (y37_5 : Int32) (A37 : xA), L37 n37 y37_5 A37 → X G (dp + 8) kX8_numberAll (hV Q) A37 179 [some (.ref p), none, some (.int y10_2), some (.ref b23), none, some (.int y37_5)] [] := by
                    intro n37
                    induction n37 using Nat.strongRecOn with
                    | ind n37 ih37 =>
                      intro y37_5 A37 h
                      replace h := g37 n37 y37_5 A37 h
                      refine x_iload dX8_numberAll_179 rfl ?_
                      refine x_aload_n dX8_numberAll_181 rfl ?_
                      obtain ⟨o38, h⟩ := h
                      refine x_get (v := .int (A37.I p 12)) hG dX8_numberAll_182 f_X8_179_7 o38 rfl ?_
                      refine x_icmp_ge (tgt := 258) dX8_numberAll_185 (by decide) (fun c185 => ?_) (fun c185 => ?_)
                      · replace h := h.1 c185
                        refine x_aload_n dX8_numberAll_258 rfl ?_
                        refine x_aload_n dX8_numberAll_259 rfl ?_
                        obtain ⟨o39, h⟩ := h
                        refine x_get (v := va_rf (A37.P b23 0)) hG dX8_numberAll_260 f_X8_153_34 o39 rfl ?_
                        refine z_putP hG hO.1 (A37.P b23 0) dX8_numberAll_263 f_X8_238_7 ⟨_, rfl, Or.inl rfl⟩ o38 (by decide) (Or.inl ⟨_, rfl⟩) (fun A40 e40 => ?_)
                        replace h := h A40 e40
                        refine x_aload_n dX8_numberAll_266 rfl ?_
                        refine x_iconst_ (v := (0 : Int32)) dX8_numberAll_267 (by decide) ?_
                        refine z_putI hG hO.1 dX8_numberAll_268 f_X8_241_7 ⟨_, rfl, Or.inl rfl⟩ (kP e40 o38) (by decide) rfl rfl ⟨_, rfl⟩ (fun A41 e41 => ?_)
                        replace h := h A41 e41
                        refine x_iconst_ (v := (0 : Int32)) dX8_numberAll_271 (by decide) ?_
                        refine x_istore dX8_numberAll_272 (by decide) ?_
                        obtain ⟨L42, ⟨n42, i42⟩, g42⟩ := h
                        have kl42 : ∀ n42 : Nat, ∀ (y42_5 : Int32) (A42 : xA), L42 n42 y42_5 A42 → X G (dp + 8) kX8_numberAll (hV Q) A42 274 [some (.ref p), none, some (.int y10_2), some (.ref b23), none, some (.int y42_5)] [] := by
                          intro n42
                          induction n42 using Nat.strongRecOn with
                          | ind n42 ih42 =>
                            intro y42_5 A42 h
                            replace h := g42 n42 y42_5 A42 h
                            refine x_iload dX8_numberAll_274 rfl ?_
                            refine x_aload_n dX8_numberAll_276 rfl ?_
                            obtain ⟨o43, h⟩ := h
                            refine x_get (v := va_rf (A42.P p 36)) hG dX8_numberAll_277 f_X8_238_7 o43 rfl ?_
                            obtain ⟨b45, e45, h⟩ := h
                            rw [e45]
                            obtain ⟨o46, h⟩ := h
                            obtain ⟨R44, g44, h⟩ := h
                            refine x_callV hG (Ky := kJ5_size) (As := []) dX8_numberAll_280 o46 rfl lk_X8_73 me_J5_size is_J5_size se_J5_size rfl rfl (Nat.le_of_ble_eq_true rfl) (MX.post (m_w_J5_size hG hO g44) ?_)
                            rintro _ A44 ⟨v44, rfl, h1⟩
                            refine X.xok (fun w44 => ?_)
                            replace h := h v44 A44 w44 h1
                            change X _ _ _ _ A44 _ _ [.int v44, .int y42_5]
                            refine x_icmp_ge (tgt := 308) dX8_numberAll_283 (by decide) (fun c283 => ?_) (fun c283 => ?_)
                            · replace h := h.1 c283
                              refine x_aload_n dX8_numberAll_308 rfl ?_
                              obtain ⟨o47, h⟩ := h
                              refine x_get (v := va_rf (A44.P p 36)) hG dX8_numberAll_309 f_X8_238_7 o47 rfl ?_
                              refine x_aload_n dX8_numberAll_312 rfl ?_
                              refine x_get (v := .int (A44.I p 37)) hG dX8_numberAll_313 f_X8_241_7 o47 rfl ?_
                              obtain ⟨R48, g48, h⟩ := h
                              refine x_callS hG (Ky := kX0_cut) (As := [va_rf (A44.P p 36), .int (A44.I p 37)]) dX8_numberAll_316 lk_X8_149 me_X0_cut st_X0_cut rfl rfl (Nat.le_of_ble_eq_true rfl) (MX.post (m_X0_cut hG hO g48) ?_)
                              rintro _ A48 ⟨rfl, h1⟩
                              refine X.xok (fun w48 => ?_)
                              replace h := h A48 w48 h1
                              change X _ _ _ _ A48 _ _ []
                              refine x_aload_n dX8_numberAll_319 rfl ?_
                              refine x_aload_n dX8_numberAll_320 rfl ?_
                              obtain ⟨o50, h⟩ := h
                              obtain ⟨R49, g49, h⟩ := h
                              refine x_callV hG (Ky := kX8_end) (As := [.ref b23]) dX8_numberAll_321 o50 rfl lk_X8_246 me_X8_end is_X8_end se_X8_end rfl rfl (Nat.le_of_ble_eq_true rfl) (MX.post (m_X8_end hG hO g49) ?_)
                              rintro _ A49 ⟨rfl, h1⟩
                              refine X.xok (fun w49 => ?_)
                              replace h := h A49 w49 h1
                              change X _ _ _ _ A49 _ _ []
                              change X _ _ _ _ _ _ [some (.ref p), none, some (.int y10_2), some (.ref b23), none, some (.int y42_5)] []
                              exact X.weak (xle_c rfl (xle_n (xle_c rfl (xle_n (xle_n (xle_n xle_nil)))))) (kj25 A49 h)
                            · replace h := h.2 c283
                              refine x_aload_n dX8_numberAll_286 rfl ?_
                              refine x_aload_n dX8_numberAll_287 rfl ?_
                              obtain ⟨o51, h⟩ := h
                              refine x_get (v := va_rf (A44.P p 36)) hG dX8_numberAll_288 f_X8_238_7 o51 rfl ?_
                              refine x_iload dX8_numberAll_291 rfl ?_
                              obtain ⟨b53, e53, h⟩ := h
                              rw [e53]
                              obtain ⟨o54, h⟩ := h
                              obtain ⟨R52, g52, h⟩ := h
                              refine x_callV hG (Ky := kJ5_get) (As := [.int y42_5]) dX8_numberAll_293 o54 rfl lk_X8_77 me_J5_get is_J5_get se_J5_get rfl rfl (Nat.le_of_ble_eq_true rfl) (MX.post (m_w_J5_get hG hO g52) ?_)
                              rintro _ A52 ⟨v52, rfl, h1⟩
                              refine X.xok (fun w52 => ?_)
                              replace h := h v52 A52 w52 h1
                              change X _ _ _ _ A52 _ _ [va_rf v52, .ref p]
                              obtain ⟨b55, e55, h⟩ := h
                              rw [e55]
                              obtain ⟨o56, h⟩ := h
                              refine x_cast hG dX8_numberAll_296 q2487 o56 rfl (Or.inl rfl) ?_
                              obtain ⟨o58, h⟩ := h
                              obtain ⟨R57, g57, h⟩ := h
                              refine x_callV hG (Ky := kX8_act) (As := [.ref b55]) dX8_numberAll_299 o58 rfl lk_X8_244 me_X8_act is_X8_act se_X8_act rfl rfl (Nat.le_of_ble_eq_true rfl) (MX.post (m_X8_act hG hO g57) ?_)
                              rintro _ A57 ⟨rfl, h1⟩
                              refine X.xok (fun w57 => ?_)
                              replace h := h A57 w57 h1
                              change X _ _ _ _ A57 _ _ []
                              refine x_iinc (v := (y42_5 + (1 : Int32))) dX8_numberAll_302 rfl rfl (by decide) ?_
                              refine x_goto (tgt := 274) dX8_numberAll_305 (by decide) ?_
                              obtain ⟨q42, l42, h⟩ := h
                              change X _ _ _ _ _ _ [some (.ref p), none, some (.int y10_2), some (.ref b23), none, some (.int (y42_5 + (1 : Int32)))] []
                              exact X.weak (xle_c rfl (xle_n (xle_c rfl (xle_c rfl (xle_n (xle_c rfl xle_nil)))))) (ih42 q42 l42 (y42_5 + (1 : Int32)) A57 h)
                        change X _ _ _ _ _ _ [some (.ref p), none, some (.int y10_2), some (.ref b23), none, some (.int (0 : Int32))] []
                        exact X.weak (xle_c rfl (xle_n (xle_c rfl (xle_c rfl (xle_n (xle_c rfl xle_nil)))))) (kl42 n42 (0 : Int32) A41 i42)
                      · replace h := h.2 c185
                        refine x_aload_n dX8_numberAll_188 rfl ?_
                        refine x_get (v := va_rf (A37.P p 4)) hG dX8_numberAll_189 f_X8_22_7 o38 rfl ?_
                        refine x_aload_n dX8_numberAll_192 rfl ?_
                        refine x_get (v := .int (A37.I p 12)) hG dX8_numberAll_193 f_X8_179_7 o38 rfl ?_
                        refine x_aload_n dX8_numberAll_196 rfl ?_
                        obtain ⟨o59, h⟩ := h
                        refine x_get (v := .int (A37.I b23 8)) hG dX8_numberAll_197 f_X8_142_34 o59 rfl ?_
                        refine x_imul dX8_numberAll_200 ?_
                        refine x_iload dX8_numberAll_201 rfl ?_
                        refine x_iadd dX8_numberAll_203 ?_
                        obtain ⟨b60, e60, h⟩ := h
                        rw [e60]
                        obtain ⟨o61, h⟩ := h
                        obtain ⟨o62, h⟩ := h
                        refine x_iald hG dX8_numberAll_204 o61 o62 ?_
                        refine x_iconst_ (v := (1 : Int32)) dX8_numberAll_205 (by decide) ?_
                        obtain ⟨J63, g63, h⟩ := h
                        have kj63 : ∀ (A63 : xA), J63 A63 → X G (dp + 8) kX8_numberAll (hV Q) A63 252 [some (.ref p), none, some (.int y10_2), some (.ref b23), none, some (.int y37_5)] [] := by
                          intro A63 h
                          replace h := g63 A63 h
                          refine x_iinc (v := (y37_5 + (1 : Int32))) dX8_numberAll_252 rfl rfl (by decide) ?_
                          refine x_goto (tgt := 179) dX8_numberAll_255 (by decide) ?_
                          obtain ⟨q37, l37, h⟩ := h
                          change X _ _ _ _ _ _ [some (.ref p), none, some (.int y10_2), some (.ref b23), none, some (.int (y37_5 + (1 : Int32)))] []
                          exact X.weak (xle_c rfl (xle_n (xle_c rfl (xle_c rfl (xle_n (xle_c rfl xle_nil)))))) (ih37 q37 l37 (y37_5 + (1 : Int32)) A63 h)
                        refine x_icmp_ne (tgt := 252) dX8_numberAll_206 (by decide) (fun c206 => ?_) (fun c206 => ?_)
                        · replace h := h.2 c206
                          change X _ _ _ _ _ _ [some (.ref p), none, some (.int y10_2), some (.ref b23), none, some (.int y37_5)] []
                          exact X.weak (xle_c rfl (xle_n (xle_c rfl (xle_c rfl (xle_n (xle_c rfl xle_nil)))))) (kj63 A37 h)
                        · replace h := h.1 c206
                          refine x_aload_n dX8_numberAll_209 rfl ?_
                          refine x_aload_n dX8_numberAll_210 rfl ?_
                          refine x_get (v := va_rf (A37.P p 1)) hG dX8_numberAll_211 f_X8_56_7 o38 rfl ?_
                          obtain ⟨b64, e64, h⟩ := h
                          rw [e64]
                          obtain ⟨o65, h⟩ := h
                          refine x_get (v := va_rf (A37.P b64 4)) hG dX8_numberAll_214 f_X8_70_33 o65 rfl ?_
                          refine x_iload dX8_numberAll_217 rfl ?_
                          obtain ⟨b67, e67, h⟩ := h
                          rw [e67]
                          obtain ⟨o68, h⟩ := h
                          obtain ⟨R66, g66, h⟩ := h
                          refine x_callV hG (Ky := kJ5_get) (As := [.int y37_5]) dX8_numberAll_219 o68 rfl lk_X8_77 me_J5_get is_J5_get se_J5_get rfl rfl (Nat.le_of_ble_eq_true rfl) (MX.post (m_w_J5_get hG hO g66) ?_)
                          rintro _ A66 ⟨v66, rfl, h1⟩
                          refine X.xok (fun w66 => ?_)
                          replace h := h v66 A66 w66 h1
                          change X _ _ _ _ A66 _ _ [va_rf v66, .ref p]
                          obtain ⟨b69, e69, h⟩ := h
                          rw [e69]
                          obtain ⟨o70, h⟩ := h
                          refine x_cast hG dX8_numberAll_222 q2443 o70 rfl (Or.inl rfl) ?_
                          obtain ⟨R71, g71, h⟩ := h
                          refine x_callV hG (Ky := kJ15_intValue) (As := []) dX8_numberAll_225 o70 rfl lk_X8_83 me_J15_intValue is_J15_intValue se_J15_intValue rfl rfl (Nat.le_of_ble_eq_true rfl) (MX.post (m_J15_intValue hG hO g71) ?_)
                          rintro _ A71 ⟨v71, rfl, h1⟩
                          refine X.xok (fun w71 => ?_)
                          replace h := h v71 A71 w71 h1
                          change X _ _ _ _ A71 _ _ [.int v71, .ref p]
                          refine x_aload_n dX8_numberAll_228 rfl ?_
                          refine x_aload_n dX8_numberAll_229 rfl ?_
                          obtain ⟨o72, h⟩ := h
                          refine x_get (v := va_rf (A71.P p 5)) hG dX8_numberAll_230 f_X8_25_7 o72 rfl ?_
                          refine x_aload_n dX8_numberAll_233 rfl ?_
                          refine x_get (v := .int (A71.I p 12)) hG dX8_numberAll_234 f_X8_179_7 o72 rfl ?_
                          refine x_aload_n dX8_numberAll_237 rfl ?_
                          obtain ⟨o73, h⟩ := h
                          refine x_get (v := .int (A71.I b23 8)) hG dX8_numberAll_238 f_X8_142_34 o73 rfl ?_
                          refine x_imul dX8_numberAll_241 ?_
                          refine x_iload dX8_numberAll_242 rfl ?_
                          refine x_iadd dX8_numberAll_244 ?_
                          obtain ⟨b74, e74, h⟩ := h
                          rw [e74]
                          obtain ⟨o75, h⟩ := h
                          obtain ⟨o76, h⟩ := h
                          refine x_iald hG dX8_numberAll_245 o75 o76 ?_
                          obtain ⟨R77, g77, h⟩ := h
                          refine x_callV hG (Ky := kX8_ofConstant) (As := [.int (A71.I b74 (ix (((A71.I p 12) * (A71.I b23 8)) + y37_5)))]) dX8_numberAll_246 o72 rfl lk_X8_230 me_X8_ofConstant is_X8_ofConstant se_X8_ofConstant rfl rfl (Nat.le_of_ble_eq_true rfl) (MX.post (m_X8_ofConstant hG hO g77) ?_)
                          rintro _ A77 ⟨v77, rfl, h1⟩
                          refine X.xok (fun w77 => ?_)
                          replace h := h v77 A77 w77 h1
                          change X _ _ _ _ A77 _ _ [.int v77, .int v71, .ref p]
                          obtain ⟨o79, h⟩ := h
                          obtain ⟨R78, g78, h⟩ := h
                          refine x_callV hG (Ky := kX8_define) (As := [.int v71, .int v77]) dX8_numberAll_249 o79 rfl lk_X8_234 me_X8_define is_X8_define se_X8_define rfl rfl (Nat.le_of_ble_eq_true rfl) (MX.post (m_X8_define hG hO g78) ?_)
                          rintro _ A78 ⟨rfl, h1⟩
                          refine X.xok (fun w78 => ?_)
                          replace h := h A78 w78 h1
                          change X _ _ _ _ A78 _ _ []
                          change X _ _ _ _ _ _ [some (.ref p), none, some (.int y10_2), some (.ref b23), none, some (.int y37_5)] []
                          exact X.weak (xle_c rfl (xle_n (xle_c rfl (xle_c rfl (xle_n (xle_c rfl xle_nil)))))) (kj63 A78 h)
                  change X _ _ _ _ _ _ [some (.ref p), none, some (.int y10_2), some (.ref b23), some (.int y30_4), some (.int (0 : Int32))] []
                  exact X.weak (xle_c rfl (xle_n (xle_c rfl (xle_c rfl (xle_n (xle_c rfl xle_nil)))))) (kl37 n37 (0 : Int32) A35 i37)
                · replace h := h.2 c120
                  refine x_aload_n dX8_numberAll_123 rfl ?_
                  obtain ⟨o80, h⟩ := h
                  refine x_get (v := va_rf (A32.P b23 0)) hG dX8_numberAll_124 f_X8_153_34 o80 rfl ?_
                  refine x_iload dX8_numberAll_127 rfl ?_
                  obtain ⟨b82, e82, h⟩ := h
                  rw [e82]
                  obtain ⟨o83, h⟩ := h
                  obtain ⟨R81, g81, h⟩ := h
                  refine x_callV hG (Ky := kJ5_get) (As := [.int y30_5]) dX8_numberAll_129 o83 rfl lk_X8_77 me_J5_get is_J5_get se_J5_get rfl rfl (Nat.le_of_ble_eq_true rfl) (MX.post (m_w_J5_get hG hO g81) ?_)
                  rintro _ A81 ⟨v81, rfl, h1⟩
                  refine X.xok (fun w81 => ?_)
                  replace h := h v81 A81 w81 h1
                  change X _ _ _ _ A81 _ _ [va_rf v81]
                  obtain ⟨b84, e84, h⟩ := h
                  rw [e84]
                  obtain ⟨o85, h⟩ := h
                  refine x_cast hG dX8_numberAll_132 q2487 o85 rfl (Or.inl rfl) ?_
                  refine x_get (v := va_rf (A81.P b84 9)) hG dX8_numberAll_135 f_X8_222_35 o85 rfl ?_
                  obtain ⟨J86, g86, h⟩ := h
                  have kj86 : ∀ (y86_4 : Int32) (A86 : xA), J86 y86_4 A86 → X G (dp + 8) kX8_numberAll (hV Q) A86 164 [some (.ref p), none, some (.int y10_2), some (.ref b23), some (.int y86_4), some (.int y30_5)] [] := by
                    intro y86_4 A86 h
                    replace h := g86 y86_4 A86 h
                    refine x_iinc (v := (y30_5 + (1 : Int32))) dX8_numberAll_164 rfl rfl (by decide) ?_
                    refine x_goto (tgt := 111) dX8_numberAll_167 (by decide) ?_
                    obtain ⟨q30, l30, h⟩ := h
                    change X _ _ _ _ _ _ [some (.ref p), none, some (.int y10_2), some (.ref b23), some (.int y86_4), some (.int (y30_5 + (1 : Int32)))] []
                    exact X.weak (xle_c rfl (xle_n (xle_c rfl (xle_c rfl (xle_c rfl (xle_c rfl xle_nil)))))) (ih30 q30 l30 y86_4 (y30_5 + (1 : Int32)) A86 h)
                  refine x_ifnull (tgt := 164) dX8_numberAll_138 (by decide) (fun c138 => ?_) (fun b87 c138 => ?_)
                  · replace h := h.1 c138
                    change X _ _ _ _ _ _ [some (.ref p), none, some (.int y10_2), some (.ref b23), some (.int y30_4), some (.int y30_5)] []
                    exact X.weak (xle_c rfl (xle_n (xle_c rfl (xle_c rfl (xle_c rfl (xle_c rfl xle_nil)))))) (kj86 y30_4 A81 h)
                  · replace h := h.2 b87 c138
                    refine x_iload dX8_numberAll_141 rfl ?_
                    refine x_iconst_ (v := (2 : Int32)) dX8_numberAll_143 (by decide) ?_
                    refine x_aload_n dX8_numberAll_144 rfl ?_
                    obtain ⟨o88, h⟩ := h
                    refine x_get (v := va_rf (A81.P b23 0)) hG dX8_numberAll_145 f_X8_153_34 o88 rfl ?_
                    refine x_iload dX8_numberAll_148 rfl ?_
                    obtain ⟨b90, e90, h⟩ := h
                    rw [e90]
                    obtain ⟨o91, h⟩ := h
                    obtain ⟨R89, g89, h⟩ := h
                    refine x_callV hG (Ky := kJ5_get) (As := [.int y30_5]) dX8_numberAll_150 o91 rfl lk_X8_77 me_J5_get is_J5_get se_J5_get rfl rfl (Nat.le_of_ble_eq_true rfl) (MX.post (m_w_J5_get hG hO g89) ?_)
                    rintro _ A89 ⟨v89, rfl, h1⟩
                    refine X.xok (fun w89 => ?_)
                    replace h := h v89 A89 w89 h1
                    change X _ _ _ _ A89 _ _ [va_rf v89, .int (2 : Int32), .int y30_4]
                    obtain ⟨b92, e92, h⟩ := h
                    rw [e92]
                    obtain ⟨o93, h⟩ := h
                    refine x_cast hG dX8_numberAll_153 q2487 o93 rfl (Or.inl rfl) ?_
                    refine x_get (v := va_rf (A89.P b92 9)) hG dX8_numberAll_156 f_X8_222_35 o93 rfl ?_
                    obtain ⟨b94, e94, h⟩ := h
                    rw [e94]
                    obtain ⟨o95, h⟩ := h
                    refine x_alen hG (j := 1) dX8_numberAll_159 o95 ?_
                    refine x_imul dX8_numberAll_160 ?_
                    refine x_iadd dX8_numberAll_161 ?_
                    refine x_istore dX8_numberAll_162 (by decide) ?_
                    change X _ _ _ _ _ _ [some (.ref p), none, some (.int y10_2), some (.ref b23), some (.int (y30_4 + ((2 : Int32) * (nI (A89.ln b94))))), some (.int y30_5)] []
                    exact X.weak (xle_c rfl (xle_n (xle_c rfl (xle_c rfl (xle_c rfl (xle_c rfl xle_nil)))))) (kj86 (y30_4 + ((2 : Int32) * (nI (A89.ln b94)))) A89 h)
            change X _ _ _ _ _ _ [some (.ref p), none, some (.int y10_2), some (.ref b23), some (.int ((((5 : Int32) * v26) + ((2 : Int32) * (A26.I p 12))) + (20 : Int32))), some (.int (0 : Int32))] []
            exact X.weak (xle_c rfl (xle_n (xle_c rfl (xle_c rfl (xle_c rfl (xle_c rfl xle_nil)))))) (kl30 n30 ((((5 : Int32) * v26) + ((2 : Int32) * (A26.I p 12))) + (20 : Int32)) (0 : Int32) A26 i30)
          · replace h := h.1 c81
            refine x_goto (tgt := 324) dX8_numberAll_84 (by decide) ?_
            change X _ _ _ _ _ _ [some (.ref p), none, some (.int y10_2), some (.ref b23), none, none] []
            exact X.weak (xle_c rfl (xle_n (xle_c rfl (xle_n (xle_n (xle_n xle_nil)))))) (kj25 A20 h)
    change X _ _ _ _ _ _ [some (.ref p), none, some (.int (0 : Int32)), none, none, none] []
    exact X.weak (xle_c rfl (xle_n (xle_c rfl (xle_n (xle_n (xle_n xle_nil)))))) (kl10 n10 (0 : Int32) A9 i10)
  refine x_icmp_ge (tgt := 46) dX8_numberAll_26 (by decide) (fun c26 => ?_) (fun c26 => ?_)
  · replace h := h.1 c26
    change X _ _ _ _ _ _ [some (.ref p), some (.int (A.I b2 2)), none, none, none, none] []
    exact X.weak (xle_c rfl (xle_n (xle_n (xle_n (xle_n (xle_n xle_nil)))))) (kj9 A6 h)
  · replace h := h.2 c26
    refine x_aload_n dX8_numberAll_29 rfl ?_
    refine x_aload_n dX8_numberAll_30 rfl ?_
    refine x_get (v := .ref b7) hG dX8_numberAll_31 f_X8_46_7 (kP e6 o5) (congrArg va_rf ((sP_k e6 (by decide)).trans e7)) ?_
    refine x_iload_n dX8_numberAll_34 rfl ?_
    obtain ⟨R96, g96, h⟩ := h
    refine x_callS hG (Ky := kX0_roomFor) (As := [.ref b7, .int (A.I b2 2)]) dX8_numberAll_35 lk_X8_66 me_X0_roomFor st_X0_roomFor rfl rfl (Nat.le_of_ble_eq_true rfl) (MX.post (m_X0_roomFor hG hO g96) ?_)
    rintro _ A96 ⟨v96, rfl, h1⟩
    refine X.xok (fun w96 => ?_)
    replace h := h v96 A96 w96 h1
    change X _ _ _ _ A96 _ _ [va_rf v96, .ref p]
    obtain ⟨o97, h⟩ := h
    refine z_putP hG hO.1 v96 dX8_numberAll_38 f_X8_46_7 ⟨_, rfl, Or.inl rfl⟩ o97 (by decide) (Or.inr ⟨_, rfl⟩) (fun A98 e98 => ?_)
    replace h := h A98 e98
    refine x_aload_n dX8_numberAll_41 rfl ?_
    refine x_iconst_ (v := (0 : Int32)) dX8_numberAll_42 (by decide) ?_
    refine z_putI hG hO.1 dX8_numberAll_43 f_X8_219_7 ⟨_, rfl, Or.inl rfl⟩ (kP e98 o97) (by decide) rfl rfl ⟨_, rfl⟩ (fun A99 e99 => ?_)
    replace h := h A99 e99
    change X _ _ _ _ _ _ [some (.ref p), some (.int (A.I b2 2)), none, none, none, none] []
    exact X.weak (xle_c rfl (xle_n (xle_n (xle_n (xle_n (xle_n xle_nil)))))) (kj9 A99 h)
def w_X8_useless (G : xG) (p : Nat) (Q : xA → Prop) (A : xA) : Prop := xok G A → A.tg p = 8 ∧ (∃ b3 : Nat, (A.P p 0) = some b3 ∧ (A.tg b3 = 7 ∧ (∃ R2 : xA → Prop, w_X7_find G b3 (A.P p 1) R2 A ∧ (∀ A2 : xA, xok G A2 → R2 A2 → (∃ L5 : Nat → Int32 → xA → Prop, (∃ n5 : Nat, L5 n5 (0 : Int32) A2) ∧ (∀ (n5 : Nat) (y5_1 : Int32) (A5 : xA), L5 n5 y5_1 A5 → A5.tg p = 8 ∧ (∃ b7 : Nat, (A5.P p 1) = some b7 ∧ (A5.tg b7 = 34 ∧ (∃ b10 : Nat, (A5.P b7 1) = some b10 ∧ (A5.tg b10 = 37 ∧ (∃ R9 : Int32 → xA → Prop, w_J5_size G b10 R9 A5 ∧ (∀ (v9 : Int32) (A9 : xA), xok G A9 → R9 v9 A9 → (((v9 ≤ y5_1 → Q A9) ∧ (¬ v9 ≤ y5_1 → A9.tg p = 8 ∧ (∃ b13 : Nat, (A9.P p 1) = some b13 ∧ (A9.tg b13 = 34 ∧ (∃ b16 : Nat, (A9.P b13 1) = some b16 ∧ (A9.tg b16 = 37 ∧ (∃ R15 : Option Nat → xA → Prop, w_J5_get G b16 y5_1 R15 A9 ∧ (∀ (v15 : Option Nat) (A15 : xA), xok G A15 → R15 v15 A15 → (∃ b18 : Nat, v15 = some b18 ∧ (A15.tg b18 = 35 ∧ (A15.tg p = 8 ∧ (∃ b22 : Nat, (A15.P p 0) = some b22 ∧ (A15.tg b22 = 7 ∧ (∃ R21 : xA → Prop, w_X7_begin G b22 (some b18) R21 A15 ∧ (∀ A21 : xA, xok G A21 → R21 A21 → (A21.tg b18 = 35 ∧ (∃ b26 : Nat, (A21.P b18 0) = some b26 ∧ (A21.tg b26 = 37 ∧ (∃ R25 : Int32 → xA → Prop, w_J5_size G b26 R25 A21 ∧ (∀ (v25 : Int32) (A25 : xA), xok G A25 → R25 v25 A25 → (∃ L28 : Nat → Int32 → xA → Prop, (∃ n28 : Nat, L28 n28 (v25 - (1 : Int32)) A25) ∧ (∀ (n28 : Nat) (y28_3 : Int32) (A28 : xA), L28 n28 y28_3 A28 → ((y28_3 < 0 → ∃ L29 : Nat → Int32 → Int32 → xA → Prop, (∃ n29 : Nat, L29 n29 (0 : Int32) (0 : Int32) A28) ∧ (∀ (n29 : Nat) (y29_3 : Int32) (y29_4 : Int32) (A29 : xA), L29 n29 y29_3 y29_4 A29 → A29.tg b18 = 35 ∧ (∃ b32 : Nat, (A29.P b18 0) = some b32 ∧ (A29.tg b32 = 37 ∧ (∃ R31 : Int32 → xA → Prop, w_J5_size G b32 R31 A29 ∧ (∀ (v31 : Int32) (A31 : xA), xok G A31 → R31 v31 A31 → (((v31 ≤ y29_4 → A31.tg b18 = 35 ∧ (∃ R35 : xA → Prop, w_X0_cut G (A31.P b18 0) y29_3 R35 A31 ∧ (∀ A35 : xA, xok G A35 → R35 A35 → ((∃ q5 : Nat, q5 < n5 ∧ L5 q5 (y5_1 + (1 : Int32)) A35))))) ∧ (¬ v31 ≤ y29_4 → A31.tg b18 = 35 ∧ (∃ b38 : Nat, (A31.P b18 0) = some b38 ∧ (A31.tg b38 = 37 ∧ (∃ R37 : Option Nat → xA → Prop, w_J5_get G b38 y29_4 R37 A31 ∧ (∀ (v37 : Option Nat) (A37 : xA), xok G A37 → R37 v37 A37 → (∃ b40 : Nat, v37 = some b40 ∧ (A37.tg b40 = 36 ∧ (∃ J42 : Int32 → xA → Prop, (∀ (y42_3 : Int32) (A42 : xA), J42 y42_3 A42 → (∃ q29 : Nat, q29 < n29 ∧ L29 q29 y42_3 (y29_4 + (1 : Int32)) A42)) ∧ (((A37.I b40 6) = 0 → J42 y29_3 A37) ∧ (¬ (A37.I b40 6) = 0 → A37.tg b18 = 35 ∧ (∃ b45 : Nat, (A37.P b18 0) = some b45 ∧ (A37.tg b45 = 37 ∧ (∃ R44 : Option Nat → xA → Prop, w_J5_get G b45 y29_4 R44 A37 ∧ (∀ (v44 : Option Nat) (A44 : xA), xok G A44 → R44 v44 A44 → (∃ b47 : Nat, v44 = some b47 ∧ (A44.tg b47 = 36 ∧ (A44.tg b45 = 37 ∧ (∃ R49 : Option Nat → xA → Prop, w_J5_set G b45 y29_3 (some b47) R49 A44 ∧ (∀ (v49 : Option Nat) (A49 : xA), xok G A49 → R49 v49 A49 → (J42 (y29_3 + (1 : Int32)) A49)))))))))))))))))))))))))))) ∧ (¬ y28_3 < 0 → A28.tg b18 = 35 ∧ (∃ b53 : Nat, (A28.P b18 0) = some b53 ∧ (A28.tg b53 = 37 ∧ (∃ R52 : Option Nat → xA → Prop, w_J5_get G b53 y28_3 R52 A28 ∧ (∀ (v52 : Option Nat) (A52 : xA), xok G A52 → R52 v52 A52 → (∃ b55 : Nat, v52 = some b55 ∧ (A52.tg b55 = 36 ∧ (∃ J57 : Int32 → xA → Prop, (∀ (y57_s0 : Int32) (A57 : xA), J57 y57_s0 A57 → ∃ J58 : Int32 → xA → Prop, (∀ (y58_s0 : Int32) (A58 : xA), J58 y58_s0 A58 → A58.tg b55 = 36 ∧ ((y58_s0 = 0 ∨ y58_s0 = 1) ∧ (∀ A61 : xA, A61 = A58.setI b55 6 y58_s0 → (∃ J62 : xA → Prop, (∀ (A62 : xA), J62 A62 → (∃ q28 : Nat, q28 < n28 ∧ L28 q28 (y28_3 + (-1 : Int32)) A62)) ∧ ((y58_s0 = 0 → J62 A61) ∧ (¬ y58_s0 = 0 → ∃ J63 : xA → Prop, (∀ (A63 : xA), J63 A63 → A63.tg p = 8 ∧ (∃ b66 : Nat, (A63.P p 0) = some b66 ∧ (A63.tg b66 = 7 ∧ (∃ R65 : xA → Prop, w_X7_back G b66 (some b55) R65 A63 ∧ (∀ A65 : xA, xok G A65 → R65 A65 → (J62 A65)))))) ∧ (((A58.I b55 1) < 0 → J63 A61) ∧ (¬ (A58.I b55 1) < 0 → ((y57_s0 = 0 → ∀ A68 : xA, A68 = A61.setI b55 1 (-1 : Int32) → (J63 A68)) ∧ (¬ y57_s0 = 0 → J63 A61)))))))))) ∧ ((y57_s0 = 0 → A57.tg b55 = 36 ∧ (∃ R69 : Int32 → xA → Prop, w_X37_isPure G b55 R69 A57 ∧ (∀ (v69 : Int32) (A69 : xA), xok G A69 → (v69 = 0 ∨ v69 = 1) → R69 v69 A69 → (((v69 = 0 → J58 (1 : Int32) A69) ∧ (¬ v69 = 0 → J58 (0 : Int32) A69)))))) ∧ (¬ y57_s0 = 0 → J58 (1 : Int32) A57))) ∧ (((A52.I b55 1) < 0 → J57 (0 : Int32) A52) ∧ (¬ (A52.I b55 1) < 0 → A52.tg p = 8 ∧ (∃ b73 : Nat, (A52.P p 0) = some b73 ∧ (A52.tg b73 = 7 ∧ (∃ R72 : Int32 → xA → Prop, w_X7_is G b73 (A52.I b55 1) R72 A52 ∧ (∀ (v72 : Int32) (A72 : xA), xok G A72 → (v72 = 0 ∨ v72 = 1) → R72 v72 A72 → (((v72 = 0 → J57 (0 : Int32) A72) ∧ (¬ v72 = 0 → J57 (1 : Int32) A72)))))))))))))))))))))))))))))))))))))))))))))))))))))
theorem m_X8_useless (hG : xOK G) (hO : xHO G) {dp : Nat} {p : Nat} {Q : xA → Prop} {A : xA} (h : w_X8_useless G p Q A) : MX G (dp + 5) kX8_useless [.ref p] A (hV Q) := by
  unfold w_X8_useless at h
  refine MX.of rfl (Nat.le_of_ble_eq_true rfl) ?_
  change X _ _ _ _ _ _ [some (.ref p), none, none, none, none, none] _
  refine X.xok (fun w0 => ?_)
  replace h := h w0
  refine x_aload_n dX8_useless_0 rfl ?_
  obtain ⟨o1, h⟩ := h
  refine x_get (v := va_rf (A.P p 0)) hG dX8_useless_1 f_X8_52_7 o1 rfl ?_
  refine x_aload_n dX8_useless_4 rfl ?_
  refine x_get (v := va_rf (A.P p 1)) hG dX8_useless_5 f_X8_56_7 o1 rfl ?_
  obtain ⟨b3, e3, h⟩ := h
  rw [e3]
  obtain ⟨o4, h⟩ := h
  obtain ⟨R2, g2, h⟩ := h
  refine x_callV hG (Ky := kX7_find) (As := [va_rf (A.P p 1)]) dX8_useless_8 o4 rfl lk_X8_410 me_X7_find is_X7_find se_X7_find rfl rfl (Nat.le_of_ble_eq_true rfl) (MX.post (m_X7_find hG hO g2) ?_)
  rintro _ A2 ⟨rfl, h1⟩
  refine X.xok (fun w2 => ?_)
  replace h := h A2 w2 h1
  change X _ _ _ _ A2 _ _ []
  refine x_iconst_ (v := (0 : Int32)) dX8_useless_11 (by decide) ?_
  refine x_istore_n dX8_useless_12 (by decide) ?_
  obtain ⟨L5, ⟨n5, i5⟩, g5⟩ := h
  have kl5 : ∀ n5 : Nat, ∀ (y5_1 : Int32) (A5 : xA), L5 n5 y5_1 A5 → X G (dp + 5) kX8_useless (hV Q) A5 13 [some (.ref p), some (.int y5_1), none, none, none, none] [] := by
    intro n5
    induction n5 using Nat.strongRecOn with
    | ind n5 ih5 =>
      intro y5_1 A5 h
      replace h := g5 n5 y5_1 A5 h
      refine x_iload_n dX8_useless_13 rfl ?_
      refine x_aload_n dX8_useless_14 rfl ?_
      obtain ⟨o6, h⟩ := h
      refine x_get (v := va_rf (A5.P p 1)) hG dX8_useless_15 f_X8_56_7 o6 rfl ?_
      obtain ⟨b7, e7, h⟩ := h
      rw [e7]
      obtain ⟨o8, h⟩ := h
      refine x_get (v := va_rf (A5.P b7 1)) hG dX8_useless_18 f_X8_101_33 o8 rfl ?_
      obtain ⟨b10, e10, h⟩ := h
      rw [e10]
      obtain ⟨o11, h⟩ := h
      obtain ⟨R9, g9, h⟩ := h
      refine x_callV hG (Ky := kJ5_size) (As := []) dX8_useless_21 o11 rfl lk_X8_73 me_J5_size is_J5_size se_J5_size rfl rfl (Nat.le_of_ble_eq_true rfl) (MX.post (m_w_J5_size hG hO g9) ?_)
      rintro _ A9 ⟨v9, rfl, h1⟩
      refine X.xok (fun w9 => ?_)
      replace h := h v9 A9 w9 h1
      change X _ _ _ _ A9 _ _ [.int v9, .int y5_1]
      refine x_icmp_ge (tgt := 257) dX8_useless_24 (by decide) (fun c24 => ?_) (fun c24 => ?_)
      · replace h := h.1 c24
        exact x_vret dX8_useless_257 rfl ⟨rfl, h⟩
      · replace h := h.2 c24
        refine x_aload_n dX8_useless_27 rfl ?_
        obtain ⟨o12, h⟩ := h
        refine x_get (v := va_rf (A9.P p 1)) hG dX8_useless_28 f_X8_56_7 o12 rfl ?_
        obtain ⟨b13, e13, h⟩ := h
        rw [e13]
        obtain ⟨o14, h⟩ := h
        refine x_get (v := va_rf (A9.P b13 1)) hG dX8_useless_31 f_X8_101_33 o14 rfl ?_
        refine x_iload_n dX8_useless_34 rfl ?_
        obtain ⟨b16, e16, h⟩ := h
        rw [e16]
        obtain ⟨o17, h⟩ := h
        obtain ⟨R15, g15, h⟩ := h
        refine x_callV hG (Ky := kJ5_get) (As := [.int y5_1]) dX8_useless_35 o17 rfl lk_X8_77 me_J5_get is_J5_get se_J5_get rfl rfl (Nat.le_of_ble_eq_true rfl) (MX.post (m_w_J5_get hG hO g15) ?_)
        rintro _ A15 ⟨v15, rfl, h1⟩
        refine X.xok (fun w15 => ?_)
        replace h := h v15 A15 w15 h1
        change X _ _ _ _ A15 _ _ [va_rf v15]
        obtain ⟨b18, e18, h⟩ := h
        rw [e18]
        obtain ⟨o19, h⟩ := h
        refine x_cast hG dX8_useless_38 q2452 o19 rfl (Or.inl rfl) ?_
        refine x_astore_n dX8_useless_41 (by decide) ?_
        refine x_aload_n dX8_useless_42 rfl ?_
        obtain ⟨o20, h⟩ := h
        refine x_get (v := va_rf (A15.P p 0)) hG dX8_useless_43 f_X8_52_7 o20 rfl ?_
        refine x_aload_n dX8_useless_46 rfl ?_
        obtain ⟨b22, e22, h⟩ := h
        rw [e22]
        obtain ⟨o23, h⟩ := h
        obtain ⟨R21, g21, h⟩ := h
        refine x_callV hG (Ky := kX7_begin) (As := [.ref b18]) dX8_useless_47 o23 rfl lk_X8_416 me_X7_begin is_X7_begin se_X7_begin rfl rfl (Nat.le_of_ble_eq_true rfl) (MX.post (m_X7_begin hG hO g21) ?_)
        rintro _ A21 ⟨rfl, h1⟩
        refine X.xok (fun w21 => ?_)
        replace h := h A21 w21 h1
        change X _ _ _ _ A21 _ _ []
        refine x_aload_n dX8_useless_50 rfl ?_
        obtain ⟨o24, h⟩ := h
        refine x_get (v := va_rf (A21.P b18 0)) hG dX8_useless_51 f_X8_153_34 o24 rfl ?_
        obtain ⟨b26, e26, h⟩ := h
        rw [e26]
        obtain ⟨o27, h⟩ := h
        obtain ⟨R25, g25, h⟩ := h
        refine x_callV hG (Ky := kJ5_size) (As := []) dX8_useless_54 o27 rfl lk_X8_73 me_J5_size is_J5_size se_J5_size rfl rfl (Nat.le_of_ble_eq_true rfl) (MX.post (m_w_J5_size hG hO g25) ?_)
        rintro _ A25 ⟨v25, rfl, h1⟩
        refine X.xok (fun w25 => ?_)
        replace h := h v25 A25 w25 h1
        change X _ _ _ _ A25 _ _ [.int v25]
        refine x_iconst_ (v := (1 : Int32)) dX8_useless_57 (by decide) ?_
        refine x_isub dX8_useless_58 ?_
        refine x_istore_n dX8_useless_59 (by decide) ?_
        obtain ⟨L28, ⟨n28, i28⟩, g28⟩ := h
        have kl28 : ∀ n28 : Nat, ∀ (y28_3 : Int32) (A28 : xA), L28 n28 y28_3 A28 → X G (dp + 5) kX8_useless (hV Q) A28 60 [some (.ref p), some (.int y5_1), some (.ref b18), some (.int y28_3), none, none] [] := by
          intro n28
          induction n28 using Nat.strongRecOn with
          | ind n28 ih28 =>
            intro y28_3 A28 h
            replace h := g28 n28 y28_3 A28 h
            refine x_iload_n dX8_useless_60 rfl ?_
            refine x_if_lt (tgt := 175) dX8_useless_61 (by decide) (fun c61 => ?_) (fun c61 => ?_)
            · replace h := h.1 c61
              refine x_iconst_ (v := (0 : Int32)) dX8_useless_175 (by decide) ?_
              refine x_istore_n dX8_useless_176 (by decide) ?_
              refine x_iconst_ (v := (0 : Int32)) dX8_useless_177 (by decide) ?_
              refine x_istore dX8_useless_178 (by decide) ?_
              obtain ⟨L29, ⟨n29, i29⟩, g29⟩ := h
              have kl29 : ∀ n29 : Nat, ∀ (y29_3 : Int32) (y29_4 : Int32) (A29 : xA), L29 n29 y29_3 y29_4 A29 → X G (dp + 5) kX8_useless (hV Q) A29 180 [some (.ref p), some (.int y5_1), some (.ref b18), some (.int y29_3), some (.int y29_4), none] [] := by
                intro n29
                induction n29 using Nat.strongRecOn with
                | ind n29 ih29 =>
                  intro y29_3 y29_4 A29 h
                  replace h := g29 n29 y29_3 y29_4 A29 h
                  refine x_iload dX8_useless_180 rfl ?_
                  refine x_aload_n dX8_useless_182 rfl ?_
                  obtain ⟨o30, h⟩ := h
                  refine x_get (v := va_rf (A29.P b18 0)) hG dX8_useless_183 f_X8_153_34 o30 rfl ?_
                  obtain ⟨b32, e32, h⟩ := h
                  rw [e32]
                  obtain ⟨o33, h⟩ := h
                  obtain ⟨R31, g31, h⟩ := h
                  refine x_callV hG (Ky := kJ5_size) (As := []) dX8_useless_186 o33 rfl lk_X8_73 me_J5_size is_J5_size se_J5_size rfl rfl (Nat.le_of_ble_eq_true rfl) (MX.post (m_w_J5_size hG hO g31) ?_)
                  rintro _ A31 ⟨v31, rfl, h1⟩
                  refine X.xok (fun w31 => ?_)
                  replace h := h v31 A31 w31 h1
                  change X _ _ _ _ A31 _ _ [.int v31, .int y29_4]
                  refine x_icmp_ge (tgt := 243) dX8_useless_189 (by decide) (fun c189 => ?_) (fun c189 => ?_)
                  · replace h := h.1 c189
                    refine x_aload_n dX8_useless_243 rfl ?_
                    obtain ⟨o34, h⟩ := h
                    refine x_get (v := va_rf (A31.P b18 0)) hG dX8_useless_244 f_X8_153_34 o34 rfl ?_
                    refine x_iload_n dX8_useless_247 rfl ?_
                    obtain ⟨R35, g35, h⟩ := h
                    refine x_callS hG (Ky := kX0_cut) (As := [va_rf (A31.P b18 0), .int y29_3]) dX8_useless_248 lk_X8_149 me_X0_cut st_X0_cut rfl rfl (Nat.le_of_ble_eq_true rfl) (MX.post (m_X0_cut hG hO g35) ?_)
                    rintro _ A35 ⟨rfl, h1⟩
                    refine X.xok (fun w35 => ?_)
                    replace h := h A35 w35 h1
                    change X _ _ _ _ A35 _ _ []
                    refine x_iinc (v := (y5_1 + (1 : Int32))) dX8_useless_251 rfl rfl (by decide) ?_
                    refine x_goto (tgt := 13) dX8_useless_254 (by decide) ?_
                    obtain ⟨q5, l5, h⟩ := h
                    change X _ _ _ _ _ _ [some (.ref p), some (.int (y5_1 + (1 : Int32))), some (.ref b18), some (.int y29_3), some (.int y29_4), none] []
                    exact X.weak (xle_c rfl (xle_c rfl (xle_n (xle_n (xle_n (xle_n xle_nil)))))) (ih5 q5 l5 (y5_1 + (1 : Int32)) A35 h)
                  · replace h := h.2 c189
                    refine x_aload_n dX8_useless_192 rfl ?_
                    obtain ⟨o36, h⟩ := h
                    refine x_get (v := va_rf (A31.P b18 0)) hG dX8_useless_193 f_X8_153_34 o36 rfl ?_
                    refine x_iload dX8_useless_196 rfl ?_
                    obtain ⟨b38, e38, h⟩ := h
                    rw [e38]
                    obtain ⟨o39, h⟩ := h
                    obtain ⟨R37, g37, h⟩ := h
                    refine x_callV hG (Ky := kJ5_get) (As := [.int y29_4]) dX8_useless_198 o39 rfl lk_X8_77 me_J5_get is_J5_get se_J5_get rfl rfl (Nat.le_of_ble_eq_true rfl) (MX.post (m_w_J5_get hG hO g37) ?_)
                    rintro _ A37 ⟨v37, rfl, h1⟩
                    refine X.xok (fun w37 => ?_)
                    replace h := h v37 A37 w37 h1
                    change X _ _ _ _ A37 _ _ [va_rf v37]
                    obtain ⟨b40, e40, h⟩ := h
                    rw [e40]
                    obtain ⟨o41, h⟩ := h
                    refine x_cast hG dX8_useless_201 q2487 o41 rfl (Or.inl rfl) ?_
                    refine x_get (v := .int (A37.I b40 6)) hG dX8_useless_204 f_X8_424_35 o41 rfl ?_
                    obtain ⟨J42, g42, h⟩ := h
                    have kj42 : ∀ (y42_3 : Int32) (A42 : xA), J42 y42_3 A42 → X G (dp + 5) kX8_useless (hV Q) A42 237 [some (.ref p), some (.int y5_1), some (.ref b18), some (.int y42_3), some (.int y29_4), none] [] := by
                      intro y42_3 A42 h
                      replace h := g42 y42_3 A42 h
                      refine x_iinc (v := (y29_4 + (1 : Int32))) dX8_useless_237 rfl rfl (by decide) ?_
                      refine x_goto (tgt := 180) dX8_useless_240 (by decide) ?_
                      obtain ⟨q29, l29, h⟩ := h
                      change X _ _ _ _ _ _ [some (.ref p), some (.int y5_1), some (.ref b18), some (.int y42_3), some (.int (y29_4 + (1 : Int32))), none] []
                      exact X.weak (xle_c rfl (xle_c rfl (xle_c rfl (xle_c rfl (xle_c rfl (xle_n xle_nil)))))) (ih29 q29 l29 y42_3 (y29_4 + (1 : Int32)) A42 h)
                    refine x_if_ne (tgt := 213) dX8_useless_207 (by decide) (fun c207 => ?_) (fun c207 => ?_)
                    · replace h := h.2 c207
                      refine x_aload_n dX8_useless_213 rfl ?_
                      obtain ⟨o43, h⟩ := h
                      refine x_get (v := va_rf (A37.P b18 0)) hG dX8_useless_214 f_X8_153_34 o43 rfl ?_
                      refine x_iload_n dX8_useless_217 rfl ?_
                      refine x_aload_n dX8_useless_218 rfl ?_
                      refine x_get (v := va_rf (A37.P b18 0)) hG dX8_useless_219 f_X8_153_34 o43 rfl ?_
                      refine x_iload dX8_useless_222 rfl ?_
                      obtain ⟨b45, e45, h⟩ := h
                      rw [e45]
                      obtain ⟨o46, h⟩ := h
                      obtain ⟨R44, g44, h⟩ := h
                      refine x_callV hG (Ky := kJ5_get) (As := [.int y29_4]) dX8_useless_224 o46 rfl lk_X8_77 me_J5_get is_J5_get se_J5_get rfl rfl (Nat.le_of_ble_eq_true rfl) (MX.post (m_w_J5_get hG hO g44) ?_)
                      rintro _ A44 ⟨v44, rfl, h1⟩
                      refine X.xok (fun w44 => ?_)
                      replace h := h v44 A44 w44 h1
                      change X _ _ _ _ A44 _ _ [va_rf v44, .int y29_3, .ref b45]
                      obtain ⟨b47, e47, h⟩ := h
                      rw [e47]
                      obtain ⟨o48, h⟩ := h
                      refine x_cast hG dX8_useless_227 q2487 o48 rfl (Or.inl rfl) ?_
                      obtain ⟨o50, h⟩ := h
                      obtain ⟨R49, g49, h⟩ := h
                      refine x_callV hG (Ky := kJ5_set) (As := [.int y29_3, .ref b47]) dX8_useless_230 o50 rfl lk_X8_145 me_J5_set is_J5_set se_J5_set rfl rfl (Nat.le_of_ble_eq_true rfl) (MX.post (m_w_J5_set hG hO g49) ?_)
                      rintro _ A49 ⟨v49, rfl, h1⟩
                      refine X.xok (fun w49 => ?_)
                      replace h := h v49 A49 w49 h1
                      change X _ _ _ _ A49 _ _ [va_rf v49]
                      refine x_pop dX8_useless_233 (va_rf_cat _) ?_
                      refine x_iinc (v := (y29_3 + (1 : Int32))) dX8_useless_234 rfl rfl (by decide) ?_
                      change X _ _ _ _ _ _ [some (.ref p), some (.int y5_1), some (.ref b18), some (.int (y29_3 + (1 : Int32))), some (.int y29_4), none] []
                      exact X.weak (xle_c rfl (xle_c rfl (xle_c rfl (xle_c rfl (xle_c rfl (xle_n xle_nil)))))) (kj42 (y29_3 + (1 : Int32)) A49 h)
                    · replace h := h.1 c207
                      refine x_goto (tgt := 237) dX8_useless_210 (by decide) ?_
                      change X _ _ _ _ _ _ [some (.ref p), some (.int y5_1), some (.ref b18), some (.int y29_3), some (.int y29_4), none] []
                      exact X.weak (xle_c rfl (xle_c rfl (xle_c rfl (xle_c rfl (xle_c rfl (xle_n xle_nil)))))) (kj42 y29_3 A37 h)
              change X _ _ _ _ _ _ [some (.ref p), some (.int y5_1), some (.ref b18), some (.int (0 : Int32)), some (.int (0 : Int32)), none] []
              exact X.weak (xle_c rfl (xle_c rfl (xle_c rfl (xle_c rfl (xle_c rfl (xle_n xle_nil)))))) (kl29 n29 (0 : Int32) (0 : Int32) A28 i29)
            · replace h := h.2 c61
              refine x_aload_n dX8_useless_64 rfl ?_
              obtain ⟨o51, h⟩ := h
              refine x_get (v := va_rf (A28.P b18 0)) hG dX8_useless_65 f_X8_153_34 o51 rfl ?_
              refine x_iload_n dX8_useless_68 rfl ?_
              obtain ⟨b53, e53, h⟩ := h
              rw [e53]
              obtain ⟨o54, h⟩ := h
              obtain ⟨R52, g52, h⟩ := h
              refine x_callV hG (Ky := kJ5_get) (As := [.int y28_3]) dX8_useless_69 o54 rfl lk_X8_77 me_J5_get is_J5_get se_J5_get rfl rfl (Nat.le_of_ble_eq_true rfl) (MX.post (m_w_J5_get hG hO g52) ?_)
              rintro _ A52 ⟨v52, rfl, h1⟩
              refine X.xok (fun w52 => ?_)
              replace h := h v52 A52 w52 h1
              change X _ _ _ _ A52 _ _ [va_rf v52]
              obtain ⟨b55, e55, h⟩ := h
              rw [e55]
              obtain ⟨o56, h⟩ := h
              refine x_cast hG dX8_useless_72 q2487 o56 rfl (Or.inl rfl) ?_
              refine x_astore dX8_useless_75 (by decide) ?_
              refine x_aload dX8_useless_77 rfl ?_
              refine x_get (v := .int (A52.I b55 1)) hG dX8_useless_79 f_X8_209_35 o56 rfl ?_
              obtain ⟨J57, g57, h⟩ := h
              have kj57 : ∀ (y57_s0 : Int32) (A57 : xA), J57 y57_s0 A57 → X G (dp + 5) kX8_useless (hV Q) A57 105 [some (.ref p), some (.int y5_1), some (.ref b18), some (.int y28_3), some (.ref b55), none] [.int y57_s0] := by
                intro y57_s0 A57 h
                replace h := g57 y57_s0 A57 h
                refine x_istore dX8_useless_105 (by decide) ?_
                refine x_aload dX8_useless_107 rfl ?_
                refine x_iload dX8_useless_109 rfl ?_
                obtain ⟨J58, g58, h⟩ := h
                have kj58 : ∀ (y58_s0 : Int32) (A58 : xA), J58 y58_s0 A58 → X G (dp + 5) kX8_useless (hV Q) A58 127 [some (.ref p), some (.int y5_1), some (.ref b18), some (.int y28_3), some (.ref b55), some (.int y57_s0)] [.int y58_s0, .ref b55] := by
                  intro y58_s0 A58 h
                  replace h := g58 y58_s0 A58 h
                  obtain ⟨o59, h⟩ := h
                  obtain ⟨o60, h⟩ := h
                  refine z_putI hG hO.1 dX8_useless_127 f_X8_424_35 ⟨_, rfl, Or.inl rfl⟩ o59 (by decide) (narrow01 o60) (fits01 o60) ⟨_, rfl⟩ (fun A61 e61 => ?_)
                  replace h := h A61 e61
                  refine x_aload dX8_useless_130 rfl ?_
                  refine x_get (v := .int y58_s0) hG dX8_useless_132 f_X8_424_35 (kI e61 o59) (congrArg Value.int (sI_s e61)) ?_
                  obtain ⟨J62, g62, h⟩ := h
                  have kj62 : ∀ (A62 : xA), J62 A62 → X G (dp + 5) kX8_useless (hV Q) A62 169 [some (.ref p), some (.int y5_1), some (.ref b18), some (.int y28_3), none, none] [] := by
                    intro A62 h
                    replace h := g62 A62 h
                    refine x_iinc (v := (y28_3 + (-1 : Int32))) dX8_useless_169 rfl rfl (by decide) ?_
                    refine x_goto (tgt := 60) dX8_useless_172 (by decide) ?_
                    obtain ⟨q28, l28, h⟩ := h
                    change X _ _ _ _ _ _ [some (.ref p), some (.int y5_1), some (.ref b18), some (.int (y28_3 + (-1 : Int32))), none, none] []
                    exact X.weak (xle_c rfl (xle_c rfl (xle_c rfl (xle_c rfl (xle_n (xle_n xle_nil)))))) (ih28 q28 l28 (y28_3 + (-1 : Int32)) A62 h)
                  refine x_if_ne (tgt := 141) dX8_useless_135 (by decide) (fun c135 => ?_) (fun c135 => ?_)
                  · replace h := h.2 c135
                    refine x_aload dX8_useless_141 rfl ?_
                    refine x_get (v := .int (A58.I b55 1)) hG dX8_useless_143 f_X8_209_35 (kI e61 o59) (congrArg Value.int (sI_k e61 (by decide))) ?_
                    obtain ⟨J63, g63, h⟩ := h
                    have kj63 : ∀ (A63 : xA), J63 A63 → X G (dp + 5) kX8_useless (hV Q) A63 160 [some (.ref p), some (.int y5_1), some (.ref b18), some (.int y28_3), some (.ref b55), none] [] := by
                      intro A63 h
                      replace h := g63 A63 h
                      refine x_aload_n dX8_useless_160 rfl ?_
                      obtain ⟨o64, h⟩ := h
                      refine x_get (v := va_rf (A63.P p 0)) hG dX8_useless_161 f_X8_52_7 o64 rfl ?_
                      refine x_aload dX8_useless_164 rfl ?_
                      obtain ⟨b66, e66, h⟩ := h
                      rw [e66]
                      obtain ⟨o67, h⟩ := h
                      obtain ⟨R65, g65, h⟩ := h
                      refine x_callV hG (Ky := kX7_back) (As := [.ref b55]) dX8_useless_166 o67 rfl lk_X8_427 me_X7_back is_X7_back se_X7_back rfl rfl (Nat.le_of_ble_eq_true rfl) (MX.post (m_X7_back hG hO g65) ?_)
                      rintro _ A65 ⟨rfl, h1⟩
                      refine X.xok (fun w65 => ?_)
                      replace h := h A65 w65 h1
                      change X _ _ _ _ A65 _ _ []
                      change X _ _ _ _ _ _ [some (.ref p), some (.int y5_1), some (.ref b18), some (.int y28_3), some (.ref b55), none] []
                      exact X.weak (xle_c rfl (xle_c rfl (xle_c rfl (xle_c rfl (xle_n (xle_n xle_nil)))))) (kj62 A65 h)
                    refine x_if_lt (tgt := 160) dX8_useless_146 (by decide) (fun c146 => ?_) (fun c146 => ?_)
                    · replace h := h.1 c146
                      change X _ _ _ _ _ _ [some (.ref p), some (.int y5_1), some (.ref b18), some (.int y28_3), some (.ref b55), some (.int y57_s0)] []
                      exact X.weak (xle_c rfl (xle_c rfl (xle_c rfl (xle_c rfl (xle_c rfl (xle_n xle_nil)))))) (kj63 A61 h)
                    · replace h := h.2 c146
                      refine x_iload dX8_useless_149 rfl ?_
                      refine x_if_ne (tgt := 160) dX8_useless_151 (by decide) (fun c151 => ?_) (fun c151 => ?_)
                      · replace h := h.2 c151
                        change X _ _ _ _ _ _ [some (.ref p), some (.int y5_1), some (.ref b18), some (.int y28_3), some (.ref b55), some (.int y57_s0)] []
                        exact X.weak (xle_c rfl (xle_c rfl (xle_c rfl (xle_c rfl (xle_c rfl (xle_n xle_nil)))))) (kj63 A61 h)
                      · replace h := h.1 c151
                        refine x_aload dX8_useless_154 rfl ?_
                        refine x_iconst_ (v := (-1 : Int32)) dX8_useless_156 (by decide) ?_
                        refine z_putI hG hO.1 dX8_useless_157 f_X8_209_35 ⟨_, rfl, Or.inl rfl⟩ (kI e61 o59) (by decide) rfl rfl ⟨_, rfl⟩ (fun A68 e68 => ?_)
                        replace h := h A68 e68
                        change X _ _ _ _ _ _ [some (.ref p), some (.int y5_1), some (.ref b18), some (.int y28_3), some (.ref b55), some (.int y57_s0)] []
                        exact X.weak (xle_c rfl (xle_c rfl (xle_c rfl (xle_c rfl (xle_c rfl (xle_n xle_nil)))))) (kj63 A68 h)
                  · replace h := h.1 c135
                    refine x_goto (tgt := 169) dX8_useless_138 (by decide) ?_
                    change X _ _ _ _ _ _ [some (.ref p), some (.int y5_1), some (.ref b18), some (.int y28_3), some (.ref b55), some (.int y57_s0)] []
                    exact X.weak (xle_c rfl (xle_c rfl (xle_c rfl (xle_c rfl (xle_n (xle_n xle_nil)))))) (kj62 A61 h)
                refine x_if_ne (tgt := 122) dX8_useless_111 (by decide) (fun c111 => ?_) (fun c111 => ?_)
                · replace h := h.2 c111
                  refine x_iconst_ (v := (1 : Int32)) dX8_useless_122 (by decide) ?_
                  refine x_goto (tgt := 127) dX8_useless_123 (by decide) ?_
                  change X _ _ _ _ _ _ [some (.ref p), some (.int y5_1), some (.ref b18), some (.int y28_3), some (.ref b55), some (.int y57_s0)] [.int (1 : Int32), .ref b55]
                  exact X.weak (xle_c rfl (xle_c rfl (xle_c rfl (xle_c rfl (xle_c rfl (xle_c rfl xle_nil)))))) (kj58 (1 : Int32) A57 h)
                · replace h := h.1 c111
                  refine x_aload dX8_useless_114 rfl ?_
                  obtain ⟨o70, h⟩ := h
                  obtain ⟨R69, g69, h⟩ := h
                  refine x_callV hG (Ky := kX37_isPure) (As := []) dX8_useless_116 o70 rfl lk_X8_421 me_X37_isPure is_X37_isPure se_X37_isPure rfl rfl (Nat.le_of_ble_eq_true rfl) (MX.post (m_X37_isPure hG hO g69) ?_)
                  rintro _ A69 ⟨v69, rfl, zv69, h1⟩
                  refine X.xok (fun w69 => ?_)
                  replace h := h v69 A69 w69 zv69 h1
                  change X _ _ _ _ A69 _ _ [.int v69, .ref b55]
                  refine x_if_ne (tgt := 126) dX8_useless_119 (by decide) (fun c119 => ?_) (fun c119 => ?_)
                  · replace h := h.2 c119
                    refine x_iconst_ (v := (0 : Int32)) dX8_useless_126 (by decide) ?_
                    change X _ _ _ _ _ _ [some (.ref p), some (.int y5_1), some (.ref b18), some (.int y28_3), some (.ref b55), some (.int y57_s0)] [.int (0 : Int32), .ref b55]
                    exact X.weak (xle_c rfl (xle_c rfl (xle_c rfl (xle_c rfl (xle_c rfl (xle_c rfl xle_nil)))))) (kj58 (0 : Int32) A69 h)
                  · replace h := h.1 c119
                    refine x_iconst_ (v := (1 : Int32)) dX8_useless_122 (by decide) ?_
                    refine x_goto (tgt := 127) dX8_useless_123 (by decide) ?_
                    change X _ _ _ _ _ _ [some (.ref p), some (.int y5_1), some (.ref b18), some (.int y28_3), some (.ref b55), some (.int y57_s0)] [.int (1 : Int32), .ref b55]
                    exact X.weak (xle_c rfl (xle_c rfl (xle_c rfl (xle_c rfl (xle_c rfl (xle_c rfl xle_nil)))))) (kj58 (1 : Int32) A69 h)
              refine x_if_lt (tgt := 104) dX8_useless_82 (by decide) (fun c82 => ?_) (fun c82 => ?_)
              · replace h := h.1 c82
                refine x_iconst_ (v := (0 : Int32)) dX8_useless_104 (by decide) ?_
                change X _ _ _ _ _ _ [some (.ref p), some (.int y5_1), some (.ref b18), some (.int y28_3), some (.ref b55), none] [.int (0 : Int32)]
                exact X.weak (xle_c rfl (xle_c rfl (xle_c rfl (xle_c rfl (xle_c rfl (xle_n xle_nil)))))) (kj57 (0 : Int32) A52 h)
              · replace h := h.2 c82
                refine x_aload_n dX8_useless_85 rfl ?_
                obtain ⟨o71, h⟩ := h
                refine x_get (v := va_rf (A52.P p 0)) hG dX8_useless_86 f_X8_52_7 o71 rfl ?_
                refine x_aload dX8_useless_89 rfl ?_
                refine x_get (v := .int (A52.I b55 1)) hG dX8_useless_91 f_X8_209_35 o56 rfl ?_
                obtain ⟨b73, e73, h⟩ := h
                rw [e73]
                obtain ⟨o74, h⟩ := h
                obtain ⟨R72, g72, h⟩ := h
                refine x_callV hG (Ky := kX7_is) (As := [.int (A52.I b55 1)]) dX8_useless_94 o74 rfl lk_X8_418 me_X7_is is_X7_is se_X7_is rfl rfl (Nat.le_of_ble_eq_true rfl) (MX.post (m_X7_is hG hO g72) ?_)
                rintro _ A72 ⟨v72, rfl, zv72, h1⟩
                refine X.xok (fun w72 => ?_)
                replace h := h v72 A72 w72 zv72 h1
                change X _ _ _ _ A72 _ _ [.int v72]
                refine x_if_eq (tgt := 104) dX8_useless_97 (by decide) (fun c97 => ?_) (fun c97 => ?_)
                · replace h := h.1 c97
                  refine x_iconst_ (v := (0 : Int32)) dX8_useless_104 (by decide) ?_
                  change X _ _ _ _ _ _ [some (.ref p), some (.int y5_1), some (.ref b18), some (.int y28_3), some (.ref b55), none] [.int (0 : Int32)]
                  exact X.weak (xle_c rfl (xle_c rfl (xle_c rfl (xle_c rfl (xle_c rfl (xle_n xle_nil)))))) (kj57 (0 : Int32) A72 h)
                · replace h := h.2 c97
                  refine x_iconst_ (v := (1 : Int32)) dX8_useless_100 (by decide) ?_
                  refine x_goto (tgt := 105) dX8_useless_101 (by decide) ?_
                  change X _ _ _ _ _ _ [some (.ref p), some (.int y5_1), some (.ref b18), some (.int y28_3), some (.ref b55), none] [.int (1 : Int32)]
                  exact X.weak (xle_c rfl (xle_c rfl (xle_c rfl (xle_c rfl (xle_c rfl (xle_n xle_nil)))))) (kj57 (1 : Int32) A72 h)
        change X _ _ _ _ _ _ [some (.ref p), some (.int y5_1), some (.ref b18), some (.int (v25 - (1 : Int32))), none, none] []
        exact X.weak (xle_c rfl (xle_c rfl (xle_c rfl (xle_c rfl (xle_n (xle_n xle_nil)))))) (kl28 n28 (v25 - (1 : Int32)) A25 i28)
  change X _ _ _ _ _ _ [some (.ref p), some (.int (0 : Int32)), none, none, none, none] []
  exact X.weak (xle_c rfl (xle_c rfl (xle_n (xle_n (xle_n (xle_n xle_nil)))))) (kl5 n5 (0 : Int32) A2 i5)
def w_X8_clean (G : xG) (p : Nat) (c : Option Nat) (Q : xA → Prop) (A : xA) : Prop := xok G A → A.tg p = 8 ∧ (∀ A2 : xA, A2 = A.setP p 1 c → (∃ b3 : Nat, c = some b3 ∧ (A2.tg b3 = 34 ∧ (∃ R5 : Option Nat → xA → Prop, w_X0_roomFor G (A.P p 2) (A.I b3 2) R5 A2 ∧ (∀ (v5 : Option Nat) (A5 : xA), xok G A5 → R5 v5 A5 → (A5.tg p = 8 ∧ (∀ A7 : xA, A7 = A5.setP p 2 v5 → (∃ L8 : Nat → Int32 → xA → Prop, (∃ n8 : Nat, L8 n8 (0 : Int32) A7) ∧ (∀ (n8 : Nat) (y8_2 : Int32) (A8 : xA), L8 n8 y8_2 A8 → A8.tg b3 = 34 ∧ ((((A8.I b3 2) ≤ y8_2 → ∃ L10 : Nat → Int32 → xA → Prop, (∃ n10 : Nat, L10 n10 (0 : Int32) A8) ∧ (∀ (n10 : Nat) (y10_2 : Int32) (A10 : xA), L10 n10 y10_2 A10 → A10.tg b3 = 34 ∧ (∃ b13 : Nat, (A10.P b3 4) = some b13 ∧ (A10.tg b13 = 37 ∧ (∃ R12 : Int32 → xA → Prop, w_J5_size G b13 R12 A10 ∧ (∀ (v12 : Int32) (A12 : xA), xok G A12 → R12 v12 A12 → (((v12 ≤ y10_2 → ∃ L15 : Nat → Int32 → xA → Prop, (∃ n15 : Nat, L15 n15 (0 : Int32) A12) ∧ (∀ (n15 : Nat) (y15_2 : Int32) (A15 : xA), L15 n15 y15_2 A15 → (((2 : Int32) ≤ y15_2 → Q A15) ∧ (¬ (2 : Int32) ≤ y15_2 → A15.tg p = 8 ∧ (∃ R16 : xA → Prop, w_X8_reach G p R16 A15 ∧ (∀ A16 : xA, xok G A16 → R16 A16 → (A16.tg p = 8 ∧ (∃ R18 : xA → Prop, w_X8_propagate G p R18 A16 ∧ (∀ A18 : xA, xok G A18 → R18 A18 → (A18.tg p = 8 ∧ (∃ R20 : xA → Prop, w_X8_numberAll G p R20 A18 ∧ (∀ A20 : xA, xok G A20 → R20 A20 → (A20.tg p = 8 ∧ (∃ R22 : xA → Prop, w_X8_reach G p R22 A20 ∧ (∀ A22 : xA, xok G A22 → R22 A22 → (A22.tg p = 8 ∧ (∃ R24 : xA → Prop, w_X8_join G p R24 A22 ∧ (∀ A24 : xA, xok G A24 → R24 A24 → (A24.tg p = 8 ∧ (∃ R26 : xA → Prop, w_X8_reach G p R26 A24 ∧ (∀ A26 : xA, xok G A26 → R26 A26 → (A26.tg p = 8 ∧ (∃ R28 : xA → Prop, w_X8_useless G p R28 A26 ∧ (∀ A28 : xA, xok G A28 → R28 A28 → ((∃ q15 : Nat, q15 < n15 ∧ L15 q15 (y15_2 + (1 : Int32)) A28)))))))))))))))))))))))))) ∧ (¬ v12 ≤ y10_2 → A12.tg p = 8 ∧ (A12.tg b3 = 34 ∧ (∃ b33 : Nat, (A12.P b3 4) = some b33 ∧ (A12.tg b33 = 37 ∧ (∃ R32 : Option Nat → xA → Prop, w_J5_get G b33 y10_2 R32 A12 ∧ (∀ (v32 : Option Nat) (A32 : xA), xok G A32 → R32 v32 A32 → (∃ b35 : Nat, v32 = some b35 ∧ (A32.tg b35 = 38 ∧ (∃ R37 : Int32 → xA → Prop, w_J15_intValue G b35 R37 A32 ∧ (∀ (v37 : Int32) (A37 : xA), xok G A37 → R37 v37 A37 → (∃ b38 : Nat, (A12.P p 2) = some b38 ∧ (A37.tg b38 = 200 ∧ (G.N ≤ b38 ∧ (vp_in v37 (A37.ln b38) ∧ (∀ A42 : xA, A42 = A37.setI b38 (ix v37) y10_2 → ((∃ q10 : Nat, q10 < n10 ∧ L10 q10 (y10_2 + (1 : Int32)) A42))))))))))))))))))))))))) ∧ (¬ (A8.I b3 2) ≤ y8_2 → A8.tg p = 8 ∧ (∃ b44 : Nat, (A8.P p 2) = some b44 ∧ (A8.tg b44 = 200 ∧ (G.N ≤ b44 ∧ (vp_in y8_2 (A8.ln b44) ∧ (∀ A48 : xA, A48 = A8.setI b44 (ix y8_2) (-1 : Int32) → ((∃ q8 : Nat, q8 < n8 ∧ L8 q8 (y8_2 + (1 : Int32)) A48)))))))))))))))))))
theorem m_X8_clean (hG : xOK G) (hO : xHO G) {dp : Nat} {p : Nat} {c : Option Nat} {Q : xA → Prop} {A : xA} (h : w_X8_clean G p c Q A) : MX G (dp + 9) kX8_clean [.ref p, va_rf c] A (hV Q) := by
  unfold w_X8_clean at h
  refine MX.of rfl (by cases c <;> exact Nat.le_of_ble_eq_true rfl) ?_
  refine X.lvs (lv' := [some (.ref p), some (va_rf c), none]) (by cases c <;> rfl) ?_
  refine X.xok (fun w0 => ?_)
  replace h := h w0
  refine x_aload_n dX8_clean_0 rfl ?_
  refine x_aloadq_n dX8_clean_1 rfl ?_
  obtain ⟨o1, h⟩ := h
  refine z_putP hG hO.1 c dX8_clean_2 f_X8_56_7 ⟨_, rfl, Or.inl rfl⟩ o1 (by decide) (Or.inl ⟨_, rfl⟩) (fun A2 e2 => ?_)
  replace h := h A2 e2
  refine x_aload_n dX8_clean_5 rfl ?_
  refine x_aload_n dX8_clean_6 rfl ?_
  refine x_get (v := va_rf (A.P p 2)) hG dX8_clean_7 f_X8_9_7 (kP e2 o1) (congrArg va_rf (sP_k e2 (by decide))) ?_
  refine x_aloadq_n dX8_clean_10 rfl ?_
  obtain ⟨b3, e3, h⟩ := h
  rw [e3]
  obtain ⟨o4, h⟩ := h
  refine x_get (v := .int (A.I b3 2)) hG dX8_clean_11 f_X8_60_33 o4 (congrArg Value.int (sP_I e2)) ?_
  obtain ⟨R5, g5, h⟩ := h
  refine x_callS hG (Ky := kX0_roomFor) (As := [va_rf (A.P p 2), .int (A.I b3 2)]) dX8_clean_14 lk_X8_66 me_X0_roomFor st_X0_roomFor rfl rfl (Nat.le_of_ble_eq_true rfl) (MX.post (m_X0_roomFor hG hO g5) ?_)
  rintro _ A5 ⟨v5, rfl, h1⟩
  refine X.xok (fun w5 => ?_)
  replace h := h v5 A5 w5 h1
  change X _ _ _ _ A5 _ _ [va_rf v5, .ref p]
  obtain ⟨o6, h⟩ := h
  refine z_putP hG hO.1 v5 dX8_clean_17 f_X8_9_7 ⟨_, rfl, Or.inl rfl⟩ o6 (by decide) (Or.inr ⟨_, rfl⟩) (fun A7 e7 => ?_)
  replace h := h A7 e7
  refine x_iconst_ (v := (0 : Int32)) dX8_clean_20 (by decide) ?_
  refine x_istore_n dX8_clean_21 (by decide) ?_
  obtain ⟨L8, ⟨n8, i8⟩, g8⟩ := h
  have kl8 : ∀ n8 : Nat, ∀ (y8_2 : Int32) (A8 : xA), L8 n8 y8_2 A8 → X G (dp + 9) kX8_clean (hV Q) A8 22 [some (.ref p), some (.ref b3), some (.int y8_2)] [] := by
    intro n8
    induction n8 using Nat.strongRecOn with
    | ind n8 ih8 =>
      intro y8_2 A8 h
      replace h := g8 n8 y8_2 A8 h
      refine x_iload_n dX8_clean_22 rfl ?_
      refine x_aload_n dX8_clean_23 rfl ?_
      obtain ⟨o9, h⟩ := h
      refine x_get (v := .int (A8.I b3 2)) hG dX8_clean_24 f_X8_60_33 o9 rfl ?_
      refine x_icmp_ge (tgt := 43) dX8_clean_27 (by decide) (fun c27 => ?_) (fun c27 => ?_)
      · replace h := h.1 c27
        refine x_iconst_ (v := (0 : Int32)) dX8_clean_43 (by decide) ?_
        refine x_istore_n dX8_clean_44 (by decide) ?_
        obtain ⟨L10, ⟨n10, i10⟩, g10⟩ := h
        have kl10 : ∀ n10 : Nat, ∀ (y10_2 : Int32) (A10 : xA), L10 n10 y10_2 A10 → X G (dp + 9) kX8_clean (hV Q) A10 45 [some (.ref p), some (.ref b3), some (.int y10_2)] [] := by
          intro n10
          induction n10 using Nat.strongRecOn with
          | ind n10 ih10 =>
            intro y10_2 A10 h
            replace h := g10 n10 y10_2 A10 h
            refine x_iload_n dX8_clean_45 rfl ?_
            refine x_aload_n dX8_clean_46 rfl ?_
            obtain ⟨o11, h⟩ := h
            refine x_get (v := va_rf (A10.P b3 4)) hG dX8_clean_47 f_X8_70_33 o11 rfl ?_
            obtain ⟨b13, e13, h⟩ := h
            rw [e13]
            obtain ⟨o14, h⟩ := h
            obtain ⟨R12, g12, h⟩ := h
            refine x_callV hG (Ky := kJ5_size) (As := []) dX8_clean_50 o14 rfl lk_X8_73 me_J5_size is_J5_size se_J5_size rfl rfl (Nat.le_of_ble_eq_true rfl) (MX.post (m_w_J5_size hG hO g12) ?_)
            rintro _ A12 ⟨v12, rfl, h1⟩
            refine X.xok (fun w12 => ?_)
            replace h := h v12 A12 w12 h1
            change X _ _ _ _ A12 _ _ [.int v12, .int y10_2]
            refine x_icmp_ge (tgt := 82) dX8_clean_53 (by decide) (fun c53 => ?_) (fun c53 => ?_)
            · replace h := h.1 c53
              refine x_iconst_ (v := (0 : Int32)) dX8_clean_82 (by decide) ?_
              refine x_istore_n dX8_clean_83 (by decide) ?_
              obtain ⟨L15, ⟨n15, i15⟩, g15⟩ := h
              have kl15 : ∀ n15 : Nat, ∀ (y15_2 : Int32) (A15 : xA), L15 n15 y15_2 A15 → X G (dp + 9) kX8_clean (hV Q) A15 84 [some (.ref p), none, some (.int y15_2)] [] := by
                intro n15
                induction n15 using Nat.strongRecOn with
                | ind n15 ih15 =>
                  intro y15_2 A15 h
                  replace h := g15 n15 y15_2 A15 h
                  refine x_iload_n dX8_clean_84 rfl ?_
                  refine x_iconst_ (v := (2 : Int32)) dX8_clean_85 (by decide) ?_
                  refine x_icmp_ge (tgt := 123) dX8_clean_86 (by decide) (fun c86 => ?_) (fun c86 => ?_)
                  · replace h := h.1 c86
                    exact x_vret dX8_clean_123 rfl ⟨rfl, h⟩
                  · replace h := h.2 c86
                    refine x_aload_n dX8_clean_89 rfl ?_
                    obtain ⟨o17, h⟩ := h
                    obtain ⟨R16, g16, h⟩ := h
                    refine x_callV hG (Ky := kX8_reach) (As := []) dX8_clean_90 o17 rfl lk_X8_86 me_X8_reach is_X8_reach se_X8_reach rfl rfl (Nat.le_of_ble_eq_true rfl) (MX.post (m_X8_reach hG hO g16) ?_)
                    rintro _ A16 ⟨rfl, h1⟩
                    refine X.xok (fun w16 => ?_)
                    replace h := h A16 w16 h1
                    change X _ _ _ _ A16 _ _ []
                    refine x_aload_n dX8_clean_93 rfl ?_
                    obtain ⟨o19, h⟩ := h
                    obtain ⟨R18, g18, h⟩ := h
                    refine x_callV hG (Ky := kX8_propagate) (As := []) dX8_clean_94 o19 rfl lk_X8_89 me_X8_propagate is_X8_propagate se_X8_propagate rfl rfl (Nat.le_of_ble_eq_true rfl) (MX.post (m_X8_propagate hG hO g18) ?_)
                    rintro _ A18 ⟨rfl, h1⟩
                    refine X.xok (fun w18 => ?_)
                    replace h := h A18 w18 h1
                    change X _ _ _ _ A18 _ _ []
                    refine x_aload_n dX8_clean_97 rfl ?_
                    obtain ⟨o21, h⟩ := h
                    obtain ⟨R20, g20, h⟩ := h
                    refine x_callV hG (Ky := kX8_numberAll) (As := []) dX8_clean_98 o21 rfl lk_X8_92 me_X8_numberAll is_X8_numberAll se_X8_numberAll rfl rfl (Nat.le_of_ble_eq_true rfl) (MX.post (m_X8_numberAll hG hO g20) ?_)
                    rintro _ A20 ⟨rfl, h1⟩
                    refine X.xok (fun w20 => ?_)
                    replace h := h A20 w20 h1
                    change X _ _ _ _ A20 _ _ []
                    refine x_aload_n dX8_clean_101 rfl ?_
                    obtain ⟨o23, h⟩ := h
                    obtain ⟨R22, g22, h⟩ := h
                    refine x_callV hG (Ky := kX8_reach) (As := []) dX8_clean_102 o23 rfl lk_X8_86 me_X8_reach is_X8_reach se_X8_reach rfl rfl (Nat.le_of_ble_eq_true rfl) (MX.post (m_X8_reach hG hO g22) ?_)
                    rintro _ A22 ⟨rfl, h1⟩
                    refine X.xok (fun w22 => ?_)
                    replace h := h A22 w22 h1
                    change X _ _ _ _ A22 _ _ []
                    refine x_aload_n dX8_clean_105 rfl ?_
                    obtain ⟨o25, h⟩ := h
                    obtain ⟨R24, g24, h⟩ := h
                    refine x_callV hG (Ky := kX8_join) (As := []) dX8_clean_106 o25 rfl lk_X8_95 me_X8_join is_X8_join se_X8_join rfl rfl (Nat.le_of_ble_eq_true rfl) (MX.post (m_X8_join hG hO g24) ?_)
                    rintro _ A24 ⟨rfl, h1⟩
                    refine X.xok (fun w24 => ?_)
                    replace h := h A24 w24 h1
                    change X _ _ _ _ A24 _ _ []
                    refine x_aload_n dX8_clean_109 rfl ?_
                    obtain ⟨o27, h⟩ := h
                    obtain ⟨R26, g26, h⟩ := h
                    refine x_callV hG (Ky := kX8_reach) (As := []) dX8_clean_110 o27 rfl lk_X8_86 me_X8_reach is_X8_reach se_X8_reach rfl rfl (Nat.le_of_ble_eq_true rfl) (MX.post (m_X8_reach hG hO g26) ?_)
                    rintro _ A26 ⟨rfl, h1⟩
                    refine X.xok (fun w26 => ?_)
                    replace h := h A26 w26 h1
                    change X _ _ _ _ A26 _ _ []
                    refine x_aload_n dX8_clean_113 rfl ?_
                    obtain ⟨o29, h⟩ := h
                    obtain ⟨R28, g28, h⟩ := h
                    refine x_callV hG (Ky := kX8_useless) (As := []) dX8_clean_114 o29 rfl lk_X8_98 me_X8_useless is_X8_useless se_X8_useless rfl rfl (Nat.le_of_ble_eq_true rfl) (MX.post (m_X8_useless hG hO g28) ?_)
                    rintro _ A28 ⟨rfl, h1⟩
                    refine X.xok (fun w28 => ?_)
                    replace h := h A28 w28 h1
                    change X _ _ _ _ A28 _ _ []
                    refine x_iinc (v := (y15_2 + (1 : Int32))) dX8_clean_117 rfl rfl (by decide) ?_
                    refine x_goto (tgt := 84) dX8_clean_120 (by decide) ?_
                    obtain ⟨q15, l15, h⟩ := h
                    change X _ _ _ _ _ _ [some (.ref p), none, some (.int (y15_2 + (1 : Int32)))] []
                    exact X.weak (xle_c rfl (xle_n (xle_c rfl xle_nil))) (ih15 q15 l15 (y15_2 + (1 : Int32)) A28 h)
              change X _ _ _ _ _ _ [some (.ref p), some (.ref b3), some (.int (0 : Int32))] []
              exact X.weak (xle_c rfl (xle_n (xle_c rfl xle_nil))) (kl15 n15 (0 : Int32) A12 i15)
            · replace h := h.2 c53
              refine x_aload_n dX8_clean_56 rfl ?_
              obtain ⟨o30, h⟩ := h
              refine x_get (v := va_rf (A12.P p 2)) hG dX8_clean_57 f_X8_9_7 o30 rfl ?_
              refine x_aload_n dX8_clean_60 rfl ?_
              obtain ⟨o31, h⟩ := h
              refine x_get (v := va_rf (A12.P b3 4)) hG dX8_clean_61 f_X8_70_33 o31 rfl ?_
              refine x_iload_n dX8_clean_64 rfl ?_
              obtain ⟨b33, e33, h⟩ := h
              rw [e33]
              obtain ⟨o34, h⟩ := h
              obtain ⟨R32, g32, h⟩ := h
              refine x_callV hG (Ky := kJ5_get) (As := [.int y10_2]) dX8_clean_65 o34 rfl lk_X8_77 me_J5_get is_J5_get se_J5_get rfl rfl (by simp only [List.append_eq, List.nil_append, List.map_cons, va_rf_cat]; exact Nat.le_of_ble_eq_true rfl) (MX.post (m_w_J5_get hG hO g32) ?_)
              rintro _ A32 ⟨v32, rfl, h1⟩
              refine X.xok (fun w32 => ?_)
              replace h := h v32 A32 w32 h1
              change X _ _ _ _ A32 _ _ [va_rf v32, va_rf (A12.P p 2)]
              obtain ⟨b35, e35, h⟩ := h
              rw [e35]
              obtain ⟨o36, h⟩ := h
              refine x_cast hG dX8_clean_68 q2443 o36 rfl (Or.inl rfl) ?_
              obtain ⟨R37, g37, h⟩ := h
              refine x_callV hG (Ky := kJ15_intValue) (As := []) dX8_clean_71 o36 rfl lk_X8_83 me_J15_intValue is_J15_intValue se_J15_intValue rfl rfl (by simp only [List.append_eq, List.nil_append, List.map_cons, va_rf_cat]; exact Nat.le_of_ble_eq_true rfl) (MX.post (m_J15_intValue hG hO g37) ?_)
              rintro _ A37 ⟨v37, rfl, h1⟩
              refine X.xok (fun w37 => ?_)
              replace h := h v37 A37 w37 h1
              change X _ _ _ _ A37 _ _ [.int v37, va_rf (A12.P p 2)]
              refine x_iload_n dX8_clean_74 rfl ?_
              obtain ⟨b38, e38, h⟩ := h
              rw [e38]
              obtain ⟨o39, h⟩ := h
              obtain ⟨o40, h⟩ := h
              obtain ⟨o41, h⟩ := h
              refine z_iast hG dX8_clean_75 o39 o40 o41 (fun A42 e42 => ?_)
              replace h := h A42 e42
              refine x_iinc (v := (y10_2 + (1 : Int32))) dX8_clean_76 rfl rfl (by decide) ?_
              refine x_goto (tgt := 45) dX8_clean_79 (by decide) ?_
              obtain ⟨q10, l10, h⟩ := h
              change X _ _ _ _ _ _ [some (.ref p), some (.ref b3), some (.int (y10_2 + (1 : Int32)))] []
              exact X.weak (xle_c rfl (xle_c rfl (xle_c rfl xle_nil))) (ih10 q10 l10 (y10_2 + (1 : Int32)) A42 h)
        change X _ _ _ _ _ _ [some (.ref p), some (.ref b3), some (.int (0 : Int32))] []
        exact X.weak (xle_c rfl (xle_c rfl (xle_c rfl xle_nil))) (kl10 n10 (0 : Int32) A8 i10)
      · replace h := h.2 c27
        refine x_aload_n dX8_clean_30 rfl ?_
        obtain ⟨o43, h⟩ := h
        refine x_get (v := va_rf (A8.P p 2)) hG dX8_clean_31 f_X8_9_7 o43 rfl ?_
        refine x_iload_n dX8_clean_34 rfl ?_
        refine x_iconst_ (v := (-1 : Int32)) dX8_clean_35 (by decide) ?_
        obtain ⟨b44, e44, h⟩ := h
        rw [e44]
        obtain ⟨o45, h⟩ := h
        obtain ⟨o46, h⟩ := h
        obtain ⟨o47, h⟩ := h
        refine z_iast hG dX8_clean_36 o45 o46 o47 (fun A48 e48 => ?_)
        replace h := h A48 e48
        refine x_iinc (v := (y8_2 + (1 : Int32))) dX8_clean_37 rfl rfl (by decide) ?_
        refine x_goto (tgt := 22) dX8_clean_40 (by decide) ?_
        obtain ⟨q8, l8, h⟩ := h
        change X _ _ _ _ _ _ [some (.ref p), some (.ref b3), some (.int (y8_2 + (1 : Int32)))] []
        exact X.weak (xle_c rfl (xle_c rfl (xle_c rfl xle_nil))) (ih8 q8 l8 (y8_2 + (1 : Int32)) A48 h)
  change X _ _ _ _ _ _ [some (.ref p), some (.ref b3), some (.int (0 : Int32))] []
  exact X.weak (xle_c rfl (xle_c rfl (xle_c rfl xle_nil))) (kl8 n8 (0 : Int32) A7 i8)
end W065
