/-! ===== 111.hhouse (tools/h045.py) ===== -/
set_option maxRecDepth 100000
section W111
variable {G : xG}
def w_X0_lay (G : xG) (p : Nat) (Q : xA → Prop) (A : xA) : Prop := xok G A → A.tg p = 1 ∧ (∃ b3 : Nat, (A.P p 6) = some b3 ∧ (A.tg b3 = 9 ∧ (∃ R2 : xA → Prop, w_X9_clear G b3 R2 A ∧ (∀ A2 : xA, xok G A2 → R2 A2 → (A2.tg p = 1 ∧ (∃ b7 : Nat, (A2.P p 9) = some b7 ∧ (A2.tg b7 = 37 ∧ (∃ R6 : Int32 → xA → Prop, w_J5_size G b7 R6 A2 ∧ (∀ (v6 : Int32) (A6 : xA), xok G A6 → R6 v6 A6 → (∃ b10 : Nat, (A2.P p 7) = some b10 ∧ (A6.tg b10 = 10 ∧ (∃ R9 : xA → Prop, w_X10_functions G b10 v6 R9 A6 ∧ (∀ A9 : xA, xok G A9 → R9 A9 → (A9.tg p = 1 ∧ (∃ b14 : Nat, (A9.P p 6) = some b14 ∧ (A9.tg b14 = 9 ∧ (∃ R13 : xA → Prop, w_X9_service G b14 (7 : Int32) R13 A9 ∧ (∀ A13 : xA, xok G A13 → R13 A13 → (A13.tg p = 1 ∧ (∀ A17 : xA, A17 = A13.setI p 11 (0 : Int32) → (∀ A18 : xA, A18 = A17.setI p 12 (0 : Int32) → (∃ L19 : Nat → Int32 → xA → Prop, (∃ n19 : Nat, L19 n19 (0 : Int32) A18) ∧ (∀ (n19 : Nat) (y19_1 : Int32) (A19 : xA), L19 n19 y19_1 A19 → A19.tg p = 1 ∧ (∃ b22 : Nat, (A19.P p 9) = some b22 ∧ (A19.tg b22 = 37 ∧ (∃ R21 : Int32 → xA → Prop, w_J5_size G b22 R21 A19 ∧ (∀ (v21 : Int32) (A21 : xA), xok G A21 → R21 v21 A21 → (((v21 ≤ y19_1 → A21.tg p = 1 ∧ (∃ b25 : Nat, (A21.P p 6) = some b25 ∧ (A21.tg b25 = 9 ∧ (∃ b27 : Nat, (A21.P p 17) = some b27 ∧ (A21.tg b27 = 12 ∧ (∃ R29 : Option Nat → xA → Prop, w_X0_roomFor G (A21.P b27 0) ((2048 : Int32) + ((2 : Int32) * (A21.I b25 4))) R29 A21 ∧ (∀ (v29 : Option Nat) (A29 : xA), xok G A29 → R29 v29 A29 → (A29.tg b27 = 12 ∧ (∀ A31 : xA, A31 = A29.setP b27 0 v29 → (A31.tg p = 1 ∧ (∃ b33 : Nat, (A31.P p 17) = some b33 ∧ (A31.tg b33 = 12 ∧ (∃ b36 : Nat, (A31.P p 6) = some b36 ∧ (A31.tg b36 = 9 ∧ (∃ R35 : Int32 → xA → Prop, w_X9_lay G b36 (A31.P b33 0) (2048 : Int32) R35 A31 ∧ (∀ (v35 : Int32) (A35 : xA), xok G A35 → R35 v35 A35 → (A35.tg p = 1 ∧ (∀ A39 : xA, A39 = A35.setI p 25 v35 → (∃ b40 : Nat, (A35.P p 6) = some b40 ∧ (A39.tg b40 = 9 ∧ (∃ b42 : Nat, (A35.P p 7) = some b42 ∧ (A39.tg b42 = 10 ∧ (∃ b45 : Nat, (A35.P p 3) = some b45 ∧ (A39.tg b45 = 6 ∧ (∃ R44 : Option Nat → xA → Prop, w_X6_main G b45 R44 A39 ∧ (∀ (v44 : Option Nat) (A44 : xA), xok G A44 → R44 v44 A44 → (∃ b47 : Nat, v44 = some b47 ∧ (A44.tg b47 = 14 ∧ (∃ b49 : Nat, (A35.P b42 7) = some b49 ∧ (A44.tg b49 = 200 ∧ (vp_in (A44.I b47 11) (A44.ln b49) ∧ (∃ b52 : Nat, (A35.P b40 6) = some b52 ∧ (A44.tg b52 = 200 ∧ (vp_in (A44.I b49 (ix (A44.I b47 11))) (A44.ln b52) ∧ (∃ b55 : Nat, (A35.P b40 2) = some b55 ∧ (A44.tg b55 = 200 ∧ (vp_in (A44.I b52 (ix (A44.I b49 (ix (A44.I b47 11))))) (A44.ln b55) ∧ (A44.tg p = 1 ∧ (∀ A59 : xA, A59 = A44.setI p 10 ((4 : Int32) * (A44.I b55 (ix (A44.I b52 (ix (A44.I b49 (ix (A44.I b47 11)))))))) → (Q A59)))))))))))))))))))))))))))))))))))))))) ∧ (¬ v21 ≤ y19_1 → A21.tg p = 1 ∧ (∃ b62 : Nat, (A21.P p 9) = some b62 ∧ (A21.tg b62 = 37 ∧ (∃ R61 : Option Nat → xA → Prop, w_J5_get G b62 y19_1 R61 A21 ∧ (∀ (v61 : Option Nat) (A61 : xA), xok G A61 → R61 v61 A61 → (∃ b64 : Nat, v61 = some b64 ∧ (A61.tg b64 = 14 ∧ (A61.tg p = 1 ∧ (∃ b68 : Nat, (A61.P p 5) = some b68 ∧ (A61.tg b68 = 8 ∧ (∃ R67 : xA → Prop, w_X8_clean G b68 (A61.P b64 13) R67 A61 ∧ (∀ A67 : xA, xok G A67 → R67 A67 → (A67.tg p = 1 ∧ (A67.tg b64 = 14 ∧ (∃ b73 : Nat, (A67.P p 7) = some b73 ∧ (A67.tg b73 = 10 ∧ (∃ R72 : Int32 → xA → Prop, w_X10_lay G b73 (A67.P b64 13) R72 A67 ∧ (∀ (v72 : Int32) (A72 : xA), xok G A72 → R72 v72 A72 → (A72.tg b64 = 14 ∧ (∀ A76 : xA, A76 = A72.setP b64 13 (none : Option Nat) → (A76.tg p = 1 ∧ (∀ A78 : xA, A78 = A76.setI p 12 (f_J11_max (A72.I p 12) (v72 / (4 : Int32))) → (¬ (A72.I b64 12) = 0 ∧ (∀ A80 : xA, A80 = A78.setI p 11 (f_J11_max (A72.I p 11) ((((4 : Int32) * v72) / (A72.I b64 12)) + (1 : Int32))) → ((∃ q19 : Nat, q19 < n19 ∧ L19 q19 (y19_1 + (1 : Int32)) A80)))))))))))))))))))))))))))))))))))))))))))))))))))))))
theorem m_X0_lay (hG : xOK G) (hO : xHO G) {dp : Nat} {p : Nat} {Q : xA → Prop} {A : xA} (h : w_X0_lay G p Q A) : MX G (dp + 11) kX0_lay [.ref p] A (hV Q) := by
  unfold w_X0_lay at h
  refine MX.of rfl (Nat.le_of_ble_eq_true rfl) ?_
  change X _ _ _ _ _ _ [some (.ref p), none, none, none] _
  refine X.xok (fun w0 => ?_)
  replace h := h w0
  refine x_aload_n dX0_lay_0 rfl ?_
  obtain ⟨o1, h⟩ := h
  refine x_get (v := va_rf (A.P p 6)) hG dX0_lay_1 f_X0_64_0 o1 rfl ?_
  obtain ⟨b3, e3, h⟩ := h
  rw [e3]
  obtain ⟨o4, h⟩ := h
  obtain ⟨R2, g2, h⟩ := h
  refine x_callV hG (Ky := kX9_clear) (As := []) dX0_lay_4 o4 rfl lk_X0_165 me_X9_clear is_X9_clear se_X9_clear rfl rfl (Nat.le_of_ble_eq_true rfl) (MX.post (m_X9_clear hG hO g2) ?_)
  rintro _ A2 ⟨rfl, h1⟩
  refine X.xok (fun w2 => ?_)
  replace h := h A2 w2 h1
  change X _ _ _ _ A2 _ _ []
  refine x_aload_n dX0_lay_7 rfl ?_
  obtain ⟨o5, h⟩ := h
  refine x_get (v := va_rf (A2.P p 7)) hG dX0_lay_8 f_X0_73_0 o5 rfl ?_
  refine x_aload_n dX0_lay_11 rfl ?_
  refine x_get (v := va_rf (A2.P p 9)) hG dX0_lay_12 f_X0_78_0 o5 rfl ?_
  obtain ⟨b7, e7, h⟩ := h
  rw [e7]
  obtain ⟨o8, h⟩ := h
  obtain ⟨R6, g6, h⟩ := h
  refine x_callV hG (Ky := kJ5_size) (As := []) dX0_lay_15 o8 rfl lk_X0_9 me_J5_size is_J5_size se_J5_size rfl rfl (by simp only [List.append_eq, List.nil_append, List.map_cons, va_rf_cat]; exact Nat.le_of_ble_eq_true rfl) (MX.post (m_w_J5_size hG hO g6) ?_)
  rintro _ A6 ⟨v6, rfl, h1⟩
  refine X.xok (fun w6 => ?_)
  replace h := h v6 A6 w6 h1
  change X _ _ _ _ A6 _ _ [.int v6, va_rf (A2.P p 7)]
  obtain ⟨b10, e10, h⟩ := h
  rw [e10]
  obtain ⟨o11, h⟩ := h
  obtain ⟨R9, g9, h⟩ := h
  refine x_callV hG (Ky := kX10_functions) (As := [.int v6]) dX0_lay_18 o11 rfl lk_X0_166 me_X10_functions is_X10_functions se_X10_functions rfl rfl (Nat.le_of_ble_eq_true rfl) (MX.post (m_X10_functions hG hO g9) ?_)
  rintro _ A9 ⟨rfl, h1⟩
  refine X.xok (fun w9 => ?_)
  replace h := h A9 w9 h1
  change X _ _ _ _ A9 _ _ []
  refine x_aload_n dX0_lay_21 rfl ?_
  obtain ⟨o12, h⟩ := h
  refine x_get (v := va_rf (A9.P p 6)) hG dX0_lay_22 f_X0_64_0 o12 rfl ?_
  refine x_bipush_ (v := (7 : Int32)) dX0_lay_25 (by decide) ?_
  obtain ⟨b14, e14, h⟩ := h
  rw [e14]
  obtain ⟨o15, h⟩ := h
  obtain ⟨R13, g13, h⟩ := h
  refine x_callV hG (Ky := kX9_service) (As := [.int (7 : Int32)]) dX0_lay_27 o15 rfl lk_X0_168 me_X9_service is_X9_service se_X9_service rfl rfl (Nat.le_of_ble_eq_true rfl) (MX.post (m_X9_service hG hO g13) ?_)
  rintro _ A13 ⟨rfl, h1⟩
  refine X.xok (fun w13 => ?_)
  replace h := h A13 w13 h1
  change X _ _ _ _ A13 _ _ []
  refine x_aload_n dX0_lay_30 rfl ?_
  refine x_iconst_ (v := (0 : Int32)) dX0_lay_31 (by decide) ?_
  obtain ⟨o16, h⟩ := h
  refine z_putI hG hO.1 dX0_lay_32 f_X0_171_0 ⟨_, rfl, Or.inl rfl⟩ o16 (by decide) rfl rfl ⟨_, rfl⟩ (fun A17 e17 => ?_)
  replace h := h A17 e17
  refine x_aload_n dX0_lay_35 rfl ?_
  refine x_iconst_ (v := (0 : Int32)) dX0_lay_36 (by decide) ?_
  refine z_putI hG hO.1 dX0_lay_37 f_X0_174_0 ⟨_, rfl, Or.inl rfl⟩ (kI e17 o16) (by decide) rfl rfl ⟨_, rfl⟩ (fun A18 e18 => ?_)
  replace h := h A18 e18
  refine x_iconst_ (v := (0 : Int32)) dX0_lay_40 (by decide) ?_
  refine x_istore_n dX0_lay_41 (by decide) ?_
  obtain ⟨L19, ⟨n19, i19⟩, g19⟩ := h
  have kl19 : ∀ n19 : Nat, ∀ (y19_1 : Int32) (A19 : xA), L19 n19 y19_1 A19 → X G (dp + 11) kX0_lay (hV Q) A19 42 [some (.ref p), some (.int y19_1), none, none] [] := by
    intro n19
    induction n19 using Nat.strongRecOn with
    | ind n19 ih19 =>
      intro y19_1 A19 h
      replace h := g19 n19 y19_1 A19 h
      refine x_iload_n dX0_lay_42 rfl ?_
      refine x_aload_n dX0_lay_43 rfl ?_
      obtain ⟨o20, h⟩ := h
      refine x_get (v := va_rf (A19.P p 9)) hG dX0_lay_44 f_X0_78_0 o20 rfl ?_
      obtain ⟨b22, e22, h⟩ := h
      rw [e22]
      obtain ⟨o23, h⟩ := h
      obtain ⟨R21, g21, h⟩ := h
      refine x_callV hG (Ky := kJ5_size) (As := []) dX0_lay_47 o23 rfl lk_X0_9 me_J5_size is_J5_size se_J5_size rfl rfl (Nat.le_of_ble_eq_true rfl) (MX.post (m_w_J5_size hG hO g21) ?_)
      rintro _ A21 ⟨v21, rfl, h1⟩
      refine X.xok (fun w21 => ?_)
      replace h := h v21 A21 w21 h1
      change X _ _ _ _ A21 _ _ [.int v21, .int y19_1]
      refine x_icmp_ge (tgt := 134) dX0_lay_50 (by decide) (fun c50 => ?_) (fun c50 => ?_)
      · replace h := h.1 c50
        refine x_sipush_ (v := (2048 : Int32)) dX0_lay_134 (by decide) ?_
        refine x_iconst_ (v := (2 : Int32)) dX0_lay_137 (by decide) ?_
        refine x_aload_n dX0_lay_138 rfl ?_
        obtain ⟨o24, h⟩ := h
        refine x_get (v := va_rf (A21.P p 6)) hG dX0_lay_139 f_X0_64_0 o24 rfl ?_
        obtain ⟨b25, e25, h⟩ := h
        rw [e25]
        obtain ⟨o26, h⟩ := h
        refine x_get (v := .int (A21.I b25 4)) hG dX0_lay_142 f_X0_191_8 o26 rfl ?_
        refine x_imul dX0_lay_145 ?_
        refine x_iadd dX0_lay_146 ?_
        refine x_istore_n dX0_lay_147 (by decide) ?_
        refine x_aload_n dX0_lay_148 rfl ?_
        refine x_get (v := va_rf (A21.P p 17)) hG dX0_lay_149 f_X0_92_0 o24 rfl ?_
        refine x_aload_n dX0_lay_152 rfl ?_
        refine x_get (v := va_rf (A21.P p 17)) hG dX0_lay_153 f_X0_92_0 o24 rfl ?_
        obtain ⟨b27, e27, h⟩ := h
        rw [e27]
        obtain ⟨o28, h⟩ := h
        refine x_get (v := va_rf (A21.P b27 0)) hG dX0_lay_156 f_X0_99_11 o28 rfl ?_
        refine x_iload_n dX0_lay_159 rfl ?_
        obtain ⟨R29, g29, h⟩ := h
        refine x_callS hG (Ky := kX0_roomFor) (As := [va_rf (A21.P b27 0), .int ((2048 : Int32) + ((2 : Int32) * (A21.I b25 4)))]) dX0_lay_160 lk_X0_194 me_X0_roomFor st_X0_roomFor rfl rfl (Nat.le_of_ble_eq_true rfl) (MX.post (m_X0_roomFor hG hO g29) ?_)
        rintro _ A29 ⟨v29, rfl, h1⟩
        refine X.xok (fun w29 => ?_)
        replace h := h v29 A29 w29 h1
        change X _ _ _ _ A29 _ _ [va_rf v29, .ref b27]
        obtain ⟨o30, h⟩ := h
        refine z_putP hG hO.1 v29 dX0_lay_163 f_X0_99_11 ⟨_, rfl, Or.inl rfl⟩ o30 (by decide) (Or.inr ⟨_, rfl⟩) (fun A31 e31 => ?_)
        replace h := h A31 e31
        refine x_aload_n dX0_lay_166 rfl ?_
        refine x_aload_n dX0_lay_167 rfl ?_
        obtain ⟨o32, h⟩ := h
        refine x_get (v := va_rf (A31.P p 6)) hG dX0_lay_168 f_X0_64_0 o32 rfl ?_
        refine x_aload_n dX0_lay_171 rfl ?_
        refine x_get (v := va_rf (A31.P p 17)) hG dX0_lay_172 f_X0_92_0 o32 rfl ?_
        obtain ⟨b33, e33, h⟩ := h
        rw [e33]
        obtain ⟨o34, h⟩ := h
        refine x_get (v := va_rf (A31.P b33 0)) hG dX0_lay_175 f_X0_99_11 o34 rfl ?_
        refine x_sipush_ (v := (2048 : Int32)) dX0_lay_178 (by decide) ?_
        obtain ⟨b36, e36, h⟩ := h
        rw [e36]
        obtain ⟨o37, h⟩ := h
        obtain ⟨R35, g35, h⟩ := h
        refine x_callV hG (Ky := kX9_lay) (As := [va_rf (A31.P b33 0), .int (2048 : Int32)]) dX0_lay_181 o37 rfl lk_X0_198 me_X9_lay is_X9_lay se_X9_lay rfl rfl (Nat.le_of_ble_eq_true rfl) (MX.post (m_X9_lay hG hO g35) ?_)
        rintro _ A35 ⟨v35, rfl, h1⟩
        refine X.xok (fun w35 => ?_)
        replace h := h v35 A35 w35 h1
        change X _ _ _ _ A35 _ _ [.int v35, .ref p]
        obtain ⟨o38, h⟩ := h
        refine z_putI hG hO.1 dX0_lay_184 f_X0_201_0 ⟨_, rfl, Or.inl rfl⟩ o38 (by decide) rfl rfl ⟨_, rfl⟩ (fun A39 e39 => ?_)
        replace h := h A39 e39
        refine x_aload_n dX0_lay_187 rfl ?_
        refine x_iconst_ (v := (4 : Int32)) dX0_lay_188 (by decide) ?_
        refine x_aload_n dX0_lay_189 rfl ?_
        refine x_get (v := va_rf (A35.P p 6)) hG dX0_lay_190 f_X0_64_0 (kI e39 o38) (congrArg va_rf (sI_P e39)) ?_
        obtain ⟨b40, e40, h⟩ := h
        rw [e40]
        obtain ⟨o41, h⟩ := h
        refine x_get (v := va_rf (A35.P b40 2)) hG dX0_lay_193 f_X0_203_8 o41 (congrArg va_rf (sI_P e39)) ?_
        refine x_aload_n dX0_lay_196 rfl ?_
        refine x_get (v := .ref b40) hG dX0_lay_197 f_X0_64_0 (kI e39 o38) (congrArg va_rf ((sI_P e39).trans e40)) ?_
        refine x_get (v := va_rf (A35.P b40 6)) hG dX0_lay_200 f_X0_206_8 o41 (congrArg va_rf (sI_P e39)) ?_
        refine x_aload_n dX0_lay_203 rfl ?_
        refine x_get (v := va_rf (A35.P p 7)) hG dX0_lay_204 f_X0_73_0 (kI e39 o38) (congrArg va_rf (sI_P e39)) ?_
        obtain ⟨b42, e42, h⟩ := h
        rw [e42]
        obtain ⟨o43, h⟩ := h
        refine x_get (v := va_rf (A35.P b42 7)) hG dX0_lay_207 f_X0_209_9 o43 (congrArg va_rf (sI_P e39)) ?_
        refine x_aload_n dX0_lay_210 rfl ?_
        refine x_get (v := va_rf (A35.P p 3)) hG dX0_lay_211 f_X0_41_0 (kI e39 o38) (congrArg va_rf (sI_P e39)) ?_
        obtain ⟨b45, e45, h⟩ := h
        rw [e45]
        obtain ⟨o46, h⟩ := h
        obtain ⟨R44, g44, h⟩ := h
        refine x_callV hG (Ky := kX6_main) (As := []) dX0_lay_214 o46 rfl lk_X0_212 me_X6_main is_X6_main se_X6_main rfl rfl (by simp only [List.append_eq, List.nil_append, List.map_cons, va_rf_cat]; exact Nat.le_of_ble_eq_true rfl) (MX.post (m_X6_main hG hO g44) ?_)
        rintro _ A44 ⟨v44, rfl, h1⟩
        refine X.xok (fun w44 => ?_)
        replace h := h v44 A44 w44 h1
        change X _ _ _ _ A44 _ _ [va_rf v44, va_rf (A35.P b42 7), va_rf (A35.P b40 6), va_rf (A35.P b40 2), .int (4 : Int32), .ref p]
        obtain ⟨b47, e47, h⟩ := h
        rw [e47]
        obtain ⟨o48, h⟩ := h
        refine x_get (v := .int (A44.I b47 11)) hG dX0_lay_217 f_X0_216_13 o48 rfl ?_
        obtain ⟨b49, e49, h⟩ := h
        rw [e49]
        obtain ⟨o50, h⟩ := h
        obtain ⟨o51, h⟩ := h
        refine x_iald hG dX0_lay_220 o50 o51 ?_
        obtain ⟨b52, e52, h⟩ := h
        rw [e52]
        obtain ⟨o53, h⟩ := h
        obtain ⟨o54, h⟩ := h
        refine x_iald hG dX0_lay_221 o53 o54 ?_
        obtain ⟨b55, e55, h⟩ := h
        rw [e55]
        obtain ⟨o56, h⟩ := h
        obtain ⟨o57, h⟩ := h
        refine x_iald hG dX0_lay_222 o56 o57 ?_
        refine x_imul dX0_lay_223 ?_
        obtain ⟨o58, h⟩ := h
        refine z_putI hG hO.1 dX0_lay_224 f_X0_219_0 ⟨_, rfl, Or.inl rfl⟩ o58 (by decide) rfl rfl ⟨_, rfl⟩ (fun A59 e59 => ?_)
        replace h := h A59 e59
        exact x_vret dX0_lay_227 rfl ⟨rfl, h⟩
      · replace h := h.2 c50
        refine x_aload_n dX0_lay_53 rfl ?_
        obtain ⟨o60, h⟩ := h
        refine x_get (v := va_rf (A21.P p 9)) hG dX0_lay_54 f_X0_78_0 o60 rfl ?_
        refine x_iload_n dX0_lay_57 rfl ?_
        obtain ⟨b62, e62, h⟩ := h
        rw [e62]
        obtain ⟨o63, h⟩ := h
        obtain ⟨R61, g61, h⟩ := h
        refine x_callV hG (Ky := kJ5_get) (As := [.int y19_1]) dX0_lay_58 o63 rfl lk_X0_150 me_J5_get is_J5_get se_J5_get rfl rfl (Nat.le_of_ble_eq_true rfl) (MX.post (m_w_J5_get hG hO g61) ?_)
        rintro _ A61 ⟨v61, rfl, h1⟩
        refine X.xok (fun w61 => ?_)
        replace h := h v61 A61 w61 h1
        change X _ _ _ _ A61 _ _ [va_rf v61]
        obtain ⟨b64, e64, h⟩ := h
        rw [e64]
        obtain ⟨o65, h⟩ := h
        refine x_cast hG dX0_lay_61 q2396 o65 rfl (Or.inl rfl) ?_
        refine x_astore_n dX0_lay_64 (by decide) ?_
        refine x_aload_n dX0_lay_65 rfl ?_
        obtain ⟨o66, h⟩ := h
        refine x_get (v := va_rf (A61.P p 5)) hG dX0_lay_66 f_X0_57_0 o66 rfl ?_
        refine x_aload_n dX0_lay_69 rfl ?_
        refine x_get (v := va_rf (A61.P b64 13)) hG dX0_lay_70 f_X0_177_13 o65 rfl ?_
        obtain ⟨b68, e68, h⟩ := h
        rw [e68]
        obtain ⟨o69, h⟩ := h
        obtain ⟨R67, g67, h⟩ := h
        refine x_callV hG (Ky := kX8_clean) (As := [va_rf (A61.P b64 13)]) dX0_lay_73 o69 rfl lk_X0_181 me_X8_clean is_X8_clean se_X8_clean rfl rfl (Nat.le_of_ble_eq_true rfl) (MX.post (m_X8_clean hG hO g67) ?_)
        rintro _ A67 ⟨rfl, h1⟩
        refine X.xok (fun w67 => ?_)
        replace h := h A67 w67 h1
        change X _ _ _ _ A67 _ _ []
        refine x_aload_n dX0_lay_76 rfl ?_
        obtain ⟨o70, h⟩ := h
        refine x_get (v := va_rf (A67.P p 7)) hG dX0_lay_77 f_X0_73_0 o70 rfl ?_
        refine x_aload_n dX0_lay_80 rfl ?_
        obtain ⟨o71, h⟩ := h
        refine x_get (v := va_rf (A67.P b64 13)) hG dX0_lay_81 f_X0_177_13 o71 rfl ?_
        obtain ⟨b73, e73, h⟩ := h
        rw [e73]
        obtain ⟨o74, h⟩ := h
        obtain ⟨R72, g72, h⟩ := h
        refine x_callV hG (Ky := kX10_lay) (As := [va_rf (A67.P b64 13)]) dX0_lay_84 o74 rfl lk_X0_185 me_X10_lay is_X10_lay se_X10_lay rfl rfl (Nat.le_of_ble_eq_true rfl) (MX.post (m_X10_lay hG hO g72) ?_)
        rintro _ A72 ⟨v72, rfl, h1⟩
        refine X.xok (fun w72 => ?_)
        replace h := h v72 A72 w72 h1
        change X _ _ _ _ A72 _ _ [.int v72]
        refine x_istore_n dX0_lay_87 (by decide) ?_
        refine x_aload_n dX0_lay_88 rfl ?_
        refine x_null dX0_lay_89 ?_
        obtain ⟨o75, h⟩ := h
        refine z_putP hG hO.1 (none : Option Nat) dX0_lay_90 f_X0_177_13 ⟨_, rfl, Or.inl rfl⟩ o75 (by decide) (Or.inl ⟨_, rfl⟩) (fun A76 e76 => ?_)
        replace h := h A76 e76
        refine x_aload_n dX0_lay_93 rfl ?_
        refine x_aload_n dX0_lay_94 rfl ?_
        obtain ⟨o77, h⟩ := h
        refine x_get (v := .int (A72.I p 12)) hG dX0_lay_95 f_X0_174_0 o77 (congrArg Value.int (sP_I e76)) ?_
        refine x_iload_n dX0_lay_98 rfl ?_
        refine x_iconst_ (v := (4 : Int32)) dX0_lay_99 (by decide) ?_
        refine x_idiv dX0_lay_100 (by decide) ?_
        refine x_callS hG (Ky := kJ11_max) (As := [.int (A72.I p 12), .int (v72 / (4 : Int32))]) dX0_lay_101 lk_X0_3 me_J11_max st_J11_max rfl rfl (Nat.le_of_ble_eq_true rfl) (MX.post (m_J11_max hG) ?_)
        rintro _ _ ⟨rfl, rfl⟩
        change X _ _ _ _ _ _ _ (.int (f_J11_max (A72.I p 12) (v72 / (4 : Int32))) :: _)
        refine z_putI hG hO.1 dX0_lay_104 f_X0_174_0 ⟨_, rfl, Or.inl rfl⟩ o77 (by decide) rfl rfl ⟨_, rfl⟩ (fun A78 e78 => ?_)
        replace h := h A78 e78
        refine x_aload_n dX0_lay_107 rfl ?_
        refine x_aload_n dX0_lay_108 rfl ?_
        refine x_get (v := .int (A72.I p 11)) hG dX0_lay_109 f_X0_171_0 (kI e78 o77) (congrArg Value.int ((sI_k e78 (by decide)).trans (sP_I e76))) ?_
        refine x_iconst_ (v := (4 : Int32)) dX0_lay_112 (by decide) ?_
        refine x_iload_n dX0_lay_113 rfl ?_
        refine x_imul dX0_lay_114 ?_
        refine x_aload_n dX0_lay_115 rfl ?_
        refine x_get (v := .int (A72.I b64 12)) hG dX0_lay_116 f_X0_188_13 (kI e78 (kP e76 o75)) (congrArg Value.int ((sI_a e78 (tne (kP e76 o75) o77 (by decide))).trans (sP_I e76))) ?_
        obtain ⟨o79, h⟩ := h
        refine x_idiv dX0_lay_119 o79 ?_
        refine x_iconst_ (v := (1 : Int32)) dX0_lay_120 (by decide) ?_
        refine x_iadd dX0_lay_121 ?_
        refine x_callS hG (Ky := kJ11_max) (As := [.int (A72.I p 11), .int ((((4 : Int32) * v72) / (A72.I b64 12)) + (1 : Int32))]) dX0_lay_122 lk_X0_3 me_J11_max st_J11_max rfl rfl (Nat.le_of_ble_eq_true rfl) (MX.post (m_J11_max hG) ?_)
        rintro _ _ ⟨rfl, rfl⟩
        change X _ _ _ _ _ _ _ (.int (f_J11_max (A72.I p 11) ((((4 : Int32) * v72) / (A72.I b64 12)) + (1 : Int32))) :: _)
        refine z_putI hG hO.1 dX0_lay_125 f_X0_171_0 ⟨_, rfl, Or.inl rfl⟩ (kI e78 o77) (by decide) rfl rfl ⟨_, rfl⟩ (fun A80 e80 => ?_)
        replace h := h A80 e80
        refine x_iinc (v := (y19_1 + (1 : Int32))) dX0_lay_128 rfl rfl (by decide) ?_
        refine x_goto (tgt := 42) dX0_lay_131 (by decide) ?_
        obtain ⟨q19, l19, h⟩ := h
        change X _ _ _ _ _ _ [some (.ref p), some (.int (y19_1 + (1 : Int32))), some (.ref b64), some (.int v72)] []
        exact X.weak (xle_c rfl (xle_c rfl (xle_n (xle_n xle_nil)))) (ih19 q19 l19 (y19_1 + (1 : Int32)) A80 h)
  change X _ _ _ _ _ _ [some (.ref p), some (.int (0 : Int32)), none, none] []
  exact X.weak (xle_c rfl (xle_c rfl (xle_n (xle_n xle_nil)))) (kl19 n19 (0 : Int32) A18 i19)
def w_X0_read (G : xG) (p : Nat) (Q : Int32 → xA → Prop) (A : xA) : Prop := xok G A → A.tg p = 1 ∧ (∀ A2 : xA, A2 = A.setI p 1 (0 : Int32) → (∀ A3 : xA, A3 = A2.setP p 8 (none : Option Nat) → (∃ b5 : Nat, (A.P p 9) = some b5 ∧ (A3.tg b5 = 37 ∧ (∃ R4 : xA → Prop, w_J5_clear G b5 R4 A3 ∧ (∀ A4 : xA, xok G A4 → R4 A4 → (A4.tg p = 1 ∧ (∀ A8 : xA, A8 = A4.setI p 15 (0 : Int32) → (∀ A9 : xA, A9 = A8.setI p 16 (0 : Int32) → (∀ A10 : xA, A10 = A9.setI p 19 (0 : Int32) → (∀ A11 : xA, A11 = A10.setI p 21 (0 : Int32) → (∀ A12 : xA, A12 = A11.setI p 20 (0 : Int32) → (∀ A13 : xA, A13 = A12.setI p 24 (0 : Int32) → (∃ b15 : Nat, (A4.P p 2) = some b15 ∧ (A13.tg b15 = 2 ∧ (∃ R14 : Option Nat → xA → Prop, w_X1_read G b15 (A4.P p 0) (A.I p 1) R14 A13 ∧ (∀ (v14 : Option Nat) (A14 : xA), xok G A14 → R14 v14 A14 → (((v14 = none → A14.tg p = 1 ∧ (∃ b46 : Nat, (A14.P p 2) = some b46 ∧ (A14.tg b46 = 2 ∧ (Q (((16 : Int32) * (A14.I b46 6)) + (A14.I b46 5)) A14)))) ∧ (∀ b17 : Nat, v14 = some b17 → A14.tg p = 1 ∧ (∃ b20 : Nat, (A14.P p 3) = some b20 ∧ (A14.tg b20 = 6 ∧ (∃ R19 : Int32 → xA → Prop, w_X6_make G b20 (some b17) (A.I p 1) R19 A14 ∧ (∀ (v19 : Int32) (A19 : xA), xok G A19 → (v19 = 0 ∨ v19 = 1) → R19 v19 A19 → (((v19 = 0 → A19.tg p = 1 ∧ (∃ b43 : Nat, (A19.P p 3) = some b43 ∧ (A19.tg b43 = 6 ∧ (Q (((16 : Int32) * (A19.I b43 14)) + (A19.I b43 13)) A19)))) ∧ (¬ v19 = 0 → A19.tg p = 1 ∧ (∀ A23 : xA, A23 = A19.setP p 8 (some b17) → (∃ L24 : Nat → Int32 → xA → Prop, (∃ n24 : Nat, L24 n24 (0 : Int32) A23) ∧ (∀ (n24 : Nat) (y24_3 : Int32) (A24 : xA), L24 n24 y24_3 A24 → A24.tg b17 = 37 ∧ (∃ R25 : Int32 → xA → Prop, w_J5_size G b17 R25 A24 ∧ (∀ (v25 : Int32) (A25 : xA), xok G A25 → R25 v25 A25 → (((v25 ≤ y24_3 → A25.tg p = 1 ∧ (∃ R27 : xA → Prop, w_X0_lay G p R27 A25 ∧ (∀ A27 : xA, xok G A27 → R27 A27 → (Q (0 : Int32) A27)))) ∧ (¬ v25 ≤ y24_3 → A25.tg b17 = 37 ∧ (∃ R29 : Option Nat → xA → Prop, w_J5_get G b17 y24_3 R29 A25 ∧ (∀ (v29 : Option Nat) (A29 : xA), xok G A29 → R29 v29 A29 → (∃ b31 : Nat, v29 = some b31 ∧ (A29.tg b31 = 14 ∧ (∃ J33 : xA → Prop, (∀ (A33 : xA), J33 A33 → (∃ q24 : Nat, q24 < n24 ∧ L24 q24 (y24_3 + (1 : Int32)) A33)) ∧ (((A29.I b31 0) = (6 : Int32) → A29.tg p = 1 ∧ (A29.tg b17 = 37 ∧ (∃ R35 : Option Nat → xA → Prop, w_J5_get G b17 y24_3 R35 A29 ∧ (∀ (v35 : Option Nat) (A35 : xA), xok G A35 → R35 v35 A35 → (∃ b37 : Nat, v35 = some b37 ∧ (A35.tg b37 = 14 ∧ (∃ b40 : Nat, (A29.P p 9) = some b40 ∧ (A35.tg b40 = 37 ∧ (∃ R39 : Int32 → xA → Prop, w_J5_add G b40 (some b37) R39 A35 ∧ (∀ (v39 : Int32) (A39 : xA), xok G A39 → (v39 = 0 ∨ v39 = 1) → R39 v39 A39 → (J33 A39))))))))))) ∧ (¬ (A29.I b31 0) = (6 : Int32) → J33 A29))))))))))))))))))))))))))))))))))))))))))
theorem m_X0_read (hG : xOK G) (hO : xHO G) {dp : Nat} {p : Nat} {Q : Int32 → xA → Prop} {A : xA} (h : w_X0_read G p Q A) : MX G (dp + 1919) kX0_read [.ref p] A (hI Q) := by
  unfold w_X0_read at h
  refine MX.of rfl (Nat.le_of_ble_eq_true rfl) ?_
  change X _ _ _ _ _ _ [some (.ref p), none, none, none] _
  refine X.xok (fun w0 => ?_)
  replace h := h w0
  refine x_aload_n dX0_read_0 rfl ?_
  obtain ⟨o1, h⟩ := h
  refine x_get (v := .int (A.I p 1)) hG dX0_read_1 f_X0_102_0 o1 rfl ?_
  refine x_istore_n dX0_read_4 (by decide) ?_
  refine x_aload_n dX0_read_5 rfl ?_
  refine x_iconst_ (v := (0 : Int32)) dX0_read_6 (by decide) ?_
  refine z_putI hG hO.1 dX0_read_7 f_X0_102_0 ⟨_, rfl, Or.inl rfl⟩ o1 (by decide) rfl rfl ⟨_, rfl⟩ (fun A2 e2 => ?_)
  replace h := h A2 e2
  refine x_aload_n dX0_read_10 rfl ?_
  refine x_null dX0_read_11 ?_
  refine z_putP hG hO.1 (none : Option Nat) dX0_read_12 f_X0_109_0 ⟨_, rfl, Or.inl rfl⟩ (kI e2 o1) (by decide) (Or.inl ⟨_, rfl⟩) (fun A3 e3 => ?_)
  replace h := h A3 e3
  refine x_aload_n dX0_read_15 rfl ?_
  refine x_get (v := va_rf (A.P p 9)) hG dX0_read_16 f_X0_78_0 (kP e3 (kI e2 o1)) (congrArg va_rf ((sP_k e3 (by decide)).trans (sI_P e2))) ?_
  obtain ⟨b5, e5, h⟩ := h
  rw [e5]
  obtain ⟨o6, h⟩ := h
  obtain ⟨R4, g4, h⟩ := h
  refine x_callV hG (Ky := kJ5_clear) (As := []) dX0_read_19 o6 rfl lk_X0_112 me_J5_clear is_J5_clear se_J5_clear rfl rfl (Nat.le_of_ble_eq_true rfl) (MX.post (m_w_J5_clear hG hO g4) ?_)
  rintro _ A4 ⟨rfl, h1⟩
  refine X.xok (fun w4 => ?_)
  replace h := h A4 w4 h1
  change X _ _ _ _ A4 _ _ []
  refine x_aload_n dX0_read_22 rfl ?_
  refine x_iconst_ (v := (0 : Int32)) dX0_read_23 (by decide) ?_
  obtain ⟨o7, h⟩ := h
  refine z_putI hG hO.1 dX0_read_24 f_X0_115_0 ⟨_, rfl, Or.inl rfl⟩ o7 (by decide) rfl rfl ⟨_, rfl⟩ (fun A8 e8 => ?_)
  replace h := h A8 e8
  refine x_aload_n dX0_read_27 rfl ?_
  refine x_iconst_ (v := (0 : Int32)) dX0_read_28 (by decide) ?_
  refine z_putI hG hO.1 dX0_read_29 f_X0_118_0 ⟨_, rfl, Or.inl rfl⟩ (kI e8 o7) (by decide) rfl rfl ⟨_, rfl⟩ (fun A9 e9 => ?_)
  replace h := h A9 e9
  refine x_aload_n dX0_read_32 rfl ?_
  refine x_iconst_ (v := (0 : Int32)) dX0_read_33 (by decide) ?_
  refine z_putI hG hO.1 dX0_read_34 f_X0_121_0 ⟨_, rfl, Or.inl rfl⟩ (kI e9 (kI e8 o7)) (by decide) rfl rfl ⟨_, rfl⟩ (fun A10 e10 => ?_)
  replace h := h A10 e10
  refine x_aload_n dX0_read_37 rfl ?_
  refine x_iconst_ (v := (0 : Int32)) dX0_read_38 (by decide) ?_
  refine z_putI hG hO.1 dX0_read_39 f_X0_124_0 ⟨_, rfl, Or.inl rfl⟩ (kI e10 (kI e9 (kI e8 o7))) (by decide) rfl rfl ⟨_, rfl⟩ (fun A11 e11 => ?_)
  replace h := h A11 e11
  refine x_aload_n dX0_read_42 rfl ?_
  refine x_iconst_ (v := (0 : Int32)) dX0_read_43 (by decide) ?_
  refine z_putI hG hO.1 dX0_read_44 f_X0_127_0 ⟨_, rfl, Or.inl rfl⟩ (kI e11 (kI e10 (kI e9 (kI e8 o7)))) (by decide) rfl rfl ⟨_, rfl⟩ (fun A12 e12 => ?_)
  replace h := h A12 e12
  refine x_aload_n dX0_read_47 rfl ?_
  refine x_iconst_ (v := (0 : Int32)) dX0_read_48 (by decide) ?_
  refine z_putI hG hO.1 dX0_read_49 f_X0_130_0 ⟨_, rfl, Or.inl rfl⟩ (kI e12 (kI e11 (kI e10 (kI e9 (kI e8 o7))))) (by decide) (narrow01 (by decide)) (fits01 (by decide)) ⟨_, rfl⟩ (fun A13 e13 => ?_)
  replace h := h A13 e13
  refine x_aload_n dX0_read_52 rfl ?_
  refine x_get (v := va_rf (A4.P p 2)) hG dX0_read_53 f_X0_34_0 (kI e13 (kI e12 (kI e11 (kI e10 (kI e9 (kI e8 o7)))))) (congrArg va_rf ((sI_P e13).trans ((sI_P e12).trans ((sI_P e11).trans ((sI_P e10).trans ((sI_P e9).trans (sI_P e8))))))) ?_
  refine x_aload_n dX0_read_56 rfl ?_
  refine x_get (v := va_rf (A4.P p 0)) hG dX0_read_57 f_X0_27_0 (kI e13 (kI e12 (kI e11 (kI e10 (kI e9 (kI e8 o7)))))) (congrArg va_rf ((sI_P e13).trans ((sI_P e12).trans ((sI_P e11).trans ((sI_P e10).trans ((sI_P e9).trans (sI_P e8))))))) ?_
  refine x_iload_n dX0_read_60 rfl ?_
  obtain ⟨b15, e15, h⟩ := h
  rw [e15]
  obtain ⟨o16, h⟩ := h
  obtain ⟨R14, g14, h⟩ := h
  refine x_callV hG (Ky := kX1_read) (As := [va_rf (A4.P p 0), .int (A.I p 1)]) dX0_read_61 o16 rfl lk_X0_134 me_X1_read is_X1_read se_X1_read rfl rfl (Nat.le_of_ble_eq_true rfl) (MX.post (m_X1_read hG hO g14) ?_)
  rintro _ A14 ⟨v14, rfl, h1⟩
  refine X.xok (fun w14 => ?_)
  replace h := h v14 A14 w14 h1
  change X _ _ _ _ A14 _ _ [va_rf v14]
  refine x_astoreq_n dX0_read_64 (by decide) ?_
  refine x_aloadq_n dX0_read_65 rfl ?_
  refine x_ifnonnull (tgt := 88) dX0_read_66 (by decide) (fun b17 c66 => ?_) (fun c66 => ?_)
  · replace h := h.2 b17 c66
    rw [c66]
    refine x_aload_n dX0_read_88 rfl ?_
    obtain ⟨o18, h⟩ := h
    refine x_get (v := va_rf (A14.P p 3)) hG dX0_read_89 f_X0_41_0 o18 rfl ?_
    refine x_aload_n dX0_read_92 rfl ?_
    refine x_iload_n dX0_read_93 rfl ?_
    obtain ⟨b20, e20, h⟩ := h
    rw [e20]
    obtain ⟨o21, h⟩ := h
    obtain ⟨R19, g19, h⟩ := h
    refine x_callV hG (Ky := kX6_make) (As := [.ref b17, .int (A.I p 1)]) dX0_read_94 o21 rfl lk_X0_144 me_X6_make is_X6_make se_X6_make rfl rfl (Nat.le_of_ble_eq_true rfl) (MX.post (m_X6_make hG hO g19) ?_)
    rintro _ A19 ⟨v19, rfl, zv19, h1⟩
    refine X.xok (fun w19 => ?_)
    replace h := h v19 A19 w19 zv19 h1
    change X _ _ _ _ A19 _ _ [.int v19]
    refine x_if_ne (tgt := 119) dX0_read_97 (by decide) (fun c97 => ?_) (fun c97 => ?_)
    · replace h := h.2 c97
      refine x_aload_n dX0_read_119 rfl ?_
      refine x_aload_n dX0_read_120 rfl ?_
      obtain ⟨o22, h⟩ := h
      refine z_putP hG hO.1 (some b17) dX0_read_121 f_X0_109_0 ⟨_, rfl, Or.inl rfl⟩ o22 (by decide) (Or.inl ⟨_, rfl⟩) (fun A23 e23 => ?_)
      replace h := h A23 e23
      refine x_iconst_ (v := (0 : Int32)) dX0_read_124 (by decide) ?_
      refine x_istore_n dX0_read_125 (by decide) ?_
      obtain ⟨L24, ⟨n24, i24⟩, g24⟩ := h
      have kl24 : ∀ n24 : Nat, ∀ (y24_3 : Int32) (A24 : xA), L24 n24 y24_3 A24 → X G (dp + 1919) kX0_read (hI Q) A24 126 [some (.ref p), none, some (.ref b17), some (.int y24_3)] [] := by
        intro n24
        induction n24 using Nat.strongRecOn with
        | ind n24 ih24 =>
          intro y24_3 A24 h
          replace h := g24 n24 y24_3 A24 h
          refine x_iload_n dX0_read_126 rfl ?_
          refine x_aload_n dX0_read_127 rfl ?_
          obtain ⟨o26, h⟩ := h
          obtain ⟨R25, g25, h⟩ := h
          refine x_callV hG (Ky := kJ5_size) (As := []) dX0_read_128 o26 rfl lk_X0_9 me_J5_size is_J5_size se_J5_size rfl rfl (Nat.le_of_ble_eq_true rfl) (MX.post (m_w_J5_size hG hO g25) ?_)
          rintro _ A25 ⟨v25, rfl, h1⟩
          refine X.xok (fun w25 => ?_)
          replace h := h v25 A25 w25 h1
          change X _ _ _ _ A25 _ _ [.int v25, .int y24_3]
          refine x_icmp_ge (tgt := 172) dX0_read_131 (by decide) (fun c131 => ?_) (fun c131 => ?_)
          · replace h := h.1 c131
            refine x_aload_n dX0_read_172 rfl ?_
            obtain ⟨o28, h⟩ := h
            obtain ⟨R27, g27, h⟩ := h
            refine x_callV hG (Ky := kX0_lay) (As := []) dX0_read_173 o28 rfl lk_X0_162 me_X0_lay is_X0_lay se_X0_lay rfl rfl (Nat.le_of_ble_eq_true rfl) (MX.post (m_X0_lay hG hO g27) ?_)
            rintro _ A27 ⟨rfl, h1⟩
            refine X.xok (fun w27 => ?_)
            replace h := h A27 w27 h1
            change X _ _ _ _ A27 _ _ []
            refine x_iconst_ (v := (0 : Int32)) dX0_read_176 (by decide) ?_
            exact x_iret dX0_read_177 rfl ⟨_, rfl, h⟩
          · replace h := h.2 c131
            refine x_aload_n dX0_read_134 rfl ?_
            refine x_iload_n dX0_read_135 rfl ?_
            obtain ⟨o30, h⟩ := h
            obtain ⟨R29, g29, h⟩ := h
            refine x_callV hG (Ky := kJ5_get) (As := [.int y24_3]) dX0_read_136 o30 rfl lk_X0_150 me_J5_get is_J5_get se_J5_get rfl rfl (Nat.le_of_ble_eq_true rfl) (MX.post (m_w_J5_get hG hO g29) ?_)
            rintro _ A29 ⟨v29, rfl, h1⟩
            refine X.xok (fun w29 => ?_)
            replace h := h v29 A29 w29 h1
            change X _ _ _ _ A29 _ _ [va_rf v29]
            obtain ⟨b31, e31, h⟩ := h
            rw [e31]
            obtain ⟨o32, h⟩ := h
            refine x_cast hG dX0_read_139 q2396 o32 rfl (Or.inl rfl) ?_
            refine x_get (v := .int (A29.I b31 0)) hG dX0_read_142 f_X0_155_13 o32 rfl ?_
            refine x_bipush_ (v := (6 : Int32)) dX0_read_145 (by decide) ?_
            obtain ⟨J33, g33, h⟩ := h
            have kj33 : ∀ (A33 : xA), J33 A33 → X G (dp + 1919) kX0_read (hI Q) A33 166 [some (.ref p), none, some (.ref b17), some (.int y24_3)] [] := by
              intro A33 h
              replace h := g33 A33 h
              refine x_iinc (v := (y24_3 + (1 : Int32))) dX0_read_166 rfl rfl (by decide) ?_
              refine x_goto (tgt := 126) dX0_read_169 (by decide) ?_
              obtain ⟨q24, l24, h⟩ := h
              change X _ _ _ _ _ _ [some (.ref p), none, some (.ref b17), some (.int (y24_3 + (1 : Int32)))] []
              exact X.weak (xle_c rfl (xle_n (xle_c rfl (xle_c rfl xle_nil)))) (ih24 q24 l24 (y24_3 + (1 : Int32)) A33 h)
            refine x_icmp_ne (tgt := 166) dX0_read_147 (by decide) (fun c147 => ?_) (fun c147 => ?_)
            · replace h := h.2 c147
              change X _ _ _ _ _ _ [some (.ref p), none, some (.ref b17), some (.int y24_3)] []
              exact X.weak (xle_c rfl (xle_n (xle_c rfl (xle_c rfl xle_nil)))) (kj33 A29 h)
            · replace h := h.1 c147
              refine x_aload_n dX0_read_150 rfl ?_
              obtain ⟨o34, h⟩ := h
              refine x_get (v := va_rf (A29.P p 9)) hG dX0_read_151 f_X0_78_0 o34 rfl ?_
              refine x_aload_n dX0_read_154 rfl ?_
              refine x_iload_n dX0_read_155 rfl ?_
              obtain ⟨o36, h⟩ := h
              obtain ⟨R35, g35, h⟩ := h
              refine x_callV hG (Ky := kJ5_get) (As := [.int y24_3]) dX0_read_156 o36 rfl lk_X0_150 me_J5_get is_J5_get se_J5_get rfl rfl (by simp only [List.append_eq, List.nil_append, List.map_cons, va_rf_cat]; exact Nat.le_of_ble_eq_true rfl) (MX.post (m_w_J5_get hG hO g35) ?_)
              rintro _ A35 ⟨v35, rfl, h1⟩
              refine X.xok (fun w35 => ?_)
              replace h := h v35 A35 w35 h1
              change X _ _ _ _ A35 _ _ [va_rf v35, va_rf (A29.P p 9)]
              obtain ⟨b37, e37, h⟩ := h
              rw [e37]
              obtain ⟨o38, h⟩ := h
              refine x_cast hG dX0_read_159 q2396 o38 rfl (Or.inl rfl) ?_
              obtain ⟨b40, e40, h⟩ := h
              rw [e40]
              obtain ⟨o41, h⟩ := h
              obtain ⟨R39, g39, h⟩ := h
              refine x_callV hG (Ky := kJ5_add) (As := [.ref b37]) dX0_read_162 o41 rfl lk_X0_158 me_J5_add is_J5_add se_J5_add rfl rfl (Nat.le_of_ble_eq_true rfl) (MX.post (m_w_J5_add hG hO g39) ?_)
              rintro _ A39 ⟨v39, rfl, zv39, h1⟩
              refine X.xok (fun w39 => ?_)
              replace h := h v39 A39 w39 zv39 h1
              change X _ _ _ _ A39 _ _ [.int v39]
              refine x_pop dX0_read_165 rfl ?_
              change X _ _ _ _ _ _ [some (.ref p), none, some (.ref b17), some (.int y24_3)] []
              exact X.weak (xle_c rfl (xle_n (xle_c rfl (xle_c rfl xle_nil)))) (kj33 A39 h)
      change X _ _ _ _ _ _ [some (.ref p), some (.int (A.I p 1)), some (.ref b17), some (.int (0 : Int32))] []
      exact X.weak (xle_c rfl (xle_n (xle_c rfl (xle_c rfl xle_nil)))) (kl24 n24 (0 : Int32) A23 i24)
    · replace h := h.1 c97
      refine x_bipush_ (v := (16 : Int32)) dX0_read_100 (by decide) ?_
      refine x_aload_n dX0_read_102 rfl ?_
      obtain ⟨o42, h⟩ := h
      refine x_get (v := va_rf (A19.P p 3)) hG dX0_read_103 f_X0_41_0 o42 rfl ?_
      obtain ⟨b43, e43, h⟩ := h
      rw [e43]
      obtain ⟨o44, h⟩ := h
      refine x_get (v := .int (A19.I b43 14)) hG dX0_read_106 f_X0_148_5 o44 rfl ?_
      refine x_imul dX0_read_109 ?_
      refine x_aload_n dX0_read_110 rfl ?_
      refine x_get (v := .ref b43) hG dX0_read_111 f_X0_41_0 o42 (congrArg va_rf e43) ?_
      refine x_get (v := .int (A19.I b43 13)) hG dX0_read_114 f_X0_149_5 o44 rfl ?_
      refine x_iadd dX0_read_117 ?_
      exact x_iret dX0_read_118 rfl ⟨_, rfl, h⟩
  · replace h := h.1 c66
    refine x_bipush_ (v := (16 : Int32)) dX0_read_69 (by decide) ?_
    refine x_aload_n dX0_read_71 rfl ?_
    obtain ⟨o45, h⟩ := h
    refine x_get (v := va_rf (A14.P p 2)) hG dX0_read_72 f_X0_34_0 o45 rfl ?_
    obtain ⟨b46, e46, h⟩ := h
    rw [e46]
    obtain ⟨o47, h⟩ := h
    refine x_get (v := .int (A14.I b46 6)) hG dX0_read_75 f_X0_138_1 o47 rfl ?_
    refine x_imul dX0_read_78 ?_
    refine x_aload_n dX0_read_79 rfl ?_
    refine x_get (v := .ref b46) hG dX0_read_80 f_X0_34_0 o45 (congrArg va_rf e46) ?_
    refine x_get (v := .int (A14.I b46 5)) hG dX0_read_83 f_X0_141_1 o47 rfl ?_
    refine x_iadd dX0_read_86 ?_
    exact x_iret dX0_read_87 rfl ⟨_, rfl, h⟩
def w_X0_look (G : xG) (p : Nat) (w : Int32) (i : Int32) (Q : Int32 → xA → Prop) (A : xA) : Prop := xok G A → A.tg p = 1 ∧ ((((A.P p 8) = none → Q (-1 : Int32) A) ∧ (∀ b2 : Nat, (A.P p 8) = some b2 → ((w = 0 → ∃ b19 : Nat, (A.P p 9) = some b19 ∧ (A.tg b19 = 37 ∧ (∃ R18 : Int32 → xA → Prop, w_J5_size G b19 R18 A ∧ (∀ (v18 : Int32) (A18 : xA), xok G A18 → R18 v18 A18 → (Q v18 A18))))) ∧ (¬ w = 0 → ((w = (1 : Int32) → ∃ b16 : Nat, (A.P p 3) = some b16 ∧ (A.tg b16 = 6 ∧ (Q (A.I b16 5) A))) ∧ (¬ w = (1 : Int32) → ((i < 0 → Q (-1 : Int32) A) ∧ (¬ i < 0 → ∃ b4 : Nat, (A.P p 9) = some b4 ∧ (A.tg b4 = 37 ∧ (∃ R3 : Int32 → xA → Prop, w_J5_size G b4 R3 A ∧ (∀ (v3 : Int32) (A3 : xA), xok G A3 → R3 v3 A3 → (((i < v3 → A3.tg p = 1 ∧ (∃ b8 : Nat, (A3.P p 9) = some b8 ∧ (A3.tg b8 = 37 ∧ (∃ R7 : Option Nat → xA → Prop, w_J5_get G b8 i R7 A3 ∧ (∀ (v7 : Option Nat) (A7 : xA), xok G A7 → R7 v7 A7 → (∃ b10 : Nat, v7 = some b10 ∧ (A7.tg b10 = 14 ∧ ((((w = (2 : Int32)) → Q (A7.I b10 2) A7) ∧ ((w = (3 : Int32)) → ∃ b14 : Nat, (A7.P b10 8) = some b14 ∧ (A7.tg b14 = 37 ∧ (∃ R13 : Int32 → xA → Prop, w_J5_size G b14 R13 A7 ∧ (∀ (v13 : Int32) (A13 : xA), xok G A13 → R13 v13 A13 → (Q v13 A13))))) ∧ ((w = (4 : Int32)) → Q (A7.I b10 12) A7) ∧ ((w = (5 : Int32)) → Q (if (A7.I b10 4) = 0 then (1 : Int32) else (0 : Int32)) A7) ∧ ((¬ w = (2 : Int32) ∧ ¬ w = (3 : Int32) ∧ ¬ w = (4 : Int32) ∧ ¬ w = (5 : Int32)) → Q (-1 : Int32) A7)))))))))) ∧ (¬ i < v3 → Q (-1 : Int32) A3)))))))))))))))
theorem m_X0_look (hG : xOK G) (hO : xHO G) {dp : Nat} {p : Nat} {w : Int32} {i : Int32} {Q : Int32 → xA → Prop} {A : xA} (h : w_X0_look G p w i Q A) : MX G (dp + 3) kX0_look [.ref p, .int w, .int i] A (hI Q) := by
  unfold w_X0_look at h
  refine MX.of rfl (Nat.le_of_ble_eq_true rfl) ?_
  change X _ _ _ _ _ _ [some (.ref p), some (.int w), some (.int i), none] _
  refine X.xok (fun w0 => ?_)
  replace h := h w0
  refine x_aload_n dX0_look_0 rfl ?_
  obtain ⟨o1, h⟩ := h
  refine x_get (v := va_rf (A.P p 8)) hG dX0_look_1 f_X0_109_0 o1 rfl ?_
  refine x_ifnonnull (tgt := 9) dX0_look_4 (by decide) (fun b2 c4 => ?_) (fun c4 => ?_)
  · replace h := h.2 b2 c4
    refine x_iload_n dX0_look_9 rfl ?_
    refine x_if_ne (tgt := 21) dX0_look_10 (by decide) (fun c10 => ?_) (fun c10 => ?_)
    · replace h := h.2 c10
      refine x_iload_n dX0_look_21 rfl ?_
      refine x_iconst_ (v := (1 : Int32)) dX0_look_22 (by decide) ?_
      refine x_icmp_ne (tgt := 34) dX0_look_23 (by decide) (fun c23 => ?_) (fun c23 => ?_)
      · replace h := h.2 c23
        refine x_iload_n dX0_look_34 rfl ?_
        refine x_if_lt (tgt := 49) dX0_look_35 (by decide) (fun c35 => ?_) (fun c35 => ?_)
        · replace h := h.1 c35
          refine x_iconst_ (v := (-1 : Int32)) dX0_look_49 (by decide) ?_
          exact x_iret dX0_look_50 rfl ⟨_, rfl, h⟩
        · replace h := h.2 c35
          refine x_iload_n dX0_look_38 rfl ?_
          refine x_aload_n dX0_look_39 rfl ?_
          refine x_get (v := va_rf (A.P p 9)) hG dX0_look_40 f_X0_78_0 o1 rfl ?_
          obtain ⟨b4, e4, h⟩ := h
          rw [e4]
          obtain ⟨o5, h⟩ := h
          obtain ⟨R3, g3, h⟩ := h
          refine x_callV hG (Ky := kJ5_size) (As := []) dX0_look_43 o5 rfl lk_X0_9 me_J5_size is_J5_size se_J5_size rfl rfl (Nat.le_of_ble_eq_true rfl) (MX.post (m_w_J5_size hG hO g3) ?_)
          rintro _ A3 ⟨v3, rfl, h1⟩
          refine X.xok (fun w3 => ?_)
          replace h := h v3 A3 w3 h1
          change X _ _ _ _ A3 _ _ [.int v3, .int i]
          refine x_icmp_lt (tgt := 51) dX0_look_46 (by decide) (fun c46 => ?_) (fun c46 => ?_)
          · replace h := h.1 c46
            refine x_aload_n dX0_look_51 rfl ?_
            obtain ⟨o6, h⟩ := h
            refine x_get (v := va_rf (A3.P p 9)) hG dX0_look_52 f_X0_78_0 o6 rfl ?_
            refine x_iload_n dX0_look_55 rfl ?_
            obtain ⟨b8, e8, h⟩ := h
            rw [e8]
            obtain ⟨o9, h⟩ := h
            obtain ⟨R7, g7, h⟩ := h
            refine x_callV hG (Ky := kJ5_get) (As := [.int i]) dX0_look_56 o9 rfl lk_X0_150 me_J5_get is_J5_get se_J5_get rfl rfl (Nat.le_of_ble_eq_true rfl) (MX.post (m_w_J5_get hG hO g7) ?_)
            rintro _ A7 ⟨v7, rfl, h1⟩
            refine X.xok (fun w7 => ?_)
            replace h := h v7 A7 w7 h1
            change X _ _ _ _ A7 _ _ [va_rf v7]
            obtain ⟨b10, e10, h⟩ := h
            rw [e10]
            obtain ⟨o11, h⟩ := h
            refine x_cast hG dX0_look_59 q2396 o11 rfl (Or.inl rfl) ?_
            refine x_astore_n dX0_look_62 (by decide) ?_
            refine x_iload_n dX0_look_63 rfl ?_
            have kt12_0 : (w = (2 : Int32)) → X G (dp + 3) kX0_look (hI Q) A7 96 [some (.ref p), some (.int w), some (.int i), some (.ref b10)] [] := by
              intro c64
              replace h := h.1 c64
              refine x_aload_n dX0_look_96 rfl ?_
              refine x_get (v := .int (A7.I b10 2)) hG dX0_look_97 f_X0_225_13 o11 rfl ?_
              exact x_iret dX0_look_100 rfl ⟨_, rfl, h⟩
            have kt12_1 : (w = (3 : Int32)) → X G (dp + 3) kX0_look (hI Q) A7 101 [some (.ref p), some (.int w), some (.int i), some (.ref b10)] [] := by
              intro c64
              replace h := h.2.1 c64
              refine x_aload_n dX0_look_101 rfl ?_
              refine x_get (v := va_rf (A7.P b10 8)) hG dX0_look_102 f_X0_226_13 o11 rfl ?_
              obtain ⟨b14, e14, h⟩ := h
              rw [e14]
              obtain ⟨o15, h⟩ := h
              obtain ⟨R13, g13, h⟩ := h
              refine x_callV hG (Ky := kJ5_size) (As := []) dX0_look_105 o15 rfl lk_X0_9 me_J5_size is_J5_size se_J5_size rfl rfl (Nat.le_of_ble_eq_true rfl) (MX.post (m_w_J5_size hG hO g13) ?_)
              rintro _ A13 ⟨v13, rfl, h1⟩
              refine X.xok (fun w13 => ?_)
              replace h := h v13 A13 w13 h1
              change X _ _ _ _ A13 _ _ [.int v13]
              exact x_iret dX0_look_108 rfl ⟨_, rfl, h⟩
            have kt12_2 : (w = (4 : Int32)) → X G (dp + 3) kX0_look (hI Q) A7 109 [some (.ref p), some (.int w), some (.int i), some (.ref b10)] [] := by
              intro c64
              replace h := h.2.2.1 c64
              refine x_aload_n dX0_look_109 rfl ?_
              refine x_get (v := .int (A7.I b10 12)) hG dX0_look_110 f_X0_188_13 o11 rfl ?_
              exact x_iret dX0_look_113 rfl ⟨_, rfl, h⟩
            have kt12_3 : (w = (5 : Int32)) → X G (dp + 3) kX0_look (hI Q) A7 114 [some (.ref p), some (.int w), some (.int i), some (.ref b10)] [] := by
              intro c64
              replace h := h.2.2.2.1 c64
              refine x_aload_n dX0_look_114 rfl ?_
              refine x_get (v := .int (A7.I b10 4)) hG dX0_look_115 f_X0_229_13 o11 rfl ?_
              refine x_via 126 (A' := A7) (lv' := [none, none, none, none]) (st' := [.int (if (A7.I b10 4) = 0 then (1 : Int32) else (0 : Int32))]) ?_ (fun k126 => ?_)
              rotate_left
              · refine x_if_eq (tgt := 125) dX0_look_118 (by decide) (fun c118 => ?_) (fun c118 => ?_)
                · refine x_iconst_ (v := (1 : Int32)) dX0_look_125 (by decide) ?_
                  change X _ _ _ _ _ _ [some (.ref p), some (.int w), some (.int i), some (.ref b10)] [.int (1 : Int32)]
                  simp only [if_pos c118] at k126 ⊢
                  exact X.weak (xle_n (xle_n (xle_n (xle_n xle_nil)))) k126
                · refine x_iconst_ (v := (0 : Int32)) dX0_look_121 (by decide) ?_
                  refine x_goto (tgt := 126) dX0_look_122 (by decide) ?_
                  change X _ _ _ _ _ _ [some (.ref p), some (.int w), some (.int i), some (.ref b10)] [.int (0 : Int32)]
                  simp only [if_neg c118] at k126 ⊢
                  exact X.weak (xle_n (xle_n (xle_n (xle_n xle_nil)))) k126
              exact x_iret dX0_look_126 rfl ⟨_, rfl, h⟩
            have kd12 : (¬ w = (2 : Int32) ∧ ¬ w = (3 : Int32) ∧ ¬ w = (4 : Int32) ∧ ¬ w = (5 : Int32)) → X G (dp + 3) kX0_look (hI Q) A7 127 [some (.ref p), some (.int w), some (.int i), some (.ref b10)] [] := by
              intro c64
              replace h := h.2.2.2.2 c64
              refine x_iconst_ (v := (-1 : Int32)) dX0_look_127 (by decide) ?_
              exact x_iret dX0_look_128 rfl ⟨_, rfl, h⟩
            refine x_sw (2 : Int32) (fun s64_0 => ?_) (fun s64_0 => ?_)
            · refine x_tableIn (off := 32) (tgt := 96) dX0_look_64 (by rw [s64_0]; decide) (by rw [s64_0]; decide) (by rw [s64_0]; rfl) (by decide) ?_
              exact kt12_0 s64_0
            refine x_sw (3 : Int32) (fun s64_1 => ?_) (fun s64_1 => ?_)
            · refine x_tableIn (off := 37) (tgt := 101) dX0_look_64 (by rw [s64_1]; decide) (by rw [s64_1]; decide) (by rw [s64_1]; rfl) (by decide) ?_
              exact kt12_1 s64_1
            refine x_sw (4 : Int32) (fun s64_2 => ?_) (fun s64_2 => ?_)
            · refine x_tableIn (off := 45) (tgt := 109) dX0_look_64 (by rw [s64_2]; decide) (by rw [s64_2]; decide) (by rw [s64_2]; rfl) (by decide) ?_
              exact kt12_2 s64_2
            refine x_sw (5 : Int32) (fun s64_3 => ?_) (fun s64_3 => ?_)
            · refine x_tableIn (off := 50) (tgt := 114) dX0_look_64 (by rw [s64_3]; decide) (by rw [s64_3]; decide) (by rw [s64_3]; rfl) (by decide) ?_
              exact kt12_3 s64_3
            have t64_0 := lv_neT s64_0 (a := 2) (by decide)
            have t64_1 := lv_neT s64_1 (a := 3) (by decide)
            have t64_2 := lv_neT s64_2 (a := 4) (by decide)
            have t64_3 := lv_neT s64_3 (a := 5) (by decide)
            refine x_tableOut (tgt := 127) dX0_look_64 (by omega) (by decide) ?_
            exact kd12 ⟨s64_0, s64_1, s64_2, s64_3⟩
          · replace h := h.2 c46
            refine x_iconst_ (v := (-1 : Int32)) dX0_look_49 (by decide) ?_
            exact x_iret dX0_look_50 rfl ⟨_, rfl, h⟩
      · replace h := h.1 c23
        refine x_aload_n dX0_look_26 rfl ?_
        refine x_get (v := va_rf (A.P p 3)) hG dX0_look_27 f_X0_41_0 o1 rfl ?_
        obtain ⟨b16, e16, h⟩ := h
        rw [e16]
        obtain ⟨o17, h⟩ := h
        refine x_get (v := .int (A.I b16 5)) hG dX0_look_30 f_X0_222_5 o17 rfl ?_
        exact x_iret dX0_look_33 rfl ⟨_, rfl, h⟩
    · replace h := h.1 c10
      refine x_aload_n dX0_look_13 rfl ?_
      refine x_get (v := va_rf (A.P p 9)) hG dX0_look_14 f_X0_78_0 o1 rfl ?_
      obtain ⟨b19, e19, h⟩ := h
      rw [e19]
      obtain ⟨o20, h⟩ := h
      obtain ⟨R18, g18, h⟩ := h
      refine x_callV hG (Ky := kJ5_size) (As := []) dX0_look_17 o20 rfl lk_X0_9 me_J5_size is_J5_size se_J5_size rfl rfl (Nat.le_of_ble_eq_true rfl) (MX.post (m_w_J5_size hG hO g18) ?_)
      rintro _ A18 ⟨v18, rfl, h1⟩
      refine X.xok (fun w18 => ?_)
      replace h := h v18 A18 w18 h1
      change X _ _ _ _ A18 _ _ [.int v18]
      exact x_iret dX0_look_20 rfl ⟨_, rfl, h⟩
  · replace h := h.1 c4
    refine x_iconst_ (v := (-1 : Int32)) dX0_look_7 (by decide) ?_
    exact x_iret dX0_look_8 rfl ⟨_, rfl, h⟩
def w_X0_begin (G : xG) (p : Nat) (n : Int32) (Q : Int32 → xA → Prop) (A : xA) : Prop := xok G A → A.tg p = 1 ∧ ((((A.P p 8) = none → Q (0 : Int32) A) ∧ (∀ b2 : Nat, (A.P p 8) = some b2 → ((n < (4 : Int32) → Q (0 : Int32) A) ∧ (¬ n < (4 : Int32) → ((n ≤ (2000 : Int32) → ∃ b3 : Nat, (A.P p 17) = some b3 ∧ (A.tg b3 = 12 ∧ (∃ b5 : Nat, (A.P b3 0) = some b5 ∧ (A.tg b5 = 200 ∧ (∃ J7 : xA → Prop, (∀ (A7 : xA), J7 A7 → ∃ L8 : Nat → Int32 → xA → Prop, (∃ n8 : Nat, L8 n8 (0 : Int32) A7) ∧ (∀ (n8 : Nat) (y8_4 : Int32) (A8 : xA), L8 n8 y8_4 A8 → (((2000 : Int32) ≤ y8_4 → A8.tg p = 1 ∧ (∀ A10 : xA, A10 = A8.setI p 20 n → (∀ A11 : xA, A11 = A10.setI p 19 (1 : Int32) → (∀ A12 : xA, A12 = A11.setI p 21 (0 : Int32) → (∀ A13 : xA, A13 = A12.setI p 16 (0 : Int32) → (∀ A14 : xA, A14 = A13.setI p 22 (0 : Int32) → (∀ A15 : xA, A15 = A14.setI p 23 (-1 : Int32) → (∀ A16 : xA, A16 = A15.setI p 24 (0 : Int32) → (Q (1 : Int32) A16))))))))) ∧ (¬ (2000 : Int32) ≤ y8_4 → A8.tg p = 1 ∧ (∃ b18 : Nat, (A8.P p 17) = some b18 ∧ (A8.tg b18 = 12 ∧ (∃ b20 : Nat, (A8.P p 3) = some b20 ∧ (A8.tg b20 = 6 ∧ (∃ b22 : Nat, (A8.P b20 15) = some b22 ∧ (A8.tg b22 = 200 ∧ (vp_in y8_4 (A8.ln b22) ∧ (∃ b25 : Nat, (A8.P b18 0) = some b25 ∧ (A8.tg b25 = 200 ∧ (G.N ≤ b25 ∧ (vp_in y8_4 (A8.ln b25) ∧ (∀ A29 : xA, A29 = A8.setI b25 (ix y8_4) (A8.I b22 (ix y8_4)) → ((∃ q8 : Nat, q8 < n8 ∧ L8 q8 (y8_4 + (1 : Int32)) A29)))))))))))))))))) ∧ (((((2048 : Int32) + (A.I p 25)) + (((((A.I p 11).toInt64 * n.toInt64) / (16 : Int64)).toInt32 + (A.I p 12)) + (16 : Int32))) ≤ (nI (A.ln b5)) → J7 A) ∧ (¬ (((2048 : Int32) + (A.I p 25)) + (((((A.I p 11).toInt64 * n.toInt64) / (16 : Int64)).toInt32 + (A.I p 12)) + (16 : Int32))) ≤ (nI (A.ln b5)) → rmA G A (f_J11_max (((2048 : Int32) + (A.I p 25)) + (((((A.I p 11).toInt64 * n.toInt64) / (16 : Int64)).toInt32 + (A.I p 12)) + (16 : Int32))) ((2 : Int32) * (nI (A.ln b5)))) ∧ (∀ A31 : xA, A31 = A.new 200 (ix (f_J11_max (((2048 : Int32) + (A.I p 25)) + (((((A.I p 11).toInt64 * n.toInt64) / (16 : Int64)).toInt32 + (A.I p 12)) + (16 : Int32))) ((2 : Int32) * (nI (A.ln b5))))) (ix (f_J11_max (((2048 : Int32) + (A.I p 25)) + (((((A.I p 11).toInt64 * n.toInt64) / (16 : Int64)).toInt32 + (A.I p 12)) + (16 : Int32))) ((2 : Int32) * (nI (A.ln b5))))) 0 → (∃ L32 : Nat → Int32 → xA → Prop, (∃ n32 : Nat, L32 n32 (0 : Int32) A31) ∧ (∀ (n32 : Nat) (y32_5 : Int32) (A32 : xA), L32 n32 y32_5 A32 → A32.tg p = 1 ∧ (((((2048 : Int32) + (A32.I p 25)) ≤ y32_5 → ∃ b34 : Nat, (A32.P p 17) = some b34 ∧ (A32.tg b34 = 12 ∧ (∀ A36 : xA, A36 = A32.setP b34 0 (some A.n) → (J7 A36)))) ∧ (¬ ((2048 : Int32) + (A32.I p 25)) ≤ y32_5 → ∃ b37 : Nat, (A32.P p 17) = some b37 ∧ (A32.tg b37 = 12 ∧ (∃ b39 : Nat, (A32.P b37 0) = some b39 ∧ (A32.tg b39 = 200 ∧ (vp_in y32_5 (A32.ln b39) ∧ (A32.tg A.n = 200 ∧ (G.N ≤ A.n ∧ (vp_in y32_5 (A32.ln A.n) ∧ (∀ A45 : xA, A45 = A32.setI A.n (ix y32_5) (A32.I b39 (ix y32_5)) → ((∃ q32 : Nat, q32 < n32 ∧ L32 q32 (y32_5 + (1 : Int32)) A45))))))))))))))))))))))) ∧ (¬ n ≤ (2000 : Int32) → Q (0 : Int32) A)))))))
theorem m_X0_begin (hG : xOK G) (hO : xHO G) {dp : Nat} {p : Nat} {n : Int32} {Q : Int32 → xA → Prop} {A : xA} (h : w_X0_begin G p n Q A) : MX G (dp + 1) kX0_begin [.ref p, .int n] A (hZ Q) := by
  unfold w_X0_begin at h
  refine MX.of rfl (Nat.le_of_ble_eq_true rfl) ?_
  change X _ _ _ _ _ _ [some (.ref p), some (.int n), none, none, none, none] _
  refine X.xok (fun w0 => ?_)
  replace h := h w0
  refine x_aload_n dX0_begin_0 rfl ?_
  obtain ⟨o1, h⟩ := h
  refine x_get (v := va_rf (A.P p 8)) hG dX0_begin_1 f_X0_109_0 o1 rfl ?_
  refine x_ifnull (tgt := 19) dX0_begin_4 (by decide) (fun c4 => ?_) (fun b2 c4 => ?_)
  · replace h := h.1 c4
    refine x_iconst_ (v := (0 : Int32)) dX0_begin_19 (by decide) ?_
    exact x_zret dX0_begin_20 rfl (by decide) ⟨_, rfl, (by decide), h⟩
  · replace h := h.2 b2 c4
    refine x_iload_n dX0_begin_7 rfl ?_
    refine x_iconst_ (v := (4 : Int32)) dX0_begin_8 (by decide) ?_
    refine x_icmp_lt (tgt := 19) dX0_begin_9 (by decide) (fun c9 => ?_) (fun c9 => ?_)
    · replace h := h.1 c9
      refine x_iconst_ (v := (0 : Int32)) dX0_begin_19 (by decide) ?_
      exact x_zret dX0_begin_20 rfl (by decide) ⟨_, rfl, (by decide), h⟩
    · replace h := h.2 c9
      refine x_iload_n dX0_begin_12 rfl ?_
      refine x_sipush_ (v := (2000 : Int32)) dX0_begin_13 (by decide) ?_
      refine x_icmp_le (tgt := 21) dX0_begin_16 (by decide) (fun c16 => ?_) (fun c16 => ?_)
      · replace h := h.1 c16
        refine x_aload_n dX0_begin_21 rfl ?_
        refine x_get (v := .int (A.I p 11)) hG dX0_begin_22 f_X0_171_0 o1 rfl ?_
        refine x_i2l dX0_begin_25 ?_
        refine x_iload_n dX0_begin_26 rfl ?_
        refine x_i2l dX0_begin_27 ?_
        refine x_lmul dX0_begin_28 ?_
        refine x_ldc2 hG dX0_begin_29 q2870 ?_
        refine x_ldiv dX0_begin_32 (by decide) ?_
        refine x_l2i dX0_begin_33 ?_
        refine x_aload_n dX0_begin_34 rfl ?_
        refine x_get (v := .int (A.I p 12)) hG dX0_begin_35 f_X0_174_0 o1 rfl ?_
        refine x_iadd dX0_begin_38 ?_
        refine x_bipush_ (v := (16 : Int32)) dX0_begin_39 (by decide) ?_
        refine x_iadd dX0_begin_41 ?_
        refine x_istore_n dX0_begin_42 (by decide) ?_
        refine x_sipush_ (v := (2048 : Int32)) dX0_begin_43 (by decide) ?_
        refine x_aload_n dX0_begin_46 rfl ?_
        refine x_get (v := .int (A.I p 25)) hG dX0_begin_47 f_X0_201_0 o1 rfl ?_
        refine x_iadd dX0_begin_50 ?_
        refine x_iload_n dX0_begin_51 rfl ?_
        refine x_iadd dX0_begin_52 ?_
        refine x_istore_n dX0_begin_53 (by decide) ?_
        refine x_aload_n dX0_begin_54 rfl ?_
        refine x_get (v := va_rf (A.P p 17)) hG dX0_begin_55 f_X0_92_0 o1 rfl ?_
        obtain ⟨b3, e3, h⟩ := h
        rw [e3]
        obtain ⟨o4, h⟩ := h
        refine x_get (v := va_rf (A.P b3 0)) hG dX0_begin_58 f_X0_99_11 o4 rfl ?_
        obtain ⟨b5, e5, h⟩ := h
        rw [e5]
        obtain ⟨o6, h⟩ := h
        refine x_alen hG (j := 0) dX0_begin_61 o6 ?_
        refine x_iload_n dX0_begin_62 rfl ?_
        obtain ⟨J7, g7, h⟩ := h
        have kj7 : ∀ (A7 : xA), J7 A7 → X G (dp + 1) kX0_begin (hZ Q) A7 130 [some (.ref p), some (.int n), none, none, none, none] [] := by
          intro A7 h
          replace h := g7 A7 h
          refine x_iconst_ (v := (0 : Int32)) dX0_begin_130 (by decide) ?_
          refine x_istore dX0_begin_131 (by decide) ?_
          obtain ⟨L8, ⟨n8, i8⟩, g8⟩ := h
          have kl8 : ∀ n8 : Nat, ∀ (y8_4 : Int32) (A8 : xA), L8 n8 y8_4 A8 → X G (dp + 1) kX0_begin (hZ Q) A8 133 [some (.ref p), some (.int n), none, none, some (.int y8_4), none] [] := by
            intro n8
            induction n8 using Nat.strongRecOn with
            | ind n8 ih8 =>
              intro y8_4 A8 h
              replace h := g8 n8 y8_4 A8 h
              refine x_iload dX0_begin_133 rfl ?_
              refine x_sipush_ (v := (2000 : Int32)) dX0_begin_135 (by decide) ?_
              refine x_icmp_ge (tgt := 167) dX0_begin_138 (by decide) (fun c138 => ?_) (fun c138 => ?_)
              · replace h := h.1 c138
                refine x_aload_n dX0_begin_167 rfl ?_
                refine x_iload_n dX0_begin_168 rfl ?_
                obtain ⟨o9, h⟩ := h
                refine z_putI hG hO.1 dX0_begin_169 f_X0_127_0 ⟨_, rfl, Or.inl rfl⟩ o9 (by decide) rfl rfl ⟨_, rfl⟩ (fun A10 e10 => ?_)
                replace h := h A10 e10
                refine x_aload_n dX0_begin_172 rfl ?_
                refine x_iconst_ (v := (1 : Int32)) dX0_begin_173 (by decide) ?_
                refine z_putI hG hO.1 dX0_begin_174 f_X0_121_0 ⟨_, rfl, Or.inl rfl⟩ (kI e10 o9) (by decide) rfl rfl ⟨_, rfl⟩ (fun A11 e11 => ?_)
                replace h := h A11 e11
                refine x_aload_n dX0_begin_177 rfl ?_
                refine x_iconst_ (v := (0 : Int32)) dX0_begin_178 (by decide) ?_
                refine z_putI hG hO.1 dX0_begin_179 f_X0_124_0 ⟨_, rfl, Or.inl rfl⟩ (kI e11 (kI e10 o9)) (by decide) rfl rfl ⟨_, rfl⟩ (fun A12 e12 => ?_)
                replace h := h A12 e12
                refine x_aload_n dX0_begin_182 rfl ?_
                refine x_iconst_ (v := (0 : Int32)) dX0_begin_183 (by decide) ?_
                refine z_putI hG hO.1 dX0_begin_184 f_X0_118_0 ⟨_, rfl, Or.inl rfl⟩ (kI e12 (kI e11 (kI e10 o9))) (by decide) rfl rfl ⟨_, rfl⟩ (fun A13 e13 => ?_)
                replace h := h A13 e13
                refine x_aload_n dX0_begin_187 rfl ?_
                refine x_iconst_ (v := (0 : Int32)) dX0_begin_188 (by decide) ?_
                refine z_putI hG hO.1 dX0_begin_189 f_X0_237_0 ⟨_, rfl, Or.inl rfl⟩ (kI e13 (kI e12 (kI e11 (kI e10 o9)))) (by decide) rfl rfl ⟨_, rfl⟩ (fun A14 e14 => ?_)
                replace h := h A14 e14
                refine x_aload_n dX0_begin_192 rfl ?_
                refine x_iconst_ (v := (-1 : Int32)) dX0_begin_193 (by decide) ?_
                refine z_putI hG hO.1 dX0_begin_194 f_X0_240_0 ⟨_, rfl, Or.inl rfl⟩ (kI e14 (kI e13 (kI e12 (kI e11 (kI e10 o9))))) (by decide) rfl rfl ⟨_, rfl⟩ (fun A15 e15 => ?_)
                replace h := h A15 e15
                refine x_aload_n dX0_begin_197 rfl ?_
                refine x_iconst_ (v := (0 : Int32)) dX0_begin_198 (by decide) ?_
                refine z_putI hG hO.1 dX0_begin_199 f_X0_130_0 ⟨_, rfl, Or.inl rfl⟩ (kI e15 (kI e14 (kI e13 (kI e12 (kI e11 (kI e10 o9)))))) (by decide) (narrow01 (by decide)) (fits01 (by decide)) ⟨_, rfl⟩ (fun A16 e16 => ?_)
                replace h := h A16 e16
                refine x_iconst_ (v := (1 : Int32)) dX0_begin_202 (by decide) ?_
                exact x_zret dX0_begin_203 rfl (by decide) ⟨_, rfl, (by decide), h⟩
              · replace h := h.2 c138
                refine x_aload_n dX0_begin_141 rfl ?_
                obtain ⟨o17, h⟩ := h
                refine x_get (v := va_rf (A8.P p 17)) hG dX0_begin_142 f_X0_92_0 o17 rfl ?_
                obtain ⟨b18, e18, h⟩ := h
                rw [e18]
                obtain ⟨o19, h⟩ := h
                refine x_get (v := va_rf (A8.P b18 0)) hG dX0_begin_145 f_X0_99_11 o19 rfl ?_
                refine x_iload dX0_begin_148 rfl ?_
                refine x_aload_n dX0_begin_150 rfl ?_
                refine x_get (v := va_rf (A8.P p 3)) hG dX0_begin_151 f_X0_41_0 o17 rfl ?_
                obtain ⟨b20, e20, h⟩ := h
                rw [e20]
                obtain ⟨o21, h⟩ := h
                refine x_get (v := va_rf (A8.P b20 15)) hG dX0_begin_154 f_X0_234_5 o21 rfl ?_
                refine x_iload dX0_begin_157 rfl ?_
                obtain ⟨b22, e22, h⟩ := h
                rw [e22]
                obtain ⟨o23, h⟩ := h
                obtain ⟨o24, h⟩ := h
                refine x_iald hG dX0_begin_159 o23 o24 ?_
                obtain ⟨b25, e25, h⟩ := h
                rw [e25]
                obtain ⟨o26, h⟩ := h
                obtain ⟨o27, h⟩ := h
                obtain ⟨o28, h⟩ := h
                refine z_iast hG dX0_begin_160 o26 o27 o28 (fun A29 e29 => ?_)
                replace h := h A29 e29
                refine x_iinc (v := (y8_4 + (1 : Int32))) dX0_begin_161 rfl rfl (by decide) ?_
                refine x_goto (tgt := 133) dX0_begin_164 (by decide) ?_
                obtain ⟨q8, l8, h⟩ := h
                change X _ _ _ _ _ _ [some (.ref p), some (.int n), none, none, some (.int (y8_4 + (1 : Int32))), none] []
                exact X.weak (xle_c rfl (xle_c rfl (xle_n (xle_n (xle_c rfl (xle_n xle_nil)))))) (ih8 q8 l8 (y8_4 + (1 : Int32)) A29 h)
          change X _ _ _ _ _ _ [some (.ref p), some (.int n), none, none, some (.int (0 : Int32)), none] []
          exact X.weak (xle_c rfl (xle_c rfl (xle_n (xle_n (xle_c rfl (xle_n xle_nil)))))) (kl8 n8 (0 : Int32) A7 i8)
        refine x_icmp_ge (tgt := 130) dX0_begin_63 (by decide) (fun c63 => ?_) (fun c63 => ?_)
        · replace h := h.1 c63
          change X _ _ _ _ _ _ [some (.ref p), some (.int n), some (.int (((((A.I p 11).toInt64 * n.toInt64) / (16 : Int64)).toInt32 + (A.I p 12)) + (16 : Int32))), some (.int (((2048 : Int32) + (A.I p 25)) + (((((A.I p 11).toInt64 * n.toInt64) / (16 : Int64)).toInt32 + (A.I p 12)) + (16 : Int32)))), none, none] []
          exact X.weak (xle_c rfl (xle_c rfl (xle_n (xle_n (xle_n (xle_n xle_nil)))))) (kj7 A h)
        · replace h := h.2 c63
          refine x_iload_n dX0_begin_66 rfl ?_
          refine x_iconst_ (v := (2 : Int32)) dX0_begin_67 (by decide) ?_
          refine x_aload_n dX0_begin_68 rfl ?_
          refine x_get (v := .ref b3) hG dX0_begin_69 f_X0_92_0 o1 (congrArg va_rf e3) ?_
          refine x_get (v := .ref b5) hG dX0_begin_72 f_X0_99_11 o4 (congrArg va_rf e5) ?_
          refine x_alen hG (j := 0) dX0_begin_75 o6 ?_
          refine x_imul dX0_begin_76 ?_
          refine x_callS hG (Ky := kJ11_max) (As := [.int (((2048 : Int32) + (A.I p 25)) + (((((A.I p 11).toInt64 * n.toInt64) / (16 : Int64)).toInt32 + (A.I p 12)) + (16 : Int32))), .int ((2 : Int32) * (nI (A.ln b5)))]) dX0_begin_77 lk_X0_3 me_J11_max st_J11_max rfl rfl (Nat.le_of_ble_eq_true rfl) (MX.post (m_J11_max hG) ?_)
          rintro _ _ ⟨rfl, rfl⟩
          change X _ _ _ _ _ _ _ (.int (f_J11_max (((2048 : Int32) + (A.I p 25)) + (((((A.I p 11).toInt64 * n.toInt64) / (16 : Int64)).toInt32 + (A.I p 12)) + (16 : Int32))) ((2 : Int32) * (nI (A.ln b5)))) :: _)
          obtain ⟨o30, h⟩ := h
          refine z_newa hG (j := 0) dX0_begin_80 (by decide) rfl o30 q378 (fun A31 e31 w31 => ?_)
          replace h := h A31 e31
          refine x_astore dX0_begin_82 (by decide) ?_
          refine x_iconst_ (v := (0 : Int32)) dX0_begin_84 (by decide) ?_
          refine x_istore dX0_begin_85 (by decide) ?_
          obtain ⟨L32, ⟨n32, i32⟩, g32⟩ := h
          have kl32 : ∀ n32 : Nat, ∀ (y32_5 : Int32) (A32 : xA), L32 n32 y32_5 A32 → X G (dp + 1) kX0_begin (hZ Q) A32 87 [some (.ref p), some (.int n), none, none, some (.ref A.n), some (.int y32_5)] [] := by
            intro n32
            induction n32 using Nat.strongRecOn with
            | ind n32 ih32 =>
              intro y32_5 A32 h
              replace h := g32 n32 y32_5 A32 h
              refine x_iload dX0_begin_87 rfl ?_
              refine x_sipush_ (v := (2048 : Int32)) dX0_begin_89 (by decide) ?_
              refine x_aload_n dX0_begin_92 rfl ?_
              obtain ⟨o33, h⟩ := h
              refine x_get (v := .int (A32.I p 25)) hG dX0_begin_93 f_X0_201_0 o33 rfl ?_
              refine x_iadd dX0_begin_96 ?_
              refine x_icmp_ge (tgt := 121) dX0_begin_97 (by decide) (fun c97 => ?_) (fun c97 => ?_)
              · replace h := h.1 c97
                refine x_aload_n dX0_begin_121 rfl ?_
                refine x_get (v := va_rf (A32.P p 17)) hG dX0_begin_122 f_X0_92_0 o33 rfl ?_
                refine x_aload dX0_begin_125 rfl ?_
                obtain ⟨b34, e34, h⟩ := h
                rw [e34]
                obtain ⟨o35, h⟩ := h
                refine z_putP hG hO.1 (some A.n) dX0_begin_127 f_X0_99_11 ⟨_, rfl, Or.inl rfl⟩ o35 (by decide) (Or.inr ⟨_, rfl⟩) (fun A36 e36 => ?_)
                replace h := h A36 e36
                change X _ _ _ _ _ _ [some (.ref p), some (.int n), none, none, some (.ref A.n), some (.int y32_5)] []
                exact X.weak (xle_c rfl (xle_c rfl (xle_n (xle_n (xle_n (xle_n xle_nil)))))) (kj7 A36 h)
              · replace h := h.2 c97
                refine x_aload dX0_begin_100 rfl ?_
                refine x_iload dX0_begin_102 rfl ?_
                refine x_aload_n dX0_begin_104 rfl ?_
                refine x_get (v := va_rf (A32.P p 17)) hG dX0_begin_105 f_X0_92_0 o33 rfl ?_
                obtain ⟨b37, e37, h⟩ := h
                rw [e37]
                obtain ⟨o38, h⟩ := h
                refine x_get (v := va_rf (A32.P b37 0)) hG dX0_begin_108 f_X0_99_11 o38 rfl ?_
                refine x_iload dX0_begin_111 rfl ?_
                obtain ⟨b39, e39, h⟩ := h
                rw [e39]
                obtain ⟨o40, h⟩ := h
                obtain ⟨o41, h⟩ := h
                refine x_iald hG dX0_begin_113 o40 o41 ?_
                obtain ⟨o42, h⟩ := h
                obtain ⟨o43, h⟩ := h
                obtain ⟨o44, h⟩ := h
                refine z_iast hG dX0_begin_114 o42 o43 o44 (fun A45 e45 => ?_)
                replace h := h A45 e45
                refine x_iinc (v := (y32_5 + (1 : Int32))) dX0_begin_115 rfl rfl (by decide) ?_
                refine x_goto (tgt := 87) dX0_begin_118 (by decide) ?_
                obtain ⟨q32, l32, h⟩ := h
                change X _ _ _ _ _ _ [some (.ref p), some (.int n), none, none, some (.ref A.n), some (.int (y32_5 + (1 : Int32)))] []
                exact X.weak (xle_c rfl (xle_c rfl (xle_n (xle_n (xle_c rfl (xle_c rfl xle_nil)))))) (ih32 q32 l32 (y32_5 + (1 : Int32)) A45 h)
          change X _ _ _ _ _ _ [some (.ref p), some (.int n), some (.int (((((A.I p 11).toInt64 * n.toInt64) / (16 : Int64)).toInt32 + (A.I p 12)) + (16 : Int32))), some (.int (((2048 : Int32) + (A.I p 25)) + (((((A.I p 11).toInt64 * n.toInt64) / (16 : Int64)).toInt32 + (A.I p 12)) + (16 : Int32)))), some (.ref A.n), some (.int (0 : Int32))] []
          exact X.weak (xle_c rfl (xle_c rfl (xle_n (xle_n (xle_c rfl (xle_c rfl xle_nil)))))) (kl32 n32 (0 : Int32) A31 i32)
      · replace h := h.2 c16
        refine x_iconst_ (v := (0 : Int32)) dX0_begin_19 (by decide) ?_
        exact x_zret dX0_begin_20 rfl (by decide) ⟨_, rfl, (by decide), h⟩
def w_X0_run (G : xG) (p : Nat) (n : Int32) (Q : Int32 → xA → Prop) (A : xA) : Prop := xok G A → ((n < 0 → Q (-1 : Int32) A) ∧ (¬ n < 0 → (((1000 : Int32) < n → Q (-1 : Int32) A) ∧ (¬ (1000 : Int32) < n → A.tg p = 1 ∧ ((((A.I p 19) = 0 → Q (-1 : Int32) A) ∧ (¬ (A.I p 19) = 0 → (((A.I p 19) ≤ (2 : Int32) → ∃ b2 : Nat, (A.P p 17) = some b2 ∧ (A.tg b2 = 12 ∧ ((((A.I p 24) = 0 → ∃ b48 : Nat, (A.P p 3) = some b48 ∧ (A.tg b48 = 6 ∧ (∃ R47 : Option Nat → xA → Prop, w_X6_main G b48 R47 A ∧ (∀ (v47 : Option Nat) (A47 : xA), xok G A47 → R47 v47 A47 → (∃ b50 : Nat, v47 = some b50 ∧ (A47.tg b50 = 14 ∧ (A47.tg p = 1 ∧ ((((A47.I b50 12) ≤ (A47.I p 20) → ∃ R53 : xA → Prop, w_X0_start G p (A47.I b50 12) R53 A47 ∧ (∀ A53 : xA, xok G A53 → R53 A53 → (∃ b54 : Nat, (A.P b2 1) = some b54 ∧ (A53.tg b54 = 200 ∧ (G.N ≤ b54 ∧ (vp_in (26 : Int32) (A53.ln b54) ∧ (∀ A58 : xA, A58 = A53.setI b54 26 n → (A58.tg p = 1 ∧ (∀ A60 : xA, A60 = A58.setI p 19 (1 : Int32) → (∃ L61 : Nat → Int32 → xA → Prop, (∃ n61 : Nat, L61 n61 (1 : Int32) A60) ∧ (∀ (n61 : Nat) (y61_3 : Int32) (A61 : xA), L61 n61 y61_3 A61 → ((y61_3 = 0 → A61.tg p = 1 ∧ (A61.tg b54 = 200 ∧ (vp_in (26 : Int32) (A61.ln b54) ∧ (∀ A65 : xA, A65 = A61.setI p 21 ((A61.I p 21) + (n - (f_J11_max (0 : Int32) (A61.I b54 26)))) → (Q (A61.I p 19) A65))))) ∧ (¬ y61_3 = 0 → A61.tg p = 1 ∧ (∃ b68 : Nat, (A61.P p 17) = some b68 ∧ (A61.tg b68 = 12 ∧ (∃ R67 : Int32 → xA → Prop, w_X12_go G b68 (1000 : Int32) R67 A61 ∧ (∀ (v67 : Int32) (A67 : xA), xok G A67 → R67 v67 A67 → (((v67 = (6 : Int32) → A67.tg b54 = 200 ∧ (vp_in (17 : Int32) (A67.ln b54) ∧ (A67.tg p = 1 ∧ (∃ R72 : Int32 → xA → Prop, w_X0_serve G p (A67.I b54 17) R72 A67 ∧ (∀ (v72 : Int32) (A72 : xA), xok G A72 → (v72 = 0 ∨ v72 = 1) → R72 v72 A72 → ((∃ q61 : Nat, q61 < n61 ∧ L61 q61 v72 A72))))))) ∧ (¬ v67 = (6 : Int32) → ((v67 = 0 → (∃ q61 : Nat, q61 < n61 ∧ L61 q61 y61_3 A67)) ∧ (¬ v67 = 0 → False)))))))))))))))))))))) ∧ (¬ (A47.I b50 12) ≤ (A47.I p 20) → ∀ A74 : xA, A74 = A47.setI p 19 (6 : Int32) → (∀ A75 : xA, A75 = A74.setI p 23 (A47.I b50 2) → (Q (6 : Int32) A75)))))))))))) ∧ (¬ (A.I p 24) = 0 → (((A.I p 19) = (2 : Int32) → (((A.I p 15) = 0 → Q (A.I p 19) A) ∧ (¬ (A.I p 15) = 0 → ∃ b23 : Nat, (A.P b2 1) = some b23 ∧ (A.tg b23 = 200 ∧ (G.N ≤ b23 ∧ (vp_in (26 : Int32) (A.ln b23) ∧ (∀ A27 : xA, A27 = A.setI b23 26 n → (∃ R28 : Int32 → xA → Prop, w_X0_next G p R28 A27 ∧ (∀ (v28 : Int32) (A28 : xA), xok G A28 → R28 v28 A28 → (A28.tg b23 = 200 ∧ (vp_in (10 : Int32) (A28.ln b23) ∧ (∀ A31 : xA, A31 = A28.setI b23 10 v28 → (A31.tg p = 1 ∧ (∀ A33 : xA, A33 = A31.setI p 19 (1 : Int32) → (∃ L34 : Nat → Int32 → xA → Prop, (∃ n34 : Nat, L34 n34 (1 : Int32) A33) ∧ (∀ (n34 : Nat) (y34_3 : Int32) (A34 : xA), L34 n34 y34_3 A34 → ((y34_3 = 0 → A34.tg p = 1 ∧ (A34.tg b23 = 200 ∧ (vp_in (26 : Int32) (A34.ln b23) ∧ (∀ A38 : xA, A38 = A34.setI p 21 ((A34.I p 21) + (n - (f_J11_max (0 : Int32) (A34.I b23 26)))) → (Q (A34.I p 19) A38))))) ∧ (¬ y34_3 = 0 → A34.tg p = 1 ∧ (∃ b41 : Nat, (A34.P p 17) = some b41 ∧ (A34.tg b41 = 12 ∧ (∃ R40 : Int32 → xA → Prop, w_X12_go G b41 (1000 : Int32) R40 A34 ∧ (∀ (v40 : Int32) (A40 : xA), xok G A40 → R40 v40 A40 → (((v40 = (6 : Int32) → A40.tg b23 = 200 ∧ (vp_in (17 : Int32) (A40.ln b23) ∧ (A40.tg p = 1 ∧ (∃ R45 : Int32 → xA → Prop, w_X0_serve G p (A40.I b23 17) R45 A40 ∧ (∀ (v45 : Int32) (A45 : xA), xok G A45 → (v45 = 0 ∨ v45 = 1) → R45 v45 A45 → ((∃ q34 : Nat, q34 < n34 ∧ L34 q34 v45 A45))))))) ∧ (¬ v40 = (6 : Int32) → ((v40 = 0 → (∃ q34 : Nat, q34 < n34 ∧ L34 q34 y34_3 A40)) ∧ (¬ v40 = 0 → False))))))))))))))))))))))))))) ∧ (¬ (A.I p 19) = (2 : Int32) → ((n = 0 → Q (A.I p 19) A) ∧ (¬ n = 0 → ∃ b4 : Nat, (A.P b2 1) = some b4 ∧ (A.tg b4 = 200 ∧ (G.N ≤ b4 ∧ (vp_in (26 : Int32) (A.ln b4) ∧ (∀ A8 : xA, A8 = A.setI b4 26 (n - (1 : Int32)) → (∀ A9 : xA, A9 = A8.setI p 19 (1 : Int32) → (∃ L10 : Nat → Int32 → xA → Prop, (∃ n10 : Nat, L10 n10 (1 : Int32) A9) ∧ (∀ (n10 : Nat) (y10_3 : Int32) (A10 : xA), L10 n10 y10_3 A10 → ((y10_3 = 0 → A10.tg p = 1 ∧ (A10.tg b4 = 200 ∧ (vp_in (26 : Int32) (A10.ln b4) ∧ (∀ A14 : xA, A14 = A10.setI p 21 ((A10.I p 21) + (n - (f_J11_max (0 : Int32) (A10.I b4 26)))) → (Q (A10.I p 19) A14))))) ∧ (¬ y10_3 = 0 → A10.tg p = 1 ∧ (∃ b17 : Nat, (A10.P p 17) = some b17 ∧ (A10.tg b17 = 12 ∧ (∃ R16 : Int32 → xA → Prop, w_X12_go G b17 (1000 : Int32) R16 A10 ∧ (∀ (v16 : Int32) (A16 : xA), xok G A16 → R16 v16 A16 → (((v16 = (6 : Int32) → A16.tg b4 = 200 ∧ (vp_in (17 : Int32) (A16.ln b4) ∧ (A16.tg p = 1 ∧ (∃ R21 : Int32 → xA → Prop, w_X0_serve G p (A16.I b4 17) R21 A16 ∧ (∀ (v21 : Int32) (A21 : xA), xok G A21 → (v21 = 0 ∨ v21 = 1) → R21 v21 A21 → ((∃ q10 : Nat, q10 < n10 ∧ L10 q10 v21 A21))))))) ∧ (¬ v16 = (6 : Int32) → ((v16 = 0 → (∃ q10 : Nat, q10 < n10 ∧ L10 q10 y10_3 A16)) ∧ (¬ v16 = 0 → False))))))))))))))))))))))))))) ∧ (¬ (A.I p 19) ≤ (2 : Int32) → Q (A.I p 19) A)))))))))
theorem m_X0_run (hG : xOK G) (hO : xHO G) {dp : Nat} {p : Nat} {n : Int32} {Q : Int32 → xA → Prop} {A : xA} (h : w_X0_run G p n Q A) : MX G (dp + 5) kX0_run [.ref p, .int n] A (hI Q) := by
  unfold w_X0_run at h
  refine MX.of rfl (Nat.le_of_ble_eq_true rfl) ?_
  change X _ _ _ _ _ _ [some (.ref p), some (.int n), none, none, none] _
  refine X.xok (fun w0 => ?_)
  replace h := h w0
  refine x_iload_n dX0_run_0 rfl ?_
  refine x_if_lt (tgt := 18) dX0_run_1 (by decide) (fun c1 => ?_) (fun c1 => ?_)
  · replace h := h.1 c1
    refine x_iconst_ (v := (-1 : Int32)) dX0_run_18 (by decide) ?_
    exact x_iret dX0_run_19 rfl ⟨_, rfl, h⟩
  · replace h := h.2 c1
    refine x_iload_n dX0_run_4 rfl ?_
    refine x_sipush_ (v := (1000 : Int32)) dX0_run_5 (by decide) ?_
    refine x_icmp_gt (tgt := 18) dX0_run_8 (by decide) (fun c8 => ?_) (fun c8 => ?_)
    · replace h := h.1 c8
      refine x_iconst_ (v := (-1 : Int32)) dX0_run_18 (by decide) ?_
      exact x_iret dX0_run_19 rfl ⟨_, rfl, h⟩
    · replace h := h.2 c8
      refine x_aload_n dX0_run_11 rfl ?_
      obtain ⟨o1, h⟩ := h
      refine x_get (v := .int (A.I p 19)) hG dX0_run_12 f_X0_121_0 o1 rfl ?_
      refine x_if_ne (tgt := 20) dX0_run_15 (by decide) (fun c15 => ?_) (fun c15 => ?_)
      · replace h := h.2 c15
        refine x_aload_n dX0_run_20 rfl ?_
        refine x_get (v := .int (A.I p 19)) hG dX0_run_21 f_X0_121_0 o1 rfl ?_
        refine x_iconst_ (v := (2 : Int32)) dX0_run_24 (by decide) ?_
        refine x_icmp_le (tgt := 33) dX0_run_25 (by decide) (fun c25 => ?_) (fun c25 => ?_)
        · replace h := h.1 c25
          refine x_aload_n dX0_run_33 rfl ?_
          refine x_get (v := va_rf (A.P p 17)) hG dX0_run_34 f_X0_92_0 o1 rfl ?_
          obtain ⟨b2, e2, h⟩ := h
          rw [e2]
          obtain ⟨o3, h⟩ := h
          refine x_get (v := va_rf (A.P b2 1)) hG dX0_run_37 f_X0_241_11 o3 rfl ?_
          refine x_astoreq_n dX0_run_40 (by decide) ?_
          refine x_aload_n dX0_run_41 rfl ?_
          refine x_get (v := .int (A.I p 24)) hG dX0_run_42 f_X0_130_0 o1 rfl ?_
          refine x_if_ne (tgt := 102) dX0_run_45 (by decide) (fun c45 => ?_) (fun c45 => ?_)
          · replace h := h.2 c45
            refine x_aload_n dX0_run_102 rfl ?_
            refine x_get (v := .int (A.I p 19)) hG dX0_run_103 f_X0_121_0 o1 rfl ?_
            refine x_iconst_ (v := (2 : Int32)) dX0_run_106 (by decide) ?_
            refine x_icmp_ne (tgt := 138) dX0_run_107 (by decide) (fun c107 => ?_) (fun c107 => ?_)
            · replace h := h.2 c107
              refine x_iload_n dX0_run_138 rfl ?_
              refine x_if_ne (tgt := 147) dX0_run_139 (by decide) (fun c139 => ?_) (fun c139 => ?_)
              · replace h := h.2 c139
                refine x_aloadq_n dX0_run_147 rfl ?_
                refine x_bipush_ (v := (26 : Int32)) dX0_run_148 (by decide) ?_
                refine x_iload_n dX0_run_150 rfl ?_
                refine x_iconst_ (v := (1 : Int32)) dX0_run_151 (by decide) ?_
                refine x_isub dX0_run_152 ?_
                obtain ⟨b4, e4, h⟩ := h
                rw [e4]
                obtain ⟨o5, h⟩ := h
                obtain ⟨o6, h⟩ := h
                obtain ⟨o7, h⟩ := h
                refine z_iast hG dX0_run_153 o5 o6 o7 (fun A8 e8 => ?_)
                replace h := h A8 e8
                refine x_aload_n dX0_run_154 rfl ?_
                refine x_iconst_ (v := (1 : Int32)) dX0_run_155 (by decide) ?_
                refine z_putI hG hO.1 dX0_run_156 f_X0_121_0 ⟨_, rfl, Or.inl rfl⟩ (kI e8 o1) (by decide) rfl rfl ⟨_, rfl⟩ (fun A9 e9 => ?_)
                replace h := h A9 e9
                refine x_iconst_ (v := (1 : Int32)) dX0_run_159 (by decide) ?_
                refine x_istore_n dX0_run_160 (by decide) ?_
                obtain ⟨L10, ⟨n10, i10⟩, g10⟩ := h
                have kl10 : ∀ n10 : Nat, ∀ (y10_3 : Int32) (A10 : xA), L10 n10 y10_3 A10 → X G (dp + 5) kX0_run (hI Q) A10 161 [some (.ref p), some (.int n), some (.ref b4), some (.int y10_3), none] [] := by
                  intro n10
                  induction n10 using Nat.strongRecOn with
                  | ind n10 ih10 =>
                    intro y10_3 A10 h
                    replace h := g10 n10 y10_3 A10 h
                    refine x_iload_n dX0_run_161 rfl ?_
                    refine x_if_eq (tgt := 212) dX0_run_162 (by decide) (fun c162 => ?_) (fun c162 => ?_)
                    · replace h := h.1 c162
                      refine x_aload_n dX0_run_212 rfl ?_
                      refine x_dup dX0_run_213 rfl ?_
                      obtain ⟨o11, h⟩ := h
                      refine x_get (v := .int (A10.I p 21)) hG dX0_run_214 f_X0_124_0 o11 rfl ?_
                      refine x_iload_n dX0_run_217 rfl ?_
                      refine x_iconst_ (v := (0 : Int32)) dX0_run_218 (by decide) ?_
                      refine x_aload_n dX0_run_219 rfl ?_
                      refine x_bipush_ (v := (26 : Int32)) dX0_run_220 (by decide) ?_
                      obtain ⟨o12, h⟩ := h
                      obtain ⟨o13, h⟩ := h
                      refine x_iald hG dX0_run_222 o12 o13 ?_
                      refine x_eqi (v := (A10.I b4 26)) rfl ?_
                      refine x_callS hG (Ky := kJ11_max) (As := [.int (0 : Int32), .int (A10.I b4 26)]) dX0_run_223 lk_X0_3 me_J11_max st_J11_max rfl rfl (Nat.le_of_ble_eq_true rfl) (MX.post (m_J11_max hG) ?_)
                      rintro _ _ ⟨rfl, rfl⟩
                      change X _ _ _ _ _ _ _ (.int (f_J11_max (0 : Int32) (A10.I b4 26)) :: _)
                      refine x_isub dX0_run_226 ?_
                      refine x_iadd dX0_run_227 ?_
                      refine z_putI hG hO.1 dX0_run_228 f_X0_124_0 ⟨_, rfl, Or.inl rfl⟩ o11 (by decide) rfl rfl ⟨_, rfl⟩ (fun A14 e14 => ?_)
                      replace h := h A14 e14
                      refine x_aload_n dX0_run_231 rfl ?_
                      refine x_get (v := .int (A10.I p 19)) hG dX0_run_232 f_X0_121_0 (kI e14 o11) (congrArg Value.int (sI_k e14 (by decide))) ?_
                      exact x_iret dX0_run_235 rfl ⟨_, rfl, h⟩
                    · replace h := h.2 c162
                      refine x_aload_n dX0_run_165 rfl ?_
                      obtain ⟨o15, h⟩ := h
                      refine x_get (v := va_rf (A10.P p 17)) hG dX0_run_166 f_X0_92_0 o15 rfl ?_
                      refine x_sipush_ (v := (1000 : Int32)) dX0_run_169 (by decide) ?_
                      obtain ⟨b17, e17, h⟩ := h
                      rw [e17]
                      obtain ⟨o18, h⟩ := h
                      obtain ⟨R16, g16, h⟩ := h
                      refine x_callV hG (Ky := kX12_go) (As := [.int (1000 : Int32)]) dX0_run_172 o18 rfl lk_X0_250 me_X12_go is_X12_go se_X12_go rfl rfl (Nat.le_of_ble_eq_true rfl) (MX.post (m_X12_go hG hO g16) ?_)
                      rintro _ A16 ⟨v16, rfl, h1⟩
                      refine X.xok (fun w16 => ?_)
                      replace h := h v16 A16 w16 h1
                      change X _ _ _ _ A16 _ _ [.int v16]
                      refine x_istore dX0_run_175 (by decide) ?_
                      refine x_iload dX0_run_177 rfl ?_
                      refine x_bipush_ (v := (6 : Int32)) dX0_run_179 (by decide) ?_
                      refine x_icmp_ne (tgt := 196) dX0_run_181 (by decide) (fun c181 => ?_) (fun c181 => ?_)
                      · replace h := h.2 c181
                        refine x_iload dX0_run_196 rfl ?_
                        refine x_if_eq (tgt := 209) dX0_run_198 (by decide) (fun c198 => ?_) (fun c198 => ?_)
                        · replace h := h.1 c198
                          refine x_goto (tgt := 161) dX0_run_209 (by decide) ?_
                          obtain ⟨q10, l10, h⟩ := h
                          change X _ _ _ _ _ _ [some (.ref p), some (.int n), some (.ref b4), some (.int y10_3), some (.int v16)] []
                          exact X.weak (xle_c rfl (xle_c rfl (xle_c rfl (xle_c rfl (xle_n xle_nil))))) (ih10 q10 l10 y10_3 A16 h)
                        · replace h := h.2 c198
                          exact h.elim
                      · replace h := h.1 c181
                        refine x_aload_n dX0_run_184 rfl ?_
                        refine x_aload_n dX0_run_185 rfl ?_
                        refine x_bipush_ (v := (17 : Int32)) dX0_run_186 (by decide) ?_
                        obtain ⟨o19, h⟩ := h
                        obtain ⟨o20, h⟩ := h
                        refine x_iald hG dX0_run_188 o19 o20 ?_
                        refine x_eqi (v := (A16.I b4 17)) rfl ?_
                        obtain ⟨o22, h⟩ := h
                        obtain ⟨R21, g21, h⟩ := h
                        refine x_callV hG (Ky := kX0_serve) (As := [.int (A16.I b4 17)]) dX0_run_189 o22 rfl lk_X0_254 me_X0_serve is_X0_serve se_X0_serve rfl rfl (Nat.le_of_ble_eq_true rfl) (MX.post (m_X0_serve hG hO g21) ?_)
                        rintro _ A21 ⟨v21, rfl, zv21, h1⟩
                        refine X.xok (fun w21 => ?_)
                        replace h := h v21 A21 w21 zv21 h1
                        change X _ _ _ _ A21 _ _ [.int v21]
                        refine x_istore_n dX0_run_192 (by decide) ?_
                        refine x_goto (tgt := 209) dX0_run_193 (by decide) ?_
                        refine x_goto (tgt := 161) dX0_run_209 (by decide) ?_
                        obtain ⟨q10, l10, h⟩ := h
                        change X _ _ _ _ _ _ [some (.ref p), some (.int n), some (.ref b4), some (.int v21), some (.int v16)] []
                        exact X.weak (xle_c rfl (xle_c rfl (xle_c rfl (xle_c rfl (xle_n xle_nil))))) (ih10 q10 l10 v21 A21 h)
                change X _ _ _ _ _ _ [some (.ref p), some (.int n), some (.ref b4), some (.int (1 : Int32)), none] []
                exact X.weak (xle_c rfl (xle_c rfl (xle_c rfl (xle_c rfl (xle_n xle_nil))))) (kl10 n10 (1 : Int32) A9 i10)
              · replace h := h.1 c139
                refine x_aload_n dX0_run_142 rfl ?_
                refine x_get (v := .int (A.I p 19)) hG dX0_run_143 f_X0_121_0 o1 rfl ?_
                exact x_iret dX0_run_146 rfl ⟨_, rfl, h⟩
            · replace h := h.1 c107
              refine x_aload_n dX0_run_110 rfl ?_
              refine x_get (v := .int (A.I p 15)) hG dX0_run_111 f_X0_115_0 o1 rfl ?_
              refine x_if_ne (tgt := 122) dX0_run_114 (by decide) (fun c114 => ?_) (fun c114 => ?_)
              · replace h := h.2 c114
                refine x_aloadq_n dX0_run_122 rfl ?_
                refine x_bipush_ (v := (26 : Int32)) dX0_run_123 (by decide) ?_
                refine x_iload_n dX0_run_125 rfl ?_
                obtain ⟨b23, e23, h⟩ := h
                rw [e23]
                obtain ⟨o24, h⟩ := h
                obtain ⟨o25, h⟩ := h
                obtain ⟨o26, h⟩ := h
                refine z_iast hG dX0_run_126 o24 o25 o26 (fun A27 e27 => ?_)
                replace h := h A27 e27
                refine x_aload_n dX0_run_127 rfl ?_
                refine x_bipush_ (v := (10 : Int32)) dX0_run_128 (by decide) ?_
                refine x_aload_n dX0_run_130 rfl ?_
                obtain ⟨R28, g28, h⟩ := h
                refine x_callV hG (Ky := kX0_next) (As := []) dX0_run_131 (kI e27 o1) rfl lk_X0_247 me_X0_next is_X0_next se_X0_next rfl rfl (Nat.le_of_ble_eq_true rfl) (MX.post (m_X0_next hG hO g28) ?_)
                rintro _ A28 ⟨v28, rfl, h1⟩
                refine X.xok (fun w28 => ?_)
                replace h := h v28 A28 w28 h1
                change X _ _ _ _ A28 _ _ [.int v28, .int (10 : Int32), .ref b23]
                obtain ⟨o29, h⟩ := h
                obtain ⟨o30, h⟩ := h
                refine z_iast hG dX0_run_134 o29 o25 o30 (fun A31 e31 => ?_)
                replace h := h A31 e31
                refine x_goto (tgt := 154) dX0_run_135 (by decide) ?_
                refine x_aload_n dX0_run_154 rfl ?_
                refine x_iconst_ (v := (1 : Int32)) dX0_run_155 (by decide) ?_
                obtain ⟨o32, h⟩ := h
                refine z_putI hG hO.1 dX0_run_156 f_X0_121_0 ⟨_, rfl, Or.inl rfl⟩ o32 (by decide) rfl rfl ⟨_, rfl⟩ (fun A33 e33 => ?_)
                replace h := h A33 e33
                refine x_iconst_ (v := (1 : Int32)) dX0_run_159 (by decide) ?_
                refine x_istore_n dX0_run_160 (by decide) ?_
                obtain ⟨L34, ⟨n34, i34⟩, g34⟩ := h
                have kl34 : ∀ n34 : Nat, ∀ (y34_3 : Int32) (A34 : xA), L34 n34 y34_3 A34 → X G (dp + 5) kX0_run (hI Q) A34 161 [some (.ref p), some (.int n), some (.ref b23), some (.int y34_3), none] [] := by
                  intro n34
                  induction n34 using Nat.strongRecOn with
                  | ind n34 ih34 =>
                    intro y34_3 A34 h
                    replace h := g34 n34 y34_3 A34 h
                    refine x_iload_n dX0_run_161 rfl ?_
                    refine x_if_eq (tgt := 212) dX0_run_162 (by decide) (fun c162 => ?_) (fun c162 => ?_)
                    · replace h := h.1 c162
                      refine x_aload_n dX0_run_212 rfl ?_
                      refine x_dup dX0_run_213 rfl ?_
                      obtain ⟨o35, h⟩ := h
                      refine x_get (v := .int (A34.I p 21)) hG dX0_run_214 f_X0_124_0 o35 rfl ?_
                      refine x_iload_n dX0_run_217 rfl ?_
                      refine x_iconst_ (v := (0 : Int32)) dX0_run_218 (by decide) ?_
                      refine x_aload_n dX0_run_219 rfl ?_
                      refine x_bipush_ (v := (26 : Int32)) dX0_run_220 (by decide) ?_
                      obtain ⟨o36, h⟩ := h
                      obtain ⟨o37, h⟩ := h
                      refine x_iald hG dX0_run_222 o36 o37 ?_
                      refine x_eqi (v := (A34.I b23 26)) rfl ?_
                      refine x_callS hG (Ky := kJ11_max) (As := [.int (0 : Int32), .int (A34.I b23 26)]) dX0_run_223 lk_X0_3 me_J11_max st_J11_max rfl rfl (Nat.le_of_ble_eq_true rfl) (MX.post (m_J11_max hG) ?_)
                      rintro _ _ ⟨rfl, rfl⟩
                      change X _ _ _ _ _ _ _ (.int (f_J11_max (0 : Int32) (A34.I b23 26)) :: _)
                      refine x_isub dX0_run_226 ?_
                      refine x_iadd dX0_run_227 ?_
                      refine z_putI hG hO.1 dX0_run_228 f_X0_124_0 ⟨_, rfl, Or.inl rfl⟩ o35 (by decide) rfl rfl ⟨_, rfl⟩ (fun A38 e38 => ?_)
                      replace h := h A38 e38
                      refine x_aload_n dX0_run_231 rfl ?_
                      refine x_get (v := .int (A34.I p 19)) hG dX0_run_232 f_X0_121_0 (kI e38 o35) (congrArg Value.int (sI_k e38 (by decide))) ?_
                      exact x_iret dX0_run_235 rfl ⟨_, rfl, h⟩
                    · replace h := h.2 c162
                      refine x_aload_n dX0_run_165 rfl ?_
                      obtain ⟨o39, h⟩ := h
                      refine x_get (v := va_rf (A34.P p 17)) hG dX0_run_166 f_X0_92_0 o39 rfl ?_
                      refine x_sipush_ (v := (1000 : Int32)) dX0_run_169 (by decide) ?_
                      obtain ⟨b41, e41, h⟩ := h
                      rw [e41]
                      obtain ⟨o42, h⟩ := h
                      obtain ⟨R40, g40, h⟩ := h
                      refine x_callV hG (Ky := kX12_go) (As := [.int (1000 : Int32)]) dX0_run_172 o42 rfl lk_X0_250 me_X12_go is_X12_go se_X12_go rfl rfl (Nat.le_of_ble_eq_true rfl) (MX.post (m_X12_go hG hO g40) ?_)
                      rintro _ A40 ⟨v40, rfl, h1⟩
                      refine X.xok (fun w40 => ?_)
                      replace h := h v40 A40 w40 h1
                      change X _ _ _ _ A40 _ _ [.int v40]
                      refine x_istore dX0_run_175 (by decide) ?_
                      refine x_iload dX0_run_177 rfl ?_
                      refine x_bipush_ (v := (6 : Int32)) dX0_run_179 (by decide) ?_
                      refine x_icmp_ne (tgt := 196) dX0_run_181 (by decide) (fun c181 => ?_) (fun c181 => ?_)
                      · replace h := h.2 c181
                        refine x_iload dX0_run_196 rfl ?_
                        refine x_if_eq (tgt := 209) dX0_run_198 (by decide) (fun c198 => ?_) (fun c198 => ?_)
                        · replace h := h.1 c198
                          refine x_goto (tgt := 161) dX0_run_209 (by decide) ?_
                          obtain ⟨q34, l34, h⟩ := h
                          change X _ _ _ _ _ _ [some (.ref p), some (.int n), some (.ref b23), some (.int y34_3), some (.int v40)] []
                          exact X.weak (xle_c rfl (xle_c rfl (xle_c rfl (xle_c rfl (xle_n xle_nil))))) (ih34 q34 l34 y34_3 A40 h)
                        · replace h := h.2 c198
                          exact h.elim
                      · replace h := h.1 c181
                        refine x_aload_n dX0_run_184 rfl ?_
                        refine x_aload_n dX0_run_185 rfl ?_
                        refine x_bipush_ (v := (17 : Int32)) dX0_run_186 (by decide) ?_
                        obtain ⟨o43, h⟩ := h
                        obtain ⟨o44, h⟩ := h
                        refine x_iald hG dX0_run_188 o43 o44 ?_
                        refine x_eqi (v := (A40.I b23 17)) rfl ?_
                        obtain ⟨o46, h⟩ := h
                        obtain ⟨R45, g45, h⟩ := h
                        refine x_callV hG (Ky := kX0_serve) (As := [.int (A40.I b23 17)]) dX0_run_189 o46 rfl lk_X0_254 me_X0_serve is_X0_serve se_X0_serve rfl rfl (Nat.le_of_ble_eq_true rfl) (MX.post (m_X0_serve hG hO g45) ?_)
                        rintro _ A45 ⟨v45, rfl, zv45, h1⟩
                        refine X.xok (fun w45 => ?_)
                        replace h := h v45 A45 w45 zv45 h1
                        change X _ _ _ _ A45 _ _ [.int v45]
                        refine x_istore_n dX0_run_192 (by decide) ?_
                        refine x_goto (tgt := 209) dX0_run_193 (by decide) ?_
                        refine x_goto (tgt := 161) dX0_run_209 (by decide) ?_
                        obtain ⟨q34, l34, h⟩ := h
                        change X _ _ _ _ _ _ [some (.ref p), some (.int n), some (.ref b23), some (.int v45), some (.int v40)] []
                        exact X.weak (xle_c rfl (xle_c rfl (xle_c rfl (xle_c rfl (xle_n xle_nil))))) (ih34 q34 l34 v45 A45 h)
                change X _ _ _ _ _ _ [some (.ref p), some (.int n), some (.ref b23), some (.int (1 : Int32)), none] []
                exact X.weak (xle_c rfl (xle_c rfl (xle_c rfl (xle_c rfl (xle_n xle_nil))))) (kl34 n34 (1 : Int32) A33 i34)
              · replace h := h.1 c114
                refine x_aload_n dX0_run_117 rfl ?_
                refine x_get (v := .int (A.I p 19)) hG dX0_run_118 f_X0_121_0 o1 rfl ?_
                exact x_iret dX0_run_121 rfl ⟨_, rfl, h⟩
          · replace h := h.1 c45
            refine x_aload_n dX0_run_48 rfl ?_
            refine x_get (v := va_rf (A.P p 3)) hG dX0_run_49 f_X0_41_0 o1 rfl ?_
            obtain ⟨b48, e48, h⟩ := h
            rw [e48]
            obtain ⟨o49, h⟩ := h
            obtain ⟨R47, g47, h⟩ := h
            refine x_callV hG (Ky := kX6_main) (As := []) dX0_run_52 o49 rfl lk_X0_212 me_X6_main is_X6_main se_X6_main rfl rfl (Nat.le_of_ble_eq_true rfl) (MX.post (m_X6_main hG hO g47) ?_)
            rintro _ A47 ⟨v47, rfl, h1⟩
            refine X.xok (fun w47 => ?_)
            replace h := h v47 A47 w47 h1
            change X _ _ _ _ A47 _ _ [va_rf v47]
            refine x_astoreq_n dX0_run_55 (by decide) ?_
            refine X.lvs (lv' := [some (.ref p), some (.int n), some (va_rf (A.P b2 1)), some (va_rf v47), none]) (by generalize (A.P b2 1) = z; cases z <;> rfl) ?_
            refine x_aloadq_n dX0_run_56 rfl ?_
            obtain ⟨b50, e50, h⟩ := h
            rw [e50]
            obtain ⟨o51, h⟩ := h
            refine x_get (v := .int (A47.I b50 12)) hG dX0_run_57 f_X0_188_13 o51 rfl ?_
            refine x_aload_n dX0_run_60 rfl ?_
            obtain ⟨o52, h⟩ := h
            refine x_get (v := .int (A47.I p 20)) hG dX0_run_61 f_X0_127_0 o52 rfl ?_
            refine x_icmp_le (tgt := 86) dX0_run_64 (by decide) (fun c64 => ?_) (fun c64 => ?_)
            · replace h := h.1 c64
              refine x_aload_n dX0_run_86 rfl ?_
              refine x_aload_n dX0_run_87 rfl ?_
              refine x_get (v := .int (A47.I b50 12)) hG dX0_run_88 f_X0_188_13 o51 rfl ?_
              obtain ⟨R53, g53, h⟩ := h
              refine x_callV hG (Ky := kX0_start) (As := [.int (A47.I b50 12)]) dX0_run_91 o52 rfl lk_X0_244 me_X0_start is_X0_start se_X0_start rfl rfl (Nat.le_of_ble_eq_true rfl) (MX.post (m_X0_start hG hO g53) ?_)
              rintro _ A53 ⟨rfl, h1⟩
              refine X.xok (fun w53 => ?_)
              replace h := h A53 w53 h1
              change X _ _ _ _ A53 _ _ []
              refine x_aloadq_n dX0_run_94 rfl ?_
              refine x_bipush_ (v := (26 : Int32)) dX0_run_95 (by decide) ?_
              refine x_iload_n dX0_run_97 rfl ?_
              obtain ⟨b54, e54, h⟩ := h
              rw [e54]
              obtain ⟨o55, h⟩ := h
              obtain ⟨o56, h⟩ := h
              obtain ⟨o57, h⟩ := h
              refine z_iast hG dX0_run_98 o55 o56 o57 (fun A58 e58 => ?_)
              replace h := h A58 e58
              refine x_goto (tgt := 154) dX0_run_99 (by decide) ?_
              refine x_aload_n dX0_run_154 rfl ?_
              refine x_iconst_ (v := (1 : Int32)) dX0_run_155 (by decide) ?_
              obtain ⟨o59, h⟩ := h
              refine z_putI hG hO.1 dX0_run_156 f_X0_121_0 ⟨_, rfl, Or.inl rfl⟩ o59 (by decide) rfl rfl ⟨_, rfl⟩ (fun A60 e60 => ?_)
              replace h := h A60 e60
              refine x_iconst_ (v := (1 : Int32)) dX0_run_159 (by decide) ?_
              refine x_istore_n dX0_run_160 (by decide) ?_
              obtain ⟨L61, ⟨n61, i61⟩, g61⟩ := h
              have kl61 : ∀ n61 : Nat, ∀ (y61_3 : Int32) (A61 : xA), L61 n61 y61_3 A61 → X G (dp + 5) kX0_run (hI Q) A61 161 [some (.ref p), some (.int n), some (.ref b54), some (.int y61_3), none] [] := by
                intro n61
                induction n61 using Nat.strongRecOn with
                | ind n61 ih61 =>
                  intro y61_3 A61 h
                  replace h := g61 n61 y61_3 A61 h
                  refine x_iload_n dX0_run_161 rfl ?_
                  refine x_if_eq (tgt := 212) dX0_run_162 (by decide) (fun c162 => ?_) (fun c162 => ?_)
                  · replace h := h.1 c162
                    refine x_aload_n dX0_run_212 rfl ?_
                    refine x_dup dX0_run_213 rfl ?_
                    obtain ⟨o62, h⟩ := h
                    refine x_get (v := .int (A61.I p 21)) hG dX0_run_214 f_X0_124_0 o62 rfl ?_
                    refine x_iload_n dX0_run_217 rfl ?_
                    refine x_iconst_ (v := (0 : Int32)) dX0_run_218 (by decide) ?_
                    refine x_aload_n dX0_run_219 rfl ?_
                    refine x_bipush_ (v := (26 : Int32)) dX0_run_220 (by decide) ?_
                    obtain ⟨o63, h⟩ := h
                    obtain ⟨o64, h⟩ := h
                    refine x_iald hG dX0_run_222 o63 o64 ?_
                    refine x_eqi (v := (A61.I b54 26)) rfl ?_
                    refine x_callS hG (Ky := kJ11_max) (As := [.int (0 : Int32), .int (A61.I b54 26)]) dX0_run_223 lk_X0_3 me_J11_max st_J11_max rfl rfl (Nat.le_of_ble_eq_true rfl) (MX.post (m_J11_max hG) ?_)
                    rintro _ _ ⟨rfl, rfl⟩
                    change X _ _ _ _ _ _ _ (.int (f_J11_max (0 : Int32) (A61.I b54 26)) :: _)
                    refine x_isub dX0_run_226 ?_
                    refine x_iadd dX0_run_227 ?_
                    refine z_putI hG hO.1 dX0_run_228 f_X0_124_0 ⟨_, rfl, Or.inl rfl⟩ o62 (by decide) rfl rfl ⟨_, rfl⟩ (fun A65 e65 => ?_)
                    replace h := h A65 e65
                    refine x_aload_n dX0_run_231 rfl ?_
                    refine x_get (v := .int (A61.I p 19)) hG dX0_run_232 f_X0_121_0 (kI e65 o62) (congrArg Value.int (sI_k e65 (by decide))) ?_
                    exact x_iret dX0_run_235 rfl ⟨_, rfl, h⟩
                  · replace h := h.2 c162
                    refine x_aload_n dX0_run_165 rfl ?_
                    obtain ⟨o66, h⟩ := h
                    refine x_get (v := va_rf (A61.P p 17)) hG dX0_run_166 f_X0_92_0 o66 rfl ?_
                    refine x_sipush_ (v := (1000 : Int32)) dX0_run_169 (by decide) ?_
                    obtain ⟨b68, e68, h⟩ := h
                    rw [e68]
                    obtain ⟨o69, h⟩ := h
                    obtain ⟨R67, g67, h⟩ := h
                    refine x_callV hG (Ky := kX12_go) (As := [.int (1000 : Int32)]) dX0_run_172 o69 rfl lk_X0_250 me_X12_go is_X12_go se_X12_go rfl rfl (Nat.le_of_ble_eq_true rfl) (MX.post (m_X12_go hG hO g67) ?_)
                    rintro _ A67 ⟨v67, rfl, h1⟩
                    refine X.xok (fun w67 => ?_)
                    replace h := h v67 A67 w67 h1
                    change X _ _ _ _ A67 _ _ [.int v67]
                    refine x_istore dX0_run_175 (by decide) ?_
                    refine x_iload dX0_run_177 rfl ?_
                    refine x_bipush_ (v := (6 : Int32)) dX0_run_179 (by decide) ?_
                    refine x_icmp_ne (tgt := 196) dX0_run_181 (by decide) (fun c181 => ?_) (fun c181 => ?_)
                    · replace h := h.2 c181
                      refine x_iload dX0_run_196 rfl ?_
                      refine x_if_eq (tgt := 209) dX0_run_198 (by decide) (fun c198 => ?_) (fun c198 => ?_)
                      · replace h := h.1 c198
                        refine x_goto (tgt := 161) dX0_run_209 (by decide) ?_
                        obtain ⟨q61, l61, h⟩ := h
                        change X _ _ _ _ _ _ [some (.ref p), some (.int n), some (.ref b54), some (.int y61_3), some (.int v67)] []
                        exact X.weak (xle_c rfl (xle_c rfl (xle_c rfl (xle_c rfl (xle_n xle_nil))))) (ih61 q61 l61 y61_3 A67 h)
                      · replace h := h.2 c198
                        exact h.elim
                    · replace h := h.1 c181
                      refine x_aload_n dX0_run_184 rfl ?_
                      refine x_aload_n dX0_run_185 rfl ?_
                      refine x_bipush_ (v := (17 : Int32)) dX0_run_186 (by decide) ?_
                      obtain ⟨o70, h⟩ := h
                      obtain ⟨o71, h⟩ := h
                      refine x_iald hG dX0_run_188 o70 o71 ?_
                      refine x_eqi (v := (A67.I b54 17)) rfl ?_
                      obtain ⟨o73, h⟩ := h
                      obtain ⟨R72, g72, h⟩ := h
                      refine x_callV hG (Ky := kX0_serve) (As := [.int (A67.I b54 17)]) dX0_run_189 o73 rfl lk_X0_254 me_X0_serve is_X0_serve se_X0_serve rfl rfl (Nat.le_of_ble_eq_true rfl) (MX.post (m_X0_serve hG hO g72) ?_)
                      rintro _ A72 ⟨v72, rfl, zv72, h1⟩
                      refine X.xok (fun w72 => ?_)
                      replace h := h v72 A72 w72 zv72 h1
                      change X _ _ _ _ A72 _ _ [.int v72]
                      refine x_istore_n dX0_run_192 (by decide) ?_
                      refine x_goto (tgt := 209) dX0_run_193 (by decide) ?_
                      refine x_goto (tgt := 161) dX0_run_209 (by decide) ?_
                      obtain ⟨q61, l61, h⟩ := h
                      change X _ _ _ _ _ _ [some (.ref p), some (.int n), some (.ref b54), some (.int v72), some (.int v67)] []
                      exact X.weak (xle_c rfl (xle_c rfl (xle_c rfl (xle_c rfl (xle_n xle_nil))))) (ih61 q61 l61 v72 A72 h)
              change X _ _ _ _ _ _ [some (.ref p), some (.int n), some (.ref b54), some (.int (1 : Int32)), none] []
              exact X.weak (xle_c rfl (xle_c rfl (xle_c rfl (xle_c rfl (xle_n xle_nil))))) (kl61 n61 (1 : Int32) A60 i61)
            · replace h := h.2 c64
              refine x_aload_n dX0_run_67 rfl ?_
              refine x_bipush_ (v := (6 : Int32)) dX0_run_68 (by decide) ?_
              refine z_putI hG hO.1 dX0_run_70 f_X0_121_0 ⟨_, rfl, Or.inl rfl⟩ o52 (by decide) rfl rfl ⟨_, rfl⟩ (fun A74 e74 => ?_)
              replace h := h A74 e74
              refine x_aload_n dX0_run_73 rfl ?_
              refine x_aload_n dX0_run_74 rfl ?_
              refine x_get (v := .int (A47.I b50 2)) hG dX0_run_75 f_X0_225_13 (kI e74 o51) (congrArg Value.int (sI_a e74 (tne o51 o52 (by decide)))) ?_
              refine z_putI hG hO.1 dX0_run_78 f_X0_240_0 ⟨_, rfl, Or.inl rfl⟩ (kI e74 o52) (by decide) rfl rfl ⟨_, rfl⟩ (fun A75 e75 => ?_)
              replace h := h A75 e75
              refine x_aload_n dX0_run_81 rfl ?_
              refine x_get (v := .int (6 : Int32)) hG dX0_run_82 f_X0_121_0 (kI e75 (kI e74 o52)) (congrArg Value.int ((sI_k e75 (by decide)).trans (sI_s e74))) ?_
              exact x_iret dX0_run_85 rfl ⟨_, rfl, h⟩
        · replace h := h.2 c25
          refine x_aload_n dX0_run_28 rfl ?_
          refine x_get (v := .int (A.I p 19)) hG dX0_run_29 f_X0_121_0 o1 rfl ?_
          exact x_iret dX0_run_32 rfl ⟨_, rfl, h⟩
      · replace h := h.1 c15
        refine x_iconst_ (v := (-1 : Int32)) dX0_run_18 (by decide) ?_
        exact x_iret dX0_run_19 rfl ⟨_, rfl, h⟩
def w_X0_global (G : xG) (p : Nat) (i : Int32) (Q : Int32 → xA → Prop) (A : xA) : Prop := xok G A → A.tg p = 1 ∧ ((((A.P p 8) = none → Q (0 : Int32) A) ∧ (∀ b2 : Nat, (A.P p 8) = some b2 → ((i < 0 → Q (0 : Int32) A) ∧ (¬ i < 0 → ∃ b3 : Nat, (A.P p 3) = some b3 ∧ (A.tg b3 = 6 ∧ (((i < (A.I b3 5) → (((A.I p 19) = 0 → ∃ b10 : Nat, (A.P b3 15) = some b10 ∧ (A.tg b10 = 200 ∧ (vp_in i (A.ln b10) ∧ (Q (A.I b10 (ix i)) A)))) ∧ (¬ (A.I p 19) = 0 → ∃ b5 : Nat, (A.P p 17) = some b5 ∧ (A.tg b5 = 12 ∧ (∃ b7 : Nat, (A.P b5 0) = some b7 ∧ (A.tg b7 = 200 ∧ (vp_in i (A.ln b7) ∧ (Q (A.I b7 (ix i)) A)))))))) ∧ (¬ i < (A.I b3 5) → Q (0 : Int32) A)))))))))
theorem m_X0_global (hG : xOK G) (hO : xHO G) {dp : Nat} {p : Nat} {i : Int32} {Q : Int32 → xA → Prop} {A : xA} (h : w_X0_global G p i Q A) : MX G (dp + 0) kX0_global [.ref p, .int i] A (hI Q) := by
  unfold w_X0_global at h
  refine MX.of rfl (Nat.le_of_ble_eq_true rfl) ?_
  change X _ _ _ _ _ _ [some (.ref p), some (.int i)] _
  refine X.xok (fun w0 => ?_)
  replace h := h w0
  refine x_aload_n dX0_global_0 rfl ?_
  obtain ⟨o1, h⟩ := h
  refine x_get (v := va_rf (A.P p 8)) hG dX0_global_1 f_X0_109_0 o1 rfl ?_
  refine x_ifnull (tgt := 22) dX0_global_4 (by decide) (fun c4 => ?_) (fun b2 c4 => ?_)
  · replace h := h.1 c4
    refine x_iconst_ (v := (0 : Int32)) dX0_global_22 (by decide) ?_
    exact x_iret dX0_global_23 rfl ⟨_, rfl, h⟩
  · replace h := h.2 b2 c4
    refine x_iload_n dX0_global_7 rfl ?_
    refine x_if_lt (tgt := 22) dX0_global_8 (by decide) (fun c8 => ?_) (fun c8 => ?_)
    · replace h := h.1 c8
      refine x_iconst_ (v := (0 : Int32)) dX0_global_22 (by decide) ?_
      exact x_iret dX0_global_23 rfl ⟨_, rfl, h⟩
    · replace h := h.2 c8
      refine x_iload_n dX0_global_11 rfl ?_
      refine x_aload_n dX0_global_12 rfl ?_
      refine x_get (v := va_rf (A.P p 3)) hG dX0_global_13 f_X0_41_0 o1 rfl ?_
      obtain ⟨b3, e3, h⟩ := h
      rw [e3]
      obtain ⟨o4, h⟩ := h
      refine x_get (v := .int (A.I b3 5)) hG dX0_global_16 f_X0_222_5 o4 rfl ?_
      refine x_icmp_lt (tgt := 24) dX0_global_19 (by decide) (fun c19 => ?_) (fun c19 => ?_)
      · replace h := h.1 c19
        refine x_aload_n dX0_global_24 rfl ?_
        refine x_get (v := .int (A.I p 19)) hG dX0_global_25 f_X0_121_0 o1 rfl ?_
        refine x_if_ne (tgt := 43) dX0_global_28 (by decide) (fun c28 => ?_) (fun c28 => ?_)
        · replace h := h.2 c28
          refine x_aload_n dX0_global_43 rfl ?_
          refine x_get (v := va_rf (A.P p 17)) hG dX0_global_44 f_X0_92_0 o1 rfl ?_
          obtain ⟨b5, e5, h⟩ := h
          rw [e5]
          obtain ⟨o6, h⟩ := h
          refine x_get (v := va_rf (A.P b5 0)) hG dX0_global_47 f_X0_99_11 o6 rfl ?_
          refine x_iload_n dX0_global_50 rfl ?_
          obtain ⟨b7, e7, h⟩ := h
          rw [e7]
          obtain ⟨o8, h⟩ := h
          obtain ⟨o9, h⟩ := h
          refine x_iald hG dX0_global_51 o8 o9 ?_
          exact x_iret dX0_global_52 rfl ⟨_, rfl, h⟩
        · replace h := h.1 c28
          refine x_aload_n dX0_global_31 rfl ?_
          refine x_get (v := .ref b3) hG dX0_global_32 f_X0_41_0 o1 (congrArg va_rf e3) ?_
          refine x_get (v := va_rf (A.P b3 15)) hG dX0_global_35 f_X0_234_5 o4 rfl ?_
          refine x_iload_n dX0_global_38 rfl ?_
          obtain ⟨b10, e10, h⟩ := h
          rw [e10]
          obtain ⟨o11, h⟩ := h
          obtain ⟨o12, h⟩ := h
          refine x_iald hG dX0_global_39 o11 o12 ?_
          refine x_goto (tgt := 52) dX0_global_40 (by decide) ?_
          exact x_iret dX0_global_52 rfl ⟨_, rfl, h⟩
      · replace h := h.2 c19
        refine x_iconst_ (v := (0 : Int32)) dX0_global_22 (by decide) ?_
        exact x_iret dX0_global_23 rfl ⟨_, rfl, h⟩
end W111
