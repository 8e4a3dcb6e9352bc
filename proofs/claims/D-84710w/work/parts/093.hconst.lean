/-! ===== 093.hconst (tools/h045.py) ===== -/
set_option maxRecDepth 100000
section W093
variable {G : xG}
def xRC_C (G : xG) (D : Nat) (r0 : Nat → Option Nat → (Int32 → xA → Prop) → (Nat → xA → Prop) → xA → Prop) : Prop := ((∀ {p : Nat} {a0 : Option Nat} {Q : Int32 → xA → Prop} {E : Nat → xA → Prop} {A : xA}, A.tg p = 15 → r0 p a0 Q E A → MX G D kX16_constant [.ref p, va_rf a0] A (hX (hI Q) E)) ∧ (∀ {p : Nat} {a0 : Option Nat} {Q : Int32 → xA → Prop} {E : Nat → xA → Prop} {A : xA}, A.tg p = 16 → r0 p a0 Q E A → MX G D kX17_constant [.ref p, va_rf a0] A (hX (hI Q) E)) ∧ (∀ {p : Nat} {a0 : Option Nat} {Q : Int32 → xA → Prop} {E : Nat → xA → Prop} {A : xA}, A.tg p = 17 → r0 p a0 Q E A → MX G D kX18_constant [.ref p, va_rf a0] A (hX (hI Q) E)) ∧ (∀ {p : Nat} {a0 : Option Nat} {Q : Int32 → xA → Prop} {E : Nat → xA → Prop} {A : xA}, A.tg p = 18 → r0 p a0 Q E A → MX G D kX19_constant [.ref p, va_rf a0] A (hX (hI Q) E)) ∧ (∀ {p : Nat} {a0 : Option Nat} {Q : Int32 → xA → Prop} {E : Nat → xA → Prop} {A : xA}, A.tg p = 19 → r0 p a0 Q E A → MX G D kX20_constant [.ref p, va_rf a0] A (hX (hI Q) E)) ∧ (∀ {p : Nat} {a0 : Option Nat} {Q : Int32 → xA → Prop} {E : Nat → xA → Prop} {A : xA}, A.tg p = 20 → r0 p a0 Q E A → MX G D kX21_constant [.ref p, va_rf a0] A (hX (hI Q) E)) ∧ (∀ {p : Nat} {a0 : Option Nat} {Q : Int32 → xA → Prop} {E : Nat → xA → Prop} {A : xA}, A.tg p = 21 → r0 p a0 Q E A → MX G D kX22_constant [.ref p, va_rf a0] A (hX (hI Q) E)) ∧ (∀ {p : Nat} {a0 : Option Nat} {Q : Int32 → xA → Prop} {E : Nat → xA → Prop} {A : xA}, A.tg p = 22 → r0 p a0 Q E A → MX G D kX23_constant [.ref p, va_rf a0] A (hX (hI Q) E)))
def w_X16_constant (G : xG) (r0 : Nat → Option Nat → (Int32 → xA → Prop) → (Nat → xA → Prop) → xA → Prop) (p : Nat) (m : Option Nat) (Q : Int32 → xA → Prop) (E : Nat → xA → Prop) (A : xA) : Prop := xok G A → A.tg p = 15 ∧ (Q (A.I p 1) A)
theorem m_X16_constant (hG : xOK G) (hO : xHO G) {dp : Nat} {r0 : Nat → Option Nat → (Int32 → xA → Prop) → (Nat → xA → Prop) → xA → Prop} (hK : xRC_C G (dp + 20) r0) {p : Nat} {m : Option Nat} {Q : Int32 → xA → Prop} {E : Nat → xA → Prop} {A : xA} (h : w_X16_constant G r0 p m Q E A) : MX G (dp + 21) kX16_constant [.ref p, va_rf m] A (hX (hI Q) E) := by
  unfold w_X16_constant at h
  refine MX.of rfl (by cases m <;> exact Nat.le_of_ble_eq_true rfl) ?_
  refine X.lvs (lv' := [some (.ref p), some (va_rf m)]) (by cases m <;> rfl) ?_
  refine X.xok (fun w0 => ?_)
  replace h := h w0
  refine x_aload_n dX16_constant_0 rfl ?_
  obtain ⟨o1, h⟩ := h
  refine x_get (v := .int (A.I p 1)) hG dX16_constant_1 f_X16_7_14 o1 rfl ?_
  exact x_iret dX16_constant_4 rfl (Or.inl ⟨_, rfl, h⟩)
def w_X17_constant (G : xG) (r0 : Nat → Option Nat → (Int32 → xA → Prop) → (Nat → xA → Prop) → xA → Prop) (p : Nat) (m : Option Nat) (Q : Int32 → xA → Prop) (E : Nat → xA → Prop) (A : xA) : Prop := xok G A → A.tg p = 16 ∧ (∃ b3 : Nat, m = some b3 ∧ (A.tg b3 = 6 ∧ (∃ R2 : Option Nat → xA → Prop, w_X6_known G b3 (A.I p 1) (A.I p 2) R2 E A ∧ (∀ (v2 : Option Nat) (A2 : xA), xok G A2 → R2 v2 A2 → (A2.tg p = 16 ∧ (A2.tg b3 = 6 ∧ (∃ R6 : Option Nat → xA → Prop, w_X6_fault G b3 (10 : Int32) (A2.I p 2) R6 A2 ∧ (∀ (v6 : Option Nat) (A6 : xA), xok G A6 → R6 v6 A6 → (∃ b8 : Nat, v6 = some b8 ∧ (E b8 A6))))))))))
theorem m_X17_constant (hG : xOK G) (hO : xHO G) {dp : Nat} {r0 : Nat → Option Nat → (Int32 → xA → Prop) → (Nat → xA → Prop) → xA → Prop} (hK : xRC_C G (dp + 20) r0) {p : Nat} {m : Option Nat} {Q : Int32 → xA → Prop} {E : Nat → xA → Prop} {A : xA} (h : w_X17_constant G r0 p m Q E A) : MX G (dp + 21) kX17_constant [.ref p, va_rf m] A (hX (hI Q) E) := by
  unfold w_X17_constant at h
  refine MX.of rfl (by cases m <;> exact Nat.le_of_ble_eq_true rfl) ?_
  refine X.lvs (lv' := [some (.ref p), some (va_rf m)]) (by cases m <;> rfl) ?_
  refine X.xok (fun w0 => ?_)
  replace h := h w0
  refine x_aloadq_n dX17_constant_0 rfl ?_
  refine x_aload_n dX17_constant_1 rfl ?_
  obtain ⟨o1, h⟩ := h
  refine x_get (v := .int (A.I p 1)) hG dX17_constant_2 f_X17_15_15 o1 rfl ?_
  refine x_aload_n dX17_constant_5 rfl ?_
  refine x_get (v := .int (A.I p 2)) hG dX17_constant_6 f_X17_9_15 o1 rfl ?_
  obtain ⟨b3, e3, h⟩ := h
  rw [e3]
  obtain ⟨o4, h⟩ := h
  obtain ⟨R2, g2, h⟩ := h
  refine x_callV hG (Ky := kX6_known) (As := [.int (A.I p 1), .int (A.I p 2)]) dX17_constant_9 o4 rfl lk_X17_25 me_X6_known is_X6_known se_X6_known rfl rfl (Nat.le_of_ble_eq_true rfl) (MX.post (m_X6_known hG hO g2) ?_)
  rintro _ A2 (⟨v2, rfl, h1⟩ | ⟨x2, rfl, h1⟩)
  rotate_left
  · exact ⟨rfl, Or.inr ⟨_, rfl, h1⟩⟩
  refine X.xok (fun w2 => ?_)
  replace h := h v2 A2 w2 h1
  change X _ _ _ _ A2 _ _ [va_rf v2]
  refine x_pop dX17_constant_12 (va_rf_cat _) ?_
  refine x_aload_n dX17_constant_13 rfl ?_
  refine x_bipush_ (v := (10 : Int32)) dX17_constant_14 (by decide) ?_
  refine x_aload_n dX17_constant_16 rfl ?_
  obtain ⟨o5, h⟩ := h
  refine x_get (v := .int (A2.I p 2)) hG dX17_constant_17 f_X17_9_15 o5 rfl ?_
  obtain ⟨o7, h⟩ := h
  obtain ⟨R6, g6, h⟩ := h
  refine x_callV hG (Ky := kX6_fault) (As := [.int (10 : Int32), .int (A2.I p 2)]) dX17_constant_20 o7 rfl lk_X17_31 me_X6_fault is_X6_fault se_X6_fault rfl rfl (Nat.le_of_ble_eq_true rfl) (MX.post (m_X6_fault hG hO g6) ?_)
  rintro _ A6 ⟨v6, rfl, h1⟩
  refine X.xok (fun w6 => ?_)
  replace h := h v6 A6 w6 h1
  change X _ _ _ _ A6 _ _ [va_rf v6]
  obtain ⟨b8, e8, h⟩ := h
  rw [e8]
  exact x_athrow dX17_constant_23 rfl (Or.inr ⟨_, rfl, h⟩)
def w_X18_constant (G : xG) (r0 : Nat → Option Nat → (Int32 → xA → Prop) → (Nat → xA → Prop) → xA → Prop) (p : Nat) (m : Option Nat) (Q : Int32 → xA → Prop) (E : Nat → xA → Prop) (A : xA) : Prop := xok G A → A.tg p = 17 ∧ (∃ b3 : Nat, m = some b3 ∧ (A.tg b3 = 6 ∧ (∃ R2 : Option Nat → xA → Prop, w_X6_known G b3 (A.I p 1) (A.I p 2) R2 E A ∧ (∀ (v2 : Option Nat) (A2 : xA), xok G A2 → R2 v2 A2 → (∃ b5 : Nat, v2 = some b5 ∧ (A2.tg b5 = 33 ∧ ((((A2.I b5 1) = 0 → A2.tg p = 17 ∧ ((((A2.P p 4) = none → Q (A2.I b5 2) A2) ∧ (∀ b12 : Nat, (A2.P p 4) = some b12 → A2.tg b3 = 6 ∧ (∃ R13 : Option Nat → xA → Prop, w_X6_fault G b3 (10 : Int32) (A2.I p 2) R13 A2 ∧ (∀ (v13 : Option Nat) (A13 : xA), xok G A13 → R13 v13 A13 → (∃ b15 : Nat, v13 = some b15 ∧ (E b15 A13)))))))) ∧ (¬ (A2.I b5 1) = 0 → A2.tg p = 17 ∧ (A2.tg b3 = 6 ∧ (∃ R8 : Option Nat → xA → Prop, w_X6_fault G b3 (10 : Int32) (A2.I p 2) R8 A2 ∧ (∀ (v8 : Option Nat) (A8 : xA), xok G A8 → R8 v8 A8 → (∃ b10 : Nat, v8 = some b10 ∧ (E b10 A8))))))))))))))
theorem m_X18_constant (hG : xOK G) (hO : xHO G) {dp : Nat} {r0 : Nat → Option Nat → (Int32 → xA → Prop) → (Nat → xA → Prop) → xA → Prop} (hK : xRC_C G (dp + 20) r0) {p : Nat} {m : Option Nat} {Q : Int32 → xA → Prop} {E : Nat → xA → Prop} {A : xA} (h : w_X18_constant G r0 p m Q E A) : MX G (dp + 21) kX18_constant [.ref p, va_rf m] A (hX (hI Q) E) := by
  unfold w_X18_constant at h
  refine MX.of rfl (by cases m <;> exact Nat.le_of_ble_eq_true rfl) ?_
  refine X.lvs (lv' := [some (.ref p), some (va_rf m), none]) (by cases m <;> rfl) ?_
  refine X.xok (fun w0 => ?_)
  replace h := h w0
  refine x_aloadq_n dX18_constant_0 rfl ?_
  refine x_aload_n dX18_constant_1 rfl ?_
  obtain ⟨o1, h⟩ := h
  refine x_get (v := .int (A.I p 1)) hG dX18_constant_2 f_X18_15_16 o1 rfl ?_
  refine x_aload_n dX18_constant_5 rfl ?_
  refine x_get (v := .int (A.I p 2)) hG dX18_constant_6 f_X18_9_16 o1 rfl ?_
  obtain ⟨b3, e3, h⟩ := h
  rw [e3]
  obtain ⟨o4, h⟩ := h
  obtain ⟨R2, g2, h⟩ := h
  refine x_callV hG (Ky := kX6_known) (As := [.int (A.I p 1), .int (A.I p 2)]) dX18_constant_9 o4 rfl lk_X18_25 me_X6_known is_X6_known se_X6_known rfl rfl (Nat.le_of_ble_eq_true rfl) (MX.post (m_X6_known hG hO g2) ?_)
  rintro _ A2 (⟨v2, rfl, h1⟩ | ⟨x2, rfl, h1⟩)
  rotate_left
  · exact ⟨rfl, Or.inr ⟨_, rfl, h1⟩⟩
  refine X.xok (fun w2 => ?_)
  replace h := h v2 A2 w2 h1
  change X _ _ _ _ A2 _ _ [va_rf v2]
  refine x_astoreq_n dX18_constant_12 (by decide) ?_
  refine x_aloadq_n dX18_constant_13 rfl ?_
  obtain ⟨b5, e5, h⟩ := h
  rw [e5]
  obtain ⟨o6, h⟩ := h
  refine x_get (v := .int (A2.I b5 1)) hG dX18_constant_14 f_X18_31_32 o6 rfl ?_
  refine x_if_ne (tgt := 27) dX18_constant_17 (by decide) (fun c17 => ?_) (fun c17 => ?_)
  · replace h := h.2 c17
    refine x_aload_n dX18_constant_27 rfl ?_
    refine x_bipush_ (v := (10 : Int32)) dX18_constant_28 (by decide) ?_
    refine x_aload_n dX18_constant_30 rfl ?_
    obtain ⟨o7, h⟩ := h
    refine x_get (v := .int (A2.I p 2)) hG dX18_constant_31 f_X18_9_16 o7 rfl ?_
    obtain ⟨o9, h⟩ := h
    obtain ⟨R8, g8, h⟩ := h
    refine x_callV hG (Ky := kX6_fault) (As := [.int (10 : Int32), .int (A2.I p 2)]) dX18_constant_34 o9 rfl lk_X18_36 me_X6_fault is_X6_fault se_X6_fault rfl rfl (Nat.le_of_ble_eq_true rfl) (MX.post (m_X6_fault hG hO g8) ?_)
    rintro _ A8 ⟨v8, rfl, h1⟩
    refine X.xok (fun w8 => ?_)
    replace h := h v8 A8 w8 h1
    change X _ _ _ _ A8 _ _ [va_rf v8]
    obtain ⟨b10, e10, h⟩ := h
    rw [e10]
    exact x_athrow dX18_constant_37 rfl (Or.inr ⟨_, rfl, h⟩)
  · replace h := h.1 c17
    refine x_aload_n dX18_constant_20 rfl ?_
    obtain ⟨o11, h⟩ := h
    refine x_get (v := va_rf (A2.P p 4)) hG dX18_constant_21 f_X18_18_16 o11 rfl ?_
    refine x_ifnull (tgt := 38) dX18_constant_24 (by decide) (fun c24 => ?_) (fun b12 c24 => ?_)
    · replace h := h.1 c24
      refine x_aload_n dX18_constant_38 rfl ?_
      refine x_get (v := .int (A2.I b5 2)) hG dX18_constant_39 f_X18_40_32 o6 rfl ?_
      exact x_iret dX18_constant_42 rfl (Or.inl ⟨_, rfl, h⟩)
    · replace h := h.2 b12 c24
      refine x_aload_n dX18_constant_27 rfl ?_
      refine x_bipush_ (v := (10 : Int32)) dX18_constant_28 (by decide) ?_
      refine x_aload_n dX18_constant_30 rfl ?_
      refine x_get (v := .int (A2.I p 2)) hG dX18_constant_31 f_X18_9_16 o11 rfl ?_
      obtain ⟨o14, h⟩ := h
      obtain ⟨R13, g13, h⟩ := h
      refine x_callV hG (Ky := kX6_fault) (As := [.int (10 : Int32), .int (A2.I p 2)]) dX18_constant_34 o14 rfl lk_X18_36 me_X6_fault is_X6_fault se_X6_fault rfl rfl (Nat.le_of_ble_eq_true rfl) (MX.post (m_X6_fault hG hO g13) ?_)
      rintro _ A13 ⟨v13, rfl, h1⟩
      refine X.xok (fun w13 => ?_)
      replace h := h v13 A13 w13 h1
      change X _ _ _ _ A13 _ _ [va_rf v13]
      obtain ⟨b15, e15, h⟩ := h
      rw [e15]
      exact x_athrow dX18_constant_37 rfl (Or.inr ⟨_, rfl, h⟩)
def w_X19_constant (G : xG) (r0 : Nat → Option Nat → (Int32 → xA → Prop) → (Nat → xA → Prop) → xA → Prop) (p : Nat) (m : Option Nat) (Q : Int32 → xA → Prop) (E : Nat → xA → Prop) (A : xA) : Prop := xok G A → A.tg p = 18 ∧ (∃ b3 : Nat, m = some b3 ∧ (A.tg b3 = 6 ∧ (∃ R2 : Option Nat → xA → Prop, w_X6_fault G b3 (10 : Int32) (A.I p 1) R2 A ∧ (∀ (v2 : Option Nat) (A2 : xA), xok G A2 → R2 v2 A2 → (∃ b5 : Nat, v2 = some b5 ∧ (E b5 A2))))))
theorem m_X19_constant (hG : xOK G) (hO : xHO G) {dp : Nat} {r0 : Nat → Option Nat → (Int32 → xA → Prop) → (Nat → xA → Prop) → xA → Prop} (hK : xRC_C G (dp + 20) r0) {p : Nat} {m : Option Nat} {Q : Int32 → xA → Prop} {E : Nat → xA → Prop} {A : xA} (h : w_X19_constant G r0 p m Q E A) : MX G (dp + 21) kX19_constant [.ref p, va_rf m] A (hX (hI Q) E) := by
  unfold w_X19_constant at h
  refine MX.of rfl (by cases m <;> exact Nat.le_of_ble_eq_true rfl) ?_
  refine X.lvs (lv' := [some (.ref p), some (va_rf m)]) (by cases m <;> rfl) ?_
  refine X.xok (fun w0 => ?_)
  replace h := h w0
  refine x_aloadq_n dX19_constant_0 rfl ?_
  refine x_bipush_ (v := (10 : Int32)) dX19_constant_1 (by decide) ?_
  refine x_aload_n dX19_constant_3 rfl ?_
  obtain ⟨o1, h⟩ := h
  refine x_get (v := .int (A.I p 1)) hG dX19_constant_4 f_X19_7_17 o1 rfl ?_
  obtain ⟨b3, e3, h⟩ := h
  rw [e3]
  obtain ⟨o4, h⟩ := h
  obtain ⟨R2, g2, h⟩ := h
  refine x_callV hG (Ky := kX6_fault) (As := [.int (10 : Int32), .int (A.I p 1)]) dX19_constant_7 o4 rfl lk_X19_13 me_X6_fault is_X6_fault se_X6_fault rfl rfl (Nat.le_of_ble_eq_true rfl) (MX.post (m_X6_fault hG hO g2) ?_)
  rintro _ A2 ⟨v2, rfl, h1⟩
  refine X.xok (fun w2 => ?_)
  replace h := h v2 A2 w2 h1
  change X _ _ _ _ A2 _ _ [va_rf v2]
  obtain ⟨b5, e5, h⟩ := h
  rw [e5]
  exact x_athrow dX19_constant_10 rfl (Or.inr ⟨_, rfl, h⟩)
def w_X20_constant (G : xG) (r0 : Nat → Option Nat → (Int32 → xA → Prop) → (Nat → xA → Prop) → xA → Prop) (p : Nat) (m : Option Nat) (Q : Int32 → xA → Prop) (E : Nat → xA → Prop) (A : xA) : Prop := xok G A → A.tg p = 19 ∧ (∃ b2 : Nat, (A.P p 2) = some b2 ∧ (xE A b2 ∧ (∃ R4 : Int32 → xA → Prop, r0 b2 m R4 E A ∧ (∀ (v4 : Int32) (A4 : xA), xok G A4 → R4 v4 A4 → (A4.tg p = 19 ∧ (∃ b6 : Nat, (A4.P p 1) = some b6 ∧ (A4.tg b6 = 200 ∧ (∃ L8 : Nat → Int32 → Int32 → Prop, (∃ n8 : Nat, L8 n8 v4 ((nI (A4.ln b6)) - (1 : Int32))) ∧ (∀ (n8 : Nat) (y8_2 : Int32) (y8_3 : Int32), L8 n8 y8_2 y8_3 → ((y8_3 < 0 → Q y8_2 A4) ∧ (¬ y8_3 < 0 → vp_in y8_3 (A4.ln b6) ∧ ((∃ q8 : Nat, q8 < n8 ∧ L8 q8 (if (A4.I b6 (ix y8_3)) = (79 : Int32) then (-y8_2) else (if (A4.I b6 (ix y8_3)) = (83 : Int32) then (y8_2 ^^^ (-1 : Int32)) else (if y8_2 = 0 then (1 : Int32) else (0 : Int32)))) (y8_3 + (-1 : Int32)))))))))))))))
theorem m_X20_constant (hG : xOK G) (hO : xHO G) {dp : Nat} {r0 : Nat → Option Nat → (Int32 → xA → Prop) → (Nat → xA → Prop) → xA → Prop} (hK : xRC_C G (dp + 20) r0) {p : Nat} {m : Option Nat} {Q : Int32 → xA → Prop} {E : Nat → xA → Prop} {A : xA} (h : w_X20_constant G r0 p m Q E A) : MX G (dp + 21) kX20_constant [.ref p, va_rf m] A (hX (hI Q) E) := by
  unfold w_X20_constant at h
  refine MX.of rfl (by cases m <;> exact Nat.le_of_ble_eq_true rfl) ?_
  refine X.lvs (lv' := [some (.ref p), some (va_rf m), none, none]) (by cases m <;> rfl) ?_
  refine X.xok (fun w0 => ?_)
  replace h := h w0
  refine x_aload_n dX20_constant_0 rfl ?_
  obtain ⟨o1, h⟩ := h
  refine x_get (v := va_rf (A.P p 2)) hG dX20_constant_1 f_X20_15_18 o1 rfl ?_
  refine x_aloadq_n dX20_constant_4 rfl ?_
  obtain ⟨b2, e2, h⟩ := h
  rw [e2]
  obtain ⟨o3, h⟩ := h
  obtain ⟨R4, g4, h⟩ := h
  refine z_disp (pc' := 5) (lv' := [some (.ref p), some (va_rf m), none, none]) (st' := []) (P := hX (hI R4) E) (kr := ?_) (kc := ?_)
  rotate_left
  · obtain ⟨c, tc, hc⟩ := o3
    simp only [eCl, List.mem_cons, List.not_mem_nil, or_false] at hc
    intro kr
    rcases hc with rfl | rfl | rfl | rfl | rfl | rfl | rfl | rfl
    · exact x_callU hG (Ky := kX16_constant) (As := [va_rf m]) dX20_constant_5 tc rfl q2312 q2308 (Or.inl q2307) xm_X15_constant me_X16_constant is_X16_constant q2338 rfl rfl (Nat.le_of_ble_eq_true rfl) (MX.post (hK.1 tc g4) kr)
    · exact x_callU hG (Ky := kX17_constant) (As := [va_rf m]) dX20_constant_5 tc rfl q2312 q2308 (Or.inl q2307) xm_X15_constant me_X17_constant is_X17_constant q2332 rfl rfl (Nat.le_of_ble_eq_true rfl) (MX.post (hK.2.1 tc g4) kr)
    · exact x_callU hG (Ky := kX18_constant) (As := [va_rf m]) dX20_constant_5 tc rfl q2312 q2308 (Or.inl q2307) xm_X15_constant me_X18_constant is_X18_constant q2337 rfl rfl (Nat.le_of_ble_eq_true rfl) (MX.post (hK.2.2.1 tc g4) kr)
    · exact x_callU hG (Ky := kX19_constant) (As := [va_rf m]) dX20_constant_5 tc rfl q2312 q2308 (Or.inl q2307) xm_X15_constant me_X19_constant is_X19_constant q2335 rfl rfl (Nat.le_of_ble_eq_true rfl) (MX.post (hK.2.2.2.1 tc g4) kr)
    · exact x_callU hG (Ky := kX20_constant) (As := [va_rf m]) dX20_constant_5 tc rfl q2312 q2308 (Or.inl q2307) xm_X15_constant me_X20_constant is_X20_constant q2309 rfl rfl (Nat.le_of_ble_eq_true rfl) (MX.post (hK.2.2.2.2.1 tc g4) kr)
    · exact x_callU hG (Ky := kX21_constant) (As := [va_rf m]) dX20_constant_5 tc rfl q2312 q2308 (Or.inl q2307) xm_X15_constant me_X21_constant is_X21_constant q2336 rfl rfl (Nat.le_of_ble_eq_true rfl) (MX.post (hK.2.2.2.2.2.1 tc g4) kr)
    · exact x_callU hG (Ky := kX22_constant) (As := [va_rf m]) dX20_constant_5 tc rfl q2312 q2308 (Or.inl q2307) xm_X15_constant me_X22_constant is_X22_constant q2333 rfl rfl (Nat.le_of_ble_eq_true rfl) (MX.post (hK.2.2.2.2.2.2.1 tc g4) kr)
    · exact x_callU hG (Ky := kX23_constant) (As := [va_rf m]) dX20_constant_5 tc rfl q2312 q2308 (Or.inl q2307) xm_X15_constant me_X23_constant is_X23_constant q2334 rfl rfl (Nat.le_of_ble_eq_true rfl) (MX.post (hK.2.2.2.2.2.2.2 tc g4) kr)
  rintro _ A4 (⟨v4, rfl, h1⟩ | ⟨x4, rfl, h1⟩)
  rotate_left
  · exact ⟨rfl, Or.inr ⟨_, rfl, h1⟩⟩
  refine X.xok (fun w4 => ?_)
  replace h := h v4 A4 w4 h1
  change X _ _ _ _ A4 _ _ [.int v4]
  refine x_istore_n dX20_constant_8 (by decide) ?_
  refine X.lvs (lv' := [some (.ref p), some (va_rf m), some (.int v4), none]) (by generalize m = z; cases z <;> rfl) ?_
  refine x_aload_n dX20_constant_9 rfl ?_
  obtain ⟨o5, h⟩ := h
  refine x_get (v := va_rf (A4.P p 1)) hG dX20_constant_10 f_X20_9_18 o5 rfl ?_
  obtain ⟨b6, e6, h⟩ := h
  rw [e6]
  obtain ⟨o7, h⟩ := h
  refine x_alen hG (j := 0) dX20_constant_13 o7 ?_
  refine x_iconst_ (v := (1 : Int32)) dX20_constant_14 (by decide) ?_
  refine x_isub dX20_constant_15 ?_
  refine x_istore_n dX20_constant_16 (by decide) ?_
  obtain ⟨L8, ⟨n8, i8⟩, g8⟩ := h
  have kl8 : ∀ n8 : Nat, ∀ (y8_2 : Int32) (y8_3 : Int32), L8 n8 y8_2 y8_3 → X G (dp + 21) kX20_constant (hX (hI Q) E) A4 17 [some (.ref p), none, some (.int y8_2), some (.int y8_3)] [] := by
    intro n8
    induction n8 using Nat.strongRecOn with
    | ind n8 ih8 =>
      intro y8_2 y8_3 h
      replace h := g8 n8 y8_2 y8_3 h
      refine x_iload_n dX20_constant_17 rfl ?_
      refine x_if_lt (tgt := 70) dX20_constant_18 (by decide) (fun c18 => ?_) (fun c18 => ?_)
      · replace h := h.1 c18
        refine x_iload_n dX20_constant_70 rfl ?_
        exact x_iret dX20_constant_71 rfl (Or.inl ⟨_, rfl, h⟩)
      · replace h := h.2 c18
        refine x_aload_n dX20_constant_21 rfl ?_
        refine x_get (v := .ref b6) hG dX20_constant_22 f_X20_9_18 o5 (congrArg va_rf e6) ?_
        refine x_iload_n dX20_constant_25 rfl ?_
        obtain ⟨o9, h⟩ := h
        refine x_iald hG dX20_constant_26 o7 o9 ?_
        refine x_bipush_ (v := (79 : Int32)) dX20_constant_27 (by decide) ?_
        refine x_via 63 (A' := A4) (lv' := [some (.ref p), none, none, some (.int y8_3)]) (st' := [.int (if (A4.I b6 (ix y8_3)) = (79 : Int32) then (-y8_2) else (if (A4.I b6 (ix y8_3)) = (83 : Int32) then (y8_2 ^^^ (-1 : Int32)) else (if y8_2 = 0 then (1 : Int32) else (0 : Int32))))]) ?_ (fun k63 => ?_)
        rotate_left
        · refine x_icmp_ne (tgt := 37) dX20_constant_29 (by decide) (fun c29 => ?_) (fun c29 => ?_)
          · refine x_aload_n dX20_constant_37 rfl ?_
            refine x_get (v := .ref b6) hG dX20_constant_38 f_X20_9_18 o5 (congrArg va_rf e6) ?_
            refine x_iload_n dX20_constant_41 rfl ?_
            refine x_iald hG dX20_constant_42 o7 o9 ?_
            refine x_bipush_ (v := (83 : Int32)) dX20_constant_43 (by decide) ?_
            refine x_icmp_ne (tgt := 54) dX20_constant_45 (by decide) (fun c45 => ?_) (fun c45 => ?_)
            · refine x_iload_n dX20_constant_54 rfl ?_
              refine x_if_ne (tgt := 62) dX20_constant_55 (by decide) (fun c55 => ?_) (fun c55 => ?_)
              · refine x_iconst_ (v := (0 : Int32)) dX20_constant_62 (by decide) ?_
                change X _ _ _ _ _ _ [some (.ref p), none, some (.int y8_2), some (.int y8_3)] [.int (0 : Int32)]
                try simp only [if_neg c29] at c45 c55 k63 ⊢
                try simp only [if_neg c45] at c55 k63 ⊢
                try simp only [if_neg c55] at k63 ⊢
                exact X.weak (xle_c rfl (xle_n (xle_n (xle_c rfl xle_nil)))) k63
              · refine x_iconst_ (v := (1 : Int32)) dX20_constant_58 (by decide) ?_
                refine x_goto (tgt := 63) dX20_constant_59 (by decide) ?_
                change X _ _ _ _ _ _ [some (.ref p), none, some (.int y8_2), some (.int y8_3)] [.int (1 : Int32)]
                try simp only [if_neg c29] at c45 c55 k63 ⊢
                try simp only [if_neg c45] at c55 k63 ⊢
                try simp only [if_pos c55] at k63 ⊢
                exact X.weak (xle_c rfl (xle_n (xle_n (xle_c rfl xle_nil)))) k63
            · refine x_iload_n dX20_constant_48 rfl ?_
              refine x_iconst_ (v := (-1 : Int32)) dX20_constant_49 (by decide) ?_
              refine x_ixor dX20_constant_50 ?_
              refine x_goto (tgt := 63) dX20_constant_51 (by decide) ?_
              change X _ _ _ _ _ _ [some (.ref p), none, some (.int y8_2), some (.int y8_3)] [.int (y8_2 ^^^ (-1 : Int32))]
              try simp only [if_neg c29] at c45 k63 ⊢
              try simp only [if_pos c45] at k63 ⊢
              exact X.weak (xle_c rfl (xle_n (xle_n (xle_c rfl xle_nil)))) k63
          · refine x_iload_n dX20_constant_32 rfl ?_
            refine x_ineg dX20_constant_33 ?_
            refine x_goto (tgt := 63) dX20_constant_34 (by decide) ?_
            change X _ _ _ _ _ _ [some (.ref p), none, some (.int y8_2), some (.int y8_3)] [.int (-y8_2)]
            simp only [if_pos c29] at k63 ⊢
            exact X.weak (xle_c rfl (xle_n (xle_n (xle_c rfl xle_nil)))) k63
        refine x_istore_n dX20_constant_63 (by decide) ?_
        refine x_iinc (v := (y8_3 + (-1 : Int32))) dX20_constant_64 rfl rfl (by decide) ?_
        refine x_goto (tgt := 17) dX20_constant_67 (by decide) ?_
        obtain ⟨q8, l8, h⟩ := h
        change X _ _ _ _ _ _ [some (.ref p), none, some (.int (if (A4.I b6 (ix y8_3)) = (79 : Int32) then (-y8_2) else (if (A4.I b6 (ix y8_3)) = (83 : Int32) then (y8_2 ^^^ (-1 : Int32)) else (if y8_2 = 0 then (1 : Int32) else (0 : Int32))))), some (.int (y8_3 + (-1 : Int32)))] []
        exact X.weak (xle_c rfl (xle_n (xle_c rfl (xle_c rfl xle_nil)))) (ih8 q8 l8 (if (A4.I b6 (ix y8_3)) = (79 : Int32) then (-y8_2) else (if (A4.I b6 (ix y8_3)) = (83 : Int32) then (y8_2 ^^^ (-1 : Int32)) else (if y8_2 = 0 then (1 : Int32) else (0 : Int32)))) (y8_3 + (-1 : Int32)) h)
  change X _ _ _ _ _ _ [some (.ref p), some (va_rf m), some (.int v4), some (.int ((nI (A4.ln b6)) - (1 : Int32)))] []
  exact X.weak (xle_c rfl (xle_n (xle_c rfl (xle_c rfl xle_nil)))) (kl8 n8 v4 ((nI (A4.ln b6)) - (1 : Int32)) i8)
def w_X21_constant (G : xG) (r0 : Nat → Option Nat → (Int32 → xA → Prop) → (Nat → xA → Prop) → xA → Prop) (p : Nat) (m : Option Nat) (Q : Int32 → xA → Prop) (E : Nat → xA → Prop) (A : xA) : Prop := xok G A → A.tg p = 20 ∧ (∃ L2 : Nat → Int32 → Int32 → xA → Prop, (∃ n2 : Nat, L2 n2 (A.I p 1) (0 : Int32) A) ∧ (∀ (n2 : Nat) (y2_2 : Int32) (y2_3 : Int32) (A2 : xA), L2 n2 y2_2 y2_3 A2 → A2.tg p = 20 ∧ (∃ b5 : Nat, (A2.P p 2) = some b5 ∧ (A2.tg b5 = 37 ∧ (∃ R4 : Int32 → xA → Prop, w_J5_size G b5 R4 A2 ∧ (∀ (v4 : Int32) (A4 : xA), xok G A4 → R4 v4 A4 → (((v4 ≤ y2_3 → Q (if y2_2 = 0 then (0 : Int32) else (1 : Int32)) A4) ∧ (¬ v4 ≤ y2_3 → A4.tg p = 20 ∧ (∃ b9 : Nat, (A4.P p 2) = some b9 ∧ (A4.tg b9 = 37 ∧ (∃ R8 : Option Nat → xA → Prop, w_J5_get G b9 y2_3 R8 A4 ∧ (∀ (v8 : Option Nat) (A8 : xA), xok G A8 → R8 v8 A8 → (∃ b11 : Nat, v8 = some b11 ∧ (xE A8 b11 ∧ (∃ R13 : Int32 → xA → Prop, r0 b11 m R13 E A8 ∧ (∀ (v13 : Int32) (A13 : xA), xok G A13 → R13 v13 A13 → (A13.tg p = 20 ∧ ((∃ q2 : Nat, q2 < n2 ∧ L2 q2 (if (A13.I p 1) = 0 then (if y2_2 = 0 then (if (if v13 = 0 then (0 : Int32) else (1 : Int32)) = 0 then (0 : Int32) else (1 : Int32)) else (1 : Int32)) else (if y2_2 = 0 then (0 : Int32) else (if (if v13 = 0 then (0 : Int32) else (1 : Int32)) = 0 then (0 : Int32) else (1 : Int32)))) (y2_3 + (1 : Int32)) A13))))))))))))))))))))
theorem m_X21_constant (hG : xOK G) (hO : xHO G) {dp : Nat} {r0 : Nat → Option Nat → (Int32 → xA → Prop) → (Nat → xA → Prop) → xA → Prop} (hK : xRC_C G (dp + 20) r0) {p : Nat} {m : Option Nat} {Q : Int32 → xA → Prop} {E : Nat → xA → Prop} {A : xA} (h : w_X21_constant G r0 p m Q E A) : MX G (dp + 21) kX21_constant [.ref p, va_rf m] A (hX (hI Q) E) := by
  unfold w_X21_constant at h
  refine MX.of rfl (by cases m <;> exact Nat.le_of_ble_eq_true rfl) ?_
  refine X.lvs (lv' := [some (.ref p), some (va_rf m), none, none, none]) (by cases m <;> rfl) ?_
  refine X.xok (fun w0 => ?_)
  replace h := h w0
  refine x_aload_n dX21_constant_0 rfl ?_
  obtain ⟨o1, h⟩ := h
  refine x_get (v := .int (A.I p 1)) hG dX21_constant_1 f_X21_19_19 o1 rfl ?_
  refine x_istore_n dX21_constant_4 (by decide) ?_
  refine X.lvs (lv' := [some (.ref p), some (va_rf m), some (.int (A.I p 1)), none, none]) (by generalize m = z; cases z <;> rfl) ?_
  refine x_iconst_ (v := (0 : Int32)) dX21_constant_5 (by decide) ?_
  refine x_istore_n dX21_constant_6 (by decide) ?_
  obtain ⟨L2, ⟨n2, i2⟩, g2⟩ := h
  have kl2 : ∀ n2 : Nat, ∀ (y2_2 : Int32) (y2_3 : Int32) (A2 : xA), L2 n2 y2_2 y2_3 A2 → X G (dp + 21) kX21_constant (hX (hI Q) E) A2 7 [some (.ref p), some (va_rf m), some (.int y2_2), some (.int y2_3), none] [] := by
    intro n2
    induction n2 using Nat.strongRecOn with
    | ind n2 ih2 =>
      intro y2_2 y2_3 A2 h
      replace h := g2 n2 y2_2 y2_3 A2 h
      refine x_iload_n dX21_constant_7 rfl ?_
      refine x_aload_n dX21_constant_8 rfl ?_
      obtain ⟨o3, h⟩ := h
      refine x_get (v := va_rf (A2.P p 2)) hG dX21_constant_9 f_X21_25_19 o3 rfl ?_
      obtain ⟨b5, e5, h⟩ := h
      rw [e5]
      obtain ⟨o6, h⟩ := h
      obtain ⟨R4, g4, h⟩ := h
      refine x_callV hG (Ky := kJ5_size) (As := []) dX21_constant_12 o6 rfl lk_X21_33 me_J5_size is_J5_size se_J5_size rfl rfl (Nat.le_of_ble_eq_true rfl) (MX.post (m_w_J5_size hG hO g4) ?_)
      rintro _ A4 ⟨v4, rfl, h1⟩
      refine X.xok (fun w4 => ?_)
      replace h := h v4 A4 w4 h1
      change X _ _ _ _ A4 _ _ [.int v4, .int y2_3]
      refine x_icmp_ge (tgt := 88) dX21_constant_15 (by decide) (fun c15 => ?_) (fun c15 => ?_)
      · replace h := h.1 c15
        refine x_iload_n dX21_constant_88 rfl ?_
        refine x_via 97 (A' := A4) (lv' := [none, none, none, none, none]) (st' := [.int (if y2_2 = 0 then (0 : Int32) else (1 : Int32))]) ?_ (fun k97 => ?_)
        rotate_left
        · refine x_if_eq (tgt := 96) dX21_constant_89 (by decide) (fun c89 => ?_) (fun c89 => ?_)
          · refine x_iconst_ (v := (0 : Int32)) dX21_constant_96 (by decide) ?_
            change X _ _ _ _ _ _ [some (.ref p), some (va_rf m), some (.int y2_2), some (.int y2_3), none] [.int (0 : Int32)]
            simp only [if_pos c89] at k97 ⊢
            exact X.weak (xle_n (xle_n (xle_n (xle_n (xle_n xle_nil))))) k97
          · refine x_iconst_ (v := (1 : Int32)) dX21_constant_92 (by decide) ?_
            refine x_goto (tgt := 97) dX21_constant_93 (by decide) ?_
            change X _ _ _ _ _ _ [some (.ref p), some (va_rf m), some (.int y2_2), some (.int y2_3), none] [.int (1 : Int32)]
            simp only [if_neg c89] at k97 ⊢
            exact X.weak (xle_n (xle_n (xle_n (xle_n (xle_n xle_nil))))) k97
        exact x_iret dX21_constant_97 rfl (Or.inl ⟨_, rfl, h⟩)
      · replace h := h.2 c15
        refine x_aload_n dX21_constant_18 rfl ?_
        obtain ⟨o7, h⟩ := h
        refine x_get (v := va_rf (A4.P p 2)) hG dX21_constant_19 f_X21_25_19 o7 rfl ?_
        refine x_iload_n dX21_constant_22 rfl ?_
        obtain ⟨b9, e9, h⟩ := h
        rw [e9]
        obtain ⟨o10, h⟩ := h
        obtain ⟨R8, g8, h⟩ := h
        refine x_callV hG (Ky := kJ5_get) (As := [.int y2_3]) dX21_constant_23 o10 rfl lk_X21_3 me_J5_get is_J5_get se_J5_get rfl rfl (Nat.le_of_ble_eq_true rfl) (MX.post (m_w_J5_get hG hO g8) ?_)
        rintro _ A8 ⟨v8, rfl, h1⟩
        refine X.xok (fun w8 => ?_)
        replace h := h v8 A8 w8 h1
        change X _ _ _ _ A8 _ _ [va_rf v8]
        obtain ⟨b11, e11, h⟩ := h
        rw [e11]
        obtain ⟨o12, h⟩ := h
        refine z_castE hG dX21_constant_26 q1413 o12 ?_
        refine x_aloadq_n dX21_constant_29 rfl ?_
        obtain ⟨R13, g13, h⟩ := h
        refine z_disp (pc' := 30) (lv' := [some (.ref p), some (va_rf m), some (.int y2_2), some (.int y2_3), none]) (st' := []) (P := hX (hI R13) E) (kr := ?_) (kc := ?_)
        rotate_left
        · obtain ⟨c, tc, hc⟩ := o12
          simp only [eCl, List.mem_cons, List.not_mem_nil, or_false] at hc
          intro kr
          rcases hc with rfl | rfl | rfl | rfl | rfl | rfl | rfl | rfl
          · exact x_callU hG (Ky := kX16_constant) (As := [va_rf m]) dX21_constant_30 tc rfl q2326 q2308 (Or.inl q2307) xm_X15_constant me_X16_constant is_X16_constant q2338 rfl rfl (Nat.le_of_ble_eq_true rfl) (MX.post (hK.1 tc g13) kr)
          · exact x_callU hG (Ky := kX17_constant) (As := [va_rf m]) dX21_constant_30 tc rfl q2326 q2308 (Or.inl q2307) xm_X15_constant me_X17_constant is_X17_constant q2332 rfl rfl (Nat.le_of_ble_eq_true rfl) (MX.post (hK.2.1 tc g13) kr)
          · exact x_callU hG (Ky := kX18_constant) (As := [va_rf m]) dX21_constant_30 tc rfl q2326 q2308 (Or.inl q2307) xm_X15_constant me_X18_constant is_X18_constant q2337 rfl rfl (Nat.le_of_ble_eq_true rfl) (MX.post (hK.2.2.1 tc g13) kr)
          · exact x_callU hG (Ky := kX19_constant) (As := [va_rf m]) dX21_constant_30 tc rfl q2326 q2308 (Or.inl q2307) xm_X15_constant me_X19_constant is_X19_constant q2335 rfl rfl (Nat.le_of_ble_eq_true rfl) (MX.post (hK.2.2.2.1 tc g13) kr)
          · exact x_callU hG (Ky := kX20_constant) (As := [va_rf m]) dX21_constant_30 tc rfl q2326 q2308 (Or.inl q2307) xm_X15_constant me_X20_constant is_X20_constant q2309 rfl rfl (Nat.le_of_ble_eq_true rfl) (MX.post (hK.2.2.2.2.1 tc g13) kr)
          · exact x_callU hG (Ky := kX21_constant) (As := [va_rf m]) dX21_constant_30 tc rfl q2326 q2308 (Or.inl q2307) xm_X15_constant me_X21_constant is_X21_constant q2336 rfl rfl (Nat.le_of_ble_eq_true rfl) (MX.post (hK.2.2.2.2.2.1 tc g13) kr)
          · exact x_callU hG (Ky := kX22_constant) (As := [va_rf m]) dX21_constant_30 tc rfl q2326 q2308 (Or.inl q2307) xm_X15_constant me_X22_constant is_X22_constant q2333 rfl rfl (Nat.le_of_ble_eq_true rfl) (MX.post (hK.2.2.2.2.2.2.1 tc g13) kr)
          · exact x_callU hG (Ky := kX23_constant) (As := [va_rf m]) dX21_constant_30 tc rfl q2326 q2308 (Or.inl q2307) xm_X15_constant me_X23_constant is_X23_constant q2334 rfl rfl (Nat.le_of_ble_eq_true rfl) (MX.post (hK.2.2.2.2.2.2.2 tc g13) kr)
        rintro _ A13 (⟨v13, rfl, h1⟩ | ⟨x13, rfl, h1⟩)
        rotate_left
        · exact ⟨rfl, Or.inr ⟨_, rfl, h1⟩⟩
        refine X.xok (fun w13 => ?_)
        replace h := h v13 A13 w13 h1
        change X _ _ _ _ A13 _ _ [.int v13]
        refine x_via 41 (A' := A13) (lv' := [some (.ref p), some (va_rf m), some (.int y2_2), some (.int y2_3), none]) (st' := [.int (if v13 = 0 then (0 : Int32) else (1 : Int32))]) ?_ (fun k41 => ?_)
        rotate_left
        · refine x_if_eq (tgt := 40) dX21_constant_33 (by decide) (fun c33 => ?_) (fun c33 => ?_)
          · refine x_iconst_ (v := (0 : Int32)) dX21_constant_40 (by decide) ?_
            change X _ _ _ _ _ _ [some (.ref p), some (va_rf m), some (.int y2_2), some (.int y2_3), none] [.int (0 : Int32)]
            simp only [if_pos c33] at k41 ⊢
            exact X.weak (xle_c rfl (xle_c rfl (xle_c rfl (xle_c rfl (xle_n xle_nil))))) k41
          · refine x_iconst_ (v := (1 : Int32)) dX21_constant_36 (by decide) ?_
            refine x_goto (tgt := 41) dX21_constant_37 (by decide) ?_
            change X _ _ _ _ _ _ [some (.ref p), some (va_rf m), some (.int y2_2), some (.int y2_3), none] [.int (1 : Int32)]
            simp only [if_neg c33] at k41 ⊢
            exact X.weak (xle_c rfl (xle_c rfl (xle_c rfl (xle_c rfl (xle_n xle_nil))))) k41
        refine x_istore dX21_constant_41 (by decide) ?_
        refine x_aload_n dX21_constant_43 rfl ?_
        obtain ⟨o14, h⟩ := h
        refine x_get (v := .int (A13.I p 1)) hG dX21_constant_44 f_X21_19_19 o14 rfl ?_
        refine x_via 81 (A' := A13) (lv' := [some (.ref p), some (va_rf m), none, some (.int y2_3), none]) (st' := [.int (if (A13.I p 1) = 0 then (if y2_2 = 0 then (if (if v13 = 0 then (0 : Int32) else (1 : Int32)) = 0 then (0 : Int32) else (1 : Int32)) else (1 : Int32)) else (if y2_2 = 0 then (0 : Int32) else (if (if v13 = 0 then (0 : Int32) else (1 : Int32)) = 0 then (0 : Int32) else (1 : Int32))))]) ?_ (fun k81 => ?_)
        rotate_left
        · refine x_if_eq (tgt := 67) dX21_constant_47 (by decide) (fun c47 => ?_) (fun c47 => ?_)
          · refine x_iload_n dX21_constant_67 rfl ?_
            refine x_if_ne (tgt := 76) dX21_constant_68 (by decide) (fun c68 => ?_) (fun c68 => ?_)
            · refine x_iconst_ (v := (1 : Int32)) dX21_constant_76 (by decide) ?_
              refine x_goto (tgt := 81) dX21_constant_77 (by decide) ?_
              change X _ _ _ _ _ _ [some (.ref p), some (va_rf m), some (.int y2_2), some (.int y2_3), some (.int (if v13 = 0 then (0 : Int32) else (1 : Int32)))] [.int (1 : Int32)]
              try simp only [if_pos c47] at c68 k81 ⊢
              try simp only [if_neg c68] at k81 ⊢
              exact X.weak (xle_c rfl (xle_c rfl (xle_n (xle_c rfl (xle_n xle_nil))))) k81
            · refine x_iload dX21_constant_71 rfl ?_
              refine x_if_eq (tgt := 80) dX21_constant_73 (by decide) (fun c73 => ?_) (fun c73 => ?_)
              · refine x_iconst_ (v := (0 : Int32)) dX21_constant_80 (by decide) ?_
                change X _ _ _ _ _ _ [some (.ref p), some (va_rf m), some (.int y2_2), some (.int y2_3), some (.int (if v13 = 0 then (0 : Int32) else (1 : Int32)))] [.int (0 : Int32)]
                try simp only [if_pos c47] at c68 c73 k81 ⊢
                try simp only [if_pos c68] at c73 k81 ⊢
                try simp only [if_pos c73] at k81 ⊢
                exact X.weak (xle_c rfl (xle_c rfl (xle_n (xle_c rfl (xle_n xle_nil))))) k81
              · refine x_iconst_ (v := (1 : Int32)) dX21_constant_76 (by decide) ?_
                refine x_goto (tgt := 81) dX21_constant_77 (by decide) ?_
                change X _ _ _ _ _ _ [some (.ref p), some (va_rf m), some (.int y2_2), some (.int y2_3), some (.int (if v13 = 0 then (0 : Int32) else (1 : Int32)))] [.int (1 : Int32)]
                try simp only [if_pos c47] at c68 c73 k81 ⊢
                try simp only [if_pos c68] at c73 k81 ⊢
                try simp only [if_neg c73] at k81 ⊢
                exact X.weak (xle_c rfl (xle_c rfl (xle_n (xle_c rfl (xle_n xle_nil))))) k81
          · refine x_iload_n dX21_constant_50 rfl ?_
            refine x_if_eq (tgt := 63) dX21_constant_51 (by decide) (fun c51 => ?_) (fun c51 => ?_)
            · refine x_iconst_ (v := (0 : Int32)) dX21_constant_63 (by decide) ?_
              refine x_goto (tgt := 81) dX21_constant_64 (by decide) ?_
              change X _ _ _ _ _ _ [some (.ref p), some (va_rf m), some (.int y2_2), some (.int y2_3), some (.int (if v13 = 0 then (0 : Int32) else (1 : Int32)))] [.int (0 : Int32)]
              try simp only [if_neg c47] at c51 k81 ⊢
              try simp only [if_pos c51] at k81 ⊢
              exact X.weak (xle_c rfl (xle_c rfl (xle_n (xle_c rfl (xle_n xle_nil))))) k81
            · refine x_iload dX21_constant_54 rfl ?_
              refine x_if_eq (tgt := 63) dX21_constant_56 (by decide) (fun c56 => ?_) (fun c56 => ?_)
              · refine x_iconst_ (v := (0 : Int32)) dX21_constant_63 (by decide) ?_
                refine x_goto (tgt := 81) dX21_constant_64 (by decide) ?_
                change X _ _ _ _ _ _ [some (.ref p), some (va_rf m), some (.int y2_2), some (.int y2_3), some (.int (if v13 = 0 then (0 : Int32) else (1 : Int32)))] [.int (0 : Int32)]
                try simp only [if_neg c47] at c51 c56 k81 ⊢
                try simp only [if_neg c51] at c56 k81 ⊢
                try simp only [if_pos c56] at k81 ⊢
                exact X.weak (xle_c rfl (xle_c rfl (xle_n (xle_c rfl (xle_n xle_nil))))) k81
              · refine x_iconst_ (v := (1 : Int32)) dX21_constant_59 (by decide) ?_
                refine x_goto (tgt := 81) dX21_constant_60 (by decide) ?_
                change X _ _ _ _ _ _ [some (.ref p), some (va_rf m), some (.int y2_2), some (.int y2_3), some (.int (if v13 = 0 then (0 : Int32) else (1 : Int32)))] [.int (1 : Int32)]
                try simp only [if_neg c47] at c51 c56 k81 ⊢
                try simp only [if_neg c51] at c56 k81 ⊢
                try simp only [if_neg c56] at k81 ⊢
                exact X.weak (xle_c rfl (xle_c rfl (xle_n (xle_c rfl (xle_n xle_nil))))) k81
        refine x_istore_n dX21_constant_81 (by decide) ?_
        refine X.lvs (lv' := [some (.ref p), some (va_rf m), some (.int (if (A13.I p 1) = 0 then (if y2_2 = 0 then (if (if v13 = 0 then (0 : Int32) else (1 : Int32)) = 0 then (0 : Int32) else (1 : Int32)) else (1 : Int32)) else (if y2_2 = 0 then (0 : Int32) else (if (if v13 = 0 then (0 : Int32) else (1 : Int32)) = 0 then (0 : Int32) else (1 : Int32))))), some (.int y2_3), none]) (by generalize m = z; cases z <;> rfl) ?_
        refine x_iinc (v := (y2_3 + (1 : Int32))) dX21_constant_82 rfl rfl (by decide) ?_
        refine x_goto (tgt := 7) dX21_constant_85 (by decide) ?_
        obtain ⟨q2, l2, h⟩ := h
        change X _ _ _ _ _ _ [some (.ref p), some (va_rf m), some (.int (if (A13.I p 1) = 0 then (if y2_2 = 0 then (if (if v13 = 0 then (0 : Int32) else (1 : Int32)) = 0 then (0 : Int32) else (1 : Int32)) else (1 : Int32)) else (if y2_2 = 0 then (0 : Int32) else (if (if v13 = 0 then (0 : Int32) else (1 : Int32)) = 0 then (0 : Int32) else (1 : Int32))))), some (.int (y2_3 + (1 : Int32))), none] []
        exact X.weak (xle_c rfl (xle_c rfl (xle_c rfl (xle_c rfl (xle_n xle_nil))))) (ih2 q2 l2 (if (A13.I p 1) = 0 then (if y2_2 = 0 then (if (if v13 = 0 then (0 : Int32) else (1 : Int32)) = 0 then (0 : Int32) else (1 : Int32)) else (1 : Int32)) else (if y2_2 = 0 then (0 : Int32) else (if (if v13 = 0 then (0 : Int32) else (1 : Int32)) = 0 then (0 : Int32) else (1 : Int32)))) (y2_3 + (1 : Int32)) A13 h)
  change X _ _ _ _ _ _ [some (.ref p), some (va_rf m), some (.int (A.I p 1)), some (.int (0 : Int32)), none] []
  exact X.weak (xle_c rfl (xle_c rfl (xle_c rfl (xle_c rfl (xle_n xle_nil))))) (kl2 n2 (A.I p 1) (0 : Int32) A i2)
def w_X22_constant (G : xG) (r0 : Nat → Option Nat → (Int32 → xA → Prop) → (Nat → xA → Prop) → xA → Prop) (p : Nat) (m : Option Nat) (Q : Int32 → xA → Prop) (E : Nat → xA → Prop) (A : xA) : Prop := xok G A → A.tg p = 21 ∧ (∃ b3 : Nat, (A.P p 2) = some b3 ∧ (A.tg b3 = 37 ∧ (∃ R2 : Option Nat → xA → Prop, w_J5_get G b3 (0 : Int32) R2 A ∧ (∀ (v2 : Option Nat) (A2 : xA), xok G A2 → R2 v2 A2 → (∃ b5 : Nat, v2 = some b5 ∧ (xE A2 b5 ∧ (∃ R7 : Int32 → xA → Prop, r0 b5 m R7 E A2 ∧ (∀ (v7 : Int32) (A7 : xA), xok G A7 → R7 v7 A7 → (∃ L8 : Nat → Int32 → Int32 → xA → Prop, (∃ n8 : Nat, L8 n8 v7 (0 : Int32) A7) ∧ (∀ (n8 : Nat) (y8_2 : Int32) (y8_3 : Int32) (A8 : xA), L8 n8 y8_2 y8_3 A8 → A8.tg p = 21 ∧ (∃ b10 : Nat, (A8.P p 1) = some b10 ∧ (A8.tg b10 = 200 ∧ ((((nI (A8.ln b10)) ≤ y8_3 → Q y8_2 A8) ∧ (¬ (nI (A8.ln b10)) ≤ y8_3 → ∃ b13 : Nat, (A8.P p 2) = some b13 ∧ (A8.tg b13 = 37 ∧ (∃ R12 : Option Nat → xA → Prop, w_J5_get G b13 (y8_3 + (1 : Int32)) R12 A8 ∧ (∀ (v12 : Option Nat) (A12 : xA), xok G A12 → R12 v12 A12 → (∃ b15 : Nat, v12 = some b15 ∧ (xE A12 b15 ∧ (∃ R17 : Int32 → xA → Prop, r0 b15 m R17 E A12 ∧ (∀ (v17 : Int32) (A17 : xA), xok G A17 → R17 v17 A17 → (A17.tg p = 21 ∧ (∃ b19 : Nat, (A17.P p 1) = some b19 ∧ (A17.tg b19 = 200 ∧ (vp_in y8_3 (A17.ln b19) ∧ ((∃ q8 : Nat, q8 < n8 ∧ L8 q8 (f_X0_done (A17.I b19 (ix y8_3)) y8_2 v17) (y8_3 + (1 : Int32)) A17))))))))))))))))))))))))))))
theorem m_X22_constant (hG : xOK G) (hO : xHO G) {dp : Nat} {r0 : Nat → Option Nat → (Int32 → xA → Prop) → (Nat → xA → Prop) → xA → Prop} (hK : xRC_C G (dp + 20) r0) {p : Nat} {m : Option Nat} {Q : Int32 → xA → Prop} {E : Nat → xA → Prop} {A : xA} (h : w_X22_constant G r0 p m Q E A) : MX G (dp + 21) kX22_constant [.ref p, va_rf m] A (hX (hI Q) E) := by
  unfold w_X22_constant at h
  refine MX.of rfl (by cases m <;> exact Nat.le_of_ble_eq_true rfl) ?_
  refine X.lvs (lv' := [some (.ref p), some (va_rf m), none, none, none]) (by cases m <;> rfl) ?_
  refine X.xok (fun w0 => ?_)
  replace h := h w0
  refine x_aload_n dX22_constant_0 rfl ?_
  obtain ⟨o1, h⟩ := h
  refine x_get (v := va_rf (A.P p 2)) hG dX22_constant_1 f_X22_25_20 o1 rfl ?_
  refine x_iconst_ (v := (0 : Int32)) dX22_constant_4 (by decide) ?_
  obtain ⟨b3, e3, h⟩ := h
  rw [e3]
  obtain ⟨o4, h⟩ := h
  obtain ⟨R2, g2, h⟩ := h
  refine x_callV hG (Ky := kJ5_get) (As := [.int (0 : Int32)]) dX22_constant_5 o4 rfl lk_X22_3 me_J5_get is_J5_get se_J5_get rfl rfl (Nat.le_of_ble_eq_true rfl) (MX.post (m_w_J5_get hG hO g2) ?_)
  rintro _ A2 ⟨v2, rfl, h1⟩
  refine X.xok (fun w2 => ?_)
  replace h := h v2 A2 w2 h1
  change X _ _ _ _ A2 _ _ [va_rf v2]
  obtain ⟨b5, e5, h⟩ := h
  rw [e5]
  obtain ⟨o6, h⟩ := h
  refine z_castE hG dX22_constant_8 q1432 o6 ?_
  refine x_aloadq_n dX22_constant_11 rfl ?_
  obtain ⟨R7, g7, h⟩ := h
  refine z_disp (pc' := 12) (lv' := [some (.ref p), some (va_rf m), none, none, none]) (st' := []) (P := hX (hI R7) E) (kr := ?_) (kc := ?_)
  rotate_left
  · obtain ⟨c, tc, hc⟩ := o6
    simp only [eCl, List.mem_cons, List.not_mem_nil, or_false] at hc
    intro kr
    rcases hc with rfl | rfl | rfl | rfl | rfl | rfl | rfl | rfl
    · exact x_callU hG (Ky := kX16_constant) (As := [va_rf m]) dX22_constant_12 tc rfl q2317 q2308 (Or.inl q2307) xm_X15_constant me_X16_constant is_X16_constant q2338 rfl rfl (Nat.le_of_ble_eq_true rfl) (MX.post (hK.1 tc g7) kr)
    · exact x_callU hG (Ky := kX17_constant) (As := [va_rf m]) dX22_constant_12 tc rfl q2317 q2308 (Or.inl q2307) xm_X15_constant me_X17_constant is_X17_constant q2332 rfl rfl (Nat.le_of_ble_eq_true rfl) (MX.post (hK.2.1 tc g7) kr)
    · exact x_callU hG (Ky := kX18_constant) (As := [va_rf m]) dX22_constant_12 tc rfl q2317 q2308 (Or.inl q2307) xm_X15_constant me_X18_constant is_X18_constant q2337 rfl rfl (Nat.le_of_ble_eq_true rfl) (MX.post (hK.2.2.1 tc g7) kr)
    · exact x_callU hG (Ky := kX19_constant) (As := [va_rf m]) dX22_constant_12 tc rfl q2317 q2308 (Or.inl q2307) xm_X15_constant me_X19_constant is_X19_constant q2335 rfl rfl (Nat.le_of_ble_eq_true rfl) (MX.post (hK.2.2.2.1 tc g7) kr)
    · exact x_callU hG (Ky := kX20_constant) (As := [va_rf m]) dX22_constant_12 tc rfl q2317 q2308 (Or.inl q2307) xm_X15_constant me_X20_constant is_X20_constant q2309 rfl rfl (Nat.le_of_ble_eq_true rfl) (MX.post (hK.2.2.2.2.1 tc g7) kr)
    · exact x_callU hG (Ky := kX21_constant) (As := [va_rf m]) dX22_constant_12 tc rfl q2317 q2308 (Or.inl q2307) xm_X15_constant me_X21_constant is_X21_constant q2336 rfl rfl (Nat.le_of_ble_eq_true rfl) (MX.post (hK.2.2.2.2.2.1 tc g7) kr)
    · exact x_callU hG (Ky := kX22_constant) (As := [va_rf m]) dX22_constant_12 tc rfl q2317 q2308 (Or.inl q2307) xm_X15_constant me_X22_constant is_X22_constant q2333 rfl rfl (Nat.le_of_ble_eq_true rfl) (MX.post (hK.2.2.2.2.2.2.1 tc g7) kr)
    · exact x_callU hG (Ky := kX23_constant) (As := [va_rf m]) dX22_constant_12 tc rfl q2317 q2308 (Or.inl q2307) xm_X15_constant me_X23_constant is_X23_constant q2334 rfl rfl (Nat.le_of_ble_eq_true rfl) (MX.post (hK.2.2.2.2.2.2.2 tc g7) kr)
  rintro _ A7 (⟨v7, rfl, h1⟩ | ⟨x7, rfl, h1⟩)
  rotate_left
  · exact ⟨rfl, Or.inr ⟨_, rfl, h1⟩⟩
  refine X.xok (fun w7 => ?_)
  replace h := h v7 A7 w7 h1
  change X _ _ _ _ A7 _ _ [.int v7]
  refine x_istore_n dX22_constant_15 (by decide) ?_
  refine X.lvs (lv' := [some (.ref p), some (va_rf m), some (.int v7), none, none]) (by generalize m = z; cases z <;> rfl) ?_
  refine x_iconst_ (v := (0 : Int32)) dX22_constant_16 (by decide) ?_
  refine x_istore_n dX22_constant_17 (by decide) ?_
  obtain ⟨L8, ⟨n8, i8⟩, g8⟩ := h
  have kl8 : ∀ n8 : Nat, ∀ (y8_2 : Int32) (y8_3 : Int32) (A8 : xA), L8 n8 y8_2 y8_3 A8 → X G (dp + 21) kX22_constant (hX (hI Q) E) A8 18 [some (.ref p), some (va_rf m), some (.int y8_2), some (.int y8_3), none] [] := by
    intro n8
    induction n8 using Nat.strongRecOn with
    | ind n8 ih8 =>
      intro y8_2 y8_3 A8 h
      replace h := g8 n8 y8_2 y8_3 A8 h
      refine x_iload_n dX22_constant_18 rfl ?_
      refine x_aload_n dX22_constant_19 rfl ?_
      obtain ⟨o9, h⟩ := h
      refine x_get (v := va_rf (A8.P p 1)) hG dX22_constant_20 f_X22_19_20 o9 rfl ?_
      obtain ⟨b10, e10, h⟩ := h
      rw [e10]
      obtain ⟨o11, h⟩ := h
      refine x_alen hG (j := 0) dX22_constant_23 o11 ?_
      refine x_icmp_ge (tgt := 65) dX22_constant_24 (by decide) (fun c24 => ?_) (fun c24 => ?_)
      · replace h := h.1 c24
        refine x_iload_n dX22_constant_65 rfl ?_
        exact x_iret dX22_constant_66 rfl (Or.inl ⟨_, rfl, h⟩)
      · replace h := h.2 c24
        refine x_aload_n dX22_constant_27 rfl ?_
        refine x_get (v := va_rf (A8.P p 2)) hG dX22_constant_28 f_X22_25_20 o9 rfl ?_
        refine x_iload_n dX22_constant_31 rfl ?_
        refine x_iconst_ (v := (1 : Int32)) dX22_constant_32 (by decide) ?_
        refine x_iadd dX22_constant_33 ?_
        obtain ⟨b13, e13, h⟩ := h
        rw [e13]
        obtain ⟨o14, h⟩ := h
        obtain ⟨R12, g12, h⟩ := h
        refine x_callV hG (Ky := kJ5_get) (As := [.int (y8_3 + (1 : Int32))]) dX22_constant_34 o14 rfl lk_X22_3 me_J5_get is_J5_get se_J5_get rfl rfl (Nat.le_of_ble_eq_true rfl) (MX.post (m_w_J5_get hG hO g12) ?_)
        rintro _ A12 ⟨v12, rfl, h1⟩
        refine X.xok (fun w12 => ?_)
        replace h := h v12 A12 w12 h1
        change X _ _ _ _ A12 _ _ [va_rf v12]
        obtain ⟨b15, e15, h⟩ := h
        rw [e15]
        obtain ⟨o16, h⟩ := h
        refine z_castE hG dX22_constant_37 q1432 o16 ?_
        refine x_aloadq_n dX22_constant_40 rfl ?_
        obtain ⟨R17, g17, h⟩ := h
        refine z_disp (pc' := 41) (lv' := [some (.ref p), some (va_rf m), some (.int y8_2), some (.int y8_3), none]) (st' := []) (P := hX (hI R17) E) (kr := ?_) (kc := ?_)
        rotate_left
        · obtain ⟨c, tc, hc⟩ := o16
          simp only [eCl, List.mem_cons, List.not_mem_nil, or_false] at hc
          intro kr
          rcases hc with rfl | rfl | rfl | rfl | rfl | rfl | rfl | rfl
          · exact x_callU hG (Ky := kX16_constant) (As := [va_rf m]) dX22_constant_41 tc rfl q2317 q2308 (Or.inl q2307) xm_X15_constant me_X16_constant is_X16_constant q2338 rfl rfl (Nat.le_of_ble_eq_true rfl) (MX.post (hK.1 tc g17) kr)
          · exact x_callU hG (Ky := kX17_constant) (As := [va_rf m]) dX22_constant_41 tc rfl q2317 q2308 (Or.inl q2307) xm_X15_constant me_X17_constant is_X17_constant q2332 rfl rfl (Nat.le_of_ble_eq_true rfl) (MX.post (hK.2.1 tc g17) kr)
          · exact x_callU hG (Ky := kX18_constant) (As := [va_rf m]) dX22_constant_41 tc rfl q2317 q2308 (Or.inl q2307) xm_X15_constant me_X18_constant is_X18_constant q2337 rfl rfl (Nat.le_of_ble_eq_true rfl) (MX.post (hK.2.2.1 tc g17) kr)
          · exact x_callU hG (Ky := kX19_constant) (As := [va_rf m]) dX22_constant_41 tc rfl q2317 q2308 (Or.inl q2307) xm_X15_constant me_X19_constant is_X19_constant q2335 rfl rfl (Nat.le_of_ble_eq_true rfl) (MX.post (hK.2.2.2.1 tc g17) kr)
          · exact x_callU hG (Ky := kX20_constant) (As := [va_rf m]) dX22_constant_41 tc rfl q2317 q2308 (Or.inl q2307) xm_X15_constant me_X20_constant is_X20_constant q2309 rfl rfl (Nat.le_of_ble_eq_true rfl) (MX.post (hK.2.2.2.2.1 tc g17) kr)
          · exact x_callU hG (Ky := kX21_constant) (As := [va_rf m]) dX22_constant_41 tc rfl q2317 q2308 (Or.inl q2307) xm_X15_constant me_X21_constant is_X21_constant q2336 rfl rfl (Nat.le_of_ble_eq_true rfl) (MX.post (hK.2.2.2.2.2.1 tc g17) kr)
          · exact x_callU hG (Ky := kX22_constant) (As := [va_rf m]) dX22_constant_41 tc rfl q2317 q2308 (Or.inl q2307) xm_X15_constant me_X22_constant is_X22_constant q2333 rfl rfl (Nat.le_of_ble_eq_true rfl) (MX.post (hK.2.2.2.2.2.2.1 tc g17) kr)
          · exact x_callU hG (Ky := kX23_constant) (As := [va_rf m]) dX22_constant_41 tc rfl q2317 q2308 (Or.inl q2307) xm_X15_constant me_X23_constant is_X23_constant q2334 rfl rfl (Nat.le_of_ble_eq_true rfl) (MX.post (hK.2.2.2.2.2.2.2 tc g17) kr)
        rintro _ A17 (⟨v17, rfl, h1⟩ | ⟨x17, rfl, h1⟩)
        rotate_left
        · exact ⟨rfl, Or.inr ⟨_, rfl, h1⟩⟩
        refine X.xok (fun w17 => ?_)
        replace h := h v17 A17 w17 h1
        change X _ _ _ _ A17 _ _ [.int v17]
        refine x_istore dX22_constant_44 (by decide) ?_
        refine x_aload_n dX22_constant_46 rfl ?_
        obtain ⟨o18, h⟩ := h
        refine x_get (v := va_rf (A17.P p 1)) hG dX22_constant_47 f_X22_19_20 o18 rfl ?_
        refine x_iload_n dX22_constant_50 rfl ?_
        obtain ⟨b19, e19, h⟩ := h
        rw [e19]
        obtain ⟨o20, h⟩ := h
        obtain ⟨o21, h⟩ := h
        refine x_iald hG dX22_constant_51 o20 o21 ?_
        refine x_iload_n dX22_constant_52 rfl ?_
        refine x_iload dX22_constant_53 rfl ?_
        refine x_callS hG (Ky := kX0_done) (As := [.int (A17.I b19 (ix y8_3)), .int y8_2, .int v17]) dX22_constant_55 lk_X22_37 me_X0_done st_X0_done rfl rfl (Nat.le_of_ble_eq_true rfl) (MX.post (m_X0_done hG pp_X0_done) ?_)
        rintro _ _ ⟨rfl, rfl⟩
        change X _ _ _ _ _ _ _ (.int (f_X0_done (A17.I b19 (ix y8_3)) y8_2 v17) :: _)
        refine x_istore_n dX22_constant_58 (by decide) ?_
        refine X.lvs (lv' := [some (.ref p), some (va_rf m), some (.int (f_X0_done (A17.I b19 (ix y8_3)) y8_2 v17)), some (.int y8_3), some (.int v17)]) (by generalize m = z; cases z <;> rfl) ?_
        refine x_iinc (v := (y8_3 + (1 : Int32))) dX22_constant_59 rfl rfl (by decide) ?_
        refine x_goto (tgt := 18) dX22_constant_62 (by decide) ?_
        obtain ⟨q8, l8, h⟩ := h
        change X _ _ _ _ _ _ [some (.ref p), some (va_rf m), some (.int (f_X0_done (A17.I b19 (ix y8_3)) y8_2 v17)), some (.int (y8_3 + (1 : Int32))), some (.int v17)] []
        exact X.weak (xle_c rfl (xle_c rfl (xle_c rfl (xle_c rfl (xle_n xle_nil))))) (ih8 q8 l8 (f_X0_done (A17.I b19 (ix y8_3)) y8_2 v17) (y8_3 + (1 : Int32)) A17 h)
  change X _ _ _ _ _ _ [some (.ref p), some (va_rf m), some (.int v7), some (.int (0 : Int32)), none] []
  exact X.weak (xle_c rfl (xle_c rfl (xle_c rfl (xle_c rfl (xle_n xle_nil))))) (kl8 n8 v7 (0 : Int32) A7 i8)
def w_X23_constant (G : xG) (r0 : Nat → Option Nat → (Int32 → xA → Prop) → (Nat → xA → Prop) → xA → Prop) (p : Nat) (m : Option Nat) (Q : Int32 → xA → Prop) (E : Nat → xA → Prop) (A : xA) : Prop := xok G A → A.tg p = 22 ∧ (∃ b2 : Nat, (A.P p 1) = some b2 ∧ (xE A b2 ∧ (∃ R4 : Int32 → xA → Prop, r0 b2 m R4 E A ∧ (∀ (v4 : Int32) (A4 : xA), xok G A4 → R4 v4 A4 → (A4.tg p = 22 ∧ (∃ b6 : Nat, (A4.P p 2) = some b6 ∧ (xE A4 b6 ∧ (∃ R8 : Int32 → xA → Prop, r0 b6 m R8 E A4 ∧ (∀ (v8 : Int32) (A8 : xA), xok G A8 → R8 v8 A8 → (A8.tg p = 22 ∧ (∃ b10 : Nat, (A8.P p 3) = some b10 ∧ (xE A8 b10 ∧ (∃ R12 : Int32 → xA → Prop, r0 b10 m R12 E A8 ∧ (∀ (v12 : Int32) (A12 : xA), xok G A12 → R12 v12 A12 → (Q (if v4 = 0 then v12 else v8) A12)))))))))))))))
theorem m_X23_constant (hG : xOK G) (hO : xHO G) {dp : Nat} {r0 : Nat → Option Nat → (Int32 → xA → Prop) → (Nat → xA → Prop) → xA → Prop} (hK : xRC_C G (dp + 20) r0) {p : Nat} {m : Option Nat} {Q : Int32 → xA → Prop} {E : Nat → xA → Prop} {A : xA} (h : w_X23_constant G r0 p m Q E A) : MX G (dp + 21) kX23_constant [.ref p, va_rf m] A (hX (hI Q) E) := by
  unfold w_X23_constant at h
  refine MX.of rfl (by cases m <;> exact Nat.le_of_ble_eq_true rfl) ?_
  refine X.lvs (lv' := [some (.ref p), some (va_rf m), none, none, none]) (by cases m <;> rfl) ?_
  refine X.xok (fun w0 => ?_)
  replace h := h w0
  refine x_aload_n dX23_constant_0 rfl ?_
  obtain ⟨o1, h⟩ := h
  refine x_get (v := va_rf (A.P p 1)) hG dX23_constant_1 f_X23_13_21 o1 rfl ?_
  refine x_aloadq_n dX23_constant_4 rfl ?_
  obtain ⟨b2, e2, h⟩ := h
  rw [e2]
  obtain ⟨o3, h⟩ := h
  obtain ⟨R4, g4, h⟩ := h
  refine z_disp (pc' := 5) (lv' := [some (.ref p), some (va_rf m), none, none, none]) (st' := []) (P := hX (hI R4) E) (kr := ?_) (kc := ?_)
  rotate_left
  · obtain ⟨c, tc, hc⟩ := o3
    simp only [eCl, List.mem_cons, List.not_mem_nil, or_false] at hc
    intro kr
    rcases hc with rfl | rfl | rfl | rfl | rfl | rfl | rfl | rfl
    · exact x_callU hG (Ky := kX16_constant) (As := [va_rf m]) dX23_constant_5 tc rfl q2320 q2308 (Or.inl q2307) xm_X15_constant me_X16_constant is_X16_constant q2338 rfl rfl (Nat.le_of_ble_eq_true rfl) (MX.post (hK.1 tc g4) kr)
    · exact x_callU hG (Ky := kX17_constant) (As := [va_rf m]) dX23_constant_5 tc rfl q2320 q2308 (Or.inl q2307) xm_X15_constant me_X17_constant is_X17_constant q2332 rfl rfl (Nat.le_of_ble_eq_true rfl) (MX.post (hK.2.1 tc g4) kr)
    · exact x_callU hG (Ky := kX18_constant) (As := [va_rf m]) dX23_constant_5 tc rfl q2320 q2308 (Or.inl q2307) xm_X15_constant me_X18_constant is_X18_constant q2337 rfl rfl (Nat.le_of_ble_eq_true rfl) (MX.post (hK.2.2.1 tc g4) kr)
    · exact x_callU hG (Ky := kX19_constant) (As := [va_rf m]) dX23_constant_5 tc rfl q2320 q2308 (Or.inl q2307) xm_X15_constant me_X19_constant is_X19_constant q2335 rfl rfl (Nat.le_of_ble_eq_true rfl) (MX.post (hK.2.2.2.1 tc g4) kr)
    · exact x_callU hG (Ky := kX20_constant) (As := [va_rf m]) dX23_constant_5 tc rfl q2320 q2308 (Or.inl q2307) xm_X15_constant me_X20_constant is_X20_constant q2309 rfl rfl (Nat.le_of_ble_eq_true rfl) (MX.post (hK.2.2.2.2.1 tc g4) kr)
    · exact x_callU hG (Ky := kX21_constant) (As := [va_rf m]) dX23_constant_5 tc rfl q2320 q2308 (Or.inl q2307) xm_X15_constant me_X21_constant is_X21_constant q2336 rfl rfl (Nat.le_of_ble_eq_true rfl) (MX.post (hK.2.2.2.2.2.1 tc g4) kr)
    · exact x_callU hG (Ky := kX22_constant) (As := [va_rf m]) dX23_constant_5 tc rfl q2320 q2308 (Or.inl q2307) xm_X15_constant me_X22_constant is_X22_constant q2333 rfl rfl (Nat.le_of_ble_eq_true rfl) (MX.post (hK.2.2.2.2.2.2.1 tc g4) kr)
    · exact x_callU hG (Ky := kX23_constant) (As := [va_rf m]) dX23_constant_5 tc rfl q2320 q2308 (Or.inl q2307) xm_X15_constant me_X23_constant is_X23_constant q2334 rfl rfl (Nat.le_of_ble_eq_true rfl) (MX.post (hK.2.2.2.2.2.2.2 tc g4) kr)
  rintro _ A4 (⟨v4, rfl, h1⟩ | ⟨x4, rfl, h1⟩)
  rotate_left
  · exact ⟨rfl, Or.inr ⟨_, rfl, h1⟩⟩
  refine X.xok (fun w4 => ?_)
  replace h := h v4 A4 w4 h1
  change X _ _ _ _ A4 _ _ [.int v4]
  refine x_istore_n dX23_constant_8 (by decide) ?_
  refine X.lvs (lv' := [some (.ref p), some (va_rf m), some (.int v4), none, none]) (by generalize m = z; cases z <;> rfl) ?_
  refine x_aload_n dX23_constant_9 rfl ?_
  obtain ⟨o5, h⟩ := h
  refine x_get (v := va_rf (A4.P p 2)) hG dX23_constant_10 f_X23_19_21 o5 rfl ?_
  refine x_aloadq_n dX23_constant_13 rfl ?_
  obtain ⟨b6, e6, h⟩ := h
  rw [e6]
  obtain ⟨o7, h⟩ := h
  obtain ⟨R8, g8, h⟩ := h
  refine z_disp (pc' := 14) (lv' := [some (.ref p), some (va_rf m), some (.int v4), none, none]) (st' := []) (P := hX (hI R8) E) (kr := ?_) (kc := ?_)
  rotate_left
  · obtain ⟨c, tc, hc⟩ := o7
    simp only [eCl, List.mem_cons, List.not_mem_nil, or_false] at hc
    intro kr
    rcases hc with rfl | rfl | rfl | rfl | rfl | rfl | rfl | rfl
    · exact x_callU hG (Ky := kX16_constant) (As := [va_rf m]) dX23_constant_14 tc rfl q2320 q2308 (Or.inl q2307) xm_X15_constant me_X16_constant is_X16_constant q2338 rfl rfl (Nat.le_of_ble_eq_true rfl) (MX.post (hK.1 tc g8) kr)
    · exact x_callU hG (Ky := kX17_constant) (As := [va_rf m]) dX23_constant_14 tc rfl q2320 q2308 (Or.inl q2307) xm_X15_constant me_X17_constant is_X17_constant q2332 rfl rfl (Nat.le_of_ble_eq_true rfl) (MX.post (hK.2.1 tc g8) kr)
    · exact x_callU hG (Ky := kX18_constant) (As := [va_rf m]) dX23_constant_14 tc rfl q2320 q2308 (Or.inl q2307) xm_X15_constant me_X18_constant is_X18_constant q2337 rfl rfl (Nat.le_of_ble_eq_true rfl) (MX.post (hK.2.2.1 tc g8) kr)
    · exact x_callU hG (Ky := kX19_constant) (As := [va_rf m]) dX23_constant_14 tc rfl q2320 q2308 (Or.inl q2307) xm_X15_constant me_X19_constant is_X19_constant q2335 rfl rfl (Nat.le_of_ble_eq_true rfl) (MX.post (hK.2.2.2.1 tc g8) kr)
    · exact x_callU hG (Ky := kX20_constant) (As := [va_rf m]) dX23_constant_14 tc rfl q2320 q2308 (Or.inl q2307) xm_X15_constant me_X20_constant is_X20_constant q2309 rfl rfl (Nat.le_of_ble_eq_true rfl) (MX.post (hK.2.2.2.2.1 tc g8) kr)
    · exact x_callU hG (Ky := kX21_constant) (As := [va_rf m]) dX23_constant_14 tc rfl q2320 q2308 (Or.inl q2307) xm_X15_constant me_X21_constant is_X21_constant q2336 rfl rfl (Nat.le_of_ble_eq_true rfl) (MX.post (hK.2.2.2.2.2.1 tc g8) kr)
    · exact x_callU hG (Ky := kX22_constant) (As := [va_rf m]) dX23_constant_14 tc rfl q2320 q2308 (Or.inl q2307) xm_X15_constant me_X22_constant is_X22_constant q2333 rfl rfl (Nat.le_of_ble_eq_true rfl) (MX.post (hK.2.2.2.2.2.2.1 tc g8) kr)
    · exact x_callU hG (Ky := kX23_constant) (As := [va_rf m]) dX23_constant_14 tc rfl q2320 q2308 (Or.inl q2307) xm_X15_constant me_X23_constant is_X23_constant q2334 rfl rfl (Nat.le_of_ble_eq_true rfl) (MX.post (hK.2.2.2.2.2.2.2 tc g8) kr)
  rintro _ A8 (⟨v8, rfl, h1⟩ | ⟨x8, rfl, h1⟩)
  rotate_left
  · exact ⟨rfl, Or.inr ⟨_, rfl, h1⟩⟩
  refine X.xok (fun w8 => ?_)
  replace h := h v8 A8 w8 h1
  change X _ _ _ _ A8 _ _ [.int v8]
  refine x_istore_n dX23_constant_17 (by decide) ?_
  refine x_aload_n dX23_constant_18 rfl ?_
  obtain ⟨o9, h⟩ := h
  refine x_get (v := va_rf (A8.P p 3)) hG dX23_constant_19 f_X23_22_21 o9 rfl ?_
  refine x_aloadq_n dX23_constant_22 rfl ?_
  obtain ⟨b10, e10, h⟩ := h
  rw [e10]
  obtain ⟨o11, h⟩ := h
  obtain ⟨R12, g12, h⟩ := h
  refine z_disp (pc' := 23) (lv' := [some (.ref p), some (va_rf m), some (.int v4), some (.int v8), none]) (st' := []) (P := hX (hI R12) E) (kr := ?_) (kc := ?_)
  rotate_left
  · obtain ⟨c, tc, hc⟩ := o11
    simp only [eCl, List.mem_cons, List.not_mem_nil, or_false] at hc
    intro kr
    rcases hc with rfl | rfl | rfl | rfl | rfl | rfl | rfl | rfl
    · exact x_callU hG (Ky := kX16_constant) (As := [va_rf m]) dX23_constant_23 tc rfl q2320 q2308 (Or.inl q2307) xm_X15_constant me_X16_constant is_X16_constant q2338 rfl rfl (Nat.le_of_ble_eq_true rfl) (MX.post (hK.1 tc g12) kr)
    · exact x_callU hG (Ky := kX17_constant) (As := [va_rf m]) dX23_constant_23 tc rfl q2320 q2308 (Or.inl q2307) xm_X15_constant me_X17_constant is_X17_constant q2332 rfl rfl (Nat.le_of_ble_eq_true rfl) (MX.post (hK.2.1 tc g12) kr)
    · exact x_callU hG (Ky := kX18_constant) (As := [va_rf m]) dX23_constant_23 tc rfl q2320 q2308 (Or.inl q2307) xm_X15_constant me_X18_constant is_X18_constant q2337 rfl rfl (Nat.le_of_ble_eq_true rfl) (MX.post (hK.2.2.1 tc g12) kr)
    · exact x_callU hG (Ky := kX19_constant) (As := [va_rf m]) dX23_constant_23 tc rfl q2320 q2308 (Or.inl q2307) xm_X15_constant me_X19_constant is_X19_constant q2335 rfl rfl (Nat.le_of_ble_eq_true rfl) (MX.post (hK.2.2.2.1 tc g12) kr)
    · exact x_callU hG (Ky := kX20_constant) (As := [va_rf m]) dX23_constant_23 tc rfl q2320 q2308 (Or.inl q2307) xm_X15_constant me_X20_constant is_X20_constant q2309 rfl rfl (Nat.le_of_ble_eq_true rfl) (MX.post (hK.2.2.2.2.1 tc g12) kr)
    · exact x_callU hG (Ky := kX21_constant) (As := [va_rf m]) dX23_constant_23 tc rfl q2320 q2308 (Or.inl q2307) xm_X15_constant me_X21_constant is_X21_constant q2336 rfl rfl (Nat.le_of_ble_eq_true rfl) (MX.post (hK.2.2.2.2.2.1 tc g12) kr)
    · exact x_callU hG (Ky := kX22_constant) (As := [va_rf m]) dX23_constant_23 tc rfl q2320 q2308 (Or.inl q2307) xm_X15_constant me_X22_constant is_X22_constant q2333 rfl rfl (Nat.le_of_ble_eq_true rfl) (MX.post (hK.2.2.2.2.2.2.1 tc g12) kr)
    · exact x_callU hG (Ky := kX23_constant) (As := [va_rf m]) dX23_constant_23 tc rfl q2320 q2308 (Or.inl q2307) xm_X15_constant me_X23_constant is_X23_constant q2334 rfl rfl (Nat.le_of_ble_eq_true rfl) (MX.post (hK.2.2.2.2.2.2.2 tc g12) kr)
  rintro _ A12 (⟨v12, rfl, h1⟩ | ⟨x12, rfl, h1⟩)
  rotate_left
  · exact ⟨rfl, Or.inr ⟨_, rfl, h1⟩⟩
  refine X.xok (fun w12 => ?_)
  replace h := h v12 A12 w12 h1
  change X _ _ _ _ A12 _ _ [.int v12]
  refine x_istore dX23_constant_26 (by decide) ?_
  refine x_iload_n dX23_constant_28 rfl ?_
  refine x_via 38 (A' := A12) (lv' := [none, none, none, none, none]) (st' := [.int (if v4 = 0 then v12 else v8)]) ?_ (fun k38 => ?_)
  rotate_left
  · refine x_if_eq (tgt := 36) dX23_constant_29 (by decide) (fun c29 => ?_) (fun c29 => ?_)
    · refine x_iload dX23_constant_36 rfl ?_
      change X _ _ _ _ _ _ [some (.ref p), some (va_rf m), some (.int v4), some (.int v8), some (.int v12)] [.int v12]
      simp only [if_pos c29] at k38 ⊢
      exact X.weak (xle_n (xle_n (xle_n (xle_n (xle_n xle_nil))))) k38
    · refine x_iload_n dX23_constant_32 rfl ?_
      refine x_goto (tgt := 38) dX23_constant_33 (by decide) ?_
      change X _ _ _ _ _ _ [some (.ref p), some (va_rf m), some (.int v4), some (.int v8), some (.int v12)] [.int v8]
      simp only [if_neg c29] at k38 ⊢
      exact X.weak (xle_n (xle_n (xle_n (xle_n (xle_n xle_nil))))) k38
  exact x_iret dX23_constant_38 rfl (Or.inl ⟨_, rfl, h⟩)
def rk_C (G : xG) : Nat → (Nat → Option Nat → (Int32 → xA → Prop) → (Nat → xA → Prop) → xA → Prop)
  | 0 => (fun _ _ _ _ _ => False)
  | n + 1 => (fun p a0 Q E A => (A.tg p = 15 → w_X16_constant G (rk_C G n) p a0 Q E A) ∧ (A.tg p = 16 → w_X17_constant G (rk_C G n) p a0 Q E A) ∧ (A.tg p = 17 → w_X18_constant G (rk_C G n) p a0 Q E A) ∧ (A.tg p = 18 → w_X19_constant G (rk_C G n) p a0 Q E A) ∧ (A.tg p = 19 → w_X20_constant G (rk_C G n) p a0 Q E A) ∧ (A.tg p = 20 → w_X21_constant G (rk_C G n) p a0 Q E A) ∧ (A.tg p = 21 → w_X22_constant G (rk_C G n) p a0 Q E A) ∧ (A.tg p = 22 → w_X23_constant G (rk_C G n) p a0 Q E A))
theorem rc_C (hG : xOK G) (hO : xHO G) {dp : Nat} : ∀ n, xRC_C G (dp + n + 20) (rk_C G n)
  | 0 => ⟨fun _ h => False.elim h, fun _ h => False.elim h, fun _ h => False.elim h, fun _ h => False.elim h, fun _ h => False.elim h, fun _ h => False.elim h, fun _ h => False.elim h, fun _ h => False.elim h⟩
  | n + 1 => ⟨fun t h => m_X16_constant (dp := dp + n) hG hO (rc_C hG hO n) (h.1 t), fun t h => m_X17_constant (dp := dp + n) hG hO (rc_C hG hO n) (h.2.1 t), fun t h => m_X18_constant (dp := dp + n) hG hO (rc_C hG hO n) (h.2.2.1 t), fun t h => m_X19_constant (dp := dp + n) hG hO (rc_C hG hO n) (h.2.2.2.1 t), fun t h => m_X20_constant (dp := dp + n) hG hO (rc_C hG hO n) (h.2.2.2.2.1 t), fun t h => m_X21_constant (dp := dp + n) hG hO (rc_C hG hO n) (h.2.2.2.2.2.1 t), fun t h => m_X22_constant (dp := dp + n) hG hO (rc_C hG hO n) (h.2.2.2.2.2.2.1 t), fun t h => m_X23_constant (dp := dp + n) hG hO (rc_C hG hO n) (h.2.2.2.2.2.2.2 t)⟩
def g_C_0 (G : xG) : Nat → Option Nat → (Int32 → xA → Prop) → (Nat → xA → Prop) → xA → Prop := (rk_C G 900)
end W093
