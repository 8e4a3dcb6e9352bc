/-! ===== 112.hstop (tools/h045.py) ===== -/
set_option maxRecDepth 100000
section W112
variable {G : xG}
def w_J0_init_2 (G : xG) (p : Nat) (a : Option Nat) (b : Option Nat) (c : Int32) (z : Int32) (Q : xA → Prop) (A : xA) : Prop := xok G A → A.tg p = 4 ∧ (∀ A2 : xA, A2 = A.setP p 0 (some p) → (∀ r3_ : Option Nat, (∀ A4 : xA, A4 = A2.setP p 1 r3_ → (∀ r5_ : Option Nat, (∀ A6 : xA, A6 = A4.setP p 2 r5_ → (((z = 0 → ∀ A7 : xA, A7 = A6.setP p 1 (none : Option Nat) → (∀ A8 : xA, A8 = A7.setP p 3 a → (∀ A9 : xA, A9 = A8.setP p 0 b → (((c = 0 → ∀ A10 : xA, A10 = A9.setP p 2 (none : Option Nat) → (Q A10)) ∧ (¬ c = 0 → Q A9)))))) ∧ (¬ z = 0 → False))))))))
theorem m_J0_init_2 (hG : xOK G) (hO : xHO G) {dp : Nat} {p : Nat} {a : Option Nat} {b : Option Nat} {c : Int32} {z : Int32} {Q : xA → Prop} {A : xA} (h : w_J0_init_2 G p a b c z Q A) : MX G (dp + 1) kJ0_init_2 [.ref p, va_rf a, va_rf b, .int c, .int z] A (hV Q) := by
  unfold w_J0_init_2 at h
  refine MX.of rfl (by cases a <;> cases b <;> exact Nat.le_of_ble_eq_true rfl) ?_
  refine X.lvs (lv' := [some (.ref p), some (va_rf a), some (va_rf b), some (.int c), some (.int z)]) (by cases a <;> cases b <;> rfl) ?_
  refine X.xok (fun w0 => ?_)
  replace h := h w0
  refine x_aload_n dJ0_init_2_0 rfl ?_
  refine x_objInit hG dJ0_init_2_1 q404 q261 q262 (Nat.le_of_ble_eq_true rfl) ?_
  refine x_aload_n dJ0_init_2_4 rfl ?_
  refine x_aload_n dJ0_init_2_5 rfl ?_
  obtain ⟨o1, h⟩ := h
  refine z_putP hG hO.1 (some p) dJ0_init_2_6 f_J0_7_3 ⟨_, rfl, Or.inl rfl⟩ o1 (by decide) (Or.inl ⟨_, rfl⟩) (fun A2 e2 => ?_)
  replace h := h A2 e2
  refine x_aload_n dJ0_init_2_9 rfl ?_
  obtain ⟨r3_, z3⟩ := hO.2.2.2.2.2.1
  replace h := h r3_
  refine x_gets hG (C := "java/lang/Throwable") z3 (Or.inl q405) (Or.inl rfl) dJ0_init_2_10 ?_
  refine z_putP hG hO.1 r3_ dJ0_init_2_13 f_J0_17_3 ⟨_, rfl, Or.inl rfl⟩ (kP e2 o1) (by decide) (Or.inr ⟨_, rfl⟩) (fun A4 e4 => ?_)
  replace h := h A4 e4
  refine x_aload_n dJ0_init_2_16 rfl ?_
  obtain ⟨r5_, z5⟩ := hO.2.2.2.2.2.2
  replace h := h r5_
  refine x_gets hG (C := "java/lang/Throwable") z5 (Or.inl q407) (Or.inl rfl) dJ0_init_2_17 ?_
  refine z_putP hG hO.1 r5_ dJ0_init_2_20 f_J0_24_3 ⟨_, rfl, Or.inl rfl⟩ (kP e4 (kP e2 o1)) (by decide) (Or.inl ⟨_, rfl⟩) (fun A6 e6 => ?_)
  replace h := h A6 e6
  refine x_iload dJ0_init_2_23 rfl ?_
  refine x_if_eq (tgt := 36) dJ0_init_2_25 (by decide) (fun c25 => ?_) (fun c25 => ?_)
  · replace h := h.1 c25
    refine x_aload_n dJ0_init_2_36 rfl ?_
    refine x_null dJ0_init_2_37 ?_
    refine z_putP hG hO.1 (none : Option Nat) dJ0_init_2_38 f_J0_17_3 ⟨_, rfl, Or.inl rfl⟩ (kP e6 (kP e4 (kP e2 o1))) (by decide) (Or.inr ⟨_, rfl⟩) (fun A7 e7 => ?_)
    replace h := h A7 e7
    refine x_aload_n dJ0_init_2_41 rfl ?_
    refine x_aloadq_n dJ0_init_2_42 rfl ?_
    refine z_putP hG hO.1 a dJ0_init_2_43 f_J0_31_3 ⟨_, rfl, Or.inl rfl⟩ (kP e7 (kP e6 (kP e4 (kP e2 o1)))) (by decide) (Or.inl ⟨_, rfl⟩) (fun A8 e8 => ?_)
    replace h := h A8 e8
    refine x_aload_n dJ0_init_2_46 rfl ?_
    refine x_aloadq_n dJ0_init_2_47 rfl ?_
    refine z_putP hG hO.1 b dJ0_init_2_48 f_J0_7_3 ⟨_, rfl, Or.inl rfl⟩ (kP e8 (kP e7 (kP e6 (kP e4 (kP e2 o1))))) (by decide) (Or.inl ⟨_, rfl⟩) (fun A9 e9 => ?_)
    replace h := h A9 e9
    refine x_iload_n dJ0_init_2_51 rfl ?_
    refine x_if_ne (tgt := 60) dJ0_init_2_52 (by decide) (fun c52 => ?_) (fun c52 => ?_)
    · replace h := h.2 c52
      exact x_vret dJ0_init_2_60 rfl ⟨rfl, h⟩
    · replace h := h.1 c52
      refine x_aload_n dJ0_init_2_55 rfl ?_
      refine x_null dJ0_init_2_56 ?_
      refine z_putP hG hO.1 (none : Option Nat) dJ0_init_2_57 f_J0_24_3 ⟨_, rfl, Or.inl rfl⟩ (kP e9 (kP e8 (kP e7 (kP e6 (kP e4 (kP e2 o1)))))) (by decide) (Or.inl ⟨_, rfl⟩) (fun A10 e10 => ?_)
      replace h := h A10 e10
      exact x_vret dJ0_init_2_60 rfl ⟨rfl, h⟩
  · replace h := h.2 c25
    refine x_aload_n dJ0_init_2_28 rfl ?_
    exact h.elim
def w_J1_init (G : xG) (p : Nat) (a : Option Nat) (b : Option Nat) (c : Int32) (z : Int32) (Q : xA → Prop) (A : xA) : Prop := xok G A → ∃ R1 : xA → Prop, w_J0_init_2 G p a b c z R1 A ∧ (∀ A1 : xA, xok G A1 → R1 A1 → (Q A1))
theorem m_J1_init (hG : xOK G) (hO : xHO G) {dp : Nat} {p : Nat} {a : Option Nat} {b : Option Nat} {c : Int32} {z : Int32} {Q : xA → Prop} {A : xA} (h : w_J1_init G p a b c z Q A) : MX G (dp + 2) kJ1_init [.ref p, va_rf a, va_rf b, .int c, .int z] A (hV Q) := by
  unfold w_J1_init at h
  refine MX.of rfl (by cases a <;> cases b <;> exact Nat.le_of_ble_eq_true rfl) ?_
  refine X.lvs (lv' := [some (.ref p), some (va_rf a), some (va_rf b), some (.int c), some (.int z)]) (by cases a <;> cases b <;> rfl) ?_
  refine X.xok (fun w0 => ?_)
  replace h := h w0
  refine x_aload_n dJ1_init_0 rfl ?_
  refine x_aloadq_n dJ1_init_1 rfl ?_
  refine x_aloadq_n dJ1_init_2 rfl ?_
  refine x_iload_n dJ1_init_3 rfl ?_
  refine x_iload dJ1_init_4 rfl ?_
  obtain ⟨R1, g1, h⟩ := h
  refine x_callI hG (Ky := kJ0_init_2) (As := [va_rf a, va_rf b, .int c, .int z]) dJ1_init_6 lk_J1_16 me_J0_init_2 is_J0_init_2 rfl rfl rfl rfl rfl (Nat.le_of_ble_eq_true rfl) (MX.post (m_J0_init_2 hG hO g1) ?_)
  rintro _ A1 ⟨rfl, h1⟩
  refine X.xok (fun w1 => ?_)
  replace h := h A1 w1 h1
  change X _ _ _ _ A1 _ _ []
  exact x_vret dJ1_init_9 rfl ⟨rfl, h⟩
def w_J2_init (G : xG) (p : Nat) (a : Option Nat) (b : Option Nat) (c : Int32) (z : Int32) (Q : xA → Prop) (A : xA) : Prop := xok G A → ∃ R1 : xA → Prop, w_J1_init G p a b c z R1 A ∧ (∀ A1 : xA, xok G A1 → R1 A1 → (Q A1))
theorem m_J2_init (hG : xOK G) (hO : xHO G) {dp : Nat} {p : Nat} {a : Option Nat} {b : Option Nat} {c : Int32} {z : Int32} {Q : xA → Prop} {A : xA} (h : w_J2_init G p a b c z Q A) : MX G (dp + 3) kJ2_init [.ref p, va_rf a, va_rf b, .int c, .int z] A (hV Q) := by
  unfold w_J2_init at h
  refine MX.of rfl (by cases a <;> cases b <;> exact Nat.le_of_ble_eq_true rfl) ?_
  refine X.lvs (lv' := [some (.ref p), some (va_rf a), some (va_rf b), some (.int c), some (.int z)]) (by cases a <;> cases b <;> rfl) ?_
  refine X.xok (fun w0 => ?_)
  replace h := h w0
  refine x_aload_n dJ2_init_0 rfl ?_
  refine x_aloadq_n dJ2_init_1 rfl ?_
  refine x_aloadq_n dJ2_init_2 rfl ?_
  refine x_iload_n dJ2_init_3 rfl ?_
  refine x_iload dJ2_init_4 rfl ?_
  obtain ⟨R1, g1, h⟩ := h
  refine x_callI hG (Ky := kJ1_init) (As := [va_rf a, va_rf b, .int c, .int z]) dJ2_init_6 lk_J2_16 me_J1_init is_J1_init rfl rfl rfl rfl rfl (Nat.le_of_ble_eq_true rfl) (MX.post (m_J1_init hG hO g1) ?_)
  rintro _ A1 ⟨rfl, h1⟩
  refine X.xok (fun w1 => ?_)
  replace h := h A1 w1 h1
  change X _ _ _ _ A1 _ _ []
  exact x_vret dJ2_init_9 rfl ⟨rfl, h⟩
def w_X3_init (G : xG) (p : Nat) (Q : xA → Prop) (A : xA) : Prop := xok G A → ∃ R1 : xA → Prop, w_J2_init G p (none : Option Nat) (none : Option Nat) (0 : Int32) (0 : Int32) R1 A ∧ (∀ A1 : xA, xok G A1 → R1 A1 → (Q A1))
theorem m_X3_init (hG : xOK G) (hO : xHO G) {dp : Nat} {p : Nat} {Q : xA → Prop} {A : xA} (h : w_X3_init G p Q A) : MX G (dp + 4) kX3_init [.ref p] A (hV Q) := by
  unfold w_X3_init at h
  refine MX.of rfl (Nat.le_of_ble_eq_true rfl) ?_
  change X _ _ _ _ _ _ [some (.ref p)] _
  refine X.xok (fun w0 => ?_)
  replace h := h w0
  refine x_aload_n dX3_init_0 rfl ?_
  refine x_null dX3_init_1 ?_
  refine x_null dX3_init_2 ?_
  refine x_iconst_ (v := (0 : Int32)) dX3_init_3 (by decide) ?_
  refine x_iconst_ (v := (0 : Int32)) dX3_init_4 (by decide) ?_
  obtain ⟨R1, g1, h⟩ := h
  refine x_callI hG (Ky := kJ2_init) (As := [.null, .null, .int (0 : Int32), .int (0 : Int32)]) dX3_init_5 lk_X3_1 me_J2_init is_J2_init rfl rfl rfl rfl rfl (Nat.le_of_ble_eq_true rfl) (MX.post (m_J2_init hG hO g1) ?_)
  rintro _ A1 ⟨rfl, h1⟩
  refine X.xok (fun w1 => ?_)
  replace h := h A1 w1 h1
  change X _ _ _ _ A1 _ _ []
  exact x_vret dX3_init_8 rfl ⟨rfl, h⟩
end W112
