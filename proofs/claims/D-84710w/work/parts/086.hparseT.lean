/-! ===== 086.hparseT (tools/h045.py) ===== -/
set_option maxRecDepth 100000
section W086
variable {G : xG}
def w_X1_tell (G : xG) (p : Nat) (Q : Option Nat → xA → Prop) (E : Nat → xA → Prop) (A : xA) : Prop := xok G A → A.tg p = 2 ∧ (∃ R1 : Int32 → xA → Prop, w_X1_is G p (11 : Int32) R1 A ∧ (∀ (v1 : Int32) (A1 : xA), xok G A1 → (v1 = 0 ∨ v1 = 1) → R1 v1 A1 → (A1.tg p = 2 ∧ (∀ A4 : xA, A4 = A1.setI p 3 ((A1.I p 3) + (1 : Int32)) → (∃ R5 : Int32 → xA → Prop, w_X1_here G p R5 A4 ∧ (∀ (v5 : Int32) (A5 : xA), xok G A5 → R5 v5 A5 → (A5.tg p = 2 ∧ (∃ R6 : Int32 → xA → Prop, w_X1_needName G p R6 E A5 ∧ (∀ (v6 : Int32) (A6 : xA), xok G A6 → R6 v6 A6 → (∃ J8 : Option Nat → xA → Prop, (∀ (y8_4 : Option Nat) (A8 : xA), J8 y8_4 A8 → A8.tg p = 2 ∧ (∃ R9 : xA → Prop, w_X1_need G p (69 : Int32) R9 E A8 ∧ (∀ A9 : xA, xok G A9 → R9 A9 → (Q y8_4 A9)))) ∧ ((v1 = 0 → A6.tg p = 2 ∧ (∃ R20 : Int32 → xA → Prop, w_X1_is G p (64 : Int32) R20 A6 ∧ (∀ (v20 : Int32) (A20 : xA), xok G A20 → (v20 = 0 ∨ v20 = 1) → R20 v20 A20 → (((v20 = 0 → rmO G A20 3 ∧ (∀ A23 : xA, A23 = A20.new 25 0 3 0 → (A23.tg p = 2 ∧ (∃ R24 : Int32 → xA → Prop, w_X1_takes G p (72 : Int32) R24 A23 ∧ (∀ (v24 : Int32) (A24 : xA), xok G A24 → (v24 = 0 ∨ v24 = 1) → R24 v24 A24 → (∃ J26 : Option Nat → xA → Prop, (∀ (y26_s0 : Option Nat) (A26 : xA), J26 y26_s0 A26 → ∃ R27 : xA → Prop, w_X26_init G A20.n v5 v6 y26_s0 R27 A26 ∧ (∀ A27 : xA, xok G A27 → R27 A27 → (J8 (some A20.n) A27))) ∧ ((v24 = 0 → J26 (none : Option Nat) A24) ∧ (¬ v24 = 0 → A24.tg p = 2 ∧ (∃ R28 : Option Nat → xA → Prop, g_P_0 G p R28 E A24 ∧ (∀ (v28 : Option Nat) (A28 : xA), xok G A28 → R28 v28 A28 → (J26 v28 A28))))))))))) ∧ (¬ v20 = 0 → A20.tg p = 2 ∧ (∃ R30 : xA → Prop, w_X1_opens G p (64 : Int32) R30 E A20 ∧ (∀ A30 : xA, xok G A30 → R30 A30 → (A30.tg p = 2 ∧ (∃ R32 : Option Nat → xA → Prop, g_P_0 G p R32 E A30 ∧ (∀ (v32 : Option Nat) (A32 : xA), xok G A32 → R32 v32 A32 → (A32.tg p = 2 ∧ (∃ R34 : xA → Prop, w_X1_closes G p (65 : Int32) R34 E A32 ∧ (∀ A34 : xA, xok G A34 → R34 A34 → (rmO G A34 4 ∧ (∀ A37 : xA, A37 = A34.new 24 0 4 0 → (∃ R38 : xA → Prop, w_X25_init G A34.n v5 v6 v1 v32 R38 A37 ∧ (∀ A38 : xA, xok G A38 → R38 A38 → (J8 (some A34.n) A38))))))))))))))))))) ∧ (¬ v1 = 0 → A6.tg p = 2 ∧ (∃ R11 : xA → Prop, w_X1_opens G p (64 : Int32) R11 E A6 ∧ (∀ A11 : xA, xok G A11 → R11 A11 → (A11.tg p = 2 ∧ (∃ R13 : Option Nat → xA → Prop, g_P_0 G p R13 E A11 ∧ (∀ (v13 : Option Nat) (A13 : xA), xok G A13 → R13 v13 A13 → (A13.tg p = 2 ∧ (∃ R15 : xA → Prop, w_X1_closes G p (65 : Int32) R15 E A13 ∧ (∀ A15 : xA, xok G A15 → R15 A15 → (rmO G A15 4 ∧ (∀ A18 : xA, A18 = A15.new 24 0 4 0 → (∃ R19 : xA → Prop, w_X25_init G A15.n v5 v6 v1 v13 R19 A18 ∧ (∀ A19 : xA, xok G A19 → R19 A19 → (J8 (some A15.n) A19)))))))))))))))))))))))))
theorem m_X1_tell (hG : xOK G) (hO : xHO G) {dp : Nat} {p : Nat} {Q : Option Nat → xA → Prop} {E : Nat → xA → Prop} {A : xA} (h : w_X1_tell G p Q E A) : MX G (dp + 715) kX1_tell [.ref p] A (hX (hR Q) E) := by
  unfold w_X1_tell at h
  refine MX.of rfl (Nat.le_of_ble_eq_true rfl) ?_
  change X _ _ _ _ _ _ [some (.ref p), none, none, none, none, none] _
  refine X.xok (fun w0 => ?_)
  replace h := h w0
  refine x_aload_n dX1_tell_0 rfl ?_
  refine x_bipush_ (v := (11 : Int32)) dX1_tell_1 (by decide) ?_
  obtain ⟨o2, h⟩ := h
  obtain ⟨R1, g1, h⟩ := h
  refine x_callV hG (Ky := kX1_is) (As := [.int (11 : Int32)]) dX1_tell_3 o2 rfl lk_X1_71 me_X1_is is_X1_is se_X1_is rfl rfl (Nat.le_of_ble_eq_true rfl) (MX.post (m_X1_is hG hO g1) ?_)
  rintro _ A1 ⟨v1, rfl, zv1, h1⟩
  refine X.xok (fun w1 => ?_)
  replace h := h v1 A1 w1 zv1 h1
  change X _ _ _ _ A1 _ _ [.int v1]
  refine x_istore_n dX1_tell_6 (by decide) ?_
  refine x_aload_n dX1_tell_7 rfl ?_
  refine x_dup dX1_tell_8 rfl ?_
  obtain ⟨o3, h⟩ := h
  refine x_get (v := .int (A1.I p 3)) hG dX1_tell_9 f_X1_36_1 o3 rfl ?_
  refine x_iconst_ (v := (1 : Int32)) dX1_tell_12 (by decide) ?_
  refine x_iadd dX1_tell_13 ?_
  refine z_putI hG hO.1 dX1_tell_14 f_X1_36_1 ⟨_, rfl, Or.inl rfl⟩ o3 (by decide) rfl rfl ⟨_, rfl⟩ (fun A4 e4 => ?_)
  replace h := h A4 e4
  refine x_aload_n dX1_tell_17 rfl ?_
  obtain ⟨R5, g5, h⟩ := h
  refine x_callV hG (Ky := kX1_here) (As := []) dX1_tell_18 (kI e4 o3) rfl lk_X1_66 me_X1_here is_X1_here se_X1_here rfl rfl (Nat.le_of_ble_eq_true rfl) (MX.post (m_X1_here hG hO g5) ?_)
  rintro _ A5 ⟨v5, rfl, h1⟩
  refine X.xok (fun w5 => ?_)
  replace h := h v5 A5 w5 h1
  change X _ _ _ _ A5 _ _ [.int v5]
  refine x_istore_n dX1_tell_21 (by decide) ?_
  refine x_aload_n dX1_tell_22 rfl ?_
  obtain ⟨o7, h⟩ := h
  obtain ⟨R6, g6, h⟩ := h
  refine x_callV hG (Ky := kX1_needName) (As := []) dX1_tell_23 o7 rfl lk_X1_95 me_X1_needName is_X1_needName se_X1_needName rfl rfl (Nat.le_of_ble_eq_true rfl) (MX.post (m_X1_needName hG hO g6) ?_)
  rintro _ A6 (⟨v6, rfl, h1⟩ | ⟨x6, rfl, h1⟩)
  rotate_left
  · exact ⟨rfl, Or.inr ⟨_, rfl, h1⟩⟩
  refine X.xok (fun w6 => ?_)
  replace h := h v6 A6 w6 h1
  change X _ _ _ _ A6 _ _ [.int v6]
  refine x_istore_n dX1_tell_26 (by decide) ?_
  refine x_iload_n dX1_tell_27 rfl ?_
  obtain ⟨J8, g8, h⟩ := h
  have kj8 : ∀ (y8_4 : Option Nat) (A8 : xA), J8 y8_4 A8 → X G (dp + 715) kX1_tell (hX (hR Q) E) A8 103 [some (.ref p), none, none, none, some (va_rf y8_4), none] [] := by
    intro y8_4 A8 h
    replace h := g8 y8_4 A8 h
    refine x_aload_n dX1_tell_103 rfl ?_
    refine x_bipush_ (v := (69 : Int32)) dX1_tell_104 (by decide) ?_
    obtain ⟨o10, h⟩ := h
    obtain ⟨R9, g9, h⟩ := h
    refine x_callV hG (Ky := kX1_need) (As := [.int (69 : Int32)]) dX1_tell_106 o10 rfl lk_X1_89 me_X1_need is_X1_need se_X1_need rfl rfl (Nat.le_of_ble_eq_true rfl) (MX.post (m_X1_need hG hO g9) ?_)
    rintro _ A9 (⟨rfl, h1⟩ | ⟨x9, rfl, h1⟩)
    rotate_left
    · exact ⟨rfl, Or.inr ⟨_, rfl, h1⟩⟩
    refine X.xok (fun w9 => ?_)
    replace h := h A9 w9 h1
    change X _ _ _ _ A9 _ _ []
    refine x_aloadq dX1_tell_109 rfl ?_
    exact x_aret (r := y8_4) dX1_tell_111 rfl (Or.inl ⟨_, rfl⟩) (Or.inl ⟨_, rfl, h⟩)
  refine x_if_ne (tgt := 40) dX1_tell_28 (by decide) (fun c28 => ?_) (fun c28 => ?_)
  · replace h := h.2 c28
    refine x_aload_n dX1_tell_40 rfl ?_
    refine x_bipush_ (v := (64 : Int32)) dX1_tell_41 (by decide) ?_
    obtain ⟨o12, h⟩ := h
    obtain ⟨R11, g11, h⟩ := h
    refine x_callV hG (Ky := kX1_opens) (As := [.int (64 : Int32)]) dX1_tell_43 o12 rfl lk_X1_128 me_X1_opens is_X1_opens se_X1_opens rfl rfl (Nat.le_of_ble_eq_true rfl) (MX.post (m_X1_opens hG hO g11) ?_)
    rintro _ A11 (⟨rfl, h1⟩ | ⟨x11, rfl, h1⟩)
    rotate_left
    · exact ⟨rfl, Or.inr ⟨_, rfl, h1⟩⟩
    refine X.xok (fun w11 => ?_)
    replace h := h A11 w11 h1
    change X _ _ _ _ A11 _ _ []
    refine x_aload_n dX1_tell_46 rfl ?_
    obtain ⟨o14, h⟩ := h
    obtain ⟨R13, g13, h⟩ := h
    refine x_callV hG (Ky := kX1_expr) (As := []) dX1_tell_47 o14 rfl lk_X1_101 me_X1_expr is_X1_expr se_X1_expr rfl rfl (Nat.le_of_ble_eq_true rfl) (MX.post ((rc_P hG hO 700).1 g13) ?_)
    rintro _ A13 (⟨v13, rfl, h1⟩ | ⟨x13, rfl, h1⟩)
    rotate_left
    · exact ⟨rfl, Or.inr ⟨_, rfl, h1⟩⟩
    refine X.xok (fun w13 => ?_)
    replace h := h v13 A13 w13 h1
    change X _ _ _ _ A13 _ _ [va_rf v13]
    refine x_astoreq dX1_tell_50 (by decide) ?_
    refine x_aload_n dX1_tell_52 rfl ?_
    refine x_bipush_ (v := (65 : Int32)) dX1_tell_53 (by decide) ?_
    obtain ⟨o16, h⟩ := h
    obtain ⟨R15, g15, h⟩ := h
    refine x_callV hG (Ky := kX1_closes) (As := [.int (65 : Int32)]) dX1_tell_55 o16 rfl lk_X1_131 me_X1_closes is_X1_closes se_X1_closes rfl rfl (Nat.le_of_ble_eq_true rfl) (MX.post (m_X1_closes hG hO g15) ?_)
    rintro _ A15 (⟨rfl, h1⟩ | ⟨x15, rfl, h1⟩)
    rotate_left
    · exact ⟨rfl, Or.inr ⟨_, rfl, h1⟩⟩
    refine X.xok (fun w15 => ?_)
    replace h := h A15 w15 h1
    change X _ _ _ _ A15 _ _ []
    obtain ⟨o17, h⟩ := h
    refine z_new hG (c := 23) dX1_tell_58 rfl q1518 (by decide) rfl o17 (fun A18 e18 w18 => ?_)
    replace h := h A18 e18
    refine x_dup dX1_tell_61 rfl ?_
    refine x_iload_n dX1_tell_62 rfl ?_
    refine x_iload_n dX1_tell_63 rfl ?_
    refine x_iload_n dX1_tell_64 rfl ?_
    refine x_aloadq dX1_tell_65 rfl ?_
    obtain ⟨R19, g19, h⟩ := h
    refine x_callI hG (Ky := kX25_init) (As := [.int v5, .int v6, .int v1, va_rf v13]) dX1_tell_67 lk_X1_208 me_X25_init is_X25_init rfl rfl rfl rfl rfl (Nat.le_of_ble_eq_true rfl) (MX.post (m_X25_init hG hO g19) ?_)
    rintro _ A19 ⟨rfl, h1⟩
    refine X.xok (fun w19 => ?_)
    replace h := h A19 w19 h1
    change X _ _ _ _ A19 _ _ [.ref A15.n]
    refine x_astore dX1_tell_70 (by decide) ?_
    refine x_goto (tgt := 103) dX1_tell_72 (by decide) ?_
    change X _ _ _ _ _ _ [some (.ref p), some (.int v1), some (.int v5), some (.int v6), some (.ref A15.n), some (va_rf v13)] []
    exact X.weak (xle_c rfl (xle_n (xle_n (xle_n (xle_c rfl (xle_n xle_nil)))))) (kj8 (some A15.n) A19 h)
  · replace h := h.1 c28
    refine x_aload_n dX1_tell_31 rfl ?_
    refine x_bipush_ (v := (64 : Int32)) dX1_tell_32 (by decide) ?_
    obtain ⟨o21, h⟩ := h
    obtain ⟨R20, g20, h⟩ := h
    refine x_callV hG (Ky := kX1_is) (As := [.int (64 : Int32)]) dX1_tell_34 o21 rfl lk_X1_71 me_X1_is is_X1_is se_X1_is rfl rfl (Nat.le_of_ble_eq_true rfl) (MX.post (m_X1_is hG hO g20) ?_)
    rintro _ A20 ⟨v20, rfl, zv20, h1⟩
    refine X.xok (fun w20 => ?_)
    replace h := h v20 A20 w20 zv20 h1
    change X _ _ _ _ A20 _ _ [.int v20]
    refine x_if_eq (tgt := 75) dX1_tell_37 (by decide) (fun c37 => ?_) (fun c37 => ?_)
    · replace h := h.1 c37
      obtain ⟨o22, h⟩ := h
      refine z_new hG (c := 24) dX1_tell_75 rfl q1537 (by decide) rfl o22 (fun A23 e23 w23 => ?_)
      replace h := h A23 e23
      refine x_dup dX1_tell_78 rfl ?_
      refine x_iload_n dX1_tell_79 rfl ?_
      refine x_iload_n dX1_tell_80 rfl ?_
      refine x_aload_n dX1_tell_81 rfl ?_
      refine x_bipush_ (v := (72 : Int32)) dX1_tell_82 (by decide) ?_
      obtain ⟨o25, h⟩ := h
      obtain ⟨R24, g24, h⟩ := h
      refine x_callV hG (Ky := kX1_takes) (As := [.int (72 : Int32)]) dX1_tell_84 o25 rfl lk_X1_79 me_X1_takes is_X1_takes se_X1_takes rfl rfl (Nat.le_of_ble_eq_true rfl) (MX.post (m_X1_takes hG hO g24) ?_)
      rintro _ A24 ⟨v24, rfl, zv24, h1⟩
      refine X.xok (fun w24 => ?_)
      replace h := h v24 A24 w24 zv24 h1
      change X _ _ _ _ A24 _ _ [.int v24, .int v6, .int v5, .ref A20.n, .ref A20.n]
      obtain ⟨J26, g26, h⟩ := h
      have kj26 : ∀ (y26_s0 : Option Nat) (A26 : xA), J26 y26_s0 A26 → X G (dp + 715) kX1_tell (hX (hR Q) E) A26 98 [some (.ref p), none, none, none, none, none] [va_rf y26_s0, .int v6, .int v5, .ref A20.n, .ref A20.n] := by
        intro y26_s0 A26 h
        replace h := g26 y26_s0 A26 h
        obtain ⟨R27, g27, h⟩ := h
        refine x_callI hG (Ky := kX26_init) (As := [.int v5, .int v6, va_rf y26_s0]) dX1_tell_98 lk_X1_213 me_X26_init is_X26_init rfl rfl rfl rfl rfl (Nat.le_of_ble_eq_true rfl) (MX.post (m_X26_init hG hO g27) ?_)
        rintro _ A27 ⟨rfl, h1⟩
        refine X.xok (fun w27 => ?_)
        replace h := h A27 w27 h1
        change X _ _ _ _ A27 _ _ [.ref A20.n]
        refine x_astore dX1_tell_101 (by decide) ?_
        change X _ _ _ _ _ _ [some (.ref p), none, none, none, some (.ref A20.n), none] []
        exact X.weak (xle_c rfl (xle_n (xle_n (xle_n (xle_c rfl (xle_n xle_nil)))))) (kj8 (some A20.n) A27 h)
      refine x_if_eq (tgt := 97) dX1_tell_87 (by decide) (fun c87 => ?_) (fun c87 => ?_)
      · replace h := h.1 c87
        refine x_null dX1_tell_97 ?_
        change X _ _ _ _ _ _ [some (.ref p), some (.int v1), some (.int v5), some (.int v6), none, none] [.null, .int v6, .int v5, .ref A20.n, .ref A20.n]
        exact X.weak (xle_c rfl (xle_n (xle_n (xle_n (xle_n (xle_n xle_nil)))))) (kj26 (none : Option Nat) A24 h)
      · replace h := h.2 c87
        refine x_aload_n dX1_tell_90 rfl ?_
        obtain ⟨o29, h⟩ := h
        obtain ⟨R28, g28, h⟩ := h
        refine x_callV hG (Ky := kX1_expr) (As := []) dX1_tell_91 o29 rfl lk_X1_101 me_X1_expr is_X1_expr se_X1_expr rfl rfl (Nat.le_of_ble_eq_true rfl) (MX.post ((rc_P hG hO 700).1 g28) ?_)
        rintro _ A28 (⟨v28, rfl, h1⟩ | ⟨x28, rfl, h1⟩)
        rotate_left
        · exact ⟨rfl, Or.inr ⟨_, rfl, h1⟩⟩
        refine X.xok (fun w28 => ?_)
        replace h := h v28 A28 w28 h1
        change X _ _ _ _ A28 _ _ [va_rf v28, .int v6, .int v5, .ref A20.n, .ref A20.n]
        refine x_goto (tgt := 98) dX1_tell_94 (by decide) ?_
        change X _ _ _ _ _ _ [some (.ref p), some (.int v1), some (.int v5), some (.int v6), none, none] [va_rf v28, .int v6, .int v5, .ref A20.n, .ref A20.n]
        exact X.weak (xle_c rfl (xle_n (xle_n (xle_n (xle_n (xle_n xle_nil)))))) (kj26 v28 A28 h)
    · replace h := h.2 c37
      refine x_aload_n dX1_tell_40 rfl ?_
      refine x_bipush_ (v := (64 : Int32)) dX1_tell_41 (by decide) ?_
      obtain ⟨o31, h⟩ := h
      obtain ⟨R30, g30, h⟩ := h
      refine x_callV hG (Ky := kX1_opens) (As := [.int (64 : Int32)]) dX1_tell_43 o31 rfl lk_X1_128 me_X1_opens is_X1_opens se_X1_opens rfl rfl (Nat.le_of_ble_eq_true rfl) (MX.post (m_X1_opens hG hO g30) ?_)
      rintro _ A30 (⟨rfl, h1⟩ | ⟨x30, rfl, h1⟩)
      rotate_left
      · exact ⟨rfl, Or.inr ⟨_, rfl, h1⟩⟩
      refine X.xok (fun w30 => ?_)
      replace h := h A30 w30 h1
      change X _ _ _ _ A30 _ _ []
      refine x_aload_n dX1_tell_46 rfl ?_
      obtain ⟨o33, h⟩ := h
      obtain ⟨R32, g32, h⟩ := h
      refine x_callV hG (Ky := kX1_expr) (As := []) dX1_tell_47 o33 rfl lk_X1_101 me_X1_expr is_X1_expr se_X1_expr rfl rfl (Nat.le_of_ble_eq_true rfl) (MX.post ((rc_P hG hO 700).1 g32) ?_)
      rintro _ A32 (⟨v32, rfl, h1⟩ | ⟨x32, rfl, h1⟩)
      rotate_left
      · exact ⟨rfl, Or.inr ⟨_, rfl, h1⟩⟩
      refine X.xok (fun w32 => ?_)
      replace h := h v32 A32 w32 h1
      change X _ _ _ _ A32 _ _ [va_rf v32]
      refine x_astoreq dX1_tell_50 (by decide) ?_
      refine x_aload_n dX1_tell_52 rfl ?_
      refine x_bipush_ (v := (65 : Int32)) dX1_tell_53 (by decide) ?_
      obtain ⟨o35, h⟩ := h
      obtain ⟨R34, g34, h⟩ := h
      refine x_callV hG (Ky := kX1_closes) (As := [.int (65 : Int32)]) dX1_tell_55 o35 rfl lk_X1_131 me_X1_closes is_X1_closes se_X1_closes rfl rfl (Nat.le_of_ble_eq_true rfl) (MX.post (m_X1_closes hG hO g34) ?_)
      rintro _ A34 (⟨rfl, h1⟩ | ⟨x34, rfl, h1⟩)
      rotate_left
      · exact ⟨rfl, Or.inr ⟨_, rfl, h1⟩⟩
      refine X.xok (fun w34 => ?_)
      replace h := h A34 w34 h1
      change X _ _ _ _ A34 _ _ []
      obtain ⟨o36, h⟩ := h
      refine z_new hG (c := 23) dX1_tell_58 rfl q1518 (by decide) rfl o36 (fun A37 e37 w37 => ?_)
      replace h := h A37 e37
      refine x_dup dX1_tell_61 rfl ?_
      refine x_iload_n dX1_tell_62 rfl ?_
      refine x_iload_n dX1_tell_63 rfl ?_
      refine x_iload_n dX1_tell_64 rfl ?_
      refine x_aloadq dX1_tell_65 rfl ?_
      obtain ⟨R38, g38, h⟩ := h
      refine x_callI hG (Ky := kX25_init) (As := [.int v5, .int v6, .int v1, va_rf v32]) dX1_tell_67 lk_X1_208 me_X25_init is_X25_init rfl rfl rfl rfl rfl (Nat.le_of_ble_eq_true rfl) (MX.post (m_X25_init hG hO g38) ?_)
      rintro _ A38 ⟨rfl, h1⟩
      refine X.xok (fun w38 => ?_)
      replace h := h A38 w38 h1
      change X _ _ _ _ A38 _ _ [.ref A34.n]
      refine x_astore dX1_tell_70 (by decide) ?_
      refine x_goto (tgt := 103) dX1_tell_72 (by decide) ?_
      change X _ _ _ _ _ _ [some (.ref p), some (.int v1), some (.int v5), some (.int v6), some (.ref A34.n), some (va_rf v32)] []
      exact X.weak (xle_c rfl (xle_n (xle_n (xle_n (xle_c rfl (xle_n xle_nil)))))) (kj8 (some A34.n) A38 h)
def w_X1_startTell (G : xG) (p : Nat) (Q : Option Nat → xA → Prop) (E : Nat → xA → Prop) (A : xA) : Prop := xok G A → A.tg p = 2 ∧ (∃ R1 : Int32 → xA → Prop, w_X1_here G p R1 A ∧ (∀ (v1 : Int32) (A1 : xA), xok G A1 → R1 v1 A1 → (A1.tg p = 2 ∧ (∃ R3 : Int32 → xA → Prop, w_X1_needName G p R3 E A1 ∧ (∀ (v3 : Int32) (A3 : xA), xok G A3 → R3 v3 A3 → (A3.tg p = 2 ∧ (∃ R5 : xA → Prop, w_X1_need G p (72 : Int32) R5 E A3 ∧ (∀ A5 : xA, xok G A5 → R5 A5 → (rmO G A5 3 ∧ (∀ A8 : xA, A8 = A5.new 25 0 3 0 → (A8.tg p = 2 ∧ (∃ R9 : Option Nat → xA → Prop, g_P_0 G p R9 E A8 ∧ (∀ (v9 : Option Nat) (A9 : xA), xok G A9 → R9 v9 A9 → (∃ R11 : xA → Prop, w_X26_init G A5.n v1 v3 v9 R11 A9 ∧ (∀ A11 : xA, xok G A11 → R11 A11 → (Q (some A5.n) A11))))))))))))))))
theorem m_X1_startTell (hG : xOK G) (hO : xHO G) {dp : Nat} {p : Nat} {Q : Option Nat → xA → Prop} {E : Nat → xA → Prop} {A : xA} (h : w_X1_startTell G p Q E A) : MX G (dp + 715) kX1_startTell [.ref p] A (hX (hR Q) E) := by
  unfold w_X1_startTell at h
  refine MX.of rfl (Nat.le_of_ble_eq_true rfl) ?_
  change X _ _ _ _ _ _ [some (.ref p), none, none] _
  refine X.xok (fun w0 => ?_)
  replace h := h w0
  refine x_aload_n dX1_startTell_0 rfl ?_
  obtain ⟨o2, h⟩ := h
  obtain ⟨R1, g1, h⟩ := h
  refine x_callV hG (Ky := kX1_here) (As := []) dX1_startTell_1 o2 rfl lk_X1_66 me_X1_here is_X1_here se_X1_here rfl rfl (Nat.le_of_ble_eq_true rfl) (MX.post (m_X1_here hG hO g1) ?_)
  rintro _ A1 ⟨v1, rfl, h1⟩
  refine X.xok (fun w1 => ?_)
  replace h := h v1 A1 w1 h1
  change X _ _ _ _ A1 _ _ [.int v1]
  refine x_istore_n dX1_startTell_4 (by decide) ?_
  refine x_aload_n dX1_startTell_5 rfl ?_
  obtain ⟨o4, h⟩ := h
  obtain ⟨R3, g3, h⟩ := h
  refine x_callV hG (Ky := kX1_needName) (As := []) dX1_startTell_6 o4 rfl lk_X1_95 me_X1_needName is_X1_needName se_X1_needName rfl rfl (Nat.le_of_ble_eq_true rfl) (MX.post (m_X1_needName hG hO g3) ?_)
  rintro _ A3 (⟨v3, rfl, h1⟩ | ⟨x3, rfl, h1⟩)
  rotate_left
  · exact ⟨rfl, Or.inr ⟨_, rfl, h1⟩⟩
  refine X.xok (fun w3 => ?_)
  replace h := h v3 A3 w3 h1
  change X _ _ _ _ A3 _ _ [.int v3]
  refine x_istore_n dX1_startTell_9 (by decide) ?_
  refine x_aload_n dX1_startTell_10 rfl ?_
  refine x_bipush_ (v := (72 : Int32)) dX1_startTell_11 (by decide) ?_
  obtain ⟨o6, h⟩ := h
  obtain ⟨R5, g5, h⟩ := h
  refine x_callV hG (Ky := kX1_need) (As := [.int (72 : Int32)]) dX1_startTell_13 o6 rfl lk_X1_89 me_X1_need is_X1_need se_X1_need rfl rfl (Nat.le_of_ble_eq_true rfl) (MX.post (m_X1_need hG hO g5) ?_)
  rintro _ A5 (⟨rfl, h1⟩ | ⟨x5, rfl, h1⟩)
  rotate_left
  · exact ⟨rfl, Or.inr ⟨_, rfl, h1⟩⟩
  refine X.xok (fun w5 => ?_)
  replace h := h A5 w5 h1
  change X _ _ _ _ A5 _ _ []
  obtain ⟨o7, h⟩ := h
  refine z_new hG (c := 24) dX1_startTell_16 rfl q1537 (by decide) rfl o7 (fun A8 e8 w8 => ?_)
  replace h := h A8 e8
  refine x_dup dX1_startTell_19 rfl ?_
  refine x_iload_n dX1_startTell_20 rfl ?_
  refine x_iload_n dX1_startTell_21 rfl ?_
  refine x_aload_n dX1_startTell_22 rfl ?_
  obtain ⟨o10, h⟩ := h
  obtain ⟨R9, g9, h⟩ := h
  refine x_callV hG (Ky := kX1_expr) (As := []) dX1_startTell_23 o10 rfl lk_X1_101 me_X1_expr is_X1_expr se_X1_expr rfl rfl (Nat.le_of_ble_eq_true rfl) (MX.post ((rc_P hG hO 700).1 g9) ?_)
  rintro _ A9 (⟨v9, rfl, h1⟩ | ⟨x9, rfl, h1⟩)
  rotate_left
  · exact ⟨rfl, Or.inr ⟨_, rfl, h1⟩⟩
  refine X.xok (fun w9 => ?_)
  replace h := h v9 A9 w9 h1
  change X _ _ _ _ A9 _ _ [va_rf v9, .int v3, .int v1, .ref A5.n, .ref A5.n]
  obtain ⟨R11, g11, h⟩ := h
  refine x_callI hG (Ky := kX26_init) (As := [.int v1, .int v3, va_rf v9]) dX1_startTell_26 lk_X1_213 me_X26_init is_X26_init rfl rfl rfl rfl rfl (Nat.le_of_ble_eq_true rfl) (MX.post (m_X26_init hG hO g11) ?_)
  rintro _ A11 ⟨rfl, h1⟩
  refine X.xok (fun w11 => ?_)
  replace h := h A11 w11 h1
  change X _ _ _ _ A11 _ _ [.ref A5.n]
  exact x_aret (r := (some A5.n)) dX1_startTell_29 rfl (Or.inl ⟨_, rfl⟩) (Or.inl ⟨_, rfl, h⟩)
def w_X1_simple (G : xG) (p : Nat) (Q : Option Nat → xA → Prop) (E : Nat → xA → Prop) (A : xA) : Prop := xok G A → A.tg p = 2 ∧ (∃ R1 : Int32 → xA → Prop, w_X1_here G p R1 A ∧ (∀ (v1 : Int32) (A1 : xA), xok G A1 → R1 v1 A1 → (A1.tg p = 2 ∧ (∃ R3 : Int32 → xA → Prop, w_X1_needName G p R3 E A1 ∧ (∀ (v3 : Int32) (A3 : xA), xok G A3 → R3 v3 A3 → (A3.tg p = 2 ∧ (∃ R5 : Int32 → xA → Prop, w_X1_is G p (62 : Int32) R5 A3 ∧ (∀ (v5 : Int32) (A5 : xA), xok G A5 → (v5 = 0 ∨ v5 = 1) → R5 v5 A5 → (((v5 = 0 → A5.tg p = 2 ∧ (∃ R7 : Option Nat → xA → Prop, g_P_5 G p v1 v3 R7 E A5 ∧ (∀ (v7 : Option Nat) (A7 : xA), xok G A7 → R7 v7 A7 → (A7.tg p = 2 ∧ (∃ R9 : Int32 → xA → Prop, w_X1_kind G p R9 A7 ∧ (∀ (v9 : Int32) (A9 : xA), xok G A9 → R9 v9 A9 → (((v9 = (52 : Int32) → A9.tg p = 2 ∧ (∀ A12 : xA, A12 = A9.setI p 3 ((A9.I p 3) + (1 : Int32)) → (rmO G A12 3 ∧ (∀ A14 : xA, A14 = A12.new 29 0 3 0 → (∃ R15 : xA → Prop, w_X30_init G A12.n v7 (0 : Int32) (none : Option Nat) R15 A14 ∧ (∀ A15 : xA, xok G A15 → R15 A15 → (Q (some A12.n) A15))))))) ∧ (¬ v9 = (52 : Int32) → ((v9 = (53 : Int32) → A9.tg p = 2 ∧ (∀ A30 : xA, A30 = A9.setI p 3 ((A9.I p 3) + (1 : Int32)) → (rmO G A30 3 ∧ (∀ A32 : xA, A32 = A30.new 29 0 3 0 → (∃ R33 : xA → Prop, w_X30_init G A30.n v7 (1 : Int32) (none : Option Nat) R33 A32 ∧ (∀ A33 : xA, xok G A33 → R33 A33 → (Q (some A30.n) A33))))))) ∧ (¬ v9 = (53 : Int32) → ∃ J17 : Int32 → Prop, (∀ (y17_s0 : Int32), J17 y17_s0 → (((-1 : Int32) ≤ y17_s0 → A9.tg p = 2 ∧ (∀ A19 : xA, A19 = A9.setI p 3 ((A9.I p 3) + (1 : Int32)) → (rmO G A19 3 ∧ (∀ A21 : xA, A21 = A19.new 29 0 3 0 → (∃ R22 : Option Nat → xA → Prop, g_P_0 G p R22 E A21 ∧ (∀ (v22 : Option Nat) (A22 : xA), xok G A22 → R22 v22 A22 → (∃ R23 : xA → Prop, w_X30_init G A19.n v7 y17_s0 v22 R23 A22 ∧ (∀ A23 : xA, xok G A23 → R23 A23 → (Q (some A19.n) A23))))))))) ∧ (¬ (-1 : Int32) ≤ y17_s0 → A9.tg p = 2 ∧ (∃ R24 : Option Nat → xA → Prop, w_X1_wrong G p R24 A9 ∧ (∀ (v24 : Option Nat) (A24 : xA), xok G A24 → R24 v24 A24 → (∃ b26 : Nat, v24 = some b26 ∧ (E b26 A24))))))) ∧ ((v9 = (72 : Int32) → J17 (-1 : Int32)) ∧ (¬ v9 = (72 : Int32) → ((v9 = (40 : Int32) → J17 (10 : Int32)) ∧ (¬ v9 = (40 : Int32) → ((v9 = (41 : Int32) → J17 (8 : Int32)) ∧ (¬ v9 = (41 : Int32) → ((v9 = (42 : Int32) → J17 (9 : Int32)) ∧ (¬ v9 = (42 : Int32) → ((v9 < (44 : Int32) → J17 (-2 : Int32)) ∧ (¬ v9 < (44 : Int32) → (((51 : Int32) < v9 → J17 (-2 : Int32)) ∧ (¬ (51 : Int32) < v9 → vp_in ((v9 - (40 : Int32)) - (4 : Int32)) (A9.ln (G.cs 4)) ∧ (J17 (A9.I (G.cs 4) (ix ((v9 - (40 : Int32)) - (4 : Int32)))))))))))))))))))))))))))) ∧ (¬ v5 = 0 → rmO G A5 1 ∧ (∀ A35 : xA, A35 = A5.new 28 0 1 0 → (A35.tg p = 2 ∧ (∃ R36 : Option Nat → xA → Prop, g_P_6 G p v1 v3 R36 E A35 ∧ (∀ (v36 : Option Nat) (A36 : xA), xok G A36 → R36 v36 A36 → (∃ R38 : xA → Prop, w_X29_init G A5.n v36 R38 A36 ∧ (∀ A38 : xA, xok G A38 → R38 A38 → (Q (some A5.n) A38))))))))))))))))))
theorem m_X1_simple (hG : xOK G) (hO : xHO G) {dp : Nat} {p : Nat} {Q : Option Nat → xA → Prop} {E : Nat → xA → Prop} {A : xA} (h : w_X1_simple G p Q E A) : MX G (dp + 715) kX1_simple [.ref p] A (hX (hR Q) E) := by
  unfold w_X1_simple at h
  refine MX.of rfl (Nat.le_of_ble_eq_true rfl) ?_
  change X _ _ _ _ _ _ [some (.ref p), none, none, none, none, none] _
  refine X.xok (fun w0 => ?_)
  replace h := h w0
  refine x_aload_n dX1_simple_0 rfl ?_
  obtain ⟨o2, h⟩ := h
  obtain ⟨R1, g1, h⟩ := h
  refine x_callV hG (Ky := kX1_here) (As := []) dX1_simple_1 o2 rfl lk_X1_66 me_X1_here is_X1_here se_X1_here rfl rfl (Nat.le_of_ble_eq_true rfl) (MX.post (m_X1_here hG hO g1) ?_)
  rintro _ A1 ⟨v1, rfl, h1⟩
  refine X.xok (fun w1 => ?_)
  replace h := h v1 A1 w1 h1
  change X _ _ _ _ A1 _ _ [.int v1]
  refine x_istore_n dX1_simple_4 (by decide) ?_
  refine x_aload_n dX1_simple_5 rfl ?_
  obtain ⟨o4, h⟩ := h
  obtain ⟨R3, g3, h⟩ := h
  refine x_callV hG (Ky := kX1_needName) (As := []) dX1_simple_6 o4 rfl lk_X1_95 me_X1_needName is_X1_needName se_X1_needName rfl rfl (Nat.le_of_ble_eq_true rfl) (MX.post (m_X1_needName hG hO g3) ?_)
  rintro _ A3 (⟨v3, rfl, h1⟩ | ⟨x3, rfl, h1⟩)
  rotate_left
  · exact ⟨rfl, Or.inr ⟨_, rfl, h1⟩⟩
  refine X.xok (fun w3 => ?_)
  replace h := h v3 A3 w3 h1
  change X _ _ _ _ A3 _ _ [.int v3]
  refine x_istore_n dX1_simple_9 (by decide) ?_
  refine x_aload_n dX1_simple_10 rfl ?_
  refine x_bipush_ (v := (62 : Int32)) dX1_simple_11 (by decide) ?_
  obtain ⟨o6, h⟩ := h
  obtain ⟨R5, g5, h⟩ := h
  refine x_callV hG (Ky := kX1_is) (As := [.int (62 : Int32)]) dX1_simple_13 o6 rfl lk_X1_71 me_X1_is is_X1_is se_X1_is rfl rfl (Nat.le_of_ble_eq_true rfl) (MX.post (m_X1_is hG hO g5) ?_)
  rintro _ A5 ⟨v5, rfl, zv5, h1⟩
  refine X.xok (fun w5 => ?_)
  replace h := h v5 A5 w5 zv5 h1
  change X _ _ _ _ A5 _ _ [.int v5]
  refine x_if_eq (tgt := 33) dX1_simple_16 (by decide) (fun c16 => ?_) (fun c16 => ?_)
  · replace h := h.1 c16
    refine x_aload_n dX1_simple_33 rfl ?_
    refine x_iload_n dX1_simple_34 rfl ?_
    refine x_iload_n dX1_simple_35 rfl ?_
    obtain ⟨o8, h⟩ := h
    obtain ⟨R7, g7, h⟩ := h
    refine x_callV hG (Ky := kX1_place) (As := [.int v1, .int v3]) dX1_simple_36 o8 rfl lk_X1_238 me_X1_place is_X1_place se_X1_place rfl rfl (Nat.le_of_ble_eq_true rfl) (MX.post ((rc_P hG hO 700).2.2.2.2.2.1 g7) ?_)
    rintro _ A7 (⟨v7, rfl, h1⟩ | ⟨x7, rfl, h1⟩)
    rotate_left
    · exact ⟨rfl, Or.inr ⟨_, rfl, h1⟩⟩
    refine X.xok (fun w7 => ?_)
    replace h := h v7 A7 w7 h1
    change X _ _ _ _ A7 _ _ [va_rf v7]
    refine x_astoreq_n dX1_simple_39 (by decide) ?_
    refine x_aload_n dX1_simple_40 rfl ?_
    obtain ⟨o10, h⟩ := h
    obtain ⟨R9, g9, h⟩ := h
    refine x_callV hG (Ky := kX1_kind) (As := []) dX1_simple_41 o10 rfl lk_X1_53 me_X1_kind is_X1_kind se_X1_kind rfl rfl (Nat.le_of_ble_eq_true rfl) (MX.post (m_X1_kind hG hO g9) ?_)
    rintro _ A9 ⟨v9, rfl, h1⟩
    refine X.xok (fun w9 => ?_)
    replace h := h v9 A9 w9 h1
    change X _ _ _ _ A9 _ _ [.int v9]
    refine x_istore dX1_simple_44 (by decide) ?_
    refine X.lvs (lv' := [some (.ref p), some (.int v1), some (.int v3), some (va_rf v7), some (.int v9), none]) (by generalize v7 = z; cases z <;> rfl) ?_
    refine x_iload dX1_simple_46 rfl ?_
    refine x_bipush_ (v := (52 : Int32)) dX1_simple_48 (by decide) ?_
    refine x_icmp_eq (tgt := 60) dX1_simple_50 (by decide) (fun c50 => ?_) (fun c50 => ?_)
    · replace h := h.1 c50
      refine x_aload_n dX1_simple_60 rfl ?_
      refine x_dup dX1_simple_61 rfl ?_
      obtain ⟨o11, h⟩ := h
      refine x_get (v := .int (A9.I p 3)) hG dX1_simple_62 f_X1_36_1 o11 rfl ?_
      refine x_iconst_ (v := (1 : Int32)) dX1_simple_65 (by decide) ?_
      refine x_iadd dX1_simple_66 ?_
      refine z_putI hG hO.1 dX1_simple_67 f_X1_36_1 ⟨_, rfl, Or.inl rfl⟩ o11 (by decide) rfl rfl ⟨_, rfl⟩ (fun A12 e12 => ?_)
      replace h := h A12 e12
      obtain ⟨o13, h⟩ := h
      refine z_new hG (c := 28) dX1_simple_70 rfl q1617 (by decide) rfl o13 (fun A14 e14 w14 => ?_)
      replace h := h A14 e14
      refine x_dup dX1_simple_73 rfl ?_
      refine x_aloadq_n dX1_simple_74 rfl ?_
      refine x_iload dX1_simple_75 rfl ?_
      refine x_bipush_ (v := (52 : Int32)) dX1_simple_77 (by decide) ?_
      refine x_icmp_ne (tgt := 86) dX1_simple_79 (by decide) (fun h => absurd c50 h) (fun _ => ?_)
      refine x_iconst_ (v := (0 : Int32)) dX1_simple_82 (by decide) ?_
      refine x_goto (tgt := 87) dX1_simple_83 (by decide) ?_
      refine x_null dX1_simple_87 ?_
      obtain ⟨R15, g15, h⟩ := h
      refine x_callI hG (Ky := kX30_init) (As := [va_rf v7, .int (0 : Int32), .null]) dX1_simple_88 lk_X1_243 me_X30_init is_X30_init rfl rfl rfl rfl rfl (Nat.le_of_ble_eq_true rfl) (MX.post (m_X30_init hG hO g15) ?_)
      rintro _ A15 ⟨rfl, h1⟩
      refine X.xok (fun w15 => ?_)
      replace h := h A15 w15 h1
      change X _ _ _ _ A15 _ _ [.ref A12.n]
      exact x_aret (r := (some A12.n)) dX1_simple_91 rfl (Or.inl ⟨_, rfl⟩) (Or.inl ⟨_, rfl, h⟩)
    · replace h := h.2 c50
      refine x_iload dX1_simple_53 rfl ?_
      refine x_bipush_ (v := (53 : Int32)) dX1_simple_55 (by decide) ?_
      refine x_icmp_ne (tgt := 92) dX1_simple_57 (by decide) (fun c57 => ?_) (fun c57 => ?_)
      · replace h := h.2 c57
        refine x_iload dX1_simple_92 rfl ?_
        refine x_bipush_ (v := (72 : Int32)) dX1_simple_94 (by decide) ?_
        obtain ⟨J17, g17, h⟩ := h
        have kj17 : ∀ (y17_s0 : Int32), J17 y17_s0 → X G (dp + 715) kX1_simple (hX (hR Q) E) A9 169 [some (.ref p), none, none, some (va_rf v7), none, none] [.int y17_s0] := by
          intro y17_s0 h
          replace h := g17 y17_s0 h
          refine x_istore dX1_simple_169 (by decide) ?_
          refine x_iload dX1_simple_171 rfl ?_
          refine x_iconst_ (v := (-1 : Int32)) dX1_simple_173 (by decide) ?_
          refine x_icmp_ge (tgt := 182) dX1_simple_174 (by decide) (fun c174 => ?_) (fun c174 => ?_)
          · replace h := h.1 c174
            refine x_aload_n dX1_simple_182 rfl ?_
            refine x_dup dX1_simple_183 rfl ?_
            obtain ⟨o18, h⟩ := h
            refine x_get (v := .int (A9.I p 3)) hG dX1_simple_184 f_X1_36_1 o18 rfl ?_
            refine x_iconst_ (v := (1 : Int32)) dX1_simple_187 (by decide) ?_
            refine x_iadd dX1_simple_188 ?_
            refine z_putI hG hO.1 dX1_simple_189 f_X1_36_1 ⟨_, rfl, Or.inl rfl⟩ o18 (by decide) rfl rfl ⟨_, rfl⟩ (fun A19 e19 => ?_)
            replace h := h A19 e19
            obtain ⟨o20, h⟩ := h
            refine z_new hG (c := 28) dX1_simple_192 rfl q1617 (by decide) rfl o20 (fun A21 e21 w21 => ?_)
            replace h := h A21 e21
            refine x_dup dX1_simple_195 rfl ?_
            refine x_aloadq_n dX1_simple_196 rfl ?_
            refine x_iload dX1_simple_197 rfl ?_
            refine x_aload_n dX1_simple_199 rfl ?_
            obtain ⟨R22, g22, h⟩ := h
            refine x_callV hG (Ky := kX1_expr) (As := []) dX1_simple_200 (kN e21 w21 (kI e19 o18)) rfl lk_X1_101 me_X1_expr is_X1_expr se_X1_expr rfl rfl (by simp only [List.append_eq, List.nil_append, List.map_cons, va_rf_cat]; exact Nat.le_of_ble_eq_true rfl) (MX.post ((rc_P hG hO 700).1 g22) ?_)
            rintro _ A22 (⟨v22, rfl, h1⟩ | ⟨x22, rfl, h1⟩)
            rotate_left
            · exact ⟨rfl, Or.inr ⟨_, rfl, h1⟩⟩
            refine X.xok (fun w22 => ?_)
            replace h := h v22 A22 w22 h1
            change X _ _ _ _ A22 _ _ [va_rf v22, .int y17_s0, va_rf v7, .ref A19.n, .ref A19.n]
            obtain ⟨R23, g23, h⟩ := h
            refine x_callI hG (Ky := kX30_init) (As := [va_rf v7, .int y17_s0, va_rf v22]) dX1_simple_203 lk_X1_243 me_X30_init is_X30_init rfl rfl rfl rfl rfl (Nat.le_of_ble_eq_true rfl) (MX.post (m_X30_init hG hO g23) ?_)
            rintro _ A23 ⟨rfl, h1⟩
            refine X.xok (fun w23 => ?_)
            replace h := h A23 w23 h1
            change X _ _ _ _ A23 _ _ [.ref A19.n]
            exact x_aret (r := (some A19.n)) dX1_simple_206 rfl (Or.inl ⟨_, rfl⟩) (Or.inl ⟨_, rfl, h⟩)
          · replace h := h.2 c174
            refine x_aload_n dX1_simple_177 rfl ?_
            obtain ⟨o25, h⟩ := h
            obtain ⟨R24, g24, h⟩ := h
            refine x_callV hG (Ky := kX1_wrong) (As := []) dX1_simple_178 o25 rfl lk_X1_82 me_X1_wrong is_X1_wrong se_X1_wrong rfl rfl (Nat.le_of_ble_eq_true rfl) (MX.post (m_X1_wrong hG hO g24) ?_)
            rintro _ A24 ⟨v24, rfl, h1⟩
            refine X.xok (fun w24 => ?_)
            replace h := h v24 A24 w24 h1
            change X _ _ _ _ A24 _ _ [va_rf v24]
            obtain ⟨b26, e26, h⟩ := h
            rw [e26]
            exact x_athrow dX1_simple_181 rfl (Or.inr ⟨_, rfl, h⟩)
        refine x_icmp_ne (tgt := 103) dX1_simple_96 (by decide) (fun c96 => ?_) (fun c96 => ?_)
        · replace h := h.2 c96
          refine x_iload dX1_simple_103 rfl ?_
          refine x_bipush_ (v := (40 : Int32)) dX1_simple_105 (by decide) ?_
          refine x_icmp_ne (tgt := 115) dX1_simple_107 (by decide) (fun c107 => ?_) (fun c107 => ?_)
          · replace h := h.2 c107
            refine x_iload dX1_simple_115 rfl ?_
            refine x_bipush_ (v := (41 : Int32)) dX1_simple_117 (by decide) ?_
            refine x_icmp_ne (tgt := 127) dX1_simple_119 (by decide) (fun c119 => ?_) (fun c119 => ?_)
            · replace h := h.2 c119
              refine x_iload dX1_simple_127 rfl ?_
              refine x_bipush_ (v := (42 : Int32)) dX1_simple_129 (by decide) ?_
              refine x_icmp_ne (tgt := 139) dX1_simple_131 (by decide) (fun c131 => ?_) (fun c131 => ?_)
              · replace h := h.2 c131
                refine x_iload dX1_simple_139 rfl ?_
                refine x_bipush_ (v := (44 : Int32)) dX1_simple_141 (by decide) ?_
                refine x_icmp_lt (tgt := 167) dX1_simple_143 (by decide) (fun c143 => ?_) (fun c143 => ?_)
                · replace h := h.1 c143
                  refine x_bipush_ (v := (-2 : Int32)) dX1_simple_167 (by decide) ?_
                  change X _ _ _ _ _ _ [some (.ref p), some (.int v1), some (.int v3), some (va_rf v7), some (.int v9), none] [.int (-2 : Int32)]
                  exact X.weak (xle_c rfl (xle_n (xle_n (xle_c rfl (xle_n (xle_n xle_nil)))))) (kj17 (-2 : Int32) h)
                · replace h := h.2 c143
                  refine x_iload dX1_simple_146 rfl ?_
                  refine x_bipush_ (v := (51 : Int32)) dX1_simple_148 (by decide) ?_
                  refine x_icmp_gt (tgt := 167) dX1_simple_150 (by decide) (fun c150 => ?_) (fun c150 => ?_)
                  · replace h := h.1 c150
                    refine x_bipush_ (v := (-2 : Int32)) dX1_simple_167 (by decide) ?_
                    change X _ _ _ _ _ _ [some (.ref p), some (.int v1), some (.int v3), some (va_rf v7), some (.int v9), none] [.int (-2 : Int32)]
                    exact X.weak (xle_c rfl (xle_n (xle_n (xle_c rfl (xle_n (xle_n xle_nil)))))) (kj17 (-2 : Int32) h)
                  · replace h := h.2 c150
                    refine x_gets hG (C := "CompiledHouse") hO.2.2.1.2.1 (Or.inr ⟨_, q1633⟩) (Or.inl rfl) dX1_simple_153 ?_
                    refine X.xok (fun w27 => ?_)
                    have t27 := xold_tg w27 hO.2.2.1.2.2.1 hO.2.2.1.2.2.2.1
                    refine x_iload dX1_simple_156 rfl ?_
                    refine x_bipush_ (v := (40 : Int32)) dX1_simple_158 (by decide) ?_
                    refine x_isub dX1_simple_160 ?_
                    refine x_iconst_ (v := (4 : Int32)) dX1_simple_161 (by decide) ?_
                    refine x_isub dX1_simple_162 ?_
                    obtain ⟨o28, h⟩ := h
                    refine x_iald hG dX1_simple_163 t27 o28 ?_
                    refine x_goto (tgt := 169) dX1_simple_164 (by decide) ?_
                    change X _ _ _ _ _ _ [some (.ref p), some (.int v1), some (.int v3), some (va_rf v7), some (.int v9), none] [.int (A9.I (G.cs 4) (ix ((v9 - (40 : Int32)) - (4 : Int32))))]
                    exact X.weak (xle_c rfl (xle_n (xle_n (xle_c rfl (xle_n (xle_n xle_nil)))))) (kj17 (A9.I (G.cs 4) (ix ((v9 - (40 : Int32)) - (4 : Int32)))) h)
              · replace h := h.1 c131
                refine x_bipush_ (v := (9 : Int32)) dX1_simple_134 (by decide) ?_
                refine x_goto (tgt := 169) dX1_simple_136 (by decide) ?_
                change X _ _ _ _ _ _ [some (.ref p), some (.int v1), some (.int v3), some (va_rf v7), some (.int v9), none] [.int (9 : Int32)]
                exact X.weak (xle_c rfl (xle_n (xle_n (xle_c rfl (xle_n (xle_n xle_nil)))))) (kj17 (9 : Int32) h)
            · replace h := h.1 c119
              refine x_bipush_ (v := (8 : Int32)) dX1_simple_122 (by decide) ?_
              refine x_goto (tgt := 169) dX1_simple_124 (by decide) ?_
              change X _ _ _ _ _ _ [some (.ref p), some (.int v1), some (.int v3), some (va_rf v7), some (.int v9), none] [.int (8 : Int32)]
              exact X.weak (xle_c rfl (xle_n (xle_n (xle_c rfl (xle_n (xle_n xle_nil)))))) (kj17 (8 : Int32) h)
          · replace h := h.1 c107
            refine x_bipush_ (v := (10 : Int32)) dX1_simple_110 (by decide) ?_
            refine x_goto (tgt := 169) dX1_simple_112 (by decide) ?_
            change X _ _ _ _ _ _ [some (.ref p), some (.int v1), some (.int v3), some (va_rf v7), some (.int v9), none] [.int (10 : Int32)]
            exact X.weak (xle_c rfl (xle_n (xle_n (xle_c rfl (xle_n (xle_n xle_nil)))))) (kj17 (10 : Int32) h)
        · replace h := h.1 c96
          refine x_iconst_ (v := (-1 : Int32)) dX1_simple_99 (by decide) ?_
          refine x_goto (tgt := 169) dX1_simple_100 (by decide) ?_
          change X _ _ _ _ _ _ [some (.ref p), some (.int v1), some (.int v3), some (va_rf v7), some (.int v9), none] [.int (-1 : Int32)]
          exact X.weak (xle_c rfl (xle_n (xle_n (xle_c rfl (xle_n (xle_n xle_nil)))))) (kj17 (-1 : Int32) h)
      · replace h := h.1 c57
        refine x_aload_n dX1_simple_60 rfl ?_
        refine x_dup dX1_simple_61 rfl ?_
        obtain ⟨o29, h⟩ := h
        refine x_get (v := .int (A9.I p 3)) hG dX1_simple_62 f_X1_36_1 o29 rfl ?_
        refine x_iconst_ (v := (1 : Int32)) dX1_simple_65 (by decide) ?_
        refine x_iadd dX1_simple_66 ?_
        refine z_putI hG hO.1 dX1_simple_67 f_X1_36_1 ⟨_, rfl, Or.inl rfl⟩ o29 (by decide) rfl rfl ⟨_, rfl⟩ (fun A30 e30 => ?_)
        replace h := h A30 e30
        obtain ⟨o31, h⟩ := h
        refine z_new hG (c := 28) dX1_simple_70 rfl q1617 (by decide) rfl o31 (fun A32 e32 w32 => ?_)
        replace h := h A32 e32
        refine x_dup dX1_simple_73 rfl ?_
        refine x_aloadq_n dX1_simple_74 rfl ?_
        refine x_iload dX1_simple_75 rfl ?_
        refine x_bipush_ (v := (52 : Int32)) dX1_simple_77 (by decide) ?_
        refine x_icmp_ne (tgt := 86) dX1_simple_79 (by decide) (fun _ => ?_) (fun h => absurd h c50)
        refine x_iconst_ (v := (1 : Int32)) dX1_simple_86 (by decide) ?_
        refine x_null dX1_simple_87 ?_
        obtain ⟨R33, g33, h⟩ := h
        refine x_callI hG (Ky := kX30_init) (As := [va_rf v7, .int (1 : Int32), .null]) dX1_simple_88 lk_X1_243 me_X30_init is_X30_init rfl rfl rfl rfl rfl (Nat.le_of_ble_eq_true rfl) (MX.post (m_X30_init hG hO g33) ?_)
        rintro _ A33 ⟨rfl, h1⟩
        refine X.xok (fun w33 => ?_)
        replace h := h A33 w33 h1
        change X _ _ _ _ A33 _ _ [.ref A30.n]
        exact x_aret (r := (some A30.n)) dX1_simple_91 rfl (Or.inl ⟨_, rfl⟩) (Or.inl ⟨_, rfl, h⟩)
  · replace h := h.2 c16
    obtain ⟨o34, h⟩ := h
    refine z_new hG (c := 27) dX1_simple_19 rfl q1607 (by decide) rfl o34 (fun A35 e35 w35 => ?_)
    replace h := h A35 e35
    refine x_dup dX1_simple_22 rfl ?_
    refine x_aload_n dX1_simple_23 rfl ?_
    refine x_iload_n dX1_simple_24 rfl ?_
    refine x_iload_n dX1_simple_25 rfl ?_
    obtain ⟨o37, h⟩ := h
    obtain ⟨R36, g36, h⟩ := h
    refine x_callV hG (Ky := kX1_call) (As := [.int v1, .int v3]) dX1_simple_26 o37 rfl lk_X1_231 me_X1_call is_X1_call se_X1_call rfl rfl (Nat.le_of_ble_eq_true rfl) (MX.post ((rc_P hG hO 700).2.2.2.2.2.2 g36) ?_)
    rintro _ A36 (⟨v36, rfl, h1⟩ | ⟨x36, rfl, h1⟩)
    rotate_left
    · exact ⟨rfl, Or.inr ⟨_, rfl, h1⟩⟩
    refine X.xok (fun w36 => ?_)
    replace h := h v36 A36 w36 h1
    change X _ _ _ _ A36 _ _ [va_rf v36, .ref A5.n, .ref A5.n]
    obtain ⟨R38, g38, h⟩ := h
    refine x_callI hG (Ky := kX29_init) (As := [va_rf v36]) dX1_simple_29 lk_X1_235 me_X29_init is_X29_init rfl rfl rfl rfl rfl (Nat.le_of_ble_eq_true rfl) (MX.post (m_X29_init hG hO g38) ?_)
    rintro _ A38 ⟨rfl, h1⟩
    refine X.xok (fun w38 => ?_)
    replace h := h A38 w38 h1
    change X _ _ _ _ A38 _ _ [.ref A5.n]
    exact x_aret (r := (some A5.n)) dX1_simple_32 rfl (Or.inl ⟨_, rfl⟩) (Or.inl ⟨_, rfl, h⟩)
end W086
