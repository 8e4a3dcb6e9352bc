/-! ===== 066.hlayer (tools/h045.py) ===== -/
set_option maxRecDepth 100000
section W066
variable {G : xG}
def w_X10_init (G : xG) (p : Nat) (w : Option Nat) (l : Option Nat) (Q : xA → Prop) (A : xA) : Prop := xok G A → rmA G A (40 : Int32) ∧ (∀ A2 : xA, A2 = A.new 200 (ix (40 : Int32)) (ix (40 : Int32)) 0 → (A2.tg p = 10 ∧ (∀ A4 : xA, A4 = A2.setP p 7 (some A.n) → (∀ A5 : xA, A5 = A4.setP p 0 w → (rmO G A5 13 ∧ (∀ A7 : xA, A7 = A5.new 11 0 13 0 → (∃ R8 : xA → Prop, w_X11_init G A5.n l R8 A7 ∧ (∀ A8 : xA, xok G A8 → R8 A8 → (A8.tg p = 10 ∧ (∀ A10 : xA, A10 = A8.setP p 1 (some A5.n) → (Q A10)))))))))))
theorem m_X10_init (hG : xOK G) (hO : xHO G) {dp : Nat} {p : Nat} {w : Option Nat} {l : Option Nat} {Q : xA → Prop} {A : xA} (h : w_X10_init G p w l Q A) : MX G (dp + 2) kX10_init [.ref p, va_rf w, va_rf l] A (hV Q) := by
  unfold w_X10_init at h
  refine MX.of rfl (by cases w <;> cases l <;> exact Nat.le_of_ble_eq_true rfl) ?_
  refine X.lvs (lv' := [some (.ref p), some (va_rf w), some (va_rf l)]) (by cases w <;> cases l <;> rfl) ?_
  refine X.xok (fun w0 => ?_)
  replace h := h w0
  refine x_aload_n dX10_init_0 rfl ?_
  refine x_objInit hG dX10_init_1 q762 q261 q262 (Nat.le_of_ble_eq_true rfl) ?_
  refine x_aload_n dX10_init_4 rfl ?_
  refine x_bipush_ (v := (40 : Int32)) dX10_init_5 (by decide) ?_
  obtain ⟨o1, h⟩ := h
  refine z_newa hG (j := 0) dX10_init_7 (by decide) rfl o1 q378 (fun A2 e2 w2 => ?_)
  replace h := h A2 e2
  obtain ⟨o3, h⟩ := h
  refine z_putP hG hO.1 (some A.n) dX10_init_9 f_X10_9_9 ⟨_, rfl, Or.inr ⟨rfl, rfl, rfl⟩⟩ o3 (by decide) (Or.inr ⟨_, rfl⟩) (fun A4 e4 => ?_)
  replace h := h A4 e4
  refine x_aload_n dX10_init_12 rfl ?_
  refine x_aloadq_n dX10_init_13 rfl ?_
  refine z_putP hG hO.1 w dX10_init_14 f_X10_15_9 ⟨_, rfl, Or.inr ⟨rfl, rfl, rfl⟩⟩ (kP e4 o3) (by decide) (Or.inl ⟨_, rfl⟩) (fun A5 e5 => ?_)
  replace h := h A5 e5
  refine x_aload_n dX10_init_17 rfl ?_
  obtain ⟨o6, h⟩ := h
  refine z_new hG (c := 10) dX10_init_18 rfl q763 (by decide) rfl o6 (fun A7 e7 w7 => ?_)
  replace h := h A7 e7
  refine x_dup dX10_init_21 rfl ?_
  refine x_aloadq_n dX10_init_22 rfl ?_
  obtain ⟨R8, g8, h⟩ := h
  refine x_callI hG (Ky := kX11_init) (As := [va_rf l]) dX10_init_23 lk_X10_21 me_X11_init is_X11_init rfl rfl rfl rfl rfl (Nat.le_of_ble_eq_true rfl) (MX.post (m_X11_init hG hO g8) ?_)
  rintro _ A8 ⟨rfl, h1⟩
  refine X.xok (fun w8 => ?_)
  replace h := h A8 w8 h1
  change X _ _ _ _ A8 _ _ [.ref A5.n, .ref p]
  obtain ⟨o9, h⟩ := h
  refine z_putP hG hO.1 (some A5.n) dX10_init_26 f_X10_24_9 ⟨_, rfl, Or.inr ⟨rfl, rfl, rfl⟩⟩ o9 (by decide) (Or.inl ⟨_, rfl⟩) (fun A10 e10 => ?_)
  replace h := h A10 e10
  exact x_vret dX10_init_29 rfl ⟨rfl, h⟩
def w_X10_functions (G : xG) (p : Nat) (n : Int32) (Q : xA → Prop) (A : xA) : Prop := xok G A → ∃ L1 : Nat → Int32 → xA → Prop, (∃ n1 : Nat, L1 n1 (0 : Int32) A) ∧ (∀ (n1 : Nat) (y1_2 : Int32) (A1 : xA), L1 n1 y1_2 A1 → ((n ≤ y1_2 → Q A1) ∧ (¬ n ≤ y1_2 → A1.tg p = 10 ∧ (∃ b4 : Nat, (A1.P p 0) = some b4 ∧ (A1.tg b4 = 9 ∧ (∃ R3 : Int32 → xA → Prop, w_X9_newMark G b4 R3 A1 ∧ (∀ (v3 : Int32) (A3 : xA), xok G A3 → R3 v3 A3 → (∃ b6 : Nat, (A1.P p 7) = some b6 ∧ (A3.tg b6 = 200 ∧ (G.N ≤ b6 ∧ (vp_in y1_2 (A3.ln b6) ∧ (∀ A10 : xA, A10 = A3.setI b6 (ix y1_2) v3 → ((∃ q1 : Nat, q1 < n1 ∧ L1 q1 (y1_2 + (1 : Int32)) A10))))))))))))))
theorem m_X10_functions (hG : xOK G) (hO : xHO G) {dp : Nat} {p : Nat} {n : Int32} {Q : xA → Prop} {A : xA} (h : w_X10_functions G p n Q A) : MX G (dp + 2) kX10_functions [.ref p, .int n] A (hV Q) := by
  unfold w_X10_functions at h
  refine MX.of rfl (Nat.le_of_ble_eq_true rfl) ?_
  change X _ _ _ _ _ _ [some (.ref p), some (.int n), none] _
  refine X.xok (fun w0 => ?_)
  replace h := h w0
  refine x_iconst_ (v := (0 : Int32)) dX10_functions_0 (by decide) ?_
  refine x_istore_n dX10_functions_1 (by decide) ?_
  obtain ⟨L1, ⟨n1, i1⟩, g1⟩ := h
  have kl1 : ∀ n1 : Nat, ∀ (y1_2 : Int32) (A1 : xA), L1 n1 y1_2 A1 → X G (dp + 2) kX10_functions (hV Q) A1 2 [some (.ref p), some (.int n), some (.int y1_2)] [] := by
    intro n1
    induction n1 using Nat.strongRecOn with
    | ind n1 ih1 =>
      intro y1_2 A1 h
      replace h := g1 n1 y1_2 A1 h
      refine x_iload_n dX10_functions_2 rfl ?_
      refine x_iload_n dX10_functions_3 rfl ?_
      refine x_icmp_ge (tgt := 26) dX10_functions_4 (by decide) (fun c4 => ?_) (fun c4 => ?_)
      · replace h := h.1 c4
        exact x_vret dX10_functions_26 rfl ⟨rfl, h⟩
      · replace h := h.2 c4
        refine x_aload_n dX10_functions_7 rfl ?_
        obtain ⟨o2, h⟩ := h
        refine x_get (v := va_rf (A1.P p 7)) hG dX10_functions_8 f_X10_9_9 o2 rfl ?_
        refine x_iload_n dX10_functions_11 rfl ?_
        refine x_aload_n dX10_functions_12 rfl ?_
        refine x_get (v := va_rf (A1.P p 0)) hG dX10_functions_13 f_X10_15_9 o2 rfl ?_
        obtain ⟨b4, e4, h⟩ := h
        rw [e4]
        obtain ⟨o5, h⟩ := h
        obtain ⟨R3, g3, h⟩ := h
        refine x_callV hG (Ky := kX9_newMark) (As := []) dX10_functions_16 o5 rfl lk_X10_28 me_X9_newMark is_X9_newMark se_X9_newMark rfl rfl (by simp only [List.append_eq, List.nil_append, List.map_cons, va_rf_cat]; exact Nat.le_of_ble_eq_true rfl) (MX.post (m_X9_newMark hG hO g3) ?_)
        rintro _ A3 ⟨v3, rfl, h1⟩
        refine X.xok (fun w3 => ?_)
        replace h := h v3 A3 w3 h1
        change X _ _ _ _ A3 _ _ [.int v3, .int y1_2, va_rf (A1.P p 7)]
        obtain ⟨b6, e6, h⟩ := h
        rw [e6]
        obtain ⟨o7, h⟩ := h
        obtain ⟨o8, h⟩ := h
        obtain ⟨o9, h⟩ := h
        refine z_iast hG dX10_functions_19 o7 o8 o9 (fun A10 e10 => ?_)
        replace h := h A10 e10
        refine x_iinc (v := (y1_2 + (1 : Int32))) dX10_functions_20 rfl rfl (by decide) ?_
        refine x_goto (tgt := 2) dX10_functions_23 (by decide) ?_
        obtain ⟨q1, l1, h⟩ := h
        change X _ _ _ _ _ _ [some (.ref p), some (.int n), some (.int (y1_2 + (1 : Int32)))] []
        exact X.weak (xle_c rfl (xle_c rfl (xle_c rfl xle_nil))) (ih1 q1 l1 (y1_2 + (1 : Int32)) A10 h)
  change X _ _ _ _ _ _ [some (.ref p), some (.int n), some (.int (0 : Int32))] []
  exact X.weak (xle_c rfl (xle_c rfl (xle_c rfl xle_nil))) (kl1 n1 (0 : Int32) A i1)
def w_X10_step (G : xG) (p : Nat) (b : Int32) (Q : xA → Prop) (A : xA) : Prop := xok G A → ((b < (-2048 : Int32) → A.tg p = 10 ∧ (∃ b3 : Nat, (A.P p 0) = some b3 ∧ (A.tg b3 = 9 ∧ (∃ R2 : xA → Prop, w_X9_number G b3 (30 : Int32) b R2 A ∧ (∀ A2 : xA, xok G A2 → R2 A2 → (A2.tg p = 10 ∧ (∃ b7 : Nat, (A2.P p 0) = some b7 ∧ (A2.tg b7 = 9 ∧ (∃ R6 : xA → Prop, w_X9_three G b7 (0 : Int32) (0 : Int32) (2 : Int32) (2 : Int32) (30 : Int32) R6 A2 ∧ (∀ A6 : xA, xok G A6 → R6 A6 → (Q A6))))))))))) ∧ (¬ b < (-2048 : Int32) → (((2048 : Int32) ≤ b → A.tg p = 10 ∧ (∃ b11 : Nat, (A.P p 0) = some b11 ∧ (A.tg b11 = 9 ∧ (∃ R10 : xA → Prop, w_X9_number G b11 (30 : Int32) b R10 A ∧ (∀ A10 : xA, xok G A10 → R10 A10 → (A10.tg p = 10 ∧ (∃ b15 : Nat, (A10.P p 0) = some b15 ∧ (A10.tg b15 = 9 ∧ (∃ R14 : xA → Prop, w_X9_three G b15 (0 : Int32) (0 : Int32) (2 : Int32) (2 : Int32) (30 : Int32) R14 A10 ∧ (∀ A14 : xA, xok G A14 → R14 A14 → (Q A14))))))))))) ∧ (¬ (2048 : Int32) ≤ b → A.tg p = 10 ∧ (∃ b19 : Nat, (A.P p 0) = some b19 ∧ (A.tg b19 = 9 ∧ (∃ R18 : xA → Prop, w_X9_two G b19 (0 : Int32) (2 : Int32) (2 : Int32) b R18 A ∧ (∀ A18 : xA, xok G A18 → R18 A18 → (Q A18)))))))))
theorem m_X10_step (hG : xOK G) (hO : xHO G) {dp : Nat} {p : Nat} {b : Int32} {Q : xA → Prop} {A : xA} (h : w_X10_step G p b Q A) : MX G (dp + 5) kX10_step [.ref p, .int b] A (hV Q) := by
  unfold w_X10_step at h
  refine MX.of rfl (Nat.le_of_ble_eq_true rfl) ?_
  change X _ _ _ _ _ _ [some (.ref p), some (.int b)] _
  refine X.xok (fun w0 => ?_)
  replace h := h w0
  refine x_iload_n dX10_step_0 rfl ?_
  refine x_sipush_ (v := (-2048 : Int32)) dX10_step_1 (by decide) ?_
  refine x_icmp_lt (tgt := 26) dX10_step_4 (by decide) (fun c4 => ?_) (fun c4 => ?_)
  · replace h := h.1 c4
    refine x_aload_n dX10_step_26 rfl ?_
    obtain ⟨o1, h⟩ := h
    refine x_get (v := va_rf (A.P p 0)) hG dX10_step_27 f_X10_15_9 o1 rfl ?_
    refine x_bipush_ (v := (30 : Int32)) dX10_step_30 (by decide) ?_
    refine x_iload_n dX10_step_32 rfl ?_
    obtain ⟨b3, e3, h⟩ := h
    rw [e3]
    obtain ⟨o4, h⟩ := h
    obtain ⟨R2, g2, h⟩ := h
    refine x_callV hG (Ky := kX9_number) (As := [.int (30 : Int32), .int b]) dX10_step_33 o4 rfl lk_X10_135 me_X9_number is_X9_number se_X9_number rfl rfl (Nat.le_of_ble_eq_true rfl) (MX.post (m_X9_number hG hO g2) ?_)
    rintro _ A2 ⟨rfl, h1⟩
    refine X.xok (fun w2 => ?_)
    replace h := h A2 w2 h1
    change X _ _ _ _ A2 _ _ []
    refine x_aload_n dX10_step_36 rfl ?_
    obtain ⟨o5, h⟩ := h
    refine x_get (v := va_rf (A2.P p 0)) hG dX10_step_37 f_X10_15_9 o5 rfl ?_
    refine x_iconst_ (v := (0 : Int32)) dX10_step_40 (by decide) ?_
    refine x_iconst_ (v := (0 : Int32)) dX10_step_41 (by decide) ?_
    refine x_iconst_ (v := (2 : Int32)) dX10_step_42 (by decide) ?_
    refine x_iconst_ (v := (2 : Int32)) dX10_step_43 (by decide) ?_
    refine x_bipush_ (v := (30 : Int32)) dX10_step_44 (by decide) ?_
    obtain ⟨b7, e7, h⟩ := h
    rw [e7]
    obtain ⟨o8, h⟩ := h
    obtain ⟨R6, g6, h⟩ := h
    refine x_callV hG (Ky := kX9_three) (As := [.int (0 : Int32), .int (0 : Int32), .int (2 : Int32), .int (2 : Int32), .int (30 : Int32)]) dX10_step_46 o8 rfl lk_X10_138 me_X9_three is_X9_three se_X9_three rfl rfl (Nat.le_of_ble_eq_true rfl) (MX.post (m_X9_three hG hO g6) ?_)
    rintro _ A6 ⟨rfl, h1⟩
    refine X.xok (fun w6 => ?_)
    replace h := h A6 w6 h1
    change X _ _ _ _ A6 _ _ []
    exact x_vret dX10_step_49 rfl ⟨rfl, h⟩
  · replace h := h.2 c4
    refine x_iload_n dX10_step_7 rfl ?_
    refine x_sipush_ (v := (2048 : Int32)) dX10_step_8 (by decide) ?_
    refine x_icmp_ge (tgt := 26) dX10_step_11 (by decide) (fun c11 => ?_) (fun c11 => ?_)
    · replace h := h.1 c11
      refine x_aload_n dX10_step_26 rfl ?_
      obtain ⟨o9, h⟩ := h
      refine x_get (v := va_rf (A.P p 0)) hG dX10_step_27 f_X10_15_9 o9 rfl ?_
      refine x_bipush_ (v := (30 : Int32)) dX10_step_30 (by decide) ?_
      refine x_iload_n dX10_step_32 rfl ?_
      obtain ⟨b11, e11, h⟩ := h
      rw [e11]
      obtain ⟨o12, h⟩ := h
      obtain ⟨R10, g10, h⟩ := h
      refine x_callV hG (Ky := kX9_number) (As := [.int (30 : Int32), .int b]) dX10_step_33 o12 rfl lk_X10_135 me_X9_number is_X9_number se_X9_number rfl rfl (Nat.le_of_ble_eq_true rfl) (MX.post (m_X9_number hG hO g10) ?_)
      rintro _ A10 ⟨rfl, h1⟩
      refine X.xok (fun w10 => ?_)
      replace h := h A10 w10 h1
      change X _ _ _ _ A10 _ _ []
      refine x_aload_n dX10_step_36 rfl ?_
      obtain ⟨o13, h⟩ := h
      refine x_get (v := va_rf (A10.P p 0)) hG dX10_step_37 f_X10_15_9 o13 rfl ?_
      refine x_iconst_ (v := (0 : Int32)) dX10_step_40 (by decide) ?_
      refine x_iconst_ (v := (0 : Int32)) dX10_step_41 (by decide) ?_
      refine x_iconst_ (v := (2 : Int32)) dX10_step_42 (by decide) ?_
      refine x_iconst_ (v := (2 : Int32)) dX10_step_43 (by decide) ?_
      refine x_bipush_ (v := (30 : Int32)) dX10_step_44 (by decide) ?_
      obtain ⟨b15, e15, h⟩ := h
      rw [e15]
      obtain ⟨o16, h⟩ := h
      obtain ⟨R14, g14, h⟩ := h
      refine x_callV hG (Ky := kX9_three) (As := [.int (0 : Int32), .int (0 : Int32), .int (2 : Int32), .int (2 : Int32), .int (30 : Int32)]) dX10_step_46 o16 rfl lk_X10_138 me_X9_three is_X9_three se_X9_three rfl rfl (Nat.le_of_ble_eq_true rfl) (MX.post (m_X9_three hG hO g14) ?_)
      rintro _ A14 ⟨rfl, h1⟩
      refine X.xok (fun w14 => ?_)
      replace h := h A14 w14 h1
      change X _ _ _ _ A14 _ _ []
      exact x_vret dX10_step_49 rfl ⟨rfl, h⟩
    · replace h := h.2 c11
      refine x_aload_n dX10_step_14 rfl ?_
      obtain ⟨o17, h⟩ := h
      refine x_get (v := va_rf (A.P p 0)) hG dX10_step_15 f_X10_15_9 o17 rfl ?_
      refine x_iconst_ (v := (0 : Int32)) dX10_step_18 (by decide) ?_
      refine x_iconst_ (v := (2 : Int32)) dX10_step_19 (by decide) ?_
      refine x_iconst_ (v := (2 : Int32)) dX10_step_20 (by decide) ?_
      refine x_iload_n dX10_step_21 rfl ?_
      obtain ⟨b19, e19, h⟩ := h
      rw [e19]
      obtain ⟨o20, h⟩ := h
      obtain ⟨R18, g18, h⟩ := h
      refine x_callV hG (Ky := kX9_two) (As := [.int (0 : Int32), .int (2 : Int32), .int (2 : Int32), .int b]) dX10_step_22 o20 rfl lk_X10_131 me_X9_two is_X9_two se_X9_two rfl rfl (Nat.le_of_ble_eq_true rfl) (MX.post (m_X9_two hG hO g18) ?_)
      rintro _ A18 ⟨rfl, h1⟩
      refine X.xok (fun w18 => ?_)
      replace h := h A18 w18 h1
      change X _ _ _ _ A18 _ _ []
      exact x_vret dX10_step_25 rfl ⟨rfl, h⟩
def w_X10_toFrame (G : xG) (p : Nat) (r : Int32) (t : Int32) (s : Int32) (Q : xA → Prop) (A : xA) : Prop := xok G A → (((2048 : Int32) ≤ t → A.tg p = 10 ∧ (∃ b3 : Nat, (A.P p 0) = some b3 ∧ (A.tg b3 = 9 ∧ (∃ R2 : xA → Prop, w_X9_number G b3 s t R2 A ∧ (∀ A2 : xA, xok G A2 → R2 A2 → (A2.tg p = 10 ∧ (∃ b7 : Nat, (A2.P p 0) = some b7 ∧ (A2.tg b7 = 9 ∧ (∃ R6 : xA → Prop, w_X9_three G b7 (0 : Int32) (0 : Int32) s s (2 : Int32) R6 A2 ∧ (∀ A6 : xA, xok G A6 → R6 A6 → (A6.tg p = 10 ∧ (∃ b11 : Nat, (A6.P p 0) = some b11 ∧ (A6.tg b11 = 9 ∧ (∃ R10 : xA → Prop, w_X9_store G b11 (2 : Int32) r s (0 : Int32) R10 A6 ∧ (∀ A10 : xA, xok G A10 → R10 A10 → (Q A10)))))))))))))))) ∧ (¬ (2048 : Int32) ≤ t → A.tg p = 10 ∧ (∃ b15 : Nat, (A.P p 0) = some b15 ∧ (A.tg b15 = 9 ∧ (∃ R14 : xA → Prop, w_X9_store G b15 (2 : Int32) r (2 : Int32) t R14 A ∧ (∀ A14 : xA, xok G A14 → R14 A14 → (Q A14)))))))
theorem m_X10_toFrame (hG : xOK G) (hO : xHO G) {dp : Nat} {p : Nat} {r : Int32} {t : Int32} {s : Int32} {Q : xA → Prop} {A : xA} (h : w_X10_toFrame G p r t s Q A) : MX G (dp + 5) kX10_toFrame [.ref p, .int r, .int t, .int s] A (hV Q) := by
  unfold w_X10_toFrame at h
  refine MX.of rfl (Nat.le_of_ble_eq_true rfl) ?_
  change X _ _ _ _ _ _ [some (.ref p), some (.int r), some (.int t), some (.int s)] _
  refine X.xok (fun w0 => ?_)
  replace h := h w0
  refine x_iload_n dX10_toFrame_0 rfl ?_
  refine x_sipush_ (v := (2048 : Int32)) dX10_toFrame_1 (by decide) ?_
  refine x_icmp_ge (tgt := 19) dX10_toFrame_4 (by decide) (fun c4 => ?_) (fun c4 => ?_)
  · replace h := h.1 c4
    refine x_aload_n dX10_toFrame_19 rfl ?_
    obtain ⟨o1, h⟩ := h
    refine x_get (v := va_rf (A.P p 0)) hG dX10_toFrame_20 f_X10_15_9 o1 rfl ?_
    refine x_iload_n dX10_toFrame_23 rfl ?_
    refine x_iload_n dX10_toFrame_24 rfl ?_
    obtain ⟨b3, e3, h⟩ := h
    rw [e3]
    obtain ⟨o4, h⟩ := h
    obtain ⟨R2, g2, h⟩ := h
    refine x_callV hG (Ky := kX9_number) (As := [.int s, .int t]) dX10_toFrame_25 o4 rfl lk_X10_135 me_X9_number is_X9_number se_X9_number rfl rfl (Nat.le_of_ble_eq_true rfl) (MX.post (m_X9_number hG hO g2) ?_)
    rintro _ A2 ⟨rfl, h1⟩
    refine X.xok (fun w2 => ?_)
    replace h := h A2 w2 h1
    change X _ _ _ _ A2 _ _ []
    refine x_aload_n dX10_toFrame_28 rfl ?_
    obtain ⟨o5, h⟩ := h
    refine x_get (v := va_rf (A2.P p 0)) hG dX10_toFrame_29 f_X10_15_9 o5 rfl ?_
    refine x_iconst_ (v := (0 : Int32)) dX10_toFrame_32 (by decide) ?_
    refine x_iconst_ (v := (0 : Int32)) dX10_toFrame_33 (by decide) ?_
    refine x_iload_n dX10_toFrame_34 rfl ?_
    refine x_iload_n dX10_toFrame_35 rfl ?_
    refine x_iconst_ (v := (2 : Int32)) dX10_toFrame_36 (by decide) ?_
    obtain ⟨b7, e7, h⟩ := h
    rw [e7]
    obtain ⟨o8, h⟩ := h
    obtain ⟨R6, g6, h⟩ := h
    refine x_callV hG (Ky := kX9_three) (As := [.int (0 : Int32), .int (0 : Int32), .int s, .int s, .int (2 : Int32)]) dX10_toFrame_37 o8 rfl lk_X10_138 me_X9_three is_X9_three se_X9_three rfl rfl (Nat.le_of_ble_eq_true rfl) (MX.post (m_X9_three hG hO g6) ?_)
    rintro _ A6 ⟨rfl, h1⟩
    refine X.xok (fun w6 => ?_)
    replace h := h A6 w6 h1
    change X _ _ _ _ A6 _ _ []
    refine x_aload_n dX10_toFrame_40 rfl ?_
    obtain ⟨o9, h⟩ := h
    refine x_get (v := va_rf (A6.P p 0)) hG dX10_toFrame_41 f_X10_15_9 o9 rfl ?_
    refine x_iconst_ (v := (2 : Int32)) dX10_toFrame_44 (by decide) ?_
    refine x_iload_n dX10_toFrame_45 rfl ?_
    refine x_iload_n dX10_toFrame_46 rfl ?_
    refine x_iconst_ (v := (0 : Int32)) dX10_toFrame_47 (by decide) ?_
    obtain ⟨b11, e11, h⟩ := h
    rw [e11]
    obtain ⟨o12, h⟩ := h
    obtain ⟨R10, g10, h⟩ := h
    refine x_callV hG (Ky := kX9_store) (As := [.int (2 : Int32), .int r, .int s, .int (0 : Int32)]) dX10_toFrame_48 o12 rfl lk_X10_156 me_X9_store is_X9_store se_X9_store rfl rfl (Nat.le_of_ble_eq_true rfl) (MX.post (m_X9_store hG hO g10) ?_)
    rintro _ A10 ⟨rfl, h1⟩
    refine X.xok (fun w10 => ?_)
    replace h := h A10 w10 h1
    change X _ _ _ _ A10 _ _ []
    exact x_vret dX10_toFrame_51 rfl ⟨rfl, h⟩
  · replace h := h.2 c4
    refine x_aload_n dX10_toFrame_7 rfl ?_
    obtain ⟨o13, h⟩ := h
    refine x_get (v := va_rf (A.P p 0)) hG dX10_toFrame_8 f_X10_15_9 o13 rfl ?_
    refine x_iconst_ (v := (2 : Int32)) dX10_toFrame_11 (by decide) ?_
    refine x_iload_n dX10_toFrame_12 rfl ?_
    refine x_iconst_ (v := (2 : Int32)) dX10_toFrame_13 (by decide) ?_
    refine x_iload_n dX10_toFrame_14 rfl ?_
    obtain ⟨b15, e15, h⟩ := h
    rw [e15]
    obtain ⟨o16, h⟩ := h
    obtain ⟨R14, g14, h⟩ := h
    refine x_callV hG (Ky := kX9_store) (As := [.int (2 : Int32), .int r, .int (2 : Int32), .int t]) dX10_toFrame_15 o16 rfl lk_X10_156 me_X9_store is_X9_store se_X9_store rfl rfl (Nat.le_of_ble_eq_true rfl) (MX.post (m_X9_store hG hO g14) ?_)
    rintro _ A14 ⟨rfl, h1⟩
    refine X.xok (fun w14 => ?_)
    replace h := h A14 w14 h1
    change X _ _ _ _ A14 _ _ []
    exact x_vret dX10_toFrame_18 rfl ⟨rfl, h⟩
def w_X10_fromFrame (G : xG) (p : Nat) (r : Int32) (t : Int32) (Q : xA → Prop) (A : xA) : Prop := xok G A → (((2048 : Int32) ≤ t → A.tg p = 10 ∧ (∃ b3 : Nat, (A.P p 0) = some b3 ∧ (A.tg b3 = 9 ∧ (∃ R2 : xA → Prop, w_X9_number G b3 r t R2 A ∧ (∀ A2 : xA, xok G A2 → R2 A2 → (A2.tg p = 10 ∧ (∃ b7 : Nat, (A2.P p 0) = some b7 ∧ (A2.tg b7 = 9 ∧ (∃ R6 : xA → Prop, w_X9_three G b7 (0 : Int32) (0 : Int32) r r (2 : Int32) R6 A2 ∧ (∀ A6 : xA, xok G A6 → R6 A6 → (A6.tg p = 10 ∧ (∃ b11 : Nat, (A6.P p 0) = some b11 ∧ (A6.tg b11 = 9 ∧ (∃ R10 : xA → Prop, w_X9_load G b11 (2 : Int32) r r (0 : Int32) R10 A6 ∧ (∀ A10 : xA, xok G A10 → R10 A10 → (Q A10)))))))))))))))) ∧ (¬ (2048 : Int32) ≤ t → A.tg p = 10 ∧ (∃ b15 : Nat, (A.P p 0) = some b15 ∧ (A.tg b15 = 9 ∧ (∃ R14 : xA → Prop, w_X9_load G b15 (2 : Int32) r (2 : Int32) t R14 A ∧ (∀ A14 : xA, xok G A14 → R14 A14 → (Q A14)))))))
theorem m_X10_fromFrame (hG : xOK G) (hO : xHO G) {dp : Nat} {p : Nat} {r : Int32} {t : Int32} {Q : xA → Prop} {A : xA} (h : w_X10_fromFrame G p r t Q A) : MX G (dp + 5) kX10_fromFrame [.ref p, .int r, .int t] A (hV Q) := by
  unfold w_X10_fromFrame at h
  refine MX.of rfl (Nat.le_of_ble_eq_true rfl) ?_
  change X _ _ _ _ _ _ [some (.ref p), some (.int r), some (.int t)] _
  refine X.xok (fun w0 => ?_)
  replace h := h w0
  refine x_iload_n dX10_fromFrame_0 rfl ?_
  refine x_sipush_ (v := (2048 : Int32)) dX10_fromFrame_1 (by decide) ?_
  refine x_icmp_ge (tgt := 19) dX10_fromFrame_4 (by decide) (fun c4 => ?_) (fun c4 => ?_)
  · replace h := h.1 c4
    refine x_aload_n dX10_fromFrame_19 rfl ?_
    obtain ⟨o1, h⟩ := h
    refine x_get (v := va_rf (A.P p 0)) hG dX10_fromFrame_20 f_X10_15_9 o1 rfl ?_
    refine x_iload_n dX10_fromFrame_23 rfl ?_
    refine x_iload_n dX10_fromFrame_24 rfl ?_
    obtain ⟨b3, e3, h⟩ := h
    rw [e3]
    obtain ⟨o4, h⟩ := h
    obtain ⟨R2, g2, h⟩ := h
    refine x_callV hG (Ky := kX9_number) (As := [.int r, .int t]) dX10_fromFrame_25 o4 rfl lk_X10_135 me_X9_number is_X9_number se_X9_number rfl rfl (Nat.le_of_ble_eq_true rfl) (MX.post (m_X9_number hG hO g2) ?_)
    rintro _ A2 ⟨rfl, h1⟩
    refine X.xok (fun w2 => ?_)
    replace h := h A2 w2 h1
    change X _ _ _ _ A2 _ _ []
    refine x_aload_n dX10_fromFrame_28 rfl ?_
    obtain ⟨o5, h⟩ := h
    refine x_get (v := va_rf (A2.P p 0)) hG dX10_fromFrame_29 f_X10_15_9 o5 rfl ?_
    refine x_iconst_ (v := (0 : Int32)) dX10_fromFrame_32 (by decide) ?_
    refine x_iconst_ (v := (0 : Int32)) dX10_fromFrame_33 (by decide) ?_
    refine x_iload_n dX10_fromFrame_34 rfl ?_
    refine x_iload_n dX10_fromFrame_35 rfl ?_
    refine x_iconst_ (v := (2 : Int32)) dX10_fromFrame_36 (by decide) ?_
    obtain ⟨b7, e7, h⟩ := h
    rw [e7]
    obtain ⟨o8, h⟩ := h
    obtain ⟨R6, g6, h⟩ := h
    refine x_callV hG (Ky := kX9_three) (As := [.int (0 : Int32), .int (0 : Int32), .int r, .int r, .int (2 : Int32)]) dX10_fromFrame_37 o8 rfl lk_X10_138 me_X9_three is_X9_three se_X9_three rfl rfl (Nat.le_of_ble_eq_true rfl) (MX.post (m_X9_three hG hO g6) ?_)
    rintro _ A6 ⟨rfl, h1⟩
    refine X.xok (fun w6 => ?_)
    replace h := h A6 w6 h1
    change X _ _ _ _ A6 _ _ []
    refine x_aload_n dX10_fromFrame_40 rfl ?_
    obtain ⟨o9, h⟩ := h
    refine x_get (v := va_rf (A6.P p 0)) hG dX10_fromFrame_41 f_X10_15_9 o9 rfl ?_
    refine x_iconst_ (v := (2 : Int32)) dX10_fromFrame_44 (by decide) ?_
    refine x_iload_n dX10_fromFrame_45 rfl ?_
    refine x_iload_n dX10_fromFrame_46 rfl ?_
    refine x_iconst_ (v := (0 : Int32)) dX10_fromFrame_47 (by decide) ?_
    obtain ⟨b11, e11, h⟩ := h
    rw [e11]
    obtain ⟨o12, h⟩ := h
    obtain ⟨R10, g10, h⟩ := h
    refine x_callV hG (Ky := kX9_load) (As := [.int (2 : Int32), .int r, .int r, .int (0 : Int32)]) dX10_fromFrame_48 o12 rfl lk_X10_159 me_X9_load is_X9_load se_X9_load rfl rfl (Nat.le_of_ble_eq_true rfl) (MX.post (m_X9_load hG hO g10) ?_)
    rintro _ A10 ⟨rfl, h1⟩
    refine X.xok (fun w10 => ?_)
    replace h := h A10 w10 h1
    change X _ _ _ _ A10 _ _ []
    exact x_vret dX10_fromFrame_51 rfl ⟨rfl, h⟩
  · replace h := h.2 c4
    refine x_aload_n dX10_fromFrame_7 rfl ?_
    obtain ⟨o13, h⟩ := h
    refine x_get (v := va_rf (A.P p 0)) hG dX10_fromFrame_8 f_X10_15_9 o13 rfl ?_
    refine x_iconst_ (v := (2 : Int32)) dX10_fromFrame_11 (by decide) ?_
    refine x_iload_n dX10_fromFrame_12 rfl ?_
    refine x_iconst_ (v := (2 : Int32)) dX10_fromFrame_13 (by decide) ?_
    refine x_iload_n dX10_fromFrame_14 rfl ?_
    obtain ⟨b15, e15, h⟩ := h
    rw [e15]
    obtain ⟨o16, h⟩ := h
    obtain ⟨R14, g14, h⟩ := h
    refine x_callV hG (Ky := kX9_load) (As := [.int (2 : Int32), .int r, .int (2 : Int32), .int t]) dX10_fromFrame_15 o16 rfl lk_X10_159 me_X9_load is_X9_load se_X9_load rfl rfl (Nat.le_of_ble_eq_true rfl) (MX.post (m_X9_load hG hO g14) ?_)
    rintro _ A14 ⟨rfl, h1⟩
    refine X.xok (fun w14 => ?_)
    replace h := h A14 w14 h1
    change X _ _ _ _ A14 _ _ []
    exact x_vret dX10_fromFrame_18 rfl ⟨rfl, h⟩
def w_X10_one (G : xG) (p : Nat) (r : Int32) (t : Int32) (g : Int32) (Q : xA → Prop) (A : xA) : Prop := xok G A → ((g = 0 → A.tg p = 10 ∧ (∃ R1 : xA → Prop, w_X10_fromFrame G p r t R1 A ∧ (∀ A1 : xA, xok G A1 → R1 A1 → (Q A1)))) ∧ (¬ g = 0 → A.tg p = 10 ∧ (∃ R3 : xA → Prop, w_X10_toFrame G p r t (30 : Int32) R3 A ∧ (∀ A3 : xA, xok G A3 → R3 A3 → (Q A3)))))
theorem m_X10_one (hG : xOK G) (hO : xHO G) {dp : Nat} {p : Nat} {r : Int32} {t : Int32} {g : Int32} {Q : xA → Prop} {A : xA} (h : w_X10_one G p r t g Q A) : MX G (dp + 6) kX10_one [.ref p, .int r, .int t, .int g] A (hV Q) := by
  unfold w_X10_one at h
  refine MX.of rfl (Nat.le_of_ble_eq_true rfl) ?_
  change X _ _ _ _ _ _ [some (.ref p), some (.int r), some (.int t), some (.int g)] _
  refine X.xok (fun w0 => ?_)
  replace h := h w0
  refine x_iload_n dX10_one_0 rfl ?_
  refine x_if_eq (tgt := 15) dX10_one_1 (by decide) (fun c1 => ?_) (fun c1 => ?_)
  · replace h := h.1 c1
    refine x_aload_n dX10_one_15 rfl ?_
    refine x_iload_n dX10_one_16 rfl ?_
    refine x_iload_n dX10_one_17 rfl ?_
    obtain ⟨o2, h⟩ := h
    obtain ⟨R1, g1, h⟩ := h
    refine x_callV hG (Ky := kX10_fromFrame) (As := [.int r, .int t]) dX10_one_18 o2 rfl lk_X10_153 me_X10_fromFrame is_X10_fromFrame se_X10_fromFrame rfl rfl (Nat.le_of_ble_eq_true rfl) (MX.post (m_X10_fromFrame hG hO g1) ?_)
    rintro _ A1 ⟨rfl, h1⟩
    refine X.xok (fun w1 => ?_)
    replace h := h A1 w1 h1
    change X _ _ _ _ A1 _ _ []
    exact x_vret dX10_one_21 rfl ⟨rfl, h⟩
  · replace h := h.2 c1
    refine x_aload_n dX10_one_4 rfl ?_
    refine x_iload_n dX10_one_5 rfl ?_
    refine x_iload_n dX10_one_6 rfl ?_
    refine x_bipush_ (v := (30 : Int32)) dX10_one_7 (by decide) ?_
    obtain ⟨o4, h⟩ := h
    obtain ⟨R3, g3, h⟩ := h
    refine x_callV hG (Ky := kX10_toFrame) (As := [.int r, .int t, .int (30 : Int32)]) dX10_one_9 o4 rfl lk_X10_149 me_X10_toFrame is_X10_toFrame se_X10_toFrame rfl rfl (Nat.le_of_ble_eq_true rfl) (MX.post (m_X10_toFrame hG hO g3) ?_)
    rintro _ A3 ⟨rfl, h1⟩
    refine X.xok (fun w3 => ?_)
    replace h := h A3 w3 h1
    change X _ _ _ _ A3 _ _ []
    refine x_goto (tgt := 21) dX10_one_12 (by decide) ?_
    exact x_vret dX10_one_21 rfl ⟨rfl, h⟩
def w_X10_keep (G : xG) (p : Nat) (u : Int32) (g : Int32) (Q : xA → Prop) (A : xA) : Prop := xok G A → A.tg p = 10 ∧ (∃ J2 : xA → Prop, (∀ (A2 : xA), J2 A2 → ∃ L3 : Nat → Int32 → Int32 → xA → Prop, (∃ n3 : Nat, L3 n3 ((A.I p 4) + (4 : Int32)) (5 : Int32) A2) ∧ (∀ (n3 : Nat) (y3_3 : Int32) (y3_4 : Int32) (A3 : xA), L3 n3 y3_3 y3_4 A3 → (((nI (A3.ln (G.cs 3))) ≤ y3_4 → Q A3) ∧ (¬ (nI (A3.ln (G.cs 3))) ≤ y3_4 → ∃ J6 : Int32 → xA → Prop, (∀ (y6_3 : Int32) (A6 : xA), J6 y6_3 A6 → (∃ q3 : Nat, q3 < n3 ∧ L3 q3 y6_3 (y3_4 + (1 : Int32)) A6)) ∧ ((((jishr u y3_4) &&& (1 : Int32)) = 0 → J6 y3_3 A3) ∧ (¬ ((jishr u y3_4) &&& (1 : Int32)) = 0 → vp_in y3_4 (A3.ln (G.cs 3)) ∧ (A3.tg p = 10 ∧ (∃ R9 : xA → Prop, w_X10_one G p (A3.I (G.cs 3) (ix y3_4)) y3_3 g R9 A3 ∧ (∀ A9 : xA, xok G A9 → R9 A9 → (J6 (y3_3 + (4 : Int32)) A9)))))))))) ∧ (((A.I p 6) = 0 → J2 A) ∧ (¬ (A.I p 6) = 0 → ∃ R11 : xA → Prop, w_X10_one G p (1 : Int32) (A.I p 4) g R11 A ∧ (∀ A11 : xA, xok G A11 → R11 A11 → (J2 A11)))))
theorem m_X10_keep (hG : xOK G) (hO : xHO G) {dp : Nat} {p : Nat} {u : Int32} {g : Int32} {Q : xA → Prop} {A : xA} (h : w_X10_keep G p u g Q A) : MX G (dp + 7) kX10_keep [.ref p, .int u, .int g] A (hV Q) := by
  unfold w_X10_keep at h
  refine MX.of rfl (Nat.le_of_ble_eq_true rfl) ?_
  change X _ _ _ _ _ _ [some (.ref p), some (.int u), some (.int g), none, none] _
  refine X.xok (fun w0 => ?_)
  replace h := h w0
  refine x_aload_n dX10_keep_0 rfl ?_
  obtain ⟨o1, h⟩ := h
  refine x_get (v := .int (A.I p 4)) hG dX10_keep_1 f_X10_52_9 o1 rfl ?_
  refine x_istore_n dX10_keep_4 (by decide) ?_
  refine x_aload_n dX10_keep_5 rfl ?_
  refine x_get (v := .int (A.I p 6)) hG dX10_keep_6 f_X10_55_9 o1 rfl ?_
  obtain ⟨J2, g2, h⟩ := h
  have kj2 : ∀ (A2 : xA), J2 A2 → X G (dp + 7) kX10_keep (hV Q) A2 19 [some (.ref p), some (.int u), some (.int g), some (.int (A.I p 4)), none] [] := by
    intro A2 h
    replace h := g2 A2 h
    refine x_iinc (v := ((A.I p 4) + (4 : Int32))) dX10_keep_19 rfl rfl (by decide) ?_
    refine x_iconst_ (v := (5 : Int32)) dX10_keep_22 (by decide) ?_
    refine x_istore dX10_keep_23 (by decide) ?_
    obtain ⟨L3, ⟨n3, i3⟩, g3⟩ := h
    have kl3 : ∀ n3 : Nat, ∀ (y3_3 : Int32) (y3_4 : Int32) (A3 : xA), L3 n3 y3_3 y3_4 A3 → X G (dp + 7) kX10_keep (hV Q) A3 25 [some (.ref p), some (.int u), some (.int g), some (.int y3_3), some (.int y3_4)] [] := by
      intro n3
      induction n3 using Nat.strongRecOn with
      | ind n3 ih3 =>
        intro y3_3 y3_4 A3 h
        replace h := g3 n3 y3_3 y3_4 A3 h
        refine x_iload dX10_keep_25 rfl ?_
        refine x_gets hG (C := "CompiledHouse") hO.2.2.1.1.1 (Or.inr ⟨_, q2761⟩) (Or.inl rfl) dX10_keep_27 ?_
        refine X.xok (fun w4 => ?_)
        have t4 := xold_tg w4 hO.2.2.1.1.2.1 hO.2.2.1.1.2.2.1
        refine x_alen hG (j := 0) dX10_keep_30 t4 ?_
        refine x_icmp_ge (tgt := 67) dX10_keep_31 (by decide) (fun c31 => ?_) (fun c31 => ?_)
        · replace h := h.1 c31
          exact x_vret dX10_keep_67 rfl ⟨rfl, h⟩
        · replace h := h.2 c31
          refine x_iload_n dX10_keep_34 rfl ?_
          refine x_iload dX10_keep_35 rfl ?_
          refine x_ishr dX10_keep_37 ?_
          refine x_eqi (v := (jishr u y3_4)) rfl ?_
          refine x_iconst_ (v := (1 : Int32)) dX10_keep_38 (by decide) ?_
          refine x_iand dX10_keep_39 ?_
          obtain ⟨J6, g6, h⟩ := h
          have kj6 : ∀ (y6_3 : Int32) (A6 : xA), J6 y6_3 A6 → X G (dp + 7) kX10_keep (hV Q) A6 61 [some (.ref p), some (.int u), some (.int g), some (.int y6_3), some (.int y3_4)] [] := by
            intro y6_3 A6 h
            replace h := g6 y6_3 A6 h
            refine x_iinc (v := (y3_4 + (1 : Int32))) dX10_keep_61 rfl rfl (by decide) ?_
            refine x_goto (tgt := 25) dX10_keep_64 (by decide) ?_
            obtain ⟨q3, l3, h⟩ := h
            change X _ _ _ _ _ _ [some (.ref p), some (.int u), some (.int g), some (.int y6_3), some (.int (y3_4 + (1 : Int32)))] []
            exact X.weak (xle_c rfl (xle_c rfl (xle_c rfl (xle_c rfl (xle_c rfl xle_nil))))) (ih3 q3 l3 y6_3 (y3_4 + (1 : Int32)) A6 h)
          refine x_if_ne (tgt := 46) dX10_keep_40 (by decide) (fun c40 => ?_) (fun c40 => ?_)
          · replace h := h.2 c40
            refine x_aload_n dX10_keep_46 rfl ?_
            refine x_gets hG (C := "CompiledHouse") hO.2.2.1.1.1 (Or.inr ⟨_, q2761⟩) (Or.inl rfl) dX10_keep_47 ?_
            refine X.xok (fun w7 => ?_)
            have t7 := xold_tg w7 hO.2.2.1.1.2.1 hO.2.2.1.1.2.2.1
            refine x_iload dX10_keep_50 rfl ?_
            obtain ⟨o8, h⟩ := h
            refine x_iald hG dX10_keep_52 t7 o8 ?_
            refine x_iload_n dX10_keep_53 rfl ?_
            refine x_iload_n dX10_keep_54 rfl ?_
            obtain ⟨o10, h⟩ := h
            obtain ⟨R9, g9, h⟩ := h
            refine x_callV hG (Ky := kX10_one) (As := [.int (A3.I (G.cs 3) (ix y3_4)), .int y3_3, .int g]) dX10_keep_55 o10 rfl lk_X10_142 me_X10_one is_X10_one se_X10_one rfl rfl (Nat.le_of_ble_eq_true rfl) (MX.post (m_X10_one hG hO g9) ?_)
            rintro _ A9 ⟨rfl, h1⟩
            refine X.xok (fun w9 => ?_)
            replace h := h A9 w9 h1
            change X _ _ _ _ A9 _ _ []
            refine x_iinc (v := (y3_3 + (4 : Int32))) dX10_keep_58 rfl rfl (by decide) ?_
            change X _ _ _ _ _ _ [some (.ref p), some (.int u), some (.int g), some (.int (y3_3 + (4 : Int32))), some (.int y3_4)] []
            exact X.weak (xle_c rfl (xle_c rfl (xle_c rfl (xle_c rfl (xle_c rfl xle_nil))))) (kj6 (y3_3 + (4 : Int32)) A9 h)
          · replace h := h.1 c40
            refine x_goto (tgt := 61) dX10_keep_43 (by decide) ?_
            change X _ _ _ _ _ _ [some (.ref p), some (.int u), some (.int g), some (.int y3_3), some (.int y3_4)] []
            exact X.weak (xle_c rfl (xle_c rfl (xle_c rfl (xle_c rfl (xle_c rfl xle_nil))))) (kj6 y3_3 A3 h)
    change X _ _ _ _ _ _ [some (.ref p), some (.int u), some (.int g), some (.int ((A.I p 4) + (4 : Int32))), some (.int (5 : Int32))] []
    exact X.weak (xle_c rfl (xle_c rfl (xle_c rfl (xle_c rfl (xle_c rfl xle_nil))))) (kl3 n3 ((A.I p 4) + (4 : Int32)) (5 : Int32) A2 i3)
  refine x_if_eq (tgt := 19) dX10_keep_9 (by decide) (fun c9 => ?_) (fun c9 => ?_)
  · replace h := h.1 c9
    change X _ _ _ _ _ _ [some (.ref p), some (.int u), some (.int g), some (.int (A.I p 4)), none] []
    exact X.weak (xle_c rfl (xle_c rfl (xle_c rfl (xle_c rfl (xle_n xle_nil))))) (kj2 A h)
  · replace h := h.2 c9
    refine x_aload_n dX10_keep_12 rfl ?_
    refine x_iconst_ (v := (1 : Int32)) dX10_keep_13 (by decide) ?_
    refine x_iload_n dX10_keep_14 rfl ?_
    refine x_iload_n dX10_keep_15 rfl ?_
    obtain ⟨R11, g11, h⟩ := h
    refine x_callV hG (Ky := kX10_one) (As := [.int (1 : Int32), .int (A.I p 4), .int g]) dX10_keep_16 o1 rfl lk_X10_142 me_X10_one is_X10_one se_X10_one rfl rfl (Nat.le_of_ble_eq_true rfl) (MX.post (m_X10_one hG hO g11) ?_)
    rintro _ A11 ⟨rfl, h1⟩
    refine X.xok (fun w11 => ?_)
    replace h := h A11 w11 h1
    change X _ _ _ _ A11 _ _ []
    change X _ _ _ _ _ _ [some (.ref p), some (.int u), some (.int g), some (.int (A.I p 4)), none] []
    exact X.weak (xle_c rfl (xle_c rfl (xle_c rfl (xle_c rfl (xle_n xle_nil))))) (kj2 A11 h)
def w_X10_slotOf (G : xG) (p : Nat) (r : Int32) (Q : Int32 → xA → Prop) (A : xA) : Prop := xok G A → A.tg p = 10 ∧ (∃ b2 : Nat, (A.P p 1) = some b2 ∧ (A.tg b2 = 11 ∧ (∃ b4 : Nat, (A.P b2 11) = some b4 ∧ (A.tg b4 = 200 ∧ (vp_in r (A.ln b4) ∧ (Q ((A.I p 3) + ((4 : Int32) * (A.I b4 (ix r)))) A))))))
theorem m_X10_slotOf (hG : xOK G) (hO : xHO G) {dp : Nat} {p : Nat} {r : Int32} {Q : Int32 → xA → Prop} {A : xA} (h : w_X10_slotOf G p r Q A) : MX G (dp + 0) kX10_slotOf [.ref p, .int r] A (hI Q) := by
  unfold w_X10_slotOf at h
  refine MX.of rfl (Nat.le_of_ble_eq_true rfl) ?_
  change X _ _ _ _ _ _ [some (.ref p), some (.int r)] _
  refine X.xok (fun w0 => ?_)
  replace h := h w0
  refine x_aload_n dX10_slotOf_0 rfl ?_
  obtain ⟨o1, h⟩ := h
  refine x_get (v := .int (A.I p 3)) hG dX10_slotOf_1 f_X10_48_9 o1 rfl ?_
  refine x_iconst_ (v := (4 : Int32)) dX10_slotOf_4 (by decide) ?_
  refine x_aload_n dX10_slotOf_5 rfl ?_
  refine x_get (v := va_rf (A.P p 1)) hG dX10_slotOf_6 f_X10_24_9 o1 rfl ?_
  obtain ⟨b2, e2, h⟩ := h
  rw [e2]
  obtain ⟨o3, h⟩ := h
  refine x_get (v := va_rf (A.P b2 11)) hG dX10_slotOf_9 f_X10_162_10 o3 rfl ?_
  refine x_iload_n dX10_slotOf_12 rfl ?_
  obtain ⟨b4, e4, h⟩ := h
  rw [e4]
  obtain ⟨o5, h⟩ := h
  obtain ⟨o6, h⟩ := h
  refine x_iald hG dX10_slotOf_13 o5 o6 ?_
  refine x_imul dX10_slotOf_14 ?_
  refine x_iadd dX10_slotOf_15 ?_
  exact x_iret dX10_slotOf_16 rfl ⟨_, rfl, h⟩
def w_X10_from (G : xG) (p : Nat) (o : Int64) (s : Int32) (Q : Int32 → xA → Prop) (A : xA) : Prop := xok G A → (((f_X0_isConstant o) = 0 → A.tg p = 10 ∧ (∃ b2 : Nat, (A.P p 1) = some b2 ∧ (A.tg b2 = 11 ∧ (∃ b4 : Nat, (A.P b2 10) = some b4 ∧ (A.tg b4 = 200 ∧ (vp_in o.toInt32 (A.ln b4) ∧ ((((A.I b4 (ix o.toInt32)) < 0 → ∃ R7 : Int32 → xA → Prop, w_X10_slotOf G p o.toInt32 R7 A ∧ (∀ (v7 : Int32) (A7 : xA), xok G A7 → R7 v7 A7 → (A7.tg p = 10 ∧ (∃ R8 : xA → Prop, w_X10_fromFrame G p s v7 R8 A7 ∧ (∀ A8 : xA, xok G A8 → R8 A8 → (Q s A8)))))) ∧ (¬ (A.I b4 (ix o.toInt32)) < 0 → vp_in (A.I b4 (ix o.toInt32)) (A.ln (G.cs 3)) ∧ (Q (A.I (G.cs 3) (ix (A.I b4 (ix o.toInt32)))) A)))))))))) ∧ (¬ (f_X0_isConstant o) = 0 → ((o.toInt32 = 0 → Q (0 : Int32) A) ∧ (¬ o.toInt32 = 0 → A.tg p = 10 ∧ (∃ b14 : Nat, (A.P p 0) = some b14 ∧ (A.tg b14 = 9 ∧ (∃ R13 : xA → Prop, w_X9_number G b14 s o.toInt32 R13 A ∧ (∀ A13 : xA, xok G A13 → R13 A13 → (Q s A13)))))))))
theorem m_X10_from (hG : xOK G) (hO : xHO G) {dp : Nat} {p : Nat} {o : Int64} {s : Int32} {Q : Int32 → xA → Prop} {A : xA} (h : w_X10_from G p o s Q A) : MX G (dp + 6) kX10_from [.ref p, .long o, .int s] A (hI Q) := by
  unfold w_X10_from at h
  refine MX.of rfl (Nat.le_of_ble_eq_true rfl) ?_
  change X _ _ _ _ _ _ [some (.ref p), some (.long o), none, some (.int s), none] _
  refine X.xok (fun w0 => ?_)
  replace h := h w0
  refine x_lload_n dX10_from_0 rfl ?_
  refine x_callS hG (Ky := kX0_isConstant) (As := [.long o]) dX10_from_1 lk_X10_165 me_X0_isConstant st_X0_isConstant rfl rfl (Nat.le_of_ble_eq_true rfl) (MX.post (m_X0_isConstant hG) ?_)
  rintro _ _ ⟨rfl, rfl⟩
  change X _ _ _ _ _ _ _ (.int (f_X0_isConstant o) :: _)
  refine x_if_eq (tgt := 26) dX10_from_4 (by decide) (fun c4 => ?_) (fun c4 => ?_)
  · replace h := h.1 c4
    refine x_lload_n dX10_from_26 rfl ?_
    refine x_l2i dX10_from_27 ?_
    refine x_istore dX10_from_28 (by decide) ?_
    refine x_aload_n dX10_from_30 rfl ?_
    obtain ⟨o1, h⟩ := h
    refine x_get (v := va_rf (A.P p 1)) hG dX10_from_31 f_X10_24_9 o1 rfl ?_
    obtain ⟨b2, e2, h⟩ := h
    rw [e2]
    obtain ⟨o3, h⟩ := h
    refine x_get (v := va_rf (A.P b2 10)) hG dX10_from_34 f_X10_88_10 o3 rfl ?_
    refine x_iload dX10_from_37 rfl ?_
    obtain ⟨b4, e4, h⟩ := h
    rw [e4]
    obtain ⟨o5, h⟩ := h
    obtain ⟨o6, h⟩ := h
    refine x_iald hG dX10_from_39 o5 o6 ?_
    refine x_if_lt (tgt := 58) dX10_from_40 (by decide) (fun c40 => ?_) (fun c40 => ?_)
    · replace h := h.1 c40
      refine x_aload_n dX10_from_58 rfl ?_
      refine x_iload_n dX10_from_59 rfl ?_
      refine x_aload_n dX10_from_60 rfl ?_
      refine x_iload dX10_from_61 rfl ?_
      obtain ⟨R7, g7, h⟩ := h
      refine x_callV hG (Ky := kX10_slotOf) (As := [.int o.toInt32]) dX10_from_63 o1 rfl lk_X10_169 me_X10_slotOf is_X10_slotOf se_X10_slotOf rfl rfl (Nat.le_of_ble_eq_true rfl) (MX.post (m_X10_slotOf hG hO g7) ?_)
      rintro _ A7 ⟨v7, rfl, h1⟩
      refine X.xok (fun w7 => ?_)
      replace h := h v7 A7 w7 h1
      change X _ _ _ _ A7 _ _ [.int v7, .int s, .ref p]
      obtain ⟨o9, h⟩ := h
      obtain ⟨R8, g8, h⟩ := h
      refine x_callV hG (Ky := kX10_fromFrame) (As := [.int s, .int v7]) dX10_from_66 o9 rfl lk_X10_153 me_X10_fromFrame is_X10_fromFrame se_X10_fromFrame rfl rfl (Nat.le_of_ble_eq_true rfl) (MX.post (m_X10_fromFrame hG hO g8) ?_)
      rintro _ A8 ⟨rfl, h1⟩
      refine X.xok (fun w8 => ?_)
      replace h := h A8 w8 h1
      change X _ _ _ _ A8 _ _ []
      refine x_iload_n dX10_from_69 rfl ?_
      exact x_iret dX10_from_70 rfl ⟨_, rfl, h⟩
    · replace h := h.2 c40
      refine x_gets hG (C := "CompiledHouse") hO.2.2.1.1.1 (Or.inr ⟨_, q2761⟩) (Or.inl rfl) dX10_from_43 ?_
      refine X.xok (fun w10 => ?_)
      have t10 := xold_tg w10 hO.2.2.1.1.2.1 hO.2.2.1.1.2.2.1
      refine x_aload_n dX10_from_46 rfl ?_
      refine x_get (v := .ref b2) hG dX10_from_47 f_X10_24_9 o1 (congrArg va_rf e2) ?_
      refine x_get (v := .ref b4) hG dX10_from_50 f_X10_88_10 o3 (congrArg va_rf e4) ?_
      refine x_iload dX10_from_53 rfl ?_
      refine x_iald hG dX10_from_55 o5 o6 ?_
      obtain ⟨o11, h⟩ := h
      refine x_iald hG dX10_from_56 t10 o11 ?_
      exact x_iret dX10_from_57 rfl ⟨_, rfl, h⟩
  · replace h := h.2 c4
    refine x_lload_n dX10_from_7 rfl ?_
    refine x_l2i dX10_from_8 ?_
    refine x_if_ne (tgt := 14) dX10_from_9 (by decide) (fun c9 => ?_) (fun c9 => ?_)
    · replace h := h.2 c9
      refine x_aload_n dX10_from_14 rfl ?_
      obtain ⟨o12, h⟩ := h
      refine x_get (v := va_rf (A.P p 0)) hG dX10_from_15 f_X10_15_9 o12 rfl ?_
      refine x_iload_n dX10_from_18 rfl ?_
      refine x_lload_n dX10_from_19 rfl ?_
      refine x_l2i dX10_from_20 ?_
      obtain ⟨b14, e14, h⟩ := h
      rw [e14]
      obtain ⟨o15, h⟩ := h
      obtain ⟨R13, g13, h⟩ := h
      refine x_callV hG (Ky := kX9_number) (As := [.int s, .int o.toInt32]) dX10_from_21 o15 rfl lk_X10_135 me_X9_number is_X9_number se_X9_number rfl rfl (Nat.le_of_ble_eq_true rfl) (MX.post (m_X9_number hG hO g13) ?_)
      rintro _ A13 ⟨rfl, h1⟩
      refine X.xok (fun w13 => ?_)
      replace h := h A13 w13 h1
      change X _ _ _ _ A13 _ _ []
      refine x_iload_n dX10_from_24 rfl ?_
      exact x_iret dX10_from_25 rfl ⟨_, rfl, h⟩
    · replace h := h.1 c9
      refine x_iconst_ (v := (0 : Int32)) dX10_from_12 (by decide) ?_
      exact x_iret dX10_from_13 rfl ⟨_, rfl, h⟩
def w_X10_bring (G : xG) (p : Nat) (o : Int64) (t : Int32) (Q : xA → Prop) (A : xA) : Prop := xok G A → A.tg p = 10 ∧ (∃ R2 : Int32 → xA → Prop, w_X10_from G p o t R2 A ∧ (∀ (v2 : Int32) (A2 : xA), xok G A2 → R2 v2 A2 → (∃ b4 : Nat, (A.P p 0) = some b4 ∧ (A2.tg b4 = 9 ∧ (∃ R3 : xA → Prop, w_X9_move G b4 t v2 R3 A2 ∧ (∀ A3 : xA, xok G A3 → R3 A3 → (Q A3)))))))
theorem m_X10_bring (hG : xOK G) (hO : xHO G) {dp : Nat} {p : Nat} {o : Int64} {t : Int32} {Q : xA → Prop} {A : xA} (h : w_X10_bring G p o t Q A) : MX G (dp + 7) kX10_bring [.ref p, .long o, .int t] A (hV Q) := by
  unfold w_X10_bring at h
  refine MX.of rfl (Nat.le_of_ble_eq_true rfl) ?_
  change X _ _ _ _ _ _ [some (.ref p), some (.long o), none, some (.int t)] _
  refine X.xok (fun w0 => ?_)
  replace h := h w0
  refine x_aload_n dX10_bring_0 rfl ?_
  obtain ⟨o1, h⟩ := h
  refine x_get (v := va_rf (A.P p 0)) hG dX10_bring_1 f_X10_15_9 o1 rfl ?_
  refine x_iload_n dX10_bring_4 rfl ?_
  refine x_aload_n dX10_bring_5 rfl ?_
  refine x_lload_n dX10_bring_6 rfl ?_
  refine x_iload_n dX10_bring_7 rfl ?_
  obtain ⟨R2, g2, h⟩ := h
  refine x_callV hG (Ky := kX10_from) (As := [.long o, .int t]) dX10_bring_8 o1 rfl lk_X10_172 me_X10_from is_X10_from se_X10_from rfl rfl (by simp only [List.append_eq, List.nil_append, List.map_cons, va_rf_cat]; exact Nat.le_of_ble_eq_true rfl) (MX.post (m_X10_from hG hO g2) ?_)
  rintro _ A2 ⟨v2, rfl, h1⟩
  refine X.xok (fun w2 => ?_)
  replace h := h v2 A2 w2 h1
  change X _ _ _ _ A2 _ _ [.int v2, .int t, va_rf (A.P p 0)]
  obtain ⟨b4, e4, h⟩ := h
  rw [e4]
  obtain ⟨o5, h⟩ := h
  obtain ⟨R3, g3, h⟩ := h
  refine x_callV hG (Ky := kX9_move) (As := [.int t, .int v2]) dX10_bring_11 o5 rfl lk_X10_176 me_X9_move is_X9_move se_X9_move rfl rfl (Nat.le_of_ble_eq_true rfl) (MX.post (m_X9_move hG hO g3) ?_)
  rintro _ A3 ⟨rfl, h1⟩
  refine X.xok (fun w3 => ?_)
  replace h := h A3 w3 h1
  change X _ _ _ _ A3 _ _ []
  exact x_vret dX10_bring_14 rfl ⟨rfl, h⟩
def w_X10_into (G : xG) (p : Nat) (r : Int32) (Q : Int32 → xA → Prop) (A : xA) : Prop := xok G A → A.tg p = 10 ∧ (∃ b2 : Nat, (A.P p 1) = some b2 ∧ (A.tg b2 = 11 ∧ (∃ b4 : Nat, (A.P b2 10) = some b4 ∧ (A.tg b4 = 200 ∧ (vp_in r (A.ln b4) ∧ ((((A.I b4 (ix r)) < 0 → Q (30 : Int32) A) ∧ (¬ (A.I b4 (ix r)) < 0 → vp_in (A.I b4 (ix r)) (A.ln (G.cs 3)) ∧ (Q (A.I (G.cs 3) (ix (A.I b4 (ix r)))) A)))))))))
theorem m_X10_into (hG : xOK G) (hO : xHO G) {dp : Nat} {p : Nat} {r : Int32} {Q : Int32 → xA → Prop} {A : xA} (h : w_X10_into G p r Q A) : MX G (dp + 0) kX10_into [.ref p, .int r] A (hI Q) := by
  unfold w_X10_into at h
  refine MX.of rfl (Nat.le_of_ble_eq_true rfl) ?_
  change X _ _ _ _ _ _ [some (.ref p), some (.int r)] _
  refine X.xok (fun w0 => ?_)
  replace h := h w0
  refine x_aload_n dX10_into_0 rfl ?_
  obtain ⟨o1, h⟩ := h
  refine x_get (v := va_rf (A.P p 1)) hG dX10_into_1 f_X10_24_9 o1 rfl ?_
  obtain ⟨b2, e2, h⟩ := h
  rw [e2]
  obtain ⟨o3, h⟩ := h
  refine x_get (v := va_rf (A.P b2 10)) hG dX10_into_4 f_X10_88_10 o3 rfl ?_
  refine x_iload_n dX10_into_7 rfl ?_
  obtain ⟨b4, e4, h⟩ := h
  rw [e4]
  obtain ⟨o5, h⟩ := h
  obtain ⟨o6, h⟩ := h
  refine x_iald hG dX10_into_8 o5 o6 ?_
  refine x_if_lt (tgt := 28) dX10_into_9 (by decide) (fun c9 => ?_) (fun c9 => ?_)
  · replace h := h.1 c9
    refine x_bipush_ (v := (30 : Int32)) dX10_into_28 (by decide) ?_
    exact x_iret dX10_into_30 rfl ⟨_, rfl, h⟩
  · replace h := h.2 c9
    refine x_gets hG (C := "CompiledHouse") hO.2.2.1.1.1 (Or.inr ⟨_, q2761⟩) (Or.inl rfl) dX10_into_12 ?_
    refine X.xok (fun w8 => ?_)
    have t8 := xold_tg w8 hO.2.2.1.1.2.1 hO.2.2.1.1.2.2.1
    refine x_aload_n dX10_into_15 rfl ?_
    refine x_get (v := .ref b2) hG dX10_into_16 f_X10_24_9 o1 (congrArg va_rf e2) ?_
    refine x_get (v := .ref b4) hG dX10_into_19 f_X10_88_10 o3 (congrArg va_rf e4) ?_
    refine x_iload_n dX10_into_22 rfl ?_
    refine x_iald hG dX10_into_23 o5 o6 ?_
    obtain ⟨o9, h⟩ := h
    refine x_iald hG dX10_into_24 t8 o9 ?_
    refine x_goto (tgt := 30) dX10_into_25 (by decide) ?_
    exact x_iret dX10_into_30 rfl ⟨_, rfl, h⟩
def w_X10_made (G : xG) (p : Nat) (r : Int32) (i : Int32) (Q : xA → Prop) (A : xA) : Prop := xok G A → A.tg p = 10 ∧ (∃ b2 : Nat, (A.P p 1) = some b2 ∧ (A.tg b2 = 11 ∧ (∃ b4 : Nat, (A.P b2 10) = some b4 ∧ (A.tg b4 = 200 ∧ (vp_in r (A.ln b4) ∧ ((((A.I b4 (ix r)) < 0 → ∃ R7 : Int32 → xA → Prop, w_X10_slotOf G p r R7 A ∧ (∀ (v7 : Int32) (A7 : xA), xok G A7 → R7 v7 A7 → (A7.tg p = 10 ∧ (∃ R8 : xA → Prop, w_X10_toFrame G p i v7 (if i = (30 : Int32) then (17 : Int32) else (30 : Int32)) R8 A7 ∧ (∀ A8 : xA, xok G A8 → R8 A8 → (Q A8)))))) ∧ (¬ (A.I b4 (ix r)) < 0 → vp_in (A.I b4 (ix r)) (A.ln (G.cs 3)) ∧ (∃ b13 : Nat, (A.P p 0) = some b13 ∧ (A.tg b13 = 9 ∧ (∃ R12 : xA → Prop, w_X9_move G b13 (A.I (G.cs 3) (ix (A.I b4 (ix r)))) i R12 A ∧ (∀ A12 : xA, xok G A12 → R12 A12 → (Q A12)))))))))))))
theorem m_X10_made (hG : xOK G) (hO : xHO G) {dp : Nat} {p : Nat} {r : Int32} {i : Int32} {Q : xA → Prop} {A : xA} (h : w_X10_made G p r i Q A) : MX G (dp + 6) kX10_made [.ref p, .int r, .int i] A (hV Q) := by
  unfold w_X10_made at h
  refine MX.of rfl (Nat.le_of_ble_eq_true rfl) ?_
  change X _ _ _ _ _ _ [some (.ref p), some (.int r), some (.int i)] _
  refine X.xok (fun w0 => ?_)
  replace h := h w0
  refine x_aload_n dX10_made_0 rfl ?_
  obtain ⟨o1, h⟩ := h
  refine x_get (v := va_rf (A.P p 1)) hG dX10_made_1 f_X10_24_9 o1 rfl ?_
  obtain ⟨b2, e2, h⟩ := h
  rw [e2]
  obtain ⟨o3, h⟩ := h
  refine x_get (v := va_rf (A.P b2 10)) hG dX10_made_4 f_X10_88_10 o3 rfl ?_
  refine x_iload_n dX10_made_7 rfl ?_
  obtain ⟨b4, e4, h⟩ := h
  rw [e4]
  obtain ⟨o5, h⟩ := h
  obtain ⟨o6, h⟩ := h
  refine x_iald hG dX10_made_8 o5 o6 ?_
  refine x_if_lt (tgt := 36) dX10_made_9 (by decide) (fun c9 => ?_) (fun c9 => ?_)
  · replace h := h.1 c9
    refine x_aload_n dX10_made_36 rfl ?_
    refine x_iload_n dX10_made_37 rfl ?_
    refine x_aload_n dX10_made_38 rfl ?_
    refine x_iload_n dX10_made_39 rfl ?_
    obtain ⟨R7, g7, h⟩ := h
    refine x_callV hG (Ky := kX10_slotOf) (As := [.int r]) dX10_made_40 o1 rfl lk_X10_169 me_X10_slotOf is_X10_slotOf se_X10_slotOf rfl rfl (Nat.le_of_ble_eq_true rfl) (MX.post (m_X10_slotOf hG hO g7) ?_)
    rintro _ A7 ⟨v7, rfl, h1⟩
    refine X.xok (fun w7 => ?_)
    replace h := h v7 A7 w7 h1
    change X _ _ _ _ A7 _ _ [.int v7, .int i, .ref p]
    refine x_iload_n dX10_made_43 rfl ?_
    refine x_bipush_ (v := (30 : Int32)) dX10_made_44 (by decide) ?_
    refine x_via 56 (A' := A7) (lv' := [none, none, none]) (st' := [.int (if i = (30 : Int32) then (17 : Int32) else (30 : Int32)), .int v7, .int i, .ref p]) ?_ (fun k56 => ?_)
    rotate_left
    · refine x_icmp_ne (tgt := 54) dX10_made_46 (by decide) (fun c46 => ?_) (fun c46 => ?_)
      · refine x_bipush_ (v := (30 : Int32)) dX10_made_54 (by decide) ?_
        change X _ _ _ _ _ _ [some (.ref p), some (.int r), some (.int i)] [.int (30 : Int32), .int v7, .int i, .ref p]
        simp only [if_neg c46] at k56 ⊢
        exact X.weak (xle_n (xle_n (xle_n xle_nil))) k56
      · refine x_bipush_ (v := (17 : Int32)) dX10_made_49 (by decide) ?_
        refine x_goto (tgt := 56) dX10_made_51 (by decide) ?_
        change X _ _ _ _ _ _ [some (.ref p), some (.int r), some (.int i)] [.int (17 : Int32), .int v7, .int i, .ref p]
        simp only [if_pos c46] at k56 ⊢
        exact X.weak (xle_n (xle_n (xle_n xle_nil))) k56
    obtain ⟨o9, h⟩ := h
    obtain ⟨R8, g8, h⟩ := h
    refine x_callV hG (Ky := kX10_toFrame) (As := [.int i, .int v7, .int (if i = (30 : Int32) then (17 : Int32) else (30 : Int32))]) dX10_made_56 o9 rfl lk_X10_149 me_X10_toFrame is_X10_toFrame se_X10_toFrame rfl rfl (Nat.le_of_ble_eq_true rfl) (MX.post (m_X10_toFrame hG hO g8) ?_)
    rintro _ A8 ⟨rfl, h1⟩
    refine X.xok (fun w8 => ?_)
    replace h := h A8 w8 h1
    change X _ _ _ _ A8 _ _ []
    exact x_vret dX10_made_59 rfl ⟨rfl, h⟩
  · replace h := h.2 c9
    refine x_aload_n dX10_made_12 rfl ?_
    refine x_get (v := va_rf (A.P p 0)) hG dX10_made_13 f_X10_15_9 o1 rfl ?_
    refine x_gets hG (C := "CompiledHouse") hO.2.2.1.1.1 (Or.inr ⟨_, q2761⟩) (Or.inl rfl) dX10_made_16 ?_
    refine X.xok (fun w10 => ?_)
    have t10 := xold_tg w10 hO.2.2.1.1.2.1 hO.2.2.1.1.2.2.1
    refine x_aload_n dX10_made_19 rfl ?_
    refine x_get (v := .ref b2) hG dX10_made_20 f_X10_24_9 o1 (congrArg va_rf e2) ?_
    refine x_get (v := .ref b4) hG dX10_made_23 f_X10_88_10 o3 (congrArg va_rf e4) ?_
    refine x_iload_n dX10_made_26 rfl ?_
    refine x_iald hG dX10_made_27 o5 o6 ?_
    obtain ⟨o11, h⟩ := h
    refine x_iald hG dX10_made_28 t10 o11 ?_
    refine x_iload_n dX10_made_29 rfl ?_
    obtain ⟨b13, e13, h⟩ := h
    rw [e13]
    obtain ⟨o14, h⟩ := h
    obtain ⟨R12, g12, h⟩ := h
    refine x_callV hG (Ky := kX9_move) (As := [.int (A.I (G.cs 3) (ix (A.I b4 (ix r)))), .int i]) dX10_made_30 o14 rfl lk_X10_176 me_X9_move is_X9_move se_X9_move rfl rfl (Nat.le_of_ble_eq_true rfl) (MX.post (m_X9_move hG hO g12) ?_)
    rintro _ A12 ⟨rfl, h1⟩
    refine X.xok (fun w12 => ?_)
    replace h := h A12 w12 h1
    change X _ _ _ _ A12 _ _ []
    refine x_goto (tgt := 59) dX10_made_33 (by decide) ?_
    exact x_vret dX10_made_59 rfl ⟨rfl, h⟩
def w_X10_half (G : xG) (p : Nat) (i : Int32) (r : Int32) (a : Int32) (n : Int32) (Q : xA → Prop) (A : xA) : Prop := xok G A → A.tg p = 10 ∧ (∃ b3 : Nat, (A.P p 0) = some b3 ∧ (A.tg b3 = 9 ∧ (∃ R2 : xA → Prop, w_X9_two G b3 (5 : Int32) (17 : Int32) a (1055 : Int32) R2 A ∧ (∀ A2 : xA, xok G A2 → R2 A2 → (A2.tg p = 10 ∧ (∃ b7 : Nat, (A2.P p 0) = some b7 ∧ (A2.tg b7 = 9 ∧ (∃ R6 : xA → Prop, w_X9_two G b7 (5 : Int32) (17 : Int32) (17 : Int32) ((32 : Int32) - n) R6 A2 ∧ (∀ A6 : xA, xok G A6 → R6 A6 → (A6.tg p = 10 ∧ (∃ b11 : Nat, (A6.P p 0) = some b11 ∧ (A6.tg b11 = 9 ∧ (∃ R10 : xA → Prop, w_X9_three G b11 (0 : Int32) (0 : Int32) (17 : Int32) (17 : Int32) a R10 A6 ∧ (∀ A10 : xA, xok G A10 → R10 A10 → (((i = 0 → A10.tg p = 10 ∧ (∃ b15 : Nat, (A10.P p 0) = some b15 ∧ (A10.tg b15 = 9 ∧ (∃ R14 : xA → Prop, w_X9_two G b15 (5 : Int32) (17 : Int32) (17 : Int32) n R14 A10 ∧ (∀ A14 : xA, xok G A14 → R14 A14 → (A14.tg p = 10 ∧ (∃ b19 : Nat, (A14.P p 0) = some b19 ∧ (A14.tg b19 = 9 ∧ (∃ R18 : xA → Prop, w_X9_two G b19 (1 : Int32) (17 : Int32) (17 : Int32) n R18 A14 ∧ (∀ A18 : xA, xok G A18 → R18 A18 → (A18.tg p = 10 ∧ (∃ b23 : Nat, (A18.P p 0) = some b23 ∧ (A18.tg b23 = 9 ∧ (∃ R22 : xA → Prop, w_X9_three G b23 (0 : Int32) (32 : Int32) r a (17 : Int32) R22 A18 ∧ (∀ A22 : xA, xok G A22 → R22 A22 → (Q A22)))))))))))))))) ∧ (¬ i = 0 → A10.tg p = 10 ∧ (∃ b27 : Nat, (A10.P p 0) = some b27 ∧ (A10.tg b27 = 9 ∧ (∃ R26 : xA → Prop, w_X9_two G b27 (5 : Int32) r (17 : Int32) ((1024 : Int32) ||| n) R26 A10 ∧ (∀ A26 : xA, xok G A26 → R26 A26 → (Q A26))))))))))))))))))))))
theorem m_X10_half (hG : xOK G) (hO : xHO G) {dp : Nat} {p : Nat} {i : Int32} {r : Int32} {a : Int32} {n : Int32} {Q : xA → Prop} {A : xA} (h : w_X10_half G p i r a n Q A) : MX G (dp + 4) kX10_half [.ref p, .int i, .int r, .int a, .int n] A (hV Q) := by
  unfold w_X10_half at h
  refine MX.of rfl (Nat.le_of_ble_eq_true rfl) ?_
  change X _ _ _ _ _ _ [some (.ref p), some (.int i), some (.int r), some (.int a), some (.int n)] _
  refine X.xok (fun w0 => ?_)
  replace h := h w0
  refine x_aload_n dX10_half_0 rfl ?_
  obtain ⟨o1, h⟩ := h
  refine x_get (v := va_rf (A.P p 0)) hG dX10_half_1 f_X10_15_9 o1 rfl ?_
  refine x_iconst_ (v := (5 : Int32)) dX10_half_4 (by decide) ?_
  refine x_bipush_ (v := (17 : Int32)) dX10_half_5 (by decide) ?_
  refine x_iload_n dX10_half_7 rfl ?_
  refine x_sipush_ (v := (1055 : Int32)) dX10_half_8 (by decide) ?_
  obtain ⟨b3, e3, h⟩ := h
  rw [e3]
  obtain ⟨o4, h⟩ := h
  obtain ⟨R2, g2, h⟩ := h
  refine x_callV hG (Ky := kX9_two) (As := [.int (5 : Int32), .int (17 : Int32), .int a, .int (1055 : Int32)]) dX10_half_11 o4 rfl lk_X10_131 me_X9_two is_X9_two se_X9_two rfl rfl (Nat.le_of_ble_eq_true rfl) (MX.post (m_X9_two hG hO g2) ?_)
  rintro _ A2 ⟨rfl, h1⟩
  refine X.xok (fun w2 => ?_)
  replace h := h A2 w2 h1
  change X _ _ _ _ A2 _ _ []
  refine x_aload_n dX10_half_14 rfl ?_
  obtain ⟨o5, h⟩ := h
  refine x_get (v := va_rf (A2.P p 0)) hG dX10_half_15 f_X10_15_9 o5 rfl ?_
  refine x_iconst_ (v := (5 : Int32)) dX10_half_18 (by decide) ?_
  refine x_bipush_ (v := (17 : Int32)) dX10_half_19 (by decide) ?_
  refine x_bipush_ (v := (17 : Int32)) dX10_half_21 (by decide) ?_
  refine x_bipush_ (v := (32 : Int32)) dX10_half_23 (by decide) ?_
  refine x_iload dX10_half_25 rfl ?_
  refine x_isub dX10_half_27 ?_
  obtain ⟨b7, e7, h⟩ := h
  rw [e7]
  obtain ⟨o8, h⟩ := h
  obtain ⟨R6, g6, h⟩ := h
  refine x_callV hG (Ky := kX9_two) (As := [.int (5 : Int32), .int (17 : Int32), .int (17 : Int32), .int ((32 : Int32) - n)]) dX10_half_28 o8 rfl lk_X10_131 me_X9_two is_X9_two se_X9_two rfl rfl (Nat.le_of_ble_eq_true rfl) (MX.post (m_X9_two hG hO g6) ?_)
  rintro _ A6 ⟨rfl, h1⟩
  refine X.xok (fun w6 => ?_)
  replace h := h A6 w6 h1
  change X _ _ _ _ A6 _ _ []
  refine x_aload_n dX10_half_31 rfl ?_
  obtain ⟨o9, h⟩ := h
  refine x_get (v := va_rf (A6.P p 0)) hG dX10_half_32 f_X10_15_9 o9 rfl ?_
  refine x_iconst_ (v := (0 : Int32)) dX10_half_35 (by decide) ?_
  refine x_iconst_ (v := (0 : Int32)) dX10_half_36 (by decide) ?_
  refine x_bipush_ (v := (17 : Int32)) dX10_half_37 (by decide) ?_
  refine x_bipush_ (v := (17 : Int32)) dX10_half_39 (by decide) ?_
  refine x_iload_n dX10_half_41 rfl ?_
  obtain ⟨b11, e11, h⟩ := h
  rw [e11]
  obtain ⟨o12, h⟩ := h
  obtain ⟨R10, g10, h⟩ := h
  refine x_callV hG (Ky := kX9_three) (As := [.int (0 : Int32), .int (0 : Int32), .int (17 : Int32), .int (17 : Int32), .int a]) dX10_half_42 o12 rfl lk_X10_138 me_X9_three is_X9_three se_X9_three rfl rfl (Nat.le_of_ble_eq_true rfl) (MX.post (m_X9_three hG hO g10) ?_)
  rintro _ A10 ⟨rfl, h1⟩
  refine X.xok (fun w10 => ?_)
  replace h := h A10 w10 h1
  change X _ _ _ _ A10 _ _ []
  refine x_iload_n dX10_half_45 rfl ?_
  refine x_if_eq (tgt := 67) dX10_half_46 (by decide) (fun c46 => ?_) (fun c46 => ?_)
  · replace h := h.1 c46
    refine x_aload_n dX10_half_67 rfl ?_
    obtain ⟨o13, h⟩ := h
    refine x_get (v := va_rf (A10.P p 0)) hG dX10_half_68 f_X10_15_9 o13 rfl ?_
    refine x_iconst_ (v := (5 : Int32)) dX10_half_71 (by decide) ?_
    refine x_bipush_ (v := (17 : Int32)) dX10_half_72 (by decide) ?_
    refine x_bipush_ (v := (17 : Int32)) dX10_half_74 (by decide) ?_
    refine x_iload dX10_half_76 rfl ?_
    obtain ⟨b15, e15, h⟩ := h
    rw [e15]
    obtain ⟨o16, h⟩ := h
    obtain ⟨R14, g14, h⟩ := h
    refine x_callV hG (Ky := kX9_two) (As := [.int (5 : Int32), .int (17 : Int32), .int (17 : Int32), .int n]) dX10_half_78 o16 rfl lk_X10_131 me_X9_two is_X9_two se_X9_two rfl rfl (Nat.le_of_ble_eq_true rfl) (MX.post (m_X9_two hG hO g14) ?_)
    rintro _ A14 ⟨rfl, h1⟩
    refine X.xok (fun w14 => ?_)
    replace h := h A14 w14 h1
    change X _ _ _ _ A14 _ _ []
    refine x_aload_n dX10_half_81 rfl ?_
    obtain ⟨o17, h⟩ := h
    refine x_get (v := va_rf (A14.P p 0)) hG dX10_half_82 f_X10_15_9 o17 rfl ?_
    refine x_iconst_ (v := (1 : Int32)) dX10_half_85 (by decide) ?_
    refine x_bipush_ (v := (17 : Int32)) dX10_half_86 (by decide) ?_
    refine x_bipush_ (v := (17 : Int32)) dX10_half_88 (by decide) ?_
    refine x_iload dX10_half_90 rfl ?_
    obtain ⟨b19, e19, h⟩ := h
    rw [e19]
    obtain ⟨o20, h⟩ := h
    obtain ⟨R18, g18, h⟩ := h
    refine x_callV hG (Ky := kX9_two) (As := [.int (1 : Int32), .int (17 : Int32), .int (17 : Int32), .int n]) dX10_half_92 o20 rfl lk_X10_131 me_X9_two is_X9_two se_X9_two rfl rfl (Nat.le_of_ble_eq_true rfl) (MX.post (m_X9_two hG hO g18) ?_)
    rintro _ A18 ⟨rfl, h1⟩
    refine X.xok (fun w18 => ?_)
    replace h := h A18 w18 h1
    change X _ _ _ _ A18 _ _ []
    refine x_aload_n dX10_half_95 rfl ?_
    obtain ⟨o21, h⟩ := h
    refine x_get (v := va_rf (A18.P p 0)) hG dX10_half_96 f_X10_15_9 o21 rfl ?_
    refine x_iconst_ (v := (0 : Int32)) dX10_half_99 (by decide) ?_
    refine x_bipush_ (v := (32 : Int32)) dX10_half_100 (by decide) ?_
    refine x_iload_n dX10_half_102 rfl ?_
    refine x_iload_n dX10_half_103 rfl ?_
    refine x_bipush_ (v := (17 : Int32)) dX10_half_104 (by decide) ?_
    obtain ⟨b23, e23, h⟩ := h
    rw [e23]
    obtain ⟨o24, h⟩ := h
    obtain ⟨R22, g22, h⟩ := h
    refine x_callV hG (Ky := kX9_three) (As := [.int (0 : Int32), .int (32 : Int32), .int r, .int a, .int (17 : Int32)]) dX10_half_106 o24 rfl lk_X10_138 me_X9_three is_X9_three se_X9_three rfl rfl (Nat.le_of_ble_eq_true rfl) (MX.post (m_X9_three hG hO g22) ?_)
    rintro _ A22 ⟨rfl, h1⟩
    refine X.xok (fun w22 => ?_)
    replace h := h A22 w22 h1
    change X _ _ _ _ A22 _ _ []
    exact x_vret dX10_half_109 rfl ⟨rfl, h⟩
  · replace h := h.2 c46
    refine x_aload_n dX10_half_49 rfl ?_
    obtain ⟨o25, h⟩ := h
    refine x_get (v := va_rf (A10.P p 0)) hG dX10_half_50 f_X10_15_9 o25 rfl ?_
    refine x_iconst_ (v := (5 : Int32)) dX10_half_53 (by decide) ?_
    refine x_iload_n dX10_half_54 rfl ?_
    refine x_bipush_ (v := (17 : Int32)) dX10_half_55 (by decide) ?_
    refine x_sipush_ (v := (1024 : Int32)) dX10_half_57 (by decide) ?_
    refine x_iload dX10_half_60 rfl ?_
    refine x_ior dX10_half_62 ?_
    obtain ⟨b27, e27, h⟩ := h
    rw [e27]
    obtain ⟨o28, h⟩ := h
    obtain ⟨R26, g26, h⟩ := h
    refine x_callV hG (Ky := kX9_two) (As := [.int (5 : Int32), .int r, .int (17 : Int32), .int ((1024 : Int32) ||| n)]) dX10_half_63 o28 rfl lk_X10_131 me_X9_two is_X9_two se_X9_two rfl rfl (Nat.le_of_ble_eq_true rfl) (MX.post (m_X9_two hG hO g26) ?_)
    rintro _ A26 ⟨rfl, h1⟩
    refine X.xok (fun w26 => ?_)
    replace h := h A26 w26 h1
    change X _ _ _ _ A26 _ _ []
    exact x_vret dX10_half_66 rfl ⟨rfl, h⟩
def w_X10_sum (G : xG) (p : Nat) (x : Option Nat) (Q : xA → Prop) (A : xA) : Prop := xok G A → ∃ b1 : Nat, x = some b1 ∧ (A.tg b1 = 36 ∧ (A.tg p = 10 ∧ (∃ R3 : Int32 → xA → Prop, w_X10_into G p (A.I b1 1) R3 A ∧ (∀ (v3 : Int32) (A3 : xA), xok G A3 → R3 v3 A3 → (A3.tg b1 = 36 ∧ (A3.tg p = 10 ∧ (∃ R6 : Int32 → xA → Prop, w_X10_from G p (A3.L b1 2) (30 : Int32) R6 A3 ∧ (∀ (v6 : Int32) (A6 : xA), xok G A6 → R6 v6 A6 → (A6.tg b1 = 36 ∧ (∃ J9 : xA → Prop, (∀ (A9 : xA), J9 A9 → A9.tg b1 = 36 ∧ (A9.tg p = 10 ∧ (∃ R11 : xA → Prop, w_X10_made G p (A9.I b1 1) v3 R11 A9 ∧ (∀ A11 : xA, xok G A11 → R11 A11 → (Q A11))))) ∧ ((((A6.I b1 0) = (0 : Int32) ∨ (A6.I b1 0) = (5 : Int32) ∨ (A6.I b1 0) = (6 : Int32) ∨ (A6.I b1 0) = (7 : Int32)) → (((f_X10_isSmall (A6.L b1 3)) = 0 → A6.tg p = 10 ∧ (∃ R15 : Int32 → xA → Prop, w_X10_from G p (A6.L b1 3) (31 : Int32) R15 A6 ∧ (∀ (v15 : Int32) (A15 : xA), xok G A15 → R15 v15 A15 → (∃ b17 : Nat, (A6.P p 0) = some b17 ∧ (A15.tg b17 = 9 ∧ (∃ R16 : xA → Prop, w_X9_three G b17 (if (A6.I b1 0) = 0 then (0 : Int32) else (if (A6.I b1 0) = (5 : Int32) then (7 : Int32) else (if (A6.I b1 0) = (6 : Int32) then (6 : Int32) else (4 : Int32)))) (0 : Int32) v3 v6 v15 R16 A15 ∧ (∀ A16 : xA, xok G A16 → R16 A16 → (J9 A16)))))))) ∧ (¬ (f_X10_isSmall (A6.L b1 3)) = 0 → A6.tg p = 10 ∧ (∃ b21 : Nat, (A6.P p 0) = some b21 ∧ (A6.tg b21 = 9 ∧ (∃ R20 : xA → Prop, w_X9_two G b21 (if (A6.I b1 0) = 0 then (0 : Int32) else (if (A6.I b1 0) = (5 : Int32) then (7 : Int32) else (if (A6.I b1 0) = (6 : Int32) then (6 : Int32) else (4 : Int32)))) v3 v6 (A6.L b1 3).toInt32 R20 A6 ∧ (∀ A20 : xA, xok G A20 → R20 A20 → (J9 A20)))))))) ∧ (((A6.I b1 0) = (1 : Int32)) → A6.tg p = 10 ∧ (∃ R24 : Int32 → xA → Prop, w_X10_from G p (A6.L b1 3) (31 : Int32) R24 A6 ∧ (∀ (v24 : Int32) (A24 : xA), xok G A24 → R24 v24 A24 → (∃ b26 : Nat, (A6.P p 0) = some b26 ∧ (A24.tg b26 = 9 ∧ (∃ R25 : xA → Prop, w_X9_three G b26 (0 : Int32) (32 : Int32) v3 v6 v24 R25 A24 ∧ (∀ A25 : xA, xok G A25 → R25 A25 → (J9 A25)))))))) ∧ (((A6.I b1 0) = (2 : Int32)) → A6.tg p = 10 ∧ (∃ R29 : Int32 → xA → Prop, w_X10_from G p (A6.L b1 3) (31 : Int32) R29 A6 ∧ (∀ (v29 : Int32) (A29 : xA), xok G A29 → R29 v29 A29 → (∃ b31 : Nat, (A6.P p 0) = some b31 ∧ (A29.tg b31 = 9 ∧ (∃ R30 : xA → Prop, w_X9_three G b31 (0 : Int32) (1 : Int32) v3 v6 v29 R30 A29 ∧ (∀ A30 : xA, xok G A30 → R30 A30 → (J9 A30)))))))) ∧ (((A6.I b1 0) = (3 : Int32) ∨ (A6.I b1 0) = (4 : Int32)) → (((f_X0_isConstant (A6.L b1 3)) = 0 → A6.tg p = 10 ∧ (∃ R34 : Int32 → xA → Prop, w_X10_from G p (A6.L b1 3) (31 : Int32) R34 A6 ∧ (∀ (v34 : Int32) (A34 : xA), xok G A34 → R34 v34 A34 → (∃ b36 : Nat, (A6.P p 0) = some b36 ∧ (A34.tg b36 = 9 ∧ (∃ R35 : xA → Prop, w_X9_three G b36 (if (A6.I b1 0) = (3 : Int32) then (4 : Int32) else (6 : Int32)) (1 : Int32) v3 v6 v34 R35 A34 ∧ (∀ A35 : xA, xok G A35 → R35 A35 → (J9 A35)))))))) ∧ (¬ (f_X0_isConstant (A6.L b1 3)) = 0 → (((A6.L b1 3).toInt32 ≤ (1 : Int32) → A6.tg p = 10 ∧ (∃ R39 : Int32 → xA → Prop, w_X10_from G p (A6.L b1 3) (31 : Int32) R39 A6 ∧ (∀ (v39 : Int32) (A39 : xA), xok G A39 → R39 v39 A39 → (∃ b41 : Nat, (A6.P p 0) = some b41 ∧ (A39.tg b41 = 9 ∧ (∃ R40 : xA → Prop, w_X9_three G b41 (if (A6.I b1 0) = (3 : Int32) then (4 : Int32) else (6 : Int32)) (1 : Int32) v3 v6 v39 R40 A39 ∧ (∀ A40 : xA, xok G A40 → R40 A40 → (J9 A40)))))))) ∧ (¬ (A6.L b1 3).toInt32 ≤ (1 : Int32) → ((((A6.L b1 3).toInt32 &&& ((A6.L b1 3).toInt32 - (1 : Int32))) = 0 → A6.tg p = 10 ∧ (∃ R48 : xA → Prop, w_X10_half G p (if (A6.I b1 0) = (3 : Int32) then (1 : Int32) else (0 : Int32)) v3 v6 (f_J15_numberOfTrailingZeros (A6.L b1 3).toInt32) R48 A6 ∧ (∀ A48 : xA, xok G A48 → R48 A48 → (J9 A48)))) ∧ (¬ ((A6.L b1 3).toInt32 &&& ((A6.L b1 3).toInt32 - (1 : Int32))) = 0 → A6.tg p = 10 ∧ (∃ R44 : Int32 → xA → Prop, w_X10_from G p (A6.L b1 3) (31 : Int32) R44 A6 ∧ (∀ (v44 : Int32) (A44 : xA), xok G A44 → R44 v44 A44 → (∃ b46 : Nat, (A6.P p 0) = some b46 ∧ (A44.tg b46 = 9 ∧ (∃ R45 : xA → Prop, w_X9_three G b46 (if (A6.I b1 0) = (3 : Int32) then (4 : Int32) else (6 : Int32)) (1 : Int32) v3 v6 v44 R45 A44 ∧ (∀ A45 : xA, xok G A45 → R45 A45 → (J9 A45)))))))))))))) ∧ (((A6.I b1 0) = (8 : Int32) ∨ (A6.I b1 0) = (9 : Int32) ∨ (A6.I b1 0) = (10 : Int32)) → (((f_X0_isConstant (A6.L b1 3)) = 0 → A6.tg p = 10 ∧ (∃ R51 : Int32 → xA → Prop, w_X10_from G p (A6.L b1 3) (31 : Int32) R51 A6 ∧ (∀ (v51 : Int32) (A51 : xA), xok G A51 → R51 v51 A51 → (∃ b53 : Nat, (A6.P p 0) = some b53 ∧ (A51.tg b53 = 9 ∧ (∃ R52 : xA → Prop, w_X9_three G b53 (if (A6.I b1 0) = (8 : Int32) then (1 : Int32) else (5 : Int32)) (if (A6.I b1 0) = (9 : Int32) then (32 : Int32) else (0 : Int32)) v3 v6 v51 R52 A51 ∧ (∀ A52 : xA, xok G A52 → R52 A52 → (J9 A52)))))))) ∧ (¬ (f_X0_isConstant (A6.L b1 3)) = 0 → A6.tg p = 10 ∧ (∃ b57 : Nat, (A6.P p 0) = some b57 ∧ (A6.tg b57 = 9 ∧ (∃ R56 : xA → Prop, w_X9_two G b57 (if (A6.I b1 0) = (8 : Int32) then (1 : Int32) else (5 : Int32)) v3 v6 ((jishl (if (A6.I b1 0) = (9 : Int32) then (32 : Int32) else (0 : Int32)) (5 : Int32)) ||| ((A6.L b1 3).toInt32 &&& (31 : Int32))) R56 A6 ∧ (∀ A56 : xA, xok G A56 → R56 A56 → (J9 A56)))))))) ∧ (((A6.I b1 0) = (11 : Int32) ∨ (A6.I b1 0) = (12 : Int32)) → ∃ J59 : Int32 → xA → Prop, (∀ (y59_10 : Int32) (A59 : xA), J59 y59_10 A59 → A59.tg b1 = 36 ∧ ((((A59.I b1 0) = (11 : Int32) → A59.tg p = 10 ∧ (∃ b67 : Nat, (A59.P p 0) = some b67 ∧ (A59.tg b67 = 9 ∧ (∃ R66 : xA → Prop, w_X9_two G b67 (3 : Int32) v3 y59_10 (1 : Int32) R66 A59 ∧ (∀ A66 : xA, xok G A66 → R66 A66 → (J9 A66)))))) ∧ (¬ (A59.I b1 0) = (11 : Int32) → A59.tg p = 10 ∧ (∃ b63 : Nat, (A59.P p 0) = some b63 ∧ (A59.tg b63 = 9 ∧ (∃ R62 : xA → Prop, w_X9_three G b63 (3 : Int32) (0 : Int32) v3 (0 : Int32) y59_10 R62 A59 ∧ (∀ A62 : xA, xok G A62 → R62 A62 → (J9 A62))))))))) ∧ (((f_X0_isConstant (A6.L b1 3)) = 0 → A6.tg p = 10 ∧ (∃ R70 : Int32 → xA → Prop, w_X10_from G p (A6.L b1 3) (31 : Int32) R70 A6 ∧ (∀ (v70 : Int32) (A70 : xA), xok G A70 → R70 v70 A70 → (∃ b72 : Nat, (A6.P p 0) = some b72 ∧ (A70.tg b72 = 9 ∧ (∃ R71 : xA → Prop, w_X9_three G b72 (0 : Int32) (32 : Int32) v3 v6 v70 R71 A70 ∧ (∀ A71 : xA, xok G A71 → R71 A71 → (J59 v3 A71)))))))) ∧ (¬ (f_X0_isConstant (A6.L b1 3)) = 0 → (((A6.L b1 3).toInt32 = 0 → J59 v6 A6) ∧ (¬ (A6.L b1 3).toInt32 = 0 → (((A6.L b1 3).toInt32 ≤ (-2048 : Int32) → A6.tg p = 10 ∧ (∃ R75 : Int32 → xA → Prop, w_X10_from G p (A6.L b1 3) (31 : Int32) R75 A6 ∧ (∀ (v75 : Int32) (A75 : xA), xok G A75 → R75 v75 A75 → (∃ b77 : Nat, (A6.P p 0) = some b77 ∧ (A75.tg b77 = 9 ∧ (∃ R76 : xA → Prop, w_X9_three G b77 (0 : Int32) (32 : Int32) v3 v6 v75 R76 A75 ∧ (∀ A76 : xA, xok G A76 → R76 A76 → (J59 v3 A76)))))))) ∧ (¬ (A6.L b1 3).toInt32 ≤ (-2048 : Int32) → (((2048 : Int32) < (A6.L b1 3).toInt32 → A6.tg p = 10 ∧ (∃ R80 : Int32 → xA → Prop, w_X10_from G p (A6.L b1 3) (31 : Int32) R80 A6 ∧ (∀ (v80 : Int32) (A80 : xA), xok G A80 → R80 v80 A80 → (∃ b82 : Nat, (A6.P p 0) = some b82 ∧ (A80.tg b82 = 9 ∧ (∃ R81 : xA → Prop, w_X9_three G b82 (0 : Int32) (32 : Int32) v3 v6 v80 R81 A80 ∧ (∀ A81 : xA, xok G A81 → R81 A81 → (J59 v3 A81)))))))) ∧ (¬ (2048 : Int32) < (A6.L b1 3).toInt32 → A6.tg p = 10 ∧ (∃ b86 : Nat, (A6.P p 0) = some b86 ∧ (A6.tg b86 = 9 ∧ (∃ R85 : xA → Prop, w_X9_two G b86 (0 : Int32) v3 v6 (-(A6.L b1 3).toInt32) R85 A6 ∧ (∀ A85 : xA, xok G A85 → R85 A85 → (J59 v3 A85)))))))))))))) ∧ ((¬ (A6.I b1 0) = (0 : Int32) ∧ ¬ (A6.I b1 0) = (5 : Int32) ∧ ¬ (A6.I b1 0) = (6 : Int32) ∧ ¬ (A6.I b1 0) = (7 : Int32) ∧ ¬ (A6.I b1 0) = (1 : Int32) ∧ ¬ (A6.I b1 0) = (2 : Int32) ∧ ¬ (A6.I b1 0) = (3 : Int32) ∧ ¬ (A6.I b1 0) = (4 : Int32) ∧ ¬ (A6.I b1 0) = (8 : Int32) ∧ ¬ (A6.I b1 0) = (9 : Int32) ∧ ¬ (A6.I b1 0) = (10 : Int32) ∧ ¬ (A6.I b1 0) = (11 : Int32) ∧ ¬ (A6.I b1 0) = (12 : Int32)) → ∃ J88 : xA → Prop, (∀ (A88 : xA), J88 A88 → A88.tg b1 = 36 ∧ ((((A88.I b1 0) = (16 : Int32) → A88.tg p = 10 ∧ (∃ b92 : Nat, (A88.P p 0) = some b92 ∧ (A88.tg b92 = 9 ∧ (∃ R91 : xA → Prop, w_X9_two G b92 (4 : Int32) v3 v3 (1 : Int32) R91 A88 ∧ (∀ A91 : xA, xok G A91 → R91 A91 → (J9 A91)))))) ∧ (¬ (A88.I b1 0) = (16 : Int32) → J9 A88)))) ∧ (((f_X10_isSmall (A6.L b1 3)) = 0 → A6.tg p = 10 ∧ (∃ R95 : Int32 → xA → Prop, w_X10_from G p (A6.L b1 3) (31 : Int32) R95 A6 ∧ (∀ (v95 : Int32) (A95 : xA), xok G A95 → R95 v95 A95 → (∃ b97 : Nat, (A6.P p 0) = some b97 ∧ (A95.tg b97 = 9 ∧ (∃ R96 : xA → Prop, w_X9_three G b97 (2 : Int32) (0 : Int32) v3 v6 v95 R96 A95 ∧ (∀ A96 : xA, xok G A96 → R96 A96 → (J88 A96)))))))) ∧ (¬ (f_X10_isSmall (A6.L b1 3)) = 0 → A6.tg p = 10 ∧ (∃ b101 : Nat, (A6.P p 0) = some b101 ∧ (A6.tg b101 = 9 ∧ (∃ R100 : xA → Prop, w_X9_two G b101 (2 : Int32) v3 v6 (A6.L b1 3).toInt32 R100 A6 ∧ (∀ A100 : xA, xok G A100 → R100 A100 → (J88 A100)))))))))))))))))))
theorem m_X10_sum (hG : xOK G) (hO : xHO G) {dp : Nat} {p : Nat} {x : Option Nat} {Q : xA → Prop} {A : xA} (h : w_X10_sum G p x Q A) : MX G (dp + 7) kX10_sum [.ref p, va_rf x] A (hV Q) := by
  unfold w_X10_sum at h
  refine MX.of rfl (by cases x <;> exact Nat.le_of_ble_eq_true rfl) ?_
  refine X.lvs (lv' := [some (.ref p), some (va_rf x), none, none, none, none, none, none, none, none, none]) (by cases x <;> rfl) ?_
  refine X.xok (fun w0 => ?_)
  replace h := h w0
  refine x_aload_n dX10_sum_0 rfl ?_
  refine x_aloadq_n dX10_sum_1 rfl ?_
  obtain ⟨b1, e1, h⟩ := h
  rw [e1]
  obtain ⟨o2, h⟩ := h
  refine x_get (v := .int (A.I b1 1)) hG dX10_sum_2 f_X10_186_35 o2 rfl ?_
  obtain ⟨o4, h⟩ := h
  obtain ⟨R3, g3, h⟩ := h
  refine x_callV hG (Ky := kX10_into) (As := [.int (A.I b1 1)]) dX10_sum_5 o4 rfl lk_X10_193 me_X10_into is_X10_into se_X10_into rfl rfl (Nat.le_of_ble_eq_true rfl) (MX.post (m_X10_into hG hO g3) ?_)
  rintro _ A3 ⟨v3, rfl, h1⟩
  refine X.xok (fun w3 => ?_)
  replace h := h v3 A3 w3 h1
  change X _ _ _ _ A3 _ _ [.int v3]
  refine x_istore_n dX10_sum_8 (by decide) ?_
  refine x_aload_n dX10_sum_9 rfl ?_
  refine x_aload_n dX10_sum_10 rfl ?_
  obtain ⟨o5, h⟩ := h
  refine x_get (v := .long (A3.L b1 2)) hG dX10_sum_11 f_X10_189_35 o5 rfl ?_
  refine x_bipush_ (v := (30 : Int32)) dX10_sum_14 (by decide) ?_
  obtain ⟨o7, h⟩ := h
  obtain ⟨R6, g6, h⟩ := h
  refine x_callV hG (Ky := kX10_from) (As := [.long (A3.L b1 2), .int (30 : Int32)]) dX10_sum_16 o7 rfl lk_X10_172 me_X10_from is_X10_from se_X10_from rfl rfl (Nat.le_of_ble_eq_true rfl) (MX.post (m_X10_from hG hO g6) ?_)
  rintro _ A6 ⟨v6, rfl, h1⟩
  refine X.xok (fun w6 => ?_)
  replace h := h v6 A6 w6 h1
  change X _ _ _ _ A6 _ _ [.int v6]
  refine x_istore_n dX10_sum_19 (by decide) ?_
  refine x_aload_n dX10_sum_20 rfl ?_
  obtain ⟨o8, h⟩ := h
  refine x_get (v := .long (A6.L b1 3)) hG dX10_sum_21 f_X10_229_35 o8 rfl ?_
  refine x_l2i dX10_sum_24 ?_
  refine x_istore dX10_sum_25 (by decide) ?_
  refine x_aload_n dX10_sum_27 rfl ?_
  refine x_get (v := .long (A6.L b1 3)) hG dX10_sum_28 f_X10_229_35 o8 rfl ?_
  refine x_callS hG (Ky := kX0_isConstant) (As := [.long (A6.L b1 3)]) dX10_sum_31 lk_X10_165 me_X0_isConstant st_X0_isConstant rfl rfl (Nat.le_of_ble_eq_true rfl) (MX.post (m_X0_isConstant hG) ?_)
  rintro _ _ ⟨rfl, rfl⟩
  change X _ _ _ _ _ _ _ (.int (f_X0_isConstant (A6.L b1 3)) :: _)
  refine x_istore dX10_sum_34 (by decide) ?_
  refine x_aload_n dX10_sum_36 rfl ?_
  refine x_get (v := .long (A6.L b1 3)) hG dX10_sum_37 f_X10_229_35 o8 rfl ?_
  refine x_callS hG (Ky := kX10_isSmall) (As := [.long (A6.L b1 3)]) dX10_sum_40 lk_X10_232 me_X10_isSmall st_X10_isSmall rfl rfl (Nat.le_of_ble_eq_true rfl) (MX.post (m_X10_isSmall hG) ?_)
  rintro _ _ ⟨rfl, rfl⟩
  change X _ _ _ _ _ _ _ (.int (f_X10_isSmall (A6.L b1 3)) :: _)
  refine x_istore dX10_sum_43 (by decide) ?_
  refine x_aload_n dX10_sum_45 rfl ?_
  refine x_get (v := .int (A6.I b1 0)) hG dX10_sum_46 f_X10_82_35 o8 rfl ?_
  obtain ⟨J9, g9, h⟩ := h
  have kj9 : ∀ (A9 : xA), J9 A9 → X G (dp + 7) kX10_sum (hV Q) A9 601 [some (.ref p), some (.ref b1), some (.int v3), none, none, none, none, none, none, none, none] [] := by
    intro A9 h
    replace h := g9 A9 h
    refine x_aload_n dX10_sum_601 rfl ?_
    refine x_aload_n dX10_sum_602 rfl ?_
    obtain ⟨o10, h⟩ := h
    refine x_get (v := .int (A9.I b1 1)) hG dX10_sum_603 f_X10_186_35 o10 rfl ?_
    refine x_iload_n dX10_sum_606 rfl ?_
    obtain ⟨o12, h⟩ := h
    obtain ⟨R11, g11, h⟩ := h
    refine x_callV hG (Ky := kX10_made) (As := [.int (A9.I b1 1), .int v3]) dX10_sum_607 o12 rfl lk_X10_200 me_X10_made is_X10_made se_X10_made rfl rfl (Nat.le_of_ble_eq_true rfl) (MX.post (m_X10_made hG hO g11) ?_)
    rintro _ A11 ⟨rfl, h1⟩
    refine X.xok (fun w11 => ?_)
    replace h := h A11 w11 h1
    change X _ _ _ _ A11 _ _ []
    exact x_vret dX10_sum_610 rfl ⟨rfl, h⟩
  have kt13_0 : ((A6.I b1 0) = (0 : Int32) ∨ (A6.I b1 0) = (5 : Int32) ∨ (A6.I b1 0) = (6 : Int32) ∨ (A6.I b1 0) = (7 : Int32)) → X G (dp + 7) kX10_sum (hV Q) A6 116 [some (.ref p), some (.ref b1), some (.int v3), some (.int v6), some (.int (A6.L b1 3).toInt32), some (.int (f_X0_isConstant (A6.L b1 3))), some (.int (f_X10_isSmall (A6.L b1 3))), none, none, none, none] [] := by
    intro c49
    replace h := h.1 c49
    refine x_aload_n dX10_sum_116 rfl ?_
    refine x_get (v := .int (A6.I b1 0)) hG dX10_sum_117 f_X10_82_35 o8 rfl ?_
    refine x_via 155 (A' := A6) (lv' := [some (.ref p), some (.ref b1), some (.int v3), some (.int v6), some (.int (A6.L b1 3).toInt32), none, some (.int (f_X10_isSmall (A6.L b1 3))), none, none, none, none]) (st' := [.int (if (A6.I b1 0) = 0 then (0 : Int32) else (if (A6.I b1 0) = (5 : Int32) then (7 : Int32) else (if (A6.I b1 0) = (6 : Int32) then (6 : Int32) else (4 : Int32))))]) ?_ (fun k155 => ?_)
    rotate_left
    · refine x_if_ne (tgt := 127) dX10_sum_120 (by decide) (fun c120 => ?_) (fun c120 => ?_)
      · refine x_aload_n dX10_sum_127 rfl ?_
        refine x_get (v := .int (A6.I b1 0)) hG dX10_sum_128 f_X10_82_35 o8 rfl ?_
        refine x_iconst_ (v := (5 : Int32)) dX10_sum_131 (by decide) ?_
        refine x_icmp_ne (tgt := 140) dX10_sum_132 (by decide) (fun c132 => ?_) (fun c132 => ?_)
        · refine x_aload_n dX10_sum_140 rfl ?_
          refine x_get (v := .int (A6.I b1 0)) hG dX10_sum_141 f_X10_82_35 o8 rfl ?_
          refine x_bipush_ (v := (6 : Int32)) dX10_sum_144 (by decide) ?_
          refine x_icmp_ne (tgt := 154) dX10_sum_146 (by decide) (fun c146 => ?_) (fun c146 => ?_)
          · refine x_iconst_ (v := (4 : Int32)) dX10_sum_154 (by decide) ?_
            change X _ _ _ _ _ _ [some (.ref p), some (.ref b1), some (.int v3), some (.int v6), some (.int (A6.L b1 3).toInt32), some (.int (f_X0_isConstant (A6.L b1 3))), some (.int (f_X10_isSmall (A6.L b1 3))), none, none, none, none] [.int (4 : Int32)]
            try simp only [if_neg c120] at c132 c146 k155 ⊢
            try simp only [if_neg c132] at c146 k155 ⊢
            try simp only [if_neg c146] at k155 ⊢
            exact X.weak (xle_c rfl (xle_c rfl (xle_c rfl (xle_c rfl (xle_c rfl (xle_n (xle_c rfl (xle_n (xle_n (xle_n (xle_n xle_nil))))))))))) k155
          · refine x_bipush_ (v := (6 : Int32)) dX10_sum_149 (by decide) ?_
            refine x_goto (tgt := 155) dX10_sum_151 (by decide) ?_
            change X _ _ _ _ _ _ [some (.ref p), some (.ref b1), some (.int v3), some (.int v6), some (.int (A6.L b1 3).toInt32), some (.int (f_X0_isConstant (A6.L b1 3))), some (.int (f_X10_isSmall (A6.L b1 3))), none, none, none, none] [.int (6 : Int32)]
            try simp only [if_neg c120] at c132 c146 k155 ⊢
            try simp only [if_neg c132] at c146 k155 ⊢
            try simp only [if_pos c146] at k155 ⊢
            exact X.weak (xle_c rfl (xle_c rfl (xle_c rfl (xle_c rfl (xle_c rfl (xle_n (xle_c rfl (xle_n (xle_n (xle_n (xle_n xle_nil))))))))))) k155
        · refine x_bipush_ (v := (7 : Int32)) dX10_sum_135 (by decide) ?_
          refine x_goto (tgt := 155) dX10_sum_137 (by decide) ?_
          change X _ _ _ _ _ _ [some (.ref p), some (.ref b1), some (.int v3), some (.int v6), some (.int (A6.L b1 3).toInt32), some (.int (f_X0_isConstant (A6.L b1 3))), some (.int (f_X10_isSmall (A6.L b1 3))), none, none, none, none] [.int (7 : Int32)]
          try simp only [if_neg c120] at c132 k155 ⊢
          try simp only [if_pos c132] at k155 ⊢
          exact X.weak (xle_c rfl (xle_c rfl (xle_c rfl (xle_c rfl (xle_c rfl (xle_n (xle_c rfl (xle_n (xle_n (xle_n (xle_n xle_nil))))))))))) k155
      · refine x_iconst_ (v := (0 : Int32)) dX10_sum_123 (by decide) ?_
        refine x_goto (tgt := 155) dX10_sum_124 (by decide) ?_
        change X _ _ _ _ _ _ [some (.ref p), some (.ref b1), some (.int v3), some (.int v6), some (.int (A6.L b1 3).toInt32), some (.int (f_X0_isConstant (A6.L b1 3))), some (.int (f_X10_isSmall (A6.L b1 3))), none, none, none, none] [.int (0 : Int32)]
        simp only [if_pos c120] at k155 ⊢
        exact X.weak (xle_c rfl (xle_c rfl (xle_c rfl (xle_c rfl (xle_c rfl (xle_n (xle_c rfl (xle_n (xle_n (xle_n (xle_n xle_nil))))))))))) k155
    refine x_istore dX10_sum_155 (by decide) ?_
    refine x_iload dX10_sum_157 rfl ?_
    refine x_if_eq (tgt := 178) dX10_sum_159 (by decide) (fun c159 => ?_) (fun c159 => ?_)
    · replace h := h.1 c159
      refine x_aload_n dX10_sum_178 rfl ?_
      obtain ⟨o14, h⟩ := h
      refine x_get (v := va_rf (A6.P p 0)) hG dX10_sum_179 f_X10_15_9 o14 rfl ?_
      refine x_iload dX10_sum_182 rfl ?_
      refine x_iconst_ (v := (0 : Int32)) dX10_sum_184 (by decide) ?_
      refine x_iload_n dX10_sum_185 rfl ?_
      refine x_iload_n dX10_sum_186 rfl ?_
      refine x_aload_n dX10_sum_187 rfl ?_
      refine x_aload_n dX10_sum_188 rfl ?_
      refine x_get (v := .long (A6.L b1 3)) hG dX10_sum_189 f_X10_229_35 o8 rfl ?_
      refine x_bipush_ (v := (31 : Int32)) dX10_sum_192 (by decide) ?_
      obtain ⟨R15, g15, h⟩ := h
      refine x_callV hG (Ky := kX10_from) (As := [.long (A6.L b1 3), .int (31 : Int32)]) dX10_sum_194 o14 rfl lk_X10_172 me_X10_from is_X10_from se_X10_from rfl rfl (by simp only [List.append_eq, List.nil_append, List.map_cons, va_rf_cat]; exact Nat.le_of_ble_eq_true rfl) (MX.post (m_X10_from hG hO g15) ?_)
      rintro _ A15 ⟨v15, rfl, h1⟩
      refine X.xok (fun w15 => ?_)
      replace h := h v15 A15 w15 h1
      change X _ _ _ _ A15 _ _ [.int v15, .int v6, .int v3, .int (0 : Int32), .int (if (A6.I b1 0) = 0 then (0 : Int32) else (if (A6.I b1 0) = (5 : Int32) then (7 : Int32) else (if (A6.I b1 0) = (6 : Int32) then (6 : Int32) else (4 : Int32)))), va_rf (A6.P p 0)]
      obtain ⟨b17, e17, h⟩ := h
      rw [e17]
      obtain ⟨o18, h⟩ := h
      obtain ⟨R16, g16, h⟩ := h
      refine x_callV hG (Ky := kX9_three) (As := [.int (if (A6.I b1 0) = 0 then (0 : Int32) else (if (A6.I b1 0) = (5 : Int32) then (7 : Int32) else (if (A6.I b1 0) = (6 : Int32) then (6 : Int32) else (4 : Int32)))), .int (0 : Int32), .int v3, .int v6, .int v15]) dX10_sum_197 o18 rfl lk_X10_138 me_X9_three is_X9_three se_X9_three rfl rfl (Nat.le_of_ble_eq_true rfl) (MX.post (m_X9_three hG hO g16) ?_)
      rintro _ A16 ⟨rfl, h1⟩
      refine X.xok (fun w16 => ?_)
      replace h := h A16 w16 h1
      change X _ _ _ _ A16 _ _ []
      refine x_goto (tgt := 601) dX10_sum_200 (by decide) ?_
      change X _ _ _ _ _ _ [some (.ref p), some (.ref b1), some (.int v3), some (.int v6), some (.int (A6.L b1 3).toInt32), none, some (.int (f_X10_isSmall (A6.L b1 3))), some (.int (if (A6.I b1 0) = 0 then (0 : Int32) else (if (A6.I b1 0) = (5 : Int32) then (7 : Int32) else (if (A6.I b1 0) = (6 : Int32) then (6 : Int32) else (4 : Int32))))), none, none, none] []
      exact X.weak (xle_c rfl (xle_c rfl (xle_c rfl (xle_n (xle_n (xle_n (xle_n (xle_n (xle_n (xle_n (xle_n xle_nil))))))))))) (kj9 A16 h)
    · replace h := h.2 c159
      refine x_aload_n dX10_sum_162 rfl ?_
      obtain ⟨o19, h⟩ := h
      refine x_get (v := va_rf (A6.P p 0)) hG dX10_sum_163 f_X10_15_9 o19 rfl ?_
      refine x_iload dX10_sum_166 rfl ?_
      refine x_iload_n dX10_sum_168 rfl ?_
      refine x_iload_n dX10_sum_169 rfl ?_
      refine x_iload dX10_sum_170 rfl ?_
      obtain ⟨b21, e21, h⟩ := h
      rw [e21]
      obtain ⟨o22, h⟩ := h
      obtain ⟨R20, g20, h⟩ := h
      refine x_callV hG (Ky := kX9_two) (As := [.int (if (A6.I b1 0) = 0 then (0 : Int32) else (if (A6.I b1 0) = (5 : Int32) then (7 : Int32) else (if (A6.I b1 0) = (6 : Int32) then (6 : Int32) else (4 : Int32)))), .int v3, .int v6, .int (A6.L b1 3).toInt32]) dX10_sum_172 o22 rfl lk_X10_131 me_X9_two is_X9_two se_X9_two rfl rfl (Nat.le_of_ble_eq_true rfl) (MX.post (m_X9_two hG hO g20) ?_)
      rintro _ A20 ⟨rfl, h1⟩
      refine X.xok (fun w20 => ?_)
      replace h := h A20 w20 h1
      change X _ _ _ _ A20 _ _ []
      refine x_goto (tgt := 601) dX10_sum_175 (by decide) ?_
      change X _ _ _ _ _ _ [some (.ref p), some (.ref b1), some (.int v3), some (.int v6), some (.int (A6.L b1 3).toInt32), none, some (.int (f_X10_isSmall (A6.L b1 3))), some (.int (if (A6.I b1 0) = 0 then (0 : Int32) else (if (A6.I b1 0) = (5 : Int32) then (7 : Int32) else (if (A6.I b1 0) = (6 : Int32) then (6 : Int32) else (4 : Int32))))), none, none, none] []
      exact X.weak (xle_c rfl (xle_c rfl (xle_c rfl (xle_n (xle_n (xle_n (xle_n (xle_n (xle_n (xle_n (xle_n xle_nil))))))))))) (kj9 A20 h)
  have kt13_1 : ((A6.I b1 0) = (1 : Int32)) → X G (dp + 7) kX10_sum (hV Q) A6 203 [some (.ref p), some (.ref b1), some (.int v3), some (.int v6), some (.int (A6.L b1 3).toInt32), some (.int (f_X0_isConstant (A6.L b1 3))), some (.int (f_X10_isSmall (A6.L b1 3))), none, none, none, none] [] := by
    intro c49
    replace h := h.2.1 c49
    refine x_aload_n dX10_sum_203 rfl ?_
    obtain ⟨o23, h⟩ := h
    refine x_get (v := va_rf (A6.P p 0)) hG dX10_sum_204 f_X10_15_9 o23 rfl ?_
    refine x_iconst_ (v := (0 : Int32)) dX10_sum_207 (by decide) ?_
    refine x_bipush_ (v := (32 : Int32)) dX10_sum_208 (by decide) ?_
    refine x_iload_n dX10_sum_210 rfl ?_
    refine x_iload_n dX10_sum_211 rfl ?_
    refine x_aload_n dX10_sum_212 rfl ?_
    refine x_aload_n dX10_sum_213 rfl ?_
    refine x_get (v := .long (A6.L b1 3)) hG dX10_sum_214 f_X10_229_35 o8 rfl ?_
    refine x_bipush_ (v := (31 : Int32)) dX10_sum_217 (by decide) ?_
    obtain ⟨R24, g24, h⟩ := h
    refine x_callV hG (Ky := kX10_from) (As := [.long (A6.L b1 3), .int (31 : Int32)]) dX10_sum_219 o23 rfl lk_X10_172 me_X10_from is_X10_from se_X10_from rfl rfl (by simp only [List.append_eq, List.nil_append, List.map_cons, va_rf_cat]; exact Nat.le_of_ble_eq_true rfl) (MX.post (m_X10_from hG hO g24) ?_)
    rintro _ A24 ⟨v24, rfl, h1⟩
    refine X.xok (fun w24 => ?_)
    replace h := h v24 A24 w24 h1
    change X _ _ _ _ A24 _ _ [.int v24, .int v6, .int v3, .int (32 : Int32), .int (0 : Int32), va_rf (A6.P p 0)]
    obtain ⟨b26, e26, h⟩ := h
    rw [e26]
    obtain ⟨o27, h⟩ := h
    obtain ⟨R25, g25, h⟩ := h
    refine x_callV hG (Ky := kX9_three) (As := [.int (0 : Int32), .int (32 : Int32), .int v3, .int v6, .int v24]) dX10_sum_222 o27 rfl lk_X10_138 me_X9_three is_X9_three se_X9_three rfl rfl (Nat.le_of_ble_eq_true rfl) (MX.post (m_X9_three hG hO g25) ?_)
    rintro _ A25 ⟨rfl, h1⟩
    refine X.xok (fun w25 => ?_)
    replace h := h A25 w25 h1
    change X _ _ _ _ A25 _ _ []
    refine x_goto (tgt := 601) dX10_sum_225 (by decide) ?_
    change X _ _ _ _ _ _ [some (.ref p), some (.ref b1), some (.int v3), some (.int v6), some (.int (A6.L b1 3).toInt32), some (.int (f_X0_isConstant (A6.L b1 3))), some (.int (f_X10_isSmall (A6.L b1 3))), none, none, none, none] []
    exact X.weak (xle_c rfl (xle_c rfl (xle_c rfl (xle_n (xle_n (xle_n (xle_n (xle_n (xle_n (xle_n (xle_n xle_nil))))))))))) (kj9 A25 h)
  have kt13_2 : ((A6.I b1 0) = (2 : Int32)) → X G (dp + 7) kX10_sum (hV Q) A6 228 [some (.ref p), some (.ref b1), some (.int v3), some (.int v6), some (.int (A6.L b1 3).toInt32), some (.int (f_X0_isConstant (A6.L b1 3))), some (.int (f_X10_isSmall (A6.L b1 3))), none, none, none, none] [] := by
    intro c49
    replace h := h.2.2.1 c49
    refine x_aload_n dX10_sum_228 rfl ?_
    obtain ⟨o28, h⟩ := h
    refine x_get (v := va_rf (A6.P p 0)) hG dX10_sum_229 f_X10_15_9 o28 rfl ?_
    refine x_iconst_ (v := (0 : Int32)) dX10_sum_232 (by decide) ?_
    refine x_iconst_ (v := (1 : Int32)) dX10_sum_233 (by decide) ?_
    refine x_iload_n dX10_sum_234 rfl ?_
    refine x_iload_n dX10_sum_235 rfl ?_
    refine x_aload_n dX10_sum_236 rfl ?_
    refine x_aload_n dX10_sum_237 rfl ?_
    refine x_get (v := .long (A6.L b1 3)) hG dX10_sum_238 f_X10_229_35 o8 rfl ?_
    refine x_bipush_ (v := (31 : Int32)) dX10_sum_241 (by decide) ?_
    obtain ⟨R29, g29, h⟩ := h
    refine x_callV hG (Ky := kX10_from) (As := [.long (A6.L b1 3), .int (31 : Int32)]) dX10_sum_243 o28 rfl lk_X10_172 me_X10_from is_X10_from se_X10_from rfl rfl (by simp only [List.append_eq, List.nil_append, List.map_cons, va_rf_cat]; exact Nat.le_of_ble_eq_true rfl) (MX.post (m_X10_from hG hO g29) ?_)
    rintro _ A29 ⟨v29, rfl, h1⟩
    refine X.xok (fun w29 => ?_)
    replace h := h v29 A29 w29 h1
    change X _ _ _ _ A29 _ _ [.int v29, .int v6, .int v3, .int (1 : Int32), .int (0 : Int32), va_rf (A6.P p 0)]
    obtain ⟨b31, e31, h⟩ := h
    rw [e31]
    obtain ⟨o32, h⟩ := h
    obtain ⟨R30, g30, h⟩ := h
    refine x_callV hG (Ky := kX9_three) (As := [.int (0 : Int32), .int (1 : Int32), .int v3, .int v6, .int v29]) dX10_sum_246 o32 rfl lk_X10_138 me_X9_three is_X9_three se_X9_three rfl rfl (Nat.le_of_ble_eq_true rfl) (MX.post (m_X9_three hG hO g30) ?_)
    rintro _ A30 ⟨rfl, h1⟩
    refine X.xok (fun w30 => ?_)
    replace h := h A30 w30 h1
    change X _ _ _ _ A30 _ _ []
    refine x_goto (tgt := 601) dX10_sum_249 (by decide) ?_
    change X _ _ _ _ _ _ [some (.ref p), some (.ref b1), some (.int v3), some (.int v6), some (.int (A6.L b1 3).toInt32), some (.int (f_X0_isConstant (A6.L b1 3))), some (.int (f_X10_isSmall (A6.L b1 3))), none, none, none, none] []
    exact X.weak (xle_c rfl (xle_c rfl (xle_c rfl (xle_n (xle_n (xle_n (xle_n (xle_n (xle_n (xle_n (xle_n xle_nil))))))))))) (kj9 A30 h)
  have kt13_3 : ((A6.I b1 0) = (3 : Int32) ∨ (A6.I b1 0) = (4 : Int32)) → X G (dp + 7) kX10_sum (hV Q) A6 252 [some (.ref p), some (.ref b1), some (.int v3), some (.int v6), some (.int (A6.L b1 3).toInt32), some (.int (f_X0_isConstant (A6.L b1 3))), some (.int (f_X10_isSmall (A6.L b1 3))), none, none, none, none] [] := by
    intro c49
    replace h := h.2.2.2.1 c49
    refine x_iload dX10_sum_252 rfl ?_
    refine x_if_eq (tgt := 300) dX10_sum_254 (by decide) (fun c254 => ?_) (fun c254 => ?_)
    · replace h := h.1 c254
      refine x_aload_n dX10_sum_300 rfl ?_
      obtain ⟨o33, h⟩ := h
      refine x_get (v := va_rf (A6.P p 0)) hG dX10_sum_301 f_X10_15_9 o33 rfl ?_
      refine x_aload_n dX10_sum_304 rfl ?_
      refine x_get (v := .int (A6.I b1 0)) hG dX10_sum_305 f_X10_82_35 o8 rfl ?_
      refine x_iconst_ (v := (3 : Int32)) dX10_sum_308 (by decide) ?_
      refine x_via 318 (A' := A6) (lv' := [some (.ref p), some (.ref b1), some (.int v3), some (.int v6), none, none, none, none, none, none, none]) (st' := [.int (if (A6.I b1 0) = (3 : Int32) then (4 : Int32) else (6 : Int32)), va_rf (A6.P p 0)]) ?_ (fun k318 => ?_)
      rotate_left
      · refine x_icmp_ne (tgt := 316) dX10_sum_309 (by decide) (fun c309 => ?_) (fun c309 => ?_)
        · refine x_bipush_ (v := (6 : Int32)) dX10_sum_316 (by decide) ?_
          change X _ _ _ _ _ _ [some (.ref p), some (.ref b1), some (.int v3), some (.int v6), some (.int (A6.L b1 3).toInt32), some (.int (f_X0_isConstant (A6.L b1 3))), some (.int (f_X10_isSmall (A6.L b1 3))), none, none, none, none] [.int (6 : Int32), va_rf (A6.P p 0)]
          simp only [if_neg c309] at k318 ⊢
          exact X.weak (xle_c rfl (xle_c rfl (xle_c rfl (xle_c rfl (xle_n (xle_n (xle_n (xle_n (xle_n (xle_n (xle_n xle_nil))))))))))) k318
        · refine x_iconst_ (v := (4 : Int32)) dX10_sum_312 (by decide) ?_
          refine x_goto (tgt := 318) dX10_sum_313 (by decide) ?_
          change X _ _ _ _ _ _ [some (.ref p), some (.ref b1), some (.int v3), some (.int v6), some (.int (A6.L b1 3).toInt32), some (.int (f_X0_isConstant (A6.L b1 3))), some (.int (f_X10_isSmall (A6.L b1 3))), none, none, none, none] [.int (4 : Int32), va_rf (A6.P p 0)]
          simp only [if_pos c309] at k318 ⊢
          exact X.weak (xle_c rfl (xle_c rfl (xle_c rfl (xle_c rfl (xle_n (xle_n (xle_n (xle_n (xle_n (xle_n (xle_n xle_nil))))))))))) k318
      refine x_iconst_ (v := (1 : Int32)) dX10_sum_318 (by decide) ?_
      refine x_iload_n dX10_sum_319 rfl ?_
      refine x_iload_n dX10_sum_320 rfl ?_
      refine x_aload_n dX10_sum_321 rfl ?_
      refine x_aload_n dX10_sum_322 rfl ?_
      refine x_get (v := .long (A6.L b1 3)) hG dX10_sum_323 f_X10_229_35 o8 rfl ?_
      refine x_bipush_ (v := (31 : Int32)) dX10_sum_326 (by decide) ?_
      obtain ⟨R34, g34, h⟩ := h
      refine x_callV hG (Ky := kX10_from) (As := [.long (A6.L b1 3), .int (31 : Int32)]) dX10_sum_328 o33 rfl lk_X10_172 me_X10_from is_X10_from se_X10_from rfl rfl (by simp only [List.append_eq, List.nil_append, List.map_cons, va_rf_cat]; exact Nat.le_of_ble_eq_true rfl) (MX.post (m_X10_from hG hO g34) ?_)
      rintro _ A34 ⟨v34, rfl, h1⟩
      refine X.xok (fun w34 => ?_)
      replace h := h v34 A34 w34 h1
      change X _ _ _ _ A34 _ _ [.int v34, .int v6, .int v3, .int (1 : Int32), .int (if (A6.I b1 0) = (3 : Int32) then (4 : Int32) else (6 : Int32)), va_rf (A6.P p 0)]
      obtain ⟨b36, e36, h⟩ := h
      rw [e36]
      obtain ⟨o37, h⟩ := h
      obtain ⟨R35, g35, h⟩ := h
      refine x_callV hG (Ky := kX9_three) (As := [.int (if (A6.I b1 0) = (3 : Int32) then (4 : Int32) else (6 : Int32)), .int (1 : Int32), .int v3, .int v6, .int v34]) dX10_sum_331 o37 rfl lk_X10_138 me_X9_three is_X9_three se_X9_three rfl rfl (Nat.le_of_ble_eq_true rfl) (MX.post (m_X9_three hG hO g35) ?_)
      rintro _ A35 ⟨rfl, h1⟩
      refine X.xok (fun w35 => ?_)
      replace h := h A35 w35 h1
      change X _ _ _ _ A35 _ _ []
      refine x_goto (tgt := 601) dX10_sum_334 (by decide) ?_
      change X _ _ _ _ _ _ [some (.ref p), some (.ref b1), some (.int v3), some (.int v6), none, none, none, none, none, none, none] []
      exact X.weak (xle_c rfl (xle_c rfl (xle_c rfl (xle_n (xle_n (xle_n (xle_n (xle_n (xle_n (xle_n (xle_n xle_nil))))))))))) (kj9 A35 h)
    · replace h := h.2 c254
      refine x_iload dX10_sum_257 rfl ?_
      refine x_iconst_ (v := (1 : Int32)) dX10_sum_259 (by decide) ?_
      refine x_icmp_le (tgt := 300) dX10_sum_260 (by decide) (fun c260 => ?_) (fun c260 => ?_)
      · replace h := h.1 c260
        refine x_aload_n dX10_sum_300 rfl ?_
        obtain ⟨o38, h⟩ := h
        refine x_get (v := va_rf (A6.P p 0)) hG dX10_sum_301 f_X10_15_9 o38 rfl ?_
        refine x_aload_n dX10_sum_304 rfl ?_
        refine x_get (v := .int (A6.I b1 0)) hG dX10_sum_305 f_X10_82_35 o8 rfl ?_
        refine x_iconst_ (v := (3 : Int32)) dX10_sum_308 (by decide) ?_
        refine x_via 318 (A' := A6) (lv' := [some (.ref p), some (.ref b1), some (.int v3), some (.int v6), none, none, none, none, none, none, none]) (st' := [.int (if (A6.I b1 0) = (3 : Int32) then (4 : Int32) else (6 : Int32)), va_rf (A6.P p 0)]) ?_ (fun k318 => ?_)
        rotate_left
        · refine x_icmp_ne (tgt := 316) dX10_sum_309 (by decide) (fun c309 => ?_) (fun c309 => ?_)
          · refine x_bipush_ (v := (6 : Int32)) dX10_sum_316 (by decide) ?_
            change X _ _ _ _ _ _ [some (.ref p), some (.ref b1), some (.int v3), some (.int v6), some (.int (A6.L b1 3).toInt32), some (.int (f_X0_isConstant (A6.L b1 3))), some (.int (f_X10_isSmall (A6.L b1 3))), none, none, none, none] [.int (6 : Int32), va_rf (A6.P p 0)]
            simp only [if_neg c309] at k318 ⊢
            exact X.weak (xle_c rfl (xle_c rfl (xle_c rfl (xle_c rfl (xle_n (xle_n (xle_n (xle_n (xle_n (xle_n (xle_n xle_nil))))))))))) k318
          · refine x_iconst_ (v := (4 : Int32)) dX10_sum_312 (by decide) ?_
            refine x_goto (tgt := 318) dX10_sum_313 (by decide) ?_
            change X _ _ _ _ _ _ [some (.ref p), some (.ref b1), some (.int v3), some (.int v6), some (.int (A6.L b1 3).toInt32), some (.int (f_X0_isConstant (A6.L b1 3))), some (.int (f_X10_isSmall (A6.L b1 3))), none, none, none, none] [.int (4 : Int32), va_rf (A6.P p 0)]
            simp only [if_pos c309] at k318 ⊢
            exact X.weak (xle_c rfl (xle_c rfl (xle_c rfl (xle_c rfl (xle_n (xle_n (xle_n (xle_n (xle_n (xle_n (xle_n xle_nil))))))))))) k318
        refine x_iconst_ (v := (1 : Int32)) dX10_sum_318 (by decide) ?_
        refine x_iload_n dX10_sum_319 rfl ?_
        refine x_iload_n dX10_sum_320 rfl ?_
        refine x_aload_n dX10_sum_321 rfl ?_
        refine x_aload_n dX10_sum_322 rfl ?_
        refine x_get (v := .long (A6.L b1 3)) hG dX10_sum_323 f_X10_229_35 o8 rfl ?_
        refine x_bipush_ (v := (31 : Int32)) dX10_sum_326 (by decide) ?_
        obtain ⟨R39, g39, h⟩ := h
        refine x_callV hG (Ky := kX10_from) (As := [.long (A6.L b1 3), .int (31 : Int32)]) dX10_sum_328 o38 rfl lk_X10_172 me_X10_from is_X10_from se_X10_from rfl rfl (by simp only [List.append_eq, List.nil_append, List.map_cons, va_rf_cat]; exact Nat.le_of_ble_eq_true rfl) (MX.post (m_X10_from hG hO g39) ?_)
        rintro _ A39 ⟨v39, rfl, h1⟩
        refine X.xok (fun w39 => ?_)
        replace h := h v39 A39 w39 h1
        change X _ _ _ _ A39 _ _ [.int v39, .int v6, .int v3, .int (1 : Int32), .int (if (A6.I b1 0) = (3 : Int32) then (4 : Int32) else (6 : Int32)), va_rf (A6.P p 0)]
        obtain ⟨b41, e41, h⟩ := h
        rw [e41]
        obtain ⟨o42, h⟩ := h
        obtain ⟨R40, g40, h⟩ := h
        refine x_callV hG (Ky := kX9_three) (As := [.int (if (A6.I b1 0) = (3 : Int32) then (4 : Int32) else (6 : Int32)), .int (1 : Int32), .int v3, .int v6, .int v39]) dX10_sum_331 o42 rfl lk_X10_138 me_X9_three is_X9_three se_X9_three rfl rfl (Nat.le_of_ble_eq_true rfl) (MX.post (m_X9_three hG hO g40) ?_)
        rintro _ A40 ⟨rfl, h1⟩
        refine X.xok (fun w40 => ?_)
        replace h := h A40 w40 h1
        change X _ _ _ _ A40 _ _ []
        refine x_goto (tgt := 601) dX10_sum_334 (by decide) ?_
        change X _ _ _ _ _ _ [some (.ref p), some (.ref b1), some (.int v3), some (.int v6), none, none, none, none, none, none, none] []
        exact X.weak (xle_c rfl (xle_c rfl (xle_c rfl (xle_n (xle_n (xle_n (xle_n (xle_n (xle_n (xle_n (xle_n xle_nil))))))))))) (kj9 A40 h)
      · replace h := h.2 c260
        refine x_iload dX10_sum_263 rfl ?_
        refine x_iload dX10_sum_265 rfl ?_
        refine x_iconst_ (v := (1 : Int32)) dX10_sum_267 (by decide) ?_
        refine x_isub dX10_sum_268 ?_
        refine x_iand dX10_sum_269 ?_
        refine x_if_ne (tgt := 300) dX10_sum_270 (by decide) (fun c270 => ?_) (fun c270 => ?_)
        · replace h := h.2 c270
          refine x_aload_n dX10_sum_300 rfl ?_
          obtain ⟨o43, h⟩ := h
          refine x_get (v := va_rf (A6.P p 0)) hG dX10_sum_301 f_X10_15_9 o43 rfl ?_
          refine x_aload_n dX10_sum_304 rfl ?_
          refine x_get (v := .int (A6.I b1 0)) hG dX10_sum_305 f_X10_82_35 o8 rfl ?_
          refine x_iconst_ (v := (3 : Int32)) dX10_sum_308 (by decide) ?_
          refine x_via 318 (A' := A6) (lv' := [some (.ref p), some (.ref b1), some (.int v3), some (.int v6), none, none, none, none, none, none, none]) (st' := [.int (if (A6.I b1 0) = (3 : Int32) then (4 : Int32) else (6 : Int32)), va_rf (A6.P p 0)]) ?_ (fun k318 => ?_)
          rotate_left
          · refine x_icmp_ne (tgt := 316) dX10_sum_309 (by decide) (fun c309 => ?_) (fun c309 => ?_)
            · refine x_bipush_ (v := (6 : Int32)) dX10_sum_316 (by decide) ?_
              change X _ _ _ _ _ _ [some (.ref p), some (.ref b1), some (.int v3), some (.int v6), some (.int (A6.L b1 3).toInt32), some (.int (f_X0_isConstant (A6.L b1 3))), some (.int (f_X10_isSmall (A6.L b1 3))), none, none, none, none] [.int (6 : Int32), va_rf (A6.P p 0)]
              simp only [if_neg c309] at k318 ⊢
              exact X.weak (xle_c rfl (xle_c rfl (xle_c rfl (xle_c rfl (xle_n (xle_n (xle_n (xle_n (xle_n (xle_n (xle_n xle_nil))))))))))) k318
            · refine x_iconst_ (v := (4 : Int32)) dX10_sum_312 (by decide) ?_
              refine x_goto (tgt := 318) dX10_sum_313 (by decide) ?_
              change X _ _ _ _ _ _ [some (.ref p), some (.ref b1), some (.int v3), some (.int v6), some (.int (A6.L b1 3).toInt32), some (.int (f_X0_isConstant (A6.L b1 3))), some (.int (f_X10_isSmall (A6.L b1 3))), none, none, none, none] [.int (4 : Int32), va_rf (A6.P p 0)]
              simp only [if_pos c309] at k318 ⊢
              exact X.weak (xle_c rfl (xle_c rfl (xle_c rfl (xle_c rfl (xle_n (xle_n (xle_n (xle_n (xle_n (xle_n (xle_n xle_nil))))))))))) k318
          refine x_iconst_ (v := (1 : Int32)) dX10_sum_318 (by decide) ?_
          refine x_iload_n dX10_sum_319 rfl ?_
          refine x_iload_n dX10_sum_320 rfl ?_
          refine x_aload_n dX10_sum_321 rfl ?_
          refine x_aload_n dX10_sum_322 rfl ?_
          refine x_get (v := .long (A6.L b1 3)) hG dX10_sum_323 f_X10_229_35 o8 rfl ?_
          refine x_bipush_ (v := (31 : Int32)) dX10_sum_326 (by decide) ?_
          obtain ⟨R44, g44, h⟩ := h
          refine x_callV hG (Ky := kX10_from) (As := [.long (A6.L b1 3), .int (31 : Int32)]) dX10_sum_328 o43 rfl lk_X10_172 me_X10_from is_X10_from se_X10_from rfl rfl (by simp only [List.append_eq, List.nil_append, List.map_cons, va_rf_cat]; exact Nat.le_of_ble_eq_true rfl) (MX.post (m_X10_from hG hO g44) ?_)
          rintro _ A44 ⟨v44, rfl, h1⟩
          refine X.xok (fun w44 => ?_)
          replace h := h v44 A44 w44 h1
          change X _ _ _ _ A44 _ _ [.int v44, .int v6, .int v3, .int (1 : Int32), .int (if (A6.I b1 0) = (3 : Int32) then (4 : Int32) else (6 : Int32)), va_rf (A6.P p 0)]
          obtain ⟨b46, e46, h⟩ := h
          rw [e46]
          obtain ⟨o47, h⟩ := h
          obtain ⟨R45, g45, h⟩ := h
          refine x_callV hG (Ky := kX9_three) (As := [.int (if (A6.I b1 0) = (3 : Int32) then (4 : Int32) else (6 : Int32)), .int (1 : Int32), .int v3, .int v6, .int v44]) dX10_sum_331 o47 rfl lk_X10_138 me_X9_three is_X9_three se_X9_three rfl rfl (Nat.le_of_ble_eq_true rfl) (MX.post (m_X9_three hG hO g45) ?_)
          rintro _ A45 ⟨rfl, h1⟩
          refine X.xok (fun w45 => ?_)
          replace h := h A45 w45 h1
          change X _ _ _ _ A45 _ _ []
          refine x_goto (tgt := 601) dX10_sum_334 (by decide) ?_
          change X _ _ _ _ _ _ [some (.ref p), some (.ref b1), some (.int v3), some (.int v6), none, none, none, none, none, none, none] []
          exact X.weak (xle_c rfl (xle_c rfl (xle_c rfl (xle_n (xle_n (xle_n (xle_n (xle_n (xle_n (xle_n (xle_n xle_nil))))))))))) (kj9 A45 h)
        · replace h := h.1 c270
          refine x_aload_n dX10_sum_273 rfl ?_
          refine x_aload_n dX10_sum_274 rfl ?_
          refine x_get (v := .int (A6.I b1 0)) hG dX10_sum_275 f_X10_82_35 o8 rfl ?_
          refine x_iconst_ (v := (3 : Int32)) dX10_sum_278 (by decide) ?_
          refine x_via 287 (A' := A6) (lv' := [some (.ref p), some (.ref b1), some (.int v3), some (.int v6), some (.int (A6.L b1 3).toInt32), none, none, none, none, none, none]) (st' := [.int (if (A6.I b1 0) = (3 : Int32) then (1 : Int32) else (0 : Int32)), .ref p]) ?_ (fun k287 => ?_)
          rotate_left
          · refine x_icmp_ne (tgt := 286) dX10_sum_279 (by decide) (fun c279 => ?_) (fun c279 => ?_)
            · refine x_iconst_ (v := (0 : Int32)) dX10_sum_286 (by decide) ?_
              change X _ _ _ _ _ _ [some (.ref p), some (.ref b1), some (.int v3), some (.int v6), some (.int (A6.L b1 3).toInt32), some (.int (f_X0_isConstant (A6.L b1 3))), some (.int (f_X10_isSmall (A6.L b1 3))), none, none, none, none] [.int (0 : Int32), .ref p]
              simp only [if_neg c279] at k287 ⊢
              exact X.weak (xle_c rfl (xle_c rfl (xle_c rfl (xle_c rfl (xle_c rfl (xle_n (xle_n (xle_n (xle_n (xle_n (xle_n xle_nil))))))))))) k287
            · refine x_iconst_ (v := (1 : Int32)) dX10_sum_282 (by decide) ?_
              refine x_goto (tgt := 287) dX10_sum_283 (by decide) ?_
              change X _ _ _ _ _ _ [some (.ref p), some (.ref b1), some (.int v3), some (.int v6), some (.int (A6.L b1 3).toInt32), some (.int (f_X0_isConstant (A6.L b1 3))), some (.int (f_X10_isSmall (A6.L b1 3))), none, none, none, none] [.int (1 : Int32), .ref p]
              simp only [if_pos c279] at k287 ⊢
              exact X.weak (xle_c rfl (xle_c rfl (xle_c rfl (xle_c rfl (xle_c rfl (xle_n (xle_n (xle_n (xle_n (xle_n (xle_n xle_nil))))))))))) k287
          refine x_iload_n dX10_sum_287 rfl ?_
          refine x_iload_n dX10_sum_288 rfl ?_
          refine x_iload dX10_sum_289 rfl ?_
          refine x_callS hG (Ky := kJ15_numberOfTrailingZeros) (As := [.int (A6.L b1 3).toInt32]) dX10_sum_291 lk_X10_235 me_J15_numberOfTrailingZeros st_J15_numberOfTrailingZeros rfl rfl (Nat.le_of_ble_eq_true rfl) (MX.post (m_J15_numberOfTrailingZeros hG) ?_)
          rintro _ _ ⟨rfl, rfl⟩
          change X _ _ _ _ _ _ _ (.int (f_J15_numberOfTrailingZeros (A6.L b1 3).toInt32) :: _)
          obtain ⟨o49, h⟩ := h
          obtain ⟨R48, g48, h⟩ := h
          refine x_callV hG (Ky := kX10_half) (As := [.int (if (A6.I b1 0) = (3 : Int32) then (1 : Int32) else (0 : Int32)), .int v3, .int v6, .int (f_J15_numberOfTrailingZeros (A6.L b1 3).toInt32)]) dX10_sum_294 o49 rfl lk_X10_238 me_X10_half is_X10_half se_X10_half rfl rfl (Nat.le_of_ble_eq_true rfl) (MX.post (m_X10_half hG hO g48) ?_)
          rintro _ A48 ⟨rfl, h1⟩
          refine X.xok (fun w48 => ?_)
          replace h := h A48 w48 h1
          change X _ _ _ _ A48 _ _ []
          refine x_goto (tgt := 601) dX10_sum_297 (by decide) ?_
          change X _ _ _ _ _ _ [some (.ref p), some (.ref b1), some (.int v3), some (.int v6), some (.int (A6.L b1 3).toInt32), none, none, none, none, none, none] []
          exact X.weak (xle_c rfl (xle_c rfl (xle_c rfl (xle_n (xle_n (xle_n (xle_n (xle_n (xle_n (xle_n (xle_n xle_nil))))))))))) (kj9 A48 h)
  have kt13_4 : ((A6.I b1 0) = (8 : Int32) ∨ (A6.I b1 0) = (9 : Int32) ∨ (A6.I b1 0) = (10 : Int32)) → X G (dp + 7) kX10_sum (hV Q) A6 337 [some (.ref p), some (.ref b1), some (.int v3), some (.int v6), some (.int (A6.L b1 3).toInt32), some (.int (f_X0_isConstant (A6.L b1 3))), some (.int (f_X10_isSmall (A6.L b1 3))), none, none, none, none] [] := by
    intro c49
    replace h := h.2.2.2.2.1 c49
    refine x_aload_n dX10_sum_337 rfl ?_
    refine x_get (v := .int (A6.I b1 0)) hG dX10_sum_338 f_X10_82_35 o8 rfl ?_
    refine x_bipush_ (v := (8 : Int32)) dX10_sum_341 (by decide) ?_
    refine x_via 351 (A' := A6) (lv' := [some (.ref p), some (.ref b1), some (.int v3), some (.int v6), some (.int (A6.L b1 3).toInt32), some (.int (f_X0_isConstant (A6.L b1 3))), none, none, none, none, none]) (st' := [.int (if (A6.I b1 0) = (8 : Int32) then (1 : Int32) else (5 : Int32))]) ?_ (fun k351 => ?_)
    rotate_left
    · refine x_icmp_ne (tgt := 350) dX10_sum_343 (by decide) (fun c343 => ?_) (fun c343 => ?_)
      · refine x_iconst_ (v := (5 : Int32)) dX10_sum_350 (by decide) ?_
        change X _ _ _ _ _ _ [some (.ref p), some (.ref b1), some (.int v3), some (.int v6), some (.int (A6.L b1 3).toInt32), some (.int (f_X0_isConstant (A6.L b1 3))), some (.int (f_X10_isSmall (A6.L b1 3))), none, none, none, none] [.int (5 : Int32)]
        simp only [if_neg c343] at k351 ⊢
        exact X.weak (xle_c rfl (xle_c rfl (xle_c rfl (xle_c rfl (xle_c rfl (xle_c rfl (xle_n (xle_n (xle_n (xle_n (xle_n xle_nil))))))))))) k351
      · refine x_iconst_ (v := (1 : Int32)) dX10_sum_346 (by decide) ?_
        refine x_goto (tgt := 351) dX10_sum_347 (by decide) ?_
        change X _ _ _ _ _ _ [some (.ref p), some (.ref b1), some (.int v3), some (.int v6), some (.int (A6.L b1 3).toInt32), some (.int (f_X0_isConstant (A6.L b1 3))), some (.int (f_X10_isSmall (A6.L b1 3))), none, none, none, none] [.int (1 : Int32)]
        simp only [if_pos c343] at k351 ⊢
        exact X.weak (xle_c rfl (xle_c rfl (xle_c rfl (xle_c rfl (xle_c rfl (xle_c rfl (xle_n (xle_n (xle_n (xle_n (xle_n xle_nil))))))))))) k351
    refine x_istore dX10_sum_351 (by decide) ?_
    refine x_aload_n dX10_sum_353 rfl ?_
    refine x_get (v := .int (A6.I b1 0)) hG dX10_sum_354 f_X10_82_35 o8 rfl ?_
    refine x_bipush_ (v := (9 : Int32)) dX10_sum_357 (by decide) ?_
    refine x_via 368 (A' := A6) (lv' := [some (.ref p), some (.ref b1), some (.int v3), some (.int v6), some (.int (A6.L b1 3).toInt32), some (.int (f_X0_isConstant (A6.L b1 3))), none, none, some (.int (if (A6.I b1 0) = (8 : Int32) then (1 : Int32) else (5 : Int32))), none, none]) (st' := [.int (if (A6.I b1 0) = (9 : Int32) then (32 : Int32) else (0 : Int32))]) ?_ (fun k368 => ?_)
    rotate_left
    · refine x_icmp_ne (tgt := 367) dX10_sum_359 (by decide) (fun c359 => ?_) (fun c359 => ?_)
      · refine x_iconst_ (v := (0 : Int32)) dX10_sum_367 (by decide) ?_
        change X _ _ _ _ _ _ [some (.ref p), some (.ref b1), some (.int v3), some (.int v6), some (.int (A6.L b1 3).toInt32), some (.int (f_X0_isConstant (A6.L b1 3))), none, none, some (.int (if (A6.I b1 0) = (8 : Int32) then (1 : Int32) else (5 : Int32))), none, none] [.int (0 : Int32)]
        simp only [if_neg c359] at k368 ⊢
        exact X.weak (xle_c rfl (xle_c rfl (xle_c rfl (xle_c rfl (xle_c rfl (xle_c rfl (xle_n (xle_n (xle_c rfl (xle_n (xle_n xle_nil))))))))))) k368
      · refine x_bipush_ (v := (32 : Int32)) dX10_sum_362 (by decide) ?_
        refine x_goto (tgt := 368) dX10_sum_364 (by decide) ?_
        change X _ _ _ _ _ _ [some (.ref p), some (.ref b1), some (.int v3), some (.int v6), some (.int (A6.L b1 3).toInt32), some (.int (f_X0_isConstant (A6.L b1 3))), none, none, some (.int (if (A6.I b1 0) = (8 : Int32) then (1 : Int32) else (5 : Int32))), none, none] [.int (32 : Int32)]
        simp only [if_pos c359] at k368 ⊢
        exact X.weak (xle_c rfl (xle_c rfl (xle_c rfl (xle_c rfl (xle_c rfl (xle_c rfl (xle_n (xle_n (xle_c rfl (xle_n (xle_n xle_nil))))))))))) k368
    refine x_istore dX10_sum_368 (by decide) ?_
    refine x_iload dX10_sum_370 rfl ?_
    refine x_if_eq (tgt := 399) dX10_sum_372 (by decide) (fun c372 => ?_) (fun c372 => ?_)
    · replace h := h.1 c372
      refine x_aload_n dX10_sum_399 rfl ?_
      obtain ⟨o50, h⟩ := h
      refine x_get (v := va_rf (A6.P p 0)) hG dX10_sum_400 f_X10_15_9 o50 rfl ?_
      refine x_iload dX10_sum_403 rfl ?_
      refine x_iload dX10_sum_405 rfl ?_
      refine x_iload_n dX10_sum_407 rfl ?_
      refine x_iload_n dX10_sum_408 rfl ?_
      refine x_aload_n dX10_sum_409 rfl ?_
      refine x_aload_n dX10_sum_410 rfl ?_
      refine x_get (v := .long (A6.L b1 3)) hG dX10_sum_411 f_X10_229_35 o8 rfl ?_
      refine x_bipush_ (v := (31 : Int32)) dX10_sum_414 (by decide) ?_
      obtain ⟨R51, g51, h⟩ := h
      refine x_callV hG (Ky := kX10_from) (As := [.long (A6.L b1 3), .int (31 : Int32)]) dX10_sum_416 o50 rfl lk_X10_172 me_X10_from is_X10_from se_X10_from rfl rfl (by simp only [List.append_eq, List.nil_append, List.map_cons, va_rf_cat]; exact Nat.le_of_ble_eq_true rfl) (MX.post (m_X10_from hG hO g51) ?_)
      rintro _ A51 ⟨v51, rfl, h1⟩
      refine X.xok (fun w51 => ?_)
      replace h := h v51 A51 w51 h1
      change X _ _ _ _ A51 _ _ [.int v51, .int v6, .int v3, .int (if (A6.I b1 0) = (9 : Int32) then (32 : Int32) else (0 : Int32)), .int (if (A6.I b1 0) = (8 : Int32) then (1 : Int32) else (5 : Int32)), va_rf (A6.P p 0)]
      obtain ⟨b53, e53, h⟩ := h
      rw [e53]
      obtain ⟨o54, h⟩ := h
      obtain ⟨R52, g52, h⟩ := h
      refine x_callV hG (Ky := kX9_three) (As := [.int (if (A6.I b1 0) = (8 : Int32) then (1 : Int32) else (5 : Int32)), .int (if (A6.I b1 0) = (9 : Int32) then (32 : Int32) else (0 : Int32)), .int v3, .int v6, .int v51]) dX10_sum_419 o54 rfl lk_X10_138 me_X9_three is_X9_three se_X9_three rfl rfl (Nat.le_of_ble_eq_true rfl) (MX.post (m_X9_three hG hO g52) ?_)
      rintro _ A52 ⟨rfl, h1⟩
      refine X.xok (fun w52 => ?_)
      replace h := h A52 w52 h1
      change X _ _ _ _ A52 _ _ []
      refine x_goto (tgt := 601) dX10_sum_422 (by decide) ?_
      change X _ _ _ _ _ _ [some (.ref p), some (.ref b1), some (.int v3), some (.int v6), some (.int (A6.L b1 3).toInt32), some (.int (f_X0_isConstant (A6.L b1 3))), none, none, some (.int (if (A6.I b1 0) = (8 : Int32) then (1 : Int32) else (5 : Int32))), some (.int (if (A6.I b1 0) = (9 : Int32) then (32 : Int32) else (0 : Int32))), none] []
      exact X.weak (xle_c rfl (xle_c rfl (xle_c rfl (xle_n (xle_n (xle_n (xle_n (xle_n (xle_n (xle_n (xle_n xle_nil))))))))))) (kj9 A52 h)
    · replace h := h.2 c372
      refine x_aload_n dX10_sum_375 rfl ?_
      obtain ⟨o55, h⟩ := h
      refine x_get (v := va_rf (A6.P p 0)) hG dX10_sum_376 f_X10_15_9 o55 rfl ?_
      refine x_iload dX10_sum_379 rfl ?_
      refine x_iload_n dX10_sum_381 rfl ?_
      refine x_iload_n dX10_sum_382 rfl ?_
      refine x_iload dX10_sum_383 rfl ?_
      refine x_iconst_ (v := (5 : Int32)) dX10_sum_385 (by decide) ?_
      refine x_ishl dX10_sum_386 ?_
      refine x_eqi (v := (jishl (if (A6.I b1 0) = (9 : Int32) then (32 : Int32) else (0 : Int32)) (5 : Int32))) rfl ?_
      refine x_iload dX10_sum_387 rfl ?_
      refine x_bipush_ (v := (31 : Int32)) dX10_sum_389 (by decide) ?_
      refine x_iand dX10_sum_391 ?_
      refine x_ior dX10_sum_392 ?_
      obtain ⟨b57, e57, h⟩ := h
      rw [e57]
      obtain ⟨o58, h⟩ := h
      obtain ⟨R56, g56, h⟩ := h
      refine x_callV hG (Ky := kX9_two) (As := [.int (if (A6.I b1 0) = (8 : Int32) then (1 : Int32) else (5 : Int32)), .int v3, .int v6, .int ((jishl (if (A6.I b1 0) = (9 : Int32) then (32 : Int32) else (0 : Int32)) (5 : Int32)) ||| ((A6.L b1 3).toInt32 &&& (31 : Int32)))]) dX10_sum_393 o58 rfl lk_X10_131 me_X9_two is_X9_two se_X9_two rfl rfl (Nat.le_of_ble_eq_true rfl) (MX.post (m_X9_two hG hO g56) ?_)
      rintro _ A56 ⟨rfl, h1⟩
      refine X.xok (fun w56 => ?_)
      replace h := h A56 w56 h1
      change X _ _ _ _ A56 _ _ []
      refine x_goto (tgt := 601) dX10_sum_396 (by decide) ?_
      change X _ _ _ _ _ _ [some (.ref p), some (.ref b1), some (.int v3), some (.int v6), some (.int (A6.L b1 3).toInt32), some (.int (f_X0_isConstant (A6.L b1 3))), none, none, some (.int (if (A6.I b1 0) = (8 : Int32) then (1 : Int32) else (5 : Int32))), some (.int (if (A6.I b1 0) = (9 : Int32) then (32 : Int32) else (0 : Int32))), none] []
      exact X.weak (xle_c rfl (xle_c rfl (xle_c rfl (xle_n (xle_n (xle_n (xle_n (xle_n (xle_n (xle_n (xle_n xle_nil))))))))))) (kj9 A56 h)
  have kt13_5 : ((A6.I b1 0) = (11 : Int32) ∨ (A6.I b1 0) = (12 : Int32)) → X G (dp + 7) kX10_sum (hV Q) A6 425 [some (.ref p), some (.ref b1), some (.int v3), some (.int v6), some (.int (A6.L b1 3).toInt32), some (.int (f_X0_isConstant (A6.L b1 3))), some (.int (f_X10_isSmall (A6.L b1 3))), none, none, none, none] [] := by
    intro c49
    replace h := h.2.2.2.2.2.1 c49
    refine x_iload_n dX10_sum_425 rfl ?_
    refine x_istore dX10_sum_426 (by decide) ?_
    refine x_iload dX10_sum_428 rfl ?_
    obtain ⟨J59, g59, h⟩ := h
    have kj59 : ∀ (y59_10 : Int32) (A59 : xA), J59 y59_10 A59 → X G (dp + 7) kX10_sum (hV Q) A59 500 [some (.ref p), some (.ref b1), some (.int v3), none, none, none, none, none, none, none, some (.int y59_10)] [] := by
      intro y59_10 A59 h
      replace h := g59 y59_10 A59 h
      refine x_aload_n dX10_sum_500 rfl ?_
      obtain ⟨o60, h⟩ := h
      refine x_get (v := .int (A59.I b1 0)) hG dX10_sum_501 f_X10_82_35 o60 rfl ?_
      refine x_bipush_ (v := (11 : Int32)) dX10_sum_504 (by decide) ?_
      refine x_icmp_ne (tgt := 524) dX10_sum_506 (by decide) (fun c506 => ?_) (fun c506 => ?_)
      · replace h := h.2 c506
        refine x_aload_n dX10_sum_524 rfl ?_
        obtain ⟨o61, h⟩ := h
        refine x_get (v := va_rf (A59.P p 0)) hG dX10_sum_525 f_X10_15_9 o61 rfl ?_
        refine x_iconst_ (v := (3 : Int32)) dX10_sum_528 (by decide) ?_
        refine x_iconst_ (v := (0 : Int32)) dX10_sum_529 (by decide) ?_
        refine x_iload_n dX10_sum_530 rfl ?_
        refine x_iconst_ (v := (0 : Int32)) dX10_sum_531 (by decide) ?_
        refine x_iload dX10_sum_532 rfl ?_
        obtain ⟨b63, e63, h⟩ := h
        rw [e63]
        obtain ⟨o64, h⟩ := h
        obtain ⟨R62, g62, h⟩ := h
        refine x_callV hG (Ky := kX9_three) (As := [.int (3 : Int32), .int (0 : Int32), .int v3, .int (0 : Int32), .int y59_10]) dX10_sum_534 o64 rfl lk_X10_138 me_X9_three is_X9_three se_X9_three rfl rfl (Nat.le_of_ble_eq_true rfl) (MX.post (m_X9_three hG hO g62) ?_)
        rintro _ A62 ⟨rfl, h1⟩
        refine X.xok (fun w62 => ?_)
        replace h := h A62 w62 h1
        change X _ _ _ _ A62 _ _ []
        refine x_goto (tgt := 601) dX10_sum_537 (by decide) ?_
        change X _ _ _ _ _ _ [some (.ref p), some (.ref b1), some (.int v3), none, none, none, none, none, none, none, some (.int y59_10)] []
        exact X.weak (xle_c rfl (xle_c rfl (xle_c rfl (xle_n (xle_n (xle_n (xle_n (xle_n (xle_n (xle_n (xle_n xle_nil))))))))))) (kj9 A62 h)
      · replace h := h.1 c506
        refine x_aload_n dX10_sum_509 rfl ?_
        obtain ⟨o65, h⟩ := h
        refine x_get (v := va_rf (A59.P p 0)) hG dX10_sum_510 f_X10_15_9 o65 rfl ?_
        refine x_iconst_ (v := (3 : Int32)) dX10_sum_513 (by decide) ?_
        refine x_iload_n dX10_sum_514 rfl ?_
        refine x_iload dX10_sum_515 rfl ?_
        refine x_iconst_ (v := (1 : Int32)) dX10_sum_517 (by decide) ?_
        obtain ⟨b67, e67, h⟩ := h
        rw [e67]
        obtain ⟨o68, h⟩ := h
        obtain ⟨R66, g66, h⟩ := h
        refine x_callV hG (Ky := kX9_two) (As := [.int (3 : Int32), .int v3, .int y59_10, .int (1 : Int32)]) dX10_sum_518 o68 rfl lk_X10_131 me_X9_two is_X9_two se_X9_two rfl rfl (Nat.le_of_ble_eq_true rfl) (MX.post (m_X9_two hG hO g66) ?_)
        rintro _ A66 ⟨rfl, h1⟩
        refine X.xok (fun w66 => ?_)
        replace h := h A66 w66 h1
        change X _ _ _ _ A66 _ _ []
        refine x_goto (tgt := 601) dX10_sum_521 (by decide) ?_
        change X _ _ _ _ _ _ [some (.ref p), some (.ref b1), some (.int v3), none, none, none, none, none, none, none, some (.int y59_10)] []
        exact X.weak (xle_c rfl (xle_c rfl (xle_c rfl (xle_n (xle_n (xle_n (xle_n (xle_n (xle_n (xle_n (xle_n xle_nil))))))))))) (kj9 A66 h)
    refine x_if_eq (tgt := 438) dX10_sum_430 (by decide) (fun c430 => ?_) (fun c430 => ?_)
    · replace h := h.1 c430
      refine x_iload_n dX10_sum_438 rfl ?_
      refine x_istore dX10_sum_439 (by decide) ?_
      refine x_iload dX10_sum_441 rfl ?_
      refine x_if_eq (tgt := 478) dX10_sum_443 (by decide) (fun _ => ?_) (fun h => absurd c430 h)
      refine x_aload_n dX10_sum_478 rfl ?_
      obtain ⟨o69, h⟩ := h
      refine x_get (v := va_rf (A6.P p 0)) hG dX10_sum_479 f_X10_15_9 o69 rfl ?_
      refine x_iconst_ (v := (0 : Int32)) dX10_sum_482 (by decide) ?_
      refine x_bipush_ (v := (32 : Int32)) dX10_sum_483 (by decide) ?_
      refine x_iload_n dX10_sum_485 rfl ?_
      refine x_iload_n dX10_sum_486 rfl ?_
      refine x_aload_n dX10_sum_487 rfl ?_
      refine x_aload_n dX10_sum_488 rfl ?_
      refine x_get (v := .long (A6.L b1 3)) hG dX10_sum_489 f_X10_229_35 o8 rfl ?_
      refine x_bipush_ (v := (31 : Int32)) dX10_sum_492 (by decide) ?_
      obtain ⟨R70, g70, h⟩ := h
      refine x_callV hG (Ky := kX10_from) (As := [.long (A6.L b1 3), .int (31 : Int32)]) dX10_sum_494 o69 rfl lk_X10_172 me_X10_from is_X10_from se_X10_from rfl rfl (by simp only [List.append_eq, List.nil_append, List.map_cons, va_rf_cat]; exact Nat.le_of_ble_eq_true rfl) (MX.post (m_X10_from hG hO g70) ?_)
      rintro _ A70 ⟨v70, rfl, h1⟩
      refine X.xok (fun w70 => ?_)
      replace h := h v70 A70 w70 h1
      change X _ _ _ _ A70 _ _ [.int v70, .int v6, .int v3, .int (32 : Int32), .int (0 : Int32), va_rf (A6.P p 0)]
      obtain ⟨b72, e72, h⟩ := h
      rw [e72]
      obtain ⟨o73, h⟩ := h
      obtain ⟨R71, g71, h⟩ := h
      refine x_callV hG (Ky := kX9_three) (As := [.int (0 : Int32), .int (32 : Int32), .int v3, .int v6, .int v70]) dX10_sum_497 o73 rfl lk_X10_138 me_X9_three is_X9_three se_X9_three rfl rfl (Nat.le_of_ble_eq_true rfl) (MX.post (m_X9_three hG hO g71) ?_)
      rintro _ A71 ⟨rfl, h1⟩
      refine X.xok (fun w71 => ?_)
      replace h := h A71 w71 h1
      change X _ _ _ _ A71 _ _ []
      change X _ _ _ _ _ _ [some (.ref p), some (.ref b1), some (.int v3), some (.int v6), some (.int (A6.L b1 3).toInt32), some (.int (f_X0_isConstant (A6.L b1 3))), some (.int (f_X10_isSmall (A6.L b1 3))), none, none, none, some (.int v3)] []
      exact X.weak (xle_c rfl (xle_c rfl (xle_c rfl (xle_n (xle_n (xle_n (xle_n (xle_n (xle_n (xle_n (xle_c rfl xle_nil))))))))))) (kj59 v3 A71 h)
    · replace h := h.2 c430
      refine x_iload dX10_sum_433 rfl ?_
      refine x_if_eq (tgt := 500) dX10_sum_435 (by decide) (fun c435 => ?_) (fun c435 => ?_)
      · replace h := h.1 c435
        change X _ _ _ _ _ _ [some (.ref p), some (.ref b1), some (.int v3), some (.int v6), some (.int (A6.L b1 3).toInt32), some (.int (f_X0_isConstant (A6.L b1 3))), some (.int (f_X10_isSmall (A6.L b1 3))), none, none, none, some (.int v6)] []
        exact X.weak (xle_c rfl (xle_c rfl (xle_c rfl (xle_n (xle_n (xle_n (xle_n (xle_n (xle_n (xle_n (xle_c rfl xle_nil))))))))))) (kj59 v6 A6 h)
      · replace h := h.2 c435
        refine x_iload_n dX10_sum_438 rfl ?_
        refine x_istore dX10_sum_439 (by decide) ?_
        refine x_iload dX10_sum_441 rfl ?_
        refine x_if_eq (tgt := 478) dX10_sum_443 (by decide) (fun h => absurd h c430) (fun _ => ?_)
        refine x_iload dX10_sum_446 rfl ?_
        refine x_sipush_ (v := (-2048 : Int32)) dX10_sum_448 (by decide) ?_
        refine x_icmp_le (tgt := 478) dX10_sum_451 (by decide) (fun c451 => ?_) (fun c451 => ?_)
        · replace h := h.1 c451
          refine x_aload_n dX10_sum_478 rfl ?_
          obtain ⟨o74, h⟩ := h
          refine x_get (v := va_rf (A6.P p 0)) hG dX10_sum_479 f_X10_15_9 o74 rfl ?_
          refine x_iconst_ (v := (0 : Int32)) dX10_sum_482 (by decide) ?_
          refine x_bipush_ (v := (32 : Int32)) dX10_sum_483 (by decide) ?_
          refine x_iload_n dX10_sum_485 rfl ?_
          refine x_iload_n dX10_sum_486 rfl ?_
          refine x_aload_n dX10_sum_487 rfl ?_
          refine x_aload_n dX10_sum_488 rfl ?_
          refine x_get (v := .long (A6.L b1 3)) hG dX10_sum_489 f_X10_229_35 o8 rfl ?_
          refine x_bipush_ (v := (31 : Int32)) dX10_sum_492 (by decide) ?_
          obtain ⟨R75, g75, h⟩ := h
          refine x_callV hG (Ky := kX10_from) (As := [.long (A6.L b1 3), .int (31 : Int32)]) dX10_sum_494 o74 rfl lk_X10_172 me_X10_from is_X10_from se_X10_from rfl rfl (by simp only [List.append_eq, List.nil_append, List.map_cons, va_rf_cat]; exact Nat.le_of_ble_eq_true rfl) (MX.post (m_X10_from hG hO g75) ?_)
          rintro _ A75 ⟨v75, rfl, h1⟩
          refine X.xok (fun w75 => ?_)
          replace h := h v75 A75 w75 h1
          change X _ _ _ _ A75 _ _ [.int v75, .int v6, .int v3, .int (32 : Int32), .int (0 : Int32), va_rf (A6.P p 0)]
          obtain ⟨b77, e77, h⟩ := h
          rw [e77]
          obtain ⟨o78, h⟩ := h
          obtain ⟨R76, g76, h⟩ := h
          refine x_callV hG (Ky := kX9_three) (As := [.int (0 : Int32), .int (32 : Int32), .int v3, .int v6, .int v75]) dX10_sum_497 o78 rfl lk_X10_138 me_X9_three is_X9_three se_X9_three rfl rfl (Nat.le_of_ble_eq_true rfl) (MX.post (m_X9_three hG hO g76) ?_)
          rintro _ A76 ⟨rfl, h1⟩
          refine X.xok (fun w76 => ?_)
          replace h := h A76 w76 h1
          change X _ _ _ _ A76 _ _ []
          change X _ _ _ _ _ _ [some (.ref p), some (.ref b1), some (.int v3), some (.int v6), some (.int (A6.L b1 3).toInt32), some (.int (f_X0_isConstant (A6.L b1 3))), some (.int (f_X10_isSmall (A6.L b1 3))), none, none, none, some (.int v3)] []
          exact X.weak (xle_c rfl (xle_c rfl (xle_c rfl (xle_n (xle_n (xle_n (xle_n (xle_n (xle_n (xle_n (xle_c rfl xle_nil))))))))))) (kj59 v3 A76 h)
        · replace h := h.2 c451
          refine x_iload dX10_sum_454 rfl ?_
          refine x_sipush_ (v := (2048 : Int32)) dX10_sum_456 (by decide) ?_
          refine x_icmp_gt (tgt := 478) dX10_sum_459 (by decide) (fun c459 => ?_) (fun c459 => ?_)
          · replace h := h.1 c459
            refine x_aload_n dX10_sum_478 rfl ?_
            obtain ⟨o79, h⟩ := h
            refine x_get (v := va_rf (A6.P p 0)) hG dX10_sum_479 f_X10_15_9 o79 rfl ?_
            refine x_iconst_ (v := (0 : Int32)) dX10_sum_482 (by decide) ?_
            refine x_bipush_ (v := (32 : Int32)) dX10_sum_483 (by decide) ?_
            refine x_iload_n dX10_sum_485 rfl ?_
            refine x_iload_n dX10_sum_486 rfl ?_
            refine x_aload_n dX10_sum_487 rfl ?_
            refine x_aload_n dX10_sum_488 rfl ?_
            refine x_get (v := .long (A6.L b1 3)) hG dX10_sum_489 f_X10_229_35 o8 rfl ?_
            refine x_bipush_ (v := (31 : Int32)) dX10_sum_492 (by decide) ?_
            obtain ⟨R80, g80, h⟩ := h
            refine x_callV hG (Ky := kX10_from) (As := [.long (A6.L b1 3), .int (31 : Int32)]) dX10_sum_494 o79 rfl lk_X10_172 me_X10_from is_X10_from se_X10_from rfl rfl (by simp only [List.append_eq, List.nil_append, List.map_cons, va_rf_cat]; exact Nat.le_of_ble_eq_true rfl) (MX.post (m_X10_from hG hO g80) ?_)
            rintro _ A80 ⟨v80, rfl, h1⟩
            refine X.xok (fun w80 => ?_)
            replace h := h v80 A80 w80 h1
            change X _ _ _ _ A80 _ _ [.int v80, .int v6, .int v3, .int (32 : Int32), .int (0 : Int32), va_rf (A6.P p 0)]
            obtain ⟨b82, e82, h⟩ := h
            rw [e82]
            obtain ⟨o83, h⟩ := h
            obtain ⟨R81, g81, h⟩ := h
            refine x_callV hG (Ky := kX9_three) (As := [.int (0 : Int32), .int (32 : Int32), .int v3, .int v6, .int v80]) dX10_sum_497 o83 rfl lk_X10_138 me_X9_three is_X9_three se_X9_three rfl rfl (Nat.le_of_ble_eq_true rfl) (MX.post (m_X9_three hG hO g81) ?_)
            rintro _ A81 ⟨rfl, h1⟩
            refine X.xok (fun w81 => ?_)
            replace h := h A81 w81 h1
            change X _ _ _ _ A81 _ _ []
            change X _ _ _ _ _ _ [some (.ref p), some (.ref b1), some (.int v3), some (.int v6), some (.int (A6.L b1 3).toInt32), some (.int (f_X0_isConstant (A6.L b1 3))), some (.int (f_X10_isSmall (A6.L b1 3))), none, none, none, some (.int v3)] []
            exact X.weak (xle_c rfl (xle_c rfl (xle_c rfl (xle_n (xle_n (xle_n (xle_n (xle_n (xle_n (xle_n (xle_c rfl xle_nil))))))))))) (kj59 v3 A81 h)
          · replace h := h.2 c459
            refine x_aload_n dX10_sum_462 rfl ?_
            obtain ⟨o84, h⟩ := h
            refine x_get (v := va_rf (A6.P p 0)) hG dX10_sum_463 f_X10_15_9 o84 rfl ?_
            refine x_iconst_ (v := (0 : Int32)) dX10_sum_466 (by decide) ?_
            refine x_iload_n dX10_sum_467 rfl ?_
            refine x_iload_n dX10_sum_468 rfl ?_
            refine x_iload dX10_sum_469 rfl ?_
            refine x_ineg dX10_sum_471 ?_
            obtain ⟨b86, e86, h⟩ := h
            rw [e86]
            obtain ⟨o87, h⟩ := h
            obtain ⟨R85, g85, h⟩ := h
            refine x_callV hG (Ky := kX9_two) (As := [.int (0 : Int32), .int v3, .int v6, .int (-(A6.L b1 3).toInt32)]) dX10_sum_472 o87 rfl lk_X10_131 me_X9_two is_X9_two se_X9_two rfl rfl (Nat.le_of_ble_eq_true rfl) (MX.post (m_X9_two hG hO g85) ?_)
            rintro _ A85 ⟨rfl, h1⟩
            refine X.xok (fun w85 => ?_)
            replace h := h A85 w85 h1
            change X _ _ _ _ A85 _ _ []
            refine x_goto (tgt := 500) dX10_sum_475 (by decide) ?_
            change X _ _ _ _ _ _ [some (.ref p), some (.ref b1), some (.int v3), some (.int v6), some (.int (A6.L b1 3).toInt32), some (.int (f_X0_isConstant (A6.L b1 3))), some (.int (f_X10_isSmall (A6.L b1 3))), none, none, none, some (.int v3)] []
            exact X.weak (xle_c rfl (xle_c rfl (xle_c rfl (xle_n (xle_n (xle_n (xle_n (xle_n (xle_n (xle_n (xle_c rfl xle_nil))))))))))) (kj59 v3 A85 h)
  have kd13 : (¬ (A6.I b1 0) = (0 : Int32) ∧ ¬ (A6.I b1 0) = (5 : Int32) ∧ ¬ (A6.I b1 0) = (6 : Int32) ∧ ¬ (A6.I b1 0) = (7 : Int32) ∧ ¬ (A6.I b1 0) = (1 : Int32) ∧ ¬ (A6.I b1 0) = (2 : Int32) ∧ ¬ (A6.I b1 0) = (3 : Int32) ∧ ¬ (A6.I b1 0) = (4 : Int32) ∧ ¬ (A6.I b1 0) = (8 : Int32) ∧ ¬ (A6.I b1 0) = (9 : Int32) ∧ ¬ (A6.I b1 0) = (10 : Int32) ∧ ¬ (A6.I b1 0) = (11 : Int32) ∧ ¬ (A6.I b1 0) = (12 : Int32)) → X G (dp + 7) kX10_sum (hV Q) A6 540 [some (.ref p), some (.ref b1), some (.int v3), some (.int v6), some (.int (A6.L b1 3).toInt32), some (.int (f_X0_isConstant (A6.L b1 3))), some (.int (f_X10_isSmall (A6.L b1 3))), none, none, none, none] [] := by
    intro c49
    replace h := h.2.2.2.2.2.2 c49
    refine x_iload dX10_sum_540 rfl ?_
    obtain ⟨J88, g88, h⟩ := h
    have kj88 : ∀ (A88 : xA), J88 A88 → X G (dp + 7) kX10_sum (hV Q) A88 581 [some (.ref p), some (.ref b1), some (.int v3), none, none, none, none, none, none, none, none] [] := by
      intro A88 h
      replace h := g88 A88 h
      refine x_aload_n dX10_sum_581 rfl ?_
      obtain ⟨o89, h⟩ := h
      refine x_get (v := .int (A88.I b1 0)) hG dX10_sum_582 f_X10_82_35 o89 rfl ?_
      refine x_bipush_ (v := (16 : Int32)) dX10_sum_585 (by decide) ?_
      refine x_icmp_ne (tgt := 601) dX10_sum_587 (by decide) (fun c587 => ?_) (fun c587 => ?_)
      · replace h := h.2 c587
        change X _ _ _ _ _ _ [some (.ref p), some (.ref b1), some (.int v3), none, none, none, none, none, none, none, none] []
        exact X.weak (xle_c rfl (xle_c rfl (xle_c rfl (xle_n (xle_n (xle_n (xle_n (xle_n (xle_n (xle_n (xle_n xle_nil))))))))))) (kj9 A88 h)
      · replace h := h.1 c587
        refine x_aload_n dX10_sum_590 rfl ?_
        obtain ⟨o90, h⟩ := h
        refine x_get (v := va_rf (A88.P p 0)) hG dX10_sum_591 f_X10_15_9 o90 rfl ?_
        refine x_iconst_ (v := (4 : Int32)) dX10_sum_594 (by decide) ?_
        refine x_iload_n dX10_sum_595 rfl ?_
        refine x_iload_n dX10_sum_596 rfl ?_
        refine x_iconst_ (v := (1 : Int32)) dX10_sum_597 (by decide) ?_
        obtain ⟨b92, e92, h⟩ := h
        rw [e92]
        obtain ⟨o93, h⟩ := h
        obtain ⟨R91, g91, h⟩ := h
        refine x_callV hG (Ky := kX9_two) (As := [.int (4 : Int32), .int v3, .int v3, .int (1 : Int32)]) dX10_sum_598 o93 rfl lk_X10_131 me_X9_two is_X9_two se_X9_two rfl rfl (Nat.le_of_ble_eq_true rfl) (MX.post (m_X9_two hG hO g91) ?_)
        rintro _ A91 ⟨rfl, h1⟩
        refine X.xok (fun w91 => ?_)
        replace h := h A91 w91 h1
        change X _ _ _ _ A91 _ _ []
        change X _ _ _ _ _ _ [some (.ref p), some (.ref b1), some (.int v3), none, none, none, none, none, none, none, none] []
        exact X.weak (xle_c rfl (xle_c rfl (xle_c rfl (xle_n (xle_n (xle_n (xle_n (xle_n (xle_n (xle_n (xle_n xle_nil))))))))))) (kj9 A91 h)
    refine x_if_eq (tgt := 560) dX10_sum_542 (by decide) (fun c542 => ?_) (fun c542 => ?_)
    · replace h := h.1 c542
      refine x_aload_n dX10_sum_560 rfl ?_
      obtain ⟨o94, h⟩ := h
      refine x_get (v := va_rf (A6.P p 0)) hG dX10_sum_561 f_X10_15_9 o94 rfl ?_
      refine x_iconst_ (v := (2 : Int32)) dX10_sum_564 (by decide) ?_
      refine x_iconst_ (v := (0 : Int32)) dX10_sum_565 (by decide) ?_
      refine x_iload_n dX10_sum_566 rfl ?_
      refine x_iload_n dX10_sum_567 rfl ?_
      refine x_aload_n dX10_sum_568 rfl ?_
      refine x_aload_n dX10_sum_569 rfl ?_
      refine x_get (v := .long (A6.L b1 3)) hG dX10_sum_570 f_X10_229_35 o8 rfl ?_
      refine x_bipush_ (v := (31 : Int32)) dX10_sum_573 (by decide) ?_
      obtain ⟨R95, g95, h⟩ := h
      refine x_callV hG (Ky := kX10_from) (As := [.long (A6.L b1 3), .int (31 : Int32)]) dX10_sum_575 o94 rfl lk_X10_172 me_X10_from is_X10_from se_X10_from rfl rfl (by simp only [List.append_eq, List.nil_append, List.map_cons, va_rf_cat]; exact Nat.le_of_ble_eq_true rfl) (MX.post (m_X10_from hG hO g95) ?_)
      rintro _ A95 ⟨v95, rfl, h1⟩
      refine X.xok (fun w95 => ?_)
      replace h := h v95 A95 w95 h1
      change X _ _ _ _ A95 _ _ [.int v95, .int v6, .int v3, .int (0 : Int32), .int (2 : Int32), va_rf (A6.P p 0)]
      obtain ⟨b97, e97, h⟩ := h
      rw [e97]
      obtain ⟨o98, h⟩ := h
      obtain ⟨R96, g96, h⟩ := h
      refine x_callV hG (Ky := kX9_three) (As := [.int (2 : Int32), .int (0 : Int32), .int v3, .int v6, .int v95]) dX10_sum_578 o98 rfl lk_X10_138 me_X9_three is_X9_three se_X9_three rfl rfl (Nat.le_of_ble_eq_true rfl) (MX.post (m_X9_three hG hO g96) ?_)
      rintro _ A96 ⟨rfl, h1⟩
      refine X.xok (fun w96 => ?_)
      replace h := h A96 w96 h1
      change X _ _ _ _ A96 _ _ []
      change X _ _ _ _ _ _ [some (.ref p), some (.ref b1), some (.int v3), some (.int v6), some (.int (A6.L b1 3).toInt32), some (.int (f_X0_isConstant (A6.L b1 3))), some (.int (f_X10_isSmall (A6.L b1 3))), none, none, none, none] []
      exact X.weak (xle_c rfl (xle_c rfl (xle_c rfl (xle_n (xle_n (xle_n (xle_n (xle_n (xle_n (xle_n (xle_n xle_nil))))))))))) (kj88 A96 h)
    · replace h := h.2 c542
      refine x_aload_n dX10_sum_545 rfl ?_
      obtain ⟨o99, h⟩ := h
      refine x_get (v := va_rf (A6.P p 0)) hG dX10_sum_546 f_X10_15_9 o99 rfl ?_
      refine x_iconst_ (v := (2 : Int32)) dX10_sum_549 (by decide) ?_
      refine x_iload_n dX10_sum_550 rfl ?_
      refine x_iload_n dX10_sum_551 rfl ?_
      refine x_iload dX10_sum_552 rfl ?_
      obtain ⟨b101, e101, h⟩ := h
      rw [e101]
      obtain ⟨o102, h⟩ := h
      obtain ⟨R100, g100, h⟩ := h
      refine x_callV hG (Ky := kX9_two) (As := [.int (2 : Int32), .int v3, .int v6, .int (A6.L b1 3).toInt32]) dX10_sum_554 o102 rfl lk_X10_131 me_X9_two is_X9_two se_X9_two rfl rfl (Nat.le_of_ble_eq_true rfl) (MX.post (m_X9_two hG hO g100) ?_)
      rintro _ A100 ⟨rfl, h1⟩
      refine X.xok (fun w100 => ?_)
      replace h := h A100 w100 h1
      change X _ _ _ _ A100 _ _ []
      refine x_goto (tgt := 581) dX10_sum_557 (by decide) ?_
      change X _ _ _ _ _ _ [some (.ref p), some (.ref b1), some (.int v3), some (.int v6), some (.int (A6.L b1 3).toInt32), some (.int (f_X0_isConstant (A6.L b1 3))), some (.int (f_X10_isSmall (A6.L b1 3))), none, none, none, none] []
      exact X.weak (xle_c rfl (xle_c rfl (xle_c rfl (xle_n (xle_n (xle_n (xle_n (xle_n (xle_n (xle_n (xle_n xle_nil))))))))))) (kj88 A100 h)
  refine x_sw (0 : Int32) (fun s49_0 => ?_) (fun s49_0 => ?_)
  · refine x_tableIn (off := 67) (tgt := 116) dX10_sum_49 (by rw [s49_0]; decide) (by rw [s49_0]; decide) (by rw [s49_0]; rfl) (by decide) ?_
    exact kt13_0 (by simp only [s49_0]; decide)
  refine x_sw (1 : Int32) (fun s49_1 => ?_) (fun s49_1 => ?_)
  · refine x_tableIn (off := 154) (tgt := 203) dX10_sum_49 (by rw [s49_1]; decide) (by rw [s49_1]; decide) (by rw [s49_1]; rfl) (by decide) ?_
    exact kt13_1 s49_1
  refine x_sw (2 : Int32) (fun s49_2 => ?_) (fun s49_2 => ?_)
  · refine x_tableIn (off := 179) (tgt := 228) dX10_sum_49 (by rw [s49_2]; decide) (by rw [s49_2]; decide) (by rw [s49_2]; rfl) (by decide) ?_
    exact kt13_2 s49_2
  refine x_sw (3 : Int32) (fun s49_3 => ?_) (fun s49_3 => ?_)
  · refine x_tableIn (off := 203) (tgt := 252) dX10_sum_49 (by rw [s49_3]; decide) (by rw [s49_3]; decide) (by rw [s49_3]; rfl) (by decide) ?_
    exact kt13_3 (by simp only [s49_3]; decide)
  refine x_sw (4 : Int32) (fun s49_4 => ?_) (fun s49_4 => ?_)
  · refine x_tableIn (off := 203) (tgt := 252) dX10_sum_49 (by rw [s49_4]; decide) (by rw [s49_4]; decide) (by rw [s49_4]; rfl) (by decide) ?_
    exact kt13_3 (by simp only [s49_4]; decide)
  refine x_sw (5 : Int32) (fun s49_5 => ?_) (fun s49_5 => ?_)
  · refine x_tableIn (off := 67) (tgt := 116) dX10_sum_49 (by rw [s49_5]; decide) (by rw [s49_5]; decide) (by rw [s49_5]; rfl) (by decide) ?_
    exact kt13_0 (by simp only [s49_5]; decide)
  refine x_sw (6 : Int32) (fun s49_6 => ?_) (fun s49_6 => ?_)
  · refine x_tableIn (off := 67) (tgt := 116) dX10_sum_49 (by rw [s49_6]; decide) (by rw [s49_6]; decide) (by rw [s49_6]; rfl) (by decide) ?_
    exact kt13_0 (by simp only [s49_6]; decide)
  refine x_sw (7 : Int32) (fun s49_7 => ?_) (fun s49_7 => ?_)
  · refine x_tableIn (off := 67) (tgt := 116) dX10_sum_49 (by rw [s49_7]; decide) (by rw [s49_7]; decide) (by rw [s49_7]; rfl) (by decide) ?_
    exact kt13_0 (by simp only [s49_7]; decide)
  refine x_sw (8 : Int32) (fun s49_8 => ?_) (fun s49_8 => ?_)
  · refine x_tableIn (off := 288) (tgt := 337) dX10_sum_49 (by rw [s49_8]; decide) (by rw [s49_8]; decide) (by rw [s49_8]; rfl) (by decide) ?_
    exact kt13_4 (by simp only [s49_8]; decide)
  refine x_sw (9 : Int32) (fun s49_9 => ?_) (fun s49_9 => ?_)
  · refine x_tableIn (off := 288) (tgt := 337) dX10_sum_49 (by rw [s49_9]; decide) (by rw [s49_9]; decide) (by rw [s49_9]; rfl) (by decide) ?_
    exact kt13_4 (by simp only [s49_9]; decide)
  refine x_sw (10 : Int32) (fun s49_10 => ?_) (fun s49_10 => ?_)
  · refine x_tableIn (off := 288) (tgt := 337) dX10_sum_49 (by rw [s49_10]; decide) (by rw [s49_10]; decide) (by rw [s49_10]; rfl) (by decide) ?_
    exact kt13_4 (by simp only [s49_10]; decide)
  refine x_sw (11 : Int32) (fun s49_11 => ?_) (fun s49_11 => ?_)
  · refine x_tableIn (off := 376) (tgt := 425) dX10_sum_49 (by rw [s49_11]; decide) (by rw [s49_11]; decide) (by rw [s49_11]; rfl) (by decide) ?_
    exact kt13_5 (by simp only [s49_11]; decide)
  refine x_sw (12 : Int32) (fun s49_12 => ?_) (fun s49_12 => ?_)
  · refine x_tableIn (off := 376) (tgt := 425) dX10_sum_49 (by rw [s49_12]; decide) (by rw [s49_12]; decide) (by rw [s49_12]; rfl) (by decide) ?_
    exact kt13_5 (by simp only [s49_12]; decide)
  have t49_0 := lv_neT s49_0 (a := 0) (by decide)
  have t49_1 := lv_neT s49_1 (a := 1) (by decide)
  have t49_2 := lv_neT s49_2 (a := 2) (by decide)
  have t49_3 := lv_neT s49_3 (a := 3) (by decide)
  have t49_4 := lv_neT s49_4 (a := 4) (by decide)
  have t49_5 := lv_neT s49_5 (a := 5) (by decide)
  have t49_6 := lv_neT s49_6 (a := 6) (by decide)
  have t49_7 := lv_neT s49_7 (a := 7) (by decide)
  have t49_8 := lv_neT s49_8 (a := 8) (by decide)
  have t49_9 := lv_neT s49_9 (a := 9) (by decide)
  have t49_10 := lv_neT s49_10 (a := 10) (by decide)
  have t49_11 := lv_neT s49_11 (a := 11) (by decide)
  have t49_12 := lv_neT s49_12 (a := 12) (by decide)
  refine x_tableOut (tgt := 540) dX10_sum_49 (by omega) (by decide) ?_
  exact kd13 ⟨s49_0, s49_5, s49_6, s49_7, s49_1, s49_2, s49_3, s49_4, s49_8, s49_9, s49_10, s49_11, s49_12⟩
def w_X10_memory (G : xG) (p : Nat) (x : Option Nat) (Q : xA → Prop) (A : xA) : Prop := xok G A → ∃ b1 : Nat, x = some b1 ∧ (A.tg b1 = 36 ∧ (∃ b3 : Nat, (A.P b1 7) = some b3 ∧ (A.tg b3 = 33 ∧ (∃ J5 : Int32 → Int32 → xA → Prop, (∀ (y5_3 : Int32) (y5_4 : Int32) (A5 : xA), J5 y5_3 y5_4 A5 → ∃ J6 : Int32 → Int32 → xA → Prop, (∀ (y6_3 : Int32) (y6_4 : Int32) (A6 : xA), J6 y6_3 y6_4 A6 → A6.tg b1 = 36 ∧ (∃ R8 : Int32 → xA → Prop, w_X37_isStore G b1 R8 A6 ∧ (∀ (v8 : Int32) (A8 : xA), xok G A8 → (v8 = 0 ∨ v8 = 1) → R8 v8 A8 → (((v8 = 0 → A8.tg b1 = 36 ∧ (A8.tg p = 10 ∧ (∃ R10 : Int32 → xA → Prop, w_X10_into G p (A8.I b1 1) R10 A8 ∧ (∀ (v10 : Int32) (A10 : xA), xok G A10 → R10 v10 A10 → (A10.tg p = 10 ∧ (∃ b14 : Nat, (A10.P p 0) = some b14 ∧ (A10.tg b14 = 9 ∧ (∃ R13 : xA → Prop, w_X9_load G b14 (if (if (A6.I b1 0) = (21 : Int32) then (1 : Int32) else (if (A6.I b1 0) = (23 : Int32) then (1 : Int32) else (0 : Int32))) = 0 then (4 : Int32) else (2 : Int32)) v10 y6_4 y6_3 R13 A10 ∧ (∀ A13 : xA, xok G A13 → R13 A13 → (A13.tg b1 = 36 ∧ (A13.tg p = 10 ∧ (∃ R17 : xA → Prop, w_X10_made G p (A13.I b1 1) v10 R17 A13 ∧ (∀ A17 : xA, xok G A17 → R17 A17 → (Q A17)))))))))))))) ∧ (¬ v8 = 0 → A8.tg p = 10 ∧ (A8.tg b1 = 36 ∧ (∃ R21 : Int32 → xA → Prop, w_X10_from G p (A8.L b1 4) (31 : Int32) R21 A8 ∧ (∀ (v21 : Int32) (A21 : xA), xok G A21 → R21 v21 A21 → (∃ b23 : Nat, (A8.P p 0) = some b23 ∧ (A21.tg b23 = 9 ∧ (∃ R22 : xA → Prop, w_X9_store G b23 (if (if (A6.I b1 0) = (21 : Int32) then (1 : Int32) else (if (A6.I b1 0) = (23 : Int32) then (1 : Int32) else (0 : Int32))) = 0 then (0 : Int32) else (2 : Int32)) v21 y6_4 y6_3 R22 A21 ∧ (∀ A22 : xA, xok G A22 → R22 A22 → (Q A22)))))))))))))) ∧ ((y5_3 < (-2048 : Int32) → A5.tg p = 10 ∧ (∃ b27 : Nat, (A5.P p 0) = some b27 ∧ (A5.tg b27 = 9 ∧ (∃ R26 : xA → Prop, w_X9_number G b27 (17 : Int32) y5_3 R26 A5 ∧ (∀ A26 : xA, xok G A26 → R26 A26 → (∃ J29 : xA → Prop, (∀ (A29 : xA), J29 A29 → J6 (0 : Int32) (17 : Int32) A29) ∧ ((y5_4 = 0 → J29 A26) ∧ (¬ y5_4 = 0 → A26.tg p = 10 ∧ (∃ b32 : Nat, (A26.P p 0) = some b32 ∧ (A26.tg b32 = 9 ∧ (∃ R31 : xA → Prop, w_X9_three G b32 (0 : Int32) (0 : Int32) (17 : Int32) (17 : Int32) y5_4 R31 A26 ∧ (∀ A31 : xA, xok G A31 → R31 A31 → (J29 A31))))))))))))) ∧ (¬ y5_3 < (-2048 : Int32) → ((y5_3 < (2048 : Int32) → J6 y5_3 y5_4 A5) ∧ (¬ y5_3 < (2048 : Int32) → A5.tg p = 10 ∧ (∃ b36 : Nat, (A5.P p 0) = some b36 ∧ (A5.tg b36 = 9 ∧ (∃ R35 : xA → Prop, w_X9_number G b36 (17 : Int32) y5_3 R35 A5 ∧ (∀ A35 : xA, xok G A35 → R35 A35 → (∃ J38 : xA → Prop, (∀ (A38 : xA), J38 A38 → J6 (0 : Int32) (17 : Int32) A38) ∧ ((y5_4 = 0 → J38 A35) ∧ (¬ y5_4 = 0 → A35.tg p = 10 ∧ (∃ b41 : Nat, (A35.P p 0) = some b41 ∧ (A35.tg b41 = 9 ∧ (∃ R40 : xA → Prop, w_X9_three G b41 (0 : Int32) (0 : Int32) (17 : Int32) (17 : Int32) y5_4 R40 A35 ∧ (∀ A40 : xA, xok G A40 → R40 A40 → (J38 A40))))))))))))))))) ∧ (((f_X0_isConstant (A.L b1 3)) = 0 → A.tg p = 10 ∧ (∃ R43 : Int32 → xA → Prop, w_X10_from G p (A.L b1 3) (30 : Int32) R43 A ∧ (∀ (v43 : Int32) (A43 : xA), xok G A43 → R43 v43 A43 → (A43.tg b3 = 33 ∧ ((((A43.I b3 1) = (2 : Int32) → J5 (if (A.I b3 1) = (5 : Int32) then (0 : Int32) else ((4 : Int32) * (A.I b3 2))) v43 A43) ∧ (¬ (A43.I b3 1) = (2 : Int32) → A43.tg p = 10 ∧ (∃ J47 : Int32 → xA → Prop, (∀ (y47_s0 : Int32) (A47 : xA), J47 y47_s0 A47 → ∃ b49 : Nat, (A43.P p 0) = some b49 ∧ (A47.tg b49 = 9 ∧ (∃ R48 : xA → Prop, w_X9_three G b49 (0 : Int32) (0 : Int32) (17 : Int32) v43 y47_s0 R48 A47 ∧ (∀ A48 : xA, xok G A48 → R48 A48 → (J5 (if (A.I b3 1) = (5 : Int32) then (0 : Int32) else ((4 : Int32) * (A.I b3 2))) (17 : Int32) A48))))) ∧ (((A43.I b3 1) = (4 : Int32) → J47 (2 : Int32) A43) ∧ (¬ (A43.I b3 1) = (4 : Int32) → A43.tg b1 = 36 ∧ (∃ R52 : Int32 → xA → Prop, w_X10_from G p (A43.L b1 2) (31 : Int32) R52 A43 ∧ (∀ (v52 : Int32) (A52 : xA), xok G A52 → R52 v52 A52 → (J47 v52 A52))))))))))))) ∧ (¬ (f_X0_isConstant (A.L b1 3)) = 0 → ∃ J53 : Int32 → xA → Prop, (∀ (y53_s0 : Int32) (A53 : xA), J53 y53_s0 A53 → J5 ((if (A.I b3 1) = (5 : Int32) then (0 : Int32) else ((4 : Int32) * (A.I b3 2))) + (A.L b1 3).toInt32) y53_s0 A53) ∧ (((A.I b3 1) = (5 : Int32) → A.tg p = 10 ∧ (∃ R54 : Int32 → xA → Prop, w_X10_from G p (A.L b1 2) (30 : Int32) R54 A ∧ (∀ (v54 : Int32) (A54 : xA), xok G A54 → R54 v54 A54 → (J53 v54 A54)))) ∧ (¬ (A.I b3 1) = (5 : Int32) → (((A.I b3 1) = (4 : Int32) → J53 (2 : Int32) A) ∧ (¬ (A.I b3 1) = (4 : Int32) → J53 (0 : Int32) A))))))))))
theorem m_X10_memory (hG : xOK G) (hO : xHO G) {dp : Nat} {p : Nat} {x : Option Nat} {Q : xA → Prop} {A : xA} (h : w_X10_memory G p x Q A) : MX G (dp + 7) kX10_memory [.ref p, va_rf x] A (hV Q) := by
  unfold w_X10_memory at h
  refine MX.of rfl (by cases x <;> exact Nat.le_of_ble_eq_true rfl) ?_
  refine X.lvs (lv' := [some (.ref p), some (va_rf x), none, none, none, none, none]) (by cases x <;> rfl) ?_
  refine X.xok (fun w0 => ?_)
  replace h := h w0
  refine x_aloadq_n dX10_memory_0 rfl ?_
  obtain ⟨b1, e1, h⟩ := h
  rw [e1]
  obtain ⟨o2, h⟩ := h
  refine x_get (v := va_rf (A.P b1 7)) hG dX10_memory_1 f_X10_218_35 o2 rfl ?_
  refine x_astoreq_n dX10_memory_4 (by decide) ?_
  refine x_aloadq_n dX10_memory_5 rfl ?_
  obtain ⟨b3, e3, h⟩ := h
  rw [e3]
  obtain ⟨o4, h⟩ := h
  refine x_get (v := .int (A.I b3 1)) hG dX10_memory_6 f_X10_242_32 o4 rfl ?_
  refine x_iconst_ (v := (5 : Int32)) dX10_memory_9 (by decide) ?_
  refine x_via 23 (A' := A) (lv' := [some (.ref p), some (.ref b1), some (.ref b3), none, none, none, none]) (st' := [.int (if (A.I b3 1) = (5 : Int32) then (0 : Int32) else ((4 : Int32) * (A.I b3 2)))]) ?_ (fun k23 => ?_)
  rotate_left
  · refine x_icmp_ne (tgt := 17) dX10_memory_10 (by decide) (fun c10 => ?_) (fun c10 => ?_)
    · refine x_iconst_ (v := (4 : Int32)) dX10_memory_17 (by decide) ?_
      refine x_aload_n dX10_memory_18 rfl ?_
      refine x_get (v := .int (A.I b3 2)) hG dX10_memory_19 f_X10_247_32 o4 rfl ?_
      refine x_imul dX10_memory_22 ?_
      change X _ _ _ _ _ _ [some (.ref p), some (.ref b1), some (.ref b3), none, none, none, none] [.int ((4 : Int32) * (A.I b3 2))]
      simp only [if_neg c10] at k23 ⊢
      exact X.weak (xle_c rfl (xle_c rfl (xle_c rfl (xle_n (xle_n (xle_n (xle_n xle_nil))))))) k23
    · refine x_iconst_ (v := (0 : Int32)) dX10_memory_13 (by decide) ?_
      refine x_goto (tgt := 23) dX10_memory_14 (by decide) ?_
      change X _ _ _ _ _ _ [some (.ref p), some (.ref b1), some (.ref b3), none, none, none, none] [.int (0 : Int32)]
      simp only [if_pos c10] at k23 ⊢
      exact X.weak (xle_c rfl (xle_c rfl (xle_c rfl (xle_n (xle_n (xle_n (xle_n xle_nil))))))) k23
  refine x_istore_n dX10_memory_23 (by decide) ?_
  refine x_aload_n dX10_memory_24 rfl ?_
  refine x_get (v := .long (A.L b1 3)) hG dX10_memory_25 f_X10_229_35 o2 rfl ?_
  refine x_callS hG (Ky := kX0_isConstant) (As := [.long (A.L b1 3)]) dX10_memory_28 lk_X10_165 me_X0_isConstant st_X0_isConstant rfl rfl (Nat.le_of_ble_eq_true rfl) (MX.post (m_X0_isConstant hG) ?_)
  rintro _ _ ⟨rfl, rfl⟩
  change X _ _ _ _ _ _ _ (.int (f_X0_isConstant (A.L b1 3)) :: _)
  obtain ⟨J5, g5, h⟩ := h
  have kj5 : ∀ (y5_3 : Int32) (y5_4 : Int32) (A5 : xA), J5 y5_3 y5_4 A5 → X G (dp + 7) kX10_memory (hV Q) A5 140 [some (.ref p), some (.ref b1), none, some (.int y5_3), some (.int y5_4), none, none] [] := by
    intro y5_3 y5_4 A5 h
    replace h := g5 y5_3 y5_4 A5 h
    refine x_iload_n dX10_memory_140 rfl ?_
    refine x_sipush_ (v := (-2048 : Int32)) dX10_memory_141 (by decide) ?_
    obtain ⟨J6, g6, h⟩ := h
    have kj6 : ∀ (y6_3 : Int32) (y6_4 : Int32) (A6 : xA), J6 y6_3 y6_4 A6 → X G (dp + 7) kX10_memory (hV Q) A6 190 [some (.ref p), some (.ref b1), none, some (.int y6_3), some (.int y6_4), none, none] [] := by
      intro y6_3 y6_4 A6 h
      replace h := g6 y6_3 y6_4 A6 h
      refine x_aload_n dX10_memory_190 rfl ?_
      obtain ⟨o7, h⟩ := h
      refine x_get (v := .int (A6.I b1 0)) hG dX10_memory_191 f_X10_82_35 o7 rfl ?_
      refine x_bipush_ (v := (21 : Int32)) dX10_memory_194 (by decide) ?_
      refine x_via 213 (A' := A6) (lv' := [some (.ref p), some (.ref b1), none, some (.int y6_3), some (.int y6_4), none, none]) (st' := [.int (if (A6.I b1 0) = (21 : Int32) then (1 : Int32) else (if (A6.I b1 0) = (23 : Int32) then (1 : Int32) else (0 : Int32)))]) ?_ (fun k213 => ?_)
      rotate_left
      · refine x_icmp_eq (tgt := 208) dX10_memory_196 (by decide) (fun c196 => ?_) (fun c196 => ?_)
        · refine x_iconst_ (v := (1 : Int32)) dX10_memory_208 (by decide) ?_
          refine x_goto (tgt := 213) dX10_memory_209 (by decide) ?_
          change X _ _ _ _ _ _ [some (.ref p), some (.ref b1), none, some (.int y6_3), some (.int y6_4), none, none] [.int (1 : Int32)]
          simp only [if_pos c196] at k213 ⊢
          exact X.weak (xle_c rfl (xle_c rfl (xle_n (xle_c rfl (xle_c rfl (xle_n (xle_n xle_nil))))))) k213
        · refine x_aload_n dX10_memory_199 rfl ?_
          refine x_get (v := .int (A6.I b1 0)) hG dX10_memory_200 f_X10_82_35 o7 rfl ?_
          refine x_bipush_ (v := (23 : Int32)) dX10_memory_203 (by decide) ?_
          refine x_icmp_ne (tgt := 212) dX10_memory_205 (by decide) (fun c205 => ?_) (fun c205 => ?_)
          · refine x_iconst_ (v := (0 : Int32)) dX10_memory_212 (by decide) ?_
            change X _ _ _ _ _ _ [some (.ref p), some (.ref b1), none, some (.int y6_3), some (.int y6_4), none, none] [.int (0 : Int32)]
            try simp only [if_neg c196] at c205 k213 ⊢
            try simp only [if_neg c205] at k213 ⊢
            exact X.weak (xle_c rfl (xle_c rfl (xle_n (xle_c rfl (xle_c rfl (xle_n (xle_n xle_nil))))))) k213
          · refine x_iconst_ (v := (1 : Int32)) dX10_memory_208 (by decide) ?_
            refine x_goto (tgt := 213) dX10_memory_209 (by decide) ?_
            change X _ _ _ _ _ _ [some (.ref p), some (.ref b1), none, some (.int y6_3), some (.int y6_4), none, none] [.int (1 : Int32)]
            try simp only [if_neg c196] at c205 k213 ⊢
            try simp only [if_pos c205] at k213 ⊢
            exact X.weak (xle_c rfl (xle_c rfl (xle_n (xle_c rfl (xle_c rfl (xle_n (xle_n xle_nil))))))) k213
      refine x_istore dX10_memory_213 (by decide) ?_
      refine x_aload_n dX10_memory_215 rfl ?_
      obtain ⟨R8, g8, h⟩ := h
      refine x_callV hG (Ky := kX37_isStore) (As := []) dX10_memory_216 o7 rfl lk_X10_250 me_X37_isStore is_X37_isStore se_X37_isStore rfl rfl (Nat.le_of_ble_eq_true rfl) (MX.post (m_X37_isStore hG hO g8) ?_)
      rintro _ A8 ⟨v8, rfl, zv8, h1⟩
      refine X.xok (fun w8 => ?_)
      replace h := h v8 A8 w8 zv8 h1
      change X _ _ _ _ A8 _ _ [.int v8]
      refine x_if_eq (tgt := 253) dX10_memory_219 (by decide) (fun c219 => ?_) (fun c219 => ?_)
      · replace h := h.1 c219
        refine x_aload_n dX10_memory_253 rfl ?_
        refine x_aload_n dX10_memory_254 rfl ?_
        obtain ⟨o9, h⟩ := h
        refine x_get (v := .int (A8.I b1 1)) hG dX10_memory_255 f_X10_186_35 o9 rfl ?_
        obtain ⟨o11, h⟩ := h
        obtain ⟨R10, g10, h⟩ := h
        refine x_callV hG (Ky := kX10_into) (As := [.int (A8.I b1 1)]) dX10_memory_258 o11 rfl lk_X10_193 me_X10_into is_X10_into se_X10_into rfl rfl (Nat.le_of_ble_eq_true rfl) (MX.post (m_X10_into hG hO g10) ?_)
        rintro _ A10 ⟨v10, rfl, h1⟩
        refine X.xok (fun w10 => ?_)
        replace h := h v10 A10 w10 h1
        change X _ _ _ _ A10 _ _ [.int v10]
        refine x_istore dX10_memory_261 (by decide) ?_
        refine x_aload_n dX10_memory_263 rfl ?_
        obtain ⟨o12, h⟩ := h
        refine x_get (v := va_rf (A10.P p 0)) hG dX10_memory_264 f_X10_15_9 o12 rfl ?_
        refine x_iload dX10_memory_267 rfl ?_
        refine x_via 277 (A' := A10) (lv' := [some (.ref p), some (.ref b1), none, some (.int y6_3), some (.int y6_4), none, some (.int v10)]) (st' := [.int (if (if (A6.I b1 0) = (21 : Int32) then (1 : Int32) else (if (A6.I b1 0) = (23 : Int32) then (1 : Int32) else (0 : Int32))) = 0 then (4 : Int32) else (2 : Int32)), va_rf (A10.P p 0)]) ?_ (fun k277 => ?_)
        rotate_left
        · refine x_if_eq (tgt := 276) dX10_memory_269 (by decide) (fun c269 => ?_) (fun c269 => ?_)
          · refine x_iconst_ (v := (4 : Int32)) dX10_memory_276 (by decide) ?_
            change X _ _ _ _ _ _ [some (.ref p), some (.ref b1), none, some (.int y6_3), some (.int y6_4), some (.int (if (A6.I b1 0) = (21 : Int32) then (1 : Int32) else (if (A6.I b1 0) = (23 : Int32) then (1 : Int32) else (0 : Int32)))), some (.int v10)] [.int (4 : Int32), va_rf (A10.P p 0)]
            simp only [if_pos c269] at k277 ⊢
            exact X.weak (xle_c rfl (xle_c rfl (xle_n (xle_c rfl (xle_c rfl (xle_n (xle_c rfl xle_nil))))))) k277
          · refine x_iconst_ (v := (2 : Int32)) dX10_memory_272 (by decide) ?_
            refine x_goto (tgt := 277) dX10_memory_273 (by decide) ?_
            change X _ _ _ _ _ _ [some (.ref p), some (.ref b1), none, some (.int y6_3), some (.int y6_4), some (.int (if (A6.I b1 0) = (21 : Int32) then (1 : Int32) else (if (A6.I b1 0) = (23 : Int32) then (1 : Int32) else (0 : Int32)))), some (.int v10)] [.int (2 : Int32), va_rf (A10.P p 0)]
            simp only [if_neg c269] at k277 ⊢
            exact X.weak (xle_c rfl (xle_c rfl (xle_n (xle_c rfl (xle_c rfl (xle_n (xle_c rfl xle_nil))))))) k277
        refine x_iload dX10_memory_277 rfl ?_
        refine x_iload dX10_memory_279 rfl ?_
        refine x_iload_n dX10_memory_281 rfl ?_
        obtain ⟨b14, e14, h⟩ := h
        rw [e14]
        obtain ⟨o15, h⟩ := h
        obtain ⟨R13, g13, h⟩ := h
        refine x_callV hG (Ky := kX9_load) (As := [.int (if (if (A6.I b1 0) = (21 : Int32) then (1 : Int32) else (if (A6.I b1 0) = (23 : Int32) then (1 : Int32) else (0 : Int32))) = 0 then (4 : Int32) else (2 : Int32)), .int v10, .int y6_4, .int y6_3]) dX10_memory_282 o15 rfl lk_X10_159 me_X9_load is_X9_load se_X9_load rfl rfl (Nat.le_of_ble_eq_true rfl) (MX.post (m_X9_load hG hO g13) ?_)
        rintro _ A13 ⟨rfl, h1⟩
        refine X.xok (fun w13 => ?_)
        replace h := h A13 w13 h1
        change X _ _ _ _ A13 _ _ []
        refine x_aload_n dX10_memory_285 rfl ?_
        refine x_aload_n dX10_memory_286 rfl ?_
        obtain ⟨o16, h⟩ := h
        refine x_get (v := .int (A13.I b1 1)) hG dX10_memory_287 f_X10_186_35 o16 rfl ?_
        refine x_iload dX10_memory_290 rfl ?_
        obtain ⟨o18, h⟩ := h
        obtain ⟨R17, g17, h⟩ := h
        refine x_callV hG (Ky := kX10_made) (As := [.int (A13.I b1 1), .int v10]) dX10_memory_292 o18 rfl lk_X10_200 me_X10_made is_X10_made se_X10_made rfl rfl (Nat.le_of_ble_eq_true rfl) (MX.post (m_X10_made hG hO g17) ?_)
        rintro _ A17 ⟨rfl, h1⟩
        refine X.xok (fun w17 => ?_)
        replace h := h A17 w17 h1
        change X _ _ _ _ A17 _ _ []
        exact x_vret dX10_memory_295 rfl ⟨rfl, h⟩
      · replace h := h.2 c219
        refine x_aload_n dX10_memory_222 rfl ?_
        obtain ⟨o19, h⟩ := h
        refine x_get (v := va_rf (A8.P p 0)) hG dX10_memory_223 f_X10_15_9 o19 rfl ?_
        refine x_iload dX10_memory_226 rfl ?_
        refine x_via 236 (A' := A8) (lv' := [some (.ref p), some (.ref b1), none, some (.int y6_3), some (.int y6_4), none, none]) (st' := [.int (if (if (A6.I b1 0) = (21 : Int32) then (1 : Int32) else (if (A6.I b1 0) = (23 : Int32) then (1 : Int32) else (0 : Int32))) = 0 then (0 : Int32) else (2 : Int32)), va_rf (A8.P p 0)]) ?_ (fun k236 => ?_)
        rotate_left
        · refine x_if_eq (tgt := 235) dX10_memory_228 (by decide) (fun c228 => ?_) (fun c228 => ?_)
          · refine x_iconst_ (v := (0 : Int32)) dX10_memory_235 (by decide) ?_
            change X _ _ _ _ _ _ [some (.ref p), some (.ref b1), none, some (.int y6_3), some (.int y6_4), some (.int (if (A6.I b1 0) = (21 : Int32) then (1 : Int32) else (if (A6.I b1 0) = (23 : Int32) then (1 : Int32) else (0 : Int32)))), none] [.int (0 : Int32), va_rf (A8.P p 0)]
            simp only [if_pos c228] at k236 ⊢
            exact X.weak (xle_c rfl (xle_c rfl (xle_n (xle_c rfl (xle_c rfl (xle_n (xle_n xle_nil))))))) k236
          · refine x_iconst_ (v := (2 : Int32)) dX10_memory_231 (by decide) ?_
            refine x_goto (tgt := 236) dX10_memory_232 (by decide) ?_
            change X _ _ _ _ _ _ [some (.ref p), some (.ref b1), none, some (.int y6_3), some (.int y6_4), some (.int (if (A6.I b1 0) = (21 : Int32) then (1 : Int32) else (if (A6.I b1 0) = (23 : Int32) then (1 : Int32) else (0 : Int32)))), none] [.int (2 : Int32), va_rf (A8.P p 0)]
            simp only [if_neg c228] at k236 ⊢
            exact X.weak (xle_c rfl (xle_c rfl (xle_n (xle_c rfl (xle_c rfl (xle_n (xle_n xle_nil))))))) k236
        refine x_aload_n dX10_memory_236 rfl ?_
        refine x_aload_n dX10_memory_237 rfl ?_
        obtain ⟨o20, h⟩ := h
        refine x_get (v := .long (A8.L b1 4)) hG dX10_memory_238 f_X10_254_35 o20 rfl ?_
        refine x_bipush_ (v := (31 : Int32)) dX10_memory_241 (by decide) ?_
        obtain ⟨R21, g21, h⟩ := h
        refine x_callV hG (Ky := kX10_from) (As := [.long (A8.L b1 4), .int (31 : Int32)]) dX10_memory_243 o19 rfl lk_X10_172 me_X10_from is_X10_from se_X10_from rfl rfl (by simp only [List.append_eq, List.nil_append, List.map_cons, va_rf_cat]; exact Nat.le_of_ble_eq_true rfl) (MX.post (m_X10_from hG hO g21) ?_)
        rintro _ A21 ⟨v21, rfl, h1⟩
        refine X.xok (fun w21 => ?_)
        replace h := h v21 A21 w21 h1
        change X _ _ _ _ A21 _ _ [.int v21, .int (if (if (A6.I b1 0) = (21 : Int32) then (1 : Int32) else (if (A6.I b1 0) = (23 : Int32) then (1 : Int32) else (0 : Int32))) = 0 then (0 : Int32) else (2 : Int32)), va_rf (A8.P p 0)]
        refine x_iload dX10_memory_246 rfl ?_
        refine x_iload_n dX10_memory_248 rfl ?_
        obtain ⟨b23, e23, h⟩ := h
        rw [e23]
        obtain ⟨o24, h⟩ := h
        obtain ⟨R22, g22, h⟩ := h
        refine x_callV hG (Ky := kX9_store) (As := [.int (if (if (A6.I b1 0) = (21 : Int32) then (1 : Int32) else (if (A6.I b1 0) = (23 : Int32) then (1 : Int32) else (0 : Int32))) = 0 then (0 : Int32) else (2 : Int32)), .int v21, .int y6_4, .int y6_3]) dX10_memory_249 o24 rfl lk_X10_156 me_X9_store is_X9_store se_X9_store rfl rfl (Nat.le_of_ble_eq_true rfl) (MX.post (m_X9_store hG hO g22) ?_)
        rintro _ A22 ⟨rfl, h1⟩
        refine X.xok (fun w22 => ?_)
        replace h := h A22 w22 h1
        change X _ _ _ _ A22 _ _ []
        exact x_vret dX10_memory_252 rfl ⟨rfl, h⟩
    refine x_icmp_lt (tgt := 154) dX10_memory_144 (by decide) (fun c144 => ?_) (fun c144 => ?_)
    · replace h := h.1 c144
      refine x_aload_n dX10_memory_154 rfl ?_
      obtain ⟨o25, h⟩ := h
      refine x_get (v := va_rf (A5.P p 0)) hG dX10_memory_155 f_X10_15_9 o25 rfl ?_
      refine x_bipush_ (v := (17 : Int32)) dX10_memory_158 (by decide) ?_
      refine x_iload_n dX10_memory_160 rfl ?_
      obtain ⟨b27, e27, h⟩ := h
      rw [e27]
      obtain ⟨o28, h⟩ := h
      obtain ⟨R26, g26, h⟩ := h
      refine x_callV hG (Ky := kX9_number) (As := [.int (17 : Int32), .int y5_3]) dX10_memory_161 o28 rfl lk_X10_135 me_X9_number is_X9_number se_X9_number rfl rfl (Nat.le_of_ble_eq_true rfl) (MX.post (m_X9_number hG hO g26) ?_)
      rintro _ A26 ⟨rfl, h1⟩
      refine X.xok (fun w26 => ?_)
      replace h := h A26 w26 h1
      change X _ _ _ _ A26 _ _ []
      refine x_iload dX10_memory_164 rfl ?_
      obtain ⟨J29, g29, h⟩ := h
      have kj29 : ∀ (A29 : xA), J29 A29 → X G (dp + 7) kX10_memory (hV Q) A29 184 [some (.ref p), some (.ref b1), none, none, none, none, none] [] := by
        intro A29 h
        replace h := g29 A29 h
        refine x_bipush_ (v := (17 : Int32)) dX10_memory_184 (by decide) ?_
        refine x_istore dX10_memory_186 (by decide) ?_
        refine x_iconst_ (v := (0 : Int32)) dX10_memory_188 (by decide) ?_
        refine x_istore_n dX10_memory_189 (by decide) ?_
        change X _ _ _ _ _ _ [some (.ref p), some (.ref b1), none, some (.int (0 : Int32)), some (.int (17 : Int32)), none, none] []
        exact X.weak (xle_c rfl (xle_c rfl (xle_n (xle_c rfl (xle_c rfl (xle_n (xle_n xle_nil))))))) (kj6 (0 : Int32) (17 : Int32) A29 h)
      refine x_if_eq (tgt := 184) dX10_memory_166 (by decide) (fun c166 => ?_) (fun c166 => ?_)
      · replace h := h.1 c166
        change X _ _ _ _ _ _ [some (.ref p), some (.ref b1), none, some (.int y5_3), some (.int y5_4), none, none] []
        exact X.weak (xle_c rfl (xle_c rfl (xle_n (xle_n (xle_n (xle_n (xle_n xle_nil))))))) (kj29 A26 h)
      · replace h := h.2 c166
        refine x_aload_n dX10_memory_169 rfl ?_
        obtain ⟨o30, h⟩ := h
        refine x_get (v := va_rf (A26.P p 0)) hG dX10_memory_170 f_X10_15_9 o30 rfl ?_
        refine x_iconst_ (v := (0 : Int32)) dX10_memory_173 (by decide) ?_
        refine x_iconst_ (v := (0 : Int32)) dX10_memory_174 (by decide) ?_
        refine x_bipush_ (v := (17 : Int32)) dX10_memory_175 (by decide) ?_
        refine x_bipush_ (v := (17 : Int32)) dX10_memory_177 (by decide) ?_
        refine x_iload dX10_memory_179 rfl ?_
        obtain ⟨b32, e32, h⟩ := h
        rw [e32]
        obtain ⟨o33, h⟩ := h
        obtain ⟨R31, g31, h⟩ := h
        refine x_callV hG (Ky := kX9_three) (As := [.int (0 : Int32), .int (0 : Int32), .int (17 : Int32), .int (17 : Int32), .int y5_4]) dX10_memory_181 o33 rfl lk_X10_138 me_X9_three is_X9_three se_X9_three rfl rfl (Nat.le_of_ble_eq_true rfl) (MX.post (m_X9_three hG hO g31) ?_)
        rintro _ A31 ⟨rfl, h1⟩
        refine X.xok (fun w31 => ?_)
        replace h := h A31 w31 h1
        change X _ _ _ _ A31 _ _ []
        change X _ _ _ _ _ _ [some (.ref p), some (.ref b1), none, some (.int y5_3), some (.int y5_4), none, none] []
        exact X.weak (xle_c rfl (xle_c rfl (xle_n (xle_n (xle_n (xle_n (xle_n xle_nil))))))) (kj29 A31 h)
    · replace h := h.2 c144
      refine x_iload_n dX10_memory_147 rfl ?_
      refine x_sipush_ (v := (2048 : Int32)) dX10_memory_148 (by decide) ?_
      refine x_icmp_lt (tgt := 190) dX10_memory_151 (by decide) (fun c151 => ?_) (fun c151 => ?_)
      · replace h := h.1 c151
        change X _ _ _ _ _ _ [some (.ref p), some (.ref b1), none, some (.int y5_3), some (.int y5_4), none, none] []
        exact X.weak (xle_c rfl (xle_c rfl (xle_n (xle_c rfl (xle_c rfl (xle_n (xle_n xle_nil))))))) (kj6 y5_3 y5_4 A5 h)
      · replace h := h.2 c151
        refine x_aload_n dX10_memory_154 rfl ?_
        obtain ⟨o34, h⟩ := h
        refine x_get (v := va_rf (A5.P p 0)) hG dX10_memory_155 f_X10_15_9 o34 rfl ?_
        refine x_bipush_ (v := (17 : Int32)) dX10_memory_158 (by decide) ?_
        refine x_iload_n dX10_memory_160 rfl ?_
        obtain ⟨b36, e36, h⟩ := h
        rw [e36]
        obtain ⟨o37, h⟩ := h
        obtain ⟨R35, g35, h⟩ := h
        refine x_callV hG (Ky := kX9_number) (As := [.int (17 : Int32), .int y5_3]) dX10_memory_161 o37 rfl lk_X10_135 me_X9_number is_X9_number se_X9_number rfl rfl (Nat.le_of_ble_eq_true rfl) (MX.post (m_X9_number hG hO g35) ?_)
        rintro _ A35 ⟨rfl, h1⟩
        refine X.xok (fun w35 => ?_)
        replace h := h A35 w35 h1
        change X _ _ _ _ A35 _ _ []
        refine x_iload dX10_memory_164 rfl ?_
        obtain ⟨J38, g38, h⟩ := h
        have kj38 : ∀ (A38 : xA), J38 A38 → X G (dp + 7) kX10_memory (hV Q) A38 184 [some (.ref p), some (.ref b1), none, none, none, none, none] [] := by
          intro A38 h
          replace h := g38 A38 h
          refine x_bipush_ (v := (17 : Int32)) dX10_memory_184 (by decide) ?_
          refine x_istore dX10_memory_186 (by decide) ?_
          refine x_iconst_ (v := (0 : Int32)) dX10_memory_188 (by decide) ?_
          refine x_istore_n dX10_memory_189 (by decide) ?_
          change X _ _ _ _ _ _ [some (.ref p), some (.ref b1), none, some (.int (0 : Int32)), some (.int (17 : Int32)), none, none] []
          exact X.weak (xle_c rfl (xle_c rfl (xle_n (xle_c rfl (xle_c rfl (xle_n (xle_n xle_nil))))))) (kj6 (0 : Int32) (17 : Int32) A38 h)
        refine x_if_eq (tgt := 184) dX10_memory_166 (by decide) (fun c166 => ?_) (fun c166 => ?_)
        · replace h := h.1 c166
          change X _ _ _ _ _ _ [some (.ref p), some (.ref b1), none, some (.int y5_3), some (.int y5_4), none, none] []
          exact X.weak (xle_c rfl (xle_c rfl (xle_n (xle_n (xle_n (xle_n (xle_n xle_nil))))))) (kj38 A35 h)
        · replace h := h.2 c166
          refine x_aload_n dX10_memory_169 rfl ?_
          obtain ⟨o39, h⟩ := h
          refine x_get (v := va_rf (A35.P p 0)) hG dX10_memory_170 f_X10_15_9 o39 rfl ?_
          refine x_iconst_ (v := (0 : Int32)) dX10_memory_173 (by decide) ?_
          refine x_iconst_ (v := (0 : Int32)) dX10_memory_174 (by decide) ?_
          refine x_bipush_ (v := (17 : Int32)) dX10_memory_175 (by decide) ?_
          refine x_bipush_ (v := (17 : Int32)) dX10_memory_177 (by decide) ?_
          refine x_iload dX10_memory_179 rfl ?_
          obtain ⟨b41, e41, h⟩ := h
          rw [e41]
          obtain ⟨o42, h⟩ := h
          obtain ⟨R40, g40, h⟩ := h
          refine x_callV hG (Ky := kX9_three) (As := [.int (0 : Int32), .int (0 : Int32), .int (17 : Int32), .int (17 : Int32), .int y5_4]) dX10_memory_181 o42 rfl lk_X10_138 me_X9_three is_X9_three se_X9_three rfl rfl (Nat.le_of_ble_eq_true rfl) (MX.post (m_X9_three hG hO g40) ?_)
          rintro _ A40 ⟨rfl, h1⟩
          refine X.xok (fun w40 => ?_)
          replace h := h A40 w40 h1
          change X _ _ _ _ A40 _ _ []
          change X _ _ _ _ _ _ [some (.ref p), some (.ref b1), none, some (.int y5_3), some (.int y5_4), none, none] []
          exact X.weak (xle_c rfl (xle_c rfl (xle_n (xle_n (xle_n (xle_n (xle_n xle_nil))))))) (kj38 A40 h)
  refine x_if_eq (tgt := 81) dX10_memory_31 (by decide) (fun c31 => ?_) (fun c31 => ?_)
  · replace h := h.1 c31
    refine x_aload_n dX10_memory_81 rfl ?_
    refine x_aload_n dX10_memory_82 rfl ?_
    refine x_get (v := .long (A.L b1 3)) hG dX10_memory_83 f_X10_229_35 o2 rfl ?_
    refine x_bipush_ (v := (30 : Int32)) dX10_memory_86 (by decide) ?_
    obtain ⟨o44, h⟩ := h
    obtain ⟨R43, g43, h⟩ := h
    refine x_callV hG (Ky := kX10_from) (As := [.long (A.L b1 3), .int (30 : Int32)]) dX10_memory_88 o44 rfl lk_X10_172 me_X10_from is_X10_from se_X10_from rfl rfl (Nat.le_of_ble_eq_true rfl) (MX.post (m_X10_from hG hO g43) ?_)
    rintro _ A43 ⟨v43, rfl, h1⟩
    refine X.xok (fun w43 => ?_)
    replace h := h v43 A43 w43 h1
    change X _ _ _ _ A43 _ _ [.int v43]
    refine x_istore dX10_memory_91 (by decide) ?_
    refine x_aload_n dX10_memory_93 rfl ?_
    obtain ⟨o45, h⟩ := h
    refine x_get (v := .int (A43.I b3 1)) hG dX10_memory_94 f_X10_242_32 o45 rfl ?_
    refine x_iconst_ (v := (2 : Int32)) dX10_memory_97 (by decide) ?_
    refine x_icmp_eq (tgt := 140) dX10_memory_98 (by decide) (fun c98 => ?_) (fun c98 => ?_)
    · replace h := h.1 c98
      change X _ _ _ _ _ _ [some (.ref p), some (.ref b1), some (.ref b3), some (.int (if (A.I b3 1) = (5 : Int32) then (0 : Int32) else ((4 : Int32) * (A.I b3 2)))), some (.int v43), none, none] []
      exact X.weak (xle_c rfl (xle_c rfl (xle_n (xle_c rfl (xle_c rfl (xle_n (xle_n xle_nil))))))) (kj5 (if (A.I b3 1) = (5 : Int32) then (0 : Int32) else ((4 : Int32) * (A.I b3 2))) v43 A43 h)
    · replace h := h.2 c98
      refine x_aload_n dX10_memory_101 rfl ?_
      obtain ⟨o46, h⟩ := h
      refine x_get (v := va_rf (A43.P p 0)) hG dX10_memory_102 f_X10_15_9 o46 rfl ?_
      refine x_iconst_ (v := (0 : Int32)) dX10_memory_105 (by decide) ?_
      refine x_iconst_ (v := (0 : Int32)) dX10_memory_106 (by decide) ?_
      refine x_bipush_ (v := (17 : Int32)) dX10_memory_107 (by decide) ?_
      refine x_iload dX10_memory_109 rfl ?_
      refine x_aload_n dX10_memory_111 rfl ?_
      refine x_get (v := .int (A43.I b3 1)) hG dX10_memory_112 f_X10_242_32 o45 rfl ?_
      refine x_iconst_ (v := (4 : Int32)) dX10_memory_115 (by decide) ?_
      obtain ⟨J47, g47, h⟩ := h
      have kj47 : ∀ (y47_s0 : Int32) (A47 : xA), J47 y47_s0 A47 → X G (dp + 7) kX10_memory (hV Q) A47 133 [some (.ref p), some (.ref b1), none, some (.int (if (A.I b3 1) = (5 : Int32) then (0 : Int32) else ((4 : Int32) * (A.I b3 2)))), none, none, none] [.int y47_s0, .int v43, .int (17 : Int32), .int (0 : Int32), .int (0 : Int32), va_rf (A43.P p 0)] := by
        intro y47_s0 A47 h
        replace h := g47 y47_s0 A47 h
        obtain ⟨b49, e49, h⟩ := h
        rw [e49]
        obtain ⟨o50, h⟩ := h
        obtain ⟨R48, g48, h⟩ := h
        refine x_callV hG (Ky := kX9_three) (As := [.int (0 : Int32), .int (0 : Int32), .int (17 : Int32), .int v43, .int y47_s0]) dX10_memory_133 o50 rfl lk_X10_138 me_X9_three is_X9_three se_X9_three rfl rfl (Nat.le_of_ble_eq_true rfl) (MX.post (m_X9_three hG hO g48) ?_)
        rintro _ A48 ⟨rfl, h1⟩
        refine X.xok (fun w48 => ?_)
        replace h := h A48 w48 h1
        change X _ _ _ _ A48 _ _ []
        refine x_bipush_ (v := (17 : Int32)) dX10_memory_136 (by decide) ?_
        refine x_istore dX10_memory_138 (by decide) ?_
        change X _ _ _ _ _ _ [some (.ref p), some (.ref b1), none, some (.int (if (A.I b3 1) = (5 : Int32) then (0 : Int32) else ((4 : Int32) * (A.I b3 2)))), some (.int (17 : Int32)), none, none] []
        exact X.weak (xle_c rfl (xle_c rfl (xle_n (xle_c rfl (xle_c rfl (xle_n (xle_n xle_nil))))))) (kj5 (if (A.I b3 1) = (5 : Int32) then (0 : Int32) else ((4 : Int32) * (A.I b3 2))) (17 : Int32) A48 h)
      refine x_icmp_ne (tgt := 123) dX10_memory_116 (by decide) (fun c116 => ?_) (fun c116 => ?_)
      · replace h := h.2 c116
        refine x_aload_n dX10_memory_123 rfl ?_
        refine x_aload_n dX10_memory_124 rfl ?_
        obtain ⟨o51, h⟩ := h
        refine x_get (v := .long (A43.L b1 2)) hG dX10_memory_125 f_X10_189_35 o51 rfl ?_
        refine x_bipush_ (v := (31 : Int32)) dX10_memory_128 (by decide) ?_
        obtain ⟨R52, g52, h⟩ := h
        refine x_callV hG (Ky := kX10_from) (As := [.long (A43.L b1 2), .int (31 : Int32)]) dX10_memory_130 o46 rfl lk_X10_172 me_X10_from is_X10_from se_X10_from rfl rfl (by simp only [List.append_eq, List.nil_append, List.map_cons, va_rf_cat]; exact Nat.le_of_ble_eq_true rfl) (MX.post (m_X10_from hG hO g52) ?_)
        rintro _ A52 ⟨v52, rfl, h1⟩
        refine X.xok (fun w52 => ?_)
        replace h := h v52 A52 w52 h1
        change X _ _ _ _ A52 _ _ [.int v52, .int v43, .int (17 : Int32), .int (0 : Int32), .int (0 : Int32), va_rf (A43.P p 0)]
        change X _ _ _ _ _ _ [some (.ref p), some (.ref b1), some (.ref b3), some (.int (if (A.I b3 1) = (5 : Int32) then (0 : Int32) else ((4 : Int32) * (A.I b3 2)))), some (.int v43), none, none] [.int v52, .int v43, .int (17 : Int32), .int (0 : Int32), .int (0 : Int32), va_rf (A43.P p 0)]
        exact X.weak (xle_c rfl (xle_c rfl (xle_n (xle_c rfl (xle_n (xle_n (xle_n xle_nil))))))) (kj47 v52 A52 h)
      · replace h := h.1 c116
        refine x_iconst_ (v := (2 : Int32)) dX10_memory_119 (by decide) ?_
        refine x_goto (tgt := 133) dX10_memory_120 (by decide) ?_
        change X _ _ _ _ _ _ [some (.ref p), some (.ref b1), some (.ref b3), some (.int (if (A.I b3 1) = (5 : Int32) then (0 : Int32) else ((4 : Int32) * (A.I b3 2)))), some (.int v43), none, none] [.int (2 : Int32), .int v43, .int (17 : Int32), .int (0 : Int32), .int (0 : Int32), va_rf (A43.P p 0)]
        exact X.weak (xle_c rfl (xle_c rfl (xle_n (xle_c rfl (xle_n (xle_n (xle_n xle_nil))))))) (kj47 (2 : Int32) A43 h)
  · replace h := h.2 c31
    refine x_iload_n dX10_memory_34 rfl ?_
    refine x_aload_n dX10_memory_35 rfl ?_
    refine x_get (v := .long (A.L b1 3)) hG dX10_memory_36 f_X10_229_35 o2 rfl ?_
    refine x_l2i dX10_memory_39 ?_
    refine x_iadd dX10_memory_40 ?_
    refine x_istore_n dX10_memory_41 (by decide) ?_
    refine x_aload_n dX10_memory_42 rfl ?_
    refine x_get (v := .int (A.I b3 1)) hG dX10_memory_43 f_X10_242_32 o4 rfl ?_
    refine x_iconst_ (v := (5 : Int32)) dX10_memory_46 (by decide) ?_
    obtain ⟨J53, g53, h⟩ := h
    have kj53 : ∀ (y53_s0 : Int32) (A53 : xA), J53 y53_s0 A53 → X G (dp + 7) kX10_memory (hV Q) A53 76 [some (.ref p), some (.ref b1), none, some (.int ((if (A.I b3 1) = (5 : Int32) then (0 : Int32) else ((4 : Int32) * (A.I b3 2))) + (A.L b1 3).toInt32)), none, none, none] [.int y53_s0] := by
      intro y53_s0 A53 h
      replace h := g53 y53_s0 A53 h
      refine x_istore dX10_memory_76 (by decide) ?_
      refine x_goto (tgt := 140) dX10_memory_78 (by decide) ?_
      change X _ _ _ _ _ _ [some (.ref p), some (.ref b1), none, some (.int ((if (A.I b3 1) = (5 : Int32) then (0 : Int32) else ((4 : Int32) * (A.I b3 2))) + (A.L b1 3).toInt32)), some (.int y53_s0), none, none] []
      exact X.weak (xle_c rfl (xle_c rfl (xle_n (xle_c rfl (xle_c rfl (xle_n (xle_n xle_nil))))))) (kj5 ((if (A.I b3 1) = (5 : Int32) then (0 : Int32) else ((4 : Int32) * (A.I b3 2))) + (A.L b1 3).toInt32) y53_s0 A53 h)
    refine x_icmp_ne (tgt := 63) dX10_memory_47 (by decide) (fun c47 => ?_) (fun c47 => ?_)
    · replace h := h.2 c47
      refine x_aload_n dX10_memory_63 rfl ?_
      refine x_get (v := .int (A.I b3 1)) hG dX10_memory_64 f_X10_242_32 o4 rfl ?_
      refine x_iconst_ (v := (4 : Int32)) dX10_memory_67 (by decide) ?_
      refine x_icmp_ne (tgt := 75) dX10_memory_68 (by decide) (fun c68 => ?_) (fun c68 => ?_)
      · replace h := h.2 c68
        refine x_iconst_ (v := (0 : Int32)) dX10_memory_75 (by decide) ?_
        change X _ _ _ _ _ _ [some (.ref p), some (.ref b1), some (.ref b3), some (.int ((if (A.I b3 1) = (5 : Int32) then (0 : Int32) else ((4 : Int32) * (A.I b3 2))) + (A.L b1 3).toInt32)), none, none, none] [.int (0 : Int32)]
        exact X.weak (xle_c rfl (xle_c rfl (xle_n (xle_c rfl (xle_n (xle_n (xle_n xle_nil))))))) (kj53 (0 : Int32) A h)
      · replace h := h.1 c68
        refine x_iconst_ (v := (2 : Int32)) dX10_memory_71 (by decide) ?_
        refine x_goto (tgt := 76) dX10_memory_72 (by decide) ?_
        change X _ _ _ _ _ _ [some (.ref p), some (.ref b1), some (.ref b3), some (.int ((if (A.I b3 1) = (5 : Int32) then (0 : Int32) else ((4 : Int32) * (A.I b3 2))) + (A.L b1 3).toInt32)), none, none, none] [.int (2 : Int32)]
        exact X.weak (xle_c rfl (xle_c rfl (xle_n (xle_c rfl (xle_n (xle_n (xle_n xle_nil))))))) (kj53 (2 : Int32) A h)
    · replace h := h.1 c47
      refine x_aload_n dX10_memory_50 rfl ?_
      refine x_aload_n dX10_memory_51 rfl ?_
      refine x_get (v := .long (A.L b1 2)) hG dX10_memory_52 f_X10_189_35 o2 rfl ?_
      refine x_bipush_ (v := (30 : Int32)) dX10_memory_55 (by decide) ?_
      obtain ⟨o55, h⟩ := h
      obtain ⟨R54, g54, h⟩ := h
      refine x_callV hG (Ky := kX10_from) (As := [.long (A.L b1 2), .int (30 : Int32)]) dX10_memory_57 o55 rfl lk_X10_172 me_X10_from is_X10_from se_X10_from rfl rfl (Nat.le_of_ble_eq_true rfl) (MX.post (m_X10_from hG hO g54) ?_)
      rintro _ A54 ⟨v54, rfl, h1⟩
      refine X.xok (fun w54 => ?_)
      replace h := h v54 A54 w54 h1
      change X _ _ _ _ A54 _ _ [.int v54]
      refine x_goto (tgt := 76) dX10_memory_60 (by decide) ?_
      change X _ _ _ _ _ _ [some (.ref p), some (.ref b1), some (.ref b3), some (.int ((if (A.I b3 1) = (5 : Int32) then (0 : Int32) else ((4 : Int32) * (A.I b3 2))) + (A.L b1 3).toInt32)), none, none, none] [.int v54]
      exact X.weak (xle_c rfl (xle_c rfl (xle_n (xle_c rfl (xle_n (xle_n (xle_n xle_nil))))))) (kj53 v54 A54 h)
def w_X10_check (G : xG) (p : Nat) (x : Option Nat) (Q : xA → Prop) (A : xA) : Prop := xok G A → ∃ b1 : Nat, x = some b1 ∧ (A.tg b1 = 36 ∧ (A.tg p = 10 ∧ (∃ R3 : Int32 → xA → Prop, w_X10_from G p (A.L b1 2) (30 : Int32) R3 A ∧ (∀ (v3 : Int32) (A3 : xA), xok G A3 → R3 v3 A3 → (A3.tg b1 = 36 ∧ (A3.tg p = 10 ∧ (∃ R6 : Int32 → xA → Prop, w_X10_from G p (A3.L b1 3) (31 : Int32) R6 A3 ∧ (∀ (v6 : Int32) (A6 : xA), xok G A6 → R6 v6 A6 → (A6.tg p = 10 ∧ (∃ b9 : Nat, (A6.P p 0) = some b9 ∧ (A6.tg b9 = 9 ∧ (∃ R11 : xA → Prop, w_X9_add G b9 (f_X9_branchWord (6 : Int32) v3 v6) R11 A6 ∧ (∀ A11 : xA, xok G A11 → R11 A11 → (A11.tg p = 10 ∧ (A11.tg b1 = 36 ∧ (∃ b15 : Nat, (A11.P p 0) = some b15 ∧ (A11.tg b15 = 9 ∧ (∃ R14 : xA → Prop, w_X9_number G b15 (10 : Int32) (A11.I b1 5) R14 A11 ∧ (∀ A14 : xA, xok G A14 → R14 A14 → (A14.tg p = 10 ∧ (∃ b19 : Nat, (A14.P p 0) = some b19 ∧ (A14.tg b19 = 9 ∧ (∃ R18 : xA → Prop, w_X9_service G b19 (5 : Int32) R18 A14 ∧ (∀ A18 : xA, xok G A18 → R18 A18 → (A18.tg p = 10 ∧ (∃ b23 : Nat, (A18.P p 0) = some b23 ∧ (A18.tg b23 = 9 ∧ (∃ R22 : xA → Prop, w_X9_over G b23 (A6.I b9 4) R22 A18 ∧ (∀ A22 : xA, xok G A22 → R22 A22 → (Q A22))))))))))))))))))))))))))))))
theorem m_X10_check (hG : xOK G) (hO : xHO G) {dp : Nat} {p : Nat} {x : Option Nat} {Q : xA → Prop} {A : xA} (h : w_X10_check G p x Q A) : MX G (dp + 7) kX10_check [.ref p, va_rf x] A (hV Q) := by
  unfold w_X10_check at h
  refine MX.of rfl (by cases x <;> exact Nat.le_of_ble_eq_true rfl) ?_
  refine X.lvs (lv' := [some (.ref p), some (va_rf x), none, none, none]) (by cases x <;> rfl) ?_
  refine X.xok (fun w0 => ?_)
  replace h := h w0
  refine x_aload_n dX10_check_0 rfl ?_
  refine x_aloadq_n dX10_check_1 rfl ?_
  obtain ⟨b1, e1, h⟩ := h
  rw [e1]
  obtain ⟨o2, h⟩ := h
  refine x_get (v := .long (A.L b1 2)) hG dX10_check_2 f_X10_189_35 o2 rfl ?_
  refine x_bipush_ (v := (30 : Int32)) dX10_check_5 (by decide) ?_
  obtain ⟨o4, h⟩ := h
  obtain ⟨R3, g3, h⟩ := h
  refine x_callV hG (Ky := kX10_from) (As := [.long (A.L b1 2), .int (30 : Int32)]) dX10_check_7 o4 rfl lk_X10_172 me_X10_from is_X10_from se_X10_from rfl rfl (Nat.le_of_ble_eq_true rfl) (MX.post (m_X10_from hG hO g3) ?_)
  rintro _ A3 ⟨v3, rfl, h1⟩
  refine X.xok (fun w3 => ?_)
  replace h := h v3 A3 w3 h1
  change X _ _ _ _ A3 _ _ [.int v3]
  refine x_istore_n dX10_check_10 (by decide) ?_
  refine x_aload_n dX10_check_11 rfl ?_
  refine x_aload_n dX10_check_12 rfl ?_
  obtain ⟨o5, h⟩ := h
  refine x_get (v := .long (A3.L b1 3)) hG dX10_check_13 f_X10_229_35 o5 rfl ?_
  refine x_bipush_ (v := (31 : Int32)) dX10_check_16 (by decide) ?_
  obtain ⟨o7, h⟩ := h
  obtain ⟨R6, g6, h⟩ := h
  refine x_callV hG (Ky := kX10_from) (As := [.long (A3.L b1 3), .int (31 : Int32)]) dX10_check_18 o7 rfl lk_X10_172 me_X10_from is_X10_from se_X10_from rfl rfl (Nat.le_of_ble_eq_true rfl) (MX.post (m_X10_from hG hO g6) ?_)
  rintro _ A6 ⟨v6, rfl, h1⟩
  refine X.xok (fun w6 => ?_)
  replace h := h v6 A6 w6 h1
  change X _ _ _ _ A6 _ _ [.int v6]
  refine x_istore_n dX10_check_21 (by decide) ?_
  refine x_aload_n dX10_check_22 rfl ?_
  obtain ⟨o8, h⟩ := h
  refine x_get (v := va_rf (A6.P p 0)) hG dX10_check_23 f_X10_15_9 o8 rfl ?_
  obtain ⟨b9, e9, h⟩ := h
  rw [e9]
  obtain ⟨o10, h⟩ := h
  refine x_get (v := .int (A6.I b9 4)) hG dX10_check_26 f_X10_110_8 o10 rfl ?_
  refine x_istore dX10_check_29 (by decide) ?_
  refine x_aload_n dX10_check_31 rfl ?_
  refine x_get (v := .ref b9) hG dX10_check_32 f_X10_15_9 o8 (congrArg va_rf e9) ?_
  refine x_bipush_ (v := (6 : Int32)) dX10_check_35 (by decide) ?_
  refine x_iload_n dX10_check_37 rfl ?_
  refine x_iload_n dX10_check_38 rfl ?_
  refine x_callS hG (Ky := kX9_branchWord) (As := [.int (6 : Int32), .int v3, .int v6]) dX10_check_39 lk_X10_257 me_X9_branchWord st_X9_branchWord rfl rfl (Nat.le_of_ble_eq_true rfl) (MX.post (m_X9_branchWord hG) ?_)
  rintro _ _ ⟨rfl, rfl⟩
  change X _ _ _ _ _ _ _ (.int (f_X9_branchWord (6 : Int32) v3 v6) :: _)
  obtain ⟨R11, g11, h⟩ := h
  refine x_callV hG (Ky := kX9_add) (As := [.int (f_X9_branchWord (6 : Int32) v3 v6)]) dX10_check_42 o10 rfl lk_X10_261 me_X9_add is_X9_add se_X9_add rfl rfl (Nat.le_of_ble_eq_true rfl) (MX.post (m_X9_add hG hO g11) ?_)
  rintro _ A11 ⟨rfl, h1⟩
  refine X.xok (fun w11 => ?_)
  replace h := h A11 w11 h1
  change X _ _ _ _ A11 _ _ []
  refine x_aload_n dX10_check_45 rfl ?_
  obtain ⟨o12, h⟩ := h
  refine x_get (v := va_rf (A11.P p 0)) hG dX10_check_46 f_X10_15_9 o12 rfl ?_
  refine x_bipush_ (v := (10 : Int32)) dX10_check_49 (by decide) ?_
  refine x_aload_n dX10_check_51 rfl ?_
  obtain ⟨o13, h⟩ := h
  refine x_get (v := .int (A11.I b1 5)) hG dX10_check_52 f_X10_226_35 o13 rfl ?_
  obtain ⟨b15, e15, h⟩ := h
  rw [e15]
  obtain ⟨o16, h⟩ := h
  obtain ⟨R14, g14, h⟩ := h
  refine x_callV hG (Ky := kX9_number) (As := [.int (10 : Int32), .int (A11.I b1 5)]) dX10_check_55 o16 rfl lk_X10_135 me_X9_number is_X9_number se_X9_number rfl rfl (Nat.le_of_ble_eq_true rfl) (MX.post (m_X9_number hG hO g14) ?_)
  rintro _ A14 ⟨rfl, h1⟩
  refine X.xok (fun w14 => ?_)
  replace h := h A14 w14 h1
  change X _ _ _ _ A14 _ _ []
  refine x_aload_n dX10_check_58 rfl ?_
  obtain ⟨o17, h⟩ := h
  refine x_get (v := va_rf (A14.P p 0)) hG dX10_check_59 f_X10_15_9 o17 rfl ?_
  refine x_iconst_ (v := (5 : Int32)) dX10_check_62 (by decide) ?_
  obtain ⟨b19, e19, h⟩ := h
  rw [e19]
  obtain ⟨o20, h⟩ := h
  obtain ⟨R18, g18, h⟩ := h
  refine x_callV hG (Ky := kX9_service) (As := [.int (5 : Int32)]) dX10_check_63 o20 rfl lk_X10_215 me_X9_service is_X9_service se_X9_service rfl rfl (Nat.le_of_ble_eq_true rfl) (MX.post (m_X9_service hG hO g18) ?_)
  rintro _ A18 ⟨rfl, h1⟩
  refine X.xok (fun w18 => ?_)
  replace h := h A18 w18 h1
  change X _ _ _ _ A18 _ _ []
  refine x_aload_n dX10_check_66 rfl ?_
  obtain ⟨o21, h⟩ := h
  refine x_get (v := va_rf (A18.P p 0)) hG dX10_check_67 f_X10_15_9 o21 rfl ?_
  refine x_iload dX10_check_70 rfl ?_
  obtain ⟨b23, e23, h⟩ := h
  rw [e23]
  obtain ⟨o24, h⟩ := h
  obtain ⟨R22, g22, h⟩ := h
  refine x_callV hG (Ky := kX9_over) (As := [.int (A6.I b9 4)]) dX10_check_72 o24 rfl lk_X10_264 me_X9_over is_X9_over se_X9_over rfl rfl (Nat.le_of_ble_eq_true rfl) (MX.post (m_X9_over hG hO g22) ?_)
  rintro _ A22 ⟨rfl, h1⟩
  refine X.xok (fun w22 => ?_)
  replace h := h A22 w22 h1
  change X _ _ _ _ A22 _ _ []
  exact x_vret dX10_check_75 rfl ⟨rfl, h⟩
def w_X10_turn (G : xG) (p : Nat) (Q : xA → Prop) (A : xA) : Prop := xok G A → A.tg p = 10 ∧ (∃ b3 : Nat, (A.P p 0) = some b3 ∧ (A.tg b3 = 9 ∧ (∃ R2 : xA → Prop, w_X9_two G b3 (0 : Int32) (26 : Int32) (26 : Int32) (-1 : Int32) R2 A ∧ (∀ A2 : xA, xok G A2 → R2 A2 → (A2.tg p = 10 ∧ (∃ b6 : Nat, (A2.P p 0) = some b6 ∧ (A2.tg b6 = 9 ∧ (∃ R8 : xA → Prop, w_X9_add G b6 (f_X9_branchWord (5 : Int32) (26 : Int32) (0 : Int32)) R8 A2 ∧ (∀ A8 : xA, xok G A8 → R8 A8 → (A8.tg p = 10 ∧ (∃ b11 : Nat, (A8.P p 0) = some b11 ∧ (A8.tg b11 = 9 ∧ (∃ R10 : xA → Prop, w_X9_service G b11 (1 : Int32) R10 A8 ∧ (∀ A10 : xA, xok G A10 → R10 A10 → (A10.tg p = 10 ∧ (∃ b15 : Nat, (A10.P p 0) = some b15 ∧ (A10.tg b15 = 9 ∧ (∃ R14 : xA → Prop, w_X9_over G b15 (A2.I b6 4) R14 A10 ∧ (∀ A14 : xA, xok G A14 → R14 A14 → (Q A14))))))))))))))))))))
theorem m_X10_turn (hG : xOK G) (hO : xHO G) {dp : Nat} {p : Nat} {Q : xA → Prop} {A : xA} (h : w_X10_turn G p Q A) : MX G (dp + 5) kX10_turn [.ref p] A (hV Q) := by
  unfold w_X10_turn at h
  refine MX.of rfl (Nat.le_of_ble_eq_true rfl) ?_
  change X _ _ _ _ _ _ [some (.ref p), none] _
  refine X.xok (fun w0 => ?_)
  replace h := h w0
  refine x_aload_n dX10_turn_0 rfl ?_
  obtain ⟨o1, h⟩ := h
  refine x_get (v := va_rf (A.P p 0)) hG dX10_turn_1 f_X10_15_9 o1 rfl ?_
  refine x_iconst_ (v := (0 : Int32)) dX10_turn_4 (by decide) ?_
  refine x_bipush_ (v := (26 : Int32)) dX10_turn_5 (by decide) ?_
  refine x_bipush_ (v := (26 : Int32)) dX10_turn_7 (by decide) ?_
  refine x_iconst_ (v := (-1 : Int32)) dX10_turn_9 (by decide) ?_
  obtain ⟨b3, e3, h⟩ := h
  rw [e3]
  obtain ⟨o4, h⟩ := h
  obtain ⟨R2, g2, h⟩ := h
  refine x_callV hG (Ky := kX9_two) (As := [.int (0 : Int32), .int (26 : Int32), .int (26 : Int32), .int (-1 : Int32)]) dX10_turn_10 o4 rfl lk_X10_131 me_X9_two is_X9_two se_X9_two rfl rfl (Nat.le_of_ble_eq_true rfl) (MX.post (m_X9_two hG hO g2) ?_)
  rintro _ A2 ⟨rfl, h1⟩
  refine X.xok (fun w2 => ?_)
  replace h := h A2 w2 h1
  change X _ _ _ _ A2 _ _ []
  refine x_aload_n dX10_turn_13 rfl ?_
  obtain ⟨o5, h⟩ := h
  refine x_get (v := va_rf (A2.P p 0)) hG dX10_turn_14 f_X10_15_9 o5 rfl ?_
  obtain ⟨b6, e6, h⟩ := h
  rw [e6]
  obtain ⟨o7, h⟩ := h
  refine x_get (v := .int (A2.I b6 4)) hG dX10_turn_17 f_X10_110_8 o7 rfl ?_
  refine x_istore_n dX10_turn_20 (by decide) ?_
  refine x_aload_n dX10_turn_21 rfl ?_
  refine x_get (v := .ref b6) hG dX10_turn_22 f_X10_15_9 o5 (congrArg va_rf e6) ?_
  refine x_iconst_ (v := (5 : Int32)) dX10_turn_25 (by decide) ?_
  refine x_bipush_ (v := (26 : Int32)) dX10_turn_26 (by decide) ?_
  refine x_iconst_ (v := (0 : Int32)) dX10_turn_28 (by decide) ?_
  refine x_callS hG (Ky := kX9_branchWord) (As := [.int (5 : Int32), .int (26 : Int32), .int (0 : Int32)]) dX10_turn_29 lk_X10_257 me_X9_branchWord st_X9_branchWord rfl rfl (Nat.le_of_ble_eq_true rfl) (MX.post (m_X9_branchWord hG) ?_)
  rintro _ _ ⟨rfl, rfl⟩
  change X _ _ _ _ _ _ _ (.int (f_X9_branchWord (5 : Int32) (26 : Int32) (0 : Int32)) :: _)
  obtain ⟨R8, g8, h⟩ := h
  refine x_callV hG (Ky := kX9_add) (As := [.int (f_X9_branchWord (5 : Int32) (26 : Int32) (0 : Int32))]) dX10_turn_32 o7 rfl lk_X10_261 me_X9_add is_X9_add se_X9_add rfl rfl (Nat.le_of_ble_eq_true rfl) (MX.post (m_X9_add hG hO g8) ?_)
  rintro _ A8 ⟨rfl, h1⟩
  refine X.xok (fun w8 => ?_)
  replace h := h A8 w8 h1
  change X _ _ _ _ A8 _ _ []
  refine x_aload_n dX10_turn_35 rfl ?_
  obtain ⟨o9, h⟩ := h
  refine x_get (v := va_rf (A8.P p 0)) hG dX10_turn_36 f_X10_15_9 o9 rfl ?_
  refine x_iconst_ (v := (1 : Int32)) dX10_turn_39 (by decide) ?_
  obtain ⟨b11, e11, h⟩ := h
  rw [e11]
  obtain ⟨o12, h⟩ := h
  obtain ⟨R10, g10, h⟩ := h
  refine x_callV hG (Ky := kX9_service) (As := [.int (1 : Int32)]) dX10_turn_40 o12 rfl lk_X10_215 me_X9_service is_X9_service se_X9_service rfl rfl (Nat.le_of_ble_eq_true rfl) (MX.post (m_X9_service hG hO g10) ?_)
  rintro _ A10 ⟨rfl, h1⟩
  refine X.xok (fun w10 => ?_)
  replace h := h A10 w10 h1
  change X _ _ _ _ A10 _ _ []
  refine x_aload_n dX10_turn_43 rfl ?_
  obtain ⟨o13, h⟩ := h
  refine x_get (v := va_rf (A10.P p 0)) hG dX10_turn_44 f_X10_15_9 o13 rfl ?_
  refine x_iload_n dX10_turn_47 rfl ?_
  obtain ⟨b15, e15, h⟩ := h
  rw [e15]
  obtain ⟨o16, h⟩ := h
  obtain ⟨R14, g14, h⟩ := h
  refine x_callV hG (Ky := kX9_over) (As := [.int (A2.I b6 4)]) dX10_turn_48 o16 rfl lk_X10_264 me_X9_over is_X9_over se_X9_over rfl rfl (Nat.le_of_ble_eq_true rfl) (MX.post (m_X9_over hG hO g14) ?_)
  rintro _ A14 ⟨rfl, h1⟩
  refine X.xok (fun w14 => ?_)
  replace h := h A14 w14 h1
  change X _ _ _ _ A14 _ _ []
  exact x_vret dX10_turn_51 rfl ⟨rfl, h⟩
def w_X10_call (G : xG) (p : Nat) (x : Option Nat) (Q : xA → Prop) (A : xA) : Prop := xok G A → A.tg p = 10 ∧ (∃ R1 : xA → Prop, w_X10_turn G p R1 A ∧ (∀ A1 : xA, xok G A1 → R1 A1 → (∃ b3 : Nat, x = some b3 ∧ (A1.tg b3 = 36 ∧ (∃ b5 : Nat, (A1.P b3 8) = some b5 ∧ (A1.tg b5 = 14 ∧ (A1.tg p = 10 ∧ (∃ b9 : Nat, (A1.P p 0) = some b9 ∧ (A1.tg b9 = 9 ∧ (∃ R8 : xA → Prop, w_X9_two G b9 (0 : Int32) (30 : Int32) (27 : Int32) (A1.I b5 12) R8 A1 ∧ (∀ A8 : xA, xok G A8 → R8 A8 → (A8.tg p = 10 ∧ (∃ b12 : Nat, (A8.P p 0) = some b12 ∧ (A8.tg b12 = 9 ∧ (∃ R14 : xA → Prop, w_X9_add G b12 (f_X9_branchWord (5 : Int32) (4 : Int32) (30 : Int32)) R14 A8 ∧ (∀ A14 : xA, xok G A14 → R14 A14 → (A14.tg p = 10 ∧ (A14.tg b3 = 36 ∧ (∃ b18 : Nat, (A14.P p 0) = some b18 ∧ (A14.tg b18 = 9 ∧ (∃ R17 : xA → Prop, w_X9_number G b18 (10 : Int32) (A14.I b3 5) R17 A14 ∧ (∀ A17 : xA, xok G A17 → R17 A17 → (A17.tg p = 10 ∧ (∃ b22 : Nat, (A17.P p 0) = some b22 ∧ (A17.tg b22 = 9 ∧ (∃ R21 : xA → Prop, w_X9_service G b22 (6 : Int32) R21 A17 ∧ (∀ A21 : xA, xok G A21 → R21 A21 → (A21.tg p = 10 ∧ (∃ b26 : Nat, (A21.P p 0) = some b26 ∧ (A21.tg b26 = 9 ∧ (∃ R25 : xA → Prop, w_X9_over G b26 (A8.I b12 4) R25 A21 ∧ (∀ A25 : xA, xok G A25 → R25 A25 → (A25.tg p = 10 ∧ (∃ b30 : Nat, (A25.P p 0) = some b30 ∧ (A25.tg b30 = 9 ∧ (∃ R29 : xA → Prop, w_X9_move G b30 (27 : Int32) (30 : Int32) R29 A25 ∧ (∀ A29 : xA, xok G A29 → R29 A29 → (∃ L32 : Nat → Int32 → xA → Prop, (∃ n32 : Nat, L32 n32 (0 : Int32) A29) ∧ (∀ (n32 : Nat) (y32_4 : Int32) (A32 : xA), L32 n32 y32_4 A32 → A32.tg b3 = 36 ∧ (∃ b34 : Nat, (A32.P b3 9) = some b34 ∧ (A32.tg b34 = 201 ∧ ((((nI (A32.ln b34)) ≤ y32_4 → A32.tg p = 10 ∧ (∃ b37 : Nat, (A32.P b3 8) = some b37 ∧ (A32.tg b37 = 14 ∧ (∃ b39 : Nat, (A32.P p 7) = some b39 ∧ (A32.tg b39 = 200 ∧ (vp_in (A32.I b37 11) (A32.ln b39) ∧ (∃ b43 : Nat, (A32.P p 0) = some b43 ∧ (A32.tg b43 = 9 ∧ (∃ R42 : xA → Prop, w_X9_add_2 G b43 (239 : Int32) (A32.I b39 (ix (A32.I b37 11))) R42 A32 ∧ (∀ A42 : xA, xok G A42 → R42 A42 → (A42.tg p = 10 ∧ (∃ b47 : Nat, (A42.P p 0) = some b47 ∧ (A42.tg b47 = 9 ∧ (∃ R46 : xA → Prop, w_X9_two G b47 (0 : Int32) (27 : Int32) (27 : Int32) (-(A1.I b5 12)) R46 A42 ∧ (∀ A46 : xA, xok G A46 → R46 A46 → (A46.tg b3 = 36 ∧ ((((A46.I b3 1) < 0 → Q A46) ∧ (¬ (A46.I b3 1) < 0 → A46.tg p = 10 ∧ (∃ R50 : xA → Prop, w_X10_made G p (A46.I b3 1) (10 : Int32) R50 A46 ∧ (∀ A50 : xA, xok G A50 → R50 A50 → (Q A50)))))))))))))))))))))) ∧ (¬ (nI (A32.ln b34)) ≤ y32_4 → vp_in y32_4 (A32.ln b34) ∧ (A32.tg p = 10 ∧ (∃ R53 : xA → Prop, w_X10_bring G p (A32.L b34 (ix y32_4)) ((10 : Int32) + y32_4) R53 A32 ∧ (∀ A53 : xA, xok G A53 → R53 A53 → ((∃ q32 : Nat, q32 < n32 ∧ L32 q32 (y32_4 + (1 : Int32)) A53)))))))))))))))))))))))))))))))))))))))))))))))))
theorem m_X10_call (hG : xOK G) (hO : xHO G) {dp : Nat} {p : Nat} {x : Option Nat} {Q : xA → Prop} {A : xA} (h : w_X10_call G p x Q A) : MX G (dp + 8) kX10_call [.ref p, va_rf x] A (hV Q) := by
  unfold w_X10_call at h
  refine MX.of rfl (by cases x <;> exact Nat.le_of_ble_eq_true rfl) ?_
  refine X.lvs (lv' := [some (.ref p), some (va_rf x), none, none, none]) (by cases x <;> rfl) ?_
  refine X.xok (fun w0 => ?_)
  replace h := h w0
  refine x_aload_n dX10_call_0 rfl ?_
  obtain ⟨o2, h⟩ := h
  obtain ⟨R1, g1, h⟩ := h
  refine x_callV hG (Ky := kX10_turn) (As := []) dX10_call_1 o2 rfl lk_X10_212 me_X10_turn is_X10_turn se_X10_turn rfl rfl (Nat.le_of_ble_eq_true rfl) (MX.post (m_X10_turn hG hO g1) ?_)
  rintro _ A1 ⟨rfl, h1⟩
  refine X.xok (fun w1 => ?_)
  replace h := h A1 w1 h1
  change X _ _ _ _ A1 _ _ []
  refine x_aloadq_n dX10_call_4 rfl ?_
  obtain ⟨b3, e3, h⟩ := h
  rw [e3]
  obtain ⟨o4, h⟩ := h
  refine x_get (v := va_rf (A1.P b3 8)) hG dX10_call_5 f_X10_267_35 o4 rfl ?_
  obtain ⟨b5, e5, h⟩ := h
  rw [e5]
  obtain ⟨o6, h⟩ := h
  refine x_get (v := .int (A1.I b5 12)) hG dX10_call_8 f_X10_268_13 o6 rfl ?_
  refine x_istore_n dX10_call_11 (by decide) ?_
  refine x_aload_n dX10_call_12 rfl ?_
  obtain ⟨o7, h⟩ := h
  refine x_get (v := va_rf (A1.P p 0)) hG dX10_call_13 f_X10_15_9 o7 rfl ?_
  refine x_iconst_ (v := (0 : Int32)) dX10_call_16 (by decide) ?_
  refine x_bipush_ (v := (30 : Int32)) dX10_call_17 (by decide) ?_
  refine x_bipush_ (v := (27 : Int32)) dX10_call_19 (by decide) ?_
  refine x_iload_n dX10_call_21 rfl ?_
  obtain ⟨b9, e9, h⟩ := h
  rw [e9]
  obtain ⟨o10, h⟩ := h
  obtain ⟨R8, g8, h⟩ := h
  refine x_callV hG (Ky := kX9_two) (As := [.int (0 : Int32), .int (30 : Int32), .int (27 : Int32), .int (A1.I b5 12)]) dX10_call_22 o10 rfl lk_X10_131 me_X9_two is_X9_two se_X9_two rfl rfl (Nat.le_of_ble_eq_true rfl) (MX.post (m_X9_two hG hO g8) ?_)
  rintro _ A8 ⟨rfl, h1⟩
  refine X.xok (fun w8 => ?_)
  replace h := h A8 w8 h1
  change X _ _ _ _ A8 _ _ []
  refine x_aload_n dX10_call_25 rfl ?_
  obtain ⟨o11, h⟩ := h
  refine x_get (v := va_rf (A8.P p 0)) hG dX10_call_26 f_X10_15_9 o11 rfl ?_
  obtain ⟨b12, e12, h⟩ := h
  rw [e12]
  obtain ⟨o13, h⟩ := h
  refine x_get (v := .int (A8.I b12 4)) hG dX10_call_29 f_X10_110_8 o13 rfl ?_
  refine x_istore_n dX10_call_32 (by decide) ?_
  refine x_aload_n dX10_call_33 rfl ?_
  refine x_get (v := .ref b12) hG dX10_call_34 f_X10_15_9 o11 (congrArg va_rf e12) ?_
  refine x_iconst_ (v := (5 : Int32)) dX10_call_37 (by decide) ?_
  refine x_iconst_ (v := (4 : Int32)) dX10_call_38 (by decide) ?_
  refine x_bipush_ (v := (30 : Int32)) dX10_call_39 (by decide) ?_
  refine x_callS hG (Ky := kX9_branchWord) (As := [.int (5 : Int32), .int (4 : Int32), .int (30 : Int32)]) dX10_call_41 lk_X10_257 me_X9_branchWord st_X9_branchWord rfl rfl (Nat.le_of_ble_eq_true rfl) (MX.post (m_X9_branchWord hG) ?_)
  rintro _ _ ⟨rfl, rfl⟩
  change X _ _ _ _ _ _ _ (.int (f_X9_branchWord (5 : Int32) (4 : Int32) (30 : Int32)) :: _)
  obtain ⟨R14, g14, h⟩ := h
  refine x_callV hG (Ky := kX9_add) (As := [.int (f_X9_branchWord (5 : Int32) (4 : Int32) (30 : Int32))]) dX10_call_44 o13 rfl lk_X10_261 me_X9_add is_X9_add se_X9_add rfl rfl (Nat.le_of_ble_eq_true rfl) (MX.post (m_X9_add hG hO g14) ?_)
  rintro _ A14 ⟨rfl, h1⟩
  refine X.xok (fun w14 => ?_)
  replace h := h A14 w14 h1
  change X _ _ _ _ A14 _ _ []
  refine x_aload_n dX10_call_47 rfl ?_
  obtain ⟨o15, h⟩ := h
  refine x_get (v := va_rf (A14.P p 0)) hG dX10_call_48 f_X10_15_9 o15 rfl ?_
  refine x_bipush_ (v := (10 : Int32)) dX10_call_51 (by decide) ?_
  refine x_aload_n dX10_call_53 rfl ?_
  obtain ⟨o16, h⟩ := h
  refine x_get (v := .int (A14.I b3 5)) hG dX10_call_54 f_X10_226_35 o16 rfl ?_
  obtain ⟨b18, e18, h⟩ := h
  rw [e18]
  obtain ⟨o19, h⟩ := h
  obtain ⟨R17, g17, h⟩ := h
  refine x_callV hG (Ky := kX9_number) (As := [.int (10 : Int32), .int (A14.I b3 5)]) dX10_call_57 o19 rfl lk_X10_135 me_X9_number is_X9_number se_X9_number rfl rfl (Nat.le_of_ble_eq_true rfl) (MX.post (m_X9_number hG hO g17) ?_)
  rintro _ A17 ⟨rfl, h1⟩
  refine X.xok (fun w17 => ?_)
  replace h := h A17 w17 h1
  change X _ _ _ _ A17 _ _ []
  refine x_aload_n dX10_call_60 rfl ?_
  obtain ⟨o20, h⟩ := h
  refine x_get (v := va_rf (A17.P p 0)) hG dX10_call_61 f_X10_15_9 o20 rfl ?_
  refine x_bipush_ (v := (6 : Int32)) dX10_call_64 (by decide) ?_
  obtain ⟨b22, e22, h⟩ := h
  rw [e22]
  obtain ⟨o23, h⟩ := h
  obtain ⟨R21, g21, h⟩ := h
  refine x_callV hG (Ky := kX9_service) (As := [.int (6 : Int32)]) dX10_call_66 o23 rfl lk_X10_215 me_X9_service is_X9_service se_X9_service rfl rfl (Nat.le_of_ble_eq_true rfl) (MX.post (m_X9_service hG hO g21) ?_)
  rintro _ A21 ⟨rfl, h1⟩
  refine X.xok (fun w21 => ?_)
  replace h := h A21 w21 h1
  change X _ _ _ _ A21 _ _ []
  refine x_aload_n dX10_call_69 rfl ?_
  obtain ⟨o24, h⟩ := h
  refine x_get (v := va_rf (A21.P p 0)) hG dX10_call_70 f_X10_15_9 o24 rfl ?_
  refine x_iload_n dX10_call_73 rfl ?_
  obtain ⟨b26, e26, h⟩ := h
  rw [e26]
  obtain ⟨o27, h⟩ := h
  obtain ⟨R25, g25, h⟩ := h
  refine x_callV hG (Ky := kX9_over) (As := [.int (A8.I b12 4)]) dX10_call_74 o27 rfl lk_X10_264 me_X9_over is_X9_over se_X9_over rfl rfl (Nat.le_of_ble_eq_true rfl) (MX.post (m_X9_over hG hO g25) ?_)
  rintro _ A25 ⟨rfl, h1⟩
  refine X.xok (fun w25 => ?_)
  replace h := h A25 w25 h1
  change X _ _ _ _ A25 _ _ []
  refine x_aload_n dX10_call_77 rfl ?_
  obtain ⟨o28, h⟩ := h
  refine x_get (v := va_rf (A25.P p 0)) hG dX10_call_78 f_X10_15_9 o28 rfl ?_
  refine x_bipush_ (v := (27 : Int32)) dX10_call_81 (by decide) ?_
  refine x_bipush_ (v := (30 : Int32)) dX10_call_83 (by decide) ?_
  obtain ⟨b30, e30, h⟩ := h
  rw [e30]
  obtain ⟨o31, h⟩ := h
  obtain ⟨R29, g29, h⟩ := h
  refine x_callV hG (Ky := kX9_move) (As := [.int (27 : Int32), .int (30 : Int32)]) dX10_call_85 o31 rfl lk_X10_176 me_X9_move is_X9_move se_X9_move rfl rfl (Nat.le_of_ble_eq_true rfl) (MX.post (m_X9_move hG hO g29) ?_)
  rintro _ A29 ⟨rfl, h1⟩
  refine X.xok (fun w29 => ?_)
  replace h := h A29 w29 h1
  change X _ _ _ _ A29 _ _ []
  refine x_iconst_ (v := (0 : Int32)) dX10_call_88 (by decide) ?_
  refine x_istore dX10_call_89 (by decide) ?_
  obtain ⟨L32, ⟨n32, i32⟩, g32⟩ := h
  have kl32 : ∀ n32 : Nat, ∀ (y32_4 : Int32) (A32 : xA), L32 n32 y32_4 A32 → X G (dp + 8) kX10_call (hV Q) A32 91 [some (.ref p), some (.ref b3), some (.int (A1.I b5 12)), none, some (.int y32_4)] [] := by
    intro n32
    induction n32 using Nat.strongRecOn with
    | ind n32 ih32 =>
      intro y32_4 A32 h
      replace h := g32 n32 y32_4 A32 h
      refine x_iload dX10_call_91 rfl ?_
      refine x_aload_n dX10_call_93 rfl ?_
      obtain ⟨o33, h⟩ := h
      refine x_get (v := va_rf (A32.P b3 9)) hG dX10_call_94 f_X10_271_35 o33 rfl ?_
      obtain ⟨b34, e34, h⟩ := h
      rw [e34]
      obtain ⟨o35, h⟩ := h
      refine x_alen hG (j := 1) dX10_call_97 o35 ?_
      refine x_icmp_ge (tgt := 123) dX10_call_98 (by decide) (fun c98 => ?_) (fun c98 => ?_)
      · replace h := h.1 c98
        refine x_aload_n dX10_call_123 rfl ?_
        obtain ⟨o36, h⟩ := h
        refine x_get (v := va_rf (A32.P p 0)) hG dX10_call_124 f_X10_15_9 o36 rfl ?_
        refine x_sipush_ (v := (239 : Int32)) dX10_call_127 (by decide) ?_
        refine x_aload_n dX10_call_130 rfl ?_
        refine x_get (v := va_rf (A32.P p 7)) hG dX10_call_131 f_X10_9_9 o36 rfl ?_
        refine x_aload_n dX10_call_134 rfl ?_
        refine x_get (v := va_rf (A32.P b3 8)) hG dX10_call_135 f_X10_267_35 o33 rfl ?_
        obtain ⟨b37, e37, h⟩ := h
        rw [e37]
        obtain ⟨o38, h⟩ := h
        refine x_get (v := .int (A32.I b37 11)) hG dX10_call_138 f_X10_107_13 o38 rfl ?_
        obtain ⟨b39, e39, h⟩ := h
        rw [e39]
        obtain ⟨o40, h⟩ := h
        obtain ⟨o41, h⟩ := h
        refine x_iald hG dX10_call_141 o40 o41 ?_
        obtain ⟨b43, e43, h⟩ := h
        rw [e43]
        obtain ⟨o44, h⟩ := h
        obtain ⟨R42, g42, h⟩ := h
        refine x_callV hG (Ky := kX9_add_2) (As := [.int (239 : Int32), .int (A32.I b39 (ix (A32.I b37 11)))]) dX10_call_142 o44 rfl lk_X10_275 me_X9_add_2 is_X9_add_2 se_X9_add_2 rfl rfl (Nat.le_of_ble_eq_true rfl) (MX.post (m_X9_add_2 hG hO g42) ?_)
        rintro _ A42 ⟨rfl, h1⟩
        refine X.xok (fun w42 => ?_)
        replace h := h A42 w42 h1
        change X _ _ _ _ A42 _ _ []
        refine x_aload_n dX10_call_145 rfl ?_
        obtain ⟨o45, h⟩ := h
        refine x_get (v := va_rf (A42.P p 0)) hG dX10_call_146 f_X10_15_9 o45 rfl ?_
        refine x_iconst_ (v := (0 : Int32)) dX10_call_149 (by decide) ?_
        refine x_bipush_ (v := (27 : Int32)) dX10_call_150 (by decide) ?_
        refine x_bipush_ (v := (27 : Int32)) dX10_call_152 (by decide) ?_
        refine x_iload_n dX10_call_154 rfl ?_
        refine x_ineg dX10_call_155 ?_
        obtain ⟨b47, e47, h⟩ := h
        rw [e47]
        obtain ⟨o48, h⟩ := h
        obtain ⟨R46, g46, h⟩ := h
        refine x_callV hG (Ky := kX9_two) (As := [.int (0 : Int32), .int (27 : Int32), .int (27 : Int32), .int (-(A1.I b5 12))]) dX10_call_156 o48 rfl lk_X10_131 me_X9_two is_X9_two se_X9_two rfl rfl (Nat.le_of_ble_eq_true rfl) (MX.post (m_X9_two hG hO g46) ?_)
        rintro _ A46 ⟨rfl, h1⟩
        refine X.xok (fun w46 => ?_)
        replace h := h A46 w46 h1
        change X _ _ _ _ A46 _ _ []
        refine x_aload_n dX10_call_159 rfl ?_
        obtain ⟨o49, h⟩ := h
        refine x_get (v := .int (A46.I b3 1)) hG dX10_call_160 f_X10_186_35 o49 rfl ?_
        refine x_if_lt (tgt := 176) dX10_call_163 (by decide) (fun c163 => ?_) (fun c163 => ?_)
        · replace h := h.1 c163
          exact x_vret dX10_call_176 rfl ⟨rfl, h⟩
        · replace h := h.2 c163
          refine x_aload_n dX10_call_166 rfl ?_
          refine x_aload_n dX10_call_167 rfl ?_
          refine x_get (v := .int (A46.I b3 1)) hG dX10_call_168 f_X10_186_35 o49 rfl ?_
          refine x_bipush_ (v := (10 : Int32)) dX10_call_171 (by decide) ?_
          obtain ⟨o51, h⟩ := h
          obtain ⟨R50, g50, h⟩ := h
          refine x_callV hG (Ky := kX10_made) (As := [.int (A46.I b3 1), .int (10 : Int32)]) dX10_call_173 o51 rfl lk_X10_200 me_X10_made is_X10_made se_X10_made rfl rfl (Nat.le_of_ble_eq_true rfl) (MX.post (m_X10_made hG hO g50) ?_)
          rintro _ A50 ⟨rfl, h1⟩
          refine X.xok (fun w50 => ?_)
          replace h := h A50 w50 h1
          change X _ _ _ _ A50 _ _ []
          exact x_vret dX10_call_176 rfl ⟨rfl, h⟩
      · replace h := h.2 c98
        refine x_aload_n dX10_call_101 rfl ?_
        refine x_aload_n dX10_call_102 rfl ?_
        refine x_get (v := .ref b34) hG dX10_call_103 f_X10_271_35 o33 (congrArg va_rf e34) ?_
        refine x_iload dX10_call_106 rfl ?_
        obtain ⟨o52, h⟩ := h
        refine x_lald hG dX10_call_108 o35 o52 ?_
        refine x_bipush_ (v := (10 : Int32)) dX10_call_109 (by decide) ?_
        refine x_iload dX10_call_111 rfl ?_
        refine x_iadd dX10_call_113 ?_
        obtain ⟨o54, h⟩ := h
        obtain ⟨R53, g53, h⟩ := h
        refine x_callV hG (Ky := kX10_bring) (As := [.long (A32.L b34 (ix y32_4)), .int ((10 : Int32) + y32_4)]) dX10_call_114 o54 rfl lk_X10_196 me_X10_bring is_X10_bring se_X10_bring rfl rfl (Nat.le_of_ble_eq_true rfl) (MX.post (m_X10_bring hG hO g53) ?_)
        rintro _ A53 ⟨rfl, h1⟩
        refine X.xok (fun w53 => ?_)
        replace h := h A53 w53 h1
        change X _ _ _ _ A53 _ _ []
        refine x_iinc (v := (y32_4 + (1 : Int32))) dX10_call_117 rfl rfl (by decide) ?_
        refine x_goto (tgt := 91) dX10_call_120 (by decide) ?_
        obtain ⟨q32, l32, h⟩ := h
        change X _ _ _ _ _ _ [some (.ref p), some (.ref b3), some (.int (A1.I b5 12)), none, some (.int (y32_4 + (1 : Int32)))] []
        exact X.weak (xle_c rfl (xle_c rfl (xle_c rfl (xle_n (xle_c rfl xle_nil))))) (ih32 q32 l32 (y32_4 + (1 : Int32)) A53 h)
  change X _ _ _ _ _ _ [some (.ref p), some (.ref b3), some (.int (A1.I b5 12)), some (.int (A8.I b12 4)), some (.int (0 : Int32))] []
  exact X.weak (xle_c rfl (xle_c rfl (xle_c rfl (xle_n (xle_c rfl xle_nil))))) (kl32 n32 (0 : Int32) A29 i32)
def w_X10_zero (G : xG) (p : Nat) (s : Option Nat) (Q : xA → Prop) (A : xA) : Prop := xok G A → A.tg p = 10 ∧ (∃ b2 : Nat, s = some b2 ∧ (A.tg b2 = 33 ∧ (∃ b5 : Nat, (A.P p 0) = some b5 ∧ (A.tg b5 = 9 ∧ (∃ R4 : xA → Prop, w_X9_two G b5 (0 : Int32) (30 : Int32) (2 : Int32) ((4 : Int32) * (A.I b2 2)) R4 A ∧ (∀ A4 : xA, xok G A4 → R4 A4 → (A4.tg p = 10 ∧ (A4.tg b2 = 33 ∧ (∃ b10 : Nat, (A4.P p 0) = some b10 ∧ (A4.tg b10 = 9 ∧ (∃ R9 : xA → Prop, w_X9_number G b10 (31 : Int32) (f_X0_wordsOf (A4.I b2 3) (A4.I b2 4)) R9 A4 ∧ (∀ A9 : xA, xok G A9 → R9 A9 → (A9.tg p = 10 ∧ (∃ b14 : Nat, (A9.P p 0) = some b14 ∧ (A9.tg b14 = 9 ∧ (∃ R13 : xA → Prop, w_X9_store G b14 (2 : Int32) (0 : Int32) (30 : Int32) (0 : Int32) R13 A9 ∧ (∀ A13 : xA, xok G A13 → R13 A13 → (A13.tg p = 10 ∧ (∃ b18 : Nat, (A13.P p 0) = some b18 ∧ (A13.tg b18 = 9 ∧ (∃ R17 : xA → Prop, w_X9_two G b18 (0 : Int32) (30 : Int32) (30 : Int32) (4 : Int32) R17 A13 ∧ (∀ A17 : xA, xok G A17 → R17 A17 → (A17.tg p = 10 ∧ (∃ b22 : Nat, (A17.P p 0) = some b22 ∧ (A17.tg b22 = 9 ∧ (∃ R21 : xA → Prop, w_X9_two G b22 (0 : Int32) (31 : Int32) (31 : Int32) (-1 : Int32) R21 A17 ∧ (∀ A21 : xA, xok G A21 → R21 A21 → (A21.tg p = 10 ∧ (∃ b26 : Nat, (A21.P p 0) = some b26 ∧ (A21.tg b26 = 9 ∧ (∃ R25 : xA → Prop, w_X9_add G b26 ((f_X9_branchWord (1 : Int32) (31 : Int32) (0 : Int32)) ||| (f_X9_branch (-12 : Int32))) R25 A21 ∧ (∀ A25 : xA, xok G A25 → R25 A25 → (Q A25)))))))))))))))))))))))))))))))))
theorem m_X10_zero (hG : xOK G) (hO : xHO G) {dp : Nat} {p : Nat} {s : Option Nat} {Q : xA → Prop} {A : xA} (h : w_X10_zero G p s Q A) : MX G (dp + 5) kX10_zero [.ref p, va_rf s] A (hV Q) := by
  unfold w_X10_zero at h
  refine MX.of rfl (by cases s <;> exact Nat.le_of_ble_eq_true rfl) ?_
  refine X.lvs (lv' := [some (.ref p), some (va_rf s)]) (by cases s <;> rfl) ?_
  refine X.xok (fun w0 => ?_)
  replace h := h w0
  refine x_aload_n dX10_zero_0 rfl ?_
  obtain ⟨o1, h⟩ := h
  refine x_get (v := va_rf (A.P p 0)) hG dX10_zero_1 f_X10_15_9 o1 rfl ?_
  refine x_iconst_ (v := (0 : Int32)) dX10_zero_4 (by decide) ?_
  refine x_bipush_ (v := (30 : Int32)) dX10_zero_5 (by decide) ?_
  refine x_iconst_ (v := (2 : Int32)) dX10_zero_7 (by decide) ?_
  refine x_iconst_ (v := (4 : Int32)) dX10_zero_8 (by decide) ?_
  refine x_aloadq_n dX10_zero_9 rfl ?_
  obtain ⟨b2, e2, h⟩ := h
  rw [e2]
  obtain ⟨o3, h⟩ := h
  refine x_get (v := .int (A.I b2 2)) hG dX10_zero_10 f_X10_247_32 o3 rfl ?_
  refine x_imul dX10_zero_13 ?_
  obtain ⟨b5, e5, h⟩ := h
  rw [e5]
  obtain ⟨o6, h⟩ := h
  obtain ⟨R4, g4, h⟩ := h
  refine x_callV hG (Ky := kX9_two) (As := [.int (0 : Int32), .int (30 : Int32), .int (2 : Int32), .int ((4 : Int32) * (A.I b2 2))]) dX10_zero_14 o6 rfl lk_X10_131 me_X9_two is_X9_two se_X9_two rfl rfl (Nat.le_of_ble_eq_true rfl) (MX.post (m_X9_two hG hO g4) ?_)
  rintro _ A4 ⟨rfl, h1⟩
  refine X.xok (fun w4 => ?_)
  replace h := h A4 w4 h1
  change X _ _ _ _ A4 _ _ []
  refine x_aload_n dX10_zero_17 rfl ?_
  obtain ⟨o7, h⟩ := h
  refine x_get (v := va_rf (A4.P p 0)) hG dX10_zero_18 f_X10_15_9 o7 rfl ?_
  refine x_bipush_ (v := (31 : Int32)) dX10_zero_21 (by decide) ?_
  refine x_aload_n dX10_zero_23 rfl ?_
  obtain ⟨o8, h⟩ := h
  refine x_get (v := .int (A4.I b2 3)) hG dX10_zero_24 f_X10_277_32 o8 rfl ?_
  refine x_aload_n dX10_zero_27 rfl ?_
  refine x_get (v := .int (A4.I b2 4)) hG dX10_zero_28 f_X10_280_32 o8 rfl ?_
  refine x_callS hG (Ky := kX0_wordsOf) (As := [.int (A4.I b2 3), .int (A4.I b2 4)]) dX10_zero_31 lk_X10_282 me_X0_wordsOf st_X0_wordsOf rfl rfl (by simp only [List.append_eq, List.nil_append, List.map_cons, va_rf_cat]; exact Nat.le_of_ble_eq_true rfl) (MX.post (m_X0_wordsOf hG pp_X0_wordsOf) ?_)
  rintro _ _ ⟨rfl, rfl⟩
  change X _ _ _ _ _ _ _ (.int (f_X0_wordsOf (A4.I b2 3) (A4.I b2 4)) :: _)
  obtain ⟨b10, e10, h⟩ := h
  rw [e10]
  obtain ⟨o11, h⟩ := h
  obtain ⟨R9, g9, h⟩ := h
  refine x_callV hG (Ky := kX9_number) (As := [.int (31 : Int32), .int (f_X0_wordsOf (A4.I b2 3) (A4.I b2 4))]) dX10_zero_34 o11 rfl lk_X10_135 me_X9_number is_X9_number se_X9_number rfl rfl (Nat.le_of_ble_eq_true rfl) (MX.post (m_X9_number hG hO g9) ?_)
  rintro _ A9 ⟨rfl, h1⟩
  refine X.xok (fun w9 => ?_)
  replace h := h A9 w9 h1
  change X _ _ _ _ A9 _ _ []
  refine x_aload_n dX10_zero_37 rfl ?_
  obtain ⟨o12, h⟩ := h
  refine x_get (v := va_rf (A9.P p 0)) hG dX10_zero_38 f_X10_15_9 o12 rfl ?_
  refine x_iconst_ (v := (2 : Int32)) dX10_zero_41 (by decide) ?_
  refine x_iconst_ (v := (0 : Int32)) dX10_zero_42 (by decide) ?_
  refine x_bipush_ (v := (30 : Int32)) dX10_zero_43 (by decide) ?_
  refine x_iconst_ (v := (0 : Int32)) dX10_zero_45 (by decide) ?_
  obtain ⟨b14, e14, h⟩ := h
  rw [e14]
  obtain ⟨o15, h⟩ := h
  obtain ⟨R13, g13, h⟩ := h
  refine x_callV hG (Ky := kX9_store) (As := [.int (2 : Int32), .int (0 : Int32), .int (30 : Int32), .int (0 : Int32)]) dX10_zero_46 o15 rfl lk_X10_156 me_X9_store is_X9_store se_X9_store rfl rfl (Nat.le_of_ble_eq_true rfl) (MX.post (m_X9_store hG hO g13) ?_)
  rintro _ A13 ⟨rfl, h1⟩
  refine X.xok (fun w13 => ?_)
  replace h := h A13 w13 h1
  change X _ _ _ _ A13 _ _ []
  refine x_aload_n dX10_zero_49 rfl ?_
  obtain ⟨o16, h⟩ := h
  refine x_get (v := va_rf (A13.P p 0)) hG dX10_zero_50 f_X10_15_9 o16 rfl ?_
  refine x_iconst_ (v := (0 : Int32)) dX10_zero_53 (by decide) ?_
  refine x_bipush_ (v := (30 : Int32)) dX10_zero_54 (by decide) ?_
  refine x_bipush_ (v := (30 : Int32)) dX10_zero_56 (by decide) ?_
  refine x_iconst_ (v := (4 : Int32)) dX10_zero_58 (by decide) ?_
  obtain ⟨b18, e18, h⟩ := h
  rw [e18]
  obtain ⟨o19, h⟩ := h
  obtain ⟨R17, g17, h⟩ := h
  refine x_callV hG (Ky := kX9_two) (As := [.int (0 : Int32), .int (30 : Int32), .int (30 : Int32), .int (4 : Int32)]) dX10_zero_59 o19 rfl lk_X10_131 me_X9_two is_X9_two se_X9_two rfl rfl (Nat.le_of_ble_eq_true rfl) (MX.post (m_X9_two hG hO g17) ?_)
  rintro _ A17 ⟨rfl, h1⟩
  refine X.xok (fun w17 => ?_)
  replace h := h A17 w17 h1
  change X _ _ _ _ A17 _ _ []
  refine x_aload_n dX10_zero_62 rfl ?_
  obtain ⟨o20, h⟩ := h
  refine x_get (v := va_rf (A17.P p 0)) hG dX10_zero_63 f_X10_15_9 o20 rfl ?_
  refine x_iconst_ (v := (0 : Int32)) dX10_zero_66 (by decide) ?_
  refine x_bipush_ (v := (31 : Int32)) dX10_zero_67 (by decide) ?_
  refine x_bipush_ (v := (31 : Int32)) dX10_zero_69 (by decide) ?_
  refine x_iconst_ (v := (-1 : Int32)) dX10_zero_71 (by decide) ?_
  obtain ⟨b22, e22, h⟩ := h
  rw [e22]
  obtain ⟨o23, h⟩ := h
  obtain ⟨R21, g21, h⟩ := h
  refine x_callV hG (Ky := kX9_two) (As := [.int (0 : Int32), .int (31 : Int32), .int (31 : Int32), .int (-1 : Int32)]) dX10_zero_72 o23 rfl lk_X10_131 me_X9_two is_X9_two se_X9_two rfl rfl (Nat.le_of_ble_eq_true rfl) (MX.post (m_X9_two hG hO g21) ?_)
  rintro _ A21 ⟨rfl, h1⟩
  refine X.xok (fun w21 => ?_)
  replace h := h A21 w21 h1
  change X _ _ _ _ A21 _ _ []
  refine x_aload_n dX10_zero_75 rfl ?_
  obtain ⟨o24, h⟩ := h
  refine x_get (v := va_rf (A21.P p 0)) hG dX10_zero_76 f_X10_15_9 o24 rfl ?_
  refine x_iconst_ (v := (1 : Int32)) dX10_zero_79 (by decide) ?_
  refine x_bipush_ (v := (31 : Int32)) dX10_zero_80 (by decide) ?_
  refine x_iconst_ (v := (0 : Int32)) dX10_zero_82 (by decide) ?_
  refine x_callS hG (Ky := kX9_branchWord) (As := [.int (1 : Int32), .int (31 : Int32), .int (0 : Int32)]) dX10_zero_83 lk_X10_257 me_X9_branchWord st_X9_branchWord rfl rfl (by simp only [List.append_eq, List.nil_append, List.map_cons, va_rf_cat]; exact Nat.le_of_ble_eq_true rfl) (MX.post (m_X9_branchWord hG) ?_)
  rintro _ _ ⟨rfl, rfl⟩
  change X _ _ _ _ _ _ _ (.int (f_X9_branchWord (1 : Int32) (31 : Int32) (0 : Int32)) :: _)
  refine x_bipush_ (v := (-12 : Int32)) dX10_zero_86 (by decide) ?_
  refine x_callS hG (Ky := kX9_branch) (As := [.int (-12 : Int32)]) dX10_zero_88 lk_X10_286 me_X9_branch st_X9_branch rfl rfl (by simp only [List.append_eq, List.nil_append, List.map_cons, va_rf_cat]; exact Nat.le_of_ble_eq_true rfl) (MX.post (m_X9_branch hG) ?_)
  rintro _ _ ⟨rfl, rfl⟩
  change X _ _ _ _ _ _ _ (.int (f_X9_branch (-12 : Int32)) :: _)
  refine x_ior dX10_zero_91 ?_
  obtain ⟨b26, e26, h⟩ := h
  rw [e26]
  obtain ⟨o27, h⟩ := h
  obtain ⟨R25, g25, h⟩ := h
  refine x_callV hG (Ky := kX9_add) (As := [.int ((f_X9_branchWord (1 : Int32) (31 : Int32) (0 : Int32)) ||| (f_X9_branch (-12 : Int32)))]) dX10_zero_92 o27 rfl lk_X10_261 me_X9_add is_X9_add se_X9_add rfl rfl (Nat.le_of_ble_eq_true rfl) (MX.post (m_X9_add hG hO g25) ?_)
  rintro _ A25 ⟨rfl, h1⟩
  refine X.xok (fun w25 => ?_)
  replace h := h A25 w25 h1
  change X _ _ _ _ A25 _ _ []
  exact x_vret dX10_zero_95 rfl ⟨rfl, h⟩
def w_X10_act (G : xG) (p : Nat) (x : Option Nat) (Q : xA → Prop) (A : xA) : Prop := xok G A → ∃ b1 : Nat, x = some b1 ∧ (A.tg b1 = 36 ∧ ((((f_X0_below (A.I b1 0)) = 0 → ((((A.I b1 0) = (20 : Int32)) → A.tg p = 10 ∧ (∃ b5 : Nat, (A.P p 1) = some b5 ∧ (A.tg b5 = 11 ∧ (∃ b7 : Nat, (A.P b5 10) = some b7 ∧ (A.tg b7 = 200 ∧ (vp_in (A.I b1 1) (A.ln b7) ∧ ((((A.I b7 (ix (A.I b1 1))) < 0 → ∃ R10 : Int32 → xA → Prop, w_X10_from G p (A.L b1 2) (31 : Int32) R10 A ∧ (∀ (v10 : Int32) (A10 : xA), xok G A10 → R10 v10 A10 → (A10.tg p = 10 ∧ (∃ R11 : xA → Prop, w_X10_made G p (A.I b1 1) v10 R11 A10 ∧ (∀ A11 : xA, xok G A11 → R11 A11 → (Q A11)))))) ∧ (¬ (A.I b7 (ix (A.I b1 1))) < 0 → ∃ R13 : Int32 → xA → Prop, w_X10_into G p (A.I b1 1) R13 A ∧ (∀ (v13 : Int32) (A13 : xA), xok G A13 → R13 v13 A13 → (A13.tg p = 10 ∧ (∃ R14 : xA → Prop, w_X10_bring G p (A.L b1 2) v13 R14 A13 ∧ (∀ A14 : xA, xok G A14 → R14 A14 → (Q A14)))))))))))))) ∧ (((A.I b1 0) = (21 : Int32) ∨ (A.I b1 0) = (22 : Int32) ∨ (A.I b1 0) = (23 : Int32) ∨ (A.I b1 0) = (24 : Int32)) → A.tg p = 10 ∧ (∃ R16 : xA → Prop, w_X10_memory G p (some b1) R16 A ∧ (∀ A16 : xA, xok G A16 → R16 A16 → (Q A16)))) ∧ (((A.I b1 0) = (25 : Int32)) → A.tg p = 10 ∧ (∃ R18 : xA → Prop, w_X10_check G p (some b1) R18 A ∧ (∀ A18 : xA, xok G A18 → R18 A18 → (Q A18)))) ∧ (((A.I b1 0) = (26 : Int32)) → A.tg p = 10 ∧ (∃ R20 : xA → Prop, w_X10_call G p (some b1) R20 A ∧ (∀ A20 : xA, xok G A20 → R20 A20 → (Q A20)))) ∧ (((A.I b1 0) = (27 : Int32)) → A.tg p = 10 ∧ (∃ R22 : xA → Prop, w_X10_turn G p R22 A ∧ (∀ A22 : xA, xok G A22 → R22 A22 → (Q A22)))) ∧ (((A.I b1 0) = (28 : Int32)) → A.tg p = 10 ∧ (∃ R24 : xA → Prop, w_X10_bring G p (A.L b1 2) (10 : Int32) R24 A ∧ (∀ A24 : xA, xok G A24 → R24 A24 → (A24.tg p = 10 ∧ (∃ b28 : Nat, (A24.P p 0) = some b28 ∧ (A24.tg b28 = 9 ∧ (∃ R27 : xA → Prop, w_X9_service G b28 (2 : Int32) R27 A24 ∧ (∀ A27 : xA, xok G A27 → R27 A27 → (Q A27))))))))) ∧ (((A.I b1 0) = (29 : Int32)) → A.tg p = 10 ∧ (∃ b32 : Nat, (A.P p 0) = some b32 ∧ (A.tg b32 = 9 ∧ (∃ R31 : xA → Prop, w_X9_service G b32 (3 : Int32) R31 A ∧ (∀ A31 : xA, xok G A31 → R31 A31 → (A31.tg b1 = 36 ∧ ((((A31.I b1 1) < 0 → Q A31) ∧ (¬ (A31.I b1 1) < 0 → A31.tg p = 10 ∧ (∃ R35 : xA → Prop, w_X10_made G p (A31.I b1 1) (10 : Int32) R35 A31 ∧ (∀ A35 : xA, xok G A35 → R35 A35 → (Q A35)))))))))))) ∧ (((A.I b1 0) = (30 : Int32)) → A.tg p = 10 ∧ (∃ R37 : xA → Prop, w_X10_bring G p (A.L b1 2) (10 : Int32) R37 A ∧ (∀ A37 : xA, xok G A37 → R37 A37 → (A37.tg p = 10 ∧ (∃ b41 : Nat, (A37.P p 0) = some b41 ∧ (A37.tg b41 = 9 ∧ (∃ R40 : xA → Prop, w_X9_service G b41 (4 : Int32) R40 A37 ∧ (∀ A40 : xA, xok G A40 → R40 A40 → (Q A40))))))))) ∧ (((A.I b1 0) = (31 : Int32)) → A.tg p = 10 ∧ (∃ R43 : xA → Prop, w_X10_zero G p (A.P b1 7) R43 A ∧ (∀ A43 : xA, xok G A43 → R43 A43 → (Q A43)))) ∧ (((A.I b1 0) = (32 : Int32)) → A.tg p = 10 ∧ (∃ R46 : Int32 → xA → Prop, w_X10_into G p (A.I b1 1) R46 A ∧ (∀ (v46 : Int32) (A46 : xA), xok G A46 → R46 v46 A46 → (A46.tg b1 = 36 ∧ (∃ b49 : Nat, (A.P p 0) = some b49 ∧ (A46.tg b49 = 9 ∧ (∃ R48 : xA → Prop, w_X9_two G b49 (0 : Int32) v46 (2 : Int32) (A46.I b1 5) R48 A46 ∧ (∀ A48 : xA, xok G A48 → R48 A48 → (A48.tg b1 = 36 ∧ (A48.tg p = 10 ∧ (∃ R52 : Int32 → xA → Prop, w_X10_into G p (A48.I b1 1) R52 A48 ∧ (∀ (v52 : Int32) (A52 : xA), xok G A52 → R52 v52 A52 → (A52.tg p = 10 ∧ (∃ R54 : xA → Prop, w_X10_made G p (A48.I b1 1) v52 R54 A52 ∧ (∀ A54 : xA, xok G A54 → R54 A54 → (Q A54)))))))))))))))) ∧ ((¬ (A.I b1 0) = (20 : Int32) ∧ ¬ (A.I b1 0) = (21 : Int32) ∧ ¬ (A.I b1 0) = (22 : Int32) ∧ ¬ (A.I b1 0) = (23 : Int32) ∧ ¬ (A.I b1 0) = (24 : Int32) ∧ ¬ (A.I b1 0) = (25 : Int32) ∧ ¬ (A.I b1 0) = (26 : Int32) ∧ ¬ (A.I b1 0) = (27 : Int32) ∧ ¬ (A.I b1 0) = (28 : Int32) ∧ ¬ (A.I b1 0) = (29 : Int32) ∧ ¬ (A.I b1 0) = (30 : Int32) ∧ ¬ (A.I b1 0) = (31 : Int32) ∧ ¬ (A.I b1 0) = (32 : Int32)) → (((A.I b1 1) < 0 → Q A) ∧ (¬ (A.I b1 1) < 0 → A.tg p = 10 ∧ (∃ R56 : xA → Prop, w_X10_made G p (A.I b1 1) ((10 : Int32) + (A.I b1 5)) R56 A ∧ (∀ A56 : xA, xok G A56 → R56 A56 → (Q A56)))))))) ∧ (¬ (f_X0_below (A.I b1 0)) = 0 → A.tg p = 10 ∧ (∃ R58 : xA → Prop, w_X10_sum G p (some b1) R58 A ∧ (∀ A58 : xA, xok G A58 → R58 A58 → (Q A58)))))))
theorem m_X10_act (hG : xOK G) (hO : xHO G) {dp : Nat} {p : Nat} {x : Option Nat} {Q : xA → Prop} {A : xA} (h : w_X10_act G p x Q A) : MX G (dp + 9) kX10_act [.ref p, va_rf x] A (hV Q) := by
  unfold w_X10_act at h
  refine MX.of rfl (by cases x <;> exact Nat.le_of_ble_eq_true rfl) ?_
  refine X.lvs (lv' := [some (.ref p), some (va_rf x)]) (by cases x <;> rfl) ?_
  refine X.xok (fun w0 => ?_)
  replace h := h w0
  refine x_aloadq_n dX10_act_0 rfl ?_
  obtain ⟨b1, e1, h⟩ := h
  rw [e1]
  obtain ⟨o2, h⟩ := h
  refine x_get (v := .int (A.I b1 0)) hG dX10_act_1 f_X10_82_35 o2 rfl ?_
  refine x_callS hG (Ky := kX0_below) (As := [.int (A.I b1 0)]) dX10_act_4 lk_X10_179 me_X0_below st_X0_below rfl rfl (Nat.le_of_ble_eq_true rfl) (MX.post (m_X0_below hG) ?_)
  rintro _ _ ⟨rfl, rfl⟩
  change X _ _ _ _ _ _ _ (.int (f_X0_below (A.I b1 0)) :: _)
  refine x_if_eq (tgt := 16) dX10_act_7 (by decide) (fun c7 => ?_) (fun c7 => ?_)
  · replace h := h.1 c7
    refine x_aload_n dX10_act_16 rfl ?_
    refine x_get (v := .int (A.I b1 0)) hG dX10_act_17 f_X10_82_35 o2 rfl ?_
    have kt3_0 : ((A.I b1 0) = (20 : Int32)) → X G (dp + 9) kX10_act (hV Q) A 88 [some (.ref p), some (.ref b1)] [] := by
      intro c20
      replace h := h.1 c20
      refine x_aload_n dX10_act_88 rfl ?_
      obtain ⟨o4, h⟩ := h
      refine x_get (v := va_rf (A.P p 1)) hG dX10_act_89 f_X10_24_9 o4 rfl ?_
      obtain ⟨b5, e5, h⟩ := h
      rw [e5]
      obtain ⟨o6, h⟩ := h
      refine x_get (v := va_rf (A.P b5 10)) hG dX10_act_92 f_X10_88_10 o6 rfl ?_
      refine x_aload_n dX10_act_95 rfl ?_
      refine x_get (v := .int (A.I b1 1)) hG dX10_act_96 f_X10_186_35 o2 rfl ?_
      obtain ⟨b7, e7, h⟩ := h
      rw [e7]
      obtain ⟨o8, h⟩ := h
      obtain ⟨o9, h⟩ := h
      refine x_iald hG dX10_act_99 o8 o9 ?_
      refine x_if_lt (tgt := 122) dX10_act_100 (by decide) (fun c100 => ?_) (fun c100 => ?_)
      · replace h := h.1 c100
        refine x_aload_n dX10_act_122 rfl ?_
        refine x_aload_n dX10_act_123 rfl ?_
        refine x_get (v := .int (A.I b1 1)) hG dX10_act_124 f_X10_186_35 o2 rfl ?_
        refine x_aload_n dX10_act_127 rfl ?_
        refine x_aload_n dX10_act_128 rfl ?_
        refine x_get (v := .long (A.L b1 2)) hG dX10_act_129 f_X10_189_35 o2 rfl ?_
        refine x_bipush_ (v := (31 : Int32)) dX10_act_132 (by decide) ?_
        obtain ⟨R10, g10, h⟩ := h
        refine x_callV hG (Ky := kX10_from) (As := [.long (A.L b1 2), .int (31 : Int32)]) dX10_act_134 o4 rfl lk_X10_172 me_X10_from is_X10_from se_X10_from rfl rfl (Nat.le_of_ble_eq_true rfl) (MX.post (m_X10_from hG hO g10) ?_)
        rintro _ A10 ⟨v10, rfl, h1⟩
        refine X.xok (fun w10 => ?_)
        replace h := h v10 A10 w10 h1
        change X _ _ _ _ A10 _ _ [.int v10, .int (A.I b1 1), .ref p]
        obtain ⟨o12, h⟩ := h
        obtain ⟨R11, g11, h⟩ := h
        refine x_callV hG (Ky := kX10_made) (As := [.int (A.I b1 1), .int v10]) dX10_act_137 o12 rfl lk_X10_200 me_X10_made is_X10_made se_X10_made rfl rfl (Nat.le_of_ble_eq_true rfl) (MX.post (m_X10_made hG hO g11) ?_)
        rintro _ A11 ⟨rfl, h1⟩
        refine X.xok (fun w11 => ?_)
        replace h := h A11 w11 h1
        change X _ _ _ _ A11 _ _ []
        refine x_goto (tgt := 317) dX10_act_140 (by decide) ?_
        exact x_vret dX10_act_317 rfl ⟨rfl, h⟩
      · replace h := h.2 c100
        refine x_aload_n dX10_act_103 rfl ?_
        refine x_aload_n dX10_act_104 rfl ?_
        refine x_get (v := .long (A.L b1 2)) hG dX10_act_105 f_X10_189_35 o2 rfl ?_
        refine x_aload_n dX10_act_108 rfl ?_
        refine x_aload_n dX10_act_109 rfl ?_
        refine x_get (v := .int (A.I b1 1)) hG dX10_act_110 f_X10_186_35 o2 rfl ?_
        obtain ⟨R13, g13, h⟩ := h
        refine x_callV hG (Ky := kX10_into) (As := [.int (A.I b1 1)]) dX10_act_113 o4 rfl lk_X10_193 me_X10_into is_X10_into se_X10_into rfl rfl (Nat.le_of_ble_eq_true rfl) (MX.post (m_X10_into hG hO g13) ?_)
        rintro _ A13 ⟨v13, rfl, h1⟩
        refine X.xok (fun w13 => ?_)
        replace h := h v13 A13 w13 h1
        change X _ _ _ _ A13 _ _ [.int v13, .long (A.L b1 2), .ref p]
        obtain ⟨o15, h⟩ := h
        obtain ⟨R14, g14, h⟩ := h
        refine x_callV hG (Ky := kX10_bring) (As := [.long (A.L b1 2), .int v13]) dX10_act_116 o15 rfl lk_X10_196 me_X10_bring is_X10_bring se_X10_bring rfl rfl (Nat.le_of_ble_eq_true rfl) (MX.post (m_X10_bring hG hO g14) ?_)
        rintro _ A14 ⟨rfl, h1⟩
        refine X.xok (fun w14 => ?_)
        replace h := h A14 w14 h1
        change X _ _ _ _ A14 _ _ []
        refine x_goto (tgt := 317) dX10_act_119 (by decide) ?_
        exact x_vret dX10_act_317 rfl ⟨rfl, h⟩
    have kt3_1 : ((A.I b1 0) = (21 : Int32) ∨ (A.I b1 0) = (22 : Int32) ∨ (A.I b1 0) = (23 : Int32) ∨ (A.I b1 0) = (24 : Int32)) → X G (dp + 9) kX10_act (hV Q) A 143 [some (.ref p), some (.ref b1)] [] := by
      intro c20
      replace h := h.2.1 c20
      refine x_aload_n dX10_act_143 rfl ?_
      refine x_aload_n dX10_act_144 rfl ?_
      obtain ⟨o17, h⟩ := h
      obtain ⟨R16, g16, h⟩ := h
      refine x_callV hG (Ky := kX10_memory) (As := [.ref b1]) dX10_act_145 o17 rfl lk_X10_203 me_X10_memory is_X10_memory se_X10_memory rfl rfl (Nat.le_of_ble_eq_true rfl) (MX.post (m_X10_memory hG hO g16) ?_)
      rintro _ A16 ⟨rfl, h1⟩
      refine X.xok (fun w16 => ?_)
      replace h := h A16 w16 h1
      change X _ _ _ _ A16 _ _ []
      refine x_goto (tgt := 317) dX10_act_148 (by decide) ?_
      exact x_vret dX10_act_317 rfl ⟨rfl, h⟩
    have kt3_2 : ((A.I b1 0) = (25 : Int32)) → X G (dp + 9) kX10_act (hV Q) A 151 [some (.ref p), some (.ref b1)] [] := by
      intro c20
      replace h := h.2.2.1 c20
      refine x_aload_n dX10_act_151 rfl ?_
      refine x_aload_n dX10_act_152 rfl ?_
      obtain ⟨o19, h⟩ := h
      obtain ⟨R18, g18, h⟩ := h
      refine x_callV hG (Ky := kX10_check) (As := [.ref b1]) dX10_act_153 o19 rfl lk_X10_206 me_X10_check is_X10_check se_X10_check rfl rfl (Nat.le_of_ble_eq_true rfl) (MX.post (m_X10_check hG hO g18) ?_)
      rintro _ A18 ⟨rfl, h1⟩
      refine X.xok (fun w18 => ?_)
      replace h := h A18 w18 h1
      change X _ _ _ _ A18 _ _ []
      refine x_goto (tgt := 317) dX10_act_156 (by decide) ?_
      exact x_vret dX10_act_317 rfl ⟨rfl, h⟩
    have kt3_3 : ((A.I b1 0) = (26 : Int32)) → X G (dp + 9) kX10_act (hV Q) A 159 [some (.ref p), some (.ref b1)] [] := by
      intro c20
      replace h := h.2.2.2.1 c20
      refine x_aload_n dX10_act_159 rfl ?_
      refine x_aload_n dX10_act_160 rfl ?_
      obtain ⟨o21, h⟩ := h
      obtain ⟨R20, g20, h⟩ := h
      refine x_callV hG (Ky := kX10_call) (As := [.ref b1]) dX10_act_161 o21 rfl lk_X10_209 me_X10_call is_X10_call se_X10_call rfl rfl (Nat.le_of_ble_eq_true rfl) (MX.post (m_X10_call hG hO g20) ?_)
      rintro _ A20 ⟨rfl, h1⟩
      refine X.xok (fun w20 => ?_)
      replace h := h A20 w20 h1
      change X _ _ _ _ A20 _ _ []
      refine x_goto (tgt := 317) dX10_act_164 (by decide) ?_
      exact x_vret dX10_act_317 rfl ⟨rfl, h⟩
    have kt3_4 : ((A.I b1 0) = (27 : Int32)) → X G (dp + 9) kX10_act (hV Q) A 167 [some (.ref p), some (.ref b1)] [] := by
      intro c20
      replace h := h.2.2.2.2.1 c20
      refine x_aload_n dX10_act_167 rfl ?_
      obtain ⟨o23, h⟩ := h
      obtain ⟨R22, g22, h⟩ := h
      refine x_callV hG (Ky := kX10_turn) (As := []) dX10_act_168 o23 rfl lk_X10_212 me_X10_turn is_X10_turn se_X10_turn rfl rfl (Nat.le_of_ble_eq_true rfl) (MX.post (m_X10_turn hG hO g22) ?_)
      rintro _ A22 ⟨rfl, h1⟩
      refine X.xok (fun w22 => ?_)
      replace h := h A22 w22 h1
      change X _ _ _ _ A22 _ _ []
      refine x_goto (tgt := 317) dX10_act_171 (by decide) ?_
      exact x_vret dX10_act_317 rfl ⟨rfl, h⟩
    have kt3_5 : ((A.I b1 0) = (28 : Int32)) → X G (dp + 9) kX10_act (hV Q) A 174 [some (.ref p), some (.ref b1)] [] := by
      intro c20
      replace h := h.2.2.2.2.2.1 c20
      refine x_aload_n dX10_act_174 rfl ?_
      refine x_aload_n dX10_act_175 rfl ?_
      refine x_get (v := .long (A.L b1 2)) hG dX10_act_176 f_X10_189_35 o2 rfl ?_
      refine x_bipush_ (v := (10 : Int32)) dX10_act_179 (by decide) ?_
      obtain ⟨o25, h⟩ := h
      obtain ⟨R24, g24, h⟩ := h
      refine x_callV hG (Ky := kX10_bring) (As := [.long (A.L b1 2), .int (10 : Int32)]) dX10_act_181 o25 rfl lk_X10_196 me_X10_bring is_X10_bring se_X10_bring rfl rfl (Nat.le_of_ble_eq_true rfl) (MX.post (m_X10_bring hG hO g24) ?_)
      rintro _ A24 ⟨rfl, h1⟩
      refine X.xok (fun w24 => ?_)
      replace h := h A24 w24 h1
      change X _ _ _ _ A24 _ _ []
      refine x_aload_n dX10_act_184 rfl ?_
      obtain ⟨o26, h⟩ := h
      refine x_get (v := va_rf (A24.P p 0)) hG dX10_act_185 f_X10_15_9 o26 rfl ?_
      refine x_iconst_ (v := (2 : Int32)) dX10_act_188 (by decide) ?_
      obtain ⟨b28, e28, h⟩ := h
      rw [e28]
      obtain ⟨o29, h⟩ := h
      obtain ⟨R27, g27, h⟩ := h
      refine x_callV hG (Ky := kX9_service) (As := [.int (2 : Int32)]) dX10_act_189 o29 rfl lk_X10_215 me_X9_service is_X9_service se_X9_service rfl rfl (Nat.le_of_ble_eq_true rfl) (MX.post (m_X9_service hG hO g27) ?_)
      rintro _ A27 ⟨rfl, h1⟩
      refine X.xok (fun w27 => ?_)
      replace h := h A27 w27 h1
      change X _ _ _ _ A27 _ _ []
      refine x_goto (tgt := 317) dX10_act_192 (by decide) ?_
      exact x_vret dX10_act_317 rfl ⟨rfl, h⟩
    have kt3_6 : ((A.I b1 0) = (29 : Int32)) → X G (dp + 9) kX10_act (hV Q) A 195 [some (.ref p), some (.ref b1)] [] := by
      intro c20
      replace h := h.2.2.2.2.2.2.1 c20
      refine x_aload_n dX10_act_195 rfl ?_
      obtain ⟨o30, h⟩ := h
      refine x_get (v := va_rf (A.P p 0)) hG dX10_act_196 f_X10_15_9 o30 rfl ?_
      refine x_iconst_ (v := (3 : Int32)) dX10_act_199 (by decide) ?_
      obtain ⟨b32, e32, h⟩ := h
      rw [e32]
      obtain ⟨o33, h⟩ := h
      obtain ⟨R31, g31, h⟩ := h
      refine x_callV hG (Ky := kX9_service) (As := [.int (3 : Int32)]) dX10_act_200 o33 rfl lk_X10_215 me_X9_service is_X9_service se_X9_service rfl rfl (Nat.le_of_ble_eq_true rfl) (MX.post (m_X9_service hG hO g31) ?_)
      rintro _ A31 ⟨rfl, h1⟩
      refine X.xok (fun w31 => ?_)
      replace h := h A31 w31 h1
      change X _ _ _ _ A31 _ _ []
      refine x_aload_n dX10_act_203 rfl ?_
      obtain ⟨o34, h⟩ := h
      refine x_get (v := .int (A31.I b1 1)) hG dX10_act_204 f_X10_186_35 o34 rfl ?_
      refine x_if_lt (tgt := 317) dX10_act_207 (by decide) (fun c207 => ?_) (fun c207 => ?_)
      · replace h := h.1 c207
        exact x_vret dX10_act_317 rfl ⟨rfl, h⟩
      · replace h := h.2 c207
        refine x_aload_n dX10_act_210 rfl ?_
        refine x_aload_n dX10_act_211 rfl ?_
        refine x_get (v := .int (A31.I b1 1)) hG dX10_act_212 f_X10_186_35 o34 rfl ?_
        refine x_bipush_ (v := (10 : Int32)) dX10_act_215 (by decide) ?_
        obtain ⟨o36, h⟩ := h
        obtain ⟨R35, g35, h⟩ := h
        refine x_callV hG (Ky := kX10_made) (As := [.int (A31.I b1 1), .int (10 : Int32)]) dX10_act_217 o36 rfl lk_X10_200 me_X10_made is_X10_made se_X10_made rfl rfl (Nat.le_of_ble_eq_true rfl) (MX.post (m_X10_made hG hO g35) ?_)
        rintro _ A35 ⟨rfl, h1⟩
        refine X.xok (fun w35 => ?_)
        replace h := h A35 w35 h1
        change X _ _ _ _ A35 _ _ []
        refine x_goto (tgt := 317) dX10_act_220 (by decide) ?_
        exact x_vret dX10_act_317 rfl ⟨rfl, h⟩
    have kt3_7 : ((A.I b1 0) = (30 : Int32)) → X G (dp + 9) kX10_act (hV Q) A 223 [some (.ref p), some (.ref b1)] [] := by
      intro c20
      replace h := h.2.2.2.2.2.2.2.1 c20
      refine x_aload_n dX10_act_223 rfl ?_
      refine x_aload_n dX10_act_224 rfl ?_
      refine x_get (v := .long (A.L b1 2)) hG dX10_act_225 f_X10_189_35 o2 rfl ?_
      refine x_bipush_ (v := (10 : Int32)) dX10_act_228 (by decide) ?_
      obtain ⟨o38, h⟩ := h
      obtain ⟨R37, g37, h⟩ := h
      refine x_callV hG (Ky := kX10_bring) (As := [.long (A.L b1 2), .int (10 : Int32)]) dX10_act_230 o38 rfl lk_X10_196 me_X10_bring is_X10_bring se_X10_bring rfl rfl (Nat.le_of_ble_eq_true rfl) (MX.post (m_X10_bring hG hO g37) ?_)
      rintro _ A37 ⟨rfl, h1⟩
      refine X.xok (fun w37 => ?_)
      replace h := h A37 w37 h1
      change X _ _ _ _ A37 _ _ []
      refine x_aload_n dX10_act_233 rfl ?_
      obtain ⟨o39, h⟩ := h
      refine x_get (v := va_rf (A37.P p 0)) hG dX10_act_234 f_X10_15_9 o39 rfl ?_
      refine x_iconst_ (v := (4 : Int32)) dX10_act_237 (by decide) ?_
      obtain ⟨b41, e41, h⟩ := h
      rw [e41]
      obtain ⟨o42, h⟩ := h
      obtain ⟨R40, g40, h⟩ := h
      refine x_callV hG (Ky := kX9_service) (As := [.int (4 : Int32)]) dX10_act_238 o42 rfl lk_X10_215 me_X9_service is_X9_service se_X9_service rfl rfl (Nat.le_of_ble_eq_true rfl) (MX.post (m_X9_service hG hO g40) ?_)
      rintro _ A40 ⟨rfl, h1⟩
      refine X.xok (fun w40 => ?_)
      replace h := h A40 w40 h1
      change X _ _ _ _ A40 _ _ []
      refine x_goto (tgt := 317) dX10_act_241 (by decide) ?_
      exact x_vret dX10_act_317 rfl ⟨rfl, h⟩
    have kt3_8 : ((A.I b1 0) = (31 : Int32)) → X G (dp + 9) kX10_act (hV Q) A 244 [some (.ref p), some (.ref b1)] [] := by
      intro c20
      replace h := h.2.2.2.2.2.2.2.2.1 c20
      refine x_aload_n dX10_act_244 rfl ?_
      refine x_aload_n dX10_act_245 rfl ?_
      refine x_get (v := va_rf (A.P b1 7)) hG dX10_act_246 f_X10_218_35 o2 rfl ?_
      obtain ⟨o44, h⟩ := h
      obtain ⟨R43, g43, h⟩ := h
      refine x_callV hG (Ky := kX10_zero) (As := [va_rf (A.P b1 7)]) dX10_act_249 o44 rfl lk_X10_222 me_X10_zero is_X10_zero se_X10_zero rfl rfl (Nat.le_of_ble_eq_true rfl) (MX.post (m_X10_zero hG hO g43) ?_)
      rintro _ A43 ⟨rfl, h1⟩
      refine X.xok (fun w43 => ?_)
      replace h := h A43 w43 h1
      change X _ _ _ _ A43 _ _ []
      refine x_goto (tgt := 317) dX10_act_252 (by decide) ?_
      exact x_vret dX10_act_317 rfl ⟨rfl, h⟩
    have kt3_9 : ((A.I b1 0) = (32 : Int32)) → X G (dp + 9) kX10_act (hV Q) A 255 [some (.ref p), some (.ref b1)] [] := by
      intro c20
      replace h := h.2.2.2.2.2.2.2.2.2.1 c20
      refine x_aload_n dX10_act_255 rfl ?_
      obtain ⟨o45, h⟩ := h
      refine x_get (v := va_rf (A.P p 0)) hG dX10_act_256 f_X10_15_9 o45 rfl ?_
      refine x_iconst_ (v := (0 : Int32)) dX10_act_259 (by decide) ?_
      refine x_aload_n dX10_act_260 rfl ?_
      refine x_aload_n dX10_act_261 rfl ?_
      refine x_get (v := .int (A.I b1 1)) hG dX10_act_262 f_X10_186_35 o2 rfl ?_
      obtain ⟨R46, g46, h⟩ := h
      refine x_callV hG (Ky := kX10_into) (As := [.int (A.I b1 1)]) dX10_act_265 o45 rfl lk_X10_193 me_X10_into is_X10_into se_X10_into rfl rfl (by simp only [List.append_eq, List.nil_append, List.map_cons, va_rf_cat]; exact Nat.le_of_ble_eq_true rfl) (MX.post (m_X10_into hG hO g46) ?_)
      rintro _ A46 ⟨v46, rfl, h1⟩
      refine X.xok (fun w46 => ?_)
      replace h := h v46 A46 w46 h1
      change X _ _ _ _ A46 _ _ [.int v46, .int (0 : Int32), va_rf (A.P p 0)]
      refine x_iconst_ (v := (2 : Int32)) dX10_act_268 (by decide) ?_
      refine x_aload_n dX10_act_269 rfl ?_
      obtain ⟨o47, h⟩ := h
      refine x_get (v := .int (A46.I b1 5)) hG dX10_act_270 f_X10_226_35 o47 rfl ?_
      obtain ⟨b49, e49, h⟩ := h
      rw [e49]
      obtain ⟨o50, h⟩ := h
      obtain ⟨R48, g48, h⟩ := h
      refine x_callV hG (Ky := kX9_two) (As := [.int (0 : Int32), .int v46, .int (2 : Int32), .int (A46.I b1 5)]) dX10_act_273 o50 rfl lk_X10_131 me_X9_two is_X9_two se_X9_two rfl rfl (Nat.le_of_ble_eq_true rfl) (MX.post (m_X9_two hG hO g48) ?_)
      rintro _ A48 ⟨rfl, h1⟩
      refine X.xok (fun w48 => ?_)
      replace h := h A48 w48 h1
      change X _ _ _ _ A48 _ _ []
      refine x_aload_n dX10_act_276 rfl ?_
      refine x_aload_n dX10_act_277 rfl ?_
      obtain ⟨o51, h⟩ := h
      refine x_get (v := .int (A48.I b1 1)) hG dX10_act_278 f_X10_186_35 o51 rfl ?_
      refine x_aload_n dX10_act_281 rfl ?_
      refine x_aload_n dX10_act_282 rfl ?_
      refine x_get (v := .int (A48.I b1 1)) hG dX10_act_283 f_X10_186_35 o51 rfl ?_
      obtain ⟨o53, h⟩ := h
      obtain ⟨R52, g52, h⟩ := h
      refine x_callV hG (Ky := kX10_into) (As := [.int (A48.I b1 1)]) dX10_act_286 o53 rfl lk_X10_193 me_X10_into is_X10_into se_X10_into rfl rfl (Nat.le_of_ble_eq_true rfl) (MX.post (m_X10_into hG hO g52) ?_)
      rintro _ A52 ⟨v52, rfl, h1⟩
      refine X.xok (fun w52 => ?_)
      replace h := h v52 A52 w52 h1
      change X _ _ _ _ A52 _ _ [.int v52, .int (A48.I b1 1), .ref p]
      obtain ⟨o55, h⟩ := h
      obtain ⟨R54, g54, h⟩ := h
      refine x_callV hG (Ky := kX10_made) (As := [.int (A48.I b1 1), .int v52]) dX10_act_289 o55 rfl lk_X10_200 me_X10_made is_X10_made se_X10_made rfl rfl (Nat.le_of_ble_eq_true rfl) (MX.post (m_X10_made hG hO g54) ?_)
      rintro _ A54 ⟨rfl, h1⟩
      refine X.xok (fun w54 => ?_)
      replace h := h A54 w54 h1
      change X _ _ _ _ A54 _ _ []
      refine x_goto (tgt := 317) dX10_act_292 (by decide) ?_
      exact x_vret dX10_act_317 rfl ⟨rfl, h⟩
    have kd3 : (¬ (A.I b1 0) = (20 : Int32) ∧ ¬ (A.I b1 0) = (21 : Int32) ∧ ¬ (A.I b1 0) = (22 : Int32) ∧ ¬ (A.I b1 0) = (23 : Int32) ∧ ¬ (A.I b1 0) = (24 : Int32) ∧ ¬ (A.I b1 0) = (25 : Int32) ∧ ¬ (A.I b1 0) = (26 : Int32) ∧ ¬ (A.I b1 0) = (27 : Int32) ∧ ¬ (A.I b1 0) = (28 : Int32) ∧ ¬ (A.I b1 0) = (29 : Int32) ∧ ¬ (A.I b1 0) = (30 : Int32) ∧ ¬ (A.I b1 0) = (31 : Int32) ∧ ¬ (A.I b1 0) = (32 : Int32)) → X G (dp + 9) kX10_act (hV Q) A 295 [some (.ref p), some (.ref b1)] [] := by
      intro c20
      replace h := h.2.2.2.2.2.2.2.2.2.2 c20
      refine x_aload_n dX10_act_295 rfl ?_
      refine x_get (v := .int (A.I b1 1)) hG dX10_act_296 f_X10_186_35 o2 rfl ?_
      refine x_if_lt (tgt := 317) dX10_act_299 (by decide) (fun c299 => ?_) (fun c299 => ?_)
      · replace h := h.1 c299
        exact x_vret dX10_act_317 rfl ⟨rfl, h⟩
      · replace h := h.2 c299
        refine x_aload_n dX10_act_302 rfl ?_
        refine x_aload_n dX10_act_303 rfl ?_
        refine x_get (v := .int (A.I b1 1)) hG dX10_act_304 f_X10_186_35 o2 rfl ?_
        refine x_bipush_ (v := (10 : Int32)) dX10_act_307 (by decide) ?_
        refine x_aload_n dX10_act_309 rfl ?_
        refine x_get (v := .int (A.I b1 5)) hG dX10_act_310 f_X10_226_35 o2 rfl ?_
        refine x_iadd dX10_act_313 ?_
        obtain ⟨o57, h⟩ := h
        obtain ⟨R56, g56, h⟩ := h
        refine x_callV hG (Ky := kX10_made) (As := [.int (A.I b1 1), .int ((10 : Int32) + (A.I b1 5))]) dX10_act_314 o57 rfl lk_X10_200 me_X10_made is_X10_made se_X10_made rfl rfl (Nat.le_of_ble_eq_true rfl) (MX.post (m_X10_made hG hO g56) ?_)
        rintro _ A56 ⟨rfl, h1⟩
        refine X.xok (fun w56 => ?_)
        replace h := h A56 w56 h1
        change X _ _ _ _ A56 _ _ []
        exact x_vret dX10_act_317 rfl ⟨rfl, h⟩
    refine x_sw (20 : Int32) (fun s20_0 => ?_) (fun s20_0 => ?_)
    · refine x_tableIn (off := 68) (tgt := 88) dX10_act_20 (by rw [s20_0]; decide) (by rw [s20_0]; decide) (by rw [s20_0]; rfl) (by decide) ?_
      exact kt3_0 s20_0
    refine x_sw (21 : Int32) (fun s20_1 => ?_) (fun s20_1 => ?_)
    · refine x_tableIn (off := 123) (tgt := 143) dX10_act_20 (by rw [s20_1]; decide) (by rw [s20_1]; decide) (by rw [s20_1]; rfl) (by decide) ?_
      exact kt3_1 (by simp only [s20_1]; decide)
    refine x_sw (22 : Int32) (fun s20_2 => ?_) (fun s20_2 => ?_)
    · refine x_tableIn (off := 123) (tgt := 143) dX10_act_20 (by rw [s20_2]; decide) (by rw [s20_2]; decide) (by rw [s20_2]; rfl) (by decide) ?_
      exact kt3_1 (by simp only [s20_2]; decide)
    refine x_sw (23 : Int32) (fun s20_3 => ?_) (fun s20_3 => ?_)
    · refine x_tableIn (off := 123) (tgt := 143) dX10_act_20 (by rw [s20_3]; decide) (by rw [s20_3]; decide) (by rw [s20_3]; rfl) (by decide) ?_
      exact kt3_1 (by simp only [s20_3]; decide)
    refine x_sw (24 : Int32) (fun s20_4 => ?_) (fun s20_4 => ?_)
    · refine x_tableIn (off := 123) (tgt := 143) dX10_act_20 (by rw [s20_4]; decide) (by rw [s20_4]; decide) (by rw [s20_4]; rfl) (by decide) ?_
      exact kt3_1 (by simp only [s20_4]; decide)
    refine x_sw (25 : Int32) (fun s20_5 => ?_) (fun s20_5 => ?_)
    · refine x_tableIn (off := 131) (tgt := 151) dX10_act_20 (by rw [s20_5]; decide) (by rw [s20_5]; decide) (by rw [s20_5]; rfl) (by decide) ?_
      exact kt3_2 s20_5
    refine x_sw (26 : Int32) (fun s20_6 => ?_) (fun s20_6 => ?_)
    · refine x_tableIn (off := 139) (tgt := 159) dX10_act_20 (by rw [s20_6]; decide) (by rw [s20_6]; decide) (by rw [s20_6]; rfl) (by decide) ?_
      exact kt3_3 s20_6
    refine x_sw (27 : Int32) (fun s20_7 => ?_) (fun s20_7 => ?_)
    · refine x_tableIn (off := 147) (tgt := 167) dX10_act_20 (by rw [s20_7]; decide) (by rw [s20_7]; decide) (by rw [s20_7]; rfl) (by decide) ?_
      exact kt3_4 s20_7
    refine x_sw (28 : Int32) (fun s20_8 => ?_) (fun s20_8 => ?_)
    · refine x_tableIn (off := 154) (tgt := 174) dX10_act_20 (by rw [s20_8]; decide) (by rw [s20_8]; decide) (by rw [s20_8]; rfl) (by decide) ?_
      exact kt3_5 s20_8
    refine x_sw (29 : Int32) (fun s20_9 => ?_) (fun s20_9 => ?_)
    · refine x_tableIn (off := 175) (tgt := 195) dX10_act_20 (by rw [s20_9]; decide) (by rw [s20_9]; decide) (by rw [s20_9]; rfl) (by decide) ?_
      exact kt3_6 s20_9
    refine x_sw (30 : Int32) (fun s20_10 => ?_) (fun s20_10 => ?_)
    · refine x_tableIn (off := 203) (tgt := 223) dX10_act_20 (by rw [s20_10]; decide) (by rw [s20_10]; decide) (by rw [s20_10]; rfl) (by decide) ?_
      exact kt3_7 s20_10
    refine x_sw (31 : Int32) (fun s20_11 => ?_) (fun s20_11 => ?_)
    · refine x_tableIn (off := 224) (tgt := 244) dX10_act_20 (by rw [s20_11]; decide) (by rw [s20_11]; decide) (by rw [s20_11]; rfl) (by decide) ?_
      exact kt3_8 s20_11
    refine x_sw (32 : Int32) (fun s20_12 => ?_) (fun s20_12 => ?_)
    · refine x_tableIn (off := 235) (tgt := 255) dX10_act_20 (by rw [s20_12]; decide) (by rw [s20_12]; decide) (by rw [s20_12]; rfl) (by decide) ?_
      exact kt3_9 s20_12
    have t20_0 := lv_neT s20_0 (a := 20) (by decide)
    have t20_1 := lv_neT s20_1 (a := 21) (by decide)
    have t20_2 := lv_neT s20_2 (a := 22) (by decide)
    have t20_3 := lv_neT s20_3 (a := 23) (by decide)
    have t20_4 := lv_neT s20_4 (a := 24) (by decide)
    have t20_5 := lv_neT s20_5 (a := 25) (by decide)
    have t20_6 := lv_neT s20_6 (a := 26) (by decide)
    have t20_7 := lv_neT s20_7 (a := 27) (by decide)
    have t20_8 := lv_neT s20_8 (a := 28) (by decide)
    have t20_9 := lv_neT s20_9 (a := 29) (by decide)
    have t20_10 := lv_neT s20_10 (a := 30) (by decide)
    have t20_11 := lv_neT s20_11 (a := 31) (by decide)
    have t20_12 := lv_neT s20_12 (a := 32) (by decide)
    refine x_tableOut (tgt := 295) dX10_act_20 (by omega) (by decide) ?_
    exact kd3 ⟨s20_0, s20_1, s20_2, s20_3, s20_4, s20_5, s20_6, s20_7, s20_8, s20_9, s20_10, s20_11, s20_12⟩
  · replace h := h.2 c7
    refine x_aload_n dX10_act_10 rfl ?_
    refine x_aload_n dX10_act_11 rfl ?_
    obtain ⟨o59, h⟩ := h
    obtain ⟨R58, g58, h⟩ := h
    refine x_callV hG (Ky := kX10_sum) (As := [.ref b1]) dX10_act_12 o59 rfl lk_X10_183 me_X10_sum is_X10_sum se_X10_sum rfl rfl (Nat.le_of_ble_eq_true rfl) (MX.post (m_X10_sum hG hO g58) ?_)
    rintro _ A58 ⟨rfl, h1⟩
    refine X.xok (fun w58 => ?_)
    replace h := h A58 w58 h1
    change X _ _ _ _ A58 _ _ []
    exact x_vret dX10_act_15 rfl ⟨rfl, h⟩
def w_X10_end (G : xG) (p : Nat) (b : Option Nat) (n : Option Nat) (u : Int32) (Q : xA → Prop) (A : xA) : Prop := xok G A → ∃ b1 : Nat, b = some b1 ∧ (A.tg b1 = 35 ∧ (((((A.I b1 1) = (1 : Int32)) → (((A.P b1 5) = n → Q A) ∧ (¬ (A.P b1 5) = n → A.tg p = 10 ∧ (∃ b5 : Nat, (A.P b1 5) = some b5 ∧ (A.tg b5 = 35 ∧ (∃ b8 : Nat, (A.P p 0) = some b8 ∧ (A.tg b8 = 9 ∧ (∃ R7 : xA → Prop, w_X9_add_2 G b8 (111 : Int32) (A.I b5 7) R7 A ∧ (∀ A7 : xA, xok G A7 → R7 A7 → (Q A7)))))))))) ∧ (((A.I b1 1) = (2 : Int32)) → A.tg p = 10 ∧ (∃ R10 : Int32 → xA → Prop, w_X10_from G p (A.L b1 3) (30 : Int32) R10 A ∧ (∀ (v10 : Int32) (A10 : xA), xok G A10 → R10 v10 A10 → (A10.tg b1 = 35 ∧ (A10.tg p = 10 ∧ (∃ R13 : Int32 → xA → Prop, w_X10_from G p (A10.L b1 4) (31 : Int32) R13 A10 ∧ (∀ (v13 : Int32) (A13 : xA), xok G A13 → R13 v13 A13 → (A13.tg b1 = 35 ∧ (A13.tg p = 10 ∧ (∃ J17 : Option Nat → Prop, (∀ (y17_s0 : Option Nat), J17 y17_s0 → ∃ b18 : Nat, y17_s0 = some b18 ∧ (A13.tg b18 = 35 ∧ (∃ b21 : Nat, (A13.P p 0) = some b21 ∧ (A13.tg b21 = 9 ∧ (∃ R20 : xA → Prop, w_X9_add_2 G b21 (f_X9_branchWord (if (if (A13.P b1 5) = n then (1 : Int32) else (0 : Int32)) = 0 then (if (A.I b1 2) = (11 : Int32) then (0 : Int32) else (if (A.I b1 2) = (12 : Int32) then (1 : Int32) else (if (A.I b1 2) = (13 : Int32) then (4 : Int32) else (5 : Int32)))) else ((if (A.I b1 2) = (11 : Int32) then (0 : Int32) else (if (A.I b1 2) = (12 : Int32) then (1 : Int32) else (if (A.I b1 2) = (13 : Int32) then (4 : Int32) else (5 : Int32)))) ^^^ (1 : Int32))) v10 v13) (A13.I b18 7) R20 A13 ∧ (∀ A20 : xA, xok G A20 → R20 A20 → ((((if (A13.P b1 5) = n then (1 : Int32) else (0 : Int32)) = 0 → A20.tg b1 = 35 ∧ ((((A20.P b1 6) = n → Q A20) ∧ (¬ (A20.P b1 6) = n → A20.tg p = 10 ∧ (∃ b25 : Nat, (A20.P b1 6) = some b25 ∧ (A20.tg b25 = 35 ∧ (∃ b28 : Nat, (A20.P p 0) = some b28 ∧ (A20.tg b28 = 9 ∧ (∃ R27 : xA → Prop, w_X9_add_2 G b28 (111 : Int32) (A20.I b25 7) R27 A20 ∧ (∀ A27 : xA, xok G A27 → R27 A27 → (Q A27))))))))))) ∧ (¬ (if (A13.P b1 5) = n then (1 : Int32) else (0 : Int32)) = 0 → Q A20))))))))) ∧ (((if (A13.P b1 5) = n then (1 : Int32) else (0 : Int32)) = 0 → J17 (A13.P b1 5)) ∧ (¬ (if (A13.P b1 5) = n then (1 : Int32) else (0 : Int32)) = 0 → J17 (A13.P b1 6))))))))))))) ∧ (((A.I b1 1) = (3 : Int32)) → A.tg p = 10 ∧ (∃ R30 : xA → Prop, w_X10_bring G p (A.L b1 3) (10 : Int32) R30 A ∧ (∀ A30 : xA, xok G A30 → R30 A30 → (A30.tg p = 10 ∧ (∃ R32 : xA → Prop, w_X10_keep G p u (0 : Int32) R32 A30 ∧ (∀ A32 : xA, xok G A32 → R32 A32 → (A32.tg p = 10 ∧ (∃ R35 : xA → Prop, w_X10_step G p (A32.I p 5) R35 A32 ∧ (∀ A35 : xA, xok G A35 → R35 A35 → (A35.tg p = 10 ∧ (∃ b38 : Nat, (A35.P p 0) = some b38 ∧ (A35.tg b38 = 9 ∧ (∃ R37 : xA → Prop, w_X9_add G b38 (32871 : Int32) R37 A35 ∧ (∀ A37 : xA, xok G A37 → R37 A37 → (Q A37))))))))))))))) ∧ ((¬ (A.I b1 1) = (1 : Int32) ∧ ¬ (A.I b1 1) = (2 : Int32) ∧ ¬ (A.I b1 1) = (3 : Int32)) → Q A))))
theorem m_X10_end (hG : xOK G) (hO : xHO G) {dp : Nat} {p : Nat} {b : Option Nat} {n : Option Nat} {u : Int32} {Q : xA → Prop} {A : xA} (h : w_X10_end G p b n u Q A) : MX G (dp + 8) kX10_end [.ref p, va_rf b, va_rf n, .int u] A (hV Q) := by
  unfold w_X10_end at h
  refine MX.of rfl (by cases b <;> cases n <;> exact Nat.le_of_ble_eq_true rfl) ?_
  refine X.lvs (lv' := [some (.ref p), some (va_rf b), some (va_rf n), some (.int u), none, none, none, none]) (by cases b <;> cases n <;> rfl) ?_
  refine X.xok (fun w0 => ?_)
  replace h := h w0
  refine x_aloadq_n dX10_end_0 rfl ?_
  obtain ⟨b1, e1, h⟩ := h
  rw [e1]
  obtain ⟨o2, h⟩ := h
  refine x_get (v := .int (A.I b1 1)) hG dX10_end_1 f_X10_289_34 o2 rfl ?_
  have kt3_0 : ((A.I b1 1) = (1 : Int32)) → X G (dp + 8) kX10_end (hV Q) A 32 [some (.ref p), some (.ref b1), some (va_rf n), some (.int u), none, none, none, none] [] := by
    intro c4
    replace h := h.1 c4
    refine x_aload_n dX10_end_32 rfl ?_
    refine x_get (v := va_rf (A.P b1 5)) hG dX10_end_33 f_X10_291_34 o2 rfl ?_
    refine x_aloadq_n dX10_end_36 rfl ?_
    refine x_acmp_eq (rx := (A.P b1 5)) (ry := n) (tgt := 256) dX10_end_37 (by decide) (fun c37 => ?_) (fun c37 => ?_)
    · replace h := h.1 c37
      exact x_vret dX10_end_256 rfl ⟨rfl, h⟩
    · replace h := h.2 c37
      refine x_aload_n dX10_end_40 rfl ?_
      obtain ⟨o4, h⟩ := h
      refine x_get (v := va_rf (A.P p 0)) hG dX10_end_41 f_X10_15_9 o4 rfl ?_
      refine x_bipush_ (v := (111 : Int32)) dX10_end_44 (by decide) ?_
      refine x_aload_n dX10_end_46 rfl ?_
      refine x_get (v := va_rf (A.P b1 5)) hG dX10_end_47 f_X10_291_34 o2 rfl ?_
      obtain ⟨b5, e5, h⟩ := h
      rw [e5]
      obtain ⟨o6, h⟩ := h
      refine x_get (v := .int (A.I b5 7)) hG dX10_end_50 f_X10_74_34 o6 rfl ?_
      obtain ⟨b8, e8, h⟩ := h
      rw [e8]
      obtain ⟨o9, h⟩ := h
      obtain ⟨R7, g7, h⟩ := h
      refine x_callV hG (Ky := kX9_add_2) (As := [.int (111 : Int32), .int (A.I b5 7)]) dX10_end_53 o9 rfl lk_X10_275 me_X9_add_2 is_X9_add_2 se_X9_add_2 rfl rfl (Nat.le_of_ble_eq_true rfl) (MX.post (m_X9_add_2 hG hO g7) ?_)
      rintro _ A7 ⟨rfl, h1⟩
      refine X.xok (fun w7 => ?_)
      replace h := h A7 w7 h1
      change X _ _ _ _ A7 _ _ []
      refine x_goto (tgt := 256) dX10_end_56 (by decide) ?_
      exact x_vret dX10_end_256 rfl ⟨rfl, h⟩
  have kt3_1 : ((A.I b1 1) = (2 : Int32)) → X G (dp + 8) kX10_end (hV Q) A 59 [some (.ref p), some (.ref b1), some (va_rf n), some (.int u), none, none, none, none] [] := by
    intro c4
    replace h := h.2.1 c4
    refine x_aload_n dX10_end_59 rfl ?_
    refine x_get (v := .int (A.I b1 2)) hG dX10_end_60 f_X10_295_34 o2 rfl ?_
    refine x_bipush_ (v := (11 : Int32)) dX10_end_63 (by decide) ?_
    refine x_via 99 (A' := A) (lv' := [some (.ref p), some (.ref b1), some (va_rf n), none, none, none, none, none]) (st' := [.int (if (A.I b1 2) = (11 : Int32) then (0 : Int32) else (if (A.I b1 2) = (12 : Int32) then (1 : Int32) else (if (A.I b1 2) = (13 : Int32) then (4 : Int32) else (5 : Int32))))]) ?_ (fun k99 => ?_)
    rotate_left
    · refine x_icmp_ne (tgt := 72) dX10_end_65 (by decide) (fun c65 => ?_) (fun c65 => ?_)
      · refine x_aload_n dX10_end_72 rfl ?_
        refine x_get (v := .int (A.I b1 2)) hG dX10_end_73 f_X10_295_34 o2 rfl ?_
        refine x_bipush_ (v := (12 : Int32)) dX10_end_76 (by decide) ?_
        refine x_icmp_ne (tgt := 85) dX10_end_78 (by decide) (fun c78 => ?_) (fun c78 => ?_)
        · refine x_aload_n dX10_end_85 rfl ?_
          refine x_get (v := .int (A.I b1 2)) hG dX10_end_86 f_X10_295_34 o2 rfl ?_
          refine x_bipush_ (v := (13 : Int32)) dX10_end_89 (by decide) ?_
          refine x_icmp_ne (tgt := 98) dX10_end_91 (by decide) (fun c91 => ?_) (fun c91 => ?_)
          · refine x_iconst_ (v := (5 : Int32)) dX10_end_98 (by decide) ?_
            change X _ _ _ _ _ _ [some (.ref p), some (.ref b1), some (va_rf n), some (.int u), none, none, none, none] [.int (5 : Int32)]
            try simp only [if_neg c65] at c78 c91 k99 ⊢
            try simp only [if_neg c78] at c91 k99 ⊢
            try simp only [if_neg c91] at k99 ⊢
            exact X.weak (xle_c rfl (xle_c rfl (xle_c rfl (xle_n (xle_n (xle_n (xle_n (xle_n xle_nil)))))))) k99
          · refine x_iconst_ (v := (4 : Int32)) dX10_end_94 (by decide) ?_
            refine x_goto (tgt := 99) dX10_end_95 (by decide) ?_
            change X _ _ _ _ _ _ [some (.ref p), some (.ref b1), some (va_rf n), some (.int u), none, none, none, none] [.int (4 : Int32)]
            try simp only [if_neg c65] at c78 c91 k99 ⊢
            try simp only [if_neg c78] at c91 k99 ⊢
            try simp only [if_pos c91] at k99 ⊢
            exact X.weak (xle_c rfl (xle_c rfl (xle_c rfl (xle_n (xle_n (xle_n (xle_n (xle_n xle_nil)))))))) k99
        · refine x_iconst_ (v := (1 : Int32)) dX10_end_81 (by decide) ?_
          refine x_goto (tgt := 99) dX10_end_82 (by decide) ?_
          change X _ _ _ _ _ _ [some (.ref p), some (.ref b1), some (va_rf n), some (.int u), none, none, none, none] [.int (1 : Int32)]
          try simp only [if_neg c65] at c78 k99 ⊢
          try simp only [if_pos c78] at k99 ⊢
          exact X.weak (xle_c rfl (xle_c rfl (xle_c rfl (xle_n (xle_n (xle_n (xle_n (xle_n xle_nil)))))))) k99
      · refine x_iconst_ (v := (0 : Int32)) dX10_end_68 (by decide) ?_
        refine x_goto (tgt := 99) dX10_end_69 (by decide) ?_
        change X _ _ _ _ _ _ [some (.ref p), some (.ref b1), some (va_rf n), some (.int u), none, none, none, none] [.int (0 : Int32)]
        simp only [if_pos c65] at k99 ⊢
        exact X.weak (xle_c rfl (xle_c rfl (xle_c rfl (xle_n (xle_n (xle_n (xle_n (xle_n xle_nil)))))))) k99
    refine x_istore dX10_end_99 (by decide) ?_
    refine x_aload_n dX10_end_101 rfl ?_
    refine x_aload_n dX10_end_102 rfl ?_
    refine x_get (v := .long (A.L b1 3)) hG dX10_end_103 f_X10_296_34 o2 rfl ?_
    refine x_bipush_ (v := (30 : Int32)) dX10_end_106 (by decide) ?_
    obtain ⟨o11, h⟩ := h
    obtain ⟨R10, g10, h⟩ := h
    refine x_callV hG (Ky := kX10_from) (As := [.long (A.L b1 3), .int (30 : Int32)]) dX10_end_108 o11 rfl lk_X10_172 me_X10_from is_X10_from se_X10_from rfl rfl (Nat.le_of_ble_eq_true rfl) (MX.post (m_X10_from hG hO g10) ?_)
    rintro _ A10 ⟨v10, rfl, h1⟩
    refine X.xok (fun w10 => ?_)
    replace h := h v10 A10 w10 h1
    change X _ _ _ _ A10 _ _ [.int v10]
    refine x_istore dX10_end_111 (by decide) ?_
    refine x_aload_n dX10_end_113 rfl ?_
    refine x_aload_n dX10_end_114 rfl ?_
    obtain ⟨o12, h⟩ := h
    refine x_get (v := .long (A10.L b1 4)) hG dX10_end_115 f_X10_297_34 o12 rfl ?_
    refine x_bipush_ (v := (31 : Int32)) dX10_end_118 (by decide) ?_
    obtain ⟨o14, h⟩ := h
    obtain ⟨R13, g13, h⟩ := h
    refine x_callV hG (Ky := kX10_from) (As := [.long (A10.L b1 4), .int (31 : Int32)]) dX10_end_120 o14 rfl lk_X10_172 me_X10_from is_X10_from se_X10_from rfl rfl (Nat.le_of_ble_eq_true rfl) (MX.post (m_X10_from hG hO g13) ?_)
    rintro _ A13 ⟨v13, rfl, h1⟩
    refine X.xok (fun w13 => ?_)
    replace h := h v13 A13 w13 h1
    change X _ _ _ _ A13 _ _ [.int v13]
    refine x_istore dX10_end_123 (by decide) ?_
    refine x_aload_n dX10_end_125 rfl ?_
    obtain ⟨o15, h⟩ := h
    refine x_get (v := va_rf (A13.P b1 5)) hG dX10_end_126 f_X10_291_34 o15 rfl ?_
    refine x_aloadq_n dX10_end_129 rfl ?_
    refine x_via 138 (A' := A13) (lv' := [some (.ref p), some (.ref b1), some (va_rf n), none, some (.int (if (A.I b1 2) = (11 : Int32) then (0 : Int32) else (if (A.I b1 2) = (12 : Int32) then (1 : Int32) else (if (A.I b1 2) = (13 : Int32) then (4 : Int32) else (5 : Int32))))), some (.int v10), some (.int v13), none]) (st' := [.int (if (A13.P b1 5) = n then (1 : Int32) else (0 : Int32))]) ?_ (fun k138 => ?_)
    rotate_left
    · refine x_acmp_ne (rx := (A13.P b1 5)) (ry := n) (tgt := 137) dX10_end_130 (by decide) (fun c130 => ?_) (fun c130 => ?_)
      · refine x_iconst_ (v := (0 : Int32)) dX10_end_137 (by decide) ?_
        change X _ _ _ _ _ _ [some (.ref p), some (.ref b1), some (va_rf n), none, some (.int (if (A.I b1 2) = (11 : Int32) then (0 : Int32) else (if (A.I b1 2) = (12 : Int32) then (1 : Int32) else (if (A.I b1 2) = (13 : Int32) then (4 : Int32) else (5 : Int32))))), some (.int v10), some (.int v13), none] [.int (0 : Int32)]
        simp only [if_neg c130] at k138 ⊢
        exact X.weak (xle_c rfl (xle_c rfl (xle_c rfl (xle_n (xle_c rfl (xle_c rfl (xle_c rfl (xle_n xle_nil)))))))) k138
      · refine x_iconst_ (v := (1 : Int32)) dX10_end_133 (by decide) ?_
        refine x_goto (tgt := 138) dX10_end_134 (by decide) ?_
        change X _ _ _ _ _ _ [some (.ref p), some (.ref b1), some (va_rf n), none, some (.int (if (A.I b1 2) = (11 : Int32) then (0 : Int32) else (if (A.I b1 2) = (12 : Int32) then (1 : Int32) else (if (A.I b1 2) = (13 : Int32) then (4 : Int32) else (5 : Int32))))), some (.int v10), some (.int v13), none] [.int (1 : Int32)]
        simp only [if_pos c130] at k138 ⊢
        exact X.weak (xle_c rfl (xle_c rfl (xle_c rfl (xle_n (xle_c rfl (xle_c rfl (xle_c rfl (xle_n xle_nil)))))))) k138
    refine x_istore dX10_end_138 (by decide) ?_
    refine x_aload_n dX10_end_140 rfl ?_
    obtain ⟨o16, h⟩ := h
    refine x_get (v := va_rf (A13.P p 0)) hG dX10_end_141 f_X10_15_9 o16 rfl ?_
    refine x_iload dX10_end_144 rfl ?_
    refine x_via 158 (A' := A13) (lv' := [some (.ref p), some (.ref b1), some (va_rf n), none, none, some (.int v10), some (.int v13), some (.int (if (A13.P b1 5) = n then (1 : Int32) else (0 : Int32)))]) (st' := [.int (if (if (A13.P b1 5) = n then (1 : Int32) else (0 : Int32)) = 0 then (if (A.I b1 2) = (11 : Int32) then (0 : Int32) else (if (A.I b1 2) = (12 : Int32) then (1 : Int32) else (if (A.I b1 2) = (13 : Int32) then (4 : Int32) else (5 : Int32)))) else ((if (A.I b1 2) = (11 : Int32) then (0 : Int32) else (if (A.I b1 2) = (12 : Int32) then (1 : Int32) else (if (A.I b1 2) = (13 : Int32) then (4 : Int32) else (5 : Int32)))) ^^^ (1 : Int32))), va_rf (A13.P p 0)]) ?_ (fun k158 => ?_)
    rotate_left
    · refine x_if_eq (tgt := 156) dX10_end_146 (by decide) (fun c146 => ?_) (fun c146 => ?_)
      · refine x_iload dX10_end_156 rfl ?_
        change X _ _ _ _ _ _ [some (.ref p), some (.ref b1), some (va_rf n), none, some (.int (if (A.I b1 2) = (11 : Int32) then (0 : Int32) else (if (A.I b1 2) = (12 : Int32) then (1 : Int32) else (if (A.I b1 2) = (13 : Int32) then (4 : Int32) else (5 : Int32))))), some (.int v10), some (.int v13), some (.int (if (A13.P b1 5) = n then (1 : Int32) else (0 : Int32)))] [.int (if (A.I b1 2) = (11 : Int32) then (0 : Int32) else (if (A.I b1 2) = (12 : Int32) then (1 : Int32) else (if (A.I b1 2) = (13 : Int32) then (4 : Int32) else (5 : Int32)))), va_rf (A13.P p 0)]
        simp only [if_pos c146] at k158 ⊢
        exact X.weak (xle_c rfl (xle_c rfl (xle_c rfl (xle_n (xle_n (xle_c rfl (xle_c rfl (xle_c rfl xle_nil)))))))) k158
      · refine x_iload dX10_end_149 rfl ?_
        refine x_iconst_ (v := (1 : Int32)) dX10_end_151 (by decide) ?_
        refine x_ixor dX10_end_152 ?_
        refine x_goto (tgt := 158) dX10_end_153 (by decide) ?_
        change X _ _ _ _ _ _ [some (.ref p), some (.ref b1), some (va_rf n), none, some (.int (if (A.I b1 2) = (11 : Int32) then (0 : Int32) else (if (A.I b1 2) = (12 : Int32) then (1 : Int32) else (if (A.I b1 2) = (13 : Int32) then (4 : Int32) else (5 : Int32))))), some (.int v10), some (.int v13), some (.int (if (A13.P b1 5) = n then (1 : Int32) else (0 : Int32)))] [.int ((if (A.I b1 2) = (11 : Int32) then (0 : Int32) else (if (A.I b1 2) = (12 : Int32) then (1 : Int32) else (if (A.I b1 2) = (13 : Int32) then (4 : Int32) else (5 : Int32)))) ^^^ (1 : Int32)), va_rf (A13.P p 0)]
        simp only [if_neg c146] at k158 ⊢
        exact X.weak (xle_c rfl (xle_c rfl (xle_c rfl (xle_n (xle_n (xle_c rfl (xle_c rfl (xle_c rfl xle_nil)))))))) k158
    refine x_iload dX10_end_158 rfl ?_
    refine x_iload dX10_end_160 rfl ?_
    refine x_callS hG (Ky := kX9_branchWord) (As := [.int (if (if (A13.P b1 5) = n then (1 : Int32) else (0 : Int32)) = 0 then (if (A.I b1 2) = (11 : Int32) then (0 : Int32) else (if (A.I b1 2) = (12 : Int32) then (1 : Int32) else (if (A.I b1 2) = (13 : Int32) then (4 : Int32) else (5 : Int32)))) else ((if (A.I b1 2) = (11 : Int32) then (0 : Int32) else (if (A.I b1 2) = (12 : Int32) then (1 : Int32) else (if (A.I b1 2) = (13 : Int32) then (4 : Int32) else (5 : Int32)))) ^^^ (1 : Int32))), .int v10, .int v13]) dX10_end_162 lk_X10_257 me_X9_branchWord st_X9_branchWord rfl rfl (by simp only [List.append_eq, List.nil_append, List.map_cons, va_rf_cat]; exact Nat.le_of_ble_eq_true rfl) (MX.post (m_X9_branchWord hG) ?_)
    rintro _ _ ⟨rfl, rfl⟩
    change X _ _ _ _ _ _ _ (.int (f_X9_branchWord (if (if (A13.P b1 5) = n then (1 : Int32) else (0 : Int32)) = 0 then (if (A.I b1 2) = (11 : Int32) then (0 : Int32) else (if (A.I b1 2) = (12 : Int32) then (1 : Int32) else (if (A.I b1 2) = (13 : Int32) then (4 : Int32) else (5 : Int32)))) else ((if (A.I b1 2) = (11 : Int32) then (0 : Int32) else (if (A.I b1 2) = (12 : Int32) then (1 : Int32) else (if (A.I b1 2) = (13 : Int32) then (4 : Int32) else (5 : Int32)))) ^^^ (1 : Int32))) v10 v13) :: _)
    refine x_iload dX10_end_165 rfl ?_
    obtain ⟨J17, g17, h⟩ := h
    have kj17 : ∀ (y17_s0 : Option Nat), J17 y17_s0 → X G (dp + 8) kX10_end (hV Q) A13 181 [some (.ref p), some (.ref b1), some (va_rf n), none, none, none, none, some (.int (if (A13.P b1 5) = n then (1 : Int32) else (0 : Int32)))] [va_rf y17_s0, .int (f_X9_branchWord (if (if (A13.P b1 5) = n then (1 : Int32) else (0 : Int32)) = 0 then (if (A.I b1 2) = (11 : Int32) then (0 : Int32) else (if (A.I b1 2) = (12 : Int32) then (1 : Int32) else (if (A.I b1 2) = (13 : Int32) then (4 : Int32) else (5 : Int32)))) else ((if (A.I b1 2) = (11 : Int32) then (0 : Int32) else (if (A.I b1 2) = (12 : Int32) then (1 : Int32) else (if (A.I b1 2) = (13 : Int32) then (4 : Int32) else (5 : Int32)))) ^^^ (1 : Int32))) v10 v13), va_rf (A13.P p 0)] := by
      intro y17_s0 h
      replace h := g17 y17_s0 h
      obtain ⟨b18, e18, h⟩ := h
      rw [e18]
      obtain ⟨o19, h⟩ := h
      refine x_get (v := .int (A13.I b18 7)) hG dX10_end_181 f_X10_74_34 o19 rfl ?_
      obtain ⟨b21, e21, h⟩ := h
      rw [e21]
      obtain ⟨o22, h⟩ := h
      obtain ⟨R20, g20, h⟩ := h
      refine x_callV hG (Ky := kX9_add_2) (As := [.int (f_X9_branchWord (if (if (A13.P b1 5) = n then (1 : Int32) else (0 : Int32)) = 0 then (if (A.I b1 2) = (11 : Int32) then (0 : Int32) else (if (A.I b1 2) = (12 : Int32) then (1 : Int32) else (if (A.I b1 2) = (13 : Int32) then (4 : Int32) else (5 : Int32)))) else ((if (A.I b1 2) = (11 : Int32) then (0 : Int32) else (if (A.I b1 2) = (12 : Int32) then (1 : Int32) else (if (A.I b1 2) = (13 : Int32) then (4 : Int32) else (5 : Int32)))) ^^^ (1 : Int32))) v10 v13), .int (A13.I b18 7)]) dX10_end_184 o22 rfl lk_X10_275 me_X9_add_2 is_X9_add_2 se_X9_add_2 rfl rfl (Nat.le_of_ble_eq_true rfl) (MX.post (m_X9_add_2 hG hO g20) ?_)
      rintro _ A20 ⟨rfl, h1⟩
      refine X.xok (fun w20 => ?_)
      replace h := h A20 w20 h1
      change X _ _ _ _ A20 _ _ []
      refine x_iload dX10_end_187 rfl ?_
      refine x_if_ne (tgt := 256) dX10_end_189 (by decide) (fun c189 => ?_) (fun c189 => ?_)
      · replace h := h.2 c189
        exact x_vret dX10_end_256 rfl ⟨rfl, h⟩
      · replace h := h.1 c189
        refine x_aload_n dX10_end_192 rfl ?_
        obtain ⟨o23, h⟩ := h
        refine x_get (v := va_rf (A20.P b1 6)) hG dX10_end_193 f_X10_298_34 o23 rfl ?_
        refine x_aloadq_n dX10_end_196 rfl ?_
        refine x_acmp_eq (rx := (A20.P b1 6)) (ry := n) (tgt := 256) dX10_end_197 (by decide) (fun c197 => ?_) (fun c197 => ?_)
        · replace h := h.1 c197
          exact x_vret dX10_end_256 rfl ⟨rfl, h⟩
        · replace h := h.2 c197
          refine x_aload_n dX10_end_200 rfl ?_
          obtain ⟨o24, h⟩ := h
          refine x_get (v := va_rf (A20.P p 0)) hG dX10_end_201 f_X10_15_9 o24 rfl ?_
          refine x_bipush_ (v := (111 : Int32)) dX10_end_204 (by decide) ?_
          refine x_aload_n dX10_end_206 rfl ?_
          refine x_get (v := va_rf (A20.P b1 6)) hG dX10_end_207 f_X10_298_34 o23 rfl ?_
          obtain ⟨b25, e25, h⟩ := h
          rw [e25]
          obtain ⟨o26, h⟩ := h
          refine x_get (v := .int (A20.I b25 7)) hG dX10_end_210 f_X10_74_34 o26 rfl ?_
          obtain ⟨b28, e28, h⟩ := h
          rw [e28]
          obtain ⟨o29, h⟩ := h
          obtain ⟨R27, g27, h⟩ := h
          refine x_callV hG (Ky := kX9_add_2) (As := [.int (111 : Int32), .int (A20.I b25 7)]) dX10_end_213 o29 rfl lk_X10_275 me_X9_add_2 is_X9_add_2 se_X9_add_2 rfl rfl (Nat.le_of_ble_eq_true rfl) (MX.post (m_X9_add_2 hG hO g27) ?_)
          rintro _ A27 ⟨rfl, h1⟩
          refine X.xok (fun w27 => ?_)
          replace h := h A27 w27 h1
          change X _ _ _ _ A27 _ _ []
          refine x_goto (tgt := 256) dX10_end_216 (by decide) ?_
          exact x_vret dX10_end_256 rfl ⟨rfl, h⟩
    refine x_if_eq (tgt := 177) dX10_end_167 (by decide) (fun c167 => ?_) (fun c167 => ?_)
    · replace h := h.1 c167
      refine x_aload_n dX10_end_177 rfl ?_
      refine x_get (v := va_rf (A13.P b1 5)) hG dX10_end_178 f_X10_291_34 o15 rfl ?_
      change X _ _ _ _ _ _ [some (.ref p), some (.ref b1), some (va_rf n), none, none, some (.int v10), some (.int v13), some (.int (if (A13.P b1 5) = n then (1 : Int32) else (0 : Int32)))] [va_rf (A13.P b1 5), .int (f_X9_branchWord (if (if (A13.P b1 5) = n then (1 : Int32) else (0 : Int32)) = 0 then (if (A.I b1 2) = (11 : Int32) then (0 : Int32) else (if (A.I b1 2) = (12 : Int32) then (1 : Int32) else (if (A.I b1 2) = (13 : Int32) then (4 : Int32) else (5 : Int32)))) else ((if (A.I b1 2) = (11 : Int32) then (0 : Int32) else (if (A.I b1 2) = (12 : Int32) then (1 : Int32) else (if (A.I b1 2) = (13 : Int32) then (4 : Int32) else (5 : Int32)))) ^^^ (1 : Int32))) v10 v13), va_rf (A13.P p 0)]
      exact X.weak (xle_c rfl (xle_c rfl (xle_c rfl (xle_n (xle_n (xle_n (xle_n (xle_c rfl xle_nil)))))))) (kj17 (A13.P b1 5) h)
    · replace h := h.2 c167
      refine x_aload_n dX10_end_170 rfl ?_
      refine x_get (v := va_rf (A13.P b1 6)) hG dX10_end_171 f_X10_298_34 o15 rfl ?_
      refine x_goto (tgt := 181) dX10_end_174 (by decide) ?_
      change X _ _ _ _ _ _ [some (.ref p), some (.ref b1), some (va_rf n), none, none, some (.int v10), some (.int v13), some (.int (if (A13.P b1 5) = n then (1 : Int32) else (0 : Int32)))] [va_rf (A13.P b1 6), .int (f_X9_branchWord (if (if (A13.P b1 5) = n then (1 : Int32) else (0 : Int32)) = 0 then (if (A.I b1 2) = (11 : Int32) then (0 : Int32) else (if (A.I b1 2) = (12 : Int32) then (1 : Int32) else (if (A.I b1 2) = (13 : Int32) then (4 : Int32) else (5 : Int32)))) else ((if (A.I b1 2) = (11 : Int32) then (0 : Int32) else (if (A.I b1 2) = (12 : Int32) then (1 : Int32) else (if (A.I b1 2) = (13 : Int32) then (4 : Int32) else (5 : Int32)))) ^^^ (1 : Int32))) v10 v13), va_rf (A13.P p 0)]
      exact X.weak (xle_c rfl (xle_c rfl (xle_c rfl (xle_n (xle_n (xle_n (xle_n (xle_c rfl xle_nil)))))))) (kj17 (A13.P b1 6) h)
  have kt3_2 : ((A.I b1 1) = (3 : Int32)) → X G (dp + 8) kX10_end (hV Q) A 219 [some (.ref p), some (.ref b1), some (va_rf n), some (.int u), none, none, none, none] [] := by
    intro c4
    replace h := h.2.2.1 c4
    refine x_aload_n dX10_end_219 rfl ?_
    refine x_aload_n dX10_end_220 rfl ?_
    refine x_get (v := .long (A.L b1 3)) hG dX10_end_221 f_X10_296_34 o2 rfl ?_
    refine x_bipush_ (v := (10 : Int32)) dX10_end_224 (by decide) ?_
    obtain ⟨o31, h⟩ := h
    obtain ⟨R30, g30, h⟩ := h
    refine x_callV hG (Ky := kX10_bring) (As := [.long (A.L b1 3), .int (10 : Int32)]) dX10_end_226 o31 rfl lk_X10_196 me_X10_bring is_X10_bring se_X10_bring rfl rfl (Nat.le_of_ble_eq_true rfl) (MX.post (m_X10_bring hG hO g30) ?_)
    rintro _ A30 ⟨rfl, h1⟩
    refine X.xok (fun w30 => ?_)
    replace h := h A30 w30 h1
    change X _ _ _ _ A30 _ _ []
    refine x_aload_n dX10_end_229 rfl ?_
    refine x_iload_n dX10_end_230 rfl ?_
    refine x_iconst_ (v := (0 : Int32)) dX10_end_231 (by decide) ?_
    obtain ⟨o33, h⟩ := h
    obtain ⟨R32, g32, h⟩ := h
    refine x_callV hG (Ky := kX10_keep) (As := [.int u, .int (0 : Int32)]) dX10_end_232 o33 rfl lk_X10_117 me_X10_keep is_X10_keep se_X10_keep rfl rfl (Nat.le_of_ble_eq_true rfl) (MX.post (m_X10_keep hG hO g32) ?_)
    rintro _ A32 ⟨rfl, h1⟩
    refine X.xok (fun w32 => ?_)
    replace h := h A32 w32 h1
    change X _ _ _ _ A32 _ _ []
    refine x_aload_n dX10_end_235 rfl ?_
    refine x_aload_n dX10_end_236 rfl ?_
    obtain ⟨o34, h⟩ := h
    refine x_get (v := .int (A32.I p 5)) hG dX10_end_237 f_X10_97_9 o34 rfl ?_
    obtain ⟨R35, g35, h⟩ := h
    refine x_callV hG (Ky := kX10_step) (As := [.int (A32.I p 5)]) dX10_end_240 o34 rfl lk_X10_113 me_X10_step is_X10_step se_X10_step rfl rfl (Nat.le_of_ble_eq_true rfl) (MX.post (m_X10_step hG hO g35) ?_)
    rintro _ A35 ⟨rfl, h1⟩
    refine X.xok (fun w35 => ?_)
    replace h := h A35 w35 h1
    change X _ _ _ _ A35 _ _ []
    refine x_aload_n dX10_end_243 rfl ?_
    obtain ⟨o36, h⟩ := h
    refine x_get (v := va_rf (A35.P p 0)) hG dX10_end_244 f_X10_15_9 o36 rfl ?_
    refine x_ldcw hG dX10_end_247 q2848 ?_
    obtain ⟨b38, e38, h⟩ := h
    rw [e38]
    obtain ⟨o39, h⟩ := h
    obtain ⟨R37, g37, h⟩ := h
    refine x_callV hG (Ky := kX9_add) (As := [.int (32871 : Int32)]) dX10_end_250 o39 rfl lk_X10_261 me_X9_add is_X9_add se_X9_add rfl rfl (Nat.le_of_ble_eq_true rfl) (MX.post (m_X9_add hG hO g37) ?_)
    rintro _ A37 ⟨rfl, h1⟩
    refine X.xok (fun w37 => ?_)
    replace h := h A37 w37 h1
    change X _ _ _ _ A37 _ _ []
    refine x_goto (tgt := 256) dX10_end_253 (by decide) ?_
    exact x_vret dX10_end_256 rfl ⟨rfl, h⟩
  have kd3 : (¬ (A.I b1 1) = (1 : Int32) ∧ ¬ (A.I b1 1) = (2 : Int32) ∧ ¬ (A.I b1 1) = (3 : Int32)) → X G (dp + 8) kX10_end (hV Q) A 256 [some (.ref p), some (.ref b1), some (va_rf n), some (.int u), none, none, none, none] [] := by
    intro c4
    replace h := h.2.2.2 c4
    exact x_vret dX10_end_256 rfl ⟨rfl, h⟩
  refine x_sw (1 : Int32) (fun s4_0 => ?_) (fun s4_0 => ?_)
  · refine x_tableIn (off := 28) (tgt := 32) dX10_end_4 (by rw [s4_0]; decide) (by rw [s4_0]; decide) (by rw [s4_0]; rfl) (by decide) ?_
    exact kt3_0 s4_0
  refine x_sw (2 : Int32) (fun s4_1 => ?_) (fun s4_1 => ?_)
  · refine x_tableIn (off := 55) (tgt := 59) dX10_end_4 (by rw [s4_1]; decide) (by rw [s4_1]; decide) (by rw [s4_1]; rfl) (by decide) ?_
    exact kt3_1 s4_1
  refine x_sw (3 : Int32) (fun s4_2 => ?_) (fun s4_2 => ?_)
  · refine x_tableIn (off := 215) (tgt := 219) dX10_end_4 (by rw [s4_2]; decide) (by rw [s4_2]; decide) (by rw [s4_2]; rfl) (by decide) ?_
    exact kt3_2 s4_2
  have t4_0 := lv_neT s4_0 (a := 1) (by decide)
  have t4_1 := lv_neT s4_1 (a := 2) (by decide)
  have t4_2 := lv_neT s4_2 (a := 3) (by decide)
  refine x_tableOut (tgt := 256) dX10_end_4 (by omega) (by decide) ?_
  exact kd3 ⟨s4_0, s4_1, s4_2⟩
def w_X10_lay (G : xG) (p : Nat) (c : Option Nat) (Q : Int32 → xA → Prop) (A : xA) : Prop := xok G A → A.tg p = 10 ∧ (∀ A2 : xA, A2 = A.setP p 2 c → (∃ b4 : Nat, (A.P p 1) = some b4 ∧ (A2.tg b4 = 11 ∧ (∃ R3 : xA → Prop, w_X11_paint G b4 c R3 A2 ∧ (∀ A3 : xA, xok G A3 → R3 A3 → (∃ b6 : Nat, c = some b6 ∧ (A3.tg b6 = 34 ∧ (A3.tg p = 10 ∧ (∀ A9 : xA, A9 = A3.setI p 3 ((4 : Int32) * (A3.I b6 3)) → (∃ b10 : Nat, (A3.P p 1) = some b10 ∧ (A9.tg b10 = 11 ∧ (∀ A12 : xA, A12 = A9.setI p 4 (((4 : Int32) * (A3.I b6 3)) + ((4 : Int32) * (A9.I b10 3))) → (∀ A13 : xA, A13 = A12.setI p 6 (0 : Int32) → (∃ L14 : Nat → Int32 → xA → Prop, (∃ n14 : Nat, L14 n14 (0 : Int32) A13) ∧ (∀ (n14 : Nat) (y14_3 : Int32) (A14 : xA), L14 n14 y14_3 A14 → A14.tg b6 = 34 ∧ (∃ b17 : Nat, (A14.P b6 1) = some b17 ∧ (A14.tg b17 = 37 ∧ (∃ R16 : Int32 → xA → Prop, w_J5_size G b17 R16 A14 ∧ (∀ (v16 : Int32) (A16 : xA), xok G A16 → R16 v16 A16 → (((v16 ≤ y14_3 → ∃ L19 : Nat → Int32 → Int32 → Prop, (∃ n19 : Nat, L19 n19 (0 : Int32) (0 : Int32)) ∧ (∀ (n19 : Nat) (y19_2 : Int32) (y19_3 : Int32), L19 n19 y19_2 y19_3 → A16.tg b6 = 34 ∧ ((((A16.I b6 2) ≤ y19_3 → A16.tg p = 10 ∧ (∀ A22 : xA, A22 = A16.setI p 5 (((A16.I p 4) + ((4 : Int32) * (f_J15_bitCount y19_2))) + (4 : Int32)) → (∃ b23 : Nat, (A16.P p 0) = some b23 ∧ (A22.tg b23 = 9 ∧ (∃ b25 : Nat, (A16.P b6 0) = some b25 ∧ (A22.tg b25 = 14 ∧ (∃ b27 : Nat, (A16.P p 7) = some b27 ∧ (A22.tg b27 = 200 ∧ (vp_in (A22.I b25 11) (A22.ln b27) ∧ (∃ b30 : Nat, (A16.P b23 6) = some b30 ∧ (A22.tg b30 = 200 ∧ (G.N ≤ b30 ∧ (vp_in (A22.I b27 (ix (A22.I b25 11))) (A22.ln b30) ∧ (∀ A34 : xA, A34 = A22.setI b30 (ix (A22.I b27 (ix (A22.I b25 11)))) (A22.I b23 4) → (∃ R35 : xA → Prop, w_X10_step G p (-(((A16.I p 4) + ((4 : Int32) * (f_J15_bitCount y19_2))) + (4 : Int32))) R35 A34 ∧ (∀ A35 : xA, xok G A35 → R35 A35 → (A35.tg p = 10 ∧ (∃ R36 : xA → Prop, w_X10_keep G p y19_2 (1 : Int32) R36 A35 ∧ (∀ A36 : xA, xok G A36 → R36 A36 → (∃ L38 : Nat → Int32 → xA → Prop, (∃ n38 : Nat, L38 n38 (0 : Int32) A36) ∧ (∀ (n38 : Nat) (y38_3 : Int32) (A38 : xA), L38 n38 y38_3 A38 → A38.tg b6 = 34 ∧ (∃ b41 : Nat, (A38.P b6 1) = some b41 ∧ (A38.tg b41 = 37 ∧ (∃ R40 : Int32 → xA → Prop, w_J5_size G b41 R40 A38 ∧ (∀ (v40 : Int32) (A40 : xA), xok G A40 → R40 v40 A40 → (((v40 ≤ y38_3 → A40.tg p = 10 ∧ (Q (A40.I p 5) A40)) ∧ (¬ v40 ≤ y38_3 → A40.tg b6 = 34 ∧ (∃ b46 : Nat, (A40.P b6 1) = some b46 ∧ (A40.tg b46 = 37 ∧ (∃ R45 : Option Nat → xA → Prop, w_J5_get G b46 y38_3 R45 A40 ∧ (∀ (v45 : Option Nat) (A45 : xA), xok G A45 → R45 v45 A45 → (∃ b48 : Nat, v45 = some b48 ∧ (A45.tg b48 = 35 ∧ (A45.tg p = 10 ∧ (∃ b52 : Nat, (A45.P p 0) = some b52 ∧ (A45.tg b52 = 9 ∧ (∃ R51 : xA → Prop, w_X9_put G b52 (A45.I b48 7) R51 A45 ∧ (∀ A51 : xA, xok G A51 → R51 A51 → (∃ L54 : Nat → Int32 → xA → Prop, (∃ n54 : Nat, L54 n54 (0 : Int32) A51) ∧ (∀ (n54 : Nat) (y54_5 : Int32) (A54 : xA), L54 n54 y54_5 A54 → A54.tg b48 = 35 ∧ (∃ b57 : Nat, (A54.P b48 0) = some b57 ∧ (A54.tg b57 = 37 ∧ (∃ R56 : Int32 → xA → Prop, w_J5_size G b57 R56 A54 ∧ (∀ (v56 : Int32) (A56 : xA), xok G A56 → R56 v56 A56 → (((v56 ≤ y54_5 → A56.tg b6 = 34 ∧ (∃ b61 : Nat, (A56.P b6 1) = some b61 ∧ (A56.tg b61 = 37 ∧ (∃ R60 : Int32 → xA → Prop, w_J5_size G b61 R60 A56 ∧ (∀ (v60 : Int32) (A60 : xA), xok G A60 → R60 v60 A60 → (∃ J63 : Option Nat → xA → Prop, (∀ (y63_s0 : Option Nat) (A63 : xA), J63 y63_s0 A63 → A63.tg p = 10 ∧ (∃ R64 : xA → Prop, w_X10_end G p (some b48) y63_s0 y19_2 R64 A63 ∧ (∀ A64 : xA, xok G A64 → R64 A64 → ((∃ q38 : Nat, q38 < n38 ∧ L38 q38 (y38_3 + (1 : Int32)) A64))))) ∧ ((v60 ≤ (y38_3 + (1 : Int32)) → J63 (none : Option Nat) A60) ∧ (¬ v60 ≤ (y38_3 + (1 : Int32)) → A60.tg b6 = 34 ∧ (∃ b68 : Nat, (A60.P b6 1) = some b68 ∧ (A60.tg b68 = 37 ∧ (∃ R67 : Option Nat → xA → Prop, w_J5_get G b68 (y38_3 + (1 : Int32)) R67 A60 ∧ (∀ (v67 : Option Nat) (A67 : xA), xok G A67 → R67 v67 A67 → (∃ b70 : Nat, v67 = some b70 ∧ (A67.tg b70 = 35 ∧ (J63 (some b70) A67))))))))))))))) ∧ (¬ v56 ≤ y54_5 → A56.tg b48 = 35 ∧ (∃ b74 : Nat, (A56.P b48 0) = some b74 ∧ (A56.tg b74 = 37 ∧ (∃ R73 : Option Nat → xA → Prop, w_J5_get G b74 y54_5 R73 A56 ∧ (∀ (v73 : Option Nat) (A73 : xA), xok G A73 → R73 v73 A73 → (∃ b76 : Nat, v73 = some b76 ∧ (A73.tg b76 = 36 ∧ (A73.tg p = 10 ∧ (∃ R78 : xA → Prop, w_X10_act G p (some b76) R78 A73 ∧ (∀ A78 : xA, xok G A78 → R78 A78 → ((∃ q54 : Nat, q54 < n54 ∧ L54 q54 (y54_5 + (1 : Int32)) A78))))))))))))))))))))))))))))))))))))))))))))))))))))))))))) ∧ (¬ (A16.I b6 2) ≤ y19_3 → A16.tg p = 10 ∧ (∃ b81 : Nat, (A16.P p 1) = some b81 ∧ (A16.tg b81 = 11 ∧ (∃ b83 : Nat, (A16.P b81 10) = some b83 ∧ (A16.tg b83 = 200 ∧ (vp_in y19_3 (A16.ln b83) ∧ ((∃ q19 : Nat, q19 < n19 ∧ L19 q19 (if (A16.I b83 (ix y19_3)) < (5 : Int32) then y19_2 else (y19_2 ||| (jishl (1 : Int32) (A16.I b83 (ix y19_3))))) (y19_3 + (1 : Int32)))))))))))))) ∧ (¬ v16 ≤ y14_3 → A16.tg b6 = 34 ∧ (∃ b88 : Nat, (A16.P b6 1) = some b88 ∧ (A16.tg b88 = 37 ∧ (∃ R87 : Option Nat → xA → Prop, w_J5_get G b88 y14_3 R87 A16 ∧ (∀ (v87 : Option Nat) (A87 : xA), xok G A87 → R87 v87 A87 → (∃ b90 : Nat, v87 = some b90 ∧ (A87.tg b90 = 35 ∧ (A87.tg p = 10 ∧ (∃ b94 : Nat, (A87.P p 0) = some b94 ∧ (A87.tg b94 = 9 ∧ (∃ R93 : Int32 → xA → Prop, w_X9_newMark G b94 R93 A87 ∧ (∀ (v93 : Int32) (A93 : xA), xok G A93 → R93 v93 A93 → (A93.tg b90 = 35 ∧ (∀ A97 : xA, A97 = A93.setI b90 7 v93 → (∃ L98 : Nat → Int32 → xA → Prop, (∃ n98 : Nat, L98 n98 (0 : Int32) A97) ∧ (∀ (n98 : Nat) (y98_5 : Int32) (A98 : xA), L98 n98 y98_5 A98 → A98.tg b90 = 35 ∧ (∃ b101 : Nat, (A98.P b90 0) = some b101 ∧ (A98.tg b101 = 37 ∧ (∃ R100 : Int32 → xA → Prop, w_J5_size G b101 R100 A98 ∧ (∀ (v100 : Int32) (A100 : xA), xok G A100 → R100 v100 A100 → (((v100 ≤ y98_5 → (∃ q14 : Nat, q14 < n14 ∧ L14 q14 (y14_3 + (1 : Int32)) A100)) ∧ (¬ v100 ≤ y98_5 → A100.tg p = 10 ∧ (∃ J104 : Int32 → xA → Prop, (∀ (y104_s0 : Int32) (A104 : xA), J104 y104_s0 A104 → A104.tg p = 10 ∧ ((y104_s0 = 0 ∨ y104_s0 = 1) ∧ (∀ A107 : xA, A107 = A104.setI p 6 y104_s0 → ((∃ q98 : Nat, q98 < n98 ∧ L98 q98 (y98_5 + (1 : Int32)) A107))))) ∧ (((A100.I p 6) = 0 → A100.tg b90 = 35 ∧ (∃ b110 : Nat, (A100.P b90 0) = some b110 ∧ (A100.tg b110 = 37 ∧ (∃ R109 : Option Nat → xA → Prop, w_J5_get G b110 y98_5 R109 A100 ∧ (∀ (v109 : Option Nat) (A109 : xA), xok G A109 → R109 v109 A109 → (∃ b112 : Nat, v109 = some b112 ∧ (A109.tg b112 = 36 ∧ ((((A109.I b112 0) = (26 : Int32) → J104 (1 : Int32) A109) ∧ (¬ (A109.I b112 0) = (26 : Int32) → J104 (0 : Int32) A109)))))))))) ∧ (¬ (A100.I p 6) = 0 → J104 (1 : Int32) A100)))))))))))))))))))))))))))))))))))))))))))))))
theorem m_X10_lay (hG : xOK G) (hO : xHO G) {dp : Nat} {p : Nat} {c : Option Nat} {Q : Int32 → xA → Prop} {A : xA} (h : w_X10_lay G p c Q A) : MX G (dp + 10) kX10_lay [.ref p, va_rf c] A (hI Q) := by
  unfold w_X10_lay at h
  refine MX.of rfl (by cases c <;> exact Nat.le_of_ble_eq_true rfl) ?_
  refine X.lvs (lv' := [some (.ref p), some (va_rf c), none, none, none, none]) (by cases c <;> rfl) ?_
  refine X.xok (fun w0 => ?_)
  replace h := h w0
  refine x_aload_n dX10_lay_0 rfl ?_
  refine x_aloadq_n dX10_lay_1 rfl ?_
  obtain ⟨o1, h⟩ := h
  refine z_putP hG hO.1 c dX10_lay_2 f_X10_34_9 ⟨_, rfl, Or.inl rfl⟩ o1 (by decide) (Or.inl ⟨_, rfl⟩) (fun A2 e2 => ?_)
  replace h := h A2 e2
  refine x_aload_n dX10_lay_5 rfl ?_
  refine x_get (v := va_rf (A.P p 1)) hG dX10_lay_6 f_X10_24_9 (kP e2 o1) (congrArg va_rf (sP_k e2 (by decide))) ?_
  refine x_aloadq_n dX10_lay_9 rfl ?_
  obtain ⟨b4, e4, h⟩ := h
  rw [e4]
  obtain ⟨o5, h⟩ := h
  obtain ⟨R3, g3, h⟩ := h
  refine x_callV hG (Ky := kX11_paint) (As := [va_rf c]) dX10_lay_10 o5 rfl lk_X10_38 me_X11_paint is_X11_paint se_X11_paint rfl rfl (Nat.le_of_ble_eq_true rfl) (MX.post (m_X11_paint hG hO g3) ?_)
  rintro _ A3 ⟨rfl, h1⟩
  refine X.xok (fun w3 => ?_)
  replace h := h A3 w3 h1
  change X _ _ _ _ A3 _ _ []
  refine x_aload_n dX10_lay_13 rfl ?_
  refine x_iconst_ (v := (4 : Int32)) dX10_lay_14 (by decide) ?_
  refine x_aloadq_n dX10_lay_15 rfl ?_
  obtain ⟨b6, e6, h⟩ := h
  rw [e6]
  obtain ⟨o7, h⟩ := h
  refine x_get (v := .int (A3.I b6 3)) hG dX10_lay_16 f_X10_42_33 o7 rfl ?_
  refine x_imul dX10_lay_19 ?_
  obtain ⟨o8, h⟩ := h
  refine z_putI hG hO.1 dX10_lay_20 f_X10_48_9 ⟨_, rfl, Or.inl rfl⟩ o8 (by decide) rfl rfl ⟨_, rfl⟩ (fun A9 e9 => ?_)
  replace h := h A9 e9
  refine x_aload_n dX10_lay_23 rfl ?_
  refine x_aload_n dX10_lay_24 rfl ?_
  refine x_get (v := .int ((4 : Int32) * (A3.I b6 3))) hG dX10_lay_25 f_X10_48_9 (kI e9 o8) (congrArg Value.int (sI_s e9)) ?_
  refine x_iconst_ (v := (4 : Int32)) dX10_lay_28 (by decide) ?_
  refine x_aload_n dX10_lay_29 rfl ?_
  refine x_get (v := va_rf (A3.P p 1)) hG dX10_lay_30 f_X10_24_9 (kI e9 o8) (congrArg va_rf (sI_P e9)) ?_
  obtain ⟨b10, e10, h⟩ := h
  rw [e10]
  obtain ⟨o11, h⟩ := h
  refine x_get (v := .int (A9.I b10 3)) hG dX10_lay_33 f_X10_49_10 o11 rfl ?_
  refine x_imul dX10_lay_36 ?_
  refine x_iadd dX10_lay_37 ?_
  refine z_putI hG hO.1 dX10_lay_38 f_X10_52_9 ⟨_, rfl, Or.inl rfl⟩ (kI e9 o8) (by decide) rfl rfl ⟨_, rfl⟩ (fun A12 e12 => ?_)
  replace h := h A12 e12
  refine x_aload_n dX10_lay_41 rfl ?_
  refine x_iconst_ (v := (0 : Int32)) dX10_lay_42 (by decide) ?_
  refine z_putI hG hO.1 dX10_lay_43 f_X10_55_9 ⟨_, rfl, Or.inl rfl⟩ (kI e12 (kI e9 o8)) (by decide) (narrow01 (by decide)) (fits01 (by decide)) ⟨_, rfl⟩ (fun A13 e13 => ?_)
  replace h := h A13 e13
  refine x_iconst_ (v := (0 : Int32)) dX10_lay_46 (by decide) ?_
  refine x_istore_n dX10_lay_47 (by decide) ?_
  refine x_iconst_ (v := (0 : Int32)) dX10_lay_48 (by decide) ?_
  refine x_istore_n dX10_lay_49 (by decide) ?_
  obtain ⟨L14, ⟨n14, i14⟩, g14⟩ := h
  have kl14 : ∀ n14 : Nat, ∀ (y14_3 : Int32) (A14 : xA), L14 n14 y14_3 A14 → X G (dp + 10) kX10_lay (hI Q) A14 50 [some (.ref p), some (.ref b6), some (.int (0 : Int32)), some (.int y14_3), none, none] [] := by
    intro n14
    induction n14 using Nat.strongRecOn with
    | ind n14 ih14 =>
      intro y14_3 A14 h
      replace h := g14 n14 y14_3 A14 h
      refine x_iload_n dX10_lay_50 rfl ?_
      refine x_aload_n dX10_lay_51 rfl ?_
      obtain ⟨o15, h⟩ := h
      refine x_get (v := va_rf (A14.P b6 1)) hG dX10_lay_52 f_X10_59_33 o15 rfl ?_
      obtain ⟨b17, e17, h⟩ := h
      rw [e17]
      obtain ⟨o18, h⟩ := h
      obtain ⟨R16, g16, h⟩ := h
      refine x_callV hG (Ky := kJ5_size) (As := []) dX10_lay_55 o18 rfl lk_X10_63 me_J5_size is_J5_size se_J5_size rfl rfl (Nat.le_of_ble_eq_true rfl) (MX.post (m_w_J5_size hG hO g16) ?_)
      rintro _ A16 ⟨v16, rfl, h1⟩
      refine X.xok (fun w16 => ?_)
      replace h := h v16 A16 w16 h1
      change X _ _ _ _ A16 _ _ [.int v16, .int y14_3]
      refine x_icmp_ge (tgt := 151) dX10_lay_58 (by decide) (fun c58 => ?_) (fun c58 => ?_)
      · replace h := h.1 c58
        refine x_iconst_ (v := (0 : Int32)) dX10_lay_151 (by decide) ?_
        refine x_istore_n dX10_lay_152 (by decide) ?_
        obtain ⟨L19, ⟨n19, i19⟩, g19⟩ := h
        have kl19 : ∀ n19 : Nat, ∀ (y19_2 : Int32) (y19_3 : Int32), L19 n19 y19_2 y19_3 → X G (dp + 10) kX10_lay (hI Q) A16 153 [some (.ref p), some (.ref b6), some (.int y19_2), some (.int y19_3), none, none] [] := by
          intro n19
          induction n19 using Nat.strongRecOn with
          | ind n19 ih19 =>
            intro y19_2 y19_3 h
            replace h := g19 n19 y19_2 y19_3 h
            refine x_iload_n dX10_lay_153 rfl ?_
            refine x_aload_n dX10_lay_154 rfl ?_
            obtain ⟨o20, h⟩ := h
            refine x_get (v := .int (A16.I b6 2)) hG dX10_lay_155 f_X10_85_33 o20 rfl ?_
            refine x_icmp_ge (tgt := 194) dX10_lay_158 (by decide) (fun c158 => ?_) (fun c158 => ?_)
            · replace h := h.1 c158
              refine x_aload_n dX10_lay_194 rfl ?_
              refine x_aload_n dX10_lay_195 rfl ?_
              obtain ⟨o21, h⟩ := h
              refine x_get (v := .int (A16.I p 4)) hG dX10_lay_196 f_X10_52_9 o21 rfl ?_
              refine x_iconst_ (v := (4 : Int32)) dX10_lay_199 (by decide) ?_
              refine x_iload_n dX10_lay_200 rfl ?_
              refine x_callS hG (Ky := kJ15_bitCount) (As := [.int y19_2]) dX10_lay_201 lk_X10_91 me_J15_bitCount st_J15_bitCount rfl rfl (Nat.le_of_ble_eq_true rfl) (MX.post (m_J15_bitCount hG) ?_)
              rintro _ _ ⟨rfl, rfl⟩
              change X _ _ _ _ _ _ _ (.int (f_J15_bitCount y19_2) :: _)
              refine x_imul dX10_lay_204 ?_
              refine x_iadd dX10_lay_205 ?_
              refine x_iconst_ (v := (4 : Int32)) dX10_lay_206 (by decide) ?_
              refine x_iadd dX10_lay_207 ?_
              refine z_putI hG hO.1 dX10_lay_208 f_X10_97_9 ⟨_, rfl, Or.inl rfl⟩ o21 (by decide) rfl rfl ⟨_, rfl⟩ (fun A22 e22 => ?_)
              replace h := h A22 e22
              refine x_aload_n dX10_lay_211 rfl ?_
              refine x_get (v := va_rf (A16.P p 0)) hG dX10_lay_212 f_X10_15_9 (kI e22 o21) (congrArg va_rf (sI_P e22)) ?_
              obtain ⟨b23, e23, h⟩ := h
              rw [e23]
              obtain ⟨o24, h⟩ := h
              refine x_get (v := va_rf (A16.P b23 6)) hG dX10_lay_215 f_X10_100_8 o24 (congrArg va_rf (sI_P e22)) ?_
              refine x_aload_n dX10_lay_218 rfl ?_
              refine x_get (v := va_rf (A16.P p 7)) hG dX10_lay_219 f_X10_9_9 (kI e22 o21) (congrArg va_rf (sI_P e22)) ?_
              refine x_aload_n dX10_lay_222 rfl ?_
              refine x_get (v := va_rf (A16.P b6 0)) hG dX10_lay_223 f_X10_103_33 (kI e22 o20) (congrArg va_rf (sI_P e22)) ?_
              obtain ⟨b25, e25, h⟩ := h
              rw [e25]
              obtain ⟨o26, h⟩ := h
              refine x_get (v := .int (A22.I b25 11)) hG dX10_lay_226 f_X10_107_13 o26 rfl ?_
              obtain ⟨b27, e27, h⟩ := h
              rw [e27]
              obtain ⟨o28, h⟩ := h
              obtain ⟨o29, h⟩ := h
              refine x_iald hG dX10_lay_229 o28 o29 ?_
              refine x_aload_n dX10_lay_230 rfl ?_
              refine x_get (v := .ref b23) hG dX10_lay_231 f_X10_15_9 (kI e22 o21) (congrArg va_rf ((sI_P e22).trans e23)) ?_
              refine x_get (v := .int (A22.I b23 4)) hG dX10_lay_234 f_X10_110_8 o24 rfl ?_
              obtain ⟨b30, e30, h⟩ := h
              rw [e30]
              obtain ⟨o31, h⟩ := h
              obtain ⟨o32, h⟩ := h
              obtain ⟨o33, h⟩ := h
              refine z_iast hG dX10_lay_237 o31 o32 o33 (fun A34 e34 => ?_)
              replace h := h A34 e34
              refine x_aload_n dX10_lay_238 rfl ?_
              refine x_aload_n dX10_lay_239 rfl ?_
              refine x_get (v := .int (((A16.I p 4) + ((4 : Int32) * (f_J15_bitCount y19_2))) + (4 : Int32))) hG dX10_lay_240 f_X10_97_9 (kI e34 (kI e22 o21)) (congrArg Value.int ((sI_a e34 (tne (kI e22 o21) o31 (by decide))).trans (sI_s e22))) ?_
              refine x_ineg dX10_lay_243 ?_
              obtain ⟨R35, g35, h⟩ := h
              refine x_callV hG (Ky := kX10_step) (As := [.int (-(((A16.I p 4) + ((4 : Int32) * (f_J15_bitCount y19_2))) + (4 : Int32)))]) dX10_lay_244 (kI e34 (kI e22 o21)) rfl lk_X10_113 me_X10_step is_X10_step se_X10_step rfl rfl (Nat.le_of_ble_eq_true rfl) (MX.post (m_X10_step hG hO g35) ?_)
              rintro _ A35 ⟨rfl, h1⟩
              refine X.xok (fun w35 => ?_)
              replace h := h A35 w35 h1
              change X _ _ _ _ A35 _ _ []
              refine x_aload_n dX10_lay_247 rfl ?_
              refine x_iload_n dX10_lay_248 rfl ?_
              refine x_iconst_ (v := (1 : Int32)) dX10_lay_249 (by decide) ?_
              obtain ⟨o37, h⟩ := h
              obtain ⟨R36, g36, h⟩ := h
              refine x_callV hG (Ky := kX10_keep) (As := [.int y19_2, .int (1 : Int32)]) dX10_lay_250 o37 rfl lk_X10_117 me_X10_keep is_X10_keep se_X10_keep rfl rfl (Nat.le_of_ble_eq_true rfl) (MX.post (m_X10_keep hG hO g36) ?_)
              rintro _ A36 ⟨rfl, h1⟩
              refine X.xok (fun w36 => ?_)
              replace h := h A36 w36 h1
              change X _ _ _ _ A36 _ _ []
              refine x_iconst_ (v := (0 : Int32)) dX10_lay_253 (by decide) ?_
              refine x_istore_n dX10_lay_254 (by decide) ?_
              obtain ⟨L38, ⟨n38, i38⟩, g38⟩ := h
              have kl38 : ∀ n38 : Nat, ∀ (y38_3 : Int32) (A38 : xA), L38 n38 y38_3 A38 → X G (dp + 10) kX10_lay (hI Q) A38 255 [some (.ref p), some (.ref b6), some (.int y19_2), some (.int y38_3), none, none] [] := by
                intro n38
                induction n38 using Nat.strongRecOn with
                | ind n38 ih38 =>
                  intro y38_3 A38 h
                  replace h := g38 n38 y38_3 A38 h
                  refine x_iload_n dX10_lay_255 rfl ?_
                  refine x_aload_n dX10_lay_256 rfl ?_
                  obtain ⟨o39, h⟩ := h
                  refine x_get (v := va_rf (A38.P b6 1)) hG dX10_lay_257 f_X10_59_33 o39 rfl ?_
                  obtain ⟨b41, e41, h⟩ := h
                  rw [e41]
                  obtain ⟨o42, h⟩ := h
                  obtain ⟨R40, g40, h⟩ := h
                  refine x_callV hG (Ky := kJ5_size) (As := []) dX10_lay_260 o42 rfl lk_X10_63 me_J5_size is_J5_size se_J5_size rfl rfl (Nat.le_of_ble_eq_true rfl) (MX.post (m_w_J5_size hG hO g40) ?_)
                  rintro _ A40 ⟨v40, rfl, h1⟩
                  refine X.xok (fun w40 => ?_)
                  replace h := h v40 A40 w40 h1
                  change X _ _ _ _ A40 _ _ [.int v40, .int y38_3]
                  refine x_icmp_ge (tgt := 373) dX10_lay_263 (by decide) (fun c263 => ?_) (fun c263 => ?_)
                  · replace h := h.1 c263
                    refine x_aload_n dX10_lay_373 rfl ?_
                    obtain ⟨o43, h⟩ := h
                    refine x_get (v := .int (A40.I p 5)) hG dX10_lay_374 f_X10_97_9 o43 rfl ?_
                    exact x_iret dX10_lay_377 rfl ⟨_, rfl, h⟩
                  · replace h := h.2 c263
                    refine x_aload_n dX10_lay_266 rfl ?_
                    obtain ⟨o44, h⟩ := h
                    refine x_get (v := va_rf (A40.P b6 1)) hG dX10_lay_267 f_X10_59_33 o44 rfl ?_
                    refine x_iload_n dX10_lay_270 rfl ?_
                    obtain ⟨b46, e46, h⟩ := h
                    rw [e46]
                    obtain ⟨o47, h⟩ := h
                    obtain ⟨R45, g45, h⟩ := h
                    refine x_callV hG (Ky := kJ5_get) (As := [.int y38_3]) dX10_lay_271 o47 rfl lk_X10_68 me_J5_get is_J5_get se_J5_get rfl rfl (Nat.le_of_ble_eq_true rfl) (MX.post (m_w_J5_get hG hO g45) ?_)
                    rintro _ A45 ⟨v45, rfl, h1⟩
                    refine X.xok (fun w45 => ?_)
                    replace h := h v45 A45 w45 h1
                    change X _ _ _ _ A45 _ _ [va_rf v45]
                    obtain ⟨b48, e48, h⟩ := h
                    rw [e48]
                    obtain ⟨o49, h⟩ := h
                    refine x_cast hG dX10_lay_274 q2716 o49 rfl (Or.inl rfl) ?_
                    refine x_astore dX10_lay_277 (by decide) ?_
                    refine x_aload_n dX10_lay_279 rfl ?_
                    obtain ⟨o50, h⟩ := h
                    refine x_get (v := va_rf (A45.P p 0)) hG dX10_lay_280 f_X10_15_9 o50 rfl ?_
                    refine x_aload dX10_lay_283 rfl ?_
                    refine x_get (v := .int (A45.I b48 7)) hG dX10_lay_285 f_X10_74_34 o49 rfl ?_
                    obtain ⟨b52, e52, h⟩ := h
                    rw [e52]
                    obtain ⟨o53, h⟩ := h
                    obtain ⟨R51, g51, h⟩ := h
                    refine x_callV hG (Ky := kX9_put) (As := [.int (A45.I b48 7)]) dX10_lay_288 o53 rfl lk_X10_121 me_X9_put is_X9_put se_X9_put rfl rfl (Nat.le_of_ble_eq_true rfl) (MX.post (m_X9_put hG hO g51) ?_)
                    rintro _ A51 ⟨rfl, h1⟩
                    refine X.xok (fun w51 => ?_)
                    replace h := h A51 w51 h1
                    change X _ _ _ _ A51 _ _ []
                    refine x_iconst_ (v := (0 : Int32)) dX10_lay_291 (by decide) ?_
                    refine x_istore dX10_lay_292 (by decide) ?_
                    obtain ⟨L54, ⟨n54, i54⟩, g54⟩ := h
                    have kl54 : ∀ n54 : Nat, ∀ (y54_5 : Int32) (A54 : xA), L54 n54 y54_5 A54 → X G (dp + 10) kX10_lay (hI Q) A54 294 [some (.ref p), some (.ref b6), some (.int y19_2), some (.int y38_3), some (.ref b48), some (.int y54_5)] [] := by
                      intro n54
                      induction n54 using Nat.strongRecOn with
                      | ind n54 ih54 =>
                        intro y54_5 A54 h
                        replace h := g54 n54 y54_5 A54 h
                        refine x_iload dX10_lay_294 rfl ?_
                        refine x_aload dX10_lay_296 rfl ?_
                        obtain ⟨o55, h⟩ := h
                        refine x_get (v := va_rf (A54.P b48 0)) hG dX10_lay_298 f_X10_77_34 o55 rfl ?_
                        obtain ⟨b57, e57, h⟩ := h
                        rw [e57]
                        obtain ⟨o58, h⟩ := h
                        obtain ⟨R56, g56, h⟩ := h
                        refine x_callV hG (Ky := kJ5_size) (As := []) dX10_lay_301 o58 rfl lk_X10_63 me_J5_size is_J5_size se_J5_size rfl rfl (Nat.le_of_ble_eq_true rfl) (MX.post (m_w_J5_size hG hO g56) ?_)
                        rintro _ A56 ⟨v56, rfl, h1⟩
                        refine X.xok (fun w56 => ?_)
                        replace h := h v56 A56 w56 h1
                        change X _ _ _ _ A56 _ _ [.int v56, .int y54_5]
                        refine x_icmp_ge (tgt := 330) dX10_lay_304 (by decide) (fun c304 => ?_) (fun c304 => ?_)
                        · replace h := h.1 c304
                          refine x_aload_n dX10_lay_330 rfl ?_
                          refine x_aload dX10_lay_331 rfl ?_
                          refine x_iload_n dX10_lay_333 rfl ?_
                          refine x_iconst_ (v := (1 : Int32)) dX10_lay_334 (by decide) ?_
                          refine x_iadd dX10_lay_335 ?_
                          refine x_aload_n dX10_lay_336 rfl ?_
                          obtain ⟨o59, h⟩ := h
                          refine x_get (v := va_rf (A56.P b6 1)) hG dX10_lay_337 f_X10_59_33 o59 rfl ?_
                          obtain ⟨b61, e61, h⟩ := h
                          rw [e61]
                          obtain ⟨o62, h⟩ := h
                          obtain ⟨R60, g60, h⟩ := h
                          refine x_callV hG (Ky := kJ5_size) (As := []) dX10_lay_340 o62 rfl lk_X10_63 me_J5_size is_J5_size se_J5_size rfl rfl (Nat.le_of_ble_eq_true rfl) (MX.post (m_w_J5_size hG hO g60) ?_)
                          rintro _ A60 ⟨v60, rfl, h1⟩
                          refine X.xok (fun w60 => ?_)
                          replace h := h v60 A60 w60 h1
                          change X _ _ _ _ A60 _ _ [.int v60, .int (y38_3 + (1 : Int32)), .ref b48, .ref p]
                          obtain ⟨J63, g63, h⟩ := h
                          have kj63 : ∀ (y63_s0 : Option Nat) (A63 : xA), J63 y63_s0 A63 → X G (dp + 10) kX10_lay (hI Q) A63 363 [some (.ref p), some (.ref b6), some (.int y19_2), some (.int y38_3), none, none] [va_rf y63_s0, .ref b48, .ref p] := by
                            intro y63_s0 A63 h
                            replace h := g63 y63_s0 A63 h
                            refine x_iload_n dX10_lay_363 rfl ?_
                            obtain ⟨o65, h⟩ := h
                            obtain ⟨R64, g64, h⟩ := h
                            refine x_callV hG (Ky := kX10_end) (As := [.ref b48, va_rf y63_s0, .int y19_2]) dX10_lay_364 o65 rfl lk_X10_127 me_X10_end is_X10_end se_X10_end rfl rfl (Nat.le_of_ble_eq_true rfl) (MX.post (m_X10_end hG hO g64) ?_)
                            rintro _ A64 ⟨rfl, h1⟩
                            refine X.xok (fun w64 => ?_)
                            replace h := h A64 w64 h1
                            change X _ _ _ _ A64 _ _ []
                            refine x_iinc (v := (y38_3 + (1 : Int32))) dX10_lay_367 rfl rfl (by decide) ?_
                            refine x_goto (tgt := 255) dX10_lay_370 (by decide) ?_
                            obtain ⟨q38, l38, h⟩ := h
                            change X _ _ _ _ _ _ [some (.ref p), some (.ref b6), some (.int y19_2), some (.int (y38_3 + (1 : Int32))), none, none] []
                            exact X.weak (xle_c rfl (xle_c rfl (xle_c rfl (xle_c rfl (xle_n (xle_n xle_nil)))))) (ih38 q38 l38 (y38_3 + (1 : Int32)) A64 h)
                          refine x_icmp_ge (tgt := 362) dX10_lay_343 (by decide) (fun c343 => ?_) (fun c343 => ?_)
                          · replace h := h.1 c343
                            refine x_null dX10_lay_362 ?_
                            change X _ _ _ _ _ _ [some (.ref p), some (.ref b6), some (.int y19_2), some (.int y38_3), some (.ref b48), some (.int y54_5)] [.null, .ref b48, .ref p]
                            exact X.weak (xle_c rfl (xle_c rfl (xle_c rfl (xle_c rfl (xle_n (xle_n xle_nil)))))) (kj63 (none : Option Nat) A60 h)
                          · replace h := h.2 c343
                            refine x_aload_n dX10_lay_346 rfl ?_
                            obtain ⟨o66, h⟩ := h
                            refine x_get (v := va_rf (A60.P b6 1)) hG dX10_lay_347 f_X10_59_33 o66 rfl ?_
                            refine x_iload_n dX10_lay_350 rfl ?_
                            refine x_iconst_ (v := (1 : Int32)) dX10_lay_351 (by decide) ?_
                            refine x_iadd dX10_lay_352 ?_
                            obtain ⟨b68, e68, h⟩ := h
                            rw [e68]
                            obtain ⟨o69, h⟩ := h
                            obtain ⟨R67, g67, h⟩ := h
                            refine x_callV hG (Ky := kJ5_get) (As := [.int (y38_3 + (1 : Int32))]) dX10_lay_353 o69 rfl lk_X10_68 me_J5_get is_J5_get se_J5_get rfl rfl (Nat.le_of_ble_eq_true rfl) (MX.post (m_w_J5_get hG hO g67) ?_)
                            rintro _ A67 ⟨v67, rfl, h1⟩
                            refine X.xok (fun w67 => ?_)
                            replace h := h v67 A67 w67 h1
                            change X _ _ _ _ A67 _ _ [va_rf v67, .ref b48, .ref p]
                            obtain ⟨b70, e70, h⟩ := h
                            rw [e70]
                            obtain ⟨o71, h⟩ := h
                            refine x_cast hG dX10_lay_356 q2716 o71 rfl (Or.inl rfl) ?_
                            refine x_goto (tgt := 363) dX10_lay_359 (by decide) ?_
                            change X _ _ _ _ _ _ [some (.ref p), some (.ref b6), some (.int y19_2), some (.int y38_3), some (.ref b48), some (.int y54_5)] [.ref b70, .ref b48, .ref p]
                            exact X.weak (xle_c rfl (xle_c rfl (xle_c rfl (xle_c rfl (xle_n (xle_n xle_nil)))))) (kj63 (some b70) A67 h)
                        · replace h := h.2 c304
                          refine x_aload_n dX10_lay_307 rfl ?_
                          refine x_aload dX10_lay_308 rfl ?_
                          obtain ⟨o72, h⟩ := h
                          refine x_get (v := va_rf (A56.P b48 0)) hG dX10_lay_310 f_X10_77_34 o72 rfl ?_
                          refine x_iload dX10_lay_313 rfl ?_
                          obtain ⟨b74, e74, h⟩ := h
                          rw [e74]
                          obtain ⟨o75, h⟩ := h
                          obtain ⟨R73, g73, h⟩ := h
                          refine x_callV hG (Ky := kJ5_get) (As := [.int y54_5]) dX10_lay_315 o75 rfl lk_X10_68 me_J5_get is_J5_get se_J5_get rfl rfl (Nat.le_of_ble_eq_true rfl) (MX.post (m_w_J5_get hG hO g73) ?_)
                          rintro _ A73 ⟨v73, rfl, h1⟩
                          refine X.xok (fun w73 => ?_)
                          replace h := h v73 A73 w73 h1
                          change X _ _ _ _ A73 _ _ [va_rf v73, .ref p]
                          obtain ⟨b76, e76, h⟩ := h
                          rw [e76]
                          obtain ⟨o77, h⟩ := h
                          refine x_cast hG dX10_lay_318 q2717 o77 rfl (Or.inl rfl) ?_
                          obtain ⟨o79, h⟩ := h
                          obtain ⟨R78, g78, h⟩ := h
                          refine x_callV hG (Ky := kX10_act) (As := [.ref b76]) dX10_lay_321 o79 rfl lk_X10_124 me_X10_act is_X10_act se_X10_act rfl rfl (Nat.le_of_ble_eq_true rfl) (MX.post (m_X10_act hG hO g78) ?_)
                          rintro _ A78 ⟨rfl, h1⟩
                          refine X.xok (fun w78 => ?_)
                          replace h := h A78 w78 h1
                          change X _ _ _ _ A78 _ _ []
                          refine x_iinc (v := (y54_5 + (1 : Int32))) dX10_lay_324 rfl rfl (by decide) ?_
                          refine x_goto (tgt := 294) dX10_lay_327 (by decide) ?_
                          obtain ⟨q54, l54, h⟩ := h
                          change X _ _ _ _ _ _ [some (.ref p), some (.ref b6), some (.int y19_2), some (.int y38_3), some (.ref b48), some (.int (y54_5 + (1 : Int32)))] []
                          exact X.weak (xle_c rfl (xle_c rfl (xle_c rfl (xle_c rfl (xle_c rfl (xle_c rfl xle_nil)))))) (ih54 q54 l54 (y54_5 + (1 : Int32)) A78 h)
                    change X _ _ _ _ _ _ [some (.ref p), some (.ref b6), some (.int y19_2), some (.int y38_3), some (.ref b48), some (.int (0 : Int32))] []
                    exact X.weak (xle_c rfl (xle_c rfl (xle_c rfl (xle_c rfl (xle_c rfl (xle_c rfl xle_nil)))))) (kl54 n54 (0 : Int32) A51 i54)
              change X _ _ _ _ _ _ [some (.ref p), some (.ref b6), some (.int y19_2), some (.int (0 : Int32)), none, none] []
              exact X.weak (xle_c rfl (xle_c rfl (xle_c rfl (xle_c rfl (xle_n (xle_n xle_nil)))))) (kl38 n38 (0 : Int32) A36 i38)
            · replace h := h.2 c158
              refine x_aload_n dX10_lay_161 rfl ?_
              obtain ⟨o80, h⟩ := h
              refine x_get (v := va_rf (A16.P p 1)) hG dX10_lay_162 f_X10_24_9 o80 rfl ?_
              obtain ⟨b81, e81, h⟩ := h
              rw [e81]
              obtain ⟨o82, h⟩ := h
              refine x_get (v := va_rf (A16.P b81 10)) hG dX10_lay_165 f_X10_88_10 o82 rfl ?_
              refine x_iload_n dX10_lay_168 rfl ?_
              obtain ⟨b83, e83, h⟩ := h
              rw [e83]
              obtain ⟨o84, h⟩ := h
              obtain ⟨o85, h⟩ := h
              refine x_iald hG dX10_lay_169 o84 o85 ?_
              refine x_iconst_ (v := (5 : Int32)) dX10_lay_170 (by decide) ?_
              refine x_via 188 (A' := A16) (lv' := [some (.ref p), some (.ref b6), some (.int (if (A16.I b83 (ix y19_3)) < (5 : Int32) then y19_2 else (y19_2 ||| (jishl (1 : Int32) (A16.I b83 (ix y19_3)))))), some (.int y19_3), none, none]) (st' := []) ?_ (fun k188 => ?_)
              rotate_left
              · refine x_icmp_lt (tgt := 188) dX10_lay_171 (by decide) (fun c171 => ?_) (fun c171 => ?_)
                · change X _ _ _ _ _ _ [some (.ref p), some (.ref b6), some (.int y19_2), some (.int y19_3), none, none] []
                  simp only [if_pos c171] at k188 ⊢
                  exact X.weak (xle_c rfl (xle_c rfl (xle_c rfl (xle_c rfl (xle_n (xle_n xle_nil)))))) k188
                · refine x_iload_n dX10_lay_174 rfl ?_
                  refine x_iconst_ (v := (1 : Int32)) dX10_lay_175 (by decide) ?_
                  refine x_aload_n dX10_lay_176 rfl ?_
                  refine x_get (v := .ref b81) hG dX10_lay_177 f_X10_24_9 o80 (congrArg va_rf e81) ?_
                  refine x_get (v := .ref b83) hG dX10_lay_180 f_X10_88_10 o82 (congrArg va_rf e83) ?_
                  refine x_iload_n dX10_lay_183 rfl ?_
                  refine x_iald hG dX10_lay_184 o84 o85 ?_
                  refine x_ishl dX10_lay_185 ?_
                  refine x_eqi (v := (jishl (1 : Int32) (A16.I b83 (ix y19_3)))) rfl ?_
                  refine x_ior dX10_lay_186 ?_
                  refine x_istore_n dX10_lay_187 (by decide) ?_
                  change X _ _ _ _ _ _ [some (.ref p), some (.ref b6), some (.int (y19_2 ||| (jishl (1 : Int32) (A16.I b83 (ix y19_3))))), some (.int y19_3), none, none] []
                  simp only [if_neg c171] at k188 ⊢
                  exact X.weak (xle_c rfl (xle_c rfl (xle_c rfl (xle_c rfl (xle_n (xle_n xle_nil)))))) k188
              refine x_iinc (v := (y19_3 + (1 : Int32))) dX10_lay_188 rfl rfl (by decide) ?_
              refine x_goto (tgt := 153) dX10_lay_191 (by decide) ?_
              obtain ⟨q19, l19, h⟩ := h
              change X _ _ _ _ _ _ [some (.ref p), some (.ref b6), some (.int (if (A16.I b83 (ix y19_3)) < (5 : Int32) then y19_2 else (y19_2 ||| (jishl (1 : Int32) (A16.I b83 (ix y19_3)))))), some (.int (y19_3 + (1 : Int32))), none, none] []
              exact X.weak (xle_c rfl (xle_c rfl (xle_c rfl (xle_c rfl (xle_n (xle_n xle_nil)))))) (ih19 q19 l19 (if (A16.I b83 (ix y19_3)) < (5 : Int32) then y19_2 else (y19_2 ||| (jishl (1 : Int32) (A16.I b83 (ix y19_3))))) (y19_3 + (1 : Int32)) h)
        change X _ _ _ _ _ _ [some (.ref p), some (.ref b6), some (.int (0 : Int32)), some (.int (0 : Int32)), none, none] []
        exact X.weak (xle_c rfl (xle_c rfl (xle_c rfl (xle_c rfl (xle_n (xle_n xle_nil)))))) (kl19 n19 (0 : Int32) (0 : Int32) i19)
      · replace h := h.2 c58
        refine x_aload_n dX10_lay_61 rfl ?_
        obtain ⟨o86, h⟩ := h
        refine x_get (v := va_rf (A16.P b6 1)) hG dX10_lay_62 f_X10_59_33 o86 rfl ?_
        refine x_iload_n dX10_lay_65 rfl ?_
        obtain ⟨b88, e88, h⟩ := h
        rw [e88]
        obtain ⟨o89, h⟩ := h
        obtain ⟨R87, g87, h⟩ := h
        refine x_callV hG (Ky := kJ5_get) (As := [.int y14_3]) dX10_lay_66 o89 rfl lk_X10_68 me_J5_get is_J5_get se_J5_get rfl rfl (Nat.le_of_ble_eq_true rfl) (MX.post (m_w_J5_get hG hO g87) ?_)
        rintro _ A87 ⟨v87, rfl, h1⟩
        refine X.xok (fun w87 => ?_)
        replace h := h v87 A87 w87 h1
        change X _ _ _ _ A87 _ _ [va_rf v87]
        obtain ⟨b90, e90, h⟩ := h
        rw [e90]
        obtain ⟨o91, h⟩ := h
        refine x_cast hG dX10_lay_69 q2716 o91 rfl (Or.inl rfl) ?_
        refine x_astore dX10_lay_72 (by decide) ?_
        refine x_aload dX10_lay_74 rfl ?_
        refine x_aload_n dX10_lay_76 rfl ?_
        obtain ⟨o92, h⟩ := h
        refine x_get (v := va_rf (A87.P p 0)) hG dX10_lay_77 f_X10_15_9 o92 rfl ?_
        obtain ⟨b94, e94, h⟩ := h
        rw [e94]
        obtain ⟨o95, h⟩ := h
        obtain ⟨R93, g93, h⟩ := h
        refine x_callV hG (Ky := kX9_newMark) (As := []) dX10_lay_80 o95 rfl lk_X10_28 me_X9_newMark is_X9_newMark se_X9_newMark rfl rfl (Nat.le_of_ble_eq_true rfl) (MX.post (m_X9_newMark hG hO g93) ?_)
        rintro _ A93 ⟨v93, rfl, h1⟩
        refine X.xok (fun w93 => ?_)
        replace h := h v93 A93 w93 h1
        change X _ _ _ _ A93 _ _ [.int v93, .ref b90]
        obtain ⟨o96, h⟩ := h
        refine z_putI hG hO.1 dX10_lay_83 f_X10_74_34 ⟨_, rfl, Or.inl rfl⟩ o96 (by decide) rfl rfl ⟨_, rfl⟩ (fun A97 e97 => ?_)
        replace h := h A97 e97
        refine x_iconst_ (v := (0 : Int32)) dX10_lay_86 (by decide) ?_
        refine x_istore dX10_lay_87 (by decide) ?_
        obtain ⟨L98, ⟨n98, i98⟩, g98⟩ := h
        have kl98 : ∀ n98 : Nat, ∀ (y98_5 : Int32) (A98 : xA), L98 n98 y98_5 A98 → X G (dp + 10) kX10_lay (hI Q) A98 89 [some (.ref p), some (.ref b6), some (.int (0 : Int32)), some (.int y14_3), some (.ref b90), some (.int y98_5)] [] := by
          intro n98
          induction n98 using Nat.strongRecOn with
          | ind n98 ih98 =>
            intro y98_5 A98 h
            replace h := g98 n98 y98_5 A98 h
            refine x_iload dX10_lay_89 rfl ?_
            refine x_aload dX10_lay_91 rfl ?_
            obtain ⟨o99, h⟩ := h
            refine x_get (v := va_rf (A98.P b90 0)) hG dX10_lay_93 f_X10_77_34 o99 rfl ?_
            obtain ⟨b101, e101, h⟩ := h
            rw [e101]
            obtain ⟨o102, h⟩ := h
            obtain ⟨R100, g100, h⟩ := h
            refine x_callV hG (Ky := kJ5_size) (As := []) dX10_lay_96 o102 rfl lk_X10_63 me_J5_size is_J5_size se_J5_size rfl rfl (Nat.le_of_ble_eq_true rfl) (MX.post (m_w_J5_size hG hO g100) ?_)
            rintro _ A100 ⟨v100, rfl, h1⟩
            refine X.xok (fun w100 => ?_)
            replace h := h v100 A100 w100 h1
            change X _ _ _ _ A100 _ _ [.int v100, .int y98_5]
            refine x_icmp_ge (tgt := 145) dX10_lay_99 (by decide) (fun c99 => ?_) (fun c99 => ?_)
            · replace h := h.1 c99
              refine x_iinc (v := (y14_3 + (1 : Int32))) dX10_lay_145 rfl rfl (by decide) ?_
              refine x_goto (tgt := 50) dX10_lay_148 (by decide) ?_
              obtain ⟨q14, l14, h⟩ := h
              change X _ _ _ _ _ _ [some (.ref p), some (.ref b6), some (.int (0 : Int32)), some (.int (y14_3 + (1 : Int32))), some (.ref b90), some (.int y98_5)] []
              exact X.weak (xle_c rfl (xle_c rfl (xle_c rfl (xle_c rfl (xle_n (xle_n xle_nil)))))) (ih14 q14 l14 (y14_3 + (1 : Int32)) A100 h)
            · replace h := h.2 c99
              refine x_aload_n dX10_lay_102 rfl ?_
              refine x_aload_n dX10_lay_103 rfl ?_
              obtain ⟨o103, h⟩ := h
              refine x_get (v := .int (A100.I p 6)) hG dX10_lay_104 f_X10_55_9 o103 rfl ?_
              obtain ⟨J104, g104, h⟩ := h
              have kj104 : ∀ (y104_s0 : Int32) (A104 : xA), J104 y104_s0 A104 → X G (dp + 10) kX10_lay (hI Q) A104 136 [some (.ref p), some (.ref b6), some (.int (0 : Int32)), some (.int y14_3), some (.ref b90), some (.int y98_5)] [.int y104_s0, .ref p] := by
                intro y104_s0 A104 h
                replace h := g104 y104_s0 A104 h
                obtain ⟨o105, h⟩ := h
                obtain ⟨o106, h⟩ := h
                refine z_putI hG hO.1 dX10_lay_136 f_X10_55_9 ⟨_, rfl, Or.inl rfl⟩ o105 (by decide) (narrow01 o106) (fits01 o106) ⟨_, rfl⟩ (fun A107 e107 => ?_)
                replace h := h A107 e107
                refine x_iinc (v := (y98_5 + (1 : Int32))) dX10_lay_139 rfl rfl (by decide) ?_
                refine x_goto (tgt := 89) dX10_lay_142 (by decide) ?_
                obtain ⟨q98, l98, h⟩ := h
                change X _ _ _ _ _ _ [some (.ref p), some (.ref b6), some (.int (0 : Int32)), some (.int y14_3), some (.ref b90), some (.int (y98_5 + (1 : Int32)))] []
                exact X.weak (xle_c rfl (xle_c rfl (xle_c rfl (xle_c rfl (xle_c rfl (xle_c rfl xle_nil)))))) (ih98 q98 l98 (y98_5 + (1 : Int32)) A107 h)
              refine x_if_ne (tgt := 131) dX10_lay_107 (by decide) (fun c107 => ?_) (fun c107 => ?_)
              · replace h := h.2 c107
                refine x_iconst_ (v := (1 : Int32)) dX10_lay_131 (by decide) ?_
                refine x_goto (tgt := 136) dX10_lay_132 (by decide) ?_
                change X _ _ _ _ _ _ [some (.ref p), some (.ref b6), some (.int (0 : Int32)), some (.int y14_3), some (.ref b90), some (.int y98_5)] [.int (1 : Int32), .ref p]
                exact X.weak (xle_c rfl (xle_c rfl (xle_c rfl (xle_c rfl (xle_c rfl (xle_c rfl xle_nil)))))) (kj104 (1 : Int32) A100 h)
              · replace h := h.1 c107
                refine x_aload dX10_lay_110 rfl ?_
                obtain ⟨o108, h⟩ := h
                refine x_get (v := va_rf (A100.P b90 0)) hG dX10_lay_112 f_X10_77_34 o108 rfl ?_
                refine x_iload dX10_lay_115 rfl ?_
                obtain ⟨b110, e110, h⟩ := h
                rw [e110]
                obtain ⟨o111, h⟩ := h
                obtain ⟨R109, g109, h⟩ := h
                refine x_callV hG (Ky := kJ5_get) (As := [.int y98_5]) dX10_lay_117 o111 rfl lk_X10_68 me_J5_get is_J5_get se_J5_get rfl rfl (Nat.le_of_ble_eq_true rfl) (MX.post (m_w_J5_get hG hO g109) ?_)
                rintro _ A109 ⟨v109, rfl, h1⟩
                refine X.xok (fun w109 => ?_)
                replace h := h v109 A109 w109 h1
                change X _ _ _ _ A109 _ _ [va_rf v109, .ref p]
                obtain ⟨b112, e112, h⟩ := h
                rw [e112]
                obtain ⟨o113, h⟩ := h
                refine x_cast hG dX10_lay_120 q2717 o113 rfl (Or.inl rfl) ?_
                refine x_get (v := .int (A109.I b112 0)) hG dX10_lay_123 f_X10_82_35 o113 rfl ?_
                refine x_bipush_ (v := (26 : Int32)) dX10_lay_126 (by decide) ?_
                refine x_icmp_ne (tgt := 135) dX10_lay_128 (by decide) (fun c128 => ?_) (fun c128 => ?_)
                · replace h := h.2 c128
                  refine x_iconst_ (v := (0 : Int32)) dX10_lay_135 (by decide) ?_
                  change X _ _ _ _ _ _ [some (.ref p), some (.ref b6), some (.int (0 : Int32)), some (.int y14_3), some (.ref b90), some (.int y98_5)] [.int (0 : Int32), .ref p]
                  exact X.weak (xle_c rfl (xle_c rfl (xle_c rfl (xle_c rfl (xle_c rfl (xle_c rfl xle_nil)))))) (kj104 (0 : Int32) A109 h)
                · replace h := h.1 c128
                  refine x_iconst_ (v := (1 : Int32)) dX10_lay_131 (by decide) ?_
                  refine x_goto (tgt := 136) dX10_lay_132 (by decide) ?_
                  change X _ _ _ _ _ _ [some (.ref p), some (.ref b6), some (.int (0 : Int32)), some (.int y14_3), some (.ref b90), some (.int y98_5)] [.int (1 : Int32), .ref p]
                  exact X.weak (xle_c rfl (xle_c rfl (xle_c rfl (xle_c rfl (xle_c rfl (xle_c rfl xle_nil)))))) (kj104 (1 : Int32) A109 h)
        change X _ _ _ _ _ _ [some (.ref p), some (.ref b6), some (.int (0 : Int32)), some (.int y14_3), some (.ref b90), some (.int (0 : Int32))] []
        exact X.weak (xle_c rfl (xle_c rfl (xle_c rfl (xle_c rfl (xle_c rfl (xle_c rfl xle_nil)))))) (kl98 n98 (0 : Int32) A97 i98)
  change X _ _ _ _ _ _ [some (.ref p), some (.ref b6), some (.int (0 : Int32)), some (.int (0 : Int32)), none, none] []
  exact X.weak (xle_c rfl (xle_c rfl (xle_c rfl (xle_c rfl (xle_n (xle_n xle_nil)))))) (kl14 n14 (0 : Int32) A13 i14)
end W066
