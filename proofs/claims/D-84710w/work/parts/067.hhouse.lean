/-! ===== 067.hhouse (tools/h045.py) ===== -/
set_option maxRecDepth 100000
section W067
variable {G : xG}
def w_X0_type (G : xG) (p : Nat) (v : Int32) (Q : xA → Prop) (A : xA) : Prop := xok G A → ∃ L1 : Nat → Int32 → xA → Prop, (∃ n1 : Nat, L1 n1 (24 : Int32) A) ∧ (∀ (n1 : Nat) (y1_2 : Int32) (A1 : xA), L1 n1 y1_2 A1 → ((y1_2 < 0 → Q A1) ∧ (¬ y1_2 < 0 → A1.tg p = 1 ∧ (∃ b3 : Nat, (A1.P p 0) = some b3 ∧ (A1.tg b3 = 202 ∧ (G.N ≤ b3 ∧ (vp_in (A1.I p 1) (A1.ln b3) ∧ (∀ A7 : xA, A7 = A1.setI b3 (ix (A1.I p 1)) (jishr v y1_2).toInt8.toInt32.toInt8.toInt32 → (∀ A8 : xA, A8 = A7.setI p 1 ((A1.I p 1) + (1 : Int32)) → ((∃ q1 : Nat, q1 < n1 ∧ L1 q1 (y1_2 + (-8 : Int32)) A8)))))))))))
theorem m_X0_type (hG : xOK G) (hO : xHO G) {dp : Nat} {p : Nat} {v : Int32} {Q : xA → Prop} {A : xA} (h : w_X0_type G p v Q A) : MX G (dp + 0) kX0_type [.ref p, .int v] A (hV Q) := by
  unfold w_X0_type at h
  refine MX.of rfl (Nat.le_of_ble_eq_true rfl) ?_
  change X _ _ _ _ _ _ [some (.ref p), some (.int v), none] _
  refine X.xok (fun w0 => ?_)
  replace h := h w0
  refine x_bipush_ (v := (24 : Int32)) dX0_type_0 (by decide) ?_
  refine x_istore_n dX0_type_2 (by decide) ?_
  obtain ⟨L1, ⟨n1, i1⟩, g1⟩ := h
  have kl1 : ∀ n1 : Nat, ∀ (y1_2 : Int32) (A1 : xA), L1 n1 y1_2 A1 → X G (dp + 0) kX0_type (hV Q) A1 3 [some (.ref p), some (.int v), some (.int y1_2)] [] := by
    intro n1
    induction n1 using Nat.strongRecOn with
    | ind n1 ih1 =>
      intro y1_2 A1 h
      replace h := g1 n1 y1_2 A1 h
      refine x_iload_n dX0_type_3 rfl ?_
      refine x_if_lt (tgt := 36) dX0_type_4 (by decide) (fun c4 => ?_) (fun c4 => ?_)
      · replace h := h.1 c4
        exact x_vret dX0_type_36 rfl ⟨rfl, h⟩
      · replace h := h.2 c4
        refine x_aload_n dX0_type_7 rfl ?_
        obtain ⟨o2, h⟩ := h
        refine x_get (v := va_rf (A1.P p 0)) hG dX0_type_8 f_X0_27_0 o2 rfl ?_
        refine x_aload_n dX0_type_11 rfl ?_
        refine x_get (v := .int (A1.I p 1)) hG dX0_type_12 f_X0_102_0 o2 rfl ?_
        refine x_iload_n dX0_type_15 rfl ?_
        refine x_iload_n dX0_type_16 rfl ?_
        refine x_ishr dX0_type_17 ?_
        refine x_eqi (v := (jishr v y1_2)) rfl ?_
        refine x_i2b dX0_type_18 ?_
        obtain ⟨b3, e3, h⟩ := h
        rw [e3]
        obtain ⟨o4, h⟩ := h
        obtain ⟨o5, h⟩ := h
        obtain ⟨o6, h⟩ := h
        refine z_bast hG dX0_type_19 o4 o5 o6 (fun A7 e7 => ?_)
        replace h := h A7 e7
        refine x_aload_n dX0_type_20 rfl ?_
        refine x_dup dX0_type_21 rfl ?_
        refine x_get (v := .int (A1.I p 1)) hG dX0_type_22 f_X0_102_0 (kI e7 o2) (congrArg Value.int (sI_a e7 (tne o2 o4 (by decide)))) ?_
        refine x_iconst_ (v := (1 : Int32)) dX0_type_25 (by decide) ?_
        refine x_iadd dX0_type_26 ?_
        refine z_putI hG hO.1 dX0_type_27 f_X0_102_0 ⟨_, rfl, Or.inl rfl⟩ (kI e7 o2) (by decide) rfl rfl ⟨_, rfl⟩ (fun A8 e8 => ?_)
        replace h := h A8 e8
        refine x_iinc (v := (y1_2 + (-8 : Int32))) dX0_type_30 rfl rfl (by decide) ?_
        refine x_goto (tgt := 3) dX0_type_33 (by decide) ?_
        obtain ⟨q1, l1, h⟩ := h
        change X _ _ _ _ _ _ [some (.ref p), some (.int v), some (.int (y1_2 + (-8 : Int32)))] []
        exact X.weak (xle_c rfl (xle_c rfl (xle_c rfl xle_nil))) (ih1 q1 l1 (y1_2 + (-8 : Int32)) A8 h)
  change X _ _ _ _ _ _ [some (.ref p), some (.int v), some (.int (24 : Int32))] []
  exact X.weak (xle_c rfl (xle_c rfl (xle_c rfl xle_nil))) (kl1 n1 (24 : Int32) A i1)
def w_X0_feed (G : xG) (p : Nat) (a : Int32) (b : Int32) (c : Int32) (d : Int32) (e : Int32) (Q : Int32 → xA → Prop) (A : xA) : Prop := xok G A → A.tg p = 1 ∧ (((((A.I p 1) + (20 : Int32)) ≤ (4000 : Int32) → ∃ R2 : xA → Prop, w_X0_type G p a R2 A ∧ (∀ A2 : xA, xok G A2 → R2 A2 → (A2.tg p = 1 ∧ (∃ R3 : xA → Prop, w_X0_type G p b R3 A2 ∧ (∀ A3 : xA, xok G A3 → R3 A3 → (A3.tg p = 1 ∧ (∃ R5 : xA → Prop, w_X0_type G p c R5 A3 ∧ (∀ A5 : xA, xok G A5 → R5 A5 → (A5.tg p = 1 ∧ (∃ R7 : xA → Prop, w_X0_type G p d R7 A5 ∧ (∀ A7 : xA, xok G A7 → R7 A7 → (A7.tg p = 1 ∧ (∃ R9 : xA → Prop, w_X0_type G p e R9 A7 ∧ (∀ A9 : xA, xok G A9 → R9 A9 → (A9.tg p = 1 ∧ (Q (A9.I p 1) A9)))))))))))))))) ∧ (¬ ((A.I p 1) + (20 : Int32)) ≤ (4000 : Int32) → Q (-1 : Int32) A)))
theorem m_X0_feed (hG : xOK G) (hO : xHO G) {dp : Nat} {p : Nat} {a : Int32} {b : Int32} {c : Int32} {d : Int32} {e : Int32} {Q : Int32 → xA → Prop} {A : xA} (h : w_X0_feed G p a b c d e Q A) : MX G (dp + 1) kX0_feed [.ref p, .int a, .int b, .int c, .int d, .int e] A (hI Q) := by
  unfold w_X0_feed at h
  refine MX.of rfl (Nat.le_of_ble_eq_true rfl) ?_
  change X _ _ _ _ _ _ [some (.ref p), some (.int a), some (.int b), some (.int c), some (.int d), some (.int e)] _
  refine X.xok (fun w0 => ?_)
  replace h := h w0
  refine x_aload_n dX0_feed_0 rfl ?_
  obtain ⟨o1, h⟩ := h
  refine x_get (v := .int (A.I p 1)) hG dX0_feed_1 f_X0_102_0 o1 rfl ?_
  refine x_bipush_ (v := (20 : Int32)) dX0_feed_4 (by decide) ?_
  refine x_iadd dX0_feed_6 ?_
  refine x_sipush_ (v := (4000 : Int32)) dX0_feed_7 (by decide) ?_
  refine x_icmp_le (tgt := 15) dX0_feed_10 (by decide) (fun c10 => ?_) (fun c10 => ?_)
  · replace h := h.1 c10
    refine x_aload_n dX0_feed_15 rfl ?_
    refine x_iload_n dX0_feed_16 rfl ?_
    obtain ⟨R2, g2, h⟩ := h
    refine x_callV hG (Ky := kX0_type) (As := [.int a]) dX0_feed_17 o1 rfl lk_X0_105 me_X0_type is_X0_type se_X0_type rfl rfl (Nat.le_of_ble_eq_true rfl) (MX.post (m_X0_type hG hO g2) ?_)
    rintro _ A2 ⟨rfl, h1⟩
    refine X.xok (fun w2 => ?_)
    replace h := h A2 w2 h1
    change X _ _ _ _ A2 _ _ []
    refine x_aload_n dX0_feed_20 rfl ?_
    refine x_iload_n dX0_feed_21 rfl ?_
    obtain ⟨o4, h⟩ := h
    obtain ⟨R3, g3, h⟩ := h
    refine x_callV hG (Ky := kX0_type) (As := [.int b]) dX0_feed_22 o4 rfl lk_X0_105 me_X0_type is_X0_type se_X0_type rfl rfl (Nat.le_of_ble_eq_true rfl) (MX.post (m_X0_type hG hO g3) ?_)
    rintro _ A3 ⟨rfl, h1⟩
    refine X.xok (fun w3 => ?_)
    replace h := h A3 w3 h1
    change X _ _ _ _ A3 _ _ []
    refine x_aload_n dX0_feed_25 rfl ?_
    refine x_iload_n dX0_feed_26 rfl ?_
    obtain ⟨o6, h⟩ := h
    obtain ⟨R5, g5, h⟩ := h
    refine x_callV hG (Ky := kX0_type) (As := [.int c]) dX0_feed_27 o6 rfl lk_X0_105 me_X0_type is_X0_type se_X0_type rfl rfl (Nat.le_of_ble_eq_true rfl) (MX.post (m_X0_type hG hO g5) ?_)
    rintro _ A5 ⟨rfl, h1⟩
    refine X.xok (fun w5 => ?_)
    replace h := h A5 w5 h1
    change X _ _ _ _ A5 _ _ []
    refine x_aload_n dX0_feed_30 rfl ?_
    refine x_iload dX0_feed_31 rfl ?_
    obtain ⟨o8, h⟩ := h
    obtain ⟨R7, g7, h⟩ := h
    refine x_callV hG (Ky := kX0_type) (As := [.int d]) dX0_feed_33 o8 rfl lk_X0_105 me_X0_type is_X0_type se_X0_type rfl rfl (Nat.le_of_ble_eq_true rfl) (MX.post (m_X0_type hG hO g7) ?_)
    rintro _ A7 ⟨rfl, h1⟩
    refine X.xok (fun w7 => ?_)
    replace h := h A7 w7 h1
    change X _ _ _ _ A7 _ _ []
    refine x_aload_n dX0_feed_36 rfl ?_
    refine x_iload dX0_feed_37 rfl ?_
    obtain ⟨o10, h⟩ := h
    obtain ⟨R9, g9, h⟩ := h
    refine x_callV hG (Ky := kX0_type) (As := [.int e]) dX0_feed_39 o10 rfl lk_X0_105 me_X0_type is_X0_type se_X0_type rfl rfl (Nat.le_of_ble_eq_true rfl) (MX.post (m_X0_type hG hO g9) ?_)
    rintro _ A9 ⟨rfl, h1⟩
    refine X.xok (fun w9 => ?_)
    replace h := h A9 w9 h1
    change X _ _ _ _ A9 _ _ []
    refine x_aload_n dX0_feed_42 rfl ?_
    obtain ⟨o11, h⟩ := h
    refine x_get (v := .int (A9.I p 1)) hG dX0_feed_43 f_X0_102_0 o11 rfl ?_
    exact x_iret dX0_feed_46 rfl ⟨_, rfl, h⟩
  · replace h := h.2 c10
    refine x_iconst_ (v := (-1 : Int32)) dX0_feed_13 (by decide) ?_
    exact x_iret dX0_feed_14 rfl ⟨_, rfl, h⟩
def w_X0_end (G : xG) (p : Nat) (n : Int32) (Q : Int32 → xA → Prop) (A : xA) : Prop := xok G A → ((n < 0 → Q (-1 : Int32) A) ∧ (¬ n < 0 → A.tg p = 1 ∧ (((n ≤ (A.I p 1) → ∀ A2 : xA, A2 = A.setI p 1 n → (Q n A2)) ∧ (¬ n ≤ (A.I p 1) → Q (-1 : Int32) A)))))
theorem m_X0_end (hG : xOK G) (hO : xHO G) {dp : Nat} {p : Nat} {n : Int32} {Q : Int32 → xA → Prop} {A : xA} (h : w_X0_end G p n Q A) : MX G (dp + 0) kX0_end [.ref p, .int n] A (hI Q) := by
  unfold w_X0_end at h
  refine MX.of rfl (Nat.le_of_ble_eq_true rfl) ?_
  change X _ _ _ _ _ _ [some (.ref p), some (.int n)] _
  refine X.xok (fun w0 => ?_)
  replace h := h w0
  refine x_iload_n dX0_end_0 rfl ?_
  refine x_if_lt (tgt := 12) dX0_end_1 (by decide) (fun c1 => ?_) (fun c1 => ?_)
  · replace h := h.1 c1
    refine x_iconst_ (v := (-1 : Int32)) dX0_end_12 (by decide) ?_
    exact x_iret dX0_end_13 rfl ⟨_, rfl, h⟩
  · replace h := h.2 c1
    refine x_iload_n dX0_end_4 rfl ?_
    refine x_aload_n dX0_end_5 rfl ?_
    obtain ⟨o1, h⟩ := h
    refine x_get (v := .int (A.I p 1)) hG dX0_end_6 f_X0_102_0 o1 rfl ?_
    refine x_icmp_le (tgt := 14) dX0_end_9 (by decide) (fun c9 => ?_) (fun c9 => ?_)
    · replace h := h.1 c9
      refine x_aload_n dX0_end_14 rfl ?_
      refine x_iload_n dX0_end_15 rfl ?_
      refine z_putI hG hO.1 dX0_end_16 f_X0_102_0 ⟨_, rfl, Or.inl rfl⟩ o1 (by decide) rfl rfl ⟨_, rfl⟩ (fun A2 e2 => ?_)
      replace h := h A2 e2
      refine x_aload_n dX0_end_19 rfl ?_
      refine x_get (v := .int n) hG dX0_end_20 f_X0_102_0 (kI e2 o1) (congrArg Value.int (sI_s e2)) ?_
      exact x_iret dX0_end_23 rfl ⟨_, rfl, h⟩
    · replace h := h.2 c9
      refine x_iconst_ (v := (-1 : Int32)) dX0_end_12 (by decide) ?_
      exact x_iret dX0_end_13 rfl ⟨_, rfl, h⟩
def w_X0_give (G : xG) (p : Nat) (n : Int32) (Q : Int32 → xA → Prop) (A : xA) : Prop := xok G A → A.tg p = 1 ∧ ((((A.P p 8) = none → Q (-1 : Int32) A) ∧ (∀ b2 : Nat, (A.P p 8) = some b2 → (((A.I p 15) = (500 : Int32) → Q (-1 : Int32) A) ∧ (¬ (A.I p 15) = (500 : Int32) → ∃ b3 : Nat, (A.P p 13) = some b3 ∧ (A.tg b3 = 200 ∧ (G.N ≤ b3 ∧ (vp_in (A.I p 15) (A.ln b3) ∧ (∀ A7 : xA, A7 = A.setI b3 (ix (A.I p 15)) n → (∀ A8 : xA, A8 = A7.setI p 15 ((A.I p 15) + (1 : Int32)) → (Q ((A.I p 15) + (1 : Int32)) A8)))))))))))
theorem m_X0_give (hG : xOK G) (hO : xHO G) {dp : Nat} {p : Nat} {n : Int32} {Q : Int32 → xA → Prop} {A : xA} (h : w_X0_give G p n Q A) : MX G (dp + 0) kX0_give [.ref p, .int n] A (hI Q) := by
  unfold w_X0_give at h
  refine MX.of rfl (Nat.le_of_ble_eq_true rfl) ?_
  change X _ _ _ _ _ _ [some (.ref p), some (.int n)] _
  refine X.xok (fun w0 => ?_)
  replace h := h w0
  refine x_aload_n dX0_give_0 rfl ?_
  obtain ⟨o1, h⟩ := h
  refine x_get (v := va_rf (A.P p 8)) hG dX0_give_1 f_X0_109_0 o1 rfl ?_
  refine x_ifnull (tgt := 17) dX0_give_4 (by decide) (fun c4 => ?_) (fun b2 c4 => ?_)
  · replace h := h.1 c4
    refine x_iconst_ (v := (-1 : Int32)) dX0_give_17 (by decide) ?_
    exact x_iret dX0_give_18 rfl ⟨_, rfl, h⟩
  · replace h := h.2 b2 c4
    refine x_aload_n dX0_give_7 rfl ?_
    refine x_get (v := .int (A.I p 15)) hG dX0_give_8 f_X0_115_0 o1 rfl ?_
    refine x_sipush_ (v := (500 : Int32)) dX0_give_11 (by decide) ?_
    refine x_icmp_ne (tgt := 19) dX0_give_14 (by decide) (fun c14 => ?_) (fun c14 => ?_)
    · replace h := h.2 c14
      refine x_aload_n dX0_give_19 rfl ?_
      refine x_get (v := va_rf (A.P p 13)) hG dX0_give_20 f_X0_82_0 o1 rfl ?_
      refine x_aload_n dX0_give_23 rfl ?_
      refine x_get (v := .int (A.I p 15)) hG dX0_give_24 f_X0_115_0 o1 rfl ?_
      refine x_iload_n dX0_give_27 rfl ?_
      obtain ⟨b3, e3, h⟩ := h
      rw [e3]
      obtain ⟨o4, h⟩ := h
      obtain ⟨o5, h⟩ := h
      obtain ⟨o6, h⟩ := h
      refine z_iast hG dX0_give_28 o4 o5 o6 (fun A7 e7 => ?_)
      replace h := h A7 e7
      refine x_aload_n dX0_give_29 rfl ?_
      refine x_dup dX0_give_30 rfl ?_
      refine x_get (v := .int (A.I p 15)) hG dX0_give_31 f_X0_115_0 (kI e7 o1) (congrArg Value.int (sI_a e7 (tne o1 o4 (by decide)))) ?_
      refine x_iconst_ (v := (1 : Int32)) dX0_give_34 (by decide) ?_
      refine x_iadd dX0_give_35 ?_
      refine z_putI hG hO.1 dX0_give_36 f_X0_115_0 ⟨_, rfl, Or.inl rfl⟩ (kI e7 o1) (by decide) rfl rfl ⟨_, rfl⟩ (fun A8 e8 => ?_)
      replace h := h A8 e8
      refine x_aload_n dX0_give_39 rfl ?_
      refine x_get (v := .int ((A.I p 15) + (1 : Int32))) hG dX0_give_40 f_X0_115_0 (kI e8 (kI e7 o1)) (congrArg Value.int (sI_s e8)) ?_
      exact x_iret dX0_give_43 rfl ⟨_, rfl, h⟩
    · replace h := h.1 c14
      refine x_iconst_ (v := (-1 : Int32)) dX0_give_17 (by decide) ?_
      exact x_iret dX0_give_18 rfl ⟨_, rfl, h⟩
def w_X0_next (G : xG) (p : Nat) (Q : Int32 → xA → Prop) (A : xA) : Prop := xok G A → A.tg p = 1 ∧ (∃ b2 : Nat, (A.P p 13) = some b2 ∧ (A.tg b2 = 200 ∧ (vp_in (0 : Int32) (A.ln b2) ∧ (∀ A5 : xA, A5 = A.setI p 15 ((A.I p 15) - (1 : Int32)) → (∃ L6 : Nat → Int32 → xA → Prop, (∃ n6 : Nat, L6 n6 (0 : Int32) A5) ∧ (∀ (n6 : Nat) (y6_2 : Int32) (A6 : xA), L6 n6 y6_2 A6 → A6.tg p = 1 ∧ ((((A6.I p 15) ≤ y6_2 → Q (A.I b2 0) A6) ∧ (¬ (A6.I p 15) ≤ y6_2 → ∃ b8 : Nat, (A6.P p 13) = some b8 ∧ (A6.tg b8 = 200 ∧ (vp_in (y6_2 + (1 : Int32)) (A6.ln b8) ∧ (G.N ≤ b8 ∧ (vp_in y6_2 (A6.ln b8) ∧ (∀ A13 : xA, A13 = A6.setI b8 (ix y6_2) (A6.I b8 (ix (y6_2 + (1 : Int32)))) → ((∃ q6 : Nat, q6 < n6 ∧ L6 q6 (y6_2 + (1 : Int32)) A13))))))))))))))))
theorem m_X0_next (hG : xOK G) (hO : xHO G) {dp : Nat} {p : Nat} {Q : Int32 → xA → Prop} {A : xA} (h : w_X0_next G p Q A) : MX G (dp + 0) kX0_next [.ref p] A (hI Q) := by
  unfold w_X0_next at h
  refine MX.of rfl (Nat.le_of_ble_eq_true rfl) ?_
  change X _ _ _ _ _ _ [some (.ref p), none, none] _
  refine X.xok (fun w0 => ?_)
  replace h := h w0
  refine x_aload_n dX0_next_0 rfl ?_
  obtain ⟨o1, h⟩ := h
  refine x_get (v := va_rf (A.P p 13)) hG dX0_next_1 f_X0_82_0 o1 rfl ?_
  refine x_iconst_ (v := (0 : Int32)) dX0_next_4 (by decide) ?_
  obtain ⟨b2, e2, h⟩ := h
  rw [e2]
  obtain ⟨o3, h⟩ := h
  obtain ⟨o4, h⟩ := h
  refine x_iald hG dX0_next_5 o3 o4 ?_
  refine x_eqi (v := (A.I b2 0)) rfl ?_
  refine x_istore_n dX0_next_6 (by decide) ?_
  refine x_aload_n dX0_next_7 rfl ?_
  refine x_dup dX0_next_8 rfl ?_
  refine x_get (v := .int (A.I p 15)) hG dX0_next_9 f_X0_115_0 o1 rfl ?_
  refine x_iconst_ (v := (1 : Int32)) dX0_next_12 (by decide) ?_
  refine x_isub dX0_next_13 ?_
  refine z_putI hG hO.1 dX0_next_14 f_X0_115_0 ⟨_, rfl, Or.inl rfl⟩ o1 (by decide) rfl rfl ⟨_, rfl⟩ (fun A5 e5 => ?_)
  replace h := h A5 e5
  refine x_iconst_ (v := (0 : Int32)) dX0_next_17 (by decide) ?_
  refine x_istore_n dX0_next_18 (by decide) ?_
  obtain ⟨L6, ⟨n6, i6⟩, g6⟩ := h
  have kl6 : ∀ n6 : Nat, ∀ (y6_2 : Int32) (A6 : xA), L6 n6 y6_2 A6 → X G (dp + 0) kX0_next (hI Q) A6 19 [some (.ref p), some (.int (A.I b2 0)), some (.int y6_2)] [] := by
    intro n6
    induction n6 using Nat.strongRecOn with
    | ind n6 ih6 =>
      intro y6_2 A6 h
      replace h := g6 n6 y6_2 A6 h
      refine x_iload_n dX0_next_19 rfl ?_
      refine x_aload_n dX0_next_20 rfl ?_
      obtain ⟨o7, h⟩ := h
      refine x_get (v := .int (A6.I p 15)) hG dX0_next_21 f_X0_115_0 o7 rfl ?_
      refine x_icmp_ge (tgt := 47) dX0_next_24 (by decide) (fun c24 => ?_) (fun c24 => ?_)
      · replace h := h.1 c24
        refine x_iload_n dX0_next_47 rfl ?_
        exact x_iret dX0_next_48 rfl ⟨_, rfl, h⟩
      · replace h := h.2 c24
        refine x_aload_n dX0_next_27 rfl ?_
        refine x_get (v := va_rf (A6.P p 13)) hG dX0_next_28 f_X0_82_0 o7 rfl ?_
        refine x_iload_n dX0_next_31 rfl ?_
        refine x_aload_n dX0_next_32 rfl ?_
        refine x_get (v := va_rf (A6.P p 13)) hG dX0_next_33 f_X0_82_0 o7 rfl ?_
        refine x_iload_n dX0_next_36 rfl ?_
        refine x_iconst_ (v := (1 : Int32)) dX0_next_37 (by decide) ?_
        refine x_iadd dX0_next_38 ?_
        obtain ⟨b8, e8, h⟩ := h
        rw [e8]
        obtain ⟨o9, h⟩ := h
        obtain ⟨o10, h⟩ := h
        refine x_iald hG dX0_next_39 o9 o10 ?_
        obtain ⟨o11, h⟩ := h
        obtain ⟨o12, h⟩ := h
        refine z_iast hG dX0_next_40 o9 o11 o12 (fun A13 e13 => ?_)
        replace h := h A13 e13
        refine x_iinc (v := (y6_2 + (1 : Int32))) dX0_next_41 rfl rfl (by decide) ?_
        refine x_goto (tgt := 19) dX0_next_44 (by decide) ?_
        obtain ⟨q6, l6, h⟩ := h
        change X _ _ _ _ _ _ [some (.ref p), some (.int (A.I b2 0)), some (.int (y6_2 + (1 : Int32)))] []
        exact X.weak (xle_c rfl (xle_c rfl (xle_c rfl xle_nil))) (ih6 q6 l6 (y6_2 + (1 : Int32)) A13 h)
  change X _ _ _ _ _ _ [some (.ref p), some (.int (A.I b2 0)), some (.int (0 : Int32))] []
  exact X.weak (xle_c rfl (xle_c rfl (xle_c rfl xle_nil))) (kl6 n6 (0 : Int32) A5 i6)
def w_X0_output (G : xG) (p : Nat) (i : Int32) (Q : Int32 → xA → Prop) (A : xA) : Prop := xok G A → ((i < 0 → Q (0 : Int32) A) ∧ (¬ i < 0 → A.tg p = 1 ∧ ((((A.I p 16) ≤ i → Q (0 : Int32) A) ∧ (¬ (A.I p 16) ≤ i → ((i < (2000 : Int32) → ∃ b2 : Nat, (A.P p 14) = some b2 ∧ (A.tg b2 = 200 ∧ (vp_in i (A.ln b2) ∧ (Q (A.I b2 (ix i)) A)))) ∧ (¬ i < (2000 : Int32) → Q (0 : Int32) A)))))))
theorem m_X0_output (hG : xOK G) (hO : xHO G) {dp : Nat} {p : Nat} {i : Int32} {Q : Int32 → xA → Prop} {A : xA} (h : w_X0_output G p i Q A) : MX G (dp + 0) kX0_output [.ref p, .int i] A (hI Q) := by
  unfold w_X0_output at h
  refine MX.of rfl (Nat.le_of_ble_eq_true rfl) ?_
  change X _ _ _ _ _ _ [some (.ref p), some (.int i)] _
  refine X.xok (fun w0 => ?_)
  replace h := h w0
  refine x_iload_n dX0_output_0 rfl ?_
  refine x_if_lt (tgt := 19) dX0_output_1 (by decide) (fun c1 => ?_) (fun c1 => ?_)
  · replace h := h.1 c1
    refine x_iconst_ (v := (0 : Int32)) dX0_output_19 (by decide) ?_
    refine x_goto (tgt := 29) dX0_output_20 (by decide) ?_
    exact x_iret dX0_output_29 rfl ⟨_, rfl, h⟩
  · replace h := h.2 c1
    refine x_iload_n dX0_output_4 rfl ?_
    refine x_aload_n dX0_output_5 rfl ?_
    obtain ⟨o1, h⟩ := h
    refine x_get (v := .int (A.I p 16)) hG dX0_output_6 f_X0_118_0 o1 rfl ?_
    refine x_icmp_ge (tgt := 19) dX0_output_9 (by decide) (fun c9 => ?_) (fun c9 => ?_)
    · replace h := h.1 c9
      refine x_iconst_ (v := (0 : Int32)) dX0_output_19 (by decide) ?_
      refine x_goto (tgt := 29) dX0_output_20 (by decide) ?_
      exact x_iret dX0_output_29 rfl ⟨_, rfl, h⟩
    · replace h := h.2 c9
      refine x_iload_n dX0_output_12 rfl ?_
      refine x_sipush_ (v := (2000 : Int32)) dX0_output_13 (by decide) ?_
      refine x_icmp_lt (tgt := 23) dX0_output_16 (by decide) (fun c16 => ?_) (fun c16 => ?_)
      · replace h := h.1 c16
        refine x_aload_n dX0_output_23 rfl ?_
        refine x_get (v := va_rf (A.P p 14)) hG dX0_output_24 f_X0_86_0 o1 rfl ?_
        refine x_iload_n dX0_output_27 rfl ?_
        obtain ⟨b2, e2, h⟩ := h
        rw [e2]
        obtain ⟨o3, h⟩ := h
        obtain ⟨o4, h⟩ := h
        refine x_iald hG dX0_output_28 o3 o4 ?_
        exact x_iret dX0_output_29 rfl ⟨_, rfl, h⟩
      · replace h := h.2 c16
        refine x_iconst_ (v := (0 : Int32)) dX0_output_19 (by decide) ?_
        refine x_goto (tgt := 29) dX0_output_20 (by decide) ?_
        exact x_iret dX0_output_29 rfl ⟨_, rfl, h⟩
def w_X0_world (G : xG) (p : Nat) (i : Int32) (Q : Int32 → xA → Prop) (A : xA) : Prop := xok G A → (((i = (0 : Int32)) → A.tg p = 1 ∧ (Q (A.I p 19) A)) ∧ ((i = (1 : Int32)) → A.tg p = 1 ∧ (Q (A.I p 21) A)) ∧ ((i = (2 : Int32)) → A.tg p = 1 ∧ (Q (A.I p 16) A)) ∧ ((i = (3 : Int32)) → A.tg p = 1 ∧ (Q (A.I p 15) A)) ∧ ((i = (4 : Int32)) → A.tg p = 1 ∧ (Q (if (A.I p 19) = (3 : Int32) then (A.I p 22) else (if (A.I p 19) = (4 : Int32) then (A.I p 22) else (0 : Int32))) A)) ∧ ((i = (5 : Int32)) → A.tg p = 1 ∧ (Q (if (A.I p 19) = (5 : Int32) then (A.I p 23) else (if (A.I p 19) = (6 : Int32) then (A.I p 23) else (-1 : Int32))) A)) ∧ ((i = (6 : Int32)) → A.tg p = 1 ∧ ((((A.I p 24) = 0 → Q (0 : Int32) A) ∧ (¬ (A.I p 24) = 0 → (((A.I p 19) = (3 : Int32) → Q (0 : Int32) A) ∧ (¬ (A.I p 19) = (3 : Int32) → ∃ b9 : Nat, (A.P p 17) = some b9 ∧ (A.tg b9 = 12 ∧ (∃ b11 : Nat, (A.P b9 1) = some b11 ∧ (A.tg b11 = 200 ∧ (vp_in (27 : Int32) (A.ln b11) ∧ (Q (A.I b11 27) A))))))))))) ∧ ((i = (7 : Int32)) → A.tg p = 1 ∧ (Q (A.I p 20) A)) ∧ ((¬ i = (0 : Int32) ∧ ¬ i = (1 : Int32) ∧ ¬ i = (2 : Int32) ∧ ¬ i = (3 : Int32) ∧ ¬ i = (4 : Int32) ∧ ¬ i = (5 : Int32) ∧ ¬ i = (6 : Int32) ∧ ¬ i = (7 : Int32)) → Q (-1 : Int32) A))
theorem m_X0_world (hG : xOK G) (hO : xHO G) {dp : Nat} {p : Nat} {i : Int32} {Q : Int32 → xA → Prop} {A : xA} (h : w_X0_world G p i Q A) : MX G (dp + 0) kX0_world [.ref p, .int i] A (hI Q) := by
  unfold w_X0_world at h
  refine MX.of rfl (Nat.le_of_ble_eq_true rfl) ?_
  change X _ _ _ _ _ _ [some (.ref p), some (.int i)] _
  refine X.xok (fun w0 => ?_)
  replace h := h w0
  refine x_iload_n dX0_world_0 rfl ?_
  have kt1_0 : (i = (0 : Int32)) → X G (dp + 0) kX0_world (hI Q) A 48 [some (.ref p), some (.int i)] [] := by
    intro c1
    replace h := h.1 c1
    refine x_aload_n dX0_world_48 rfl ?_
    obtain ⟨o2, h⟩ := h
    refine x_get (v := .int (A.I p 19)) hG dX0_world_49 f_X0_121_0 o2 rfl ?_
    exact x_iret dX0_world_52 rfl ⟨_, rfl, h⟩
  have kt1_1 : (i = (1 : Int32)) → X G (dp + 0) kX0_world (hI Q) A 53 [some (.ref p), some (.int i)] [] := by
    intro c1
    replace h := h.2.1 c1
    refine x_aload_n dX0_world_53 rfl ?_
    obtain ⟨o3, h⟩ := h
    refine x_get (v := .int (A.I p 21)) hG dX0_world_54 f_X0_124_0 o3 rfl ?_
    exact x_iret dX0_world_57 rfl ⟨_, rfl, h⟩
  have kt1_2 : (i = (2 : Int32)) → X G (dp + 0) kX0_world (hI Q) A 58 [some (.ref p), some (.int i)] [] := by
    intro c1
    replace h := h.2.2.1 c1
    refine x_aload_n dX0_world_58 rfl ?_
    obtain ⟨o4, h⟩ := h
    refine x_get (v := .int (A.I p 16)) hG dX0_world_59 f_X0_118_0 o4 rfl ?_
    exact x_iret dX0_world_62 rfl ⟨_, rfl, h⟩
  have kt1_3 : (i = (3 : Int32)) → X G (dp + 0) kX0_world (hI Q) A 63 [some (.ref p), some (.int i)] [] := by
    intro c1
    replace h := h.2.2.2.1 c1
    refine x_aload_n dX0_world_63 rfl ?_
    obtain ⟨o5, h⟩ := h
    refine x_get (v := .int (A.I p 15)) hG dX0_world_64 f_X0_115_0 o5 rfl ?_
    exact x_iret dX0_world_67 rfl ⟨_, rfl, h⟩
  have kt1_4 : (i = (4 : Int32)) → X G (dp + 0) kX0_world (hI Q) A 68 [some (.ref p), some (.int i)] [] := by
    intro c1
    replace h := h.2.2.2.2.1 c1
    refine x_aload_n dX0_world_68 rfl ?_
    obtain ⟨o6, h⟩ := h
    refine x_get (v := .int (A.I p 19)) hG dX0_world_69 f_X0_121_0 o6 rfl ?_
    refine x_iconst_ (v := (3 : Int32)) dX0_world_72 (by decide) ?_
    refine x_via 92 (A' := A) (lv' := [none, none]) (st' := [.int (if (A.I p 19) = (3 : Int32) then (A.I p 22) else (if (A.I p 19) = (4 : Int32) then (A.I p 22) else (0 : Int32)))]) ?_ (fun k92 => ?_)
    rotate_left
    · refine x_icmp_eq (tgt := 84) dX0_world_73 (by decide) (fun c73 => ?_) (fun c73 => ?_)
      · refine x_aload_n dX0_world_84 rfl ?_
        refine x_get (v := .int (A.I p 22)) hG dX0_world_85 f_X0_237_0 o6 rfl ?_
        refine x_goto (tgt := 92) dX0_world_88 (by decide) ?_
        change X _ _ _ _ _ _ [some (.ref p), some (.int i)] [.int (A.I p 22)]
        simp only [if_pos c73] at k92 ⊢
        exact X.weak (xle_n (xle_n xle_nil)) k92
      · refine x_aload_n dX0_world_76 rfl ?_
        refine x_get (v := .int (A.I p 19)) hG dX0_world_77 f_X0_121_0 o6 rfl ?_
        refine x_iconst_ (v := (4 : Int32)) dX0_world_80 (by decide) ?_
        refine x_icmp_ne (tgt := 91) dX0_world_81 (by decide) (fun c81 => ?_) (fun c81 => ?_)
        · refine x_iconst_ (v := (0 : Int32)) dX0_world_91 (by decide) ?_
          change X _ _ _ _ _ _ [some (.ref p), some (.int i)] [.int (0 : Int32)]
          try simp only [if_neg c73] at c81 k92 ⊢
          try simp only [if_neg c81] at k92 ⊢
          exact X.weak (xle_n (xle_n xle_nil)) k92
        · refine x_aload_n dX0_world_84 rfl ?_
          refine x_get (v := .int (A.I p 22)) hG dX0_world_85 f_X0_237_0 o6 rfl ?_
          refine x_goto (tgt := 92) dX0_world_88 (by decide) ?_
          change X _ _ _ _ _ _ [some (.ref p), some (.int i)] [.int (A.I p 22)]
          try simp only [if_neg c73] at c81 k92 ⊢
          try simp only [if_pos c81] at k92 ⊢
          exact X.weak (xle_n (xle_n xle_nil)) k92
    exact x_iret dX0_world_92 rfl ⟨_, rfl, h⟩
  have kt1_5 : (i = (5 : Int32)) → X G (dp + 0) kX0_world (hI Q) A 93 [some (.ref p), some (.int i)] [] := by
    intro c1
    replace h := h.2.2.2.2.2.1 c1
    refine x_aload_n dX0_world_93 rfl ?_
    obtain ⟨o7, h⟩ := h
    refine x_get (v := .int (A.I p 19)) hG dX0_world_94 f_X0_121_0 o7 rfl ?_
    refine x_iconst_ (v := (5 : Int32)) dX0_world_97 (by decide) ?_
    refine x_via 118 (A' := A) (lv' := [none, none]) (st' := [.int (if (A.I p 19) = (5 : Int32) then (A.I p 23) else (if (A.I p 19) = (6 : Int32) then (A.I p 23) else (-1 : Int32)))]) ?_ (fun k118 => ?_)
    rotate_left
    · refine x_icmp_eq (tgt := 110) dX0_world_98 (by decide) (fun c98 => ?_) (fun c98 => ?_)
      · refine x_aload_n dX0_world_110 rfl ?_
        refine x_get (v := .int (A.I p 23)) hG dX0_world_111 f_X0_240_0 o7 rfl ?_
        refine x_goto (tgt := 118) dX0_world_114 (by decide) ?_
        change X _ _ _ _ _ _ [some (.ref p), some (.int i)] [.int (A.I p 23)]
        simp only [if_pos c98] at k118 ⊢
        exact X.weak (xle_n (xle_n xle_nil)) k118
      · refine x_aload_n dX0_world_101 rfl ?_
        refine x_get (v := .int (A.I p 19)) hG dX0_world_102 f_X0_121_0 o7 rfl ?_
        refine x_bipush_ (v := (6 : Int32)) dX0_world_105 (by decide) ?_
        refine x_icmp_ne (tgt := 117) dX0_world_107 (by decide) (fun c107 => ?_) (fun c107 => ?_)
        · refine x_iconst_ (v := (-1 : Int32)) dX0_world_117 (by decide) ?_
          change X _ _ _ _ _ _ [some (.ref p), some (.int i)] [.int (-1 : Int32)]
          try simp only [if_neg c98] at c107 k118 ⊢
          try simp only [if_neg c107] at k118 ⊢
          exact X.weak (xle_n (xle_n xle_nil)) k118
        · refine x_aload_n dX0_world_110 rfl ?_
          refine x_get (v := .int (A.I p 23)) hG dX0_world_111 f_X0_240_0 o7 rfl ?_
          refine x_goto (tgt := 118) dX0_world_114 (by decide) ?_
          change X _ _ _ _ _ _ [some (.ref p), some (.int i)] [.int (A.I p 23)]
          try simp only [if_neg c98] at c107 k118 ⊢
          try simp only [if_pos c107] at k118 ⊢
          exact X.weak (xle_n (xle_n xle_nil)) k118
    exact x_iret dX0_world_118 rfl ⟨_, rfl, h⟩
  have kt1_6 : (i = (6 : Int32)) → X G (dp + 0) kX0_world (hI Q) A 119 [some (.ref p), some (.int i)] [] := by
    intro c1
    replace h := h.2.2.2.2.2.2.1 c1
    refine x_aload_n dX0_world_119 rfl ?_
    obtain ⟨o8, h⟩ := h
    refine x_get (v := .int (A.I p 24)) hG dX0_world_120 f_X0_130_0 o8 rfl ?_
    refine x_if_eq (tgt := 147) dX0_world_123 (by decide) (fun c123 => ?_) (fun c123 => ?_)
    · replace h := h.1 c123
      refine x_iconst_ (v := (0 : Int32)) dX0_world_147 (by decide) ?_
      exact x_iret dX0_world_148 rfl ⟨_, rfl, h⟩
    · replace h := h.2 c123
      refine x_aload_n dX0_world_126 rfl ?_
      refine x_get (v := .int (A.I p 19)) hG dX0_world_127 f_X0_121_0 o8 rfl ?_
      refine x_iconst_ (v := (3 : Int32)) dX0_world_130 (by decide) ?_
      refine x_icmp_eq (tgt := 147) dX0_world_131 (by decide) (fun c131 => ?_) (fun c131 => ?_)
      · replace h := h.1 c131
        refine x_iconst_ (v := (0 : Int32)) dX0_world_147 (by decide) ?_
        exact x_iret dX0_world_148 rfl ⟨_, rfl, h⟩
      · replace h := h.2 c131
        refine x_aload_n dX0_world_134 rfl ?_
        refine x_get (v := va_rf (A.P p 17)) hG dX0_world_135 f_X0_92_0 o8 rfl ?_
        obtain ⟨b9, e9, h⟩ := h
        rw [e9]
        obtain ⟨o10, h⟩ := h
        refine x_get (v := va_rf (A.P b9 1)) hG dX0_world_138 f_X0_241_11 o10 rfl ?_
        refine x_bipush_ (v := (27 : Int32)) dX0_world_141 (by decide) ?_
        obtain ⟨b11, e11, h⟩ := h
        rw [e11]
        obtain ⟨o12, h⟩ := h
        obtain ⟨o13, h⟩ := h
        refine x_iald hG dX0_world_143 o12 o13 ?_
        refine x_eqi (v := (A.I b11 27)) rfl ?_
        refine x_goto (tgt := 148) dX0_world_144 (by decide) ?_
        exact x_iret dX0_world_148 rfl ⟨_, rfl, h⟩
  have kt1_7 : (i = (7 : Int32)) → X G (dp + 0) kX0_world (hI Q) A 149 [some (.ref p), some (.int i)] [] := by
    intro c1
    replace h := h.2.2.2.2.2.2.2.1 c1
    refine x_aload_n dX0_world_149 rfl ?_
    obtain ⟨o14, h⟩ := h
    refine x_get (v := .int (A.I p 20)) hG dX0_world_150 f_X0_127_0 o14 rfl ?_
    exact x_iret dX0_world_153 rfl ⟨_, rfl, h⟩
  have kd1 : (¬ i = (0 : Int32) ∧ ¬ i = (1 : Int32) ∧ ¬ i = (2 : Int32) ∧ ¬ i = (3 : Int32) ∧ ¬ i = (4 : Int32) ∧ ¬ i = (5 : Int32) ∧ ¬ i = (6 : Int32) ∧ ¬ i = (7 : Int32)) → X G (dp + 0) kX0_world (hI Q) A 154 [some (.ref p), some (.int i)] [] := by
    intro c1
    replace h := h.2.2.2.2.2.2.2.2 c1
    refine x_iconst_ (v := (-1 : Int32)) dX0_world_154 (by decide) ?_
    exact x_iret dX0_world_155 rfl ⟨_, rfl, h⟩
  refine x_sw (0 : Int32) (fun s1_0 => ?_) (fun s1_0 => ?_)
  · refine x_tableIn (off := 47) (tgt := 48) dX0_world_1 (by rw [s1_0]; decide) (by rw [s1_0]; decide) (by rw [s1_0]; rfl) (by decide) ?_
    exact kt1_0 s1_0
  refine x_sw (1 : Int32) (fun s1_1 => ?_) (fun s1_1 => ?_)
  · refine x_tableIn (off := 52) (tgt := 53) dX0_world_1 (by rw [s1_1]; decide) (by rw [s1_1]; decide) (by rw [s1_1]; rfl) (by decide) ?_
    exact kt1_1 s1_1
  refine x_sw (2 : Int32) (fun s1_2 => ?_) (fun s1_2 => ?_)
  · refine x_tableIn (off := 57) (tgt := 58) dX0_world_1 (by rw [s1_2]; decide) (by rw [s1_2]; decide) (by rw [s1_2]; rfl) (by decide) ?_
    exact kt1_2 s1_2
  refine x_sw (3 : Int32) (fun s1_3 => ?_) (fun s1_3 => ?_)
  · refine x_tableIn (off := 62) (tgt := 63) dX0_world_1 (by rw [s1_3]; decide) (by rw [s1_3]; decide) (by rw [s1_3]; rfl) (by decide) ?_
    exact kt1_3 s1_3
  refine x_sw (4 : Int32) (fun s1_4 => ?_) (fun s1_4 => ?_)
  · refine x_tableIn (off := 67) (tgt := 68) dX0_world_1 (by rw [s1_4]; decide) (by rw [s1_4]; decide) (by rw [s1_4]; rfl) (by decide) ?_
    exact kt1_4 s1_4
  refine x_sw (5 : Int32) (fun s1_5 => ?_) (fun s1_5 => ?_)
  · refine x_tableIn (off := 92) (tgt := 93) dX0_world_1 (by rw [s1_5]; decide) (by rw [s1_5]; decide) (by rw [s1_5]; rfl) (by decide) ?_
    exact kt1_5 s1_5
  refine x_sw (6 : Int32) (fun s1_6 => ?_) (fun s1_6 => ?_)
  · refine x_tableIn (off := 118) (tgt := 119) dX0_world_1 (by rw [s1_6]; decide) (by rw [s1_6]; decide) (by rw [s1_6]; rfl) (by decide) ?_
    exact kt1_6 s1_6
  refine x_sw (7 : Int32) (fun s1_7 => ?_) (fun s1_7 => ?_)
  · refine x_tableIn (off := 148) (tgt := 149) dX0_world_1 (by rw [s1_7]; decide) (by rw [s1_7]; decide) (by rw [s1_7]; rfl) (by decide) ?_
    exact kt1_7 s1_7
  have t1_0 := lv_neT s1_0 (a := 0) (by decide)
  have t1_1 := lv_neT s1_1 (a := 1) (by decide)
  have t1_2 := lv_neT s1_2 (a := 2) (by decide)
  have t1_3 := lv_neT s1_3 (a := 3) (by decide)
  have t1_4 := lv_neT s1_4 (a := 4) (by decide)
  have t1_5 := lv_neT s1_5 (a := 5) (by decide)
  have t1_6 := lv_neT s1_6 (a := 6) (by decide)
  have t1_7 := lv_neT s1_7 (a := 7) (by decide)
  refine x_tableOut (tgt := 154) dX0_world_1 (by omega) (by decide) ?_
  exact kd1 ⟨s1_0, s1_1, s1_2, s1_3, s1_4, s1_5, s1_6, s1_7⟩
def w_X0_put (G : xG) (p : Nat) (a : Int32) (v : Int32) (Q : Int32 → xA → Prop) (A : xA) : Prop := xok G A → (((a &&& (3 : Int32)) = 0 → ((a < 0 → Q (0 : Int32) A) ∧ (¬ a < 0 → ((a < (16384 : Int32) → A.tg p = 1 ∧ (∃ b2 : Nat, (A.P p 18) = some b2 ∧ (A.tg b2 = 12 ∧ (∃ b4 : Nat, (A.P b2 0) = some b4 ∧ (A.tg b4 = 200 ∧ (G.N ≤ b4 ∧ (vp_in (jishr a (2 : Int32)) (A.ln b4) ∧ (∀ A8 : xA, A8 = A.setI b4 (ix (jishr a (2 : Int32))) v → (Q (1 : Int32) A8))))))))) ∧ (¬ a < (16384 : Int32) → Q (0 : Int32) A))))) ∧ (¬ (a &&& (3 : Int32)) = 0 → Q (0 : Int32) A))
theorem m_X0_put (hG : xOK G) (hO : xHO G) {dp : Nat} {p : Nat} {a : Int32} {v : Int32} {Q : Int32 → xA → Prop} {A : xA} (h : w_X0_put G p a v Q A) : MX G (dp + 0) kX0_put [.ref p, .int a, .int v] A (hZ Q) := by
  unfold w_X0_put at h
  refine MX.of rfl (Nat.le_of_ble_eq_true rfl) ?_
  change X _ _ _ _ _ _ [some (.ref p), some (.int a), some (.int v)] _
  refine X.xok (fun w0 => ?_)
  replace h := h w0
  refine x_iload_n dX0_put_0 rfl ?_
  refine x_iconst_ (v := (3 : Int32)) dX0_put_1 (by decide) ?_
  refine x_iand dX0_put_2 ?_
  refine x_if_ne (tgt := 17) dX0_put_3 (by decide) (fun c3 => ?_) (fun c3 => ?_)
  · replace h := h.2 c3
    refine x_iconst_ (v := (0 : Int32)) dX0_put_17 (by decide) ?_
    exact x_zret dX0_put_18 rfl (by decide) ⟨_, rfl, (by decide), h⟩
  · replace h := h.1 c3
    refine x_iload_n dX0_put_6 rfl ?_
    refine x_if_lt (tgt := 17) dX0_put_7 (by decide) (fun c7 => ?_) (fun c7 => ?_)
    · replace h := h.1 c7
      refine x_iconst_ (v := (0 : Int32)) dX0_put_17 (by decide) ?_
      exact x_zret dX0_put_18 rfl (by decide) ⟨_, rfl, (by decide), h⟩
    · replace h := h.2 c7
      refine x_iload_n dX0_put_10 rfl ?_
      refine x_sipush_ (v := (16384 : Int32)) dX0_put_11 (by decide) ?_
      refine x_icmp_lt (tgt := 19) dX0_put_14 (by decide) (fun c14 => ?_) (fun c14 => ?_)
      · replace h := h.1 c14
        refine x_aload_n dX0_put_19 rfl ?_
        obtain ⟨o1, h⟩ := h
        refine x_get (v := va_rf (A.P p 18)) hG dX0_put_20 f_X0_96_0 o1 rfl ?_
        obtain ⟨b2, e2, h⟩ := h
        rw [e2]
        obtain ⟨o3, h⟩ := h
        refine x_get (v := va_rf (A.P b2 0)) hG dX0_put_23 f_X0_99_11 o3 rfl ?_
        refine x_iload_n dX0_put_26 rfl ?_
        refine x_iconst_ (v := (2 : Int32)) dX0_put_27 (by decide) ?_
        refine x_ishr dX0_put_28 ?_
        refine x_eqi (v := (jishr a (2 : Int32))) rfl ?_
        refine x_iload_n dX0_put_29 rfl ?_
        obtain ⟨b4, e4, h⟩ := h
        rw [e4]
        obtain ⟨o5, h⟩ := h
        obtain ⟨o6, h⟩ := h
        obtain ⟨o7, h⟩ := h
        refine z_iast hG dX0_put_30 o5 o6 o7 (fun A8 e8 => ?_)
        replace h := h A8 e8
        refine x_iconst_ (v := (1 : Int32)) dX0_put_31 (by decide) ?_
        exact x_zret dX0_put_32 rfl (by decide) ⟨_, rfl, (by decide), h⟩
      · replace h := h.2 c14
        refine x_iconst_ (v := (0 : Int32)) dX0_put_17 (by decide) ?_
        exact x_zret dX0_put_18 rfl (by decide) ⟨_, rfl, (by decide), h⟩
def w_X0_set (G : xG) (p : Nat) (r : Int32) (n : Int32) (Q : Int32 → xA → Prop) (A : xA) : Prop := xok G A → ((r < (1 : Int32) → Q (0 : Int32) A) ∧ (¬ r < (1 : Int32) → ((r ≤ (32 : Int32) → ((r = (32 : Int32) → A.tg p = 1 ∧ (∃ b10 : Nat, (A.P p 18) = some b10 ∧ (A.tg b10 = 12 ∧ (∀ A12 : xA, A12 = A.setI b10 2 n → (Q (1 : Int32) A12))))) ∧ (¬ r = (32 : Int32) → A.tg p = 1 ∧ (∃ b2 : Nat, (A.P p 18) = some b2 ∧ (A.tg b2 = 12 ∧ (∃ b4 : Nat, (A.P b2 1) = some b4 ∧ (A.tg b4 = 200 ∧ (G.N ≤ b4 ∧ (vp_in r (A.ln b4) ∧ (∀ A8 : xA, A8 = A.setI b4 (ix r) n → (Q (1 : Int32) A8))))))))))) ∧ (¬ r ≤ (32 : Int32) → Q (0 : Int32) A))))
theorem m_X0_set (hG : xOK G) (hO : xHO G) {dp : Nat} {p : Nat} {r : Int32} {n : Int32} {Q : Int32 → xA → Prop} {A : xA} (h : w_X0_set G p r n Q A) : MX G (dp + 0) kX0_set [.ref p, .int r, .int n] A (hZ Q) := by
  unfold w_X0_set at h
  refine MX.of rfl (Nat.le_of_ble_eq_true rfl) ?_
  change X _ _ _ _ _ _ [some (.ref p), some (.int r), some (.int n)] _
  refine X.xok (fun w0 => ?_)
  replace h := h w0
  refine x_iload_n dX0_set_0 rfl ?_
  refine x_iconst_ (v := (1 : Int32)) dX0_set_1 (by decide) ?_
  refine x_icmp_lt (tgt := 11) dX0_set_2 (by decide) (fun c2 => ?_) (fun c2 => ?_)
  · replace h := h.1 c2
    refine x_iconst_ (v := (0 : Int32)) dX0_set_11 (by decide) ?_
    exact x_zret dX0_set_12 rfl (by decide) ⟨_, rfl, (by decide), h⟩
  · replace h := h.2 c2
    refine x_iload_n dX0_set_5 rfl ?_
    refine x_bipush_ (v := (32 : Int32)) dX0_set_6 (by decide) ?_
    refine x_icmp_le (tgt := 13) dX0_set_8 (by decide) (fun c8 => ?_) (fun c8 => ?_)
    · replace h := h.1 c8
      refine x_iload_n dX0_set_13 rfl ?_
      refine x_bipush_ (v := (32 : Int32)) dX0_set_14 (by decide) ?_
      refine x_icmp_ne (tgt := 30) dX0_set_16 (by decide) (fun c16 => ?_) (fun c16 => ?_)
      · replace h := h.2 c16
        refine x_aload_n dX0_set_30 rfl ?_
        obtain ⟨o1, h⟩ := h
        refine x_get (v := va_rf (A.P p 18)) hG dX0_set_31 f_X0_96_0 o1 rfl ?_
        obtain ⟨b2, e2, h⟩ := h
        rw [e2]
        obtain ⟨o3, h⟩ := h
        refine x_get (v := va_rf (A.P b2 1)) hG dX0_set_34 f_X0_241_11 o3 rfl ?_
        refine x_iload_n dX0_set_37 rfl ?_
        refine x_iload_n dX0_set_38 rfl ?_
        obtain ⟨b4, e4, h⟩ := h
        rw [e4]
        obtain ⟨o5, h⟩ := h
        obtain ⟨o6, h⟩ := h
        obtain ⟨o7, h⟩ := h
        refine z_iast hG dX0_set_39 o5 o6 o7 (fun A8 e8 => ?_)
        replace h := h A8 e8
        refine x_iconst_ (v := (1 : Int32)) dX0_set_40 (by decide) ?_
        exact x_zret dX0_set_41 rfl (by decide) ⟨_, rfl, (by decide), h⟩
      · replace h := h.1 c16
        refine x_aload_n dX0_set_19 rfl ?_
        obtain ⟨o9, h⟩ := h
        refine x_get (v := va_rf (A.P p 18)) hG dX0_set_20 f_X0_96_0 o9 rfl ?_
        refine x_iload_n dX0_set_23 rfl ?_
        obtain ⟨b10, e10, h⟩ := h
        rw [e10]
        obtain ⟨o11, h⟩ := h
        refine z_putI hG hO.1 dX0_set_24 f_X0_261_11 ⟨_, rfl, Or.inl rfl⟩ o11 (by decide) rfl rfl ⟨_, rfl⟩ (fun A12 e12 => ?_)
        replace h := h A12 e12
        refine x_goto (tgt := 40) dX0_set_27 (by decide) ?_
        refine x_iconst_ (v := (1 : Int32)) dX0_set_40 (by decide) ?_
        exact x_zret dX0_set_41 rfl (by decide) ⟨_, rfl, (by decide), h⟩
    · replace h := h.2 c8
      refine x_iconst_ (v := (0 : Int32)) dX0_set_11 (by decide) ?_
      exact x_zret dX0_set_12 rfl (by decide) ⟨_, rfl, (by decide), h⟩
def w_X0_go (G : xG) (p : Nat) (n : Int32) (Q : Int32 → xA → Prop) (A : xA) : Prop := xok G A → ((n < (1 : Int32) → Q (-1 : Int32) A) ∧ (¬ n < (1 : Int32) → ((n ≤ (1000 : Int32) → A.tg p = 1 ∧ (∃ b3 : Nat, (A.P p 18) = some b3 ∧ (A.tg b3 = 12 ∧ (∃ R2 : Int32 → xA → Prop, w_X12_go G b3 n R2 A ∧ (∀ (v2 : Int32) (A2 : xA), xok G A2 → R2 v2 A2 → (Q v2 A2)))))) ∧ (¬ n ≤ (1000 : Int32) → Q (-1 : Int32) A))))
theorem m_X0_go (hG : xOK G) (hO : xHO G) {dp : Nat} {p : Nat} {n : Int32} {Q : Int32 → xA → Prop} {A : xA} (h : w_X0_go G p n Q A) : MX G (dp + 5) kX0_go [.ref p, .int n] A (hI Q) := by
  unfold w_X0_go at h
  refine MX.of rfl (Nat.le_of_ble_eq_true rfl) ?_
  change X _ _ _ _ _ _ [some (.ref p), some (.int n)] _
  refine X.xok (fun w0 => ?_)
  replace h := h w0
  refine x_iload_n dX0_go_0 rfl ?_
  refine x_iconst_ (v := (1 : Int32)) dX0_go_1 (by decide) ?_
  refine x_icmp_lt (tgt := 12) dX0_go_2 (by decide) (fun c2 => ?_) (fun c2 => ?_)
  · replace h := h.1 c2
    refine x_iconst_ (v := (-1 : Int32)) dX0_go_12 (by decide) ?_
    refine x_goto (tgt := 24) dX0_go_13 (by decide) ?_
    exact x_iret dX0_go_24 rfl ⟨_, rfl, h⟩
  · replace h := h.2 c2
    refine x_iload_n dX0_go_5 rfl ?_
    refine x_sipush_ (v := (1000 : Int32)) dX0_go_6 (by decide) ?_
    refine x_icmp_le (tgt := 16) dX0_go_9 (by decide) (fun c9 => ?_) (fun c9 => ?_)
    · replace h := h.1 c9
      refine x_aload_n dX0_go_16 rfl ?_
      obtain ⟨o1, h⟩ := h
      refine x_get (v := va_rf (A.P p 18)) hG dX0_go_17 f_X0_96_0 o1 rfl ?_
      refine x_iload_n dX0_go_20 rfl ?_
      obtain ⟨b3, e3, h⟩ := h
      rw [e3]
      obtain ⟨o4, h⟩ := h
      obtain ⟨R2, g2, h⟩ := h
      refine x_callV hG (Ky := kX12_go) (As := [.int n]) dX0_go_21 o4 rfl lk_X0_250 me_X12_go is_X12_go se_X12_go rfl rfl (Nat.le_of_ble_eq_true rfl) (MX.post (m_X12_go hG hO g2) ?_)
      rintro _ A2 ⟨v2, rfl, h1⟩
      refine X.xok (fun w2 => ?_)
      replace h := h v2 A2 w2 h1
      change X _ _ _ _ A2 _ _ [.int v2]
      exact x_iret dX0_go_24 rfl ⟨_, rfl, h⟩
    · replace h := h.2 c9
      refine x_iconst_ (v := (-1 : Int32)) dX0_go_12 (by decide) ?_
      refine x_goto (tgt := 24) dX0_go_13 (by decide) ?_
      exact x_iret dX0_go_24 rfl ⟨_, rfl, h⟩
def w_X0_board (G : xG) (p : Nat) (i : Int32) (Q : Int32 → xA → Prop) (A : xA) : Prop := xok G A → ((i = (32 : Int32) → A.tg p = 1 ∧ (∃ b23 : Nat, (A.P p 18) = some b23 ∧ (A.tg b23 = 12 ∧ (Q (A.I b23 2) A)))) ∧ (¬ i = (32 : Int32) → ((i = (33 : Int32) → A.tg p = 1 ∧ (∃ b20 : Nat, (A.P p 18) = some b20 ∧ (A.tg b20 = 12 ∧ (Q (A.I b20 3) A)))) ∧ (¬ i = (33 : Int32) → ((i < 0 → ((i < (100 : Int32) → Q (-1 : Int32) A) ∧ (¬ i < (100 : Int32) → (((4196 : Int32) ≤ i → Q (-1 : Int32) A) ∧ (¬ (4196 : Int32) ≤ i → A.tg p = 1 ∧ (∃ b2 : Nat, (A.P p 18) = some b2 ∧ (A.tg b2 = 12 ∧ (∃ b4 : Nat, (A.P b2 0) = some b4 ∧ (A.tg b4 = 200 ∧ (vp_in (i - (100 : Int32)) (A.ln b4) ∧ (Q (A.I b4 (ix (i - (100 : Int32)))) A))))))))))) ∧ (¬ i < 0 → (((32 : Int32) ≤ i → ((i < (100 : Int32) → Q (-1 : Int32) A) ∧ (¬ i < (100 : Int32) → (((4196 : Int32) ≤ i → Q (-1 : Int32) A) ∧ (¬ (4196 : Int32) ≤ i → A.tg p = 1 ∧ (∃ b8 : Nat, (A.P p 18) = some b8 ∧ (A.tg b8 = 12 ∧ (∃ b10 : Nat, (A.P b8 0) = some b10 ∧ (A.tg b10 = 200 ∧ (vp_in (i - (100 : Int32)) (A.ln b10) ∧ (Q (A.I b10 (ix (i - (100 : Int32)))) A))))))))))) ∧ (¬ (32 : Int32) ≤ i → A.tg p = 1 ∧ (∃ b14 : Nat, (A.P p 18) = some b14 ∧ (A.tg b14 = 12 ∧ (∃ b16 : Nat, (A.P b14 1) = some b16 ∧ (A.tg b16 = 200 ∧ (vp_in i (A.ln b16) ∧ (Q (A.I b16 (ix i)) A))))))))))))))
theorem m_X0_board (hG : xOK G) (hO : xHO G) {dp : Nat} {p : Nat} {i : Int32} {Q : Int32 → xA → Prop} {A : xA} (h : w_X0_board G p i Q A) : MX G (dp + 0) kX0_board [.ref p, .int i] A (hI Q) := by
  unfold w_X0_board at h
  refine MX.of rfl (Nat.le_of_ble_eq_true rfl) ?_
  change X _ _ _ _ _ _ [some (.ref p), some (.int i)] _
  refine X.xok (fun w0 => ?_)
  replace h := h w0
  refine x_iload_n dX0_board_0 rfl ?_
  refine x_bipush_ (v := (32 : Int32)) dX0_board_1 (by decide) ?_
  refine x_icmp_ne (tgt := 14) dX0_board_3 (by decide) (fun c3 => ?_) (fun c3 => ?_)
  · replace h := h.2 c3
    refine x_iload_n dX0_board_14 rfl ?_
    refine x_bipush_ (v := (33 : Int32)) dX0_board_15 (by decide) ?_
    refine x_icmp_ne (tgt := 28) dX0_board_17 (by decide) (fun c17 => ?_) (fun c17 => ?_)
    · replace h := h.2 c17
      refine x_iload_n dX0_board_28 rfl ?_
      refine x_if_lt (tgt := 48) dX0_board_29 (by decide) (fun c29 => ?_) (fun c29 => ?_)
      · replace h := h.1 c29
        refine x_iload_n dX0_board_48 rfl ?_
        refine x_bipush_ (v := (100 : Int32)) dX0_board_49 (by decide) ?_
        refine x_icmp_lt (tgt := 76) dX0_board_51 (by decide) (fun c51 => ?_) (fun c51 => ?_)
        · replace h := h.1 c51
          refine x_iconst_ (v := (-1 : Int32)) dX0_board_76 (by decide) ?_
          exact x_iret dX0_board_77 rfl ⟨_, rfl, h⟩
        · replace h := h.2 c51
          refine x_iload_n dX0_board_54 rfl ?_
          refine x_sipush_ (v := (4196 : Int32)) dX0_board_55 (by decide) ?_
          refine x_icmp_ge (tgt := 76) dX0_board_58 (by decide) (fun c58 => ?_) (fun c58 => ?_)
          · replace h := h.1 c58
            refine x_iconst_ (v := (-1 : Int32)) dX0_board_76 (by decide) ?_
            exact x_iret dX0_board_77 rfl ⟨_, rfl, h⟩
          · replace h := h.2 c58
            refine x_aload_n dX0_board_61 rfl ?_
            obtain ⟨o1, h⟩ := h
            refine x_get (v := va_rf (A.P p 18)) hG dX0_board_62 f_X0_96_0 o1 rfl ?_
            obtain ⟨b2, e2, h⟩ := h
            rw [e2]
            obtain ⟨o3, h⟩ := h
            refine x_get (v := va_rf (A.P b2 0)) hG dX0_board_65 f_X0_99_11 o3 rfl ?_
            refine x_iload_n dX0_board_68 rfl ?_
            refine x_bipush_ (v := (100 : Int32)) dX0_board_69 (by decide) ?_
            refine x_isub dX0_board_71 ?_
            obtain ⟨b4, e4, h⟩ := h
            rw [e4]
            obtain ⟨o5, h⟩ := h
            obtain ⟨o6, h⟩ := h
            refine x_iald hG dX0_board_72 o5 o6 ?_
            refine x_goto (tgt := 77) dX0_board_73 (by decide) ?_
            exact x_iret dX0_board_77 rfl ⟨_, rfl, h⟩
      · replace h := h.2 c29
        refine x_iload_n dX0_board_32 rfl ?_
        refine x_bipush_ (v := (32 : Int32)) dX0_board_33 (by decide) ?_
        refine x_icmp_ge (tgt := 48) dX0_board_35 (by decide) (fun c35 => ?_) (fun c35 => ?_)
        · replace h := h.1 c35
          refine x_iload_n dX0_board_48 rfl ?_
          refine x_bipush_ (v := (100 : Int32)) dX0_board_49 (by decide) ?_
          refine x_icmp_lt (tgt := 76) dX0_board_51 (by decide) (fun c51 => ?_) (fun c51 => ?_)
          · replace h := h.1 c51
            refine x_iconst_ (v := (-1 : Int32)) dX0_board_76 (by decide) ?_
            exact x_iret dX0_board_77 rfl ⟨_, rfl, h⟩
          · replace h := h.2 c51
            refine x_iload_n dX0_board_54 rfl ?_
            refine x_sipush_ (v := (4196 : Int32)) dX0_board_55 (by decide) ?_
            refine x_icmp_ge (tgt := 76) dX0_board_58 (by decide) (fun c58 => ?_) (fun c58 => ?_)
            · replace h := h.1 c58
              refine x_iconst_ (v := (-1 : Int32)) dX0_board_76 (by decide) ?_
              exact x_iret dX0_board_77 rfl ⟨_, rfl, h⟩
            · replace h := h.2 c58
              refine x_aload_n dX0_board_61 rfl ?_
              obtain ⟨o7, h⟩ := h
              refine x_get (v := va_rf (A.P p 18)) hG dX0_board_62 f_X0_96_0 o7 rfl ?_
              obtain ⟨b8, e8, h⟩ := h
              rw [e8]
              obtain ⟨o9, h⟩ := h
              refine x_get (v := va_rf (A.P b8 0)) hG dX0_board_65 f_X0_99_11 o9 rfl ?_
              refine x_iload_n dX0_board_68 rfl ?_
              refine x_bipush_ (v := (100 : Int32)) dX0_board_69 (by decide) ?_
              refine x_isub dX0_board_71 ?_
              obtain ⟨b10, e10, h⟩ := h
              rw [e10]
              obtain ⟨o11, h⟩ := h
              obtain ⟨o12, h⟩ := h
              refine x_iald hG dX0_board_72 o11 o12 ?_
              refine x_goto (tgt := 77) dX0_board_73 (by decide) ?_
              exact x_iret dX0_board_77 rfl ⟨_, rfl, h⟩
        · replace h := h.2 c35
          refine x_aload_n dX0_board_38 rfl ?_
          obtain ⟨o13, h⟩ := h
          refine x_get (v := va_rf (A.P p 18)) hG dX0_board_39 f_X0_96_0 o13 rfl ?_
          obtain ⟨b14, e14, h⟩ := h
          rw [e14]
          obtain ⟨o15, h⟩ := h
          refine x_get (v := va_rf (A.P b14 1)) hG dX0_board_42 f_X0_241_11 o15 rfl ?_
          refine x_iload_n dX0_board_45 rfl ?_
          obtain ⟨b16, e16, h⟩ := h
          rw [e16]
          obtain ⟨o17, h⟩ := h
          obtain ⟨o18, h⟩ := h
          refine x_iald hG dX0_board_46 o17 o18 ?_
          exact x_iret dX0_board_47 rfl ⟨_, rfl, h⟩
    · replace h := h.1 c17
      refine x_aload_n dX0_board_20 rfl ?_
      obtain ⟨o19, h⟩ := h
      refine x_get (v := va_rf (A.P p 18)) hG dX0_board_21 f_X0_96_0 o19 rfl ?_
      obtain ⟨b20, e20, h⟩ := h
      rw [e20]
      obtain ⟨o21, h⟩ := h
      refine x_get (v := .int (A.I b20 3)) hG dX0_board_24 f_X0_267_11 o21 rfl ?_
      exact x_iret dX0_board_27 rfl ⟨_, rfl, h⟩
  · replace h := h.1 c3
    refine x_aload_n dX0_board_6 rfl ?_
    obtain ⟨o22, h⟩ := h
    refine x_get (v := va_rf (A.P p 18)) hG dX0_board_7 f_X0_96_0 o22 rfl ?_
    obtain ⟨b23, e23, h⟩ := h
    rw [e23]
    obtain ⟨o24, h⟩ := h
    refine x_get (v := .int (A.I b23 2)) hG dX0_board_10 f_X0_261_11 o24 rfl ?_
    exact x_iret dX0_board_13 rfl ⟨_, rfl, h⟩
def w_X0_start (G : xG) (p : Nat) (n : Int32) (Q : xA → Prop) (A : xA) : Prop := xok G A → A.tg p = 1 ∧ (∃ b2 : Nat, (A.P p 17) = some b2 ∧ (A.tg b2 = 12 ∧ (∃ L4 : Nat → Int32 → xA → Prop, (∃ n4 : Nat, L4 n4 (0 : Int32) A) ∧ (∀ (n4 : Nat) (y4_3 : Int32) (A4 : xA), L4 n4 y4_3 A4 → (((32 : Int32) ≤ y4_3 → ∃ b5 : Nat, (A.P b2 1) = some b5 ∧ (A4.tg b5 = 200 ∧ (G.N ≤ b5 ∧ (vp_in (1 : Int32) (A4.ln b5) ∧ (∀ A9 : xA, A9 = A4.setI b5 1 (8192 : Int32) → (A9.tg p = 1 ∧ (∃ b11 : Nat, (A4.P p 17) = some b11 ∧ (A9.tg b11 = 12 ∧ (∃ b13 : Nat, (A4.P b11 0) = some b13 ∧ (A9.tg b13 = 200 ∧ (vp_in (2 : Int32) (A9.ln b5) ∧ (∀ A16 : xA, A16 = A9.setI b5 2 ((4 : Int32) * (nI (A9.ln b13))) → (vp_in (4 : Int32) (A16.ln b5) ∧ (∀ A18 : xA, A18 = A16.setI b5 4 (A9.I p 20) → (vp_in (27 : Int32) (A18.ln b5) ∧ (∀ A20 : xA, A20 = A18.setI b5 27 n → (∀ A21 : xA, A21 = A20.setI b11 2 (A9.I p 10) → (∀ A22 : xA, A22 = A21.setI p 24 (1 : Int32) → (Q A22))))))))))))))))))) ∧ (¬ (32 : Int32) ≤ y4_3 → ∃ b23 : Nat, (A.P b2 1) = some b23 ∧ (A4.tg b23 = 200 ∧ (G.N ≤ b23 ∧ (vp_in y4_3 (A4.ln b23) ∧ (∀ A27 : xA, A27 = A4.setI b23 (ix y4_3) (0 : Int32) → ((∃ q4 : Nat, q4 < n4 ∧ L4 q4 (y4_3 + (1 : Int32)) A27))))))))))))
theorem m_X0_start (hG : xOK G) (hO : xHO G) {dp : Nat} {p : Nat} {n : Int32} {Q : xA → Prop} {A : xA} (h : w_X0_start G p n Q A) : MX G (dp + 0) kX0_start [.ref p, .int n] A (hV Q) := by
  unfold w_X0_start at h
  refine MX.of rfl (Nat.le_of_ble_eq_true rfl) ?_
  change X _ _ _ _ _ _ [some (.ref p), some (.int n), none, none] _
  refine X.xok (fun w0 => ?_)
  replace h := h w0
  refine x_aload_n dX0_start_0 rfl ?_
  obtain ⟨o1, h⟩ := h
  refine x_get (v := va_rf (A.P p 17)) hG dX0_start_1 f_X0_92_0 o1 rfl ?_
  obtain ⟨b2, e2, h⟩ := h
  rw [e2]
  obtain ⟨o3, h⟩ := h
  refine x_get (v := va_rf (A.P b2 1)) hG dX0_start_4 f_X0_241_11 o3 rfl ?_
  refine x_astoreq_n dX0_start_7 (by decide) ?_
  refine x_iconst_ (v := (0 : Int32)) dX0_start_8 (by decide) ?_
  refine x_istore_n dX0_start_9 (by decide) ?_
  refine X.lvs (lv' := [some (.ref p), some (.int n), some (va_rf (A.P b2 1)), some (.int (0 : Int32))]) (by generalize (A.P b2 1) = z; cases z <;> rfl) ?_
  obtain ⟨L4, ⟨n4, i4⟩, g4⟩ := h
  have kl4 : ∀ n4 : Nat, ∀ (y4_3 : Int32) (A4 : xA), L4 n4 y4_3 A4 → X G (dp + 0) kX0_start (hV Q) A4 10 [some (.ref p), some (.int n), some (va_rf (A.P b2 1)), some (.int y4_3)] [] := by
    intro n4
    induction n4 using Nat.strongRecOn with
    | ind n4 ih4 =>
      intro y4_3 A4 h
      replace h := g4 n4 y4_3 A4 h
      refine x_iload_n dX0_start_10 rfl ?_
      refine x_bipush_ (v := (32 : Int32)) dX0_start_11 (by decide) ?_
      refine x_icmp_ge (tgt := 26) dX0_start_13 (by decide) (fun c13 => ?_) (fun c13 => ?_)
      · replace h := h.1 c13
        refine x_aloadq_n dX0_start_26 rfl ?_
        refine x_iconst_ (v := (1 : Int32)) dX0_start_27 (by decide) ?_
        refine x_sipush_ (v := (8192 : Int32)) dX0_start_28 (by decide) ?_
        obtain ⟨b5, e5, h⟩ := h
        rw [e5]
        obtain ⟨o6, h⟩ := h
        obtain ⟨o7, h⟩ := h
        obtain ⟨o8, h⟩ := h
        refine z_iast hG dX0_start_31 o6 o7 o8 (fun A9 e9 => ?_)
        replace h := h A9 e9
        refine x_aload_n dX0_start_32 rfl ?_
        refine x_iconst_ (v := (2 : Int32)) dX0_start_33 (by decide) ?_
        refine x_iconst_ (v := (4 : Int32)) dX0_start_34 (by decide) ?_
        refine x_aload_n dX0_start_35 rfl ?_
        obtain ⟨o10, h⟩ := h
        refine x_get (v := va_rf (A4.P p 17)) hG dX0_start_36 f_X0_92_0 o10 (congrArg va_rf (sI_P e9)) ?_
        obtain ⟨b11, e11, h⟩ := h
        rw [e11]
        obtain ⟨o12, h⟩ := h
        refine x_get (v := va_rf (A4.P b11 0)) hG dX0_start_39 f_X0_99_11 o12 (congrArg va_rf (sI_P e9)) ?_
        obtain ⟨b13, e13, h⟩ := h
        rw [e13]
        obtain ⟨o14, h⟩ := h
        refine x_alen hG (j := 0) dX0_start_42 o14 ?_
        refine x_imul dX0_start_43 ?_
        obtain ⟨o15, h⟩ := h
        refine z_iast hG dX0_start_44 (kI e9 o6) o7 o15 (fun A16 e16 => ?_)
        replace h := h A16 e16
        refine x_aload_n dX0_start_45 rfl ?_
        refine x_iconst_ (v := (4 : Int32)) dX0_start_46 (by decide) ?_
        refine x_aload_n dX0_start_47 rfl ?_
        refine x_get (v := .int (A9.I p 20)) hG dX0_start_48 f_X0_127_0 (kI e16 o10) (congrArg Value.int (sI_a e16 (tne o10 (kI e9 o6) (by decide)))) ?_
        obtain ⟨o17, h⟩ := h
        refine z_iast hG dX0_start_51 (kI e16 (kI e9 o6)) o7 o17 (fun A18 e18 => ?_)
        replace h := h A18 e18
        refine x_aload_n dX0_start_52 rfl ?_
        refine x_bipush_ (v := (27 : Int32)) dX0_start_53 (by decide) ?_
        refine x_iload_n dX0_start_55 rfl ?_
        obtain ⟨o19, h⟩ := h
        refine z_iast hG dX0_start_56 (kI e18 (kI e16 (kI e9 o6))) o7 o19 (fun A20 e20 => ?_)
        replace h := h A20 e20
        refine x_aload_n dX0_start_57 rfl ?_
        refine x_get (v := .ref b11) hG dX0_start_58 f_X0_92_0 (kI e20 (kI e18 (kI e16 o10))) (congrArg va_rf (((sI_P e20).trans ((sI_P e18).trans ((sI_P e16).trans (sI_P e9)))).trans e11)) ?_
        refine x_aload_n dX0_start_61 rfl ?_
        refine x_get (v := .int (A9.I p 10)) hG dX0_start_62 f_X0_219_0 (kI e20 (kI e18 (kI e16 o10))) (congrArg Value.int ((sI_a e20 (tne (kI e18 (kI e16 o10)) (kI e18 (kI e16 (kI e9 o6))) (by decide))).trans ((sI_a e18 (tne (kI e16 o10) (kI e16 (kI e9 o6)) (by decide))).trans (sI_a e16 (tne o10 (kI e9 o6) (by decide)))))) ?_
        refine z_putI hG hO.1 dX0_start_65 f_X0_261_11 ⟨_, rfl, Or.inl rfl⟩ (kI e20 (kI e18 (kI e16 o12))) (by decide) rfl rfl ⟨_, rfl⟩ (fun A21 e21 => ?_)
        replace h := h A21 e21
        refine x_aload_n dX0_start_68 rfl ?_
        refine x_iconst_ (v := (1 : Int32)) dX0_start_69 (by decide) ?_
        refine z_putI hG hO.1 dX0_start_70 f_X0_130_0 ⟨_, rfl, Or.inl rfl⟩ (kI e21 (kI e20 (kI e18 (kI e16 o10)))) (by decide) (narrow01 (by decide)) (fits01 (by decide)) ⟨_, rfl⟩ (fun A22 e22 => ?_)
        replace h := h A22 e22
        exact x_vret dX0_start_73 rfl ⟨rfl, h⟩
      · replace h := h.2 c13
        refine x_aloadq_n dX0_start_16 rfl ?_
        refine x_iload_n dX0_start_17 rfl ?_
        refine x_iconst_ (v := (0 : Int32)) dX0_start_18 (by decide) ?_
        obtain ⟨b23, e23, h⟩ := h
        rw [e23]
        obtain ⟨o24, h⟩ := h
        obtain ⟨o25, h⟩ := h
        obtain ⟨o26, h⟩ := h
        refine z_iast hG dX0_start_19 o24 o25 o26 (fun A27 e27 => ?_)
        replace h := h A27 e27
        refine x_iinc (v := (y4_3 + (1 : Int32))) dX0_start_20 rfl rfl (by decide) ?_
        refine x_goto (tgt := 10) dX0_start_23 (by decide) ?_
        obtain ⟨q4, l4, h⟩ := h
        change X _ _ _ _ _ _ [some (.ref p), some (.int n), some (.ref b23), some (.int (y4_3 + (1 : Int32)))] []
        exact X.weak (xle_c rfl (xle_c rfl (xle_c (congrArg (fun z => some (va_rf z)) e23.symm) (xle_c rfl xle_nil)))) (ih4 q4 l4 (y4_3 + (1 : Int32)) A27 h)
  change X _ _ _ _ _ _ [some (.ref p), some (.int n), some (va_rf (A.P b2 1)), some (.int (0 : Int32))] []
  exact X.weak (xle_c rfl (xle_c rfl (xle_c rfl (xle_c rfl xle_nil)))) (kl4 n4 (0 : Int32) A i4)
def w_X0_serve (G : xG) (p : Nat) (i : Int32) (Q : Int32 → xA → Prop) (A : xA) : Prop := xok G A → A.tg p = 1 ∧ (∃ b2 : Nat, (A.P p 17) = some b2 ∧ (A.tg b2 = 12 ∧ ((((i = (1 : Int32)) → Q (0 : Int32) A) ∧ ((i = (2 : Int32)) → ∃ J5 : xA → Prop, (∀ (A5 : xA), J5 A5 → A5.tg p = 1 ∧ ((((2147483647 : Int32) ≤ (A5.I p 16) → Q (1 : Int32) A5) ∧ (¬ (2147483647 : Int32) ≤ (A5.I p 16) → ∀ A7 : xA, A7 = A5.setI p 16 ((A5.I p 16) + (1 : Int32)) → (Q (1 : Int32) A7))))) ∧ (((2000 : Int32) ≤ (A.I p 16) → J5 A) ∧ (¬ (2000 : Int32) ≤ (A.I p 16) → ∃ b8 : Nat, (A.P b2 1) = some b8 ∧ (A.tg b8 = 200 ∧ (vp_in (10 : Int32) (A.ln b8) ∧ (∃ b11 : Nat, (A.P p 14) = some b11 ∧ (A.tg b11 = 200 ∧ (G.N ≤ b11 ∧ (vp_in (A.I p 16) (A.ln b11) ∧ (∀ A15 : xA, A15 = A.setI b11 (ix (A.I p 16)) (A.I b8 10) → (J5 A15))))))))))) ∧ ((i = (3 : Int32)) → (((A.I p 15) = 0 → ∀ A22 : xA, A22 = A.setI p 19 (2 : Int32) → (Q (0 : Int32) A22)) ∧ (¬ (A.I p 15) = 0 → ∃ R16 : Int32 → xA → Prop, w_X0_next G p R16 A ∧ (∀ (v16 : Int32) (A16 : xA), xok G A16 → R16 v16 A16 → (∃ b17 : Nat, (A.P b2 1) = some b17 ∧ (A16.tg b17 = 200 ∧ (G.N ≤ b17 ∧ (vp_in (10 : Int32) (A16.ln b17) ∧ (∀ A21 : xA, A21 = A16.setI b17 10 v16 → (Q (1 : Int32) A21)))))))))) ∧ ((i = (4 : Int32) ∨ i = (7 : Int32)) → ∀ A23 : xA, A23 = A.setI p 19 (if i = (4 : Int32) then (4 : Int32) else (3 : Int32)) → (∃ b24 : Nat, (A.P b2 1) = some b24 ∧ (A23.tg b24 = 200 ∧ (vp_in (10 : Int32) (A23.ln b24) ∧ (∀ A27 : xA, A27 = A23.setI p 22 (A23.I b24 10) → (Q (0 : Int32) A27)))))) ∧ ((¬ i = (1 : Int32) ∧ ¬ i = (2 : Int32) ∧ ¬ i = (3 : Int32) ∧ ¬ i = (4 : Int32) ∧ ¬ i = (7 : Int32)) → ∀ A28 : xA, A28 = A.setI p 19 i → (∃ b29 : Nat, (A.P b2 1) = some b29 ∧ (A28.tg b29 = 200 ∧ (vp_in (10 : Int32) (A28.ln b29) ∧ (∀ A32 : xA, A32 = A28.setI p 23 (A28.I b29 10) → (Q (0 : Int32) A32))))))))))
theorem m_X0_serve (hG : xOK G) (hO : xHO G) {dp : Nat} {p : Nat} {i : Int32} {Q : Int32 → xA → Prop} {A : xA} (h : w_X0_serve G p i Q A) : MX G (dp + 1) kX0_serve [.ref p, .int i] A (hZ Q) := by
  unfold w_X0_serve at h
  refine MX.of rfl (Nat.le_of_ble_eq_true rfl) ?_
  change X _ _ _ _ _ _ [some (.ref p), some (.int i), none] _
  refine X.xok (fun w0 => ?_)
  replace h := h w0
  refine x_aload_n dX0_serve_0 rfl ?_
  obtain ⟨o1, h⟩ := h
  refine x_get (v := va_rf (A.P p 17)) hG dX0_serve_1 f_X0_92_0 o1 rfl ?_
  obtain ⟨b2, e2, h⟩ := h
  rw [e2]
  obtain ⟨o3, h⟩ := h
  refine x_get (v := va_rf (A.P b2 1)) hG dX0_serve_4 f_X0_241_11 o3 rfl ?_
  refine x_astoreq_n dX0_serve_7 (by decide) ?_
  refine x_iload_n dX0_serve_8 rfl ?_
  have kt4_0 : (i = (1 : Int32)) → X G (dp + 1) kX0_serve (hZ Q) A 52 [some (.ref p), some (.int i), some (va_rf (A.P b2 1))] [] := by
    intro c9
    replace h := h.1 c9
    refine x_iconst_ (v := (0 : Int32)) dX0_serve_52 (by decide) ?_
    exact x_zret dX0_serve_53 rfl (by decide) ⟨_, rfl, (by decide), h⟩
  have kt4_1 : (i = (2 : Int32)) → X G (dp + 1) kX0_serve (hZ Q) A 54 [some (.ref p), some (.int i), some (va_rf (A.P b2 1))] [] := by
    intro c9
    replace h := h.2.1 c9
    refine x_aload_n dX0_serve_54 rfl ?_
    refine x_get (v := .int (A.I p 16)) hG dX0_serve_55 f_X0_118_0 o1 rfl ?_
    refine x_sipush_ (v := (2000 : Int32)) dX0_serve_58 (by decide) ?_
    obtain ⟨J5, g5, h⟩ := h
    have kj5 : ∀ (A5 : xA), J5 A5 → X G (dp + 1) kX0_serve (hZ Q) A5 77 [some (.ref p), none, none] [] := by
      intro A5 h
      replace h := g5 A5 h
      refine x_aload_n dX0_serve_77 rfl ?_
      obtain ⟨o6, h⟩ := h
      refine x_get (v := .int (A5.I p 16)) hG dX0_serve_78 f_X0_118_0 o6 rfl ?_
      refine x_ldcw hG dX0_serve_81 q2942 ?_
      refine x_icmp_ge (tgt := 97) dX0_serve_84 (by decide) (fun c84 => ?_) (fun c84 => ?_)
      · replace h := h.1 c84
        refine x_iconst_ (v := (1 : Int32)) dX0_serve_97 (by decide) ?_
        exact x_zret dX0_serve_98 rfl (by decide) ⟨_, rfl, (by decide), h⟩
      · replace h := h.2 c84
        refine x_aload_n dX0_serve_87 rfl ?_
        refine x_dup dX0_serve_88 rfl ?_
        refine x_get (v := .int (A5.I p 16)) hG dX0_serve_89 f_X0_118_0 o6 rfl ?_
        refine x_iconst_ (v := (1 : Int32)) dX0_serve_92 (by decide) ?_
        refine x_iadd dX0_serve_93 ?_
        refine z_putI hG hO.1 dX0_serve_94 f_X0_118_0 ⟨_, rfl, Or.inl rfl⟩ o6 (by decide) rfl rfl ⟨_, rfl⟩ (fun A7 e7 => ?_)
        replace h := h A7 e7
        refine x_iconst_ (v := (1 : Int32)) dX0_serve_97 (by decide) ?_
        exact x_zret dX0_serve_98 rfl (by decide) ⟨_, rfl, (by decide), h⟩
    refine x_icmp_ge (tgt := 77) dX0_serve_61 (by decide) (fun c61 => ?_) (fun c61 => ?_)
    · replace h := h.1 c61
      change X _ _ _ _ _ _ [some (.ref p), some (.int i), some (va_rf (A.P b2 1))] []
      exact X.weak (xle_c rfl (xle_n (xle_n xle_nil))) (kj5 A h)
    · replace h := h.2 c61
      refine x_aload_n dX0_serve_64 rfl ?_
      refine x_get (v := va_rf (A.P p 14)) hG dX0_serve_65 f_X0_86_0 o1 rfl ?_
      refine x_aload_n dX0_serve_68 rfl ?_
      refine x_get (v := .int (A.I p 16)) hG dX0_serve_69 f_X0_118_0 o1 rfl ?_
      refine x_aloadq_n dX0_serve_72 rfl ?_
      refine x_bipush_ (v := (10 : Int32)) dX0_serve_73 (by decide) ?_
      obtain ⟨b8, e8, h⟩ := h
      rw [e8]
      obtain ⟨o9, h⟩ := h
      obtain ⟨o10, h⟩ := h
      refine x_iald hG dX0_serve_75 o9 o10 ?_
      refine x_eqi (v := (A.I b8 10)) rfl ?_
      obtain ⟨b11, e11, h⟩ := h
      rw [e11]
      obtain ⟨o12, h⟩ := h
      obtain ⟨o13, h⟩ := h
      obtain ⟨o14, h⟩ := h
      refine z_iast hG dX0_serve_76 o12 o13 o14 (fun A15 e15 => ?_)
      replace h := h A15 e15
      change X _ _ _ _ _ _ [some (.ref p), some (.int i), some (.ref b8)] []
      exact X.weak (xle_c rfl (xle_n (xle_n xle_nil))) (kj5 A15 h)
  have kt4_2 : (i = (3 : Int32)) → X G (dp + 1) kX0_serve (hZ Q) A 99 [some (.ref p), some (.int i), some (va_rf (A.P b2 1))] [] := by
    intro c9
    replace h := h.2.2.1 c9
    refine x_aload_n dX0_serve_99 rfl ?_
    refine x_get (v := .int (A.I p 15)) hG dX0_serve_100 f_X0_115_0 o1 rfl ?_
    refine x_if_ne (tgt := 113) dX0_serve_103 (by decide) (fun c103 => ?_) (fun c103 => ?_)
    · replace h := h.2 c103
      refine x_aloadq_n dX0_serve_113 rfl ?_
      refine x_bipush_ (v := (10 : Int32)) dX0_serve_114 (by decide) ?_
      refine x_aload_n dX0_serve_116 rfl ?_
      obtain ⟨R16, g16, h⟩ := h
      refine x_callV hG (Ky := kX0_next) (As := []) dX0_serve_117 o1 rfl lk_X0_247 me_X0_next is_X0_next se_X0_next rfl rfl (by simp only [List.append_eq, List.nil_append, List.map_cons, va_rf_cat]; exact Nat.le_of_ble_eq_true rfl) (MX.post (m_X0_next hG hO g16) ?_)
      rintro _ A16 ⟨v16, rfl, h1⟩
      refine X.xok (fun w16 => ?_)
      replace h := h v16 A16 w16 h1
      change X _ _ _ _ A16 _ _ [.int v16, .int (10 : Int32), va_rf (A.P b2 1)]
      obtain ⟨b17, e17, h⟩ := h
      rw [e17]
      obtain ⟨o18, h⟩ := h
      obtain ⟨o19, h⟩ := h
      obtain ⟨o20, h⟩ := h
      refine z_iast hG dX0_serve_120 o18 o19 o20 (fun A21 e21 => ?_)
      replace h := h A21 e21
      refine x_iconst_ (v := (1 : Int32)) dX0_serve_121 (by decide) ?_
      exact x_zret dX0_serve_122 rfl (by decide) ⟨_, rfl, (by decide), h⟩
    · replace h := h.1 c103
      refine x_aload_n dX0_serve_106 rfl ?_
      refine x_iconst_ (v := (2 : Int32)) dX0_serve_107 (by decide) ?_
      refine z_putI hG hO.1 dX0_serve_108 f_X0_121_0 ⟨_, rfl, Or.inl rfl⟩ o1 (by decide) rfl rfl ⟨_, rfl⟩ (fun A22 e22 => ?_)
      replace h := h A22 e22
      refine x_iconst_ (v := (0 : Int32)) dX0_serve_111 (by decide) ?_
      exact x_zret dX0_serve_112 rfl (by decide) ⟨_, rfl, (by decide), h⟩
  have kt4_3 : (i = (4 : Int32) ∨ i = (7 : Int32)) → X G (dp + 1) kX0_serve (hZ Q) A 123 [some (.ref p), some (.int i), some (va_rf (A.P b2 1))] [] := by
    intro c9
    replace h := h.2.2.2.1 c9
    refine x_aload_n dX0_serve_123 rfl ?_
    refine x_iload_n dX0_serve_124 rfl ?_
    refine x_iconst_ (v := (4 : Int32)) dX0_serve_125 (by decide) ?_
    refine x_via 134 (A' := A) (lv' := [some (.ref p), none, some (va_rf (A.P b2 1))]) (st' := [.int (if i = (4 : Int32) then (4 : Int32) else (3 : Int32)), .ref p]) ?_ (fun k134 => ?_)
    rotate_left
    · refine x_icmp_ne (tgt := 133) dX0_serve_126 (by decide) (fun c126 => ?_) (fun c126 => ?_)
      · refine x_iconst_ (v := (3 : Int32)) dX0_serve_133 (by decide) ?_
        change X _ _ _ _ _ _ [some (.ref p), some (.int i), some (va_rf (A.P b2 1))] [.int (3 : Int32), .ref p]
        simp only [if_neg c126] at k134 ⊢
        exact X.weak (xle_c rfl (xle_n (xle_c rfl xle_nil))) k134
      · refine x_iconst_ (v := (4 : Int32)) dX0_serve_129 (by decide) ?_
        refine x_goto (tgt := 134) dX0_serve_130 (by decide) ?_
        change X _ _ _ _ _ _ [some (.ref p), some (.int i), some (va_rf (A.P b2 1))] [.int (4 : Int32), .ref p]
        simp only [if_pos c126] at k134 ⊢
        exact X.weak (xle_c rfl (xle_n (xle_c rfl xle_nil))) k134
    refine z_putI hG hO.1 dX0_serve_134 f_X0_121_0 ⟨_, rfl, Or.inl rfl⟩ o1 (by decide) rfl rfl ⟨_, rfl⟩ (fun A23 e23 => ?_)
    replace h := h A23 e23
    refine x_aload_n dX0_serve_137 rfl ?_
    refine x_aloadq_n dX0_serve_138 rfl ?_
    refine x_bipush_ (v := (10 : Int32)) dX0_serve_139 (by decide) ?_
    obtain ⟨b24, e24, h⟩ := h
    rw [e24]
    obtain ⟨o25, h⟩ := h
    obtain ⟨o26, h⟩ := h
    refine x_iald hG dX0_serve_141 o25 o26 ?_
    refine x_eqi (v := (A23.I b24 10)) rfl ?_
    refine z_putI hG hO.1 dX0_serve_142 f_X0_237_0 ⟨_, rfl, Or.inl rfl⟩ (kI e23 o1) (by decide) rfl rfl ⟨_, rfl⟩ (fun A27 e27 => ?_)
    replace h := h A27 e27
    refine x_iconst_ (v := (0 : Int32)) dX0_serve_145 (by decide) ?_
    exact x_zret dX0_serve_146 rfl (by decide) ⟨_, rfl, (by decide), h⟩
  have kd4 : (¬ i = (1 : Int32) ∧ ¬ i = (2 : Int32) ∧ ¬ i = (3 : Int32) ∧ ¬ i = (4 : Int32) ∧ ¬ i = (7 : Int32)) → X G (dp + 1) kX0_serve (hZ Q) A 147 [some (.ref p), some (.int i), some (va_rf (A.P b2 1))] [] := by
    intro c9
    replace h := h.2.2.2.2 c9
    refine x_aload_n dX0_serve_147 rfl ?_
    refine x_iload_n dX0_serve_148 rfl ?_
    refine z_putI hG hO.1 dX0_serve_149 f_X0_121_0 ⟨_, rfl, Or.inl rfl⟩ o1 (by decide) rfl rfl ⟨_, rfl⟩ (fun A28 e28 => ?_)
    replace h := h A28 e28
    refine x_aload_n dX0_serve_152 rfl ?_
    refine x_aloadq_n dX0_serve_153 rfl ?_
    refine x_bipush_ (v := (10 : Int32)) dX0_serve_154 (by decide) ?_
    obtain ⟨b29, e29, h⟩ := h
    rw [e29]
    obtain ⟨o30, h⟩ := h
    obtain ⟨o31, h⟩ := h
    refine x_iald hG dX0_serve_156 o30 o31 ?_
    refine x_eqi (v := (A28.I b29 10)) rfl ?_
    refine z_putI hG hO.1 dX0_serve_157 f_X0_240_0 ⟨_, rfl, Or.inl rfl⟩ (kI e28 o1) (by decide) rfl rfl ⟨_, rfl⟩ (fun A32 e32 => ?_)
    replace h := h A32 e32
    refine x_iconst_ (v := (0 : Int32)) dX0_serve_160 (by decide) ?_
    exact x_zret dX0_serve_161 rfl (by decide) ⟨_, rfl, (by decide), h⟩
  refine x_sw (1 : Int32) (fun s9_0 => ?_) (fun s9_0 => ?_)
  · refine x_tableIn (off := 43) (tgt := 52) dX0_serve_9 (by rw [s9_0]; decide) (by rw [s9_0]; decide) (by rw [s9_0]; rfl) (by decide) ?_
    exact kt4_0 s9_0
  refine x_sw (2 : Int32) (fun s9_1 => ?_) (fun s9_1 => ?_)
  · refine x_tableIn (off := 45) (tgt := 54) dX0_serve_9 (by rw [s9_1]; decide) (by rw [s9_1]; decide) (by rw [s9_1]; rfl) (by decide) ?_
    exact kt4_1 s9_1
  refine x_sw (3 : Int32) (fun s9_2 => ?_) (fun s9_2 => ?_)
  · refine x_tableIn (off := 90) (tgt := 99) dX0_serve_9 (by rw [s9_2]; decide) (by rw [s9_2]; decide) (by rw [s9_2]; rfl) (by decide) ?_
    exact kt4_2 s9_2
  refine x_sw (4 : Int32) (fun s9_3 => ?_) (fun s9_3 => ?_)
  · refine x_tableIn (off := 114) (tgt := 123) dX0_serve_9 (by rw [s9_3]; decide) (by rw [s9_3]; decide) (by rw [s9_3]; rfl) (by decide) ?_
    exact kt4_3 (by simp only [s9_3]; decide)
  refine x_sw (5 : Int32) (fun s9_4 => ?_) (fun s9_4 => ?_)
  · refine x_tableIn (off := 138) (tgt := 147) dX0_serve_9 (by rw [s9_4]; decide) (by rw [s9_4]; decide) (by rw [s9_4]; rfl) (by decide) ?_
    exact kd4 (by rw [s9_4]; decide)
  refine x_sw (6 : Int32) (fun s9_5 => ?_) (fun s9_5 => ?_)
  · refine x_tableIn (off := 138) (tgt := 147) dX0_serve_9 (by rw [s9_5]; decide) (by rw [s9_5]; decide) (by rw [s9_5]; rfl) (by decide) ?_
    exact kd4 (by rw [s9_5]; decide)
  refine x_sw (7 : Int32) (fun s9_6 => ?_) (fun s9_6 => ?_)
  · refine x_tableIn (off := 114) (tgt := 123) dX0_serve_9 (by rw [s9_6]; decide) (by rw [s9_6]; decide) (by rw [s9_6]; rfl) (by decide) ?_
    exact kt4_3 (by simp only [s9_6]; decide)
  have t9_0 := lv_neT s9_0 (a := 1) (by decide)
  have t9_1 := lv_neT s9_1 (a := 2) (by decide)
  have t9_2 := lv_neT s9_2 (a := 3) (by decide)
  have t9_3 := lv_neT s9_3 (a := 4) (by decide)
  have t9_4 := lv_neT s9_4 (a := 5) (by decide)
  have t9_5 := lv_neT s9_5 (a := 6) (by decide)
  have t9_6 := lv_neT s9_6 (a := 7) (by decide)
  refine x_tableOut (tgt := 147) dX0_serve_9 (by omega) (by decide) ?_
  exact kd4 ⟨s9_0, s9_1, s9_2, s9_3, s9_6⟩
end W067
