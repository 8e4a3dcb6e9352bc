/-! ===== 049.hwords (tools/h045.py) ===== -/
set_option maxRecDepth 100000
section W049
variable {G : xG}
def w_X9_init (G : xG) (p : Nat) (Q : xA → Prop) (A : xA) : Prop := xok G A → rmA G A (1024 : Int32) ∧ (∀ A2 : xA, A2 = A.new 200 (ix (1024 : Int32)) (ix (1024 : Int32)) 0 → (A2.tg p = 9 ∧ (∀ A4 : xA, A4 = A2.setP p 0 (some A.n) → (rmA G A4 (1024 : Int32) ∧ (∀ A6 : xA, A6 = A4.new 200 (ix (1024 : Int32)) (ix (1024 : Int32)) 0 → (∀ A7 : xA, A7 = A6.setP p 1 (some A4.n) → (rmA G A7 (1025 : Int32) ∧ (∀ A9 : xA, A9 = A7.new 200 (ix (1025 : Int32)) (ix (1025 : Int32)) 0 → (∀ A10 : xA, A10 = A9.setP p 2 (some A7.n) → (rmA G A10 (1024 : Int32) ∧ (∀ A12 : xA, A12 = A10.new 203 (ix (1024 : Int32)) (ix (1024 : Int32)) 0 → (∀ A13 : xA, A13 = A12.setP p 3 (some A10.n) → (rmA G A13 (256 : Int32) ∧ (∀ A15 : xA, A15 = A13.new 200 (ix (256 : Int32)) (ix (256 : Int32)) 0 → (∀ A16 : xA, A16 = A15.setP p 6 (some A13.n) → (Q A16))))))))))))))))
theorem m_X9_init (hG : xOK G) (hO : xHO G) {dp : Nat} {p : Nat} {Q : xA → Prop} {A : xA} (h : w_X9_init G p Q A) : MX G (dp + 1) kX9_init [.ref p] A (hV Q) := by
  unfold w_X9_init at h
  refine MX.of rfl (Nat.le_of_ble_eq_true rfl) ?_
  change X _ _ _ _ _ _ [some (.ref p)] _
  refine X.xok (fun w0 => ?_)
  replace h := h w0
  refine x_aload_n dX9_init_0 rfl ?_
  refine x_objInit hG dX9_init_1 q728 q261 q262 (Nat.le_of_ble_eq_true rfl) ?_
  refine x_aload_n dX9_init_4 rfl ?_
  refine x_sipush_ (v := (1024 : Int32)) dX9_init_5 (by decide) ?_
  obtain ⟨o1, h⟩ := h
  refine z_newa hG (j := 0) dX9_init_8 (by decide) rfl o1 q378 (fun A2 e2 w2 => ?_)
  replace h := h A2 e2
  obtain ⟨o3, h⟩ := h
  refine z_putP hG hO.1 (some A.n) dX9_init_10 f_X9_9_8 ⟨_, rfl, Or.inl rfl⟩ o3 (by decide) (Or.inr ⟨_, rfl⟩) (fun A4 e4 => ?_)
  replace h := h A4 e4
  refine x_aload_n dX9_init_13 rfl ?_
  refine x_sipush_ (v := (1024 : Int32)) dX9_init_14 (by decide) ?_
  obtain ⟨o5, h⟩ := h
  refine z_newa hG (j := 0) dX9_init_17 (by decide) rfl o5 q378 (fun A6 e6 w6 => ?_)
  replace h := h A6 e6
  refine z_putP hG hO.1 (some A4.n) dX9_init_19 f_X9_15_8 ⟨_, rfl, Or.inl rfl⟩ (kN e6 w6 (kP e4 o3)) (by decide) (Or.inr ⟨_, rfl⟩) (fun A7 e7 => ?_)
  replace h := h A7 e7
  refine x_aload_n dX9_init_22 rfl ?_
  refine x_sipush_ (v := (1025 : Int32)) dX9_init_23 (by decide) ?_
  obtain ⟨o8, h⟩ := h
  refine z_newa hG (j := 0) dX9_init_26 (by decide) rfl o8 q378 (fun A9 e9 w9 => ?_)
  replace h := h A9 e9
  refine z_putP hG hO.1 (some A7.n) dX9_init_28 f_X9_18_8 ⟨_, rfl, Or.inl rfl⟩ (kN e9 w9 (kP e7 (kN e6 w6 (kP e4 o3)))) (by decide) (Or.inr ⟨_, rfl⟩) (fun A10 e10 => ?_)
  replace h := h A10 e10
  refine x_aload_n dX9_init_31 rfl ?_
  refine x_sipush_ (v := (1024 : Int32)) dX9_init_32 (by decide) ?_
  obtain ⟨o11, h⟩ := h
  refine z_newa hG (j := 3) dX9_init_35 (by decide) rfl o11 q756 (fun A12 e12 w12 => ?_)
  replace h := h A12 e12
  refine z_putP hG hO.1 (some A10.n) dX9_init_37 f_X9_21_8 ⟨_, rfl, Or.inl rfl⟩ (kN e12 w12 (kP e10 (kN e9 w9 (kP e7 (kN e6 w6 (kP e4 o3)))))) (by decide) (Or.inr ⟨_, rfl⟩) (fun A13 e13 => ?_)
  replace h := h A13 e13
  refine x_aload_n dX9_init_40 rfl ?_
  refine x_sipush_ (v := (256 : Int32)) dX9_init_41 (by decide) ?_
  obtain ⟨o14, h⟩ := h
  refine z_newa hG (j := 0) dX9_init_44 (by decide) rfl o14 q378 (fun A15 e15 w15 => ?_)
  replace h := h A15 e15
  refine z_putP hG hO.1 (some A13.n) dX9_init_46 f_X9_25_8 ⟨_, rfl, Or.inl rfl⟩ (kN e15 w15 (kP e13 (kN e12 w12 (kP e10 (kN e9 w9 (kP e7 (kN e6 w6 (kP e4 o3)))))))) (by decide) (Or.inr ⟨_, rfl⟩) (fun A16 e16 => ?_)
  replace h := h A16 e16
  exact x_vret dX9_init_49 rfl ⟨rfl, h⟩
def w_X9_clear (G : xG) (p : Nat) (Q : xA → Prop) (A : xA) : Prop := xok G A → A.tg p = 9 ∧ (∀ A2 : xA, A2 = A.setI p 4 (0 : Int32) → (∀ A3 : xA, A3 = A2.setI p 5 (0 : Int32) → (Q A3)))
theorem m_X9_clear (hG : xOK G) (hO : xHO G) {dp : Nat} {p : Nat} {Q : xA → Prop} {A : xA} (h : w_X9_clear G p Q A) : MX G (dp + 0) kX9_clear [.ref p] A (hV Q) := by
  unfold w_X9_clear at h
  refine MX.of rfl (Nat.le_of_ble_eq_true rfl) ?_
  change X _ _ _ _ _ _ [some (.ref p)] _
  refine X.xok (fun w0 => ?_)
  replace h := h w0
  refine x_aload_n dX9_clear_0 rfl ?_
  refine x_iconst_ (v := (0 : Int32)) dX9_clear_1 (by decide) ?_
  obtain ⟨o1, h⟩ := h
  refine z_putI hG hO.1 dX9_clear_2 f_X9_28_8 ⟨_, rfl, Or.inl rfl⟩ o1 (by decide) rfl rfl ⟨_, rfl⟩ (fun A2 e2 => ?_)
  replace h := h A2 e2
  refine x_aload_n dX9_clear_5 rfl ?_
  refine x_iconst_ (v := (0 : Int32)) dX9_clear_6 (by decide) ?_
  refine z_putI hG hO.1 dX9_clear_7 f_X9_32_8 ⟨_, rfl, Or.inl rfl⟩ (kI e2 o1) (by decide) rfl rfl ⟨_, rfl⟩ (fun A3 e3 => ?_)
  replace h := h A3 e3
  exact x_vret dX9_clear_10 rfl ⟨rfl, h⟩
def w_X9_longer (G : xG) (r : Option Nat) (n : Int32) (Q : Option Nat → xA → Prop) (A : xA) : Prop := xok G A → rmA G A n ∧ (∀ A2 : xA, A2 = A.new 200 (ix n) (ix n) 0 → (∃ L3 : Nat → Int32 → xA → Prop, (∃ n3 : Nat, L3 n3 (0 : Int32) A2) ∧ (∀ (n3 : Nat) (y3_3 : Int32) (A3 : xA), L3 n3 y3_3 A3 → ∃ b4 : Nat, r = some b4 ∧ (A3.tg b4 = 200 ∧ ((((nI (A3.ln b4)) ≤ y3_3 → Q (some A.n) A3) ∧ (¬ (nI (A3.ln b4)) ≤ y3_3 → vp_in y3_3 (A3.ln b4) ∧ (A3.tg A.n = 200 ∧ (G.N ≤ A.n ∧ (vp_in y3_3 (A3.ln A.n) ∧ (∀ A10 : xA, A10 = A3.setI A.n (ix y3_3) (A3.I b4 (ix y3_3)) → ((∃ q3 : Nat, q3 < n3 ∧ L3 q3 (y3_3 + (1 : Int32)) A10)))))))))))))
theorem m_X9_longer (hG : xOK G) (hO : xHO G) {dp : Nat} {r : Option Nat} {n : Int32} {Q : Option Nat → xA → Prop} {A : xA} (h : w_X9_longer G r n Q A) : MX G (dp + 0) kX9_longer [va_rf r, .int n] A (hR Q) := by
  unfold w_X9_longer at h
  refine MX.of rfl (by cases r <;> exact Nat.le_of_ble_eq_true rfl) ?_
  refine X.lvs (lv' := [some (va_rf r), some (.int n), none, none]) (by cases r <;> rfl) ?_
  refine X.xok (fun w0 => ?_)
  replace h := h w0
  refine x_iload_n dX9_longer_0 rfl ?_
  obtain ⟨o1, h⟩ := h
  refine z_newa hG (j := 0) dX9_longer_1 (by decide) rfl o1 q378 (fun A2 e2 w2 => ?_)
  replace h := h A2 e2
  refine x_astore_n dX9_longer_3 (by decide) ?_
  refine x_iconst_ (v := (0 : Int32)) dX9_longer_4 (by decide) ?_
  refine x_istore_n dX9_longer_5 (by decide) ?_
  obtain ⟨L3, ⟨n3, i3⟩, g3⟩ := h
  have kl3 : ∀ n3 : Nat, ∀ (y3_3 : Int32) (A3 : xA), L3 n3 y3_3 A3 → X G (dp + 0) kX9_longer (hR Q) A3 6 [some (va_rf r), none, some (.ref A.n), some (.int y3_3)] [] := by
    intro n3
    induction n3 using Nat.strongRecOn with
    | ind n3 ih3 =>
      intro y3_3 A3 h
      replace h := g3 n3 y3_3 A3 h
      refine x_iload_n dX9_longer_6 rfl ?_
      refine x_aloadq_n dX9_longer_7 rfl ?_
      obtain ⟨b4, e4, h⟩ := h
      rw [e4]
      obtain ⟨o5, h⟩ := h
      refine x_alen hG (j := 0) dX9_longer_8 o5 ?_
      refine x_icmp_ge (tgt := 24) dX9_longer_9 (by decide) (fun c9 => ?_) (fun c9 => ?_)
      · replace h := h.1 c9
        refine x_aload_n dX9_longer_24 rfl ?_
        exact x_aret (r := (some A.n)) dX9_longer_25 rfl (Or.inr ⟨_, rfl⟩) ⟨_, rfl, h⟩
      · replace h := h.2 c9
        refine x_aload_n dX9_longer_12 rfl ?_
        refine x_iload_n dX9_longer_13 rfl ?_
        refine x_aload_n dX9_longer_14 rfl ?_
        refine x_iload_n dX9_longer_15 rfl ?_
        obtain ⟨o6, h⟩ := h
        refine x_iald hG dX9_longer_16 o5 o6 ?_
        obtain ⟨o7, h⟩ := h
        obtain ⟨o8, h⟩ := h
        obtain ⟨o9, h⟩ := h
        refine z_iast hG dX9_longer_17 o7 o8 o9 (fun A10 e10 => ?_)
        replace h := h A10 e10
        refine x_iinc (v := (y3_3 + (1 : Int32))) dX9_longer_18 rfl rfl (by decide) ?_
        refine x_goto (tgt := 6) dX9_longer_21 (by decide) ?_
        obtain ⟨q3, l3, h⟩ := h
        change X _ _ _ _ _ _ [some (.ref b4), none, some (.ref A.n), some (.int (y3_3 + (1 : Int32)))] []
        exact X.weak (xle_c (congrArg (fun z => some (va_rf z)) e4.symm) (xle_n (xle_c rfl (xle_c rfl xle_nil)))) (ih3 q3 l3 (y3_3 + (1 : Int32)) A10 h)
  change X _ _ _ _ _ _ [some (va_rf r), some (.int n), some (.ref A.n), some (.int (0 : Int32))] []
  exact X.weak (xle_c rfl (xle_n (xle_c rfl (xle_c rfl xle_nil)))) (kl3 n3 (0 : Int32) A2 i3)
def w_X9_newMark (G : xG) (p : Nat) (Q : Int32 → xA → Prop) (A : xA) : Prop := xok G A → A.tg p = 9 ∧ (∃ b2 : Nat, (A.P p 6) = some b2 ∧ (A.tg b2 = 200 ∧ (∃ J4 : xA → Prop, (∀ (A4 : xA), J4 A4 → A4.tg p = 9 ∧ (∀ A6 : xA, A6 = A4.setI p 5 ((A4.I p 5) + (1 : Int32)) → (Q (((A4.I p 5) + (1 : Int32)) - (1 : Int32)) A6))) ∧ (((A.I p 5) = (nI (A.ln b2)) → ∃ R7 : Option Nat → xA → Prop, w_X9_longer G (some b2) ((2 : Int32) * (A.I p 5)) R7 A ∧ (∀ (v7 : Option Nat) (A7 : xA), xok G A7 → R7 v7 A7 → (A7.tg p = 9 ∧ (∀ A9 : xA, A9 = A7.setP p 6 v7 → (J4 A9))))) ∧ (¬ (A.I p 5) = (nI (A.ln b2)) → J4 A)))))
theorem m_X9_newMark (hG : xOK G) (hO : xHO G) {dp : Nat} {p : Nat} {Q : Int32 → xA → Prop} {A : xA} (h : w_X9_newMark G p Q A) : MX G (dp + 1) kX9_newMark [.ref p] A (hI Q) := by
  unfold w_X9_newMark at h
  refine MX.of rfl (Nat.le_of_ble_eq_true rfl) ?_
  change X _ _ _ _ _ _ [some (.ref p)] _
  refine X.xok (fun w0 => ?_)
  replace h := h w0
  refine x_aload_n dX9_newMark_0 rfl ?_
  obtain ⟨o1, h⟩ := h
  refine x_get (v := .int (A.I p 5)) hG dX9_newMark_1 f_X9_32_8 o1 rfl ?_
  refine x_aload_n dX9_newMark_4 rfl ?_
  refine x_get (v := va_rf (A.P p 6)) hG dX9_newMark_5 f_X9_25_8 o1 rfl ?_
  obtain ⟨b2, e2, h⟩ := h
  rw [e2]
  obtain ⟨o3, h⟩ := h
  refine x_alen hG (j := 0) dX9_newMark_8 o3 ?_
  obtain ⟨J4, g4, h⟩ := h
  have kj4 : ∀ (A4 : xA), J4 A4 → X G (dp + 1) kX9_newMark (hI Q) A4 29 [some (.ref p)] [] := by
    intro A4 h
    replace h := g4 A4 h
    refine x_aload_n dX9_newMark_29 rfl ?_
    refine x_dup dX9_newMark_30 rfl ?_
    obtain ⟨o5, h⟩ := h
    refine x_get (v := .int (A4.I p 5)) hG dX9_newMark_31 f_X9_32_8 o5 rfl ?_
    refine x_iconst_ (v := (1 : Int32)) dX9_newMark_34 (by decide) ?_
    refine x_iadd dX9_newMark_35 ?_
    refine z_putI hG hO.1 dX9_newMark_36 f_X9_32_8 ⟨_, rfl, Or.inl rfl⟩ o5 (by decide) rfl rfl ⟨_, rfl⟩ (fun A6 e6 => ?_)
    replace h := h A6 e6
    refine x_aload_n dX9_newMark_39 rfl ?_
    refine x_get (v := .int ((A4.I p 5) + (1 : Int32))) hG dX9_newMark_40 f_X9_32_8 (kI e6 o5) (congrArg Value.int (sI_s e6)) ?_
    refine x_iconst_ (v := (1 : Int32)) dX9_newMark_43 (by decide) ?_
    refine x_isub dX9_newMark_44 ?_
    exact x_iret dX9_newMark_45 rfl ⟨_, rfl, h⟩
  refine x_icmp_ne (tgt := 29) dX9_newMark_9 (by decide) (fun c9 => ?_) (fun c9 => ?_)
  · replace h := h.2 c9
    change X _ _ _ _ _ _ [some (.ref p)] []
    exact X.weak (xle_c rfl xle_nil) (kj4 A h)
  · replace h := h.1 c9
    refine x_aload_n dX9_newMark_12 rfl ?_
    refine x_aload_n dX9_newMark_13 rfl ?_
    refine x_get (v := .ref b2) hG dX9_newMark_14 f_X9_25_8 o1 (congrArg va_rf e2) ?_
    refine x_iconst_ (v := (2 : Int32)) dX9_newMark_17 (by decide) ?_
    refine x_aload_n dX9_newMark_18 rfl ?_
    refine x_get (v := .int (A.I p 5)) hG dX9_newMark_19 f_X9_32_8 o1 rfl ?_
    refine x_imul dX9_newMark_22 ?_
    obtain ⟨R7, g7, h⟩ := h
    refine x_callS hG (Ky := kX9_longer) (As := [.ref b2, .int ((2 : Int32) * (A.I p 5))]) dX9_newMark_23 lk_X9_35 me_X9_longer st_X9_longer rfl rfl (Nat.le_of_ble_eq_true rfl) (MX.post (m_X9_longer hG hO g7) ?_)
    rintro _ A7 ⟨v7, rfl, h1⟩
    refine X.xok (fun w7 => ?_)
    replace h := h v7 A7 w7 h1
    change X _ _ _ _ A7 _ _ [va_rf v7, .ref p]
    obtain ⟨o8, h⟩ := h
    refine z_putP hG hO.1 v7 dX9_newMark_26 f_X9_25_8 ⟨_, rfl, Or.inl rfl⟩ o8 (by decide) (Or.inr ⟨_, rfl⟩) (fun A9 e9 => ?_)
    replace h := h A9 e9
    change X _ _ _ _ _ _ [some (.ref p)] []
    exact X.weak (xle_c rfl xle_nil) (kj4 A9 h)
def w_X9_put (G : xG) (p : Nat) (k : Int32) (Q : xA → Prop) (A : xA) : Prop := xok G A → A.tg p = 9 ∧ (∃ b2 : Nat, (A.P p 6) = some b2 ∧ (A.tg b2 = 200 ∧ (G.N ≤ b2 ∧ (vp_in k (A.ln b2) ∧ (∀ A6 : xA, A6 = A.setI b2 (ix k) (A.I p 4) → (Q A6))))))
theorem m_X9_put (hG : xOK G) (hO : xHO G) {dp : Nat} {p : Nat} {k : Int32} {Q : xA → Prop} {A : xA} (h : w_X9_put G p k Q A) : MX G (dp + 0) kX9_put [.ref p, .int k] A (hV Q) := by
  unfold w_X9_put at h
  refine MX.of rfl (Nat.le_of_ble_eq_true rfl) ?_
  change X _ _ _ _ _ _ [some (.ref p), some (.int k)] _
  refine X.xok (fun w0 => ?_)
  replace h := h w0
  refine x_aload_n dX9_put_0 rfl ?_
  obtain ⟨o1, h⟩ := h
  refine x_get (v := va_rf (A.P p 6)) hG dX9_put_1 f_X9_25_8 o1 rfl ?_
  refine x_iload_n dX9_put_4 rfl ?_
  refine x_aload_n dX9_put_5 rfl ?_
  refine x_get (v := .int (A.I p 4)) hG dX9_put_6 f_X9_28_8 o1 rfl ?_
  obtain ⟨b2, e2, h⟩ := h
  rw [e2]
  obtain ⟨o3, h⟩ := h
  obtain ⟨o4, h⟩ := h
  obtain ⟨o5, h⟩ := h
  refine z_iast hG dX9_put_9 o3 o4 o5 (fun A6 e6 => ?_)
  replace h := h A6 e6
  exact x_vret dX9_put_10 rfl ⟨rfl, h⟩
def w_X9_add_2 (G : xG) (p : Nat) (w : Int32) (k : Int32) (Q : xA → Prop) (A : xA) : Prop := xok G A → A.tg p = 9 ∧ (∃ b2 : Nat, (A.P p 0) = some b2 ∧ (A.tg b2 = 200 ∧ (∃ J4 : xA → Prop, (∀ (A4 : xA), J4 A4 → A4.tg p = 9 ∧ (∃ b6 : Nat, (A4.P p 0) = some b6 ∧ (A4.tg b6 = 200 ∧ (G.N ≤ b6 ∧ (vp_in (A4.I p 4) (A4.ln b6) ∧ (∀ A10 : xA, A10 = A4.setI b6 (ix (A4.I p 4)) w → (∃ b11 : Nat, (A4.P p 1) = some b11 ∧ (A10.tg b11 = 200 ∧ (G.N ≤ b11 ∧ (vp_in (A4.I p 4) (A10.ln b11) ∧ (∀ A15 : xA, A15 = A10.setI b11 (ix (A4.I p 4)) k → (∀ A16 : xA, A16 = A15.setI p 4 ((A4.I p 4) + (1 : Int32)) → (Q A16))))))))))))) ∧ (((A.I p 4) = (nI (A.ln b2)) → ∃ R17 : Option Nat → xA → Prop, w_X9_longer G (some b2) ((2 : Int32) * (A.I p 4)) R17 A ∧ (∀ (v17 : Option Nat) (A17 : xA), xok G A17 → R17 v17 A17 → (A17.tg p = 9 ∧ (∀ A19 : xA, A19 = A17.setP p 0 v17 → (∃ R20 : Option Nat → xA → Prop, w_X9_longer G (A17.P p 1) ((2 : Int32) * (A17.I p 4)) R20 A19 ∧ (∀ (v20 : Option Nat) (A20 : xA), xok G A20 → R20 v20 A20 → (A20.tg p = 9 ∧ (∀ A22 : xA, A22 = A20.setP p 1 v20 → (∃ R23 : Option Nat → xA → Prop, w_X9_longer G (A20.P p 2) (((2 : Int32) * (A20.I p 4)) + (1 : Int32)) R23 A22 ∧ (∀ (v23 : Option Nat) (A23 : xA), xok G A23 → R23 v23 A23 → (A23.tg p = 9 ∧ (∀ A25 : xA, A25 = A23.setP p 2 v23 → (rmA G A25 ((2 : Int32) * (A23.I p 4)) ∧ (∀ A27 : xA, A27 = A25.new 203 (ix ((2 : Int32) * (A23.I p 4))) (ix ((2 : Int32) * (A23.I p 4))) 0 → (∀ A28 : xA, A28 = A27.setP p 3 (some A25.n) → (J4 A28)))))))))))))))) ∧ (¬ (A.I p 4) = (nI (A.ln b2)) → J4 A)))))
theorem m_X9_add_2 (hG : xOK G) (hO : xHO G) {dp : Nat} {p : Nat} {w : Int32} {k : Int32} {Q : xA → Prop} {A : xA} (h : w_X9_add_2 G p w k Q A) : MX G (dp + 1) kX9_add_2 [.ref p, .int w, .int k] A (hV Q) := by
  unfold w_X9_add_2 at h
  refine MX.of rfl (Nat.le_of_ble_eq_true rfl) ?_
  change X _ _ _ _ _ _ [some (.ref p), some (.int w), some (.int k)] _
  refine X.xok (fun w0 => ?_)
  replace h := h w0
  refine x_aload_n dX9_add_2_0 rfl ?_
  obtain ⟨o1, h⟩ := h
  refine x_get (v := .int (A.I p 4)) hG dX9_add_2_1 f_X9_28_8 o1 rfl ?_
  refine x_aload_n dX9_add_2_4 rfl ?_
  refine x_get (v := va_rf (A.P p 0)) hG dX9_add_2_5 f_X9_9_8 o1 rfl ?_
  obtain ⟨b2, e2, h⟩ := h
  rw [e2]
  obtain ⟨o3, h⟩ := h
  refine x_alen hG (j := 0) dX9_add_2_8 o3 ?_
  obtain ⟨J4, g4, h⟩ := h
  have kj4 : ∀ (A4 : xA), J4 A4 → X G (dp + 1) kX9_add_2 (hV Q) A4 77 [some (.ref p), some (.int w), some (.int k)] [] := by
    intro A4 h
    replace h := g4 A4 h
    refine x_aload_n dX9_add_2_77 rfl ?_
    obtain ⟨o5, h⟩ := h
    refine x_get (v := va_rf (A4.P p 0)) hG dX9_add_2_78 f_X9_9_8 o5 rfl ?_
    refine x_aload_n dX9_add_2_81 rfl ?_
    refine x_get (v := .int (A4.I p 4)) hG dX9_add_2_82 f_X9_28_8 o5 rfl ?_
    refine x_iload_n dX9_add_2_85 rfl ?_
    obtain ⟨b6, e6, h⟩ := h
    rw [e6]
    obtain ⟨o7, h⟩ := h
    obtain ⟨o8, h⟩ := h
    obtain ⟨o9, h⟩ := h
    refine z_iast hG dX9_add_2_86 o7 o8 o9 (fun A10 e10 => ?_)
    replace h := h A10 e10
    refine x_aload_n dX9_add_2_87 rfl ?_
    refine x_get (v := va_rf (A4.P p 1)) hG dX9_add_2_88 f_X9_15_8 (kI e10 o5) (congrArg va_rf (sI_P e10)) ?_
    refine x_aload_n dX9_add_2_91 rfl ?_
    refine x_get (v := .int (A4.I p 4)) hG dX9_add_2_92 f_X9_28_8 (kI e10 o5) (congrArg Value.int (sI_a e10 (tne o5 o7 (by decide)))) ?_
    refine x_iload_n dX9_add_2_95 rfl ?_
    obtain ⟨b11, e11, h⟩ := h
    rw [e11]
    obtain ⟨o12, h⟩ := h
    obtain ⟨o13, h⟩ := h
    obtain ⟨o14, h⟩ := h
    refine z_iast hG dX9_add_2_96 o12 o13 o14 (fun A15 e15 => ?_)
    replace h := h A15 e15
    refine x_aload_n dX9_add_2_97 rfl ?_
    refine x_dup dX9_add_2_98 rfl ?_
    refine x_get (v := .int (A4.I p 4)) hG dX9_add_2_99 f_X9_28_8 (kI e15 (kI e10 o5)) (congrArg Value.int ((sI_a e15 (tne (kI e10 o5) o12 (by decide))).trans (sI_a e10 (tne o5 o7 (by decide))))) ?_
    refine x_iconst_ (v := (1 : Int32)) dX9_add_2_102 (by decide) ?_
    refine x_iadd dX9_add_2_103 ?_
    refine z_putI hG hO.1 dX9_add_2_104 f_X9_28_8 ⟨_, rfl, Or.inl rfl⟩ (kI e15 (kI e10 o5)) (by decide) rfl rfl ⟨_, rfl⟩ (fun A16 e16 => ?_)
    replace h := h A16 e16
    exact x_vret dX9_add_2_107 rfl ⟨rfl, h⟩
  refine x_icmp_ne (tgt := 77) dX9_add_2_9 (by decide) (fun c9 => ?_) (fun c9 => ?_)
  · replace h := h.2 c9
    change X _ _ _ _ _ _ [some (.ref p), some (.int w), some (.int k)] []
    exact X.weak (xle_c rfl (xle_c rfl (xle_c rfl xle_nil))) (kj4 A h)
  · replace h := h.1 c9
    refine x_aload_n dX9_add_2_12 rfl ?_
    refine x_aload_n dX9_add_2_13 rfl ?_
    refine x_get (v := .ref b2) hG dX9_add_2_14 f_X9_9_8 o1 (congrArg va_rf e2) ?_
    refine x_iconst_ (v := (2 : Int32)) dX9_add_2_17 (by decide) ?_
    refine x_aload_n dX9_add_2_18 rfl ?_
    refine x_get (v := .int (A.I p 4)) hG dX9_add_2_19 f_X9_28_8 o1 rfl ?_
    refine x_imul dX9_add_2_22 ?_
    obtain ⟨R17, g17, h⟩ := h
    refine x_callS hG (Ky := kX9_longer) (As := [.ref b2, .int ((2 : Int32) * (A.I p 4))]) dX9_add_2_23 lk_X9_35 me_X9_longer st_X9_longer rfl rfl (Nat.le_of_ble_eq_true rfl) (MX.post (m_X9_longer hG hO g17) ?_)
    rintro _ A17 ⟨v17, rfl, h1⟩
    refine X.xok (fun w17 => ?_)
    replace h := h v17 A17 w17 h1
    change X _ _ _ _ A17 _ _ [va_rf v17, .ref p]
    obtain ⟨o18, h⟩ := h
    refine z_putP hG hO.1 v17 dX9_add_2_26 f_X9_9_8 ⟨_, rfl, Or.inl rfl⟩ o18 (by decide) (Or.inr ⟨_, rfl⟩) (fun A19 e19 => ?_)
    replace h := h A19 e19
    refine x_aload_n dX9_add_2_29 rfl ?_
    refine x_aload_n dX9_add_2_30 rfl ?_
    refine x_get (v := va_rf (A17.P p 1)) hG dX9_add_2_31 f_X9_15_8 (kP e19 o18) (congrArg va_rf (sP_k e19 (by decide))) ?_
    refine x_iconst_ (v := (2 : Int32)) dX9_add_2_34 (by decide) ?_
    refine x_aload_n dX9_add_2_35 rfl ?_
    refine x_get (v := .int (A17.I p 4)) hG dX9_add_2_36 f_X9_28_8 (kP e19 o18) (congrArg Value.int (sP_I e19)) ?_
    refine x_imul dX9_add_2_39 ?_
    obtain ⟨R20, g20, h⟩ := h
    refine x_callS hG (Ky := kX9_longer) (As := [va_rf (A17.P p 1), .int ((2 : Int32) * (A17.I p 4))]) dX9_add_2_40 lk_X9_35 me_X9_longer st_X9_longer rfl rfl (Nat.le_of_ble_eq_true rfl) (MX.post (m_X9_longer hG hO g20) ?_)
    rintro _ A20 ⟨v20, rfl, h1⟩
    refine X.xok (fun w20 => ?_)
    replace h := h v20 A20 w20 h1
    change X _ _ _ _ A20 _ _ [va_rf v20, .ref p]
    obtain ⟨o21, h⟩ := h
    refine z_putP hG hO.1 v20 dX9_add_2_43 f_X9_15_8 ⟨_, rfl, Or.inl rfl⟩ o21 (by decide) (Or.inr ⟨_, rfl⟩) (fun A22 e22 => ?_)
    replace h := h A22 e22
    refine x_aload_n dX9_add_2_46 rfl ?_
    refine x_aload_n dX9_add_2_47 rfl ?_
    refine x_get (v := va_rf (A20.P p 2)) hG dX9_add_2_48 f_X9_18_8 (kP e22 o21) (congrArg va_rf (sP_k e22 (by decide))) ?_
    refine x_iconst_ (v := (2 : Int32)) dX9_add_2_51 (by decide) ?_
    refine x_aload_n dX9_add_2_52 rfl ?_
    refine x_get (v := .int (A20.I p 4)) hG dX9_add_2_53 f_X9_28_8 (kP e22 o21) (congrArg Value.int (sP_I e22)) ?_
    refine x_imul dX9_add_2_56 ?_
    refine x_iconst_ (v := (1 : Int32)) dX9_add_2_57 (by decide) ?_
    refine x_iadd dX9_add_2_58 ?_
    obtain ⟨R23, g23, h⟩ := h
    refine x_callS hG (Ky := kX9_longer) (As := [va_rf (A20.P p 2), .int (((2 : Int32) * (A20.I p 4)) + (1 : Int32))]) dX9_add_2_59 lk_X9_35 me_X9_longer st_X9_longer rfl rfl (Nat.le_of_ble_eq_true rfl) (MX.post (m_X9_longer hG hO g23) ?_)
    rintro _ A23 ⟨v23, rfl, h1⟩
    refine X.xok (fun w23 => ?_)
    replace h := h v23 A23 w23 h1
    change X _ _ _ _ A23 _ _ [va_rf v23, .ref p]
    obtain ⟨o24, h⟩ := h
    refine z_putP hG hO.1 v23 dX9_add_2_62 f_X9_18_8 ⟨_, rfl, Or.inl rfl⟩ o24 (by decide) (Or.inr ⟨_, rfl⟩) (fun A25 e25 => ?_)
    replace h := h A25 e25
    refine x_aload_n dX9_add_2_65 rfl ?_
    refine x_iconst_ (v := (2 : Int32)) dX9_add_2_66 (by decide) ?_
    refine x_aload_n dX9_add_2_67 rfl ?_
    refine x_get (v := .int (A23.I p 4)) hG dX9_add_2_68 f_X9_28_8 (kP e25 o24) (congrArg Value.int (sP_I e25)) ?_
    refine x_imul dX9_add_2_71 ?_
    obtain ⟨o26, h⟩ := h
    refine z_newa hG (j := 3) dX9_add_2_72 (by decide) rfl o26 q756 (fun A27 e27 w27 => ?_)
    replace h := h A27 e27
    refine z_putP hG hO.1 (some A25.n) dX9_add_2_74 f_X9_21_8 ⟨_, rfl, Or.inl rfl⟩ (kN e27 w27 (kP e25 o24)) (by decide) (Or.inr ⟨_, rfl⟩) (fun A28 e28 => ?_)
    replace h := h A28 e28
    change X _ _ _ _ _ _ [some (.ref p), some (.int w), some (.int k)] []
    exact X.weak (xle_c rfl (xle_c rfl (xle_c rfl xle_nil))) (kj4 A28 h)
def w_X9_add (G : xG) (p : Nat) (w : Int32) (Q : xA → Prop) (A : xA) : Prop := xok G A → A.tg p = 9 ∧ (∃ R1 : xA → Prop, w_X9_add_2 G p w (-1 : Int32) R1 A ∧ (∀ A1 : xA, xok G A1 → R1 A1 → (Q A1)))
theorem m_X9_add (hG : xOK G) (hO : xHO G) {dp : Nat} {p : Nat} {w : Int32} {Q : xA → Prop} {A : xA} (h : w_X9_add G p w Q A) : MX G (dp + 2) kX9_add [.ref p, .int w] A (hV Q) := by
  unfold w_X9_add at h
  refine MX.of rfl (Nat.le_of_ble_eq_true rfl) ?_
  change X _ _ _ _ _ _ [some (.ref p), some (.int w)] _
  refine X.xok (fun w0 => ?_)
  replace h := h w0
  refine x_aload_n dX9_add_0 rfl ?_
  refine x_iload_n dX9_add_1 rfl ?_
  refine x_iconst_ (v := (-1 : Int32)) dX9_add_2 (by decide) ?_
  obtain ⟨o2, h⟩ := h
  obtain ⟨R1, g1, h⟩ := h
  refine x_callV hG (Ky := kX9_add_2) (As := [.int w, .int (-1 : Int32)]) dX9_add_3 o2 rfl lk_X9_39 me_X9_add_2 is_X9_add_2 se_X9_add_2 rfl rfl (Nat.le_of_ble_eq_true rfl) (MX.post (m_X9_add_2 hG hO g1) ?_)
  rintro _ A1 ⟨rfl, h1⟩
  refine X.xok (fun w1 => ?_)
  replace h := h A1 w1 h1
  change X _ _ _ _ A1 _ _ []
  exact x_vret dX9_add_6 rfl ⟨rfl, h⟩
def w_X9_over (G : xG) (p : Nat) (i : Int32) (Q : xA → Prop) (A : xA) : Prop := xok G A → A.tg p = 9 ∧ (∃ b2 : Nat, (A.P p 0) = some b2 ∧ (A.tg b2 = 200 ∧ (vp_in i (A.ln b2) ∧ (G.N ≤ b2 ∧ (∀ A6 : xA, A6 = A.setI b2 (ix i) ((A.I b2 (ix i)) ||| (f_X9_branch ((4 : Int32) * ((A.I p 4) - i)))) → (Q A6))))))
theorem m_X9_over (hG : xOK G) (hO : xHO G) {dp : Nat} {p : Nat} {i : Int32} {Q : xA → Prop} {A : xA} (h : w_X9_over G p i Q A) : MX G (dp + 1) kX9_over [.ref p, .int i] A (hV Q) := by
  unfold w_X9_over at h
  refine MX.of rfl (Nat.le_of_ble_eq_true rfl) ?_
  change X _ _ _ _ _ _ [some (.ref p), some (.int i)] _
  refine X.xok (fun w0 => ?_)
  replace h := h w0
  refine x_aload_n dX9_over_0 rfl ?_
  obtain ⟨o1, h⟩ := h
  refine x_get (v := va_rf (A.P p 0)) hG dX9_over_1 f_X9_9_8 o1 rfl ?_
  refine x_iload_n dX9_over_4 rfl ?_
  refine x_dup2_11 dX9_over_5 rfl (va_rf_cat _) ?_
  obtain ⟨b2, e2, h⟩ := h
  rw [e2]
  obtain ⟨o3, h⟩ := h
  obtain ⟨o4, h⟩ := h
  refine x_iald hG dX9_over_6 o3 o4 ?_
  refine x_iconst_ (v := (4 : Int32)) dX9_over_7 (by decide) ?_
  refine x_aload_n dX9_over_8 rfl ?_
  refine x_get (v := .int (A.I p 4)) hG dX9_over_9 f_X9_28_8 o1 rfl ?_
  refine x_iload_n dX9_over_12 rfl ?_
  refine x_isub dX9_over_13 ?_
  refine x_imul dX9_over_14 ?_
  refine x_callS hG (Ky := kX9_branch) (As := [.int ((4 : Int32) * ((A.I p 4) - i))]) dX9_over_15 lk_X9_43 me_X9_branch st_X9_branch rfl rfl (Nat.le_of_ble_eq_true rfl) (MX.post (m_X9_branch hG) ?_)
  rintro _ _ ⟨rfl, rfl⟩
  change X _ _ _ _ _ _ _ (.int (f_X9_branch ((4 : Int32) * ((A.I p 4) - i))) :: _)
  refine x_ior dX9_over_18 ?_
  obtain ⟨o5, h⟩ := h
  refine z_iast hG dX9_over_19 o3 o5 o4 (fun A6 e6 => ?_)
  replace h := h A6 e6
  exact x_vret dX9_over_20 rfl ⟨rfl, h⟩
def w_X9_three (G : xG) (p : Nat) (f : Int32) (g : Int32) (d : Int32) (a : Int32) (b : Int32) (Q : xA → Prop) (A : xA) : Prop := xok G A → A.tg p = 9 ∧ (∃ R1 : xA → Prop, w_X9_add G p ((((((jishl g (25 : Int32)) ||| (jishl b (20 : Int32))) ||| (jishl a (15 : Int32))) ||| (jishl f (12 : Int32))) ||| (jishl d (7 : Int32))) ||| (51 : Int32)) R1 A ∧ (∀ A1 : xA, xok G A1 → R1 A1 → (Q A1)))
theorem m_X9_three (hG : xOK G) (hO : xHO G) {dp : Nat} {p : Nat} {f : Int32} {g : Int32} {d : Int32} {a : Int32} {b : Int32} {Q : xA → Prop} {A : xA} (h : w_X9_three G p f g d a b Q A) : MX G (dp + 3) kX9_three [.ref p, .int f, .int g, .int d, .int a, .int b] A (hV Q) := by
  unfold w_X9_three at h
  refine MX.of rfl (Nat.le_of_ble_eq_true rfl) ?_
  change X _ _ _ _ _ _ [some (.ref p), some (.int f), some (.int g), some (.int d), some (.int a), some (.int b)] _
  refine X.xok (fun w0 => ?_)
  replace h := h w0
  refine x_aload_n dX9_three_0 rfl ?_
  refine x_iload_n dX9_three_1 rfl ?_
  refine x_bipush_ (v := (25 : Int32)) dX9_three_2 (by decide) ?_
  refine x_ishl dX9_three_4 ?_
  refine x_eqi (v := (jishl g (25 : Int32))) rfl ?_
  refine x_iload dX9_three_5 rfl ?_
  refine x_bipush_ (v := (20 : Int32)) dX9_three_7 (by decide) ?_
  refine x_ishl dX9_three_9 ?_
  refine x_eqi (v := (jishl b (20 : Int32))) rfl ?_
  refine x_ior dX9_three_10 ?_
  refine x_iload dX9_three_11 rfl ?_
  refine x_bipush_ (v := (15 : Int32)) dX9_three_13 (by decide) ?_
  refine x_ishl dX9_three_15 ?_
  refine x_eqi (v := (jishl a (15 : Int32))) rfl ?_
  refine x_ior dX9_three_16 ?_
  refine x_iload_n dX9_three_17 rfl ?_
  refine x_bipush_ (v := (12 : Int32)) dX9_three_18 (by decide) ?_
  refine x_ishl dX9_three_20 ?_
  refine x_eqi (v := (jishl f (12 : Int32))) rfl ?_
  refine x_ior dX9_three_21 ?_
  refine x_iload_n dX9_three_22 rfl ?_
  refine x_bipush_ (v := (7 : Int32)) dX9_three_23 (by decide) ?_
  refine x_ishl dX9_three_25 ?_
  refine x_eqi (v := (jishl d (7 : Int32))) rfl ?_
  refine x_ior dX9_three_26 ?_
  refine x_bipush_ (v := (51 : Int32)) dX9_three_27 (by decide) ?_
  refine x_ior dX9_three_29 ?_
  obtain ⟨o2, h⟩ := h
  obtain ⟨R1, g1, h⟩ := h
  refine x_callV hG (Ky := kX9_add) (As := [.int ((((((jishl g (25 : Int32)) ||| (jishl b (20 : Int32))) ||| (jishl a (15 : Int32))) ||| (jishl f (12 : Int32))) ||| (jishl d (7 : Int32))) ||| (51 : Int32))]) dX9_three_30 o2 rfl lk_X9_50 me_X9_add is_X9_add se_X9_add rfl rfl (Nat.le_of_ble_eq_true rfl) (MX.post (m_X9_add hG hO g1) ?_)
  rintro _ A1 ⟨rfl, h1⟩
  refine X.xok (fun w1 => ?_)
  replace h := h A1 w1 h1
  change X _ _ _ _ A1 _ _ []
  exact x_vret dX9_three_33 rfl ⟨rfl, h⟩
def w_X9_two (G : xG) (p : Nat) (f : Int32) (d : Int32) (a : Int32) (i : Int32) (Q : xA → Prop) (A : xA) : Prop := xok G A → A.tg p = 9 ∧ (∃ R1 : xA → Prop, w_X9_add G p (((((jishl i (20 : Int32)) ||| (jishl a (15 : Int32))) ||| (jishl f (12 : Int32))) ||| (jishl d (7 : Int32))) ||| (19 : Int32)) R1 A ∧ (∀ A1 : xA, xok G A1 → R1 A1 → (Q A1)))
theorem m_X9_two (hG : xOK G) (hO : xHO G) {dp : Nat} {p : Nat} {f : Int32} {d : Int32} {a : Int32} {i : Int32} {Q : xA → Prop} {A : xA} (h : w_X9_two G p f d a i Q A) : MX G (dp + 3) kX9_two [.ref p, .int f, .int d, .int a, .int i] A (hV Q) := by
  unfold w_X9_two at h
  refine MX.of rfl (Nat.le_of_ble_eq_true rfl) ?_
  change X _ _ _ _ _ _ [some (.ref p), some (.int f), some (.int d), some (.int a), some (.int i)] _
  refine X.xok (fun w0 => ?_)
  replace h := h w0
  refine x_aload_n dX9_two_0 rfl ?_
  refine x_iload dX9_two_1 rfl ?_
  refine x_bipush_ (v := (20 : Int32)) dX9_two_3 (by decide) ?_
  refine x_ishl dX9_two_5 ?_
  refine x_eqi (v := (jishl i (20 : Int32))) rfl ?_
  refine x_iload_n dX9_two_6 rfl ?_
  refine x_bipush_ (v := (15 : Int32)) dX9_two_7 (by decide) ?_
  refine x_ishl dX9_two_9 ?_
  refine x_eqi (v := (jishl a (15 : Int32))) rfl ?_
  refine x_ior dX9_two_10 ?_
  refine x_iload_n dX9_two_11 rfl ?_
  refine x_bipush_ (v := (12 : Int32)) dX9_two_12 (by decide) ?_
  refine x_ishl dX9_two_14 ?_
  refine x_eqi (v := (jishl f (12 : Int32))) rfl ?_
  refine x_ior dX9_two_15 ?_
  refine x_iload_n dX9_two_16 rfl ?_
  refine x_bipush_ (v := (7 : Int32)) dX9_two_17 (by decide) ?_
  refine x_ishl dX9_two_19 ?_
  refine x_eqi (v := (jishl d (7 : Int32))) rfl ?_
  refine x_ior dX9_two_20 ?_
  refine x_bipush_ (v := (19 : Int32)) dX9_two_21 (by decide) ?_
  refine x_ior dX9_two_23 ?_
  obtain ⟨o2, h⟩ := h
  obtain ⟨R1, g1, h⟩ := h
  refine x_callV hG (Ky := kX9_add) (As := [.int (((((jishl i (20 : Int32)) ||| (jishl a (15 : Int32))) ||| (jishl f (12 : Int32))) ||| (jishl d (7 : Int32))) ||| (19 : Int32))]) dX9_two_24 o2 rfl lk_X9_50 me_X9_add is_X9_add se_X9_add rfl rfl (Nat.le_of_ble_eq_true rfl) (MX.post (m_X9_add hG hO g1) ?_)
  rintro _ A1 ⟨rfl, h1⟩
  refine X.xok (fun w1 => ?_)
  replace h := h A1 w1 h1
  change X _ _ _ _ A1 _ _ []
  exact x_vret dX9_two_27 rfl ⟨rfl, h⟩
def w_X9_move (G : xG) (p : Nat) (d : Int32) (a : Int32) (Q : xA → Prop) (A : xA) : Prop := xok G A → ((d = a → Q A) ∧ (¬ d = a → A.tg p = 9 ∧ (∃ R1 : xA → Prop, w_X9_two G p (0 : Int32) d a (0 : Int32) R1 A ∧ (∀ A1 : xA, xok G A1 → R1 A1 → (Q A1)))))
theorem m_X9_move (hG : xOK G) (hO : xHO G) {dp : Nat} {p : Nat} {d : Int32} {a : Int32} {Q : xA → Prop} {A : xA} (h : w_X9_move G p d a Q A) : MX G (dp + 4) kX9_move [.ref p, .int d, .int a] A (hV Q) := by
  unfold w_X9_move at h
  refine MX.of rfl (Nat.le_of_ble_eq_true rfl) ?_
  change X _ _ _ _ _ _ [some (.ref p), some (.int d), some (.int a)] _
  refine X.xok (fun w0 => ?_)
  replace h := h w0
  refine x_iload_n dX9_move_0 rfl ?_
  refine x_iload_n dX9_move_1 rfl ?_
  refine x_icmp_eq (tgt := 13) dX9_move_2 (by decide) (fun c2 => ?_) (fun c2 => ?_)
  · replace h := h.1 c2
    exact x_vret dX9_move_13 rfl ⟨rfl, h⟩
  · replace h := h.2 c2
    refine x_aload_n dX9_move_5 rfl ?_
    refine x_iconst_ (v := (0 : Int32)) dX9_move_6 (by decide) ?_
    refine x_iload_n dX9_move_7 rfl ?_
    refine x_iload_n dX9_move_8 rfl ?_
    refine x_iconst_ (v := (0 : Int32)) dX9_move_9 (by decide) ?_
    obtain ⟨o2, h⟩ := h
    obtain ⟨R1, g1, h⟩ := h
    refine x_callV hG (Ky := kX9_two) (As := [.int (0 : Int32), .int d, .int a, .int (0 : Int32)]) dX9_move_10 o2 rfl lk_X9_53 me_X9_two is_X9_two se_X9_two rfl rfl (Nat.le_of_ble_eq_true rfl) (MX.post (m_X9_two hG hO g1) ?_)
    rintro _ A1 ⟨rfl, h1⟩
    refine X.xok (fun w1 => ?_)
    replace h := h A1 w1 h1
    change X _ _ _ _ A1 _ _ []
    exact x_vret dX9_move_13 rfl ⟨rfl, h⟩
def w_X9_load (G : xG) (p : Nat) (f : Int32) (d : Int32) (a : Int32) (i : Int32) (Q : xA → Prop) (A : xA) : Prop := xok G A → A.tg p = 9 ∧ (∃ R1 : xA → Prop, w_X9_add G p (((((jishl i (20 : Int32)) ||| (jishl a (15 : Int32))) ||| (jishl f (12 : Int32))) ||| (jishl d (7 : Int32))) ||| (3 : Int32)) R1 A ∧ (∀ A1 : xA, xok G A1 → R1 A1 → (Q A1)))
theorem m_X9_load (hG : xOK G) (hO : xHO G) {dp : Nat} {p : Nat} {f : Int32} {d : Int32} {a : Int32} {i : Int32} {Q : xA → Prop} {A : xA} (h : w_X9_load G p f d a i Q A) : MX G (dp + 3) kX9_load [.ref p, .int f, .int d, .int a, .int i] A (hV Q) := by
  unfold w_X9_load at h
  refine MX.of rfl (Nat.le_of_ble_eq_true rfl) ?_
  change X _ _ _ _ _ _ [some (.ref p), some (.int f), some (.int d), some (.int a), some (.int i)] _
  refine X.xok (fun w0 => ?_)
  replace h := h w0
  refine x_aload_n dX9_load_0 rfl ?_
  refine x_iload dX9_load_1 rfl ?_
  refine x_bipush_ (v := (20 : Int32)) dX9_load_3 (by decide) ?_
  refine x_ishl dX9_load_5 ?_
  refine x_eqi (v := (jishl i (20 : Int32))) rfl ?_
  refine x_iload_n dX9_load_6 rfl ?_
  refine x_bipush_ (v := (15 : Int32)) dX9_load_7 (by decide) ?_
  refine x_ishl dX9_load_9 ?_
  refine x_eqi (v := (jishl a (15 : Int32))) rfl ?_
  refine x_ior dX9_load_10 ?_
  refine x_iload_n dX9_load_11 rfl ?_
  refine x_bipush_ (v := (12 : Int32)) dX9_load_12 (by decide) ?_
  refine x_ishl dX9_load_14 ?_
  refine x_eqi (v := (jishl f (12 : Int32))) rfl ?_
  refine x_ior dX9_load_15 ?_
  refine x_iload_n dX9_load_16 rfl ?_
  refine x_bipush_ (v := (7 : Int32)) dX9_load_17 (by decide) ?_
  refine x_ishl dX9_load_19 ?_
  refine x_eqi (v := (jishl d (7 : Int32))) rfl ?_
  refine x_ior dX9_load_20 ?_
  refine x_iconst_ (v := (3 : Int32)) dX9_load_21 (by decide) ?_
  refine x_ior dX9_load_22 ?_
  obtain ⟨o2, h⟩ := h
  obtain ⟨R1, g1, h⟩ := h
  refine x_callV hG (Ky := kX9_add) (As := [.int (((((jishl i (20 : Int32)) ||| (jishl a (15 : Int32))) ||| (jishl f (12 : Int32))) ||| (jishl d (7 : Int32))) ||| (3 : Int32))]) dX9_load_23 o2 rfl lk_X9_50 me_X9_add is_X9_add se_X9_add rfl rfl (Nat.le_of_ble_eq_true rfl) (MX.post (m_X9_add hG hO g1) ?_)
  rintro _ A1 ⟨rfl, h1⟩
  refine X.xok (fun w1 => ?_)
  replace h := h A1 w1 h1
  change X _ _ _ _ A1 _ _ []
  exact x_vret dX9_load_26 rfl ⟨rfl, h⟩
def w_X9_store (G : xG) (p : Nat) (f : Int32) (b : Int32) (a : Int32) (i : Int32) (Q : xA → Prop) (A : xA) : Prop := xok G A → A.tg p = 9 ∧ (∃ R1 : xA → Prop, w_X9_add G p ((((((jishl ((jishr i (5 : Int32)) &&& (127 : Int32)) (25 : Int32)) ||| (jishl b (20 : Int32))) ||| (jishl a (15 : Int32))) ||| (jishl f (12 : Int32))) ||| (jishl (i &&& (31 : Int32)) (7 : Int32))) ||| (35 : Int32)) R1 A ∧ (∀ A1 : xA, xok G A1 → R1 A1 → (Q A1)))
theorem m_X9_store (hG : xOK G) (hO : xHO G) {dp : Nat} {p : Nat} {f : Int32} {b : Int32} {a : Int32} {i : Int32} {Q : xA → Prop} {A : xA} (h : w_X9_store G p f b a i Q A) : MX G (dp + 3) kX9_store [.ref p, .int f, .int b, .int a, .int i] A (hV Q) := by
  unfold w_X9_store at h
  refine MX.of rfl (Nat.le_of_ble_eq_true rfl) ?_
  change X _ _ _ _ _ _ [some (.ref p), some (.int f), some (.int b), some (.int a), some (.int i)] _
  refine X.xok (fun w0 => ?_)
  replace h := h w0
  refine x_aload_n dX9_store_0 rfl ?_
  refine x_iload dX9_store_1 rfl ?_
  refine x_iconst_ (v := (5 : Int32)) dX9_store_3 (by decide) ?_
  refine x_ishr dX9_store_4 ?_
  refine x_eqi (v := (jishr i (5 : Int32))) rfl ?_
  refine x_bipush_ (v := (127 : Int32)) dX9_store_5 (by decide) ?_
  refine x_iand dX9_store_7 ?_
  refine x_bipush_ (v := (25 : Int32)) dX9_store_8 (by decide) ?_
  refine x_ishl dX9_store_10 ?_
  refine x_eqi (v := (jishl ((jishr i (5 : Int32)) &&& (127 : Int32)) (25 : Int32))) rfl ?_
  refine x_iload_n dX9_store_11 rfl ?_
  refine x_bipush_ (v := (20 : Int32)) dX9_store_12 (by decide) ?_
  refine x_ishl dX9_store_14 ?_
  refine x_eqi (v := (jishl b (20 : Int32))) rfl ?_
  refine x_ior dX9_store_15 ?_
  refine x_iload_n dX9_store_16 rfl ?_
  refine x_bipush_ (v := (15 : Int32)) dX9_store_17 (by decide) ?_
  refine x_ishl dX9_store_19 ?_
  refine x_eqi (v := (jishl a (15 : Int32))) rfl ?_
  refine x_ior dX9_store_20 ?_
  refine x_iload_n dX9_store_21 rfl ?_
  refine x_bipush_ (v := (12 : Int32)) dX9_store_22 (by decide) ?_
  refine x_ishl dX9_store_24 ?_
  refine x_eqi (v := (jishl f (12 : Int32))) rfl ?_
  refine x_ior dX9_store_25 ?_
  refine x_iload dX9_store_26 rfl ?_
  refine x_bipush_ (v := (31 : Int32)) dX9_store_28 (by decide) ?_
  refine x_iand dX9_store_30 ?_
  refine x_bipush_ (v := (7 : Int32)) dX9_store_31 (by decide) ?_
  refine x_ishl dX9_store_33 ?_
  refine x_eqi (v := (jishl (i &&& (31 : Int32)) (7 : Int32))) rfl ?_
  refine x_ior dX9_store_34 ?_
  refine x_bipush_ (v := (35 : Int32)) dX9_store_35 (by decide) ?_
  refine x_ior dX9_store_37 ?_
  obtain ⟨o2, h⟩ := h
  obtain ⟨R1, g1, h⟩ := h
  refine x_callV hG (Ky := kX9_add) (As := [.int ((((((jishl ((jishr i (5 : Int32)) &&& (127 : Int32)) (25 : Int32)) ||| (jishl b (20 : Int32))) ||| (jishl a (15 : Int32))) ||| (jishl f (12 : Int32))) ||| (jishl (i &&& (31 : Int32)) (7 : Int32))) ||| (35 : Int32))]) dX9_store_38 o2 rfl lk_X9_50 me_X9_add is_X9_add se_X9_add rfl rfl (Nat.le_of_ble_eq_true rfl) (MX.post (m_X9_add hG hO g1) ?_)
  rintro _ A1 ⟨rfl, h1⟩
  refine X.xok (fun w1 => ?_)
  replace h := h A1 w1 h1
  change X _ _ _ _ A1 _ _ []
  exact x_vret dX9_store_41 rfl ⟨rfl, h⟩
def w_X9_number (G : xG) (p : Nat) (d : Int32) (v : Int32) (Q : xA → Prop) (A : xA) : Prop := xok G A → (((jishr (jishl v (20 : Int32)) (20 : Int32)) = v → A.tg p = 9 ∧ (∃ R5 : xA → Prop, w_X9_two G p (0 : Int32) d (0 : Int32) v R5 A ∧ (∀ A5 : xA, xok G A5 → R5 A5 → (Q A5)))) ∧ (¬ (jishr (jishl v (20 : Int32)) (20 : Int32)) = v → A.tg p = 9 ∧ (∃ R1 : xA → Prop, w_X9_add G p ((((v - (jishr (jishl v (20 : Int32)) (20 : Int32))) &&& (-4096 : Int32)) ||| (jishl d (7 : Int32))) ||| (55 : Int32)) R1 A ∧ (∀ A1 : xA, xok G A1 → R1 A1 → ((((jishr (jishl v (20 : Int32)) (20 : Int32)) = 0 → Q A1) ∧ (¬ (jishr (jishl v (20 : Int32)) (20 : Int32)) = 0 → A1.tg p = 9 ∧ (∃ R3 : xA → Prop, w_X9_two G p (0 : Int32) d d (jishr (jishl v (20 : Int32)) (20 : Int32)) R3 A1 ∧ (∀ A3 : xA, xok G A3 → R3 A3 → (Q A3))))))))))
theorem m_X9_number (hG : xOK G) (hO : xHO G) {dp : Nat} {p : Nat} {d : Int32} {v : Int32} {Q : xA → Prop} {A : xA} (h : w_X9_number G p d v Q A) : MX G (dp + 4) kX9_number [.ref p, .int d, .int v] A (hV Q) := by
  unfold w_X9_number at h
  refine MX.of rfl (Nat.le_of_ble_eq_true rfl) ?_
  change X _ _ _ _ _ _ [some (.ref p), some (.int d), some (.int v), none] _
  refine X.xok (fun w0 => ?_)
  replace h := h w0
  refine x_iload_n dX9_number_0 rfl ?_
  refine x_bipush_ (v := (20 : Int32)) dX9_number_1 (by decide) ?_
  refine x_ishl dX9_number_3 ?_
  refine x_eqi (v := (jishl v (20 : Int32))) rfl ?_
  refine x_bipush_ (v := (20 : Int32)) dX9_number_4 (by decide) ?_
  refine x_ishr dX9_number_6 ?_
  refine x_eqi (v := (jishr (jishl v (20 : Int32)) (20 : Int32))) rfl ?_
  refine x_istore_n dX9_number_7 (by decide) ?_
  refine x_iload_n dX9_number_8 rfl ?_
  refine x_iload_n dX9_number_9 rfl ?_
  refine x_icmp_ne (tgt := 22) dX9_number_10 (by decide) (fun c10 => ?_) (fun c10 => ?_)
  · replace h := h.2 c10
    refine x_aload_n dX9_number_22 rfl ?_
    refine x_iload_n dX9_number_23 rfl ?_
    refine x_iload_n dX9_number_24 rfl ?_
    refine x_isub dX9_number_25 ?_
    refine x_sipush_ (v := (-4096 : Int32)) dX9_number_26 (by decide) ?_
    refine x_iand dX9_number_29 ?_
    refine x_iload_n dX9_number_30 rfl ?_
    refine x_bipush_ (v := (7 : Int32)) dX9_number_31 (by decide) ?_
    refine x_ishl dX9_number_33 ?_
    refine x_eqi (v := (jishl d (7 : Int32))) rfl ?_
    refine x_ior dX9_number_34 ?_
    refine x_bipush_ (v := (55 : Int32)) dX9_number_35 (by decide) ?_
    refine x_ior dX9_number_37 ?_
    obtain ⟨o2, h⟩ := h
    obtain ⟨R1, g1, h⟩ := h
    refine x_callV hG (Ky := kX9_add) (As := [.int ((((v - (jishr (jishl v (20 : Int32)) (20 : Int32))) &&& (-4096 : Int32)) ||| (jishl d (7 : Int32))) ||| (55 : Int32))]) dX9_number_38 o2 rfl lk_X9_50 me_X9_add is_X9_add se_X9_add rfl rfl (Nat.le_of_ble_eq_true rfl) (MX.post (m_X9_add hG hO g1) ?_)
    rintro _ A1 ⟨rfl, h1⟩
    refine X.xok (fun w1 => ?_)
    replace h := h A1 w1 h1
    change X _ _ _ _ A1 _ _ []
    refine x_iload_n dX9_number_41 rfl ?_
    refine x_if_eq (tgt := 53) dX9_number_42 (by decide) (fun c42 => ?_) (fun c42 => ?_)
    · replace h := h.1 c42
      exact x_vret dX9_number_53 rfl ⟨rfl, h⟩
    · replace h := h.2 c42
      refine x_aload_n dX9_number_45 rfl ?_
      refine x_iconst_ (v := (0 : Int32)) dX9_number_46 (by decide) ?_
      refine x_iload_n dX9_number_47 rfl ?_
      refine x_iload_n dX9_number_48 rfl ?_
      refine x_iload_n dX9_number_49 rfl ?_
      obtain ⟨o4, h⟩ := h
      obtain ⟨R3, g3, h⟩ := h
      refine x_callV hG (Ky := kX9_two) (As := [.int (0 : Int32), .int d, .int d, .int (jishr (jishl v (20 : Int32)) (20 : Int32))]) dX9_number_50 o4 rfl lk_X9_53 me_X9_two is_X9_two se_X9_two rfl rfl (Nat.le_of_ble_eq_true rfl) (MX.post (m_X9_two hG hO g3) ?_)
      rintro _ A3 ⟨rfl, h1⟩
      refine X.xok (fun w3 => ?_)
      replace h := h A3 w3 h1
      change X _ _ _ _ A3 _ _ []
      exact x_vret dX9_number_53 rfl ⟨rfl, h⟩
  · replace h := h.1 c10
    refine x_aload_n dX9_number_13 rfl ?_
    refine x_iconst_ (v := (0 : Int32)) dX9_number_14 (by decide) ?_
    refine x_iload_n dX9_number_15 rfl ?_
    refine x_iconst_ (v := (0 : Int32)) dX9_number_16 (by decide) ?_
    refine x_iload_n dX9_number_17 rfl ?_
    obtain ⟨o6, h⟩ := h
    obtain ⟨R5, g5, h⟩ := h
    refine x_callV hG (Ky := kX9_two) (As := [.int (0 : Int32), .int d, .int (0 : Int32), .int v]) dX9_number_18 o6 rfl lk_X9_53 me_X9_two is_X9_two se_X9_two rfl rfl (Nat.le_of_ble_eq_true rfl) (MX.post (m_X9_two hG hO g5) ?_)
    rintro _ A5 ⟨rfl, h1⟩
    refine X.xok (fun w5 => ?_)
    replace h := h A5 w5 h1
    change X _ _ _ _ A5 _ _ []
    exact x_vret dX9_number_21 rfl ⟨rfl, h⟩
def w_X9_service (G : xG) (p : Nat) (k : Int32) (Q : xA → Prop) (A : xA) : Prop := xok G A → A.tg p = 9 ∧ (∃ R1 : xA → Prop, w_X9_two G p (0 : Int32) (17 : Int32) (0 : Int32) k R1 A ∧ (∀ A1 : xA, xok G A1 → R1 A1 → (A1.tg p = 9 ∧ (∃ R3 : xA → Prop, w_X9_add G p (115 : Int32) R3 A1 ∧ (∀ A3 : xA, xok G A3 → R3 A3 → (Q A3))))))
theorem m_X9_service (hG : xOK G) (hO : xHO G) {dp : Nat} {p : Nat} {k : Int32} {Q : xA → Prop} {A : xA} (h : w_X9_service G p k Q A) : MX G (dp + 4) kX9_service [.ref p, .int k] A (hV Q) := by
  unfold w_X9_service at h
  refine MX.of rfl (Nat.le_of_ble_eq_true rfl) ?_
  change X _ _ _ _ _ _ [some (.ref p), some (.int k)] _
  refine X.xok (fun w0 => ?_)
  replace h := h w0
  refine x_aload_n dX9_service_0 rfl ?_
  refine x_iconst_ (v := (0 : Int32)) dX9_service_1 (by decide) ?_
  refine x_bipush_ (v := (17 : Int32)) dX9_service_2 (by decide) ?_
  refine x_iconst_ (v := (0 : Int32)) dX9_service_4 (by decide) ?_
  refine x_iload_n dX9_service_5 rfl ?_
  obtain ⟨o2, h⟩ := h
  obtain ⟨R1, g1, h⟩ := h
  refine x_callV hG (Ky := kX9_two) (As := [.int (0 : Int32), .int (17 : Int32), .int (0 : Int32), .int k]) dX9_service_6 o2 rfl lk_X9_53 me_X9_two is_X9_two se_X9_two rfl rfl (Nat.le_of_ble_eq_true rfl) (MX.post (m_X9_two hG hO g1) ?_)
  rintro _ A1 ⟨rfl, h1⟩
  refine X.xok (fun w1 => ?_)
  replace h := h A1 w1 h1
  change X _ _ _ _ A1 _ _ []
  refine x_aload_n dX9_service_9 rfl ?_
  refine x_bipush_ (v := (115 : Int32)) dX9_service_10 (by decide) ?_
  obtain ⟨o4, h⟩ := h
  obtain ⟨R3, g3, h⟩ := h
  refine x_callV hG (Ky := kX9_add) (As := [.int (115 : Int32)]) dX9_service_12 o4 rfl lk_X9_50 me_X9_add is_X9_add se_X9_add rfl rfl (Nat.le_of_ble_eq_true rfl) (MX.post (m_X9_add hG hO g3) ?_)
  rintro _ A3 ⟨rfl, h1⟩
  refine X.xok (fun w3 => ?_)
  replace h := h A3 w3 h1
  change X _ _ _ _ A3 _ _ []
  exact x_vret dX9_service_15 rfl ⟨rfl, h⟩
def w_X9_lay (G : xG) (p : Nat) (r : Option Nat) (f : Int32) (Q : Int32 → xA → Prop) (A : xA) : Prop := xok G A → ∃ L1 : Nat → Int32 → xA → Prop, (∃ n1 : Nat, L1 n1 (0 : Int32) A) ∧ (∀ (n1 : Nat) (y1_3 : Int32) (A1 : xA), L1 n1 y1_3 A1 → A1.tg p = 9 ∧ ((((A1.I p 4) ≤ y1_3 → ∃ L3 : Nat → Int32 → xA → Prop, (∃ n3 : Nat, L3 n3 (1 : Int32) A1) ∧ (∀ (n3 : Nat) (y3_3 : Int32) (A3 : xA), L3 n3 y3_3 A3 → ((y3_3 = 0 → ∃ L4 : Nat → Int32 → xA → Prop, (∃ n4 : Nat, L4 n4 (0 : Int32) A3) ∧ (∀ (n4 : Nat) (y4_4 : Int32) (A4 : xA), L4 n4 y4_4 A4 → A4.tg p = 9 ∧ ((((A4.I p 4) ≤ y4_4 → ∃ b6 : Nat, (A4.P p 2) = some b6 ∧ (A4.tg b6 = 200 ∧ (vp_in (A4.I p 4) (A4.ln b6) ∧ (Q ((A4.I b6 (ix (A4.I p 4))) - f) A4)))) ∧ (¬ (A4.I p 4) ≤ y4_4 → ∃ b9 : Nat, (A4.P p 0) = some b9 ∧ (A4.tg b9 = 200 ∧ (vp_in y4_4 (A4.ln b9) ∧ (∃ b12 : Nat, (A4.P p 1) = some b12 ∧ (A4.tg b12 = 200 ∧ (vp_in y4_4 (A4.ln b12) ∧ (∃ J15 : Int32 → Prop, (∀ (y15_s0 : Int32), J15 y15_s0 → ∃ b16 : Nat, (A4.P p 3) = some b16 ∧ (A4.tg b16 = 203 ∧ (vp_in y4_4 (A4.ln b16) ∧ (∃ J19 : xA → Prop, (∀ (A19 : xA), J19 A19 → (∃ q4 : Nat, q4 < n4 ∧ L4 q4 (y4_4 + (1 : Int32)) A19)) ∧ (((A4.I b16 (ix y4_4)) = 0 → ∃ b20 : Nat, (A4.P p 2) = some b20 ∧ (A4.tg b20 = 200 ∧ (vp_in y4_4 (A4.ln b20) ∧ (∃ b23 : Nat, r = some b23 ∧ (A4.tg b23 = 200 ∧ (G.N ≤ b23 ∧ (vp_in (A4.I b20 (ix y4_4)) (A4.ln b23) ∧ (∀ A27 : xA, A27 = A4.setI b23 (ix (A4.I b20 (ix y4_4))) (if 0 ≤ (A4.I b12 (ix y4_4)) then (if ((A4.I b9 (ix y4_4)) &&& (127 : Int32)) = (99 : Int32) then ((A4.I b9 (ix y4_4)) ||| (f_X9_branch y15_s0)) else ((A4.I b9 (ix y4_4)) ||| (f_X9_jump y15_s0))) else (A4.I b9 (ix y4_4))) → (J19 A27))))))))) ∧ (¬ (A4.I b16 (ix y4_4)) = 0 → ∃ b28 : Nat, (A4.P p 2) = some b28 ∧ (A4.tg b28 = 200 ∧ (vp_in y4_4 (A4.ln b28) ∧ (∃ b31 : Nat, r = some b31 ∧ (A4.tg b31 = 200 ∧ (G.N ≤ b31 ∧ (vp_in (A4.I b28 (ix y4_4)) (A4.ln b31) ∧ (∀ A35 : xA, A35 = A4.setI b31 (ix (A4.I b28 (ix y4_4))) (((A4.I b9 (ix y4_4)) ^^^ (4096 : Int32)) ||| (f_X9_branch (8 : Int32))) → (vp_in y4_4 (A35.ln b28) ∧ (vp_in ((A35.I b28 (ix y4_4)) + (1 : Int32)) (A35.ln b31) ∧ (∀ A38 : xA, A38 = A35.setI b31 (ix ((A35.I b28 (ix y4_4)) + (1 : Int32))) ((111 : Int32) ||| (f_X9_jump (y15_s0 - (4 : Int32)))) → (J19 A38))))))))))))))))) ∧ ((0 ≤ (A4.I b12 (ix y4_4)) → ∃ b39 : Nat, (A4.P p 6) = some b39 ∧ (A4.tg b39 = 200 ∧ (vp_in (A4.I b12 (ix y4_4)) (A4.ln b39) ∧ (∃ b42 : Nat, (A4.P p 2) = some b42 ∧ (A4.tg b42 = 200 ∧ (vp_in (A4.I b39 (ix (A4.I b12 (ix y4_4)))) (A4.ln b42) ∧ (vp_in y4_4 (A4.ln b42) ∧ (J15 ((4 : Int32) * ((A4.I b42 (ix (A4.I b39 (ix (A4.I b12 (ix y4_4)))))) - (A4.I b42 (ix y4_4)))))))))))) ∧ (¬ 0 ≤ (A4.I b12 (ix y4_4)) → J15 (0 : Int32)))))))))))))) ∧ (¬ y3_3 = 0 → ∃ L46 : Nat → Int32 → Int32 → xA → Prop, (∃ n46 : Nat, L46 n46 f (0 : Int32) A3) ∧ (∀ (n46 : Nat) (y46_4 : Int32) (y46_5 : Int32) (A46 : xA), L46 n46 y46_4 y46_5 A46 → A46.tg p = 9 ∧ ((((A46.I p 4) ≤ y46_5 → ∃ b48 : Nat, (A46.P p 2) = some b48 ∧ (A46.tg b48 = 200 ∧ (G.N ≤ b48 ∧ (vp_in (A46.I p 4) (A46.ln b48) ∧ (∀ A52 : xA, A52 = A46.setI b48 (ix (A46.I p 4)) y46_4 → (∃ L53 : Nat → Int32 → Int32 → xA → Prop, (∃ n53 : Nat, L53 n53 (0 : Int32) (0 : Int32) A52) ∧ (∀ (n53 : Nat) (y53_3 : Int32) (y53_5 : Int32) (A53 : xA), L53 n53 y53_3 y53_5 A53 → A53.tg p = 9 ∧ ((((A53.I p 4) ≤ y53_5 → (∃ q3 : Nat, q3 < n3 ∧ L3 q3 y53_3 A53)) ∧ (¬ (A53.I p 4) ≤ y53_5 → ∃ b55 : Nat, (A53.P p 1) = some b55 ∧ (A53.tg b55 = 200 ∧ (vp_in y53_5 (A53.ln b55) ∧ (∃ J58 : Int32 → xA → Prop, (∀ (y58_3 : Int32) (A58 : xA), J58 y58_3 A58 → (∃ q53 : Nat, q53 < n53 ∧ L53 q53 y58_3 (y53_5 + (1 : Int32)) A58)) ∧ (((A53.I b55 (ix y53_5)) < 0 → J58 y53_3 A53) ∧ (¬ (A53.I b55 (ix y53_5)) < 0 → ∃ b59 : Nat, (A53.P p 3) = some b59 ∧ (A53.tg b59 = 203 ∧ (vp_in y53_5 (A53.ln b59) ∧ ((((A53.I b59 (ix y53_5)) = 0 → ∃ b62 : Nat, (A53.P p 0) = some b62 ∧ (A53.tg b62 = 200 ∧ (vp_in y53_5 (A53.ln b62) ∧ (((((A53.I b62 (ix y53_5)) &&& (127 : Int32)) = (99 : Int32) → ∃ b65 : Nat, (A53.P p 6) = some b65 ∧ (A53.tg b65 = 200 ∧ (vp_in (A53.I b55 (ix y53_5)) (A53.ln b65) ∧ (∃ b68 : Nat, (A53.P p 2) = some b68 ∧ (A53.tg b68 = 200 ∧ (vp_in (A53.I b65 (ix (A53.I b55 (ix y53_5)))) (A53.ln b68) ∧ (vp_in y53_5 (A53.ln b68) ∧ (((((4 : Int32) * ((A53.I b68 (ix (A53.I b65 (ix (A53.I b55 (ix y53_5)))))) - (A53.I b68 (ix y53_5)))) < (-4096 : Int32) → G.N ≤ b59 ∧ (∀ A73 : xA, A73 = A53.setI b59 (ix y53_5) (1 : Int32) → (J58 (1 : Int32) A73))) ∧ (¬ ((4 : Int32) * ((A53.I b68 (ix (A53.I b65 (ix (A53.I b55 (ix y53_5)))))) - (A53.I b68 (ix y53_5)))) < (-4096 : Int32) → (((4096 : Int32) ≤ ((4 : Int32) * ((A53.I b68 (ix (A53.I b65 (ix (A53.I b55 (ix y53_5)))))) - (A53.I b68 (ix y53_5)))) → G.N ≤ b59 ∧ (∀ A75 : xA, A75 = A53.setI b59 (ix y53_5) (1 : Int32) → (J58 (1 : Int32) A75))) ∧ (¬ (4096 : Int32) ≤ ((4 : Int32) * ((A53.I b68 (ix (A53.I b65 (ix (A53.I b55 (ix y53_5)))))) - (A53.I b68 (ix y53_5)))) → J58 y53_3 A53)))))))))))) ∧ (¬ ((A53.I b62 (ix y53_5)) &&& (127 : Int32)) = (99 : Int32) → J58 y53_3 A53)))))) ∧ (¬ (A53.I b59 (ix y53_5)) = 0 → J58 y53_3 A53)))))))))))))))))))) ∧ (¬ (A46.I p 4) ≤ y46_5 → ∃ b76 : Nat, (A46.P p 2) = some b76 ∧ (A46.tg b76 = 200 ∧ (G.N ≤ b76 ∧ (vp_in y46_5 (A46.ln b76) ∧ (∀ A80 : xA, A80 = A46.setI b76 (ix y46_5) y46_4 → (∃ b81 : Nat, (A46.P p 3) = some b81 ∧ (A80.tg b81 = 203 ∧ (vp_in y46_5 (A80.ln b81) ∧ ((∃ q46 : Nat, q46 < n46 ∧ L46 q46 (y46_4 + (if (A80.I b81 (ix y46_5)) = 0 then (1 : Int32) else (2 : Int32))) (y46_5 + (1 : Int32)) A80))))))))))))))))) ∧ (¬ (A1.I p 4) ≤ y1_3 → ∃ b84 : Nat, (A1.P p 3) = some b84 ∧ (A1.tg b84 = 203 ∧ (G.N ≤ b84 ∧ (vp_in y1_3 (A1.ln b84) ∧ (∀ A88 : xA, A88 = A1.setI b84 (ix y1_3) (0 : Int32) → ((∃ q1 : Nat, q1 < n1 ∧ L1 q1 (y1_3 + (1 : Int32)) A88))))))))))
theorem m_X9_lay (hG : xOK G) (hO : xHO G) {dp : Nat} {p : Nat} {r : Option Nat} {f : Int32} {Q : Int32 → xA → Prop} {A : xA} (h : w_X9_lay G p r f Q A) : MX G (dp + 1) kX9_lay [.ref p, va_rf r, .int f] A (hI Q) := by
  unfold w_X9_lay at h
  refine MX.of rfl (by cases r <;> exact Nat.le_of_ble_eq_true rfl) ?_
  refine X.lvs (lv' := [some (.ref p), some (va_rf r), some (.int f), none, none, none, none]) (by cases r <;> rfl) ?_
  refine X.xok (fun w0 => ?_)
  replace h := h w0
  refine x_iconst_ (v := (0 : Int32)) dX9_lay_0 (by decide) ?_
  refine x_istore_n dX9_lay_1 (by decide) ?_
  obtain ⟨L1, ⟨n1, i1⟩, g1⟩ := h
  have kl1 : ∀ n1 : Nat, ∀ (y1_3 : Int32) (A1 : xA), L1 n1 y1_3 A1 → X G (dp + 1) kX9_lay (hI Q) A1 2 [some (.ref p), some (va_rf r), some (.int f), some (.int y1_3), none, none, none] [] := by
    intro n1
    induction n1 using Nat.strongRecOn with
    | ind n1 ih1 =>
      intro y1_3 A1 h
      replace h := g1 n1 y1_3 A1 h
      refine x_iload_n dX9_lay_2 rfl ?_
      refine x_aload_n dX9_lay_3 rfl ?_
      obtain ⟨o2, h⟩ := h
      refine x_get (v := .int (A1.I p 4)) hG dX9_lay_4 f_X9_28_8 o2 rfl ?_
      refine x_icmp_ge (tgt := 23) dX9_lay_7 (by decide) (fun c7 => ?_) (fun c7 => ?_)
      · replace h := h.1 c7
        refine x_iconst_ (v := (1 : Int32)) dX9_lay_23 (by decide) ?_
        refine x_istore_n dX9_lay_24 (by decide) ?_
        obtain ⟨L3, ⟨n3, i3⟩, g3⟩ := h
        have kl3 : ∀ n3 : Nat, ∀ (y3_3 : Int32) (A3 : xA), L3 n3 y3_3 A3 → X G (dp + 1) kX9_lay (hI Q) A3 25 [some (.ref p), some (va_rf r), some (.int f), some (.int y3_3), none, none, none] [] := by
          intro n3
          induction n3 using Nat.strongRecOn with
          | ind n3 ih3 =>
            intro y3_3 A3 h
            replace h := g3 n3 y3_3 A3 h
            refine x_iload_n dX9_lay_25 rfl ?_
            refine x_if_eq (tgt := 209) dX9_lay_26 (by decide) (fun c26 => ?_) (fun c26 => ?_)
            · replace h := h.1 c26
              refine x_iconst_ (v := (0 : Int32)) dX9_lay_209 (by decide) ?_
              refine x_istore dX9_lay_210 (by decide) ?_
              obtain ⟨L4, ⟨n4, i4⟩, g4⟩ := h
              have kl4 : ∀ n4 : Nat, ∀ (y4_4 : Int32) (A4 : xA), L4 n4 y4_4 A4 → X G (dp + 1) kX9_lay (hI Q) A4 212 [some (.ref p), some (va_rf r), some (.int f), none, some (.int y4_4), none, none] [] := by
                intro n4
                induction n4 using Nat.strongRecOn with
                | ind n4 ih4 =>
                  intro y4_4 A4 h
                  replace h := g4 n4 y4_4 A4 h
                  refine x_iload dX9_lay_212 rfl ?_
                  refine x_aload_n dX9_lay_214 rfl ?_
                  obtain ⟨o5, h⟩ := h
                  refine x_get (v := .int (A4.I p 4)) hG dX9_lay_215 f_X9_28_8 o5 rfl ?_
                  refine x_icmp_ge (tgt := 384) dX9_lay_218 (by decide) (fun c218 => ?_) (fun c218 => ?_)
                  · replace h := h.1 c218
                    refine x_aload_n dX9_lay_384 rfl ?_
                    refine x_get (v := va_rf (A4.P p 2)) hG dX9_lay_385 f_X9_18_8 o5 rfl ?_
                    refine x_aload_n dX9_lay_388 rfl ?_
                    refine x_get (v := .int (A4.I p 4)) hG dX9_lay_389 f_X9_28_8 o5 rfl ?_
                    obtain ⟨b6, e6, h⟩ := h
                    rw [e6]
                    obtain ⟨o7, h⟩ := h
                    obtain ⟨o8, h⟩ := h
                    refine x_iald hG dX9_lay_392 o7 o8 ?_
                    refine x_iload_n dX9_lay_393 rfl ?_
                    refine x_isub dX9_lay_394 ?_
                    exact x_iret dX9_lay_395 rfl ⟨_, rfl, h⟩
                  · replace h := h.2 c218
                    refine x_aload_n dX9_lay_221 rfl ?_
                    refine x_get (v := va_rf (A4.P p 0)) hG dX9_lay_222 f_X9_9_8 o5 rfl ?_
                    refine x_iload dX9_lay_225 rfl ?_
                    obtain ⟨b9, e9, h⟩ := h
                    rw [e9]
                    obtain ⟨o10, h⟩ := h
                    obtain ⟨o11, h⟩ := h
                    refine x_iald hG dX9_lay_227 o10 o11 ?_
                    refine x_istore dX9_lay_228 (by decide) ?_
                    refine x_aload_n dX9_lay_230 rfl ?_
                    refine x_get (v := va_rf (A4.P p 1)) hG dX9_lay_231 f_X9_15_8 o5 rfl ?_
                    refine x_iload dX9_lay_234 rfl ?_
                    obtain ⟨b12, e12, h⟩ := h
                    rw [e12]
                    obtain ⟨o13, h⟩ := h
                    obtain ⟨o14, h⟩ := h
                    refine x_iald hG dX9_lay_236 o13 o14 ?_
                    obtain ⟨J15, g15, h⟩ := h
                    have kj15 : ∀ (y15_s0 : Int32), J15 y15_s0 → X G (dp + 1) kX9_lay (hI Q) A4 271 [some (.ref p), some (va_rf r), some (.int f), none, some (.int y4_4), some (.int (A4.I b9 (ix y4_4))), none] [.int y15_s0] := by
                      intro y15_s0 h
                      replace h := g15 y15_s0 h
                      refine x_istore dX9_lay_271 (by decide) ?_
                      refine x_aload_n dX9_lay_273 rfl ?_
                      refine x_get (v := va_rf (A4.P p 3)) hG dX9_lay_274 f_X9_21_8 o5 rfl ?_
                      refine x_iload dX9_lay_277 rfl ?_
                      obtain ⟨b16, e16, h⟩ := h
                      rw [e16]
                      obtain ⟨o17, h⟩ := h
                      obtain ⟨o18, h⟩ := h
                      refine x_zald hG dX9_lay_279 o17 o18 ?_
                      obtain ⟨J19, g19, h⟩ := h
                      have kj19 : ∀ (A19 : xA), J19 A19 → X G (dp + 1) kX9_lay (hI Q) A19 378 [some (.ref p), some (va_rf r), some (.int f), none, some (.int y4_4), none, none] [] := by
                        intro A19 h
                        replace h := g19 A19 h
                        refine x_iinc (v := (y4_4 + (1 : Int32))) dX9_lay_378 rfl rfl (by decide) ?_
                        refine x_goto (tgt := 212) dX9_lay_381 (by decide) ?_
                        obtain ⟨q4, l4, h⟩ := h
                        change X _ _ _ _ _ _ [some (.ref p), some (va_rf r), some (.int f), none, some (.int (y4_4 + (1 : Int32))), none, none] []
                        exact X.weak (xle_c rfl (xle_c rfl (xle_c rfl (xle_n (xle_c rfl (xle_n (xle_n xle_nil))))))) (ih4 q4 l4 (y4_4 + (1 : Int32)) A19 h)
                      refine x_if_eq (tgt := 328) dX9_lay_280 (by decide) (fun c280 => ?_) (fun c280 => ?_)
                      · replace h := h.1 c280
                        refine x_aloadq_n dX9_lay_328 rfl ?_
                        refine x_aload_n dX9_lay_329 rfl ?_
                        refine x_get (v := va_rf (A4.P p 2)) hG dX9_lay_330 f_X9_18_8 o5 rfl ?_
                        refine x_iload dX9_lay_333 rfl ?_
                        obtain ⟨b20, e20, h⟩ := h
                        rw [e20]
                        obtain ⟨o21, h⟩ := h
                        obtain ⟨o22, h⟩ := h
                        refine x_iald hG dX9_lay_335 o21 o22 ?_
                        refine x_aload_n dX9_lay_336 rfl ?_
                        refine x_get (v := .ref b12) hG dX9_lay_337 f_X9_15_8 o5 (congrArg va_rf e12) ?_
                        refine x_iload dX9_lay_340 rfl ?_
                        refine x_iald hG dX9_lay_342 o13 o14 ?_
                        refine x_via 377 (A' := A4) (lv' := [some (.ref p), some (va_rf r), some (.int f), none, some (.int y4_4), none, none]) (st' := [.int (if 0 ≤ (A4.I b12 (ix y4_4)) then (if ((A4.I b9 (ix y4_4)) &&& (127 : Int32)) = (99 : Int32) then ((A4.I b9 (ix y4_4)) ||| (f_X9_branch y15_s0)) else ((A4.I b9 (ix y4_4)) ||| (f_X9_jump y15_s0))) else (A4.I b9 (ix y4_4))), .int (A4.I b20 (ix y4_4)), va_rf r]) ?_ (fun k377 => ?_)
                        rotate_left
                        · refine x_if_ge (tgt := 351) dX9_lay_343 (by decide) (fun c343 => ?_) (fun c343 => ?_)
                          · refine x_iload dX9_lay_351 rfl ?_
                            refine x_iload dX9_lay_353 rfl ?_
                            refine x_bipush_ (v := (127 : Int32)) dX9_lay_355 (by decide) ?_
                            refine x_iand dX9_lay_357 ?_
                            refine x_bipush_ (v := (99 : Int32)) dX9_lay_358 (by decide) ?_
                            refine x_icmp_ne (tgt := 371) dX9_lay_360 (by decide) (fun c360 => ?_) (fun c360 => ?_)
                            · refine x_iload dX9_lay_371 rfl ?_
                              refine x_callS hG (Ky := kX9_jump) (As := [.int y15_s0]) dX9_lay_373 lk_X9_47 me_X9_jump st_X9_jump rfl rfl (by simp only [List.append_eq, List.nil_append, List.map_cons, va_rf_cat]; exact Nat.le_of_ble_eq_true rfl) (MX.post (m_X9_jump hG) ?_)
                              rintro _ _ ⟨rfl, rfl⟩
                              change X _ _ _ _ _ _ _ (.int (f_X9_jump y15_s0) :: _)
                              refine x_ior dX9_lay_376 ?_
                              change X _ _ _ _ _ _ [some (.ref p), some (va_rf r), some (.int f), none, some (.int y4_4), some (.int (A4.I b9 (ix y4_4))), some (.int y15_s0)] [.int ((A4.I b9 (ix y4_4)) ||| (f_X9_jump y15_s0)), .int (A4.I b20 (ix y4_4)), va_rf r]
                              try simp only [if_pos c343] at c360 k377 ⊢
                              try simp only [if_neg c360] at k377 ⊢
                              exact X.weak (xle_c rfl (xle_c rfl (xle_c rfl (xle_n (xle_c rfl (xle_n (xle_n xle_nil))))))) k377
                            · refine x_iload dX9_lay_363 rfl ?_
                              refine x_callS hG (Ky := kX9_branch) (As := [.int y15_s0]) dX9_lay_365 lk_X9_43 me_X9_branch st_X9_branch rfl rfl (by simp only [List.append_eq, List.nil_append, List.map_cons, va_rf_cat]; exact Nat.le_of_ble_eq_true rfl) (MX.post (m_X9_branch hG) ?_)
                              rintro _ _ ⟨rfl, rfl⟩
                              change X _ _ _ _ _ _ _ (.int (f_X9_branch y15_s0) :: _)
                              refine x_goto (tgt := 376) dX9_lay_368 (by decide) ?_
                              refine x_ior dX9_lay_376 ?_
                              change X _ _ _ _ _ _ [some (.ref p), some (va_rf r), some (.int f), none, some (.int y4_4), some (.int (A4.I b9 (ix y4_4))), some (.int y15_s0)] [.int ((A4.I b9 (ix y4_4)) ||| (f_X9_branch y15_s0)), .int (A4.I b20 (ix y4_4)), va_rf r]
                              try simp only [if_pos c343] at c360 k377 ⊢
                              try simp only [if_pos c360] at k377 ⊢
                              exact X.weak (xle_c rfl (xle_c rfl (xle_c rfl (xle_n (xle_c rfl (xle_n (xle_n xle_nil))))))) k377
                          · refine x_iload dX9_lay_346 rfl ?_
                            refine x_goto (tgt := 377) dX9_lay_348 (by decide) ?_
                            change X _ _ _ _ _ _ [some (.ref p), some (va_rf r), some (.int f), none, some (.int y4_4), some (.int (A4.I b9 (ix y4_4))), some (.int y15_s0)] [.int (A4.I b9 (ix y4_4)), .int (A4.I b20 (ix y4_4)), va_rf r]
                            simp only [if_neg c343] at k377 ⊢
                            exact X.weak (xle_c rfl (xle_c rfl (xle_c rfl (xle_n (xle_c rfl (xle_n (xle_n xle_nil))))))) k377
                        obtain ⟨b23, e23, h⟩ := h
                        rw [e23]
                        obtain ⟨o24, h⟩ := h
                        obtain ⟨o25, h⟩ := h
                        obtain ⟨o26, h⟩ := h
                        refine z_iast hG dX9_lay_377 o24 o25 o26 (fun A27 e27 => ?_)
                        replace h := h A27 e27
                        change X _ _ _ _ _ _ [some (.ref p), some (.ref b23), some (.int f), none, some (.int y4_4), none, none] []
                        exact X.weak (xle_c rfl (xle_c (congrArg (fun z => some (va_rf z)) e23.symm) (xle_c rfl (xle_n (xle_c rfl (xle_n (xle_n xle_nil))))))) (kj19 A27 h)
                      · replace h := h.2 c280
                        refine x_aloadq_n dX9_lay_283 rfl ?_
                        refine x_aload_n dX9_lay_284 rfl ?_
                        refine x_get (v := va_rf (A4.P p 2)) hG dX9_lay_285 f_X9_18_8 o5 rfl ?_
                        refine x_iload dX9_lay_288 rfl ?_
                        obtain ⟨b28, e28, h⟩ := h
                        rw [e28]
                        obtain ⟨o29, h⟩ := h
                        obtain ⟨o30, h⟩ := h
                        refine x_iald hG dX9_lay_290 o29 o30 ?_
                        refine x_iload dX9_lay_291 rfl ?_
                        refine x_sipush_ (v := (4096 : Int32)) dX9_lay_293 (by decide) ?_
                        refine x_ixor dX9_lay_296 ?_
                        refine x_bipush_ (v := (8 : Int32)) dX9_lay_297 (by decide) ?_
                        refine x_callS hG (Ky := kX9_branch) (As := [.int (8 : Int32)]) dX9_lay_299 lk_X9_43 me_X9_branch st_X9_branch rfl rfl (by simp only [List.append_eq, List.nil_append, List.map_cons, va_rf_cat]; exact Nat.le_of_ble_eq_true rfl) (MX.post (m_X9_branch hG) ?_)
                        rintro _ _ ⟨rfl, rfl⟩
                        change X _ _ _ _ _ _ _ (.int (f_X9_branch (8 : Int32)) :: _)
                        refine x_ior dX9_lay_302 ?_
                        obtain ⟨b31, e31, h⟩ := h
                        rw [e31]
                        obtain ⟨o32, h⟩ := h
                        obtain ⟨o33, h⟩ := h
                        obtain ⟨o34, h⟩ := h
                        refine z_iast hG dX9_lay_303 o32 o33 o34 (fun A35 e35 => ?_)
                        replace h := h A35 e35
                        refine x_aload_n dX9_lay_304 rfl ?_
                        refine x_aload_n dX9_lay_305 rfl ?_
                        refine x_get (v := .ref b28) hG dX9_lay_306 f_X9_18_8 (kI e35 o5) (congrArg va_rf ((sI_P e35).trans e28)) ?_
                        refine x_iload dX9_lay_309 rfl ?_
                        obtain ⟨o36, h⟩ := h
                        refine x_iald hG dX9_lay_311 (kI e35 o29) o36 ?_
                        refine x_iconst_ (v := (1 : Int32)) dX9_lay_312 (by decide) ?_
                        refine x_iadd dX9_lay_313 ?_
                        refine x_bipush_ (v := (111 : Int32)) dX9_lay_314 (by decide) ?_
                        refine x_iload dX9_lay_316 rfl ?_
                        refine x_iconst_ (v := (4 : Int32)) dX9_lay_318 (by decide) ?_
                        refine x_isub dX9_lay_319 ?_
                        refine x_callS hG (Ky := kX9_jump) (As := [.int (y15_s0 - (4 : Int32))]) dX9_lay_320 lk_X9_47 me_X9_jump st_X9_jump rfl rfl (Nat.le_of_ble_eq_true rfl) (MX.post (m_X9_jump hG) ?_)
                        rintro _ _ ⟨rfl, rfl⟩
                        change X _ _ _ _ _ _ _ (.int (f_X9_jump (y15_s0 - (4 : Int32))) :: _)
                        refine x_ior dX9_lay_323 ?_
                        obtain ⟨o37, h⟩ := h
                        refine z_iast hG dX9_lay_324 (kI e35 o32) o33 o37 (fun A38 e38 => ?_)
                        replace h := h A38 e38
                        refine x_goto (tgt := 378) dX9_lay_325 (by decide) ?_
                        change X _ _ _ _ _ _ [some (.ref p), some (.ref b31), some (.int f), none, some (.int y4_4), some (.int (A4.I b9 (ix y4_4))), some (.int y15_s0)] []
                        exact X.weak (xle_c rfl (xle_c (congrArg (fun z => some (va_rf z)) e31.symm) (xle_c rfl (xle_n (xle_c rfl (xle_n (xle_n xle_nil))))))) (kj19 A38 h)
                    refine x_if_ge (tgt := 244) dX9_lay_237 (by decide) (fun c237 => ?_) (fun c237 => ?_)
                    · replace h := h.1 c237
                      refine x_iconst_ (v := (4 : Int32)) dX9_lay_244 (by decide) ?_
                      refine x_aload_n dX9_lay_245 rfl ?_
                      refine x_get (v := va_rf (A4.P p 2)) hG dX9_lay_246 f_X9_18_8 o5 rfl ?_
                      refine x_aload_n dX9_lay_249 rfl ?_
                      refine x_get (v := va_rf (A4.P p 6)) hG dX9_lay_250 f_X9_25_8 o5 rfl ?_
                      refine x_aload_n dX9_lay_253 rfl ?_
                      refine x_get (v := .ref b12) hG dX9_lay_254 f_X9_15_8 o5 (congrArg va_rf e12) ?_
                      refine x_iload dX9_lay_257 rfl ?_
                      refine x_iald hG dX9_lay_259 o13 o14 ?_
                      obtain ⟨b39, e39, h⟩ := h
                      rw [e39]
                      obtain ⟨o40, h⟩ := h
                      obtain ⟨o41, h⟩ := h
                      refine x_iald hG dX9_lay_260 o40 o41 ?_
                      obtain ⟨b42, e42, h⟩ := h
                      rw [e42]
                      obtain ⟨o43, h⟩ := h
                      obtain ⟨o44, h⟩ := h
                      refine x_iald hG dX9_lay_261 o43 o44 ?_
                      refine x_aload_n dX9_lay_262 rfl ?_
                      refine x_get (v := .ref b42) hG dX9_lay_263 f_X9_18_8 o5 (congrArg va_rf e42) ?_
                      refine x_iload dX9_lay_266 rfl ?_
                      obtain ⟨o45, h⟩ := h
                      refine x_iald hG dX9_lay_268 o43 o45 ?_
                      refine x_isub dX9_lay_269 ?_
                      refine x_imul dX9_lay_270 ?_
                      change X _ _ _ _ _ _ [some (.ref p), some (va_rf r), some (.int f), none, some (.int y4_4), some (.int (A4.I b9 (ix y4_4))), none] [.int ((4 : Int32) * ((A4.I b42 (ix (A4.I b39 (ix (A4.I b12 (ix y4_4)))))) - (A4.I b42 (ix y4_4))))]
                      exact X.weak (xle_c rfl (xle_c rfl (xle_c rfl (xle_n (xle_c rfl (xle_c rfl (xle_n xle_nil))))))) (kj15 ((4 : Int32) * ((A4.I b42 (ix (A4.I b39 (ix (A4.I b12 (ix y4_4)))))) - (A4.I b42 (ix y4_4)))) h)
                    · replace h := h.2 c237
                      refine x_iconst_ (v := (0 : Int32)) dX9_lay_240 (by decide) ?_
                      refine x_goto (tgt := 271) dX9_lay_241 (by decide) ?_
                      change X _ _ _ _ _ _ [some (.ref p), some (va_rf r), some (.int f), none, some (.int y4_4), some (.int (A4.I b9 (ix y4_4))), none] [.int (0 : Int32)]
                      exact X.weak (xle_c rfl (xle_c rfl (xle_c rfl (xle_n (xle_c rfl (xle_c rfl (xle_n xle_nil))))))) (kj15 (0 : Int32) h)
              change X _ _ _ _ _ _ [some (.ref p), some (va_rf r), some (.int f), some (.int y3_3), some (.int (0 : Int32)), none, none] []
              exact X.weak (xle_c rfl (xle_c rfl (xle_c rfl (xle_n (xle_c rfl (xle_n (xle_n xle_nil))))))) (kl4 n4 (0 : Int32) A3 i4)
            · replace h := h.2 c26
              refine x_iconst_ (v := (0 : Int32)) dX9_lay_29 (by decide) ?_
              refine x_istore_n dX9_lay_30 (by decide) ?_
              refine x_iload_n dX9_lay_31 rfl ?_
              refine x_istore dX9_lay_32 (by decide) ?_
              refine x_iconst_ (v := (0 : Int32)) dX9_lay_34 (by decide) ?_
              refine x_istore dX9_lay_35 (by decide) ?_
              obtain ⟨L46, ⟨n46, i46⟩, g46⟩ := h
              have kl46 : ∀ n46 : Nat, ∀ (y46_4 : Int32) (y46_5 : Int32) (A46 : xA), L46 n46 y46_4 y46_5 A46 → X G (dp + 1) kX9_lay (hI Q) A46 37 [some (.ref p), some (va_rf r), some (.int f), some (.int (0 : Int32)), some (.int y46_4), some (.int y46_5), none] [] := by
                intro n46
                induction n46 using Nat.strongRecOn with
                | ind n46 ih46 =>
                  intro y46_4 y46_5 A46 h
                  replace h := g46 n46 y46_4 y46_5 A46 h
                  refine x_iload dX9_lay_37 rfl ?_
                  refine x_aload_n dX9_lay_39 rfl ?_
                  obtain ⟨o47, h⟩ := h
                  refine x_get (v := .int (A46.I p 4)) hG dX9_lay_40 f_X9_28_8 o47 rfl ?_
                  refine x_icmp_ge (tgt := 81) dX9_lay_43 (by decide) (fun c43 => ?_) (fun c43 => ?_)
                  · replace h := h.1 c43
                    refine x_aload_n dX9_lay_81 rfl ?_
                    refine x_get (v := va_rf (A46.P p 2)) hG dX9_lay_82 f_X9_18_8 o47 rfl ?_
                    refine x_aload_n dX9_lay_85 rfl ?_
                    refine x_get (v := .int (A46.I p 4)) hG dX9_lay_86 f_X9_28_8 o47 rfl ?_
                    refine x_iload dX9_lay_89 rfl ?_
                    obtain ⟨b48, e48, h⟩ := h
                    rw [e48]
                    obtain ⟨o49, h⟩ := h
                    obtain ⟨o50, h⟩ := h
                    obtain ⟨o51, h⟩ := h
                    refine z_iast hG dX9_lay_91 o49 o50 o51 (fun A52 e52 => ?_)
                    replace h := h A52 e52
                    refine x_iconst_ (v := (0 : Int32)) dX9_lay_92 (by decide) ?_
                    refine x_istore dX9_lay_93 (by decide) ?_
                    obtain ⟨L53, ⟨n53, i53⟩, g53⟩ := h
                    have kl53 : ∀ n53 : Nat, ∀ (y53_3 : Int32) (y53_5 : Int32) (A53 : xA), L53 n53 y53_3 y53_5 A53 → X G (dp + 1) kX9_lay (hI Q) A53 95 [some (.ref p), some (va_rf r), some (.int f), some (.int y53_3), none, some (.int y53_5), none] [] := by
                      intro n53
                      induction n53 using Nat.strongRecOn with
                      | ind n53 ih53 =>
                        intro y53_3 y53_5 A53 h
                        replace h := g53 n53 y53_3 y53_5 A53 h
                        refine x_iload dX9_lay_95 rfl ?_
                        refine x_aload_n dX9_lay_97 rfl ?_
                        obtain ⟨o54, h⟩ := h
                        refine x_get (v := .int (A53.I p 4)) hG dX9_lay_98 f_X9_28_8 o54 rfl ?_
                        refine x_icmp_ge (tgt := 206) dX9_lay_101 (by decide) (fun c101 => ?_) (fun c101 => ?_)
                        · replace h := h.1 c101
                          refine x_goto (tgt := 25) dX9_lay_206 (by decide) ?_
                          obtain ⟨q3, l3, h⟩ := h
                          change X _ _ _ _ _ _ [some (.ref p), some (va_rf r), some (.int f), some (.int y53_3), none, some (.int y53_5), none] []
                          exact X.weak (xle_c rfl (xle_c rfl (xle_c rfl (xle_c rfl (xle_n (xle_n (xle_n xle_nil))))))) (ih3 q3 l3 y53_3 A53 h)
                        · replace h := h.2 c101
                          refine x_aload_n dX9_lay_104 rfl ?_
                          refine x_get (v := va_rf (A53.P p 1)) hG dX9_lay_105 f_X9_15_8 o54 rfl ?_
                          refine x_iload dX9_lay_108 rfl ?_
                          obtain ⟨b55, e55, h⟩ := h
                          rw [e55]
                          obtain ⟨o56, h⟩ := h
                          obtain ⟨o57, h⟩ := h
                          refine x_iald hG dX9_lay_110 o56 o57 ?_
                          obtain ⟨J58, g58, h⟩ := h
                          have kj58 : ∀ (y58_3 : Int32) (A58 : xA), J58 y58_3 A58 → X G (dp + 1) kX9_lay (hI Q) A58 200 [some (.ref p), some (va_rf r), some (.int f), some (.int y58_3), none, some (.int y53_5), none] [] := by
                            intro y58_3 A58 h
                            replace h := g58 y58_3 A58 h
                            refine x_iinc (v := (y53_5 + (1 : Int32))) dX9_lay_200 rfl rfl (by decide) ?_
                            refine x_goto (tgt := 95) dX9_lay_203 (by decide) ?_
                            obtain ⟨q53, l53, h⟩ := h
                            change X _ _ _ _ _ _ [some (.ref p), some (va_rf r), some (.int f), some (.int y58_3), none, some (.int (y53_5 + (1 : Int32))), none] []
                            exact X.weak (xle_c rfl (xle_c rfl (xle_c rfl (xle_c rfl (xle_n (xle_c rfl (xle_n xle_nil))))))) (ih53 q53 l53 y58_3 (y53_5 + (1 : Int32)) A58 h)
                          refine x_if_lt (tgt := 200) dX9_lay_111 (by decide) (fun c111 => ?_) (fun c111 => ?_)
                          · replace h := h.1 c111
                            change X _ _ _ _ _ _ [some (.ref p), some (va_rf r), some (.int f), some (.int y53_3), none, some (.int y53_5), none] []
                            exact X.weak (xle_c rfl (xle_c rfl (xle_c rfl (xle_c rfl (xle_n (xle_c rfl (xle_n xle_nil))))))) (kj58 y53_3 A53 h)
                          · replace h := h.2 c111
                            refine x_aload_n dX9_lay_114 rfl ?_
                            refine x_get (v := va_rf (A53.P p 3)) hG dX9_lay_115 f_X9_21_8 o54 rfl ?_
                            refine x_iload dX9_lay_118 rfl ?_
                            obtain ⟨b59, e59, h⟩ := h
                            rw [e59]
                            obtain ⟨o60, h⟩ := h
                            obtain ⟨o61, h⟩ := h
                            refine x_zald hG dX9_lay_120 o60 o61 ?_
                            refine x_if_ne (tgt := 200) dX9_lay_121 (by decide) (fun c121 => ?_) (fun c121 => ?_)
                            · replace h := h.2 c121
                              change X _ _ _ _ _ _ [some (.ref p), some (va_rf r), some (.int f), some (.int y53_3), none, some (.int y53_5), none] []
                              exact X.weak (xle_c rfl (xle_c rfl (xle_c rfl (xle_c rfl (xle_n (xle_c rfl (xle_n xle_nil))))))) (kj58 y53_3 A53 h)
                            · replace h := h.1 c121
                              refine x_aload_n dX9_lay_124 rfl ?_
                              refine x_get (v := va_rf (A53.P p 0)) hG dX9_lay_125 f_X9_9_8 o54 rfl ?_
                              refine x_iload dX9_lay_128 rfl ?_
                              obtain ⟨b62, e62, h⟩ := h
                              rw [e62]
                              obtain ⟨o63, h⟩ := h
                              obtain ⟨o64, h⟩ := h
                              refine x_iald hG dX9_lay_130 o63 o64 ?_
                              refine x_bipush_ (v := (127 : Int32)) dX9_lay_131 (by decide) ?_
                              refine x_iand dX9_lay_133 ?_
                              refine x_bipush_ (v := (99 : Int32)) dX9_lay_134 (by decide) ?_
                              refine x_icmp_eq (tgt := 142) dX9_lay_136 (by decide) (fun c136 => ?_) (fun c136 => ?_)
                              · replace h := h.1 c136
                                refine x_iconst_ (v := (4 : Int32)) dX9_lay_142 (by decide) ?_
                                refine x_aload_n dX9_lay_143 rfl ?_
                                refine x_get (v := va_rf (A53.P p 2)) hG dX9_lay_144 f_X9_18_8 o54 rfl ?_
                                refine x_aload_n dX9_lay_147 rfl ?_
                                refine x_get (v := va_rf (A53.P p 6)) hG dX9_lay_148 f_X9_25_8 o54 rfl ?_
                                refine x_aload_n dX9_lay_151 rfl ?_
                                refine x_get (v := .ref b55) hG dX9_lay_152 f_X9_15_8 o54 (congrArg va_rf e55) ?_
                                refine x_iload dX9_lay_155 rfl ?_
                                refine x_iald hG dX9_lay_157 o56 o57 ?_
                                obtain ⟨b65, e65, h⟩ := h
                                rw [e65]
                                obtain ⟨o66, h⟩ := h
                                obtain ⟨o67, h⟩ := h
                                refine x_iald hG dX9_lay_158 o66 o67 ?_
                                obtain ⟨b68, e68, h⟩ := h
                                rw [e68]
                                obtain ⟨o69, h⟩ := h
                                obtain ⟨o70, h⟩ := h
                                refine x_iald hG dX9_lay_159 o69 o70 ?_
                                refine x_aload_n dX9_lay_160 rfl ?_
                                refine x_get (v := .ref b68) hG dX9_lay_161 f_X9_18_8 o54 (congrArg va_rf e68) ?_
                                refine x_iload dX9_lay_164 rfl ?_
                                obtain ⟨o71, h⟩ := h
                                refine x_iald hG dX9_lay_166 o69 o71 ?_
                                refine x_isub dX9_lay_167 ?_
                                refine x_imul dX9_lay_168 ?_
                                refine x_istore dX9_lay_169 (by decide) ?_
                                refine x_iload dX9_lay_171 rfl ?_
                                refine x_sipush_ (v := (-4096 : Int32)) dX9_lay_173 (by decide) ?_
                                refine x_icmp_lt (tgt := 190) dX9_lay_176 (by decide) (fun c176 => ?_) (fun c176 => ?_)
                                · replace h := h.1 c176
                                  refine x_aload_n dX9_lay_190 rfl ?_
                                  refine x_get (v := .ref b59) hG dX9_lay_191 f_X9_21_8 o54 (congrArg va_rf e59) ?_
                                  refine x_iload dX9_lay_194 rfl ?_
                                  refine x_iconst_ (v := (1 : Int32)) dX9_lay_196 (by decide) ?_
                                  obtain ⟨o72, h⟩ := h
                                  refine z_zast hG dX9_lay_197 o60 o72 o61 (by decide) (fun A73 e73 => ?_)
                                  replace h := h A73 e73
                                  refine x_iconst_ (v := (1 : Int32)) dX9_lay_198 (by decide) ?_
                                  refine x_istore_n dX9_lay_199 (by decide) ?_
                                  change X _ _ _ _ _ _ [some (.ref p), some (va_rf r), some (.int f), some (.int (1 : Int32)), none, some (.int y53_5), some (.int ((4 : Int32) * ((A53.I b68 (ix (A53.I b65 (ix (A53.I b55 (ix y53_5)))))) - (A53.I b68 (ix y53_5)))))] []
                                  exact X.weak (xle_c rfl (xle_c rfl (xle_c rfl (xle_c rfl (xle_n (xle_c rfl (xle_n xle_nil))))))) (kj58 (1 : Int32) A73 h)
                                · replace h := h.2 c176
                                  refine x_iload dX9_lay_179 rfl ?_
                                  refine x_sipush_ (v := (4096 : Int32)) dX9_lay_181 (by decide) ?_
                                  refine x_icmp_ge (tgt := 190) dX9_lay_184 (by decide) (fun c184 => ?_) (fun c184 => ?_)
                                  · replace h := h.1 c184
                                    refine x_aload_n dX9_lay_190 rfl ?_
                                    refine x_get (v := .ref b59) hG dX9_lay_191 f_X9_21_8 o54 (congrArg va_rf e59) ?_
                                    refine x_iload dX9_lay_194 rfl ?_
                                    refine x_iconst_ (v := (1 : Int32)) dX9_lay_196 (by decide) ?_
                                    obtain ⟨o74, h⟩ := h
                                    refine z_zast hG dX9_lay_197 o60 o74 o61 (by decide) (fun A75 e75 => ?_)
                                    replace h := h A75 e75
                                    refine x_iconst_ (v := (1 : Int32)) dX9_lay_198 (by decide) ?_
                                    refine x_istore_n dX9_lay_199 (by decide) ?_
                                    change X _ _ _ _ _ _ [some (.ref p), some (va_rf r), some (.int f), some (.int (1 : Int32)), none, some (.int y53_5), some (.int ((4 : Int32) * ((A53.I b68 (ix (A53.I b65 (ix (A53.I b55 (ix y53_5)))))) - (A53.I b68 (ix y53_5)))))] []
                                    exact X.weak (xle_c rfl (xle_c rfl (xle_c rfl (xle_c rfl (xle_n (xle_c rfl (xle_n xle_nil))))))) (kj58 (1 : Int32) A75 h)
                                  · replace h := h.2 c184
                                    refine x_goto (tgt := 200) dX9_lay_187 (by decide) ?_
                                    change X _ _ _ _ _ _ [some (.ref p), some (va_rf r), some (.int f), some (.int y53_3), none, some (.int y53_5), some (.int ((4 : Int32) * ((A53.I b68 (ix (A53.I b65 (ix (A53.I b55 (ix y53_5)))))) - (A53.I b68 (ix y53_5)))))] []
                                    exact X.weak (xle_c rfl (xle_c rfl (xle_c rfl (xle_c rfl (xle_n (xle_c rfl (xle_n xle_nil))))))) (kj58 y53_3 A53 h)
                              · replace h := h.2 c136
                                refine x_goto (tgt := 200) dX9_lay_139 (by decide) ?_
                                change X _ _ _ _ _ _ [some (.ref p), some (va_rf r), some (.int f), some (.int y53_3), none, some (.int y53_5), none] []
                                exact X.weak (xle_c rfl (xle_c rfl (xle_c rfl (xle_c rfl (xle_n (xle_c rfl (xle_n xle_nil))))))) (kj58 y53_3 A53 h)
                    change X _ _ _ _ _ _ [some (.ref p), some (va_rf r), some (.int f), some (.int (0 : Int32)), some (.int y46_4), some (.int (0 : Int32)), none] []
                    exact X.weak (xle_c rfl (xle_c rfl (xle_c rfl (xle_c rfl (xle_n (xle_c rfl (xle_n xle_nil))))))) (kl53 n53 (0 : Int32) (0 : Int32) A52 i53)
                  · replace h := h.2 c43
                    refine x_aload_n dX9_lay_46 rfl ?_
                    refine x_get (v := va_rf (A46.P p 2)) hG dX9_lay_47 f_X9_18_8 o47 rfl ?_
                    refine x_iload dX9_lay_50 rfl ?_
                    refine x_iload dX9_lay_52 rfl ?_
                    obtain ⟨b76, e76, h⟩ := h
                    rw [e76]
                    obtain ⟨o77, h⟩ := h
                    obtain ⟨o78, h⟩ := h
                    obtain ⟨o79, h⟩ := h
                    refine z_iast hG dX9_lay_54 o77 o78 o79 (fun A80 e80 => ?_)
                    replace h := h A80 e80
                    refine x_iload dX9_lay_55 rfl ?_
                    refine x_aload_n dX9_lay_57 rfl ?_
                    refine x_get (v := va_rf (A46.P p 3)) hG dX9_lay_58 f_X9_21_8 (kI e80 o47) (congrArg va_rf (sI_P e80)) ?_
                    refine x_iload dX9_lay_61 rfl ?_
                    obtain ⟨b81, e81, h⟩ := h
                    rw [e81]
                    obtain ⟨o82, h⟩ := h
                    obtain ⟨o83, h⟩ := h
                    refine x_zald hG dX9_lay_63 o82 o83 ?_
                    refine x_via 72 (A' := A80) (lv' := [some (.ref p), some (va_rf r), some (.int f), some (.int (0 : Int32)), none, some (.int y46_5), none]) (st' := [.int (if (A80.I b81 (ix y46_5)) = 0 then (1 : Int32) else (2 : Int32)), .int y46_4]) ?_ (fun k72 => ?_)
                    rotate_left
                    · refine x_if_eq (tgt := 71) dX9_lay_64 (by decide) (fun c64 => ?_) (fun c64 => ?_)
                      · refine x_iconst_ (v := (1 : Int32)) dX9_lay_71 (by decide) ?_
                        change X _ _ _ _ _ _ [some (.ref p), some (va_rf r), some (.int f), some (.int (0 : Int32)), some (.int y46_4), some (.int y46_5), none] [.int (1 : Int32), .int y46_4]
                        simp only [if_pos c64] at k72 ⊢
                        exact X.weak (xle_c rfl (xle_c rfl (xle_c rfl (xle_c rfl (xle_n (xle_c rfl (xle_n xle_nil))))))) k72
                      · refine x_iconst_ (v := (2 : Int32)) dX9_lay_67 (by decide) ?_
                        refine x_goto (tgt := 72) dX9_lay_68 (by decide) ?_
                        change X _ _ _ _ _ _ [some (.ref p), some (va_rf r), some (.int f), some (.int (0 : Int32)), some (.int y46_4), some (.int y46_5), none] [.int (2 : Int32), .int y46_4]
                        simp only [if_neg c64] at k72 ⊢
                        exact X.weak (xle_c rfl (xle_c rfl (xle_c rfl (xle_c rfl (xle_n (xle_c rfl (xle_n xle_nil))))))) k72
                    refine x_iadd dX9_lay_72 ?_
                    refine x_istore dX9_lay_73 (by decide) ?_
                    refine x_iinc (v := (y46_5 + (1 : Int32))) dX9_lay_75 rfl rfl (by decide) ?_
                    refine x_goto (tgt := 37) dX9_lay_78 (by decide) ?_
                    obtain ⟨q46, l46, h⟩ := h
                    change X _ _ _ _ _ _ [some (.ref p), some (va_rf r), some (.int f), some (.int (0 : Int32)), some (.int (y46_4 + (if (A80.I b81 (ix y46_5)) = 0 then (1 : Int32) else (2 : Int32)))), some (.int (y46_5 + (1 : Int32))), none] []
                    exact X.weak (xle_c rfl (xle_c rfl (xle_c rfl (xle_c rfl (xle_c rfl (xle_c rfl (xle_n xle_nil))))))) (ih46 q46 l46 (y46_4 + (if (A80.I b81 (ix y46_5)) = 0 then (1 : Int32) else (2 : Int32))) (y46_5 + (1 : Int32)) A80 h)
              change X _ _ _ _ _ _ [some (.ref p), some (va_rf r), some (.int f), some (.int (0 : Int32)), some (.int f), some (.int (0 : Int32)), none] []
              exact X.weak (xle_c rfl (xle_c rfl (xle_c rfl (xle_c rfl (xle_c rfl (xle_c rfl (xle_n xle_nil))))))) (kl46 n46 f (0 : Int32) A3 i46)
        change X _ _ _ _ _ _ [some (.ref p), some (va_rf r), some (.int f), some (.int (1 : Int32)), none, none, none] []
        exact X.weak (xle_c rfl (xle_c rfl (xle_c rfl (xle_c rfl (xle_n (xle_n (xle_n xle_nil))))))) (kl3 n3 (1 : Int32) A1 i3)
      · replace h := h.2 c7
        refine x_aload_n dX9_lay_10 rfl ?_
        refine x_get (v := va_rf (A1.P p 3)) hG dX9_lay_11 f_X9_21_8 o2 rfl ?_
        refine x_iload_n dX9_lay_14 rfl ?_
        refine x_iconst_ (v := (0 : Int32)) dX9_lay_15 (by decide) ?_
        obtain ⟨b84, e84, h⟩ := h
        rw [e84]
        obtain ⟨o85, h⟩ := h
        obtain ⟨o86, h⟩ := h
        obtain ⟨o87, h⟩ := h
        refine z_zast hG dX9_lay_16 o85 o86 o87 (by decide) (fun A88 e88 => ?_)
        replace h := h A88 e88
        refine x_iinc (v := (y1_3 + (1 : Int32))) dX9_lay_17 rfl rfl (by decide) ?_
        refine x_goto (tgt := 2) dX9_lay_20 (by decide) ?_
        obtain ⟨q1, l1, h⟩ := h
        change X _ _ _ _ _ _ [some (.ref p), some (va_rf r), some (.int f), some (.int (y1_3 + (1 : Int32))), none, none, none] []
        exact X.weak (xle_c rfl (xle_c rfl (xle_c rfl (xle_c rfl (xle_n (xle_n (xle_n xle_nil))))))) (ih1 q1 l1 (y1_3 + (1 : Int32)) A88 h)
  change X _ _ _ _ _ _ [some (.ref p), some (va_rf r), some (.int f), some (.int (0 : Int32)), none, none, none] []
  exact X.weak (xle_c rfl (xle_c rfl (xle_c rfl (xle_c rfl (xle_n (xle_n (xle_n xle_nil))))))) (kl1 n1 (0 : Int32) A i1)
end W049
