/-! ===== 084.hparse (tools/h045.py) ===== -/
set_option maxRecDepth 100000
section W084
variable {G : xG}
def w_X1_kind (G : xG) (p : Nat) (Q : Int32 → xA → Prop) (A : xA) : Prop := xok G A → A.tg p = 2 ∧ (∃ b2 : Nat, (A.P p 0) = some b2 ∧ (A.tg b2 = 3 ∧ (∃ b4 : Nat, (A.P b2 2) = some b4 ∧ (A.tg b4 = 200 ∧ (vp_in (A.I p 3) (A.ln b4) ∧ (Q (A.I b4 (ix (A.I p 3))) A))))))
theorem m_X1_kind (hG : xOK G) (hO : xHO G) {dp : Nat} {p : Nat} {Q : Int32 → xA → Prop} {A : xA} (h : w_X1_kind G p Q A) : MX G (dp + 0) kX1_kind [.ref p] A (hI Q) := by
  unfold w_X1_kind at h
  refine MX.of rfl (Nat.le_of_ble_eq_true rfl) ?_
  change X _ _ _ _ _ _ [some (.ref p)] _
  refine X.xok (fun w0 => ?_)
  replace h := h w0
  refine x_aload_n dX1_kind_0 rfl ?_
  obtain ⟨o1, h⟩ := h
  refine x_get (v := va_rf (A.P p 0)) hG dX1_kind_1 f_X1_12_1 o1 rfl ?_
  obtain ⟨b2, e2, h⟩ := h
  rw [e2]
  obtain ⟨o3, h⟩ := h
  refine x_get (v := va_rf (A.P b2 2)) hG dX1_kind_4 f_X1_60_2 o3 rfl ?_
  refine x_aload_n dX1_kind_7 rfl ?_
  refine x_get (v := .int (A.I p 3)) hG dX1_kind_8 f_X1_36_1 o1 rfl ?_
  obtain ⟨b4, e4, h⟩ := h
  rw [e4]
  obtain ⟨o5, h⟩ := h
  obtain ⟨o6, h⟩ := h
  refine x_iald hG dX1_kind_11 o5 o6 ?_
  exact x_iret dX1_kind_12 rfl ⟨_, rfl, h⟩
def w_X1_here (G : xG) (p : Nat) (Q : Int32 → xA → Prop) (A : xA) : Prop := xok G A → A.tg p = 2 ∧ (∃ b2 : Nat, (A.P p 0) = some b2 ∧ (A.tg b2 = 3 ∧ (∃ b4 : Nat, (A.P b2 3) = some b4 ∧ (A.tg b4 = 200 ∧ (vp_in (A.I p 3) (A.ln b4) ∧ (Q (A.I b4 (ix (A.I p 3))) A))))))
theorem m_X1_here (hG : xOK G) (hO : xHO G) {dp : Nat} {p : Nat} {Q : Int32 → xA → Prop} {A : xA} (h : w_X1_here G p Q A) : MX G (dp + 0) kX1_here [.ref p] A (hI Q) := by
  unfold w_X1_here at h
  refine MX.of rfl (Nat.le_of_ble_eq_true rfl) ?_
  change X _ _ _ _ _ _ [some (.ref p)] _
  refine X.xok (fun w0 => ?_)
  replace h := h w0
  refine x_aload_n dX1_here_0 rfl ?_
  obtain ⟨o1, h⟩ := h
  refine x_get (v := va_rf (A.P p 0)) hG dX1_here_1 f_X1_12_1 o1 rfl ?_
  obtain ⟨b2, e2, h⟩ := h
  rw [e2]
  obtain ⟨o3, h⟩ := h
  refine x_get (v := va_rf (A.P b2 3)) hG dX1_here_4 f_X1_63_2 o3 rfl ?_
  refine x_aload_n dX1_here_7 rfl ?_
  refine x_get (v := .int (A.I p 3)) hG dX1_here_8 f_X1_36_1 o1 rfl ?_
  obtain ⟨b4, e4, h⟩ := h
  rw [e4]
  obtain ⟨o5, h⟩ := h
  obtain ⟨o6, h⟩ := h
  refine x_iald hG dX1_here_11 o5 o6 ?_
  exact x_iret dX1_here_12 rfl ⟨_, rfl, h⟩
def w_X1_is (G : xG) (p : Nat) (k : Int32) (Q : Int32 → xA → Prop) (A : xA) : Prop := xok G A → A.tg p = 2 ∧ (∃ R1 : Int32 → xA → Prop, w_X1_kind G p R1 A ∧ (∀ (v1 : Int32) (A1 : xA), xok G A1 → R1 v1 A1 → (Q (if v1 = k then (1 : Int32) else (0 : Int32)) A1)))
theorem m_X1_is (hG : xOK G) (hO : xHO G) {dp : Nat} {p : Nat} {k : Int32} {Q : Int32 → xA → Prop} {A : xA} (h : w_X1_is G p k Q A) : MX G (dp + 1) kX1_is [.ref p, .int k] A (hZ Q) := by
  unfold w_X1_is at h
  refine MX.of rfl (Nat.le_of_ble_eq_true rfl) ?_
  change X _ _ _ _ _ _ [some (.ref p), some (.int k)] _
  refine X.xok (fun w0 => ?_)
  replace h := h w0
  refine x_aload_n dX1_is_0 rfl ?_
  obtain ⟨o2, h⟩ := h
  obtain ⟨R1, g1, h⟩ := h
  refine x_callV hG (Ky := kX1_kind) (As := []) dX1_is_1 o2 rfl lk_X1_53 me_X1_kind is_X1_kind se_X1_kind rfl rfl (Nat.le_of_ble_eq_true rfl) (MX.post (m_X1_kind hG hO g1) ?_)
  rintro _ A1 ⟨v1, rfl, h1⟩
  refine X.xok (fun w1 => ?_)
  replace h := h v1 A1 w1 h1
  change X _ _ _ _ A1 _ _ [.int v1]
  refine x_iload_n dX1_is_4 rfl ?_
  refine x_via 13 (A' := A1) (lv' := [none, none]) (st' := [.int (if v1 = k then (1 : Int32) else (0 : Int32))]) ?_ (fun k13 => ?_)
  rotate_left
  · refine x_icmp_ne (tgt := 12) dX1_is_5 (by decide) (fun c5 => ?_) (fun c5 => ?_)
    · refine x_iconst_ (v := (0 : Int32)) dX1_is_12 (by decide) ?_
      change X _ _ _ _ _ _ [some (.ref p), some (.int k)] [.int (0 : Int32)]
      simp only [if_neg c5] at k13 ⊢
      exact X.weak (xle_n (xle_n xle_nil)) k13
    · refine x_iconst_ (v := (1 : Int32)) dX1_is_8 (by decide) ?_
      refine x_goto (tgt := 13) dX1_is_9 (by decide) ?_
      change X _ _ _ _ _ _ [some (.ref p), some (.int k)] [.int (1 : Int32)]
      simp only [if_pos c5] at k13 ⊢
      exact X.weak (xle_n (xle_n xle_nil)) k13
  exact x_zret dX1_is_13 rfl ite10 ⟨_, rfl, ite10, h⟩
def w_X1_fail (G : xG) (p : Nat) (f : Int32) (Q : Option Nat → xA → Prop) (A : xA) : Prop := xok G A → A.tg p = 2 ∧ (∀ A2 : xA, A2 = A.setI p 5 f → (∃ R3 : Int32 → xA → Prop, w_X1_here G p R3 A2 ∧ (∀ (v3 : Int32) (A3 : xA), xok G A3 → R3 v3 A3 → (A3.tg p = 2 ∧ (∀ A5 : xA, A5 = A3.setI p 6 v3 → (Q (A3.P p 1) A5))))))
theorem m_X1_fail (hG : xOK G) (hO : xHO G) {dp : Nat} {p : Nat} {f : Int32} {Q : Option Nat → xA → Prop} {A : xA} (h : w_X1_fail G p f Q A) : MX G (dp + 1) kX1_fail [.ref p, .int f] A (hR Q) := by
  unfold w_X1_fail at h
  refine MX.of rfl (Nat.le_of_ble_eq_true rfl) ?_
  change X _ _ _ _ _ _ [some (.ref p), some (.int f)] _
  refine X.xok (fun w0 => ?_)
  replace h := h w0
  refine x_aload_n dX1_fail_0 rfl ?_
  refine x_iload_n dX1_fail_1 rfl ?_
  obtain ⟨o1, h⟩ := h
  refine z_putI hG hO.1 dX1_fail_2 f_X1_43_1 ⟨_, rfl, Or.inl rfl⟩ o1 (by decide) rfl rfl ⟨_, rfl⟩ (fun A2 e2 => ?_)
  replace h := h A2 e2
  refine x_aload_n dX1_fail_5 rfl ?_
  refine x_aload_n dX1_fail_6 rfl ?_
  obtain ⟨R3, g3, h⟩ := h
  refine x_callV hG (Ky := kX1_here) (As := []) dX1_fail_7 (kI e2 o1) rfl lk_X1_66 me_X1_here is_X1_here se_X1_here rfl rfl (Nat.le_of_ble_eq_true rfl) (MX.post (m_X1_here hG hO g3) ?_)
  rintro _ A3 ⟨v3, rfl, h1⟩
  refine X.xok (fun w3 => ?_)
  replace h := h v3 A3 w3 h1
  change X _ _ _ _ A3 _ _ [.int v3, .ref p]
  obtain ⟨o4, h⟩ := h
  refine z_putI hG hO.1 dX1_fail_10 f_X1_69_1 ⟨_, rfl, Or.inl rfl⟩ o4 (by decide) rfl rfl ⟨_, rfl⟩ (fun A5 e5 => ?_)
  replace h := h A5 e5
  refine x_aload_n dX1_fail_13 rfl ?_
  refine x_get (v := va_rf (A3.P p 1)) hG dX1_fail_14 f_X1_21_1 (kI e5 o4) (congrArg va_rf (sI_P e5)) ?_
  exact x_aret (r := (A3.P p 1)) dX1_fail_17 rfl (Or.inl ⟨_, rfl⟩) ⟨_, rfl, h⟩
def w_X1_wrong (G : xG) (p : Nat) (Q : Option Nat → xA → Prop) (A : xA) : Prop := xok G A → A.tg p = 2 ∧ (∃ R1 : Int32 → xA → Prop, w_X1_is G p (1 : Int32) R1 A ∧ (∀ (v1 : Int32) (A1 : xA), xok G A1 → (v1 = 0 ∨ v1 = 1) → R1 v1 A1 → (A1.tg p = 2 ∧ (∃ R3 : Option Nat → xA → Prop, w_X1_fail G p (if v1 = 0 then (2 : Int32) else (1 : Int32)) R3 A1 ∧ (∀ (v3 : Option Nat) (A3 : xA), xok G A3 → R3 v3 A3 → (Q v3 A3))))))
theorem m_X1_wrong (hG : xOK G) (hO : xHO G) {dp : Nat} {p : Nat} {Q : Option Nat → xA → Prop} {A : xA} (h : w_X1_wrong G p Q A) : MX G (dp + 2) kX1_wrong [.ref p] A (hR Q) := by
  unfold w_X1_wrong at h
  refine MX.of rfl (Nat.le_of_ble_eq_true rfl) ?_
  change X _ _ _ _ _ _ [some (.ref p)] _
  refine X.xok (fun w0 => ?_)
  replace h := h w0
  refine x_aload_n dX1_wrong_0 rfl ?_
  refine x_aload_n dX1_wrong_1 rfl ?_
  refine x_iconst_ (v := (1 : Int32)) dX1_wrong_2 (by decide) ?_
  obtain ⟨o2, h⟩ := h
  obtain ⟨R1, g1, h⟩ := h
  refine x_callV hG (Ky := kX1_is) (As := [.int (1 : Int32)]) dX1_wrong_3 o2 rfl lk_X1_71 me_X1_is is_X1_is se_X1_is rfl rfl (Nat.le_of_ble_eq_true rfl) (MX.post (m_X1_is hG hO g1) ?_)
  rintro _ A1 ⟨v1, rfl, zv1, h1⟩
  refine X.xok (fun w1 => ?_)
  replace h := h v1 A1 w1 zv1 h1
  change X _ _ _ _ A1 _ _ [.int v1, .ref p]
  refine x_via 14 (A' := A1) (lv' := [none]) (st' := [.int (if v1 = 0 then (2 : Int32) else (1 : Int32)), .ref p]) ?_ (fun k14 => ?_)
  rotate_left
  · refine x_if_eq (tgt := 13) dX1_wrong_6 (by decide) (fun c6 => ?_) (fun c6 => ?_)
    · refine x_iconst_ (v := (2 : Int32)) dX1_wrong_13 (by decide) ?_
      change X _ _ _ _ _ _ [some (.ref p)] [.int (2 : Int32), .ref p]
      simp only [if_pos c6] at k14 ⊢
      exact X.weak (xle_n xle_nil) k14
    · refine x_iconst_ (v := (1 : Int32)) dX1_wrong_9 (by decide) ?_
      refine x_goto (tgt := 14) dX1_wrong_10 (by decide) ?_
      change X _ _ _ _ _ _ [some (.ref p)] [.int (1 : Int32), .ref p]
      simp only [if_neg c6] at k14 ⊢
      exact X.weak (xle_n xle_nil) k14
  obtain ⟨o4, h⟩ := h
  obtain ⟨R3, g3, h⟩ := h
  refine x_callV hG (Ky := kX1_fail) (As := [.int (if v1 = 0 then (2 : Int32) else (1 : Int32))]) dX1_wrong_14 o4 rfl lk_X1_75 me_X1_fail is_X1_fail se_X1_fail rfl rfl (Nat.le_of_ble_eq_true rfl) (MX.post (m_X1_fail hG hO g3) ?_)
  rintro _ A3 ⟨v3, rfl, h1⟩
  refine X.xok (fun w3 => ?_)
  replace h := h v3 A3 w3 h1
  change X _ _ _ _ A3 _ _ [va_rf v3]
  exact x_aret (r := v3) dX1_wrong_17 rfl (Or.inl ⟨_, rfl⟩) ⟨_, rfl, h⟩
def w_X1_takes (G : xG) (p : Nat) (k : Int32) (Q : Int32 → xA → Prop) (A : xA) : Prop := xok G A → A.tg p = 2 ∧ (∃ R1 : Int32 → xA → Prop, w_X1_is G p k R1 A ∧ (∀ (v1 : Int32) (A1 : xA), xok G A1 → (v1 = 0 ∨ v1 = 1) → R1 v1 A1 → (((v1 = 0 → Q (0 : Int32) A1) ∧ (¬ v1 = 0 → A1.tg p = 2 ∧ (∀ A4 : xA, A4 = A1.setI p 3 ((A1.I p 3) + (1 : Int32)) → (Q (1 : Int32) A4)))))))
theorem m_X1_takes (hG : xOK G) (hO : xHO G) {dp : Nat} {p : Nat} {k : Int32} {Q : Int32 → xA → Prop} {A : xA} (h : w_X1_takes G p k Q A) : MX G (dp + 2) kX1_takes [.ref p, .int k] A (hZ Q) := by
  unfold w_X1_takes at h
  refine MX.of rfl (Nat.le_of_ble_eq_true rfl) ?_
  change X _ _ _ _ _ _ [some (.ref p), some (.int k)] _
  refine X.xok (fun w0 => ?_)
  replace h := h w0
  refine x_aload_n dX1_takes_0 rfl ?_
  refine x_iload_n dX1_takes_1 rfl ?_
  obtain ⟨o2, h⟩ := h
  obtain ⟨R1, g1, h⟩ := h
  refine x_callV hG (Ky := kX1_is) (As := [.int k]) dX1_takes_2 o2 rfl lk_X1_71 me_X1_is is_X1_is se_X1_is rfl rfl (Nat.le_of_ble_eq_true rfl) (MX.post (m_X1_is hG hO g1) ?_)
  rintro _ A1 ⟨v1, rfl, zv1, h1⟩
  refine X.xok (fun w1 => ?_)
  replace h := h v1 A1 w1 zv1 h1
  change X _ _ _ _ A1 _ _ [.int v1]
  refine x_if_ne (tgt := 10) dX1_takes_5 (by decide) (fun c5 => ?_) (fun c5 => ?_)
  · replace h := h.2 c5
    refine x_aload_n dX1_takes_10 rfl ?_
    refine x_dup dX1_takes_11 rfl ?_
    obtain ⟨o3, h⟩ := h
    refine x_get (v := .int (A1.I p 3)) hG dX1_takes_12 f_X1_36_1 o3 rfl ?_
    refine x_iconst_ (v := (1 : Int32)) dX1_takes_15 (by decide) ?_
    refine x_iadd dX1_takes_16 ?_
    refine z_putI hG hO.1 dX1_takes_17 f_X1_36_1 ⟨_, rfl, Or.inl rfl⟩ o3 (by decide) rfl rfl ⟨_, rfl⟩ (fun A4 e4 => ?_)
    replace h := h A4 e4
    refine x_iconst_ (v := (1 : Int32)) dX1_takes_20 (by decide) ?_
    exact x_zret dX1_takes_21 rfl (by decide) ⟨_, rfl, (by decide), h⟩
  · replace h := h.1 c5
    refine x_iconst_ (v := (0 : Int32)) dX1_takes_8 (by decide) ?_
    exact x_zret dX1_takes_9 rfl (by decide) ⟨_, rfl, (by decide), h⟩
def w_X1_need (G : xG) (p : Nat) (k : Int32) (Q : xA → Prop) (E : Nat → xA → Prop) (A : xA) : Prop := xok G A → A.tg p = 2 ∧ (∃ R1 : Int32 → xA → Prop, w_X1_takes G p k R1 A ∧ (∀ (v1 : Int32) (A1 : xA), xok G A1 → (v1 = 0 ∨ v1 = 1) → R1 v1 A1 → (((v1 = 0 → A1.tg p = 2 ∧ (∃ R3 : Option Nat → xA → Prop, w_X1_wrong G p R3 A1 ∧ (∀ (v3 : Option Nat) (A3 : xA), xok G A3 → R3 v3 A3 → (∃ b5 : Nat, v3 = some b5 ∧ (E b5 A3))))) ∧ (¬ v1 = 0 → Q A1)))))
theorem m_X1_need (hG : xOK G) (hO : xHO G) {dp : Nat} {p : Nat} {k : Int32} {Q : xA → Prop} {E : Nat → xA → Prop} {A : xA} (h : w_X1_need G p k Q E A) : MX G (dp + 3) kX1_need [.ref p, .int k] A (hX (hV Q) E) := by
  unfold w_X1_need at h
  refine MX.of rfl (Nat.le_of_ble_eq_true rfl) ?_
  change X _ _ _ _ _ _ [some (.ref p), some (.int k)] _
  refine X.xok (fun w0 => ?_)
  replace h := h w0
  refine x_aload_n dX1_need_0 rfl ?_
  refine x_iload_n dX1_need_1 rfl ?_
  obtain ⟨o2, h⟩ := h
  obtain ⟨R1, g1, h⟩ := h
  refine x_callV hG (Ky := kX1_takes) (As := [.int k]) dX1_need_2 o2 rfl lk_X1_79 me_X1_takes is_X1_takes se_X1_takes rfl rfl (Nat.le_of_ble_eq_true rfl) (MX.post (m_X1_takes hG hO g1) ?_)
  rintro _ A1 ⟨v1, rfl, zv1, h1⟩
  refine X.xok (fun w1 => ?_)
  replace h := h v1 A1 w1 zv1 h1
  change X _ _ _ _ A1 _ _ [.int v1]
  refine x_if_ne (tgt := 13) dX1_need_5 (by decide) (fun c5 => ?_) (fun c5 => ?_)
  · replace h := h.2 c5
    exact x_vret dX1_need_13 rfl (Or.inl ⟨rfl, h⟩)
  · replace h := h.1 c5
    refine x_aload_n dX1_need_8 rfl ?_
    obtain ⟨o4, h⟩ := h
    obtain ⟨R3, g3, h⟩ := h
    refine x_callV hG (Ky := kX1_wrong) (As := []) dX1_need_9 o4 rfl lk_X1_82 me_X1_wrong is_X1_wrong se_X1_wrong rfl rfl (Nat.le_of_ble_eq_true rfl) (MX.post (m_X1_wrong hG hO g3) ?_)
    rintro _ A3 ⟨v3, rfl, h1⟩
    refine X.xok (fun w3 => ?_)
    replace h := h v3 A3 w3 h1
    change X _ _ _ _ A3 _ _ [va_rf v3]
    obtain ⟨b5, e5, h⟩ := h
    rw [e5]
    exact x_athrow dX1_need_12 rfl (Or.inr ⟨_, rfl, h⟩)
def w_X1_needName (G : xG) (p : Nat) (Q : Int32 → xA → Prop) (E : Nat → xA → Prop) (A : xA) : Prop := xok G A → A.tg p = 2 ∧ (∃ R1 : Int32 → xA → Prop, w_X1_is G p (2 : Int32) R1 A ∧ (∀ (v1 : Int32) (A1 : xA), xok G A1 → (v1 = 0 ∨ v1 = 1) → R1 v1 A1 → (((v1 = 0 → A1.tg p = 2 ∧ (∃ R10 : Option Nat → xA → Prop, w_X1_wrong G p R10 A1 ∧ (∀ (v10 : Option Nat) (A10 : xA), xok G A10 → R10 v10 A10 → (∃ b12 : Nat, v10 = some b12 ∧ (E b12 A10))))) ∧ (¬ v1 = 0 → A1.tg p = 2 ∧ (∀ A4 : xA, A4 = A1.setI p 3 ((A1.I p 3) + (1 : Int32)) → (∃ b5 : Nat, (A1.P p 0) = some b5 ∧ (A4.tg b5 = 3 ∧ (∃ b7 : Nat, (A1.P b5 4) = some b7 ∧ (A4.tg b7 = 200 ∧ (vp_in (((A1.I p 3) + (1 : Int32)) - (1 : Int32)) (A4.ln b7) ∧ (Q (A4.I b7 (ix (((A1.I p 3) + (1 : Int32)) - (1 : Int32)))) A4))))))))))))
theorem m_X1_needName (hG : xOK G) (hO : xHO G) {dp : Nat} {p : Nat} {Q : Int32 → xA → Prop} {E : Nat → xA → Prop} {A : xA} (h : w_X1_needName G p Q E A) : MX G (dp + 3) kX1_needName [.ref p] A (hX (hI Q) E) := by
  unfold w_X1_needName at h
  refine MX.of rfl (Nat.le_of_ble_eq_true rfl) ?_
  change X _ _ _ _ _ _ [some (.ref p)] _
  refine X.xok (fun w0 => ?_)
  replace h := h w0
  refine x_aload_n dX1_needName_0 rfl ?_
  refine x_iconst_ (v := (2 : Int32)) dX1_needName_1 (by decide) ?_
  obtain ⟨o2, h⟩ := h
  obtain ⟨R1, g1, h⟩ := h
  refine x_callV hG (Ky := kX1_is) (As := [.int (2 : Int32)]) dX1_needName_2 o2 rfl lk_X1_71 me_X1_is is_X1_is se_X1_is rfl rfl (Nat.le_of_ble_eq_true rfl) (MX.post (m_X1_is hG hO g1) ?_)
  rintro _ A1 ⟨v1, rfl, zv1, h1⟩
  refine X.xok (fun w1 => ?_)
  replace h := h v1 A1 w1 zv1 h1
  change X _ _ _ _ A1 _ _ [.int v1]
  refine x_if_ne (tgt := 13) dX1_needName_5 (by decide) (fun c5 => ?_) (fun c5 => ?_)
  · replace h := h.2 c5
    refine x_aload_n dX1_needName_13 rfl ?_
    refine x_dup dX1_needName_14 rfl ?_
    obtain ⟨o3, h⟩ := h
    refine x_get (v := .int (A1.I p 3)) hG dX1_needName_15 f_X1_36_1 o3 rfl ?_
    refine x_iconst_ (v := (1 : Int32)) dX1_needName_18 (by decide) ?_
    refine x_iadd dX1_needName_19 ?_
    refine z_putI hG hO.1 dX1_needName_20 f_X1_36_1 ⟨_, rfl, Or.inl rfl⟩ o3 (by decide) rfl rfl ⟨_, rfl⟩ (fun A4 e4 => ?_)
    replace h := h A4 e4
    refine x_aload_n dX1_needName_23 rfl ?_
    refine x_get (v := va_rf (A1.P p 0)) hG dX1_needName_24 f_X1_12_1 (kI e4 o3) (congrArg va_rf (sI_P e4)) ?_
    obtain ⟨b5, e5, h⟩ := h
    rw [e5]
    obtain ⟨o6, h⟩ := h
    refine x_get (v := va_rf (A1.P b5 4)) hG dX1_needName_27 f_X1_86_2 o6 (congrArg va_rf (sI_P e4)) ?_
    refine x_aload_n dX1_needName_30 rfl ?_
    refine x_get (v := .int ((A1.I p 3) + (1 : Int32))) hG dX1_needName_31 f_X1_36_1 (kI e4 o3) (congrArg Value.int (sI_s e4)) ?_
    refine x_iconst_ (v := (1 : Int32)) dX1_needName_34 (by decide) ?_
    refine x_isub dX1_needName_35 ?_
    obtain ⟨b7, e7, h⟩ := h
    rw [e7]
    obtain ⟨o8, h⟩ := h
    obtain ⟨o9, h⟩ := h
    refine x_iald hG dX1_needName_36 o8 o9 ?_
    exact x_iret dX1_needName_37 rfl (Or.inl ⟨_, rfl, h⟩)
  · replace h := h.1 c5
    refine x_aload_n dX1_needName_8 rfl ?_
    obtain ⟨o11, h⟩ := h
    obtain ⟨R10, g10, h⟩ := h
    refine x_callV hG (Ky := kX1_wrong) (As := []) dX1_needName_9 o11 rfl lk_X1_82 me_X1_wrong is_X1_wrong se_X1_wrong rfl rfl (Nat.le_of_ble_eq_true rfl) (MX.post (m_X1_wrong hG hO g10) ?_)
    rintro _ A10 ⟨v10, rfl, h1⟩
    refine X.xok (fun w10 => ?_)
    replace h := h v10 A10 w10 h1
    change X _ _ _ _ A10 _ _ [va_rf v10]
    obtain ⟨b12, e12, h⟩ := h
    rw [e12]
    exact x_athrow dX1_needName_12 rfl (Or.inr ⟨_, rfl, h⟩)
def w_X1_opens (G : xG) (p : Nat) (k : Int32) (Q : xA → Prop) (E : Nat → xA → Prop) (A : xA) : Prop := xok G A → A.tg p = 2 ∧ (∃ R1 : Int32 → xA → Prop, w_X1_is G p k R1 A ∧ (∀ (v1 : Int32) (A1 : xA), xok G A1 → (v1 = 0 ∨ v1 = 1) → R1 v1 A1 → (((v1 = 0 → A1.tg p = 2 ∧ (∃ R8 : Option Nat → xA → Prop, w_X1_wrong G p R8 A1 ∧ (∀ (v8 : Option Nat) (A8 : xA), xok G A8 → R8 v8 A8 → (∃ b10 : Nat, v8 = some b10 ∧ (E b10 A8))))) ∧ (¬ v1 = 0 → A1.tg p = 2 ∧ ((((A1.I p 4) = (40 : Int32) → ∃ R6 : Option Nat → xA → Prop, w_X1_fail G p (3 : Int32) R6 A1 ∧ (∀ (v6 : Option Nat) (A6 : xA), xok G A6 → R6 v6 A6 → (∃ b7 : Nat, v6 = some b7 ∧ (E b7 A6)))) ∧ (¬ (A1.I p 4) = (40 : Int32) → ∀ A4 : xA, A4 = A1.setI p 4 ((A1.I p 4) + (1 : Int32)) → (∀ A5 : xA, A5 = A4.setI p 3 ((A1.I p 3) + (1 : Int32)) → (Q A5))))))))))
theorem m_X1_opens (hG : xOK G) (hO : xHO G) {dp : Nat} {p : Nat} {k : Int32} {Q : xA → Prop} {E : Nat → xA → Prop} {A : xA} (h : w_X1_opens G p k Q E A) : MX G (dp + 3) kX1_opens [.ref p, .int k] A (hX (hV Q) E) := by
  unfold w_X1_opens at h
  refine MX.of rfl (Nat.le_of_ble_eq_true rfl) ?_
  change X _ _ _ _ _ _ [some (.ref p), some (.int k)] _
  refine X.xok (fun w0 => ?_)
  replace h := h w0
  refine x_aload_n dX1_opens_0 rfl ?_
  refine x_iload_n dX1_opens_1 rfl ?_
  obtain ⟨o2, h⟩ := h
  obtain ⟨R1, g1, h⟩ := h
  refine x_callV hG (Ky := kX1_is) (As := [.int k]) dX1_opens_2 o2 rfl lk_X1_71 me_X1_is is_X1_is se_X1_is rfl rfl (Nat.le_of_ble_eq_true rfl) (MX.post (m_X1_is hG hO g1) ?_)
  rintro _ A1 ⟨v1, rfl, zv1, h1⟩
  refine X.xok (fun w1 => ?_)
  replace h := h v1 A1 w1 zv1 h1
  change X _ _ _ _ A1 _ _ [.int v1]
  refine x_if_ne (tgt := 13) dX1_opens_5 (by decide) (fun c5 => ?_) (fun c5 => ?_)
  · replace h := h.2 c5
    refine x_aload_n dX1_opens_13 rfl ?_
    obtain ⟨o3, h⟩ := h
    refine x_get (v := .int (A1.I p 4)) hG dX1_opens_14 f_X1_40_1 o3 rfl ?_
    refine x_bipush_ (v := (40 : Int32)) dX1_opens_17 (by decide) ?_
    refine x_icmp_ne (tgt := 28) dX1_opens_19 (by decide) (fun c19 => ?_) (fun c19 => ?_)
    · replace h := h.2 c19
      refine x_aload_n dX1_opens_28 rfl ?_
      refine x_dup dX1_opens_29 rfl ?_
      refine x_get (v := .int (A1.I p 4)) hG dX1_opens_30 f_X1_40_1 o3 rfl ?_
      refine x_iconst_ (v := (1 : Int32)) dX1_opens_33 (by decide) ?_
      refine x_iadd dX1_opens_34 ?_
      refine z_putI hG hO.1 dX1_opens_35 f_X1_40_1 ⟨_, rfl, Or.inl rfl⟩ o3 (by decide) rfl rfl ⟨_, rfl⟩ (fun A4 e4 => ?_)
      replace h := h A4 e4
      refine x_aload_n dX1_opens_38 rfl ?_
      refine x_dup dX1_opens_39 rfl ?_
      refine x_get (v := .int (A1.I p 3)) hG dX1_opens_40 f_X1_36_1 (kI e4 o3) (congrArg Value.int (sI_k e4 (by decide))) ?_
      refine x_iconst_ (v := (1 : Int32)) dX1_opens_43 (by decide) ?_
      refine x_iadd dX1_opens_44 ?_
      refine z_putI hG hO.1 dX1_opens_45 f_X1_36_1 ⟨_, rfl, Or.inl rfl⟩ (kI e4 o3) (by decide) rfl rfl ⟨_, rfl⟩ (fun A5 e5 => ?_)
      replace h := h A5 e5
      exact x_vret dX1_opens_48 rfl (Or.inl ⟨rfl, h⟩)
    · replace h := h.1 c19
      refine x_aload_n dX1_opens_22 rfl ?_
      refine x_iconst_ (v := (3 : Int32)) dX1_opens_23 (by decide) ?_
      obtain ⟨R6, g6, h⟩ := h
      refine x_callV hG (Ky := kX1_fail) (As := [.int (3 : Int32)]) dX1_opens_24 o3 rfl lk_X1_75 me_X1_fail is_X1_fail se_X1_fail rfl rfl (Nat.le_of_ble_eq_true rfl) (MX.post (m_X1_fail hG hO g6) ?_)
      rintro _ A6 ⟨v6, rfl, h1⟩
      refine X.xok (fun w6 => ?_)
      replace h := h v6 A6 w6 h1
      change X _ _ _ _ A6 _ _ [va_rf v6]
      obtain ⟨b7, e7, h⟩ := h
      rw [e7]
      exact x_athrow dX1_opens_27 rfl (Or.inr ⟨_, rfl, h⟩)
  · replace h := h.1 c5
    refine x_aload_n dX1_opens_8 rfl ?_
    obtain ⟨o9, h⟩ := h
    obtain ⟨R8, g8, h⟩ := h
    refine x_callV hG (Ky := kX1_wrong) (As := []) dX1_opens_9 o9 rfl lk_X1_82 me_X1_wrong is_X1_wrong se_X1_wrong rfl rfl (Nat.le_of_ble_eq_true rfl) (MX.post (m_X1_wrong hG hO g8) ?_)
    rintro _ A8 ⟨v8, rfl, h1⟩
    refine X.xok (fun w8 => ?_)
    replace h := h v8 A8 w8 h1
    change X _ _ _ _ A8 _ _ [va_rf v8]
    obtain ⟨b10, e10, h⟩ := h
    rw [e10]
    exact x_athrow dX1_opens_12 rfl (Or.inr ⟨_, rfl, h⟩)
def w_X1_closes (G : xG) (p : Nat) (k : Int32) (Q : xA → Prop) (E : Nat → xA → Prop) (A : xA) : Prop := xok G A → A.tg p = 2 ∧ (∃ R1 : xA → Prop, w_X1_need G p k R1 E A ∧ (∀ A1 : xA, xok G A1 → R1 A1 → (A1.tg p = 2 ∧ (∀ A4 : xA, A4 = A1.setI p 4 ((A1.I p 4) - (1 : Int32)) → (Q A4)))))
theorem m_X1_closes (hG : xOK G) (hO : xHO G) {dp : Nat} {p : Nat} {k : Int32} {Q : xA → Prop} {E : Nat → xA → Prop} {A : xA} (h : w_X1_closes G p k Q E A) : MX G (dp + 4) kX1_closes [.ref p, .int k] A (hX (hV Q) E) := by
  unfold w_X1_closes at h
  refine MX.of rfl (Nat.le_of_ble_eq_true rfl) ?_
  change X _ _ _ _ _ _ [some (.ref p), some (.int k)] _
  refine X.xok (fun w0 => ?_)
  replace h := h w0
  refine x_aload_n dX1_closes_0 rfl ?_
  refine x_iload_n dX1_closes_1 rfl ?_
  obtain ⟨o2, h⟩ := h
  obtain ⟨R1, g1, h⟩ := h
  refine x_callV hG (Ky := kX1_need) (As := [.int k]) dX1_closes_2 o2 rfl lk_X1_89 me_X1_need is_X1_need se_X1_need rfl rfl (Nat.le_of_ble_eq_true rfl) (MX.post (m_X1_need hG hO g1) ?_)
  rintro _ A1 (⟨rfl, h1⟩ | ⟨x1, rfl, h1⟩)
  rotate_left
  · exact ⟨rfl, Or.inr ⟨_, rfl, h1⟩⟩
  refine X.xok (fun w1 => ?_)
  replace h := h A1 w1 h1
  change X _ _ _ _ A1 _ _ []
  refine x_aload_n dX1_closes_5 rfl ?_
  refine x_dup dX1_closes_6 rfl ?_
  obtain ⟨o3, h⟩ := h
  refine x_get (v := .int (A1.I p 4)) hG dX1_closes_7 f_X1_40_1 o3 rfl ?_
  refine x_iconst_ (v := (1 : Int32)) dX1_closes_10 (by decide) ?_
  refine x_isub dX1_closes_11 ?_
  refine z_putI hG hO.1 dX1_closes_12 f_X1_40_1 ⟨_, rfl, Or.inl rfl⟩ o3 (by decide) rfl rfl ⟨_, rfl⟩ (fun A4 e4 => ?_)
  replace h := h A4 e4
  exact x_vret dX1_closes_15 rfl (Or.inl ⟨rfl, h⟩)
def w_X1_cut (G : xG) (r : Option Nat) (n : Int32) (Q : Option Nat → xA → Prop) (A : xA) : Prop := xok G A → rmA G A n ∧ (∀ A2 : xA, A2 = A.new 200 (ix n) (ix n) 0 → (∃ L3 : Nat → Int32 → xA → Prop, (∃ n3 : Nat, L3 n3 (0 : Int32) A2) ∧ (∀ (n3 : Nat) (y3_3 : Int32) (A3 : xA), L3 n3 y3_3 A3 → ((n ≤ y3_3 → Q (some A.n) A3) ∧ (¬ n ≤ y3_3 → ∃ b4 : Nat, r = some b4 ∧ (A3.tg b4 = 200 ∧ (vp_in y3_3 (A3.ln b4) ∧ (A3.tg A.n = 200 ∧ (G.N ≤ A.n ∧ (vp_in y3_3 (A3.ln A.n) ∧ (∀ A10 : xA, A10 = A3.setI A.n (ix y3_3) (A3.I b4 (ix y3_3)) → ((∃ q3 : Nat, q3 < n3 ∧ L3 q3 (y3_3 + (1 : Int32)) A10)))))))))))))
theorem m_X1_cut (hG : xOK G) (hO : xHO G) {dp : Nat} {r : Option Nat} {n : Int32} {Q : Option Nat → xA → Prop} {A : xA} (h : w_X1_cut G r n Q A) : MX G (dp + 0) kX1_cut [va_rf r, .int n] A (hR Q) := by
  unfold w_X1_cut at h
  refine MX.of rfl (by cases r <;> exact Nat.le_of_ble_eq_true rfl) ?_
  refine X.lvs (lv' := [some (va_rf r), some (.int n), none, none]) (by cases r <;> rfl) ?_
  refine X.xok (fun w0 => ?_)
  replace h := h w0
  refine x_iload_n dX1_cut_0 rfl ?_
  obtain ⟨o1, h⟩ := h
  refine z_newa hG (j := 0) dX1_cut_1 (by decide) rfl o1 q378 (fun A2 e2 w2 => ?_)
  replace h := h A2 e2
  refine x_astore_n dX1_cut_3 (by decide) ?_
  refine x_iconst_ (v := (0 : Int32)) dX1_cut_4 (by decide) ?_
  refine x_istore_n dX1_cut_5 (by decide) ?_
  obtain ⟨L3, ⟨n3, i3⟩, g3⟩ := h
  have kl3 : ∀ n3 : Nat, ∀ (y3_3 : Int32) (A3 : xA), L3 n3 y3_3 A3 → X G (dp + 0) kX1_cut (hR Q) A3 6 [some (va_rf r), some (.int n), some (.ref A.n), some (.int y3_3)] [] := by
    intro n3
    induction n3 using Nat.strongRecOn with
    | ind n3 ih3 =>
      intro y3_3 A3 h
      replace h := g3 n3 y3_3 A3 h
      refine x_iload_n dX1_cut_6 rfl ?_
      refine x_iload_n dX1_cut_7 rfl ?_
      refine x_icmp_ge (tgt := 23) dX1_cut_8 (by decide) (fun c8 => ?_) (fun c8 => ?_)
      · replace h := h.1 c8
        refine x_aload_n dX1_cut_23 rfl ?_
        exact x_aret (r := (some A.n)) dX1_cut_24 rfl (Or.inr ⟨_, rfl⟩) ⟨_, rfl, h⟩
      · replace h := h.2 c8
        refine x_aload_n dX1_cut_11 rfl ?_
        refine x_iload_n dX1_cut_12 rfl ?_
        refine x_aloadq_n dX1_cut_13 rfl ?_
        refine x_iload_n dX1_cut_14 rfl ?_
        obtain ⟨b4, e4, h⟩ := h
        rw [e4]
        obtain ⟨o5, h⟩ := h
        obtain ⟨o6, h⟩ := h
        refine x_iald hG dX1_cut_15 o5 o6 ?_
        obtain ⟨o7, h⟩ := h
        obtain ⟨o8, h⟩ := h
        obtain ⟨o9, h⟩ := h
        refine z_iast hG dX1_cut_16 o7 o8 o9 (fun A10 e10 => ?_)
        replace h := h A10 e10
        refine x_iinc (v := (y3_3 + (1 : Int32))) dX1_cut_17 rfl rfl (by decide) ?_
        refine x_goto (tgt := 6) dX1_cut_20 (by decide) ?_
        obtain ⟨q3, l3, h⟩ := h
        change X _ _ _ _ _ _ [some (.ref b4), some (.int n), some (.ref A.n), some (.int (y3_3 + (1 : Int32)))] []
        exact X.weak (xle_c (congrArg (fun z => some (va_rf z)) e4.symm) (xle_c rfl (xle_c rfl (xle_c rfl xle_nil)))) (ih3 q3 l3 (y3_3 + (1 : Int32)) A10 h)
  change X _ _ _ _ _ _ [some (va_rf r), some (.int n), some (.ref A.n), some (.int (0 : Int32))] []
  exact X.weak (xle_c rfl (xle_c rfl (xle_c rfl (xle_c rfl xle_nil)))) (kl3 n3 (0 : Int32) A2 i3)
end W084
