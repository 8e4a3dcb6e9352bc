/-! ===== 094.hlead (tools/h045.py) ===== -/
set_option maxRecDepth 100000
section W094
variable {G : xG}
def xRC_L (G : xG) (D : Nat) (r0 : Nat → (Int32 → xA → Prop) → xA → Prop) : Prop := ((∀ {p : Nat} {Q : Int32 → xA → Prop} {A : xA}, A.tg p = 15 → r0 p Q A → MX G D kX15_leading [.ref p] A (hI Q)) ∧ (∀ {p : Nat} {Q : Int32 → xA → Prop} {A : xA}, A.tg p = 16 → r0 p Q A → MX G D kX17_leading [.ref p] A (hI Q)) ∧ (∀ {p : Nat} {Q : Int32 → xA → Prop} {A : xA}, A.tg p = 17 → r0 p Q A → MX G D kX18_leading [.ref p] A (hI Q)) ∧ (∀ {p : Nat} {Q : Int32 → xA → Prop} {A : xA}, A.tg p = 18 → r0 p Q A → MX G D kX15_leading [.ref p] A (hI Q)) ∧ (∀ {p : Nat} {Q : Int32 → xA → Prop} {A : xA}, A.tg p = 19 → r0 p Q A → MX G D kX15_leading [.ref p] A (hI Q)) ∧ (∀ {p : Nat} {Q : Int32 → xA → Prop} {A : xA}, A.tg p = 20 → r0 p Q A → MX G D kX21_leading [.ref p] A (hI Q)) ∧ (∀ {p : Nat} {Q : Int32 → xA → Prop} {A : xA}, A.tg p = 21 → r0 p Q A → MX G D kX22_leading [.ref p] A (hI Q)) ∧ (∀ {p : Nat} {Q : Int32 → xA → Prop} {A : xA}, A.tg p = 22 → r0 p Q A → MX G D kX23_leading [.ref p] A (hI Q)))
def w_X15_leading (G : xG) (r0 : Nat → (Int32 → xA → Prop) → xA → Prop) (p : Nat) (Q : Int32 → xA → Prop) (A : xA) : Prop := xok G A → Q (-1 : Int32) A
theorem m_X15_leading (hG : xOK G) (hO : xHO G) {dp : Nat} {r0 : Nat → (Int32 → xA → Prop) → xA → Prop} (hK : xRC_L G (dp + 6) r0) {p : Nat} {Q : Int32 → xA → Prop} {A : xA} (h : w_X15_leading G r0 p Q A) : MX G (dp + 7) kX15_leading [.ref p] A (hI Q) := by
  unfold w_X15_leading at h
  refine MX.of rfl (Nat.le_of_ble_eq_true rfl) ?_
  change X _ _ _ _ _ _ [some (.ref p)] _
  refine X.xok (fun w0 => ?_)
  replace h := h w0
  refine x_iconst_ (v := (-1 : Int32)) dX15_leading_0 (by decide) ?_
  exact x_iret dX15_leading_1 rfl ⟨_, rfl, h⟩
def w_X17_leading (G : xG) (r0 : Nat → (Int32 → xA → Prop) → xA → Prop) (p : Nat) (Q : Int32 → xA → Prop) (A : xA) : Prop := xok G A → A.tg p = 16 ∧ (Q (if (A.I p 0) = (A.I p 2) then (A.I p 1) else (-1 : Int32)) A)
theorem m_X17_leading (hG : xOK G) (hO : xHO G) {dp : Nat} {r0 : Nat → (Int32 → xA → Prop) → xA → Prop} (hK : xRC_L G (dp + 6) r0) {p : Nat} {Q : Int32 → xA → Prop} {A : xA} (h : w_X17_leading G r0 p Q A) : MX G (dp + 7) kX17_leading [.ref p] A (hI Q) := by
  unfold w_X17_leading at h
  refine MX.of rfl (Nat.le_of_ble_eq_true rfl) ?_
  change X _ _ _ _ _ _ [some (.ref p)] _
  refine X.xok (fun w0 => ?_)
  replace h := h w0
  refine x_aload_n dX17_leading_0 rfl ?_
  obtain ⟨o1, h⟩ := h
  refine x_get (v := .int (A.I p 0)) hG dX17_leading_1 f_X17_39_15 o1 rfl ?_
  refine x_aload_n dX17_leading_4 rfl ?_
  refine x_get (v := .int (A.I p 2)) hG dX17_leading_5 f_X17_9_15 o1 rfl ?_
  refine x_via 19 (A' := A) (lv' := [none]) (st' := [.int (if (A.I p 0) = (A.I p 2) then (A.I p 1) else (-1 : Int32))]) ?_ (fun k19 => ?_)
  rotate_left
  · refine x_icmp_ne (tgt := 18) dX17_leading_8 (by decide) (fun c8 => ?_) (fun c8 => ?_)
    · refine x_iconst_ (v := (-1 : Int32)) dX17_leading_18 (by decide) ?_
      change X _ _ _ _ _ _ [some (.ref p)] [.int (-1 : Int32)]
      simp only [if_neg c8] at k19 ⊢
      exact X.weak (xle_n xle_nil) k19
    · refine x_aload_n dX17_leading_11 rfl ?_
      refine x_get (v := .int (A.I p 1)) hG dX17_leading_12 f_X17_15_15 o1 rfl ?_
      refine x_goto (tgt := 19) dX17_leading_15 (by decide) ?_
      change X _ _ _ _ _ _ [some (.ref p)] [.int (A.I p 1)]
      simp only [if_pos c8] at k19 ⊢
      exact X.weak (xle_n xle_nil) k19
  exact x_iret dX17_leading_19 rfl ⟨_, rfl, h⟩
def w_X18_leading (G : xG) (r0 : Nat → (Int32 → xA → Prop) → xA → Prop) (p : Nat) (Q : Int32 → xA → Prop) (A : xA) : Prop := xok G A → A.tg p = 17 ∧ (Q (if (A.I p 0) = (A.I p 2) then (A.I p 1) else (-1 : Int32)) A)
theorem m_X18_leading (hG : xOK G) (hO : xHO G) {dp : Nat} {r0 : Nat → (Int32 → xA → Prop) → xA → Prop} (hK : xRC_L G (dp + 6) r0) {p : Nat} {Q : Int32 → xA → Prop} {A : xA} (h : w_X18_leading G r0 p Q A) : MX G (dp + 7) kX18_leading [.ref p] A (hI Q) := by
  unfold w_X18_leading at h
  refine MX.of rfl (Nat.le_of_ble_eq_true rfl) ?_
  change X _ _ _ _ _ _ [some (.ref p)] _
  refine X.xok (fun w0 => ?_)
  replace h := h w0
  refine x_aload_n dX18_leading_0 rfl ?_
  obtain ⟨o1, h⟩ := h
  refine x_get (v := .int (A.I p 0)) hG dX18_leading_1 f_X18_58_16 o1 rfl ?_
  refine x_aload_n dX18_leading_4 rfl ?_
  refine x_get (v := .int (A.I p 2)) hG dX18_leading_5 f_X18_9_16 o1 rfl ?_
  refine x_via 19 (A' := A) (lv' := [none]) (st' := [.int (if (A.I p 0) = (A.I p 2) then (A.I p 1) else (-1 : Int32))]) ?_ (fun k19 => ?_)
  rotate_left
  · refine x_icmp_ne (tgt := 18) dX18_leading_8 (by decide) (fun c8 => ?_) (fun c8 => ?_)
    · refine x_iconst_ (v := (-1 : Int32)) dX18_leading_18 (by decide) ?_
      change X _ _ _ _ _ _ [some (.ref p)] [.int (-1 : Int32)]
      simp only [if_neg c8] at k19 ⊢
      exact X.weak (xle_n xle_nil) k19
    · refine x_aload_n dX18_leading_11 rfl ?_
      refine x_get (v := .int (A.I p 1)) hG dX18_leading_12 f_X18_15_16 o1 rfl ?_
      refine x_goto (tgt := 19) dX18_leading_15 (by decide) ?_
      change X _ _ _ _ _ _ [some (.ref p)] [.int (A.I p 1)]
      simp only [if_pos c8] at k19 ⊢
      exact X.weak (xle_n xle_nil) k19
  exact x_iret dX18_leading_19 rfl ⟨_, rfl, h⟩
def w_X21_leading (G : xG) (r0 : Nat → (Int32 → xA → Prop) → xA → Prop) (p : Nat) (Q : Int32 → xA → Prop) (A : xA) : Prop := xok G A → A.tg p = 20 ∧ (∃ b3 : Nat, (A.P p 2) = some b3 ∧ (A.tg b3 = 37 ∧ (∃ R2 : Option Nat → xA → Prop, w_J5_get G b3 (0 : Int32) R2 A ∧ (∀ (v2 : Option Nat) (A2 : xA), xok G A2 → R2 v2 A2 → (∃ b5 : Nat, v2 = some b5 ∧ (xE A2 b5 ∧ ((((A.I p 0) = (A2.I b5 0) → A2.tg p = 20 ∧ (∃ b9 : Nat, (A2.P p 2) = some b9 ∧ (A2.tg b9 = 37 ∧ (∃ R8 : Option Nat → xA → Prop, w_J5_get G b9 (0 : Int32) R8 A2 ∧ (∀ (v8 : Option Nat) (A8 : xA), xok G A8 → R8 v8 A8 → (∃ b11 : Nat, v8 = some b11 ∧ (xE A8 b11 ∧ (∃ R13 : Int32 → xA → Prop, r0 b11 R13 A8 ∧ (∀ (v13 : Int32) (A13 : xA), xok G A13 → R13 v13 A13 → (Q v13 A13)))))))))) ∧ (¬ (A.I p 0) = (A2.I b5 0) → Q (-1 : Int32) A2)))))))))
theorem m_X21_leading (hG : xOK G) (hO : xHO G) {dp : Nat} {r0 : Nat → (Int32 → xA → Prop) → xA → Prop} (hK : xRC_L G (dp + 6) r0) {p : Nat} {Q : Int32 → xA → Prop} {A : xA} (h : w_X21_leading G r0 p Q A) : MX G (dp + 7) kX21_leading [.ref p] A (hI Q) := by
  unfold w_X21_leading at h
  refine MX.of rfl (Nat.le_of_ble_eq_true rfl) ?_
  change X _ _ _ _ _ _ [some (.ref p)] _
  refine X.xok (fun w0 => ?_)
  replace h := h w0
  refine x_aload_n dX21_leading_0 rfl ?_
  obtain ⟨o1, h⟩ := h
  refine x_get (v := .int (A.I p 0)) hG dX21_leading_1 f_X21_11_19 o1 rfl ?_
  refine x_aload_n dX21_leading_4 rfl ?_
  refine x_get (v := va_rf (A.P p 2)) hG dX21_leading_5 f_X21_25_19 o1 rfl ?_
  refine x_iconst_ (v := (0 : Int32)) dX21_leading_8 (by decide) ?_
  obtain ⟨b3, e3, h⟩ := h
  rw [e3]
  obtain ⟨o4, h⟩ := h
  obtain ⟨R2, g2, h⟩ := h
  refine x_callV hG (Ky := kJ5_get) (As := [.int (0 : Int32)]) dX21_leading_9 o4 rfl lk_X21_3 me_J5_get is_J5_get se_J5_get rfl rfl (Nat.le_of_ble_eq_true rfl) (MX.post (m_w_J5_get hG hO g2) ?_)
  rintro _ A2 ⟨v2, rfl, h1⟩
  refine X.xok (fun w2 => ?_)
  replace h := h v2 A2 w2 h1
  change X _ _ _ _ A2 _ _ [va_rf v2, .int (A.I p 0)]
  obtain ⟨b5, e5, h⟩ := h
  rw [e5]
  obtain ⟨o6, h⟩ := h
  refine z_castE hG dX21_leading_12 q1413 o6 ?_
  refine z_getE hG dX21_leading_15 fE_X21_11 o6 ?_
  refine x_icmp_ne (tgt := 38) dX21_leading_18 (by decide) (fun c18 => ?_) (fun c18 => ?_)
  · replace h := h.2 c18
    refine x_iconst_ (v := (-1 : Int32)) dX21_leading_38 (by decide) ?_
    exact x_iret dX21_leading_39 rfl ⟨_, rfl, h⟩
  · replace h := h.1 c18
    refine x_aload_n dX21_leading_21 rfl ?_
    obtain ⟨o7, h⟩ := h
    refine x_get (v := va_rf (A2.P p 2)) hG dX21_leading_22 f_X21_25_19 o7 rfl ?_
    refine x_iconst_ (v := (0 : Int32)) dX21_leading_25 (by decide) ?_
    obtain ⟨b9, e9, h⟩ := h
    rw [e9]
    obtain ⟨o10, h⟩ := h
    obtain ⟨R8, g8, h⟩ := h
    refine x_callV hG (Ky := kJ5_get) (As := [.int (0 : Int32)]) dX21_leading_26 o10 rfl lk_X21_3 me_J5_get is_J5_get se_J5_get rfl rfl (Nat.le_of_ble_eq_true rfl) (MX.post (m_w_J5_get hG hO g8) ?_)
    rintro _ A8 ⟨v8, rfl, h1⟩
    refine X.xok (fun w8 => ?_)
    replace h := h v8 A8 w8 h1
    change X _ _ _ _ A8 _ _ [va_rf v8]
    obtain ⟨b11, e11, h⟩ := h
    rw [e11]
    obtain ⟨o12, h⟩ := h
    refine z_castE hG dX21_leading_29 q1413 o12 ?_
    obtain ⟨R13, g13, h⟩ := h
    refine z_disp (pc' := 32) (lv' := [some (.ref p)]) (st' := []) (P := hI R13) (kr := ?_) (kc := ?_)
    rotate_left
    · obtain ⟨c, tc, hc⟩ := o12
      simp only [eCl, List.mem_cons, List.not_mem_nil, or_false] at hc
      intro kr
      rcases hc with rfl | rfl | rfl | rfl | rfl | rfl | rfl | rfl
      · exact x_callU hG (Ky := kX15_leading) (As := []) dX21_leading_32 tc rfl q2167 q2153 (Or.inr ⟨is_X15_leading, _, _, _, me_X15_leading.1⟩) xm_X15_leading me_X15_leading is_X15_leading q2174 rfl rfl (Nat.le_of_ble_eq_true rfl) (MX.post (hK.1 tc g13) kr)
      · exact x_callU hG (Ky := kX17_leading) (As := []) dX21_leading_32 tc rfl q2167 q2153 (Or.inr ⟨is_X15_leading, _, _, _, me_X15_leading.1⟩) xm_X15_leading me_X17_leading is_X17_leading q2155 rfl rfl (Nat.le_of_ble_eq_true rfl) (MX.post (hK.2.1 tc g13) kr)
      · exact x_callU hG (Ky := kX18_leading) (As := []) dX21_leading_32 tc rfl q2167 q2153 (Or.inr ⟨is_X15_leading, _, _, _, me_X15_leading.1⟩) xm_X15_leading me_X18_leading is_X18_leading q2173 rfl rfl (Nat.le_of_ble_eq_true rfl) (MX.post (hK.2.2.1 tc g13) kr)
      · exact x_callU hG (Ky := kX15_leading) (As := []) dX21_leading_32 tc rfl q2167 q2153 (Or.inr ⟨is_X15_leading, _, _, _, me_X15_leading.1⟩) xm_X15_leading me_X15_leading is_X15_leading q2171 rfl rfl (Nat.le_of_ble_eq_true rfl) (MX.post (hK.2.2.2.1 tc g13) kr)
      · exact x_callU hG (Ky := kX15_leading) (As := []) dX21_leading_32 tc rfl q2167 q2153 (Or.inr ⟨is_X15_leading, _, _, _, me_X15_leading.1⟩) xm_X15_leading me_X15_leading is_X15_leading q2154 rfl rfl (Nat.le_of_ble_eq_true rfl) (MX.post (hK.2.2.2.2.1 tc g13) kr)
      · exact x_callU hG (Ky := kX21_leading) (As := []) dX21_leading_32 tc rfl q2167 q2153 (Or.inr ⟨is_X15_leading, _, _, _, me_X15_leading.1⟩) xm_X15_leading me_X21_leading is_X21_leading q2172 rfl rfl (Nat.le_of_ble_eq_true rfl) (MX.post (hK.2.2.2.2.2.1 tc g13) kr)
      · exact x_callU hG (Ky := kX22_leading) (As := []) dX21_leading_32 tc rfl q2167 q2153 (Or.inr ⟨is_X15_leading, _, _, _, me_X15_leading.1⟩) xm_X15_leading me_X22_leading is_X22_leading q2158 rfl rfl (Nat.le_of_ble_eq_true rfl) (MX.post (hK.2.2.2.2.2.2.1 tc g13) kr)
      · exact x_callU hG (Ky := kX23_leading) (As := []) dX21_leading_32 tc rfl q2167 q2153 (Or.inr ⟨is_X15_leading, _, _, _, me_X15_leading.1⟩) xm_X15_leading me_X23_leading is_X23_leading q2170 rfl rfl (Nat.le_of_ble_eq_true rfl) (MX.post (hK.2.2.2.2.2.2.2 tc g13) kr)
    rintro _ A13 ⟨v13, rfl, h1⟩
    refine X.xok (fun w13 => ?_)
    replace h := h v13 A13 w13 h1
    change X _ _ _ _ A13 _ _ [.int v13]
    refine x_goto (tgt := 39) dX21_leading_35 (by decide) ?_
    exact x_iret dX21_leading_39 rfl ⟨_, rfl, h⟩
def w_X22_leading (G : xG) (r0 : Nat → (Int32 → xA → Prop) → xA → Prop) (p : Nat) (Q : Int32 → xA → Prop) (A : xA) : Prop := xok G A → A.tg p = 21 ∧ (∃ b3 : Nat, (A.P p 2) = some b3 ∧ (A.tg b3 = 37 ∧ (∃ R2 : Option Nat → xA → Prop, w_J5_get G b3 (0 : Int32) R2 A ∧ (∀ (v2 : Option Nat) (A2 : xA), xok G A2 → R2 v2 A2 → (∃ b5 : Nat, v2 = some b5 ∧ (xE A2 b5 ∧ ((((A.I p 0) = (A2.I b5 0) → A2.tg p = 21 ∧ (∃ b9 : Nat, (A2.P p 2) = some b9 ∧ (A2.tg b9 = 37 ∧ (∃ R8 : Option Nat → xA → Prop, w_J5_get G b9 (0 : Int32) R8 A2 ∧ (∀ (v8 : Option Nat) (A8 : xA), xok G A8 → R8 v8 A8 → (∃ b11 : Nat, v8 = some b11 ∧ (xE A8 b11 ∧ (∃ R13 : Int32 → xA → Prop, r0 b11 R13 A8 ∧ (∀ (v13 : Int32) (A13 : xA), xok G A13 → R13 v13 A13 → (Q v13 A13)))))))))) ∧ (¬ (A.I p 0) = (A2.I b5 0) → Q (-1 : Int32) A2)))))))))
theorem m_X22_leading (hG : xOK G) (hO : xHO G) {dp : Nat} {r0 : Nat → (Int32 → xA → Prop) → xA → Prop} (hK : xRC_L G (dp + 6) r0) {p : Nat} {Q : Int32 → xA → Prop} {A : xA} (h : w_X22_leading G r0 p Q A) : MX G (dp + 7) kX22_leading [.ref p] A (hI Q) := by
  unfold w_X22_leading at h
  refine MX.of rfl (Nat.le_of_ble_eq_true rfl) ?_
  change X _ _ _ _ _ _ [some (.ref p)] _
  refine X.xok (fun w0 => ?_)
  replace h := h w0
  refine x_aload_n dX22_leading_0 rfl ?_
  obtain ⟨o1, h⟩ := h
  refine x_get (v := .int (A.I p 0)) hG dX22_leading_1 f_X22_11_20 o1 rfl ?_
  refine x_aload_n dX22_leading_4 rfl ?_
  refine x_get (v := va_rf (A.P p 2)) hG dX22_leading_5 f_X22_25_20 o1 rfl ?_
  refine x_iconst_ (v := (0 : Int32)) dX22_leading_8 (by decide) ?_
  obtain ⟨b3, e3, h⟩ := h
  rw [e3]
  obtain ⟨o4, h⟩ := h
  obtain ⟨R2, g2, h⟩ := h
  refine x_callV hG (Ky := kJ5_get) (As := [.int (0 : Int32)]) dX22_leading_9 o4 rfl lk_X22_3 me_J5_get is_J5_get se_J5_get rfl rfl (Nat.le_of_ble_eq_true rfl) (MX.post (m_w_J5_get hG hO g2) ?_)
  rintro _ A2 ⟨v2, rfl, h1⟩
  refine X.xok (fun w2 => ?_)
  replace h := h v2 A2 w2 h1
  change X _ _ _ _ A2 _ _ [va_rf v2, .int (A.I p 0)]
  obtain ⟨b5, e5, h⟩ := h
  rw [e5]
  obtain ⟨o6, h⟩ := h
  refine z_castE hG dX22_leading_12 q1432 o6 ?_
  refine z_getE hG dX22_leading_15 fE_X22_11 o6 ?_
  refine x_icmp_ne (tgt := 38) dX22_leading_18 (by decide) (fun c18 => ?_) (fun c18 => ?_)
  · replace h := h.2 c18
    refine x_iconst_ (v := (-1 : Int32)) dX22_leading_38 (by decide) ?_
    exact x_iret dX22_leading_39 rfl ⟨_, rfl, h⟩
  · replace h := h.1 c18
    refine x_aload_n dX22_leading_21 rfl ?_
    obtain ⟨o7, h⟩ := h
    refine x_get (v := va_rf (A2.P p 2)) hG dX22_leading_22 f_X22_25_20 o7 rfl ?_
    refine x_iconst_ (v := (0 : Int32)) dX22_leading_25 (by decide) ?_
    obtain ⟨b9, e9, h⟩ := h
    rw [e9]
    obtain ⟨o10, h⟩ := h
    obtain ⟨R8, g8, h⟩ := h
    refine x_callV hG (Ky := kJ5_get) (As := [.int (0 : Int32)]) dX22_leading_26 o10 rfl lk_X22_3 me_J5_get is_J5_get se_J5_get rfl rfl (Nat.le_of_ble_eq_true rfl) (MX.post (m_w_J5_get hG hO g8) ?_)
    rintro _ A8 ⟨v8, rfl, h1⟩
    refine X.xok (fun w8 => ?_)
    replace h := h v8 A8 w8 h1
    change X _ _ _ _ A8 _ _ [va_rf v8]
    obtain ⟨b11, e11, h⟩ := h
    rw [e11]
    obtain ⟨o12, h⟩ := h
    refine z_castE hG dX22_leading_29 q1432 o12 ?_
    obtain ⟨R13, g13, h⟩ := h
    refine z_disp (pc' := 32) (lv' := [some (.ref p)]) (st' := []) (P := hI R13) (kr := ?_) (kc := ?_)
    rotate_left
    · obtain ⟨c, tc, hc⟩ := o12
      simp only [eCl, List.mem_cons, List.not_mem_nil, or_false] at hc
      intro kr
      rcases hc with rfl | rfl | rfl | rfl | rfl | rfl | rfl | rfl
      · exact x_callU hG (Ky := kX15_leading) (As := []) dX22_leading_32 tc rfl q2161 q2153 (Or.inr ⟨is_X15_leading, _, _, _, me_X15_leading.1⟩) xm_X15_leading me_X15_leading is_X15_leading q2174 rfl rfl (Nat.le_of_ble_eq_true rfl) (MX.post (hK.1 tc g13) kr)
      · exact x_callU hG (Ky := kX17_leading) (As := []) dX22_leading_32 tc rfl q2161 q2153 (Or.inr ⟨is_X15_leading, _, _, _, me_X15_leading.1⟩) xm_X15_leading me_X17_leading is_X17_leading q2155 rfl rfl (Nat.le_of_ble_eq_true rfl) (MX.post (hK.2.1 tc g13) kr)
      · exact x_callU hG (Ky := kX18_leading) (As := []) dX22_leading_32 tc rfl q2161 q2153 (Or.inr ⟨is_X15_leading, _, _, _, me_X15_leading.1⟩) xm_X15_leading me_X18_leading is_X18_leading q2173 rfl rfl (Nat.le_of_ble_eq_true rfl) (MX.post (hK.2.2.1 tc g13) kr)
      · exact x_callU hG (Ky := kX15_leading) (As := []) dX22_leading_32 tc rfl q2161 q2153 (Or.inr ⟨is_X15_leading, _, _, _, me_X15_leading.1⟩) xm_X15_leading me_X15_leading is_X15_leading q2171 rfl rfl (Nat.le_of_ble_eq_true rfl) (MX.post (hK.2.2.2.1 tc g13) kr)
      · exact x_callU hG (Ky := kX15_leading) (As := []) dX22_leading_32 tc rfl q2161 q2153 (Or.inr ⟨is_X15_leading, _, _, _, me_X15_leading.1⟩) xm_X15_leading me_X15_leading is_X15_leading q2154 rfl rfl (Nat.le_of_ble_eq_true rfl) (MX.post (hK.2.2.2.2.1 tc g13) kr)
      · exact x_callU hG (Ky := kX21_leading) (As := []) dX22_leading_32 tc rfl q2161 q2153 (Or.inr ⟨is_X15_leading, _, _, _, me_X15_leading.1⟩) xm_X15_leading me_X21_leading is_X21_leading q2172 rfl rfl (Nat.le_of_ble_eq_true rfl) (MX.post (hK.2.2.2.2.2.1 tc g13) kr)
      · exact x_callU hG (Ky := kX22_leading) (As := []) dX22_leading_32 tc rfl q2161 q2153 (Or.inr ⟨is_X15_leading, _, _, _, me_X15_leading.1⟩) xm_X15_leading me_X22_leading is_X22_leading q2158 rfl rfl (Nat.le_of_ble_eq_true rfl) (MX.post (hK.2.2.2.2.2.2.1 tc g13) kr)
      · exact x_callU hG (Ky := kX23_leading) (As := []) dX22_leading_32 tc rfl q2161 q2153 (Or.inr ⟨is_X15_leading, _, _, _, me_X15_leading.1⟩) xm_X15_leading me_X23_leading is_X23_leading q2170 rfl rfl (Nat.le_of_ble_eq_true rfl) (MX.post (hK.2.2.2.2.2.2.2 tc g13) kr)
    rintro _ A13 ⟨v13, rfl, h1⟩
    refine X.xok (fun w13 => ?_)
    replace h := h v13 A13 w13 h1
    change X _ _ _ _ A13 _ _ [.int v13]
    refine x_goto (tgt := 39) dX22_leading_35 (by decide) ?_
    exact x_iret dX22_leading_39 rfl ⟨_, rfl, h⟩
def w_X23_leading (G : xG) (r0 : Nat → (Int32 → xA → Prop) → xA → Prop) (p : Nat) (Q : Int32 → xA → Prop) (A : xA) : Prop := xok G A → A.tg p = 22 ∧ (∃ b2 : Nat, (A.P p 1) = some b2 ∧ (xE A b2 ∧ ((((A.I p 0) = (A.I b2 0) → ∃ R4 : Int32 → xA → Prop, r0 b2 R4 A ∧ (∀ (v4 : Int32) (A4 : xA), xok G A4 → R4 v4 A4 → (Q v4 A4))) ∧ (¬ (A.I p 0) = (A.I b2 0) → Q (-1 : Int32) A)))))
theorem m_X23_leading (hG : xOK G) (hO : xHO G) {dp : Nat} {r0 : Nat → (Int32 → xA → Prop) → xA → Prop} (hK : xRC_L G (dp + 6) r0) {p : Nat} {Q : Int32 → xA → Prop} {A : xA} (h : w_X23_leading G r0 p Q A) : MX G (dp + 7) kX23_leading [.ref p] A (hI Q) := by
  unfold w_X23_leading at h
  refine MX.of rfl (Nat.le_of_ble_eq_true rfl) ?_
  change X _ _ _ _ _ _ [some (.ref p)] _
  refine X.xok (fun w0 => ?_)
  replace h := h w0
  refine x_aload_n dX23_leading_0 rfl ?_
  obtain ⟨o1, h⟩ := h
  refine x_get (v := .int (A.I p 0)) hG dX23_leading_1 f_X23_3_21 o1 rfl ?_
  refine x_aload_n dX23_leading_4 rfl ?_
  refine x_get (v := va_rf (A.P p 1)) hG dX23_leading_5 f_X23_13_21 o1 rfl ?_
  obtain ⟨b2, e2, h⟩ := h
  rw [e2]
  obtain ⟨o3, h⟩ := h
  refine z_getE hG dX23_leading_8 fE_X23_3 o3 ?_
  refine x_icmp_ne (tgt := 24) dX23_leading_11 (by decide) (fun c11 => ?_) (fun c11 => ?_)
  · replace h := h.2 c11
    refine x_iconst_ (v := (-1 : Int32)) dX23_leading_24 (by decide) ?_
    exact x_iret dX23_leading_25 rfl ⟨_, rfl, h⟩
  · replace h := h.1 c11
    refine x_aload_n dX23_leading_14 rfl ?_
    refine x_get (v := .ref b2) hG dX23_leading_15 f_X23_13_21 o1 (congrArg va_rf e2) ?_
    obtain ⟨R4, g4, h⟩ := h
    refine z_disp (pc' := 18) (lv' := [some (.ref p)]) (st' := []) (P := hI R4) (kr := ?_) (kc := ?_)
    rotate_left
    · obtain ⟨c, tc, hc⟩ := o3
      simp only [eCl, List.mem_cons, List.not_mem_nil, or_false] at hc
      intro kr
      rcases hc with rfl | rfl | rfl | rfl | rfl | rfl | rfl | rfl
      · exact x_callU hG (Ky := kX15_leading) (As := []) dX23_leading_18 tc rfl q2164 q2153 (Or.inr ⟨is_X15_leading, _, _, _, me_X15_leading.1⟩) xm_X15_leading me_X15_leading is_X15_leading q2174 rfl rfl (Nat.le_of_ble_eq_true rfl) (MX.post (hK.1 tc g4) kr)
      · exact x_callU hG (Ky := kX17_leading) (As := []) dX23_leading_18 tc rfl q2164 q2153 (Or.inr ⟨is_X15_leading, _, _, _, me_X15_leading.1⟩) xm_X15_leading me_X17_leading is_X17_leading q2155 rfl rfl (Nat.le_of_ble_eq_true rfl) (MX.post (hK.2.1 tc g4) kr)
      · exact x_callU hG (Ky := kX18_leading) (As := []) dX23_leading_18 tc rfl q2164 q2153 (Or.inr ⟨is_X15_leading, _, _, _, me_X15_leading.1⟩) xm_X15_leading me_X18_leading is_X18_leading q2173 rfl rfl (Nat.le_of_ble_eq_true rfl) (MX.post (hK.2.2.1 tc g4) kr)
      · exact x_callU hG (Ky := kX15_leading) (As := []) dX23_leading_18 tc rfl q2164 q2153 (Or.inr ⟨is_X15_leading, _, _, _, me_X15_leading.1⟩) xm_X15_leading me_X15_leading is_X15_leading q2171 rfl rfl (Nat.le_of_ble_eq_true rfl) (MX.post (hK.2.2.2.1 tc g4) kr)
      · exact x_callU hG (Ky := kX15_leading) (As := []) dX23_leading_18 tc rfl q2164 q2153 (Or.inr ⟨is_X15_leading, _, _, _, me_X15_leading.1⟩) xm_X15_leading me_X15_leading is_X15_leading q2154 rfl rfl (Nat.le_of_ble_eq_true rfl) (MX.post (hK.2.2.2.2.1 tc g4) kr)
      · exact x_callU hG (Ky := kX21_leading) (As := []) dX23_leading_18 tc rfl q2164 q2153 (Or.inr ⟨is_X15_leading, _, _, _, me_X15_leading.1⟩) xm_X15_leading me_X21_leading is_X21_leading q2172 rfl rfl (Nat.le_of_ble_eq_true rfl) (MX.post (hK.2.2.2.2.2.1 tc g4) kr)
      · exact x_callU hG (Ky := kX22_leading) (As := []) dX23_leading_18 tc rfl q2164 q2153 (Or.inr ⟨is_X15_leading, _, _, _, me_X15_leading.1⟩) xm_X15_leading me_X22_leading is_X22_leading q2158 rfl rfl (Nat.le_of_ble_eq_true rfl) (MX.post (hK.2.2.2.2.2.2.1 tc g4) kr)
      · exact x_callU hG (Ky := kX23_leading) (As := []) dX23_leading_18 tc rfl q2164 q2153 (Or.inr ⟨is_X15_leading, _, _, _, me_X15_leading.1⟩) xm_X15_leading me_X23_leading is_X23_leading q2170 rfl rfl (Nat.le_of_ble_eq_true rfl) (MX.post (hK.2.2.2.2.2.2.2 tc g4) kr)
    rintro _ A4 ⟨v4, rfl, h1⟩
    refine X.xok (fun w4 => ?_)
    replace h := h v4 A4 w4 h1
    change X _ _ _ _ A4 _ _ [.int v4]
    refine x_goto (tgt := 25) dX23_leading_21 (by decide) ?_
    exact x_iret dX23_leading_25 rfl ⟨_, rfl, h⟩
def rk_L (G : xG) : Nat → (Nat → (Int32 → xA → Prop) → xA → Prop)
  | 0 => (fun _ _ _ => False)
  | n + 1 => (fun p Q A => (A.tg p = 15 → w_X15_leading G (rk_L G n) p Q A) ∧ (A.tg p = 16 → w_X17_leading G (rk_L G n) p Q A) ∧ (A.tg p = 17 → w_X18_leading G (rk_L G n) p Q A) ∧ (A.tg p = 18 → w_X15_leading G (rk_L G n) p Q A) ∧ (A.tg p = 19 → w_X15_leading G (rk_L G n) p Q A) ∧ (A.tg p = 20 → w_X21_leading G (rk_L G n) p Q A) ∧ (A.tg p = 21 → w_X22_leading G (rk_L G n) p Q A) ∧ (A.tg p = 22 → w_X23_leading G (rk_L G n) p Q A))
theorem rc_L (hG : xOK G) (hO : xHO G) {dp : Nat} : ∀ n, xRC_L G (dp + n + 6) (rk_L G n)
  | 0 => ⟨fun _ h => False.elim h, fun _ h => False.elim h, fun _ h => False.elim h, fun _ h => False.elim h, fun _ h => False.elim h, fun _ h => False.elim h, fun _ h => False.elim h, fun _ h => False.elim h⟩
  | n + 1 => ⟨fun t h => m_X15_leading (dp := dp + n) hG hO (rc_L hG hO n) (h.1 t), fun t h => m_X17_leading (dp := dp + n) hG hO (rc_L hG hO n) (h.2.1 t), fun t h => m_X18_leading (dp := dp + n) hG hO (rc_L hG hO n) (h.2.2.1 t), fun t h => m_X15_leading (dp := dp + n) hG hO (rc_L hG hO n) (h.2.2.2.1 t), fun t h => m_X15_leading (dp := dp + n) hG hO (rc_L hG hO n) (h.2.2.2.2.1 t), fun t h => m_X21_leading (dp := dp + n) hG hO (rc_L hG hO n) (h.2.2.2.2.2.1 t), fun t h => m_X22_leading (dp := dp + n) hG hO (rc_L hG hO n) (h.2.2.2.2.2.2.1 t), fun t h => m_X23_leading (dp := dp + n) hG hO (rc_L hG hO n) (h.2.2.2.2.2.2.2 t)⟩
def g_L_0 (G : xG) : Nat → (Int32 → xA → Prop) → xA → Prop := (rk_L G 800)
end W094
