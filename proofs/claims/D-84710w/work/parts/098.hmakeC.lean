/-! ===== 098.hmakeC (tools/h045.py) ===== -/
set_option maxRecDepth 100000
section W098
variable {G : xG}
theorem fE_X6_169 : ∀ c, c ∈ eCl → xF RX6 169 c 0 := by
  intro c h
  simp only [eCl, List.mem_cons, List.not_mem_nil, or_false] at h
  rcases h with rfl | rfl | rfl | rfl | rfl | rfl | rfl | rfl
  · exact f_X6_169_14
  · exact f_X6_169_15
  · exact f_X6_169_16
  · exact f_X6_169_17
  · exact f_X6_169_18
  · exact f_X6_169_19
  · exact f_X6_169_20
  · exact f_X6_169_21
def w_X6_variable (G : xG) (p : Nat) (Q : Int32 → xA → Prop) (A : xA) : Prop := xok G A → A.tg p = 6 ∧ (∃ b2 : Nat, (A.P p 9) = some b2 ∧ (A.tg b2 = 34 ∧ (∃ R4 : Option Nat → xA → Prop, w_J15_valueOf G (A.I b2 2) R4 A ∧ (∀ (v4 : Option Nat) (A4 : xA), xok G A4 → R4 v4 A4 → (∃ b6 : Nat, (A.P b2 4) = some b6 ∧ (A4.tg b6 = 37 ∧ (∃ R5 : Int32 → xA → Prop, w_J5_add G b6 v4 R5 A4 ∧ (∀ (v5 : Int32) (A5 : xA), xok G A5 → (v5 = 0 ∨ v5 = 1) → R5 v5 A5 → (A5.tg p = 6 ∧ (∃ R8 : Int32 → xA → Prop, w_X6_register G p R8 A5 ∧ (∀ (v8 : Int32) (A8 : xA), xok G A8 → R8 v8 A8 → (Q v8 A8))))))))))))
theorem m_X6_variable (hG : xOK G) (hO : xHO G) {dp : Nat} {p : Nat} {Q : Int32 → xA → Prop} {A : xA} (h : w_X6_variable G p Q A) : MX G (dp + 7) kX6_variable [.ref p] A (hI Q) := by
  unfold w_X6_variable at h
  refine MX.of rfl (Nat.le_of_ble_eq_true rfl) ?_
  change X _ _ _ _ _ _ [some (.ref p)] _
  refine X.xok (fun w0 => ?_)
  replace h := h w0
  refine x_aload_n dX6_variable_0 rfl ?_
  obtain ⟨o1, h⟩ := h
  refine x_get (v := va_rf (A.P p 9)) hG dX6_variable_1 f_X6_183_5 o1 rfl ?_
  obtain ⟨b2, e2, h⟩ := h
  rw [e2]
  obtain ⟨o3, h⟩ := h
  refine x_get (v := va_rf (A.P b2 4)) hG dX6_variable_4 f_X6_280_33 o3 rfl ?_
  refine x_aload_n dX6_variable_7 rfl ?_
  refine x_get (v := .ref b2) hG dX6_variable_8 f_X6_183_5 o1 (congrArg va_rf e2) ?_
  refine x_get (v := .int (A.I b2 2)) hG dX6_variable_11 f_X6_277_33 o3 rfl ?_
  obtain ⟨R4, g4, h⟩ := h
  refine x_callS hG (Ky := kJ15_valueOf) (As := [.int (A.I b2 2)]) dX6_variable_14 lk_X6_283 me_J15_valueOf st_J15_valueOf rfl rfl (by simp only [List.append_eq, List.nil_append, List.map_cons, va_rf_cat]; exact Nat.le_of_ble_eq_true rfl) (MX.post (m_J15_valueOf hG hO g4) ?_)
  rintro _ A4 ⟨v4, rfl, h1⟩
  refine X.xok (fun w4 => ?_)
  replace h := h v4 A4 w4 h1
  change X _ _ _ _ A4 _ _ [va_rf v4, va_rf (A.P b2 4)]
  obtain ⟨b6, e6, h⟩ := h
  rw [e6]
  obtain ⟨o7, h⟩ := h
  obtain ⟨R5, g5, h⟩ := h
  refine x_callV hG (Ky := kJ5_add) (As := [va_rf v4]) dX6_variable_17 o7 rfl lk_X6_110 me_J5_add is_J5_add se_J5_add rfl rfl (Nat.le_of_ble_eq_true rfl) (MX.post (m_w_J5_add hG hO g5) ?_)
  rintro _ A5 ⟨v5, rfl, zv5, h1⟩
  refine X.xok (fun w5 => ?_)
  replace h := h v5 A5 w5 zv5 h1
  change X _ _ _ _ A5 _ _ [.int v5]
  refine x_pop dX6_variable_20 rfl ?_
  refine x_aload_n dX6_variable_21 rfl ?_
  obtain ⟨o9, h⟩ := h
  obtain ⟨R8, g8, h⟩ := h
  refine x_callV hG (Ky := kX6_register) (As := []) dX6_variable_22 o9 rfl lk_X6_254 me_X6_register is_X6_register se_X6_register rfl rfl (Nat.le_of_ble_eq_true rfl) (MX.post (m_X6_register hG hO g8) ?_)
  rintro _ A8 ⟨v8, rfl, h1⟩
  refine X.xok (fun w8 => ?_)
  replace h := h v8 A8 w8 h1
  change X _ _ _ _ A8 _ _ [.int v8]
  exact x_iret dX6_variable_25 rfl ⟨_, rfl, h⟩
def w_X6_size (G : xG) (p : Nat) (e : Option Nat) (Q : Int32 → xA → Prop) (E : Nat → xA → Prop) (A : xA) : Prop := xok G A → ∃ b1 : Nat, e = some b1 ∧ (xE A b1 ∧ (∃ R3 : Int32 → xA → Prop, g_C_0 G b1 (some p) R3 E A ∧ (∀ (v3 : Int32) (A3 : xA), xok G A3 → R3 v3 A3 → (((v3 < (1 : Int32) → xE A3 b1 ∧ (A3.tg p = 6 ∧ (∃ R5 : Option Nat → xA → Prop, w_X6_fault G p (10 : Int32) (A3.I b1 0) R5 A3 ∧ (∀ (v5 : Option Nat) (A5 : xA), xok G A5 → R5 v5 A5 → (∃ b7 : Nat, v5 = some b7 ∧ (E b7 A5)))))) ∧ (¬ v3 < (1 : Int32) → ((v3 ≤ (500 : Int32) → Q v3 A3) ∧ (¬ v3 ≤ (500 : Int32) → xE A3 b1 ∧ (A3.tg p = 6 ∧ (∃ R9 : Option Nat → xA → Prop, w_X6_fault G p (10 : Int32) (A3.I b1 0) R9 A3 ∧ (∀ (v9 : Option Nat) (A9 : xA), xok G A9 → R9 v9 A9 → (∃ b11 : Nat, v9 = some b11 ∧ (E b11 A9)))))))))))))
theorem m_X6_size (hG : xOK G) (hO : xHO G) {dp : Nat} {p : Nat} {e : Option Nat} {Q : Int32 → xA → Prop} {E : Nat → xA → Prop} {A : xA} (h : w_X6_size G p e Q E A) : MX G (dp + 921) kX6_size [.ref p, va_rf e] A (hX (hI Q) E) := by
  unfold w_X6_size at h
  refine MX.of rfl (by cases e <;> exact Nat.le_of_ble_eq_true rfl) ?_
  refine X.lvs (lv' := [some (.ref p), some (va_rf e), none]) (by cases e <;> rfl) ?_
  refine X.xok (fun w0 => ?_)
  replace h := h w0
  refine x_aloadq_n dX6_size_0 rfl ?_
  refine x_aload_n dX6_size_1 rfl ?_
  obtain ⟨b1, e1, h⟩ := h
  rw [e1]
  obtain ⟨o2, h⟩ := h
  obtain ⟨R3, g3, h⟩ := h
  refine z_disp (pc' := 2) (lv' := [some (.ref p), some (.ref b1), none]) (st' := []) (P := hX (hI R3) E) (kr := ?_) (kc := ?_)
  rotate_left
  · obtain ⟨c, tc, hc⟩ := o2
    simp only [eCl, List.mem_cons, List.not_mem_nil, or_false] at hc
    intro kr
    rcases hc with rfl | rfl | rfl | rfl | rfl | rfl | rfl | rfl
    · exact x_callU hG (Ky := kX16_constant) (As := [.ref p]) dX6_size_2 tc rfl q2306 q2308 (Or.inl q2307) xm_X15_constant me_X16_constant is_X16_constant q2338 rfl rfl (Nat.le_of_ble_eq_true rfl) (MX.post ((rc_C hG hO 900).1 tc g3) kr)
    · exact x_callU hG (Ky := kX17_constant) (As := [.ref p]) dX6_size_2 tc rfl q2306 q2308 (Or.inl q2307) xm_X15_constant me_X17_constant is_X17_constant q2332 rfl rfl (Nat.le_of_ble_eq_true rfl) (MX.post ((rc_C hG hO 900).2.1 tc g3) kr)
    · exact x_callU hG (Ky := kX18_constant) (As := [.ref p]) dX6_size_2 tc rfl q2306 q2308 (Or.inl q2307) xm_X15_constant me_X18_constant is_X18_constant q2337 rfl rfl (Nat.le_of_ble_eq_true rfl) (MX.post ((rc_C hG hO 900).2.2.1 tc g3) kr)
    · exact x_callU hG (Ky := kX19_constant) (As := [.ref p]) dX6_size_2 tc rfl q2306 q2308 (Or.inl q2307) xm_X15_constant me_X19_constant is_X19_constant q2335 rfl rfl (Nat.le_of_ble_eq_true rfl) (MX.post ((rc_C hG hO 900).2.2.2.1 tc g3) kr)
    · exact x_callU hG (Ky := kX20_constant) (As := [.ref p]) dX6_size_2 tc rfl q2306 q2308 (Or.inl q2307) xm_X15_constant me_X20_constant is_X20_constant q2309 rfl rfl (Nat.le_of_ble_eq_true rfl) (MX.post ((rc_C hG hO 900).2.2.2.2.1 tc g3) kr)
    · exact x_callU hG (Ky := kX21_constant) (As := [.ref p]) dX6_size_2 tc rfl q2306 q2308 (Or.inl q2307) xm_X15_constant me_X21_constant is_X21_constant q2336 rfl rfl (Nat.le_of_ble_eq_true rfl) (MX.post ((rc_C hG hO 900).2.2.2.2.2.1 tc g3) kr)
    · exact x_callU hG (Ky := kX22_constant) (As := [.ref p]) dX6_size_2 tc rfl q2306 q2308 (Or.inl q2307) xm_X15_constant me_X22_constant is_X22_constant q2333 rfl rfl (Nat.le_of_ble_eq_true rfl) (MX.post ((rc_C hG hO 900).2.2.2.2.2.2.1 tc g3) kr)
    · exact x_callU hG (Ky := kX23_constant) (As := [.ref p]) dX6_size_2 tc rfl q2306 q2308 (Or.inl q2307) xm_X15_constant me_X23_constant is_X23_constant q2334 rfl rfl (Nat.le_of_ble_eq_true rfl) (MX.post ((rc_C hG hO 900).2.2.2.2.2.2.2 tc g3) kr)
  rintro _ A3 (⟨v3, rfl, h1⟩ | ⟨x3, rfl, h1⟩)
  rotate_left
  · exact ⟨rfl, Or.inr ⟨_, rfl, h1⟩⟩
  refine X.xok (fun w3 => ?_)
  replace h := h v3 A3 w3 h1
  change X _ _ _ _ A3 _ _ [.int v3]
  refine x_istore_n dX6_size_5 (by decide) ?_
  refine x_iload_n dX6_size_6 rfl ?_
  refine x_iconst_ (v := (1 : Int32)) dX6_size_7 (by decide) ?_
  refine x_icmp_lt (tgt := 18) dX6_size_8 (by decide) (fun c8 => ?_) (fun c8 => ?_)
  · replace h := h.1 c8
    refine x_aload_n dX6_size_18 rfl ?_
    refine x_bipush_ (v := (10 : Int32)) dX6_size_19 (by decide) ?_
    refine x_aload_n dX6_size_21 rfl ?_
    obtain ⟨o4, h⟩ := h
    refine z_getE hG dX6_size_22 fE_X6_169 o4 ?_
    obtain ⟨o6, h⟩ := h
    obtain ⟨R5, g5, h⟩ := h
    refine x_callV hG (Ky := kX6_fault) (As := [.int (10 : Int32), .int (A3.I b1 0)]) dX6_size_25 o6 rfl lk_X6_95 me_X6_fault is_X6_fault se_X6_fault rfl rfl (Nat.le_of_ble_eq_true rfl) (MX.post (m_X6_fault hG hO g5) ?_)
    rintro _ A5 ⟨v5, rfl, h1⟩
    refine X.xok (fun w5 => ?_)
    replace h := h v5 A5 w5 h1
    change X _ _ _ _ A5 _ _ [va_rf v5]
    obtain ⟨b7, e7, h⟩ := h
    rw [e7]
    exact x_athrow dX6_size_28 rfl (Or.inr ⟨_, rfl, h⟩)
  · replace h := h.2 c8
    refine x_iload_n dX6_size_11 rfl ?_
    refine x_sipush_ (v := (500 : Int32)) dX6_size_12 (by decide) ?_
    refine x_icmp_le (tgt := 29) dX6_size_15 (by decide) (fun c15 => ?_) (fun c15 => ?_)
    · replace h := h.1 c15
      refine x_iload_n dX6_size_29 rfl ?_
      exact x_iret dX6_size_30 rfl (Or.inl ⟨_, rfl, h⟩)
    · replace h := h.2 c15
      refine x_aload_n dX6_size_18 rfl ?_
      refine x_bipush_ (v := (10 : Int32)) dX6_size_19 (by decide) ?_
      refine x_aload_n dX6_size_21 rfl ?_
      obtain ⟨o8, h⟩ := h
      refine z_getE hG dX6_size_22 fE_X6_169 o8 ?_
      obtain ⟨o10, h⟩ := h
      obtain ⟨R9, g9, h⟩ := h
      refine x_callV hG (Ky := kX6_fault) (As := [.int (10 : Int32), .int (A3.I b1 0)]) dX6_size_25 o10 rfl lk_X6_95 me_X6_fault is_X6_fault se_X6_fault rfl rfl (Nat.le_of_ble_eq_true rfl) (MX.post (m_X6_fault hG hO g9) ?_)
      rintro _ A9 ⟨v9, rfl, h1⟩
      refine X.xok (fun w9 => ?_)
      replace h := h v9 A9 w9 h1
      change X _ _ _ _ A9 _ _ [va_rf v9]
      obtain ⟨b11, e11, h⟩ := h
      rw [e11]
      exact x_athrow dX6_size_28 rfl (Or.inr ⟨_, rfl, h⟩)
def w_X6_list (G : xG) (p : Nat) (t : Option Nat) (s : Option Nat) (Q : xA → Prop) (E : Nat → xA → Prop) (A : xA) : Prop := xok G A → ∃ L1 : Nat → Int32 → xA → Prop, (∃ n1 : Nat, L1 n1 (0 : Int32) A) ∧ (∀ (n1 : Nat) (y1_3 : Int32) (A1 : xA), L1 n1 y1_3 A1 → ∃ b2 : Nat, t = some b2 ∧ (A1.tg b2 = 14 ∧ (∃ b5 : Nat, (A1.P b2 7) = some b5 ∧ (A1.tg b5 = 37 ∧ (∃ R4 : Int32 → xA → Prop, w_J5_size G b5 R4 A1 ∧ (∀ (v4 : Int32) (A4 : xA), xok G A4 → R4 v4 A4 → (((v4 ≤ y1_3 → Q A4) ∧ (¬ v4 ≤ y1_3 → A4.tg b2 = 14 ∧ (∃ b9 : Nat, (A4.P b2 7) = some b9 ∧ (A4.tg b9 = 37 ∧ (∃ R8 : Option Nat → xA → Prop, w_J5_get G b9 y1_3 R8 A4 ∧ (∀ (v8 : Option Nat) (A8 : xA), xok G A8 → R8 v8 A8 → (∃ b11 : Nat, v8 = some b11 ∧ (xE A8 b11 ∧ (∃ b13 : Nat, s = some b13 ∧ (A8.tg b13 = 33 ∧ (((y1_3 = (A8.I b13 4) → ∃ R30 : Int32 → xA → Prop, g_L_0 G b11 R30 A8 ∧ (∀ (v30 : Int32) (A30 : xA), xok G A30 → R30 v30 A30 → (∃ J31 : xA → Prop, (∀ (A31 : xA), J31 A31 → xE A31 b11 ∧ (A31.tg p = 6 ∧ (∃ R33 : Option Nat → xA → Prop, w_X6_fault G p (10 : Int32) (A31.I b11 0) R33 A31 ∧ (∀ (v33 : Option Nat) (A33 : xA), xok G A33 → R33 v33 A33 → (∃ b35 : Nat, v33 = some b35 ∧ (E b35 A33)))))) ∧ ((v30 < 0 → J31 A30) ∧ (¬ v30 < 0 → xE A30 b11 ∧ (∃ R37 : Int32 → xA → Prop, g_L_0 G b11 R37 A30 ∧ (∀ (v37 : Int32) (A37 : xA), xok G A37 → R37 v37 A37 → (xE A37 b11 ∧ (A37.tg p = 6 ∧ (∃ R39 : Option Nat → xA → Prop, w_X6_known G p v37 (A37.I b11 0) R39 E A37 ∧ (∀ (v39 : Option Nat) (A39 : xA), xok G A39 → R39 v39 A39 → (J31 A39)))))))))))) ∧ (¬ y1_3 = (A8.I b13 4) → ∃ R15 : Int32 → xA → Prop, g_C_0 G b11 (some p) R15 E A8 ∧ (∀ (v15 : Int32) (A15 : xA), xok G A15 → R15 v15 A15 → (A15.tg b13 = 33 ∧ (∃ J17 : xA → Prop, (∀ (A17 : xA), J17 A17 → (∃ q1 : Nat, q1 < n1 ∧ L1 q1 (y1_3 + (1 : Int32)) A17)) ∧ (((A15.I b13 3) = 0 → A15.tg p = 6 ∧ (∃ b19 : Nat, (A15.P p 15) = some b19 ∧ (A15.tg b19 = 200 ∧ (G.N ≤ b19 ∧ (vp_in ((A15.I b13 2) + y1_3) (A15.ln b19) ∧ (∀ A23 : xA, A23 = A15.setI b19 (ix ((A15.I b13 2) + y1_3)) v15 → (J17 A23))))))) ∧ (¬ (A15.I b13 3) = 0 → A15.tg p = 6 ∧ (∃ b25 : Nat, (A15.P p 15) = some b25 ∧ (A15.tg b25 = 200 ∧ (vp_in ((A15.I b13 2) + (y1_3 / (4 : Int32))) (A15.ln b25) ∧ (G.N ≤ b25 ∧ (∀ A29 : xA, A29 = A15.setI b25 (ix ((A15.I b13 2) + (y1_3 / (4 : Int32)))) ((A15.I b25 (ix ((A15.I b13 2) + (y1_3 / (4 : Int32))))) ||| (jishl (v15 &&& (255 : Int32)) ((8 : Int32) * (irem_ y1_3 (4 : Int32))))) → (J17 A29)))))))))))))))))))))))))))))))
theorem m_X6_list (hG : xOK G) (hO : xHO G) {dp : Nat} {p : Nat} {t : Option Nat} {s : Option Nat} {Q : xA → Prop} {E : Nat → xA → Prop} {A : xA} (h : w_X6_list G p t s Q E A) : MX G (dp + 921) kX6_list [.ref p, va_rf t, va_rf s] A (hX (hV Q) E) := by
  unfold w_X6_list at h
  refine MX.of rfl (by cases t <;> cases s <;> exact Nat.le_of_ble_eq_true rfl) ?_
  refine X.lvs (lv' := [some (.ref p), some (va_rf t), some (va_rf s), none, none, none]) (by cases t <;> cases s <;> rfl) ?_
  refine X.xok (fun w0 => ?_)
  replace h := h w0
  refine x_iconst_ (v := (0 : Int32)) dX6_list_0 (by decide) ?_
  refine x_istore_n dX6_list_1 (by decide) ?_
  refine X.lvs (lv' := [some (.ref p), some (va_rf t), some (va_rf s), some (.int (0 : Int32)), none, none]) (by generalize s = z; cases z <;> rfl) ?_
  obtain ⟨L1, ⟨n1, i1⟩, g1⟩ := h
  have kl1 : ∀ n1 : Nat, ∀ (y1_3 : Int32) (A1 : xA), L1 n1 y1_3 A1 → X G (dp + 921) kX6_list (hX (hV Q) E) A1 2 [some (.ref p), some (va_rf t), some (va_rf s), some (.int y1_3), none, none] [] := by
    intro n1
    induction n1 using Nat.strongRecOn with
    | ind n1 ih1 =>
      intro y1_3 A1 h
      replace h := g1 n1 y1_3 A1 h
      refine x_iload_n dX6_list_2 rfl ?_
      refine x_aloadq_n dX6_list_3 rfl ?_
      obtain ⟨b2, e2, h⟩ := h
      rw [e2]
      obtain ⟨o3, h⟩ := h
      refine x_get (v := va_rf (A1.P b2 7)) hG dX6_list_4 f_X6_163_13 o3 rfl ?_
      obtain ⟨b5, e5, h⟩ := h
      rw [e5]
      obtain ⟨o6, h⟩ := h
      obtain ⟨R4, g4, h⟩ := h
      refine x_callV hG (Ky := kJ5_size) (As := []) dX6_list_7 o6 rfl lk_X6_55 me_J5_size is_J5_size se_J5_size rfl rfl (Nat.le_of_ble_eq_true rfl) (MX.post (m_w_J5_size hG hO g4) ?_)
      rintro _ A4 ⟨v4, rfl, h1⟩
      refine X.xok (fun w4 => ?_)
      replace h := h v4 A4 w4 h1
      change X _ _ _ _ A4 _ _ [.int v4, .int y1_3]
      refine x_icmp_ge (tgt := 135) dX6_list_10 (by decide) (fun c10 => ?_) (fun c10 => ?_)
      · replace h := h.1 c10
        exact x_vret dX6_list_135 rfl (Or.inl ⟨rfl, h⟩)
      · replace h := h.2 c10
        refine x_aload_n dX6_list_13 rfl ?_
        obtain ⟨o7, h⟩ := h
        refine x_get (v := va_rf (A4.P b2 7)) hG dX6_list_14 f_X6_163_13 o7 rfl ?_
        refine x_iload_n dX6_list_17 rfl ?_
        obtain ⟨b9, e9, h⟩ := h
        rw [e9]
        obtain ⟨o10, h⟩ := h
        obtain ⟨R8, g8, h⟩ := h
        refine x_callV hG (Ky := kJ5_get) (As := [.int y1_3]) dX6_list_18 o10 rfl lk_X6_59 me_J5_get is_J5_get se_J5_get rfl rfl (Nat.le_of_ble_eq_true rfl) (MX.post (m_w_J5_get hG hO g8) ?_)
        rintro _ A8 ⟨v8, rfl, h1⟩
        refine X.xok (fun w8 => ?_)
        replace h := h v8 A8 w8 h1
        change X _ _ _ _ A8 _ _ [va_rf v8]
        obtain ⟨b11, e11, h⟩ := h
        rw [e11]
        obtain ⟨o12, h⟩ := h
        refine z_castE hG dX6_list_21 q2383 o12 ?_
        refine x_astore dX6_list_24 (by decide) ?_
        refine x_iload_n dX6_list_26 rfl ?_
        refine x_aloadq_n dX6_list_27 rfl ?_
        obtain ⟨b13, e13, h⟩ := h
        rw [e13]
        obtain ⟨o14, h⟩ := h
        refine x_get (v := .int (A8.I b13 4)) hG dX6_list_28 f_X6_155_32 o14 rfl ?_
        refine x_icmp_ne (tgt := 69) dX6_list_31 (by decide) (fun c31 => ?_) (fun c31 => ?_)
        · replace h := h.2 c31
          refine x_aload dX6_list_69 rfl ?_
          refine x_aload_n dX6_list_71 rfl ?_
          obtain ⟨R15, g15, h⟩ := h
          refine z_disp (pc' := 72) (lv' := [some (.ref p), some (.ref b2), some (.ref b13), some (.int y1_3), some (.ref b11), none]) (st' := []) (P := hX (hI R15) E) (kr := ?_) (kc := ?_)
          rotate_left
          · obtain ⟨c, tc, hc⟩ := o12
            simp only [eCl, List.mem_cons, List.not_mem_nil, or_false] at hc
            intro kr
            rcases hc with rfl | rfl | rfl | rfl | rfl | rfl | rfl | rfl
            · exact x_callU hG (Ky := kX16_constant) (As := [.ref p]) dX6_list_72 tc rfl q2306 q2308 (Or.inl q2307) xm_X15_constant me_X16_constant is_X16_constant q2338 rfl rfl (Nat.le_of_ble_eq_true rfl) (MX.post ((rc_C hG hO 900).1 tc g15) kr)
            · exact x_callU hG (Ky := kX17_constant) (As := [.ref p]) dX6_list_72 tc rfl q2306 q2308 (Or.inl q2307) xm_X15_constant me_X17_constant is_X17_constant q2332 rfl rfl (Nat.le_of_ble_eq_true rfl) (MX.post ((rc_C hG hO 900).2.1 tc g15) kr)
            · exact x_callU hG (Ky := kX18_constant) (As := [.ref p]) dX6_list_72 tc rfl q2306 q2308 (Or.inl q2307) xm_X15_constant me_X18_constant is_X18_constant q2337 rfl rfl (Nat.le_of_ble_eq_true rfl) (MX.post ((rc_C hG hO 900).2.2.1 tc g15) kr)
            · exact x_callU hG (Ky := kX19_constant) (As := [.ref p]) dX6_list_72 tc rfl q2306 q2308 (Or.inl q2307) xm_X15_constant me_X19_constant is_X19_constant q2335 rfl rfl (Nat.le_of_ble_eq_true rfl) (MX.post ((rc_C hG hO 900).2.2.2.1 tc g15) kr)
            · exact x_callU hG (Ky := kX20_constant) (As := [.ref p]) dX6_list_72 tc rfl q2306 q2308 (Or.inl q2307) xm_X15_constant me_X20_constant is_X20_constant q2309 rfl rfl (Nat.le_of_ble_eq_true rfl) (MX.post ((rc_C hG hO 900).2.2.2.2.1 tc g15) kr)
            · exact x_callU hG (Ky := kX21_constant) (As := [.ref p]) dX6_list_72 tc rfl q2306 q2308 (Or.inl q2307) xm_X15_constant me_X21_constant is_X21_constant q2336 rfl rfl (Nat.le_of_ble_eq_true rfl) (MX.post ((rc_C hG hO 900).2.2.2.2.2.1 tc g15) kr)
            · exact x_callU hG (Ky := kX22_constant) (As := [.ref p]) dX6_list_72 tc rfl q2306 q2308 (Or.inl q2307) xm_X15_constant me_X22_constant is_X22_constant q2333 rfl rfl (Nat.le_of_ble_eq_true rfl) (MX.post ((rc_C hG hO 900).2.2.2.2.2.2.1 tc g15) kr)
            · exact x_callU hG (Ky := kX23_constant) (As := [.ref p]) dX6_list_72 tc rfl q2306 q2308 (Or.inl q2307) xm_X15_constant me_X23_constant is_X23_constant q2334 rfl rfl (Nat.le_of_ble_eq_true rfl) (MX.post ((rc_C hG hO 900).2.2.2.2.2.2.2 tc g15) kr)
          rintro _ A15 (⟨v15, rfl, h1⟩ | ⟨x15, rfl, h1⟩)
          rotate_left
          · exact ⟨rfl, Or.inr ⟨_, rfl, h1⟩⟩
          refine X.xok (fun w15 => ?_)
          replace h := h v15 A15 w15 h1
          change X _ _ _ _ A15 _ _ [.int v15]
          refine x_istore dX6_list_75 (by decide) ?_
          refine x_aload_n dX6_list_77 rfl ?_
          obtain ⟨o16, h⟩ := h
          refine x_get (v := .int (A15.I b13 3)) hG dX6_list_78 f_X6_154_32 o16 rfl ?_
          obtain ⟨J17, g17, h⟩ := h
          have kj17 : ∀ (A17 : xA), J17 A17 → X G (dp + 921) kX6_list (hX (hV Q) E) A17 129 [some (.ref p), some (.ref b2), some (.ref b13), some (.int y1_3), none, none] [] := by
            intro A17 h
            replace h := g17 A17 h
            refine x_iinc (v := (y1_3 + (1 : Int32))) dX6_list_129 rfl rfl (by decide) ?_
            refine x_goto (tgt := 2) dX6_list_132 (by decide) ?_
            obtain ⟨q1, l1, h⟩ := h
            change X _ _ _ _ _ _ [some (.ref p), some (.ref b2), some (.ref b13), some (.int (y1_3 + (1 : Int32))), none, none] []
            exact X.weak (xle_c rfl (xle_c (congrArg (fun z => some (va_rf z)) e2.symm) (xle_c (congrArg (fun z => some (va_rf z)) e13.symm) (xle_c rfl (xle_n (xle_n xle_nil)))))) (ih1 q1 l1 (y1_3 + (1 : Int32)) A17 h)
          refine x_if_eq (tgt := 116) dX6_list_81 (by decide) (fun c81 => ?_) (fun c81 => ?_)
          · replace h := h.1 c81
            refine x_aload_n dX6_list_116 rfl ?_
            obtain ⟨o18, h⟩ := h
            refine x_get (v := va_rf (A15.P p 15)) hG dX6_list_117 f_X6_25_5 o18 rfl ?_
            refine x_aload_n dX6_list_120 rfl ?_
            refine x_get (v := .int (A15.I b13 2)) hG dX6_list_121 f_X6_161_32 o16 rfl ?_
            refine x_iload_n dX6_list_124 rfl ?_
            refine x_iadd dX6_list_125 ?_
            refine x_iload dX6_list_126 rfl ?_
            obtain ⟨b19, e19, h⟩ := h
            rw [e19]
            obtain ⟨o20, h⟩ := h
            obtain ⟨o21, h⟩ := h
            obtain ⟨o22, h⟩ := h
            refine z_iast hG dX6_list_128 o20 o21 o22 (fun A23 e23 => ?_)
            replace h := h A23 e23
            change X _ _ _ _ _ _ [some (.ref p), some (.ref b2), some (.ref b13), some (.int y1_3), some (.ref b11), some (.int v15)] []
            exact X.weak (xle_c rfl (xle_c rfl (xle_c rfl (xle_c rfl (xle_n (xle_n xle_nil)))))) (kj17 A23 h)
          · replace h := h.2 c81
            refine x_aload_n dX6_list_84 rfl ?_
            obtain ⟨o24, h⟩ := h
            refine x_get (v := va_rf (A15.P p 15)) hG dX6_list_85 f_X6_25_5 o24 rfl ?_
            refine x_aload_n dX6_list_88 rfl ?_
            refine x_get (v := .int (A15.I b13 2)) hG dX6_list_89 f_X6_161_32 o16 rfl ?_
            refine x_iload_n dX6_list_92 rfl ?_
            refine x_iconst_ (v := (4 : Int32)) dX6_list_93 (by decide) ?_
            refine x_idiv dX6_list_94 (by decide) ?_
            refine x_iadd dX6_list_95 ?_
            refine x_dup2_11 dX6_list_96 rfl (va_rf_cat _) ?_
            obtain ⟨b25, e25, h⟩ := h
            rw [e25]
            obtain ⟨o26, h⟩ := h
            obtain ⟨o27, h⟩ := h
            refine x_iald hG dX6_list_97 o26 o27 ?_
            refine x_iload dX6_list_98 rfl ?_
            refine x_sipush_ (v := (255 : Int32)) dX6_list_100 (by decide) ?_
            refine x_iand dX6_list_103 ?_
            refine x_bipush_ (v := (8 : Int32)) dX6_list_104 (by decide) ?_
            refine x_iload_n dX6_list_106 rfl ?_
            refine x_iconst_ (v := (4 : Int32)) dX6_list_107 (by decide) ?_
            refine x_irem dX6_list_108 (by decide) ?_
            refine x_eqi (v := (irem_ y1_3 (4 : Int32))) rfl ?_
            refine x_imul dX6_list_109 ?_
            refine x_ishl dX6_list_110 ?_
            refine x_eqi (v := (jishl (v15 &&& (255 : Int32)) ((8 : Int32) * (irem_ y1_3 (4 : Int32))))) rfl ?_
            refine x_ior dX6_list_111 ?_
            obtain ⟨o28, h⟩ := h
            refine z_iast hG dX6_list_112 o26 o28 o27 (fun A29 e29 => ?_)
            replace h := h A29 e29
            refine x_goto (tgt := 129) dX6_list_113 (by decide) ?_
            change X _ _ _ _ _ _ [some (.ref p), some (.ref b2), some (.ref b13), some (.int y1_3), some (.ref b11), some (.int v15)] []
            exact X.weak (xle_c rfl (xle_c rfl (xle_c rfl (xle_c rfl (xle_n (xle_n xle_nil)))))) (kj17 A29 h)
        · replace h := h.1 c31
          refine x_aload dX6_list_34 rfl ?_
          obtain ⟨R30, g30, h⟩ := h
          refine z_disp (pc' := 36) (lv' := [some (.ref p), some (.ref b2), some (.ref b13), some (.int y1_3), some (.ref b11), none]) (st' := []) (P := hI R30) (kr := ?_) (kc := ?_)
          rotate_left
          · obtain ⟨c, tc, hc⟩ := o12
            simp only [eCl, List.mem_cons, List.not_mem_nil, or_false] at hc
            intro kr
            rcases hc with rfl | rfl | rfl | rfl | rfl | rfl | rfl | rfl
            · exact x_callU hG (Ky := kX15_leading) (As := []) dX6_list_36 tc rfl q2384 q2153 (Or.inr ⟨is_X15_leading, _, _, _, me_X15_leading.1⟩) xm_X15_leading me_X15_leading is_X15_leading q2174 rfl rfl (Nat.le_of_ble_eq_true rfl) (MX.post ((rc_L hG hO 800).1 tc g30) kr)
            · exact x_callU hG (Ky := kX17_leading) (As := []) dX6_list_36 tc rfl q2384 q2153 (Or.inr ⟨is_X15_leading, _, _, _, me_X15_leading.1⟩) xm_X15_leading me_X17_leading is_X17_leading q2155 rfl rfl (Nat.le_of_ble_eq_true rfl) (MX.post ((rc_L hG hO 800).2.1 tc g30) kr)
            · exact x_callU hG (Ky := kX18_leading) (As := []) dX6_list_36 tc rfl q2384 q2153 (Or.inr ⟨is_X15_leading, _, _, _, me_X15_leading.1⟩) xm_X15_leading me_X18_leading is_X18_leading q2173 rfl rfl (Nat.le_of_ble_eq_true rfl) (MX.post ((rc_L hG hO 800).2.2.1 tc g30) kr)
            · exact x_callU hG (Ky := kX15_leading) (As := []) dX6_list_36 tc rfl q2384 q2153 (Or.inr ⟨is_X15_leading, _, _, _, me_X15_leading.1⟩) xm_X15_leading me_X15_leading is_X15_leading q2171 rfl rfl (Nat.le_of_ble_eq_true rfl) (MX.post ((rc_L hG hO 800).2.2.2.1 tc g30) kr)
            · exact x_callU hG (Ky := kX15_leading) (As := []) dX6_list_36 tc rfl q2384 q2153 (Or.inr ⟨is_X15_leading, _, _, _, me_X15_leading.1⟩) xm_X15_leading me_X15_leading is_X15_leading q2154 rfl rfl (Nat.le_of_ble_eq_true rfl) (MX.post ((rc_L hG hO 800).2.2.2.2.1 tc g30) kr)
            · exact x_callU hG (Ky := kX21_leading) (As := []) dX6_list_36 tc rfl q2384 q2153 (Or.inr ⟨is_X15_leading, _, _, _, me_X15_leading.1⟩) xm_X15_leading me_X21_leading is_X21_leading q2172 rfl rfl (Nat.le_of_ble_eq_true rfl) (MX.post ((rc_L hG hO 800).2.2.2.2.2.1 tc g30) kr)
            · exact x_callU hG (Ky := kX22_leading) (As := []) dX6_list_36 tc rfl q2384 q2153 (Or.inr ⟨is_X15_leading, _, _, _, me_X15_leading.1⟩) xm_X15_leading me_X22_leading is_X22_leading q2158 rfl rfl (Nat.le_of_ble_eq_true rfl) (MX.post ((rc_L hG hO 800).2.2.2.2.2.2.1 tc g30) kr)
            · exact x_callU hG (Ky := kX23_leading) (As := []) dX6_list_36 tc rfl q2384 q2153 (Or.inr ⟨is_X15_leading, _, _, _, me_X15_leading.1⟩) xm_X15_leading me_X23_leading is_X23_leading q2170 rfl rfl (Nat.le_of_ble_eq_true rfl) (MX.post ((rc_L hG hO 800).2.2.2.2.2.2.2 tc g30) kr)
          rintro _ A30 ⟨v30, rfl, h1⟩
          refine X.xok (fun w30 => ?_)
          replace h := h v30 A30 w30 h1
          change X _ _ _ _ A30 _ _ [.int v30]
          obtain ⟨J31, g31, h⟩ := h
          have kj31 : ∀ (A31 : xA), J31 A31 → X G (dp + 921) kX6_list (hX (hV Q) E) A31 57 [some (.ref p), none, none, none, some (.ref b11), none] [] := by
            intro A31 h
            replace h := g31 A31 h
            refine x_aload_n dX6_list_57 rfl ?_
            refine x_bipush_ (v := (10 : Int32)) dX6_list_58 (by decide) ?_
            refine x_aload dX6_list_60 rfl ?_
            obtain ⟨o32, h⟩ := h
            refine z_getE hG dX6_list_62 fE_X6_169 o32 ?_
            obtain ⟨o34, h⟩ := h
            obtain ⟨R33, g33, h⟩ := h
            refine x_callV hG (Ky := kX6_fault) (As := [.int (10 : Int32), .int (A31.I b11 0)]) dX6_list_65 o34 rfl lk_X6_95 me_X6_fault is_X6_fault se_X6_fault rfl rfl (Nat.le_of_ble_eq_true rfl) (MX.post (m_X6_fault hG hO g33) ?_)
            rintro _ A33 ⟨v33, rfl, h1⟩
            refine X.xok (fun w33 => ?_)
            replace h := h v33 A33 w33 h1
            change X _ _ _ _ A33 _ _ [va_rf v33]
            obtain ⟨b35, e35, h⟩ := h
            rw [e35]
            exact x_athrow dX6_list_68 rfl (Or.inr ⟨_, rfl, h⟩)
          refine x_if_lt (tgt := 57) dX6_list_39 (by decide) (fun c39 => ?_) (fun c39 => ?_)
          · replace h := h.1 c39
            change X _ _ _ _ _ _ [some (.ref p), some (.ref b2), some (.ref b13), some (.int y1_3), some (.ref b11), none] []
            exact X.weak (xle_c rfl (xle_n (xle_n (xle_n (xle_c rfl (xle_n xle_nil)))))) (kj31 A30 h)
          · replace h := h.2 c39
            refine x_aload_n dX6_list_42 rfl ?_
            refine x_aload dX6_list_43 rfl ?_
            obtain ⟨o36, h⟩ := h
            obtain ⟨R37, g37, h⟩ := h
            refine z_disp (pc' := 45) (lv' := [some (.ref p), some (.ref b2), some (.ref b13), some (.int y1_3), some (.ref b11), none]) (st' := [.ref p]) (P := hI R37) (kr := ?_) (kc := ?_)
            rotate_left
            · obtain ⟨c, tc, hc⟩ := o36
              simp only [eCl, List.mem_cons, List.not_mem_nil, or_false] at hc
              intro kr
              rcases hc with rfl | rfl | rfl | rfl | rfl | rfl | rfl | rfl
              · exact x_callU hG (Ky := kX15_leading) (As := []) dX6_list_45 tc rfl q2384 q2153 (Or.inr ⟨is_X15_leading, _, _, _, me_X15_leading.1⟩) xm_X15_leading me_X15_leading is_X15_leading q2174 rfl rfl (Nat.le_of_ble_eq_true rfl) (MX.post ((rc_L hG hO 800).1 tc g37) kr)
              · exact x_callU hG (Ky := kX17_leading) (As := []) dX6_list_45 tc rfl q2384 q2153 (Or.inr ⟨is_X15_leading, _, _, _, me_X15_leading.1⟩) xm_X15_leading me_X17_leading is_X17_leading q2155 rfl rfl (Nat.le_of_ble_eq_true rfl) (MX.post ((rc_L hG hO 800).2.1 tc g37) kr)
              · exact x_callU hG (Ky := kX18_leading) (As := []) dX6_list_45 tc rfl q2384 q2153 (Or.inr ⟨is_X15_leading, _, _, _, me_X15_leading.1⟩) xm_X15_leading me_X18_leading is_X18_leading q2173 rfl rfl (Nat.le_of_ble_eq_true rfl) (MX.post ((rc_L hG hO 800).2.2.1 tc g37) kr)
              · exact x_callU hG (Ky := kX15_leading) (As := []) dX6_list_45 tc rfl q2384 q2153 (Or.inr ⟨is_X15_leading, _, _, _, me_X15_leading.1⟩) xm_X15_leading me_X15_leading is_X15_leading q2171 rfl rfl (Nat.le_of_ble_eq_true rfl) (MX.post ((rc_L hG hO 800).2.2.2.1 tc g37) kr)
              · exact x_callU hG (Ky := kX15_leading) (As := []) dX6_list_45 tc rfl q2384 q2153 (Or.inr ⟨is_X15_leading, _, _, _, me_X15_leading.1⟩) xm_X15_leading me_X15_leading is_X15_leading q2154 rfl rfl (Nat.le_of_ble_eq_true rfl) (MX.post ((rc_L hG hO 800).2.2.2.2.1 tc g37) kr)
              · exact x_callU hG (Ky := kX21_leading) (As := []) dX6_list_45 tc rfl q2384 q2153 (Or.inr ⟨is_X15_leading, _, _, _, me_X15_leading.1⟩) xm_X15_leading me_X21_leading is_X21_leading q2172 rfl rfl (Nat.le_of_ble_eq_true rfl) (MX.post ((rc_L hG hO 800).2.2.2.2.2.1 tc g37) kr)
              · exact x_callU hG (Ky := kX22_leading) (As := []) dX6_list_45 tc rfl q2384 q2153 (Or.inr ⟨is_X15_leading, _, _, _, me_X15_leading.1⟩) xm_X15_leading me_X22_leading is_X22_leading q2158 rfl rfl (Nat.le_of_ble_eq_true rfl) (MX.post ((rc_L hG hO 800).2.2.2.2.2.2.1 tc g37) kr)
              · exact x_callU hG (Ky := kX23_leading) (As := []) dX6_list_45 tc rfl q2384 q2153 (Or.inr ⟨is_X15_leading, _, _, _, me_X15_leading.1⟩) xm_X15_leading me_X23_leading is_X23_leading q2170 rfl rfl (Nat.le_of_ble_eq_true rfl) (MX.post ((rc_L hG hO 800).2.2.2.2.2.2.2 tc g37) kr)
            rintro _ A37 ⟨v37, rfl, h1⟩
            refine X.xok (fun w37 => ?_)
            replace h := h v37 A37 w37 h1
            change X _ _ _ _ A37 _ _ [.int v37, .ref p]
            refine x_aload dX6_list_48 rfl ?_
            obtain ⟨o38, h⟩ := h
            refine z_getE hG dX6_list_50 fE_X6_169 o38 ?_
            obtain ⟨o40, h⟩ := h
            obtain ⟨R39, g39, h⟩ := h
            refine x_callV hG (Ky := kX6_known) (As := [.int v37, .int (A37.I b11 0)]) dX6_list_53 o40 rfl lk_X6_171 me_X6_known is_X6_known se_X6_known rfl rfl (Nat.le_of_ble_eq_true rfl) (MX.post (m_X6_known hG hO g39) ?_)
            rintro _ A39 (⟨v39, rfl, h1⟩ | ⟨x39, rfl, h1⟩)
            rotate_left
            · exact ⟨rfl, Or.inr ⟨_, rfl, h1⟩⟩
            refine X.xok (fun w39 => ?_)
            replace h := h v39 A39 w39 h1
            change X _ _ _ _ A39 _ _ [va_rf v39]
            refine x_pop dX6_list_56 (va_rf_cat _) ?_
            change X _ _ _ _ _ _ [some (.ref p), some (.ref b2), some (.ref b13), some (.int y1_3), some (.ref b11), none] []
            exact X.weak (xle_c rfl (xle_n (xle_n (xle_n (xle_c rfl (xle_n xle_nil)))))) (kj31 A39 h)
  change X _ _ _ _ _ _ [some (.ref p), some (va_rf t), some (va_rf s), some (.int (0 : Int32)), none, none] []
  exact X.weak (xle_c rfl (xle_c rfl (xle_c rfl (xle_c rfl (xle_n (xle_n xle_nil)))))) (kl1 n1 (0 : Int32) A i1)
def w_X18_target (G : xG) (p : Nat) (m : Option Nat) (Q : Option Nat → xA → Prop) (E : Nat → xA → Prop) (A : xA) : Prop := xok G A → A.tg p = 17 ∧ (∃ b3 : Nat, m = some b3 ∧ (A.tg b3 = 6 ∧ (∃ R2 : Option Nat → xA → Prop, w_X6_known G b3 (A.I p 1) (A.I p 2) R2 E A ∧ (∀ (v2 : Option Nat) (A2 : xA), xok G A2 → R2 v2 A2 → (A2.tg p = 17 ∧ ((((A2.P p 4) = none → ∃ b15 : Nat, v2 = some b15 ∧ (A2.tg b15 = 33 ∧ (∃ R14 : Int32 → xA → Prop, w_X34_isArray G b15 R14 A2 ∧ (∀ (v14 : Int32) (A14 : xA), xok G A14 → (v14 = 0 ∨ v14 = 1) → R14 v14 A14 → (((v14 = 0 → A14.tg b15 = 33 ∧ ((((A14.I b15 1) = (6 : Int32) → A14.tg p = 17 ∧ (A14.tg b3 = 6 ∧ (∃ R23 : Option Nat → xA → Prop, w_X6_fault G b3 (6 : Int32) (A14.I p 2) R23 A14 ∧ (∀ (v23 : Option Nat) (A23 : xA), xok G A23 → R23 v23 A23 → (∃ b25 : Nat, v23 = some b25 ∧ (E b25 A23)))))) ∧ (¬ (A14.I b15 1) = (6 : Int32) → (((A14.I b15 1) = 0 → A14.tg p = 17 ∧ (A14.tg b3 = 6 ∧ (∃ R27 : Option Nat → xA → Prop, w_X6_fault G b3 (6 : Int32) (A14.I p 2) R27 A14 ∧ (∀ (v27 : Option Nat) (A27 : xA), xok G A27 → R27 v27 A27 → (∃ b29 : Nat, v27 = some b29 ∧ (E b29 A27)))))) ∧ (¬ (A14.I b15 1) = 0 → Q (some b15) A14)))))) ∧ (¬ v14 = 0 → A14.tg p = 17 ∧ (A14.tg b3 = 6 ∧ (∃ R18 : Option Nat → xA → Prop, w_X6_fault G b3 (6 : Int32) (A14.I p 2) R18 A14 ∧ (∀ (v18 : Option Nat) (A18 : xA), xok G A18 → R18 v18 A18 → (∃ b20 : Nat, v18 = some b20 ∧ (E b20 A18)))))))))))) ∧ (∀ b6 : Nat, (A2.P p 4) = some b6 → ∃ b8 : Nat, v2 = some b8 ∧ (A2.tg b8 = 33 ∧ (∃ R7 : Int32 → xA → Prop, w_X34_isArray G b8 R7 A2 ∧ (∀ (v7 : Int32) (A7 : xA), xok G A7 → (v7 = 0 ∨ v7 = 1) → R7 v7 A7 → (((v7 = 0 → A7.tg p = 17 ∧ (A7.tg b3 = 6 ∧ (∃ R11 : Option Nat → xA → Prop, w_X6_fault G b3 (6 : Int32) (A7.I p 2) R11 A7 ∧ (∀ (v11 : Option Nat) (A11 : xA), xok G A11 → R11 v11 A11 → (∃ b13 : Nat, v11 = some b13 ∧ (E b13 A11)))))) ∧ (¬ v7 = 0 → Q (some b8) A7))))))))))))))
theorem m_X18_target (hG : xOK G) (hO : xHO G) {dp : Nat} {p : Nat} {m : Option Nat} {Q : Option Nat → xA → Prop} {E : Nat → xA → Prop} {A : xA} (h : w_X18_target G p m Q E A) : MX G (dp + 5) kX18_target [.ref p, va_rf m] A (hX (hR Q) E) := by
  unfold w_X18_target at h
  refine MX.of rfl (by cases m <;> exact Nat.le_of_ble_eq_true rfl) ?_
  refine X.lvs (lv' := [some (.ref p), some (va_rf m), none]) (by cases m <;> rfl) ?_
  refine X.xok (fun w0 => ?_)
  replace h := h w0
  refine x_aloadq_n dX18_target_0 rfl ?_
  refine x_aload_n dX18_target_1 rfl ?_
  obtain ⟨o1, h⟩ := h
  refine x_get (v := .int (A.I p 1)) hG dX18_target_2 f_X18_15_16 o1 rfl ?_
  refine x_aload_n dX18_target_5 rfl ?_
  refine x_get (v := .int (A.I p 2)) hG dX18_target_6 f_X18_9_16 o1 rfl ?_
  obtain ⟨b3, e3, h⟩ := h
  rw [e3]
  obtain ⟨o4, h⟩ := h
  obtain ⟨R2, g2, h⟩ := h
  refine x_callV hG (Ky := kX6_known) (As := [.int (A.I p 1), .int (A.I p 2)]) dX18_target_9 o4 rfl lk_X18_25 me_X6_known is_X6_known se_X6_known rfl rfl (Nat.le_of_ble_eq_true rfl) (MX.post (m_X6_known hG hO g2) ?_)
  rintro _ A2 (⟨v2, rfl, h1⟩ | ⟨x2, rfl, h1⟩)
  rotate_left
  · exact ⟨rfl, Or.inr ⟨_, rfl, h1⟩⟩
  refine X.xok (fun w2 => ?_)
  replace h := h v2 A2 w2 h1
  change X _ _ _ _ A2 _ _ [va_rf v2]
  refine x_astoreq_n dX18_target_12 (by decide) ?_
  refine x_aload_n dX18_target_13 rfl ?_
  obtain ⟨o5, h⟩ := h
  refine x_get (v := va_rf (A2.P p 4)) hG dX18_target_14 f_X18_18_16 o5 rfl ?_
  refine x_ifnonnull (tgt := 46) dX18_target_17 (by decide) (fun b6 c17 => ?_) (fun c17 => ?_)
  · replace h := h.2 b6 c17
    refine x_aloadq_n dX18_target_46 rfl ?_
    obtain ⟨b8, e8, h⟩ := h
    rw [e8]
    obtain ⟨o9, h⟩ := h
    obtain ⟨R7, g7, h⟩ := h
    refine x_callV hG (Ky := kX34_isArray) (As := []) dX18_target_47 o9 rfl lk_X18_43 me_X34_isArray is_X34_isArray se_X34_isArray rfl rfl (Nat.le_of_ble_eq_true rfl) (MX.post (m_X34_isArray hG hO g7) ?_)
    rintro _ A7 ⟨v7, rfl, zv7, h1⟩
    refine X.xok (fun w7 => ?_)
    replace h := h v7 A7 w7 zv7 h1
    change X _ _ _ _ A7 _ _ [.int v7]
    refine x_if_ne (tgt := 64) dX18_target_50 (by decide) (fun c50 => ?_) (fun c50 => ?_)
    · replace h := h.2 c50
      refine x_aload_n dX18_target_64 rfl ?_
      exact x_aret (r := (some b8)) dX18_target_65 rfl (Or.inl ⟨_, rfl⟩) (Or.inl ⟨_, rfl, h⟩)
    · replace h := h.1 c50
      refine x_aload_n dX18_target_53 rfl ?_
      refine x_bipush_ (v := (6 : Int32)) dX18_target_54 (by decide) ?_
      refine x_aload_n dX18_target_56 rfl ?_
      obtain ⟨o10, h⟩ := h
      refine x_get (v := .int (A7.I p 2)) hG dX18_target_57 f_X18_9_16 o10 rfl ?_
      obtain ⟨o12, h⟩ := h
      obtain ⟨R11, g11, h⟩ := h
      refine x_callV hG (Ky := kX6_fault) (As := [.int (6 : Int32), .int (A7.I p 2)]) dX18_target_60 o12 rfl lk_X18_36 me_X6_fault is_X6_fault se_X6_fault rfl rfl (Nat.le_of_ble_eq_true rfl) (MX.post (m_X6_fault hG hO g11) ?_)
      rintro _ A11 ⟨v11, rfl, h1⟩
      refine X.xok (fun w11 => ?_)
      replace h := h v11 A11 w11 h1
      change X _ _ _ _ A11 _ _ [va_rf v11]
      obtain ⟨b13, e13, h⟩ := h
      rw [e13]
      exact x_athrow dX18_target_63 rfl (Or.inr ⟨_, rfl, h⟩)
  · replace h := h.1 c17
    refine x_aloadq_n dX18_target_20 rfl ?_
    obtain ⟨b15, e15, h⟩ := h
    rw [e15]
    obtain ⟨o16, h⟩ := h
    obtain ⟨R14, g14, h⟩ := h
    refine x_callV hG (Ky := kX34_isArray) (As := []) dX18_target_21 o16 rfl lk_X18_43 me_X34_isArray is_X34_isArray se_X34_isArray rfl rfl (Nat.le_of_ble_eq_true rfl) (MX.post (m_X34_isArray hG hO g14) ?_)
    rintro _ A14 ⟨v14, rfl, zv14, h1⟩
    refine X.xok (fun w14 => ?_)
    replace h := h v14 A14 w14 zv14 h1
    change X _ _ _ _ A14 _ _ [.int v14]
    refine x_if_ne (tgt := 53) dX18_target_24 (by decide) (fun c24 => ?_) (fun c24 => ?_)
    · replace h := h.2 c24
      refine x_aload_n dX18_target_53 rfl ?_
      refine x_bipush_ (v := (6 : Int32)) dX18_target_54 (by decide) ?_
      refine x_aload_n dX18_target_56 rfl ?_
      obtain ⟨o17, h⟩ := h
      refine x_get (v := .int (A14.I p 2)) hG dX18_target_57 f_X18_9_16 o17 rfl ?_
      obtain ⟨o19, h⟩ := h
      obtain ⟨R18, g18, h⟩ := h
      refine x_callV hG (Ky := kX6_fault) (As := [.int (6 : Int32), .int (A14.I p 2)]) dX18_target_60 o19 rfl lk_X18_36 me_X6_fault is_X6_fault se_X6_fault rfl rfl (Nat.le_of_ble_eq_true rfl) (MX.post (m_X6_fault hG hO g18) ?_)
      rintro _ A18 ⟨v18, rfl, h1⟩
      refine X.xok (fun w18 => ?_)
      replace h := h v18 A18 w18 h1
      change X _ _ _ _ A18 _ _ [va_rf v18]
      obtain ⟨b20, e20, h⟩ := h
      rw [e20]
      exact x_athrow dX18_target_63 rfl (Or.inr ⟨_, rfl, h⟩)
    · replace h := h.1 c24
      refine x_aload_n dX18_target_27 rfl ?_
      obtain ⟨o21, h⟩ := h
      refine x_get (v := .int (A14.I b15 1)) hG dX18_target_28 f_X18_31_32 o21 rfl ?_
      refine x_bipush_ (v := (6 : Int32)) dX18_target_31 (by decide) ?_
      refine x_icmp_eq (tgt := 53) dX18_target_33 (by decide) (fun c33 => ?_) (fun c33 => ?_)
      · replace h := h.1 c33
        refine x_aload_n dX18_target_53 rfl ?_
        refine x_bipush_ (v := (6 : Int32)) dX18_target_54 (by decide) ?_
        refine x_aload_n dX18_target_56 rfl ?_
        obtain ⟨o22, h⟩ := h
        refine x_get (v := .int (A14.I p 2)) hG dX18_target_57 f_X18_9_16 o22 rfl ?_
        obtain ⟨o24, h⟩ := h
        obtain ⟨R23, g23, h⟩ := h
        refine x_callV hG (Ky := kX6_fault) (As := [.int (6 : Int32), .int (A14.I p 2)]) dX18_target_60 o24 rfl lk_X18_36 me_X6_fault is_X6_fault se_X6_fault rfl rfl (Nat.le_of_ble_eq_true rfl) (MX.post (m_X6_fault hG hO g23) ?_)
        rintro _ A23 ⟨v23, rfl, h1⟩
        refine X.xok (fun w23 => ?_)
        replace h := h v23 A23 w23 h1
        change X _ _ _ _ A23 _ _ [va_rf v23]
        obtain ⟨b25, e25, h⟩ := h
        rw [e25]
        exact x_athrow dX18_target_63 rfl (Or.inr ⟨_, rfl, h⟩)
      · replace h := h.2 c33
        refine x_aload_n dX18_target_36 rfl ?_
        refine x_get (v := .int (A14.I b15 1)) hG dX18_target_37 f_X18_31_32 o21 rfl ?_
        refine x_if_ne (tgt := 64) dX18_target_40 (by decide) (fun c40 => ?_) (fun c40 => ?_)
        · replace h := h.2 c40
          refine x_aload_n dX18_target_64 rfl ?_
          exact x_aret (r := (some b15)) dX18_target_65 rfl (Or.inl ⟨_, rfl⟩) (Or.inl ⟨_, rfl, h⟩)
        · replace h := h.1 c40
          refine x_goto (tgt := 53) dX18_target_43 (by decide) ?_
          refine x_aload_n dX18_target_53 rfl ?_
          refine x_bipush_ (v := (6 : Int32)) dX18_target_54 (by decide) ?_
          refine x_aload_n dX18_target_56 rfl ?_
          obtain ⟨o26, h⟩ := h
          refine x_get (v := .int (A14.I p 2)) hG dX18_target_57 f_X18_9_16 o26 rfl ?_
          obtain ⟨o28, h⟩ := h
          obtain ⟨R27, g27, h⟩ := h
          refine x_callV hG (Ky := kX6_fault) (As := [.int (6 : Int32), .int (A14.I p 2)]) dX18_target_60 o28 rfl lk_X18_36 me_X6_fault is_X6_fault se_X6_fault rfl rfl (Nat.le_of_ble_eq_true rfl) (MX.post (m_X6_fault hG hO g27) ?_)
          rintro _ A27 ⟨v27, rfl, h1⟩
          refine X.xok (fun w27 => ?_)
          replace h := h v27 A27 w27 h1
          change X _ _ _ _ A27 _ _ [va_rf v27]
          obtain ⟨b29, e29, h⟩ := h
          rw [e29]
          exact x_athrow dX18_target_63 rfl (Or.inr ⟨_, rfl, h⟩)
end W098
