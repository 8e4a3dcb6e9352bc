/-! ===== 063.hint (tools/h045.py) ===== -/
set_option maxRecDepth 100000
section W063
variable {G : xG}
def w_J15_intValue (G : xG) (p : Nat) (Q : Int32 → xA → Prop) (A : xA) : Prop := xok G A → A.tg p = 38 ∧ (Q (A.I p 0) A)
theorem m_J15_intValue (hG : xOK G) (hO : xHO G) {dp : Nat} {p : Nat} {Q : Int32 → xA → Prop} {A : xA} (h : w_J15_intValue G p Q A) : MX G (dp + 0) kJ15_intValue [.ref p] A (hI Q) := by
  unfold w_J15_intValue at h
  refine MX.of rfl (Nat.le_of_ble_eq_true rfl) ?_
  change X _ _ _ _ _ _ [some (.ref p)] _
  refine X.xok (fun w0 => ?_)
  replace h := h w0
  refine x_aload_n dJ15_intValue_0 rfl ?_
  obtain ⟨o1, h⟩ := h
  refine x_get (v := .int (A.I p 0)) hG dJ15_intValue_1 f_J15_205_37 o1 rfl ?_
  exact x_iret dJ15_intValue_4 rfl ⟨_, rfl, h⟩
def w_J14_init (G : xG) (p : Nat) (Q : xA → Prop) (A : xA) : Prop := xok G A → Q A
theorem m_J14_init (hG : xOK G) (hO : xHO G) {dp : Nat} {p : Nat} {Q : xA → Prop} {A : xA} (h : w_J14_init G p Q A) : MX G (dp + 1) kJ14_init [.ref p] A (hV Q) := by
  unfold w_J14_init at h
  refine MX.of rfl (Nat.le_of_ble_eq_true rfl) ?_
  change X _ _ _ _ _ _ [some (.ref p)] _
  refine X.xok (fun w0 => ?_)
  replace h := h w0
  refine x_aload_n dJ14_init_0 rfl ?_
  refine x_objInit hG dJ14_init_1 q1895 q261 q262 (Nat.le_of_ble_eq_true rfl) ?_
  exact x_vret dJ14_init_4 rfl ⟨rfl, h⟩
def w_J15_init (G : xG) (p : Nat) (v : Int32) (Q : xA → Prop) (A : xA) : Prop := xok G A → ∃ R1 : xA → Prop, w_J14_init G p R1 A ∧ (∀ A1 : xA, xok G A1 → R1 A1 → (A1.tg p = 38 ∧ (G.N ≤ p ∧ (∀ A4 : xA, A4 = A1.setI p 0 v → (Q A4)))))
theorem m_J15_init (hG : xOK G) (hO : xHO G) {dp : Nat} {p : Nat} {v : Int32} {Q : xA → Prop} {A : xA} (h : w_J15_init G p v Q A) : MX G (dp + 2) kJ15_init [.ref p, .int v] A (hV Q) := by
  unfold w_J15_init at h
  refine MX.of rfl (Nat.le_of_ble_eq_true rfl) ?_
  change X _ _ _ _ _ _ [some (.ref p), some (.int v)] _
  refine X.xok (fun w0 => ?_)
  replace h := h w0
  refine x_aload_n dJ15_init_0 rfl ?_
  obtain ⟨R1, g1, h⟩ := h
  refine x_callI hG (Ky := kJ14_init) (As := []) dJ15_init_1 lk_J15_202 me_J14_init is_J14_init rfl rfl rfl rfl rfl (Nat.le_of_ble_eq_true rfl) (MX.post (m_J14_init hG hO g1) ?_)
  rintro _ A1 ⟨rfl, h1⟩
  refine X.xok (fun w1 => ?_)
  replace h := h A1 w1 h1
  change X _ _ _ _ A1 _ _ []
  refine x_aload_n dJ15_init_4 rfl ?_
  refine x_iload_n dJ15_init_5 rfl ?_
  obtain ⟨o2, h⟩ := h
  obtain ⟨o3, h⟩ := h
  refine z_putIN hG dJ15_init_6 f_J15_205_37 ⟨_, rfl, Or.inr ⟨rfl, rfl, rfl⟩⟩ o2 o3 rfl rfl ⟨_, rfl⟩ (fun A4 e4 => ?_)
  replace h := h A4 e4
  exact x_vret dJ15_init_9 rfl ⟨rfl, h⟩
def w_J15_valueOf (G : xG) (v : Int32) (Q : Option Nat → xA → Prop) (A : xA) : Prop := xok G A → ((v < (-128 : Int32) → rmO G A 1 ∧ (∀ A2 : xA, A2 = A.new 38 0 1 0 → (∃ R3 : xA → Prop, w_J15_init G A.n v R3 A2 ∧ (∀ A3 : xA, xok G A3 → R3 A3 → (Q (some A.n) A3))))) ∧ (¬ v < (-128 : Int32) → (((127 : Int32) < v → rmO G A 1 ∧ (∀ A5 : xA, A5 = A.new 38 0 1 0 → (∃ R6 : xA → Prop, w_J15_init G A.n v R6 A5 ∧ (∀ A6 : xA, xok G A6 → R6 A6 → (Q (some A.n) A6))))) ∧ (¬ (127 : Int32) < v → vp_in (v + (128 : Int32)) 256 ∧ (Q (some (G.cs (1000 + ix (v + (128 : Int32))))) A)))))
theorem m_J15_valueOf (hG : xOK G) (hO : xHO G) {dp : Nat} {v : Int32} {Q : Option Nat → xA → Prop} {A : xA} (h : w_J15_valueOf G v Q A) : MX G (dp + 3) kJ15_valueOf [.int v] A (hR Q) := by
  unfold w_J15_valueOf at h
  refine MX.of rfl (Nat.le_of_ble_eq_true rfl) ?_
  change X _ _ _ _ _ _ [some (.int v)] _
  refine X.xok (fun w0 => ?_)
  replace h := h w0
  refine x_iload_n dJ15_valueOf_0 rfl ?_
  refine x_bipush_ (v := (-128 : Int32)) dJ15_valueOf_1 (by decide) ?_
  refine x_icmp_lt (tgt := 23) dJ15_valueOf_3 (by decide) (fun c3 => ?_) (fun c3 => ?_)
  · replace h := h.1 c3
    obtain ⟨o1, h⟩ := h
    refine z_new hG (c := 37) dJ15_valueOf_23 rfl q1887 (by decide) rfl o1 (fun A2 e2 w2 => ?_)
    replace h := h A2 e2
    refine x_dup dJ15_valueOf_26 rfl ?_
    refine x_iload_n dJ15_valueOf_27 rfl ?_
    obtain ⟨R3, g3, h⟩ := h
    refine x_callI hG (Ky := kJ15_init) (As := [.int v]) dJ15_valueOf_28 lk_J15_199 me_J15_init is_J15_init rfl rfl rfl rfl rfl (Nat.le_of_ble_eq_true rfl) (MX.post (m_J15_init hG hO g3) ?_)
    rintro _ A3 ⟨rfl, h1⟩
    refine X.xok (fun w3 => ?_)
    replace h := h A3 w3 h1
    change X _ _ _ _ A3 _ _ [.ref A.n]
    exact x_aret (r := (some A.n)) dJ15_valueOf_31 rfl (Or.inl ⟨_, rfl⟩) ⟨_, rfl, h⟩
  · replace h := h.2 c3
    refine x_iload_n dJ15_valueOf_6 rfl ?_
    refine x_gets hG (C := "java/lang/Integer$IntegerCache") hO.2.2.2.1.1 (Or.inl q1883) (Or.inl rfl) dJ15_valueOf_7 ?_
    refine x_icmp_gt (tgt := 23) dJ15_valueOf_10 (by decide) (fun c10 => ?_) (fun c10 => ?_)
    · replace h := h.1 c10
      obtain ⟨o4, h⟩ := h
      refine z_new hG (c := 37) dJ15_valueOf_23 rfl q1887 (by decide) rfl o4 (fun A5 e5 w5 => ?_)
      replace h := h A5 e5
      refine x_dup dJ15_valueOf_26 rfl ?_
      refine x_iload_n dJ15_valueOf_27 rfl ?_
      obtain ⟨R6, g6, h⟩ := h
      refine x_callI hG (Ky := kJ15_init) (As := [.int v]) dJ15_valueOf_28 lk_J15_199 me_J15_init is_J15_init rfl rfl rfl rfl rfl (Nat.le_of_ble_eq_true rfl) (MX.post (m_J15_init hG hO g6) ?_)
      rintro _ A6 ⟨rfl, h1⟩
      refine X.xok (fun w6 => ?_)
      replace h := h A6 w6 h1
      change X _ _ _ _ A6 _ _ [.ref A.n]
      exact x_aret (r := (some A.n)) dJ15_valueOf_31 rfl (Or.inl ⟨_, rfl⟩) ⟨_, rfl, h⟩
    · replace h := h.2 c10
      refine x_gets hG (C := "java/lang/Integer$IntegerCache") hO.2.2.2.1.2.1 (Or.inl q1885) (Or.inl rfl) dJ15_valueOf_13 ?_
      refine x_iload_n dJ15_valueOf_16 rfl ?_
      refine x_sipush_ (v := (128 : Int32)) dJ15_valueOf_17 (by decide) ?_
      refine x_iadd dJ15_valueOf_20 ?_
      obtain ⟨o7, h⟩ := h
      refine x_aaldO hG dJ15_valueOf_21 hO.2.2.2.1.2.2.1 o7 ?_
      exact x_aret (r := (some (G.cs (1000 + ix (v + (128 : Int32)))))) dJ15_valueOf_22 rfl (Or.inl ⟨_, rfl⟩) ⟨_, rfl, h⟩
end W063
