/-! ===== 106.hstring (tools/h045.py) ===== -/
set_option maxRecDepth 100000
section W106
variable {G : xG}
def w_J6_checkIndex (G : xG) (i : Int32) (n : Int32) (Q : xA → Prop) (A : xA) : Prop := xok G A → ∀ r1_ : Option Nat, (∃ R2 : Int32 → xA → Prop, w_q_J8_checkIndex G i n r1_ R2 A ∧ (∀ (v2 : Int32) (A2 : xA), xok G A2 → R2 v2 A2 → (Q A2)))
theorem m_J6_checkIndex (hG : xOK G) (hO : xHO G) {dp : Nat} {i : Int32} {n : Int32} {Q : xA → Prop} {A : xA} (h : w_J6_checkIndex G i n Q A) : MX G (dp + 1) kJ6_checkIndex [.int i, .int n] A (hV Q) := by
  unfold w_J6_checkIndex at h
  refine MX.of rfl (Nat.le_of_ble_eq_true rfl) ?_
  change X _ _ _ _ _ _ [some (.int i), some (.int n)] _
  refine X.xok (fun w0 => ?_)
  replace h := h w0
  refine x_iload_n dJ6_checkIndex_0 rfl ?_
  refine x_iload_n dJ6_checkIndex_1 rfl ?_
  obtain ⟨r1_, z1⟩ := hO.2.2.2.2.1.2.1
  replace h := h r1_
  refine x_gets hG (C := "jdk/internal/util/Preconditions") z1 (Or.inl q1030) (Or.inl rfl) dJ6_checkIndex_2 ?_
  obtain ⟨R2, g2, h⟩ := h
  refine x_callS hG (Ky := kJ8_checkIndex) (As := [.int i, .int n, va_rf r1_]) dJ6_checkIndex_5 lk_J6_1059 me_J8_checkIndex st_J8_checkIndex rfl rfl (Nat.le_of_ble_eq_true rfl) (MX.post (m_q_J8_checkIndex hG hO g2) ?_)
  rintro _ A2 ⟨v2, rfl, h1⟩
  refine X.xok (fun w2 => ?_)
  replace h := h v2 A2 w2 h1
  change X _ _ _ _ A2 _ _ [.int v2]
  refine x_pop dJ6_checkIndex_8 rfl ?_
  exact x_vret dJ6_checkIndex_9 rfl ⟨rfl, h⟩
def w_J6_coder (G : xG) (p : Nat) (Q : Int32 → xA → Prop) (A : xA) : Prop := xok G A → (p < G.N ∧ xOF G p "java/lang/String" "coder" "B" (.int 0)) ∧ (narrow .byte (.int (0 : Int32)) = .int (0 : Int32) ∧ (Q (0 : Int32) A))
theorem m_J6_coder (hG : xOK G) (hO : xHO G) {dp : Nat} {p : Nat} {Q : Int32 → xA → Prop} {A : xA} (h : w_J6_coder G p Q A) : MX G (dp + 0) kJ6_coder [.ref p] A (hI Q) := by
  unfold w_J6_coder at h
  refine MX.of rfl (Nat.le_of_ble_eq_true rfl) ?_
  change X _ _ _ _ _ _ [some (.ref p)] _
  refine X.xok (fun w0 => ?_)
  replace h := h w0
  refine x_gets hG (C := "java/lang/String") hO.2.2.2.2.1.1 (Or.inl q1014) (Or.inl rfl) dJ6_coder_0 ?_
  refine x_if_eq (tgt := 13) dJ6_coder_3 (by decide) (fun h => absurd h (by decide)) (fun _ => ?_)
  refine x_aload_n dJ6_coder_6 rfl ?_
  obtain ⟨o1, h⟩ := h
  refine x_getO hG dJ6_coder_7 q3771 o1.1 o1.2 ?_
  refine x_goto (tgt := 14) dJ6_coder_10 (by decide) ?_
  obtain ⟨o2, h⟩ := h
  exact x_nret dJ6_coder_14 rfl o2 ⟨_, rfl, h⟩
def w_J6_isLatin1 (G : xG) (p : Nat) (Q : Int32 → xA → Prop) (A : xA) : Prop := xok G A → (p < G.N ∧ xOF G p "java/lang/String" "coder" "B" (.int 0)) ∧ (Q (1 : Int32) A)
theorem m_J6_isLatin1 (hG : xOK G) (hO : xHO G) {dp : Nat} {p : Nat} {Q : Int32 → xA → Prop} {A : xA} (h : w_J6_isLatin1 G p Q A) : MX G (dp + 0) kJ6_isLatin1 [.ref p] A (hZ Q) := by
  unfold w_J6_isLatin1 at h
  refine MX.of rfl (Nat.le_of_ble_eq_true rfl) ?_
  change X _ _ _ _ _ _ [some (.ref p)] _
  refine X.xok (fun w0 => ?_)
  replace h := h w0
  refine x_gets hG (C := "java/lang/String") hO.2.2.2.2.1.1 (Or.inl q1014) (Or.inl rfl) dJ6_isLatin1_0 ?_
  refine x_if_eq (tgt := 17) dJ6_isLatin1_3 (by decide) (fun h => absurd h (by decide)) (fun _ => ?_)
  refine x_aload_n dJ6_isLatin1_6 rfl ?_
  obtain ⟨o1, h⟩ := h
  refine x_getO hG dJ6_isLatin1_7 q3771 o1.1 o1.2 ?_
  refine x_if_ne (tgt := 17) dJ6_isLatin1_10 (by decide) (fun h => absurd (by decide) h) (fun _ => ?_)
  refine x_iconst_ (v := (1 : Int32)) dJ6_isLatin1_13 (by decide) ?_
  refine x_goto (tgt := 18) dJ6_isLatin1_14 (by decide) ?_
  exact x_zret dJ6_isLatin1_18 rfl (by decide) ⟨_, rfl, (by decide), h⟩
def w_J7_charAt (G : xG) (b : Option Nat) (i : Int32) (Q : Int32 → xA → Prop) (A : xA) : Prop := xok G A → ∃ b1 : Nat, b = some b1 ∧ (A.tg b1 = 202 ∧ (∃ R3 : xA → Prop, w_J6_checkIndex G i (nI (A.ln b1)) R3 A ∧ (∀ A3 : xA, xok G A3 → R3 A3 → (A3.tg b1 = 202 ∧ (vp_in i (A3.ln b1) ∧ (narrow .char (.int (((A3.I b1 (ix i)) &&& (255 : Int32)).toUInt32 % 65536).toInt32) = .int (((A3.I b1 (ix i)) &&& (255 : Int32)).toUInt32 % 65536).toInt32 ∧ (Q (((A3.I b1 (ix i)) &&& (255 : Int32)).toUInt32 % 65536).toInt32 A3)))))))
theorem m_J7_charAt (hG : xOK G) (hO : xHO G) {dp : Nat} {b : Option Nat} {i : Int32} {Q : Int32 → xA → Prop} {A : xA} (h : w_J7_charAt G b i Q A) : MX G (dp + 2) kJ7_charAt [va_rf b, .int i] A (hI Q) := by
  unfold w_J7_charAt at h
  refine MX.of rfl (by cases b <;> exact Nat.le_of_ble_eq_true rfl) ?_
  refine X.lvs (lv' := [some (va_rf b), some (.int i)]) (by cases b <;> rfl) ?_
  refine X.xok (fun w0 => ?_)
  replace h := h w0
  refine x_iload_n dJ7_charAt_0 rfl ?_
  refine x_aloadq_n dJ7_charAt_1 rfl ?_
  obtain ⟨b1, e1, h⟩ := h
  rw [e1]
  obtain ⟨o2, h⟩ := h
  refine x_alen hG (j := 2) dJ7_charAt_2 o2 ?_
  obtain ⟨R3, g3, h⟩ := h
  refine x_callS hG (Ky := kJ6_checkIndex) (As := [.int i, .int (nI (A.ln b1))]) dJ7_charAt_3 lk_J7_9 me_J6_checkIndex st_J6_checkIndex rfl rfl (Nat.le_of_ble_eq_true rfl) (MX.post (m_J6_checkIndex hG hO g3) ?_)
  rintro _ A3 ⟨rfl, h1⟩
  refine X.xok (fun w3 => ?_)
  replace h := h A3 w3 h1
  change X _ _ _ _ A3 _ _ []
  refine x_aload_n dJ7_charAt_6 rfl ?_
  refine x_iload_n dJ7_charAt_7 rfl ?_
  obtain ⟨o4, h⟩ := h
  obtain ⟨o5, h⟩ := h
  refine x_bald hG dJ7_charAt_8 o4 o5 ?_
  refine x_sipush_ (v := (255 : Int32)) dJ7_charAt_9 (by decide) ?_
  refine x_iand dJ7_charAt_12 ?_
  refine x_i2c dJ7_charAt_13 ?_
  obtain ⟨o6, h⟩ := h
  exact x_nret dJ7_charAt_14 rfl o6 ⟨_, rfl, h⟩
def w_J6_length (G : xG) (p : Nat) (Q : Int32 → xA → Prop) (A : xA) : Prop := xok G A → ∃ b1 : Nat, (p < G.N ∧ xOF G p "java/lang/String" "value" "[B" (.ref b1)) ∧ (A.tg b1 = 202 ∧ (xOO G p "java/lang/String" ∧ (∃ R3 : Int32 → xA → Prop, w_J6_coder G p R3 A ∧ (∀ (v3 : Int32) (A3 : xA), xok G A3 → R3 v3 A3 → (Q (jishr (nI (A.ln b1)) v3) A3)))))
theorem m_J6_length (hG : xOK G) (hO : xHO G) {dp : Nat} {p : Nat} {Q : Int32 → xA → Prop} {A : xA} (h : w_J6_length G p Q A) : MX G (dp + 1) kJ6_length [.ref p] A (hI Q) := by
  unfold w_J6_length at h
  refine MX.of rfl (Nat.le_of_ble_eq_true rfl) ?_
  change X _ _ _ _ _ _ [some (.ref p)] _
  refine X.xok (fun w0 => ?_)
  replace h := h w0
  refine x_aload_n dJ6_length_0 rfl ?_
  obtain ⟨b1, o1, h⟩ := h
  refine x_getO hG dJ6_length_1 q3770 o1.1 o1.2 ?_
  obtain ⟨o2, h⟩ := h
  refine x_alen hG (j := 2) dJ6_length_4 o2 ?_
  refine x_aload_n dJ6_length_5 rfl ?_
  obtain ⟨o4, h⟩ := h
  obtain ⟨R3, g3, h⟩ := h
  refine x_callVO hG (Ky := kJ6_coder) (As := []) dJ6_length_6 o4 q1010 me_J6_coder is_J6_coder se_J6_coder rfl rfl (Nat.le_of_ble_eq_true rfl) (MX.post (m_J6_coder hG hO g3) ?_)
  rintro _ A3 ⟨v3, rfl, h1⟩
  refine X.xok (fun w3 => ?_)
  replace h := h v3 A3 w3 h1
  change X _ _ _ _ A3 _ _ [.int v3, .int (nI (A.ln b1))]
  refine x_ishr dJ6_length_9 ?_
  refine x_eqi (v := (jishr (nI (A.ln b1)) v3)) rfl ?_
  exact x_iret dJ6_length_10 rfl ⟨_, rfl, h⟩
def w_J6_charAt (G : xG) (p : Nat) (i : Int32) (Q : Int32 → xA → Prop) (A : xA) : Prop := xok G A → xOO G p "java/lang/String" ∧ (∃ R1 : Int32 → xA → Prop, w_J6_isLatin1 G p R1 A ∧ (∀ (v1 : Int32) (A1 : xA), xok G A1 → (v1 = 0 ∨ v1 = 1) → R1 v1 A1 → (((v1 = 0 → ∃ b3 : Nat, (p < G.N ∧ xOF G p "java/lang/String" "value" "[B" (.ref b3)) ∧ (False)) ∧ (¬ v1 = 0 → ∃ b4 : Nat, (p < G.N ∧ xOF G p "java/lang/String" "value" "[B" (.ref b4)) ∧ (∃ R5 : Int32 → xA → Prop, w_J7_charAt G (some b4) i R5 A1 ∧ (∀ (v5 : Int32) (A5 : xA), xok G A5 → R5 v5 A5 → (narrow .char (.int v5) = .int v5 ∧ (Q v5 A5)))))))))
theorem m_J6_charAt (hG : xOK G) (hO : xHO G) {dp : Nat} {p : Nat} {i : Int32} {Q : Int32 → xA → Prop} {A : xA} (h : w_J6_charAt G p i Q A) : MX G (dp + 3) kJ6_charAt [.ref p, .int i] A (hI Q) := by
  unfold w_J6_charAt at h
  refine MX.of rfl (Nat.le_of_ble_eq_true rfl) ?_
  change X _ _ _ _ _ _ [some (.ref p), some (.int i)] _
  refine X.xok (fun w0 => ?_)
  replace h := h w0
  refine x_aload_n dJ6_charAt_0 rfl ?_
  obtain ⟨o2, h⟩ := h
  obtain ⟨R1, g1, h⟩ := h
  refine x_callVO hG (Ky := kJ6_isLatin1) (As := []) dJ6_charAt_1 o2 q1020 me_J6_isLatin1 is_J6_isLatin1 se_J6_isLatin1 rfl rfl (Nat.le_of_ble_eq_true rfl) (MX.post (m_J6_isLatin1 hG hO g1) ?_)
  rintro _ A1 ⟨v1, rfl, zv1, h1⟩
  refine X.xok (fun w1 => ?_)
  replace h := h v1 A1 w1 zv1 h1
  change X _ _ _ _ A1 _ _ [.int v1]
  refine x_if_eq (tgt := 16) dJ6_charAt_4 (by decide) (fun c4 => ?_) (fun c4 => ?_)
  · replace h := h.1 c4
    refine x_aload_n dJ6_charAt_16 rfl ?_
    obtain ⟨b3, o3, h⟩ := h
    refine x_getO hG dJ6_charAt_17 q3770 o3.1 o3.2 ?_
    refine x_iload_n dJ6_charAt_20 rfl ?_
    exact h.elim
  · replace h := h.2 c4
    refine x_aload_n dJ6_charAt_7 rfl ?_
    obtain ⟨b4, o4, h⟩ := h
    refine x_getO hG dJ6_charAt_8 q3770 o4.1 o4.2 ?_
    refine x_iload_n dJ6_charAt_11 rfl ?_
    obtain ⟨R5, g5, h⟩ := h
    refine x_callS hG (Ky := kJ7_charAt) (As := [.ref b4, .int i]) dJ6_charAt_12 lk_J6_495 me_J7_charAt st_J7_charAt rfl rfl (Nat.le_of_ble_eq_true rfl) (MX.post (m_J7_charAt hG hO g5) ?_)
    rintro _ A5 ⟨v5, rfl, h1⟩
    refine X.xok (fun w5 => ?_)
    replace h := h v5 A5 w5 h1
    change X _ _ _ _ A5 _ _ [.int v5]
    obtain ⟨o6, h⟩ := h
    exact x_nret dJ6_charAt_15 rfl o6 ⟨_, rfl, h⟩
end W106
