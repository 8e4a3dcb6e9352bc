/-! ===== 083.hast (tools/h045.py) ===== -/
set_option maxRecDepth 100000
section W083
variable {G : xG}
theorem fE_X15_9 : ∀ c, c ∈ eCl → xF RX15 9 c 0 := by
  intro c h
  simp only [eCl, List.mem_cons, List.not_mem_nil, or_false] at h
  rcases h with rfl | rfl | rfl | rfl | rfl | rfl | rfl | rfl
  · exact f_X15_9_14
  · exact f_X15_9_15
  · exact f_X15_9_16
  · exact f_X15_9_17
  · exact f_X15_9_18
  · exact f_X15_9_19
  · exact f_X15_9_20
  · exact f_X15_9_21
theorem fE_X21_11 : ∀ c, c ∈ eCl → xF RX21 11 c 0 := by
  intro c h
  simp only [eCl, List.mem_cons, List.not_mem_nil, or_false] at h
  rcases h with rfl | rfl | rfl | rfl | rfl | rfl | rfl | rfl
  · exact f_X21_11_14
  · exact f_X21_11_15
  · exact f_X21_11_16
  · exact f_X21_11_17
  · exact f_X21_11_18
  · exact f_X21_11_19
  · exact f_X21_11_20
  · exact f_X21_11_21
theorem fE_X22_11 : ∀ c, c ∈ eCl → xF RX22 11 c 0 := by
  intro c h
  simp only [eCl, List.mem_cons, List.not_mem_nil, or_false] at h
  rcases h with rfl | rfl | rfl | rfl | rfl | rfl | rfl | rfl
  · exact f_X22_11_14
  · exact f_X22_11_15
  · exact f_X22_11_16
  · exact f_X22_11_17
  · exact f_X22_11_18
  · exact f_X22_11_19
  · exact f_X22_11_20
  · exact f_X22_11_21
theorem fE_X23_3 : ∀ c, c ∈ eCl → xF RX23 3 c 0 := by
  intro c h
  simp only [eCl, List.mem_cons, List.not_mem_nil, or_false] at h
  rcases h with rfl | rfl | rfl | rfl | rfl | rfl | rfl | rfl
  · exact f_X23_3_14
  · exact f_X23_3_15
  · exact f_X23_3_16
  · exact f_X23_3_17
  · exact f_X23_3_18
  · exact f_X23_3_19
  · exact f_X23_3_20
  · exact f_X23_3_21
def w_X15_init (G : xG) (p : Nat) (f : Int32) (Q : xA → Prop) (A : xA) : Prop := xok G A → xE A p ∧ (∀ A2 : xA, A2 = A.setI p 0 f → (Q A2))
theorem m_X15_init (hG : xOK G) (hO : xHO G) {dp : Nat} {p : Nat} {f : Int32} {Q : xA → Prop} {A : xA} (h : w_X15_init G p f Q A) : MX G (dp + 1) kX15_init [.ref p, .int f] A (hV Q) := by
  unfold w_X15_init at h
  refine MX.of rfl (Nat.le_of_ble_eq_true rfl) ?_
  change X _ _ _ _ _ _ [some (.ref p), some (.int f)] _
  refine X.xok (fun w0 => ?_)
  replace h := h w0
  refine x_aload_n dX15_init_0 rfl ?_
  refine x_objInit hG dX15_init_1 q1197 q261 q262 (Nat.le_of_ble_eq_true rfl) ?_
  refine x_aload_n dX15_init_4 rfl ?_
  refine x_iload_n dX15_init_5 rfl ?_
  obtain ⟨o1, h⟩ := h
  refine z_putE hG hO.1 dX15_init_6 fE_X15_9 o1 (fun A2 e2 => ?_)
  replace h := h A2 e2
  exact x_vret dX15_init_9 rfl ⟨rfl, h⟩
def w_X16_init (G : xG) (p : Nat) (f : Int32) (n : Int32) (Q : xA → Prop) (A : xA) : Prop := xok G A → ∃ R1 : xA → Prop, w_X15_init G p f R1 A ∧ (∀ A1 : xA, xok G A1 → R1 A1 → (A1.tg p = 15 ∧ (∀ A3 : xA, A3 = A1.setI p 1 n → (Q A3))))
theorem m_X16_init (hG : xOK G) (hO : xHO G) {dp : Nat} {p : Nat} {f : Int32} {n : Int32} {Q : xA → Prop} {A : xA} (h : w_X16_init G p f n Q A) : MX G (dp + 2) kX16_init [.ref p, .int f, .int n] A (hV Q) := by
  unfold w_X16_init at h
  refine MX.of rfl (Nat.le_of_ble_eq_true rfl) ?_
  change X _ _ _ _ _ _ [some (.ref p), some (.int f), some (.int n)] _
  refine X.xok (fun w0 => ?_)
  replace h := h w0
  refine x_aload_n dX16_init_0 rfl ?_
  refine x_iload_n dX16_init_1 rfl ?_
  obtain ⟨R1, g1, h⟩ := h
  refine x_callI hG (Ky := kX15_init) (As := [.int f]) dX16_init_2 lk_X16_1 me_X15_init is_X15_init rfl rfl rfl rfl rfl (Nat.le_of_ble_eq_true rfl) (MX.post (m_X15_init hG hO g1) ?_)
  rintro _ A1 ⟨rfl, h1⟩
  refine X.xok (fun w1 => ?_)
  replace h := h A1 w1 h1
  change X _ _ _ _ A1 _ _ []
  refine x_aload_n dX16_init_5 rfl ?_
  refine x_iload_n dX16_init_6 rfl ?_
  obtain ⟨o2, h⟩ := h
  refine z_putI hG hO.1 dX16_init_7 f_X16_7_14 ⟨_, rfl, Or.inr ⟨rfl, rfl, rfl⟩⟩ o2 (by decide) rfl rfl ⟨_, rfl⟩ (fun A3 e3 => ?_)
  replace h := h A3 e3
  exact x_vret dX16_init_10 rfl ⟨rfl, h⟩
def w_X17_init (G : xG) (p : Nat) (q : Int32) (n : Int32) (g : Option Nat) (e : Int32) (Q : xA → Prop) (A : xA) : Prop := xok G A → ∃ R1 : xA → Prop, w_X15_init G p q R1 A ∧ (∀ A1 : xA, xok G A1 → R1 A1 → (A1.tg p = 16 ∧ (∀ A3 : xA, A3 = A1.setI p 2 q → (∀ A4 : xA, A4 = A3.setI p 1 n → (∀ A5 : xA, A5 = A4.setP p 4 g → (∀ A6 : xA, A6 = A5.setI p 3 e → (Q A6)))))))
theorem m_X17_init (hG : xOK G) (hO : xHO G) {dp : Nat} {p : Nat} {q : Int32} {n : Int32} {g : Option Nat} {e : Int32} {Q : xA → Prop} {A : xA} (h : w_X17_init G p q n g e Q A) : MX G (dp + 2) kX17_init [.ref p, .int q, .int n, va_rf g, .int e] A (hV Q) := by
  unfold w_X17_init at h
  refine MX.of rfl (by cases g <;> exact Nat.le_of_ble_eq_true rfl) ?_
  refine X.lvs (lv' := [some (.ref p), some (.int q), some (.int n), some (va_rf g), some (.int e)]) (by cases g <;> rfl) ?_
  refine X.xok (fun w0 => ?_)
  replace h := h w0
  refine x_aload_n dX17_init_0 rfl ?_
  refine x_iload_n dX17_init_1 rfl ?_
  obtain ⟨R1, g1, h⟩ := h
  refine x_callI hG (Ky := kX15_init) (As := [.int q]) dX17_init_2 lk_X17_3 me_X15_init is_X15_init rfl rfl rfl rfl rfl (Nat.le_of_ble_eq_true rfl) (MX.post (m_X15_init hG hO g1) ?_)
  rintro _ A1 ⟨rfl, h1⟩
  refine X.xok (fun w1 => ?_)
  replace h := h A1 w1 h1
  change X _ _ _ _ A1 _ _ []
  refine x_aload_n dX17_init_5 rfl ?_
  refine x_iload_n dX17_init_6 rfl ?_
  obtain ⟨o2, h⟩ := h
  refine z_putI hG hO.1 dX17_init_7 f_X17_9_15 ⟨_, rfl, Or.inr ⟨rfl, rfl, rfl⟩⟩ o2 (by decide) rfl rfl ⟨_, rfl⟩ (fun A3 e3 => ?_)
  replace h := h A3 e3
  refine x_aload_n dX17_init_10 rfl ?_
  refine x_iload_n dX17_init_11 rfl ?_
  refine z_putI hG hO.1 dX17_init_12 f_X17_15_15 ⟨_, rfl, Or.inr ⟨rfl, rfl, rfl⟩⟩ (kI e3 o2) (by decide) rfl rfl ⟨_, rfl⟩ (fun A4 e4 => ?_)
  replace h := h A4 e4
  refine x_aload_n dX17_init_15 rfl ?_
  refine x_aloadq_n dX17_init_16 rfl ?_
  refine z_putP hG hO.1 g dX17_init_17 f_X17_18_15 ⟨_, rfl, Or.inr ⟨rfl, rfl, rfl⟩⟩ (kI e4 (kI e3 o2)) (by decide) (Or.inl ⟨_, rfl⟩) (fun A5 e5 => ?_)
  replace h := h A5 e5
  refine x_aload_n dX17_init_20 rfl ?_
  refine x_iload dX17_init_21 rfl ?_
  refine z_putI hG hO.1 dX17_init_23 f_X17_22_15 ⟨_, rfl, Or.inr ⟨rfl, rfl, rfl⟩⟩ (kP e5 (kI e4 (kI e3 o2))) (by decide) rfl rfl ⟨_, rfl⟩ (fun A6 e6 => ?_)
  replace h := h A6 e6
  exact x_vret dX17_init_26 rfl ⟨rfl, h⟩
def w_X18_init (G : xG) (p : Nat) (q : Int32) (n : Int32) (i : Option Nat) (r : Int32) (Q : xA → Prop) (A : xA) : Prop := xok G A → ∃ R1 : xA → Prop, w_X15_init G p q R1 A ∧ (∀ A1 : xA, xok G A1 → R1 A1 → (A1.tg p = 17 ∧ (∀ A3 : xA, A3 = A1.setI p 2 q → (∀ A4 : xA, A4 = A3.setI p 1 n → (∀ A5 : xA, A5 = A4.setP p 4 i → (∀ A6 : xA, A6 = A5.setI p 3 r → (Q A6)))))))
theorem m_X18_init (hG : xOK G) (hO : xHO G) {dp : Nat} {p : Nat} {q : Int32} {n : Int32} {i : Option Nat} {r : Int32} {Q : xA → Prop} {A : xA} (h : w_X18_init G p q n i r Q A) : MX G (dp + 2) kX18_init [.ref p, .int q, .int n, va_rf i, .int r] A (hV Q) := by
  unfold w_X18_init at h
  refine MX.of rfl (by cases i <;> exact Nat.le_of_ble_eq_true rfl) ?_
  refine X.lvs (lv' := [some (.ref p), some (.int q), some (.int n), some (va_rf i), some (.int r)]) (by cases i <;> rfl) ?_
  refine X.xok (fun w0 => ?_)
  replace h := h w0
  refine x_aload_n dX18_init_0 rfl ?_
  refine x_iload_n dX18_init_1 rfl ?_
  obtain ⟨R1, g1, h⟩ := h
  refine x_callI hG (Ky := kX15_init) (As := [.int q]) dX18_init_2 lk_X18_3 me_X15_init is_X15_init rfl rfl rfl rfl rfl (Nat.le_of_ble_eq_true rfl) (MX.post (m_X15_init hG hO g1) ?_)
  rintro _ A1 ⟨rfl, h1⟩
  refine X.xok (fun w1 => ?_)
  replace h := h A1 w1 h1
  change X _ _ _ _ A1 _ _ []
  refine x_aload_n dX18_init_5 rfl ?_
  refine x_iload_n dX18_init_6 rfl ?_
  obtain ⟨o2, h⟩ := h
  refine z_putI hG hO.1 dX18_init_7 f_X18_9_16 ⟨_, rfl, Or.inr ⟨rfl, rfl, rfl⟩⟩ o2 (by decide) rfl rfl ⟨_, rfl⟩ (fun A3 e3 => ?_)
  replace h := h A3 e3
  refine x_aload_n dX18_init_10 rfl ?_
  refine x_iload_n dX18_init_11 rfl ?_
  refine z_putI hG hO.1 dX18_init_12 f_X18_15_16 ⟨_, rfl, Or.inr ⟨rfl, rfl, rfl⟩⟩ (kI e3 o2) (by decide) rfl rfl ⟨_, rfl⟩ (fun A4 e4 => ?_)
  replace h := h A4 e4
  refine x_aload_n dX18_init_15 rfl ?_
  refine x_aloadq_n dX18_init_16 rfl ?_
  refine z_putP hG hO.1 i dX18_init_17 f_X18_18_16 ⟨_, rfl, Or.inr ⟨rfl, rfl, rfl⟩⟩ (kI e4 (kI e3 o2)) (by decide) (Or.inl ⟨_, rfl⟩) (fun A5 e5 => ?_)
  replace h := h A5 e5
  refine x_aload_n dX18_init_20 rfl ?_
  refine x_iload dX18_init_21 rfl ?_
  refine z_putI hG hO.1 dX18_init_23 f_X18_22_16 ⟨_, rfl, Or.inr ⟨rfl, rfl, rfl⟩⟩ (kP e5 (kI e4 (kI e3 o2))) (by decide) rfl rfl ⟨_, rfl⟩ (fun A6 e6 => ?_)
  replace h := h A6 e6
  exact x_vret dX18_init_26 rfl ⟨rfl, h⟩
def w_X19_init (G : xG) (p : Nat) (q : Int32) (Q : xA → Prop) (A : xA) : Prop := xok G A → ∃ R1 : xA → Prop, w_X15_init G p q R1 A ∧ (∀ A1 : xA, xok G A1 → R1 A1 → (A1.tg p = 18 ∧ (∀ A3 : xA, A3 = A1.setI p 1 q → (Q A3))))
theorem m_X19_init (hG : xOK G) (hO : xHO G) {dp : Nat} {p : Nat} {q : Int32} {Q : xA → Prop} {A : xA} (h : w_X19_init G p q Q A) : MX G (dp + 2) kX19_init [.ref p, .int q] A (hV Q) := by
  unfold w_X19_init at h
  refine MX.of rfl (Nat.le_of_ble_eq_true rfl) ?_
  change X _ _ _ _ _ _ [some (.ref p), some (.int q)] _
  refine X.xok (fun w0 => ?_)
  replace h := h w0
  refine x_aload_n dX19_init_0 rfl ?_
  refine x_iload_n dX19_init_1 rfl ?_
  obtain ⟨R1, g1, h⟩ := h
  refine x_callI hG (Ky := kX15_init) (As := [.int q]) dX19_init_2 lk_X19_1 me_X15_init is_X15_init rfl rfl rfl rfl rfl (Nat.le_of_ble_eq_true rfl) (MX.post (m_X15_init hG hO g1) ?_)
  rintro _ A1 ⟨rfl, h1⟩
  refine X.xok (fun w1 => ?_)
  replace h := h A1 w1 h1
  change X _ _ _ _ A1 _ _ []
  refine x_aload_n dX19_init_5 rfl ?_
  refine x_iload_n dX19_init_6 rfl ?_
  obtain ⟨o2, h⟩ := h
  refine z_putI hG hO.1 dX19_init_7 f_X19_7_17 ⟨_, rfl, Or.inr ⟨rfl, rfl, rfl⟩⟩ o2 (by decide) rfl rfl ⟨_, rfl⟩ (fun A3 e3 => ?_)
  replace h := h A3 e3
  exact x_vret dX19_init_10 rfl ⟨rfl, h⟩
def w_X20_init (G : xG) (p : Nat) (f : Int32) (s : Option Nat) (o : Option Nat) (Q : xA → Prop) (A : xA) : Prop := xok G A → ∃ R1 : xA → Prop, w_X15_init G p f R1 A ∧ (∀ A1 : xA, xok G A1 → R1 A1 → (A1.tg p = 19 ∧ (∀ A3 : xA, A3 = A1.setP p 1 s → (∀ A4 : xA, A4 = A3.setP p 2 o → (Q A4)))))
theorem m_X20_init (hG : xOK G) (hO : xHO G) {dp : Nat} {p : Nat} {f : Int32} {s : Option Nat} {o : Option Nat} {Q : xA → Prop} {A : xA} (h : w_X20_init G p f s o Q A) : MX G (dp + 2) kX20_init [.ref p, .int f, va_rf s, va_rf o] A (hV Q) := by
  unfold w_X20_init at h
  refine MX.of rfl (by cases s <;> cases o <;> exact Nat.le_of_ble_eq_true rfl) ?_
  refine X.lvs (lv' := [some (.ref p), some (.int f), some (va_rf s), some (va_rf o)]) (by cases s <;> cases o <;> rfl) ?_
  refine X.xok (fun w0 => ?_)
  replace h := h w0
  refine x_aload_n dX20_init_0 rfl ?_
  refine x_iload_n dX20_init_1 rfl ?_
  obtain ⟨R1, g1, h⟩ := h
  refine x_callI hG (Ky := kX15_init) (As := [.int f]) dX20_init_2 lk_X20_3 me_X15_init is_X15_init rfl rfl rfl rfl rfl (Nat.le_of_ble_eq_true rfl) (MX.post (m_X15_init hG hO g1) ?_)
  rintro _ A1 ⟨rfl, h1⟩
  refine X.xok (fun w1 => ?_)
  replace h := h A1 w1 h1
  change X _ _ _ _ A1 _ _ []
  refine x_aload_n dX20_init_5 rfl ?_
  refine x_aloadq_n dX20_init_6 rfl ?_
  obtain ⟨o2, h⟩ := h
  refine z_putP hG hO.1 s dX20_init_7 f_X20_9_18 ⟨_, rfl, Or.inr ⟨rfl, rfl, rfl⟩⟩ o2 (by decide) (Or.inr ⟨_, rfl⟩) (fun A3 e3 => ?_)
  replace h := h A3 e3
  refine x_aload_n dX20_init_10 rfl ?_
  refine x_aloadq_n dX20_init_11 rfl ?_
  refine z_putP hG hO.1 o dX20_init_12 f_X20_15_18 ⟨_, rfl, Or.inr ⟨rfl, rfl, rfl⟩⟩ (kP e3 o2) (by decide) (Or.inl ⟨_, rfl⟩) (fun A4 e4 => ?_)
  replace h := h A4 e4
  exact x_vret dX20_init_15 rfl ⟨rfl, h⟩
def w_X21_init (G : xG) (p : Nat) (i : Int32) (q : Option Nat) (Q : xA → Prop) (A : xA) : Prop := xok G A → ∃ b2 : Nat, q = some b2 ∧ (A.tg b2 = 37 ∧ (∃ R1 : Option Nat → xA → Prop, w_J5_get G b2 (0 : Int32) R1 A ∧ (∀ (v1 : Option Nat) (A1 : xA), xok G A1 → R1 v1 A1 → (∃ b4 : Nat, v1 = some b4 ∧ (xE A1 b4 ∧ (∃ R6 : xA → Prop, w_X15_init G p (A1.I b4 0) R6 A1 ∧ (∀ A6 : xA, xok G A6 → R6 A6 → (A6.tg p = 20 ∧ ((i = 0 ∨ i = 1) ∧ (∀ A9 : xA, A9 = A6.setI p 1 i → (∀ A10 : xA, A10 = A9.setP p 2 (some b2) → (Q A10))))))))))))
theorem m_X21_init (hG : xOK G) (hO : xHO G) {dp : Nat} {p : Nat} {i : Int32} {q : Option Nat} {Q : xA → Prop} {A : xA} (h : w_X21_init G p i q Q A) : MX G (dp + 3) kX21_init [.ref p, .int i, va_rf q] A (hV Q) := by
  unfold w_X21_init at h
  refine MX.of rfl (by cases q <;> exact Nat.le_of_ble_eq_true rfl) ?_
  refine X.lvs (lv' := [some (.ref p), some (.int i), some (va_rf q)]) (by cases q <;> rfl) ?_
  refine X.xok (fun w0 => ?_)
  replace h := h w0
  refine x_aload_n dX21_init_0 rfl ?_
  refine x_aloadq_n dX21_init_1 rfl ?_
  refine x_iconst_ (v := (0 : Int32)) dX21_init_2 (by decide) ?_
  obtain ⟨b2, e2, h⟩ := h
  rw [e2]
  obtain ⟨o3, h⟩ := h
  obtain ⟨R1, g1, h⟩ := h
  refine x_callV hG (Ky := kJ5_get) (As := [.int (0 : Int32)]) dX21_init_3 o3 rfl lk_X21_3 me_J5_get is_J5_get se_J5_get rfl rfl (Nat.le_of_ble_eq_true rfl) (MX.post (m_w_J5_get hG hO g1) ?_)
  rintro _ A1 ⟨v1, rfl, h1⟩
  refine X.xok (fun w1 => ?_)
  replace h := h v1 A1 w1 h1
  change X _ _ _ _ A1 _ _ [va_rf v1, .ref p]
  obtain ⟨b4, e4, h⟩ := h
  rw [e4]
  obtain ⟨o5, h⟩ := h
  refine z_castE hG dX21_init_6 q1413 o5 ?_
  refine z_getE hG dX21_init_9 fE_X21_11 o5 ?_
  obtain ⟨R6, g6, h⟩ := h
  refine x_callI hG (Ky := kX15_init) (As := [.int (A1.I b4 0)]) dX21_init_12 lk_X21_15 me_X15_init is_X15_init rfl rfl rfl rfl rfl (Nat.le_of_ble_eq_true rfl) (MX.post (m_X15_init hG hO g6) ?_)
  rintro _ A6 ⟨rfl, h1⟩
  refine X.xok (fun w6 => ?_)
  replace h := h A6 w6 h1
  change X _ _ _ _ A6 _ _ []
  refine x_aload_n dX21_init_15 rfl ?_
  refine x_iload_n dX21_init_16 rfl ?_
  obtain ⟨o7, h⟩ := h
  obtain ⟨o8, h⟩ := h
  refine z_putI hG hO.1 dX21_init_17 f_X21_19_19 ⟨_, rfl, Or.inr ⟨rfl, rfl, rfl⟩⟩ o7 (by decide) (narrow01 o8) (fits01 o8) ⟨_, rfl⟩ (fun A9 e9 => ?_)
  replace h := h A9 e9
  refine x_aload_n dX21_init_20 rfl ?_
  refine x_aload_n dX21_init_21 rfl ?_
  refine z_putP hG hO.1 (some b2) dX21_init_22 f_X21_25_19 ⟨_, rfl, Or.inr ⟨rfl, rfl, rfl⟩⟩ (kI e9 o7) (by decide) (Or.inl ⟨_, rfl⟩) (fun A10 e10 => ?_)
  replace h := h A10 e10
  exact x_vret dX21_init_25 rfl ⟨rfl, h⟩
def w_X22_init (G : xG) (p : Nat) (t : Option Nat) (q : Option Nat) (Q : xA → Prop) (A : xA) : Prop := xok G A → ∃ b2 : Nat, q = some b2 ∧ (A.tg b2 = 37 ∧ (∃ R1 : Option Nat → xA → Prop, w_J5_get G b2 (0 : Int32) R1 A ∧ (∀ (v1 : Option Nat) (A1 : xA), xok G A1 → R1 v1 A1 → (∃ b4 : Nat, v1 = some b4 ∧ (xE A1 b4 ∧ (∃ R6 : xA → Prop, w_X15_init G p (A1.I b4 0) R6 A1 ∧ (∀ A6 : xA, xok G A6 → R6 A6 → (A6.tg p = 21 ∧ (∀ A8 : xA, A8 = A6.setP p 1 t → (∀ A9 : xA, A9 = A8.setP p 2 (some b2) → (Q A9)))))))))))
theorem m_X22_init (hG : xOK G) (hO : xHO G) {dp : Nat} {p : Nat} {t : Option Nat} {q : Option Nat} {Q : xA → Prop} {A : xA} (h : w_X22_init G p t q Q A) : MX G (dp + 3) kX22_init [.ref p, va_rf t, va_rf q] A (hV Q) := by
  unfold w_X22_init at h
  refine MX.of rfl (by cases t <;> cases q <;> exact Nat.le_of_ble_eq_true rfl) ?_
  refine X.lvs (lv' := [some (.ref p), some (va_rf t), some (va_rf q)]) (by cases t <;> cases q <;> rfl) ?_
  refine X.xok (fun w0 => ?_)
  replace h := h w0
  refine x_aload_n dX22_init_0 rfl ?_
  refine x_aloadq_n dX22_init_1 rfl ?_
  refine x_iconst_ (v := (0 : Int32)) dX22_init_2 (by decide) ?_
  obtain ⟨b2, e2, h⟩ := h
  rw [e2]
  obtain ⟨o3, h⟩ := h
  obtain ⟨R1, g1, h⟩ := h
  refine x_callV hG (Ky := kJ5_get) (As := [.int (0 : Int32)]) dX22_init_3 o3 rfl lk_X22_3 me_J5_get is_J5_get se_J5_get rfl rfl (Nat.le_of_ble_eq_true rfl) (MX.post (m_w_J5_get hG hO g1) ?_)
  rintro _ A1 ⟨v1, rfl, h1⟩
  refine X.xok (fun w1 => ?_)
  replace h := h v1 A1 w1 h1
  change X _ _ _ _ A1 _ _ [va_rf v1, .ref p]
  obtain ⟨b4, e4, h⟩ := h
  rw [e4]
  obtain ⟨o5, h⟩ := h
  refine z_castE hG dX22_init_6 q1432 o5 ?_
  refine z_getE hG dX22_init_9 fE_X22_11 o5 ?_
  obtain ⟨R6, g6, h⟩ := h
  refine x_callI hG (Ky := kX15_init) (As := [.int (A1.I b4 0)]) dX22_init_12 lk_X22_15 me_X15_init is_X15_init rfl rfl rfl rfl rfl (Nat.le_of_ble_eq_true rfl) (MX.post (m_X15_init hG hO g6) ?_)
  rintro _ A6 ⟨rfl, h1⟩
  refine X.xok (fun w6 => ?_)
  replace h := h A6 w6 h1
  change X _ _ _ _ A6 _ _ []
  refine x_aload_n dX22_init_15 rfl ?_
  refine x_aloadq_n dX22_init_16 rfl ?_
  obtain ⟨o7, h⟩ := h
  refine z_putP hG hO.1 t dX22_init_17 f_X22_19_20 ⟨_, rfl, Or.inr ⟨rfl, rfl, rfl⟩⟩ o7 (by decide) (Or.inr ⟨_, rfl⟩) (fun A8 e8 => ?_)
  replace h := h A8 e8
  refine x_aload_n dX22_init_20 rfl ?_
  refine x_aload_n dX22_init_21 rfl ?_
  refine z_putP hG hO.1 (some b2) dX22_init_22 f_X22_25_20 ⟨_, rfl, Or.inr ⟨rfl, rfl, rfl⟩⟩ (kP e8 o7) (by decide) (Or.inl ⟨_, rfl⟩) (fun A9 e9 => ?_)
  replace h := h A9 e9
  exact x_vret dX22_init_25 rfl ⟨rfl, h⟩
def w_X23_init (G : xG) (p : Nat) (a : Option Nat) (y : Option Nat) (n : Option Nat) (Q : xA → Prop) (A : xA) : Prop := xok G A → ∃ b1 : Nat, a = some b1 ∧ (xE A b1 ∧ (∃ R3 : xA → Prop, w_X15_init G p (A.I b1 0) R3 A ∧ (∀ A3 : xA, xok G A3 → R3 A3 → (A3.tg p = 22 ∧ (∀ A5 : xA, A5 = A3.setP p 1 (some b1) → (∀ A6 : xA, A6 = A5.setP p 2 y → (∀ A7 : xA, A7 = A6.setP p 3 n → (Q A7))))))))
theorem m_X23_init (hG : xOK G) (hO : xHO G) {dp : Nat} {p : Nat} {a : Option Nat} {y : Option Nat} {n : Option Nat} {Q : xA → Prop} {A : xA} (h : w_X23_init G p a y n Q A) : MX G (dp + 2) kX23_init [.ref p, va_rf a, va_rf y, va_rf n] A (hV Q) := by
  unfold w_X23_init at h
  refine MX.of rfl (by cases a <;> cases y <;> cases n <;> exact Nat.le_of_ble_eq_true rfl) ?_
  refine X.lvs (lv' := [some (.ref p), some (va_rf a), some (va_rf y), some (va_rf n)]) (by cases a <;> cases y <;> cases n <;> rfl) ?_
  refine X.xok (fun w0 => ?_)
  replace h := h w0
  refine x_aload_n dX23_init_0 rfl ?_
  refine x_aloadq_n dX23_init_1 rfl ?_
  obtain ⟨b1, e1, h⟩ := h
  rw [e1]
  obtain ⟨o2, h⟩ := h
  refine z_getE hG dX23_init_2 fE_X23_3 o2 ?_
  obtain ⟨R3, g3, h⟩ := h
  refine x_callI hG (Ky := kX15_init) (As := [.int (A.I b1 0)]) dX23_init_5 lk_X23_9 me_X15_init is_X15_init rfl rfl rfl rfl rfl (Nat.le_of_ble_eq_true rfl) (MX.post (m_X15_init hG hO g3) ?_)
  rintro _ A3 ⟨rfl, h1⟩
  refine X.xok (fun w3 => ?_)
  replace h := h A3 w3 h1
  change X _ _ _ _ A3 _ _ []
  refine x_aload_n dX23_init_8 rfl ?_
  refine x_aload_n dX23_init_9 rfl ?_
  obtain ⟨o4, h⟩ := h
  refine z_putP hG hO.1 (some b1) dX23_init_10 f_X23_13_21 ⟨_, rfl, Or.inr ⟨rfl, rfl, rfl⟩⟩ o4 (by decide) (Or.inl ⟨_, rfl⟩) (fun A5 e5 => ?_)
  replace h := h A5 e5
  refine x_aload_n dX23_init_13 rfl ?_
  refine x_aloadq_n dX23_init_14 rfl ?_
  refine z_putP hG hO.1 y dX23_init_15 f_X23_19_21 ⟨_, rfl, Or.inr ⟨rfl, rfl, rfl⟩⟩ (kP e5 o4) (by decide) (Or.inl ⟨_, rfl⟩) (fun A6 e6 => ?_)
  replace h := h A6 e6
  refine x_aload_n dX23_init_18 rfl ?_
  refine x_aloadq_n dX23_init_19 rfl ?_
  refine z_putP hG hO.1 n dX23_init_20 f_X23_22_21 ⟨_, rfl, Or.inr ⟨rfl, rfl, rfl⟩⟩ (kP e6 (kP e5 o4)) (by decide) (Or.inl ⟨_, rfl⟩) (fun A7 e7 => ?_)
  replace h := h A7 e7
  exact x_vret dX23_init_23 rfl ⟨rfl, h⟩
def w_X4_init (G : xG) (p : Nat) (Q : xA → Prop) (A : xA) : Prop := xok G A → Q A
theorem m_X4_init (hG : xOK G) (hO : xHO G) {dp : Nat} {p : Nat} {Q : xA → Prop} {A : xA} (h : w_X4_init G p Q A) : MX G (dp + 1) kX4_init [.ref p] A (hV Q) := by
  unfold w_X4_init at h
  refine MX.of rfl (Nat.le_of_ble_eq_true rfl) ?_
  change X _ _ _ _ _ _ [some (.ref p)] _
  refine X.xok (fun w0 => ?_)
  replace h := h w0
  refine x_aload_n dX4_init_0 rfl ?_
  refine x_objInit hG dX4_init_1 q452 q261 q262 (Nat.le_of_ble_eq_true rfl) ?_
  exact x_vret dX4_init_4 rfl ⟨rfl, h⟩
def w_X5_init (G : xG) (p : Nat) (Q : xA → Prop) (A : xA) : Prop := xok G A → ∃ R1 : xA → Prop, w_X4_init G p R1 A ∧ (∀ A1 : xA, xok G A1 → R1 A1 → (rmO G A1 3 ∧ (∀ A3 : xA, A3 = A1.new 37 0 3 0 → (∃ R4 : xA → Prop, w_J5_init G A1.n R4 A3 ∧ (∀ A4 : xA, xok G A4 → R4 A4 → (A4.tg p = 5 ∧ (∀ A6 : xA, A6 = A4.setP p 0 (some A1.n) → (Q A6))))))))
theorem m_X5_init (hG : xOK G) (hO : xHO G) {dp : Nat} {p : Nat} {Q : xA → Prop} {A : xA} (h : w_X5_init G p Q A) : MX G (dp + 4) kX5_init [.ref p] A (hV Q) := by
  unfold w_X5_init at h
  refine MX.of rfl (Nat.le_of_ble_eq_true rfl) ?_
  change X _ _ _ _ _ _ [some (.ref p)] _
  refine X.xok (fun w0 => ?_)
  replace h := h w0
  refine x_aload_n dX5_init_0 rfl ?_
  obtain ⟨R1, g1, h⟩ := h
  refine x_callI hG (Ky := kX4_init) (As := []) dX5_init_1 lk_X5_1 me_X4_init is_X4_init rfl rfl rfl rfl rfl (Nat.le_of_ble_eq_true rfl) (MX.post (m_X4_init hG hO g1) ?_)
  rintro _ A1 ⟨rfl, h1⟩
  refine X.xok (fun w1 => ?_)
  replace h := h A1 w1 h1
  change X _ _ _ _ A1 _ _ []
  refine x_aload_n dX5_init_4 rfl ?_
  obtain ⟨o2, h⟩ := h
  refine z_new hG (c := 36) dX5_init_5 rfl q453 (by decide) rfl o2 (fun A3 e3 w3 => ?_)
  replace h := h A3 e3
  refine x_dup dX5_init_8 rfl ?_
  obtain ⟨R4, g4, h⟩ := h
  refine x_callI hG (Ky := kJ5_init) (As := []) dX5_init_9 lk_X5_9 me_J5_init is_J5_init rfl rfl rfl rfl rfl (Nat.le_of_ble_eq_true rfl) (MX.post (m_w_J5_init hG hO g4) ?_)
  rintro _ A4 ⟨rfl, h1⟩
  refine X.xok (fun w4 => ?_)
  replace h := h A4 w4 h1
  change X _ _ _ _ A4 _ _ [.ref A1.n, .ref p]
  obtain ⟨o5, h⟩ := h
  refine z_putP hG hO.1 (some A1.n) dX5_init_12 f_X5_10_4 ⟨_, rfl, Or.inr ⟨rfl, rfl, rfl⟩⟩ o5 (by decide) (Or.inl ⟨_, rfl⟩) (fun A6 e6 => ?_)
  replace h := h A6 e6
  exact x_vret dX5_init_15 rfl ⟨rfl, h⟩
def w_X25_init (G : xG) (p : Nat) (q : Int32) (n : Int32) (b : Int32) (s : Option Nat) (Q : xA → Prop) (A : xA) : Prop := xok G A → ∃ R1 : xA → Prop, w_X4_init G p R1 A ∧ (∀ A1 : xA, xok G A1 → R1 A1 → (A1.tg p = 24 ∧ (∀ A3 : xA, A3 = A1.setI p 1 q → (∀ A4 : xA, A4 = A3.setI p 0 n → ((b = 0 ∨ b = 1) ∧ (∀ A6 : xA, A6 = A4.setI p 2 b → (∀ A7 : xA, A7 = A6.setP p 3 s → (Q A7))))))))
theorem m_X25_init (hG : xOK G) (hO : xHO G) {dp : Nat} {p : Nat} {q : Int32} {n : Int32} {b : Int32} {s : Option Nat} {Q : xA → Prop} {A : xA} (h : w_X25_init G p q n b s Q A) : MX G (dp + 2) kX25_init [.ref p, .int q, .int n, .int b, va_rf s] A (hV Q) := by
  unfold w_X25_init at h
  refine MX.of rfl (by cases s <;> exact Nat.le_of_ble_eq_true rfl) ?_
  refine X.lvs (lv' := [some (.ref p), some (.int q), some (.int n), some (.int b), some (va_rf s)]) (by cases s <;> rfl) ?_
  refine X.xok (fun w0 => ?_)
  replace h := h w0
  refine x_aload_n dX25_init_0 rfl ?_
  obtain ⟨R1, g1, h⟩ := h
  refine x_callI hG (Ky := kX4_init) (As := []) dX25_init_1 lk_X25_3 me_X4_init is_X4_init rfl rfl rfl rfl rfl (Nat.le_of_ble_eq_true rfl) (MX.post (m_X4_init hG hO g1) ?_)
  rintro _ A1 ⟨rfl, h1⟩
  refine X.xok (fun w1 => ?_)
  replace h := h A1 w1 h1
  change X _ _ _ _ A1 _ _ []
  refine x_aload_n dX25_init_4 rfl ?_
  refine x_iload_n dX25_init_5 rfl ?_
  obtain ⟨o2, h⟩ := h
  refine z_putI hG hO.1 dX25_init_6 f_X25_9_23 ⟨_, rfl, Or.inr ⟨rfl, rfl, rfl⟩⟩ o2 (by decide) rfl rfl ⟨_, rfl⟩ (fun A3 e3 => ?_)
  replace h := h A3 e3
  refine x_aload_n dX25_init_9 rfl ?_
  refine x_iload_n dX25_init_10 rfl ?_
  refine z_putI hG hO.1 dX25_init_11 f_X25_15_23 ⟨_, rfl, Or.inr ⟨rfl, rfl, rfl⟩⟩ (kI e3 o2) (by decide) rfl rfl ⟨_, rfl⟩ (fun A4 e4 => ?_)
  replace h := h A4 e4
  refine x_aload_n dX25_init_14 rfl ?_
  refine x_iload_n dX25_init_15 rfl ?_
  obtain ⟨o5, h⟩ := h
  refine z_putI hG hO.1 dX25_init_16 f_X25_18_23 ⟨_, rfl, Or.inr ⟨rfl, rfl, rfl⟩⟩ (kI e4 (kI e3 o2)) (by decide) (narrow01 o5) (fits01 o5) ⟨_, rfl⟩ (fun A6 e6 => ?_)
  replace h := h A6 e6
  refine x_aload_n dX25_init_19 rfl ?_
  refine x_aloadq dX25_init_20 rfl ?_
  refine z_putP hG hO.1 s dX25_init_22 f_X25_22_23 ⟨_, rfl, Or.inr ⟨rfl, rfl, rfl⟩⟩ (kI e6 (kI e4 (kI e3 o2))) (by decide) (Or.inl ⟨_, rfl⟩) (fun A7 e7 => ?_)
  replace h := h A7 e7
  exact x_vret dX25_init_25 rfl ⟨rfl, h⟩
def w_X26_init (G : xG) (p : Nat) (q : Int32) (n : Int32) (f : Option Nat) (Q : xA → Prop) (A : xA) : Prop := xok G A → ∃ R1 : xA → Prop, w_X4_init G p R1 A ∧ (∀ A1 : xA, xok G A1 → R1 A1 → (A1.tg p = 25 ∧ (∀ A3 : xA, A3 = A1.setI p 1 q → (∀ A4 : xA, A4 = A3.setI p 0 n → (∀ A5 : xA, A5 = A4.setP p 2 f → (Q A5))))))
theorem m_X26_init (hG : xOK G) (hO : xHO G) {dp : Nat} {p : Nat} {q : Int32} {n : Int32} {f : Option Nat} {Q : xA → Prop} {A : xA} (h : w_X26_init G p q n f Q A) : MX G (dp + 2) kX26_init [.ref p, .int q, .int n, va_rf f] A (hV Q) := by
  unfold w_X26_init at h
  refine MX.of rfl (by cases f <;> exact Nat.le_of_ble_eq_true rfl) ?_
  refine X.lvs (lv' := [some (.ref p), some (.int q), some (.int n), some (va_rf f)]) (by cases f <;> rfl) ?_
  refine X.xok (fun w0 => ?_)
  replace h := h w0
  refine x_aload_n dX26_init_0 rfl ?_
  obtain ⟨R1, g1, h⟩ := h
  refine x_callI hG (Ky := kX4_init) (As := []) dX26_init_1 lk_X26_3 me_X4_init is_X4_init rfl rfl rfl rfl rfl (Nat.le_of_ble_eq_true rfl) (MX.post (m_X4_init hG hO g1) ?_)
  rintro _ A1 ⟨rfl, h1⟩
  refine X.xok (fun w1 => ?_)
  replace h := h A1 w1 h1
  change X _ _ _ _ A1 _ _ []
  refine x_aload_n dX26_init_4 rfl ?_
  refine x_iload_n dX26_init_5 rfl ?_
  obtain ⟨o2, h⟩ := h
  refine z_putI hG hO.1 dX26_init_6 f_X26_9_24 ⟨_, rfl, Or.inr ⟨rfl, rfl, rfl⟩⟩ o2 (by decide) rfl rfl ⟨_, rfl⟩ (fun A3 e3 => ?_)
  replace h := h A3 e3
  refine x_aload_n dX26_init_9 rfl ?_
  refine x_iload_n dX26_init_10 rfl ?_
  refine z_putI hG hO.1 dX26_init_11 f_X26_15_24 ⟨_, rfl, Or.inr ⟨rfl, rfl, rfl⟩⟩ (kI e3 o2) (by decide) rfl rfl ⟨_, rfl⟩ (fun A4 e4 => ?_)
  replace h := h A4 e4
  refine x_aload_n dX26_init_14 rfl ?_
  refine x_aloadq_n dX26_init_15 rfl ?_
  refine z_putP hG hO.1 f dX26_init_16 f_X26_18_24 ⟨_, rfl, Or.inr ⟨rfl, rfl, rfl⟩⟩ (kI e4 (kI e3 o2)) (by decide) (Or.inl ⟨_, rfl⟩) (fun A5 e5 => ?_)
  replace h := h A5 e5
  exact x_vret dX26_init_19 rfl ⟨rfl, h⟩
def w_X27_init (G : xG) (p : Nat) (a : Option Nat) (y : Option Nat) (n : Option Nat) (Q : xA → Prop) (A : xA) : Prop := xok G A → ∃ R1 : xA → Prop, w_X4_init G p R1 A ∧ (∀ A1 : xA, xok G A1 → R1 A1 → (A1.tg p = 26 ∧ (∀ A3 : xA, A3 = A1.setP p 0 a → (∀ A4 : xA, A4 = A3.setP p 1 y → (∀ A5 : xA, A5 = A4.setP p 2 n → (Q A5))))))
theorem m_X27_init (hG : xOK G) (hO : xHO G) {dp : Nat} {p : Nat} {a : Option Nat} {y : Option Nat} {n : Option Nat} {Q : xA → Prop} {A : xA} (h : w_X27_init G p a y n Q A) : MX G (dp + 2) kX27_init [.ref p, va_rf a, va_rf y, va_rf n] A (hV Q) := by
  unfold w_X27_init at h
  refine MX.of rfl (by cases a <;> cases y <;> cases n <;> exact Nat.le_of_ble_eq_true rfl) ?_
  refine X.lvs (lv' := [some (.ref p), some (va_rf a), some (va_rf y), some (va_rf n)]) (by cases a <;> cases y <;> cases n <;> rfl) ?_
  refine X.xok (fun w0 => ?_)
  replace h := h w0
  refine x_aload_n dX27_init_0 rfl ?_
  obtain ⟨R1, g1, h⟩ := h
  refine x_callI hG (Ky := kX4_init) (As := []) dX27_init_1 lk_X27_1 me_X4_init is_X4_init rfl rfl rfl rfl rfl (Nat.le_of_ble_eq_true rfl) (MX.post (m_X4_init hG hO g1) ?_)
  rintro _ A1 ⟨rfl, h1⟩
  refine X.xok (fun w1 => ?_)
  replace h := h A1 w1 h1
  change X _ _ _ _ A1 _ _ []
  refine x_aload_n dX27_init_4 rfl ?_
  refine x_aloadq_n dX27_init_5 rfl ?_
  obtain ⟨o2, h⟩ := h
  refine z_putP hG hO.1 a dX27_init_6 f_X27_7_25 ⟨_, rfl, Or.inr ⟨rfl, rfl, rfl⟩⟩ o2 (by decide) (Or.inl ⟨_, rfl⟩) (fun A3 e3 => ?_)
  replace h := h A3 e3
  refine x_aload_n dX27_init_9 rfl ?_
  refine x_aloadq_n dX27_init_10 rfl ?_
  refine z_putP hG hO.1 y dX27_init_11 f_X27_13_25 ⟨_, rfl, Or.inr ⟨rfl, rfl, rfl⟩⟩ (kP e3 o2) (by decide) (Or.inl ⟨_, rfl⟩) (fun A4 e4 => ?_)
  replace h := h A4 e4
  refine x_aload_n dX27_init_14 rfl ?_
  refine x_aloadq_n dX27_init_15 rfl ?_
  refine z_putP hG hO.1 n dX27_init_16 f_X27_17_25 ⟨_, rfl, Or.inr ⟨rfl, rfl, rfl⟩⟩ (kP e4 (kP e3 o2)) (by decide) (Or.inl ⟨_, rfl⟩) (fun A5 e5 => ?_)
  replace h := h A5 e5
  exact x_vret dX27_init_19 rfl ⟨rfl, h⟩
def w_X28_init (G : xG) (p : Nat) (s : Option Nat) (a : Option Nat) (t : Option Nat) (b : Option Nat) (i : Int32) (Q : xA → Prop) (A : xA) : Prop := xok G A → ∃ R1 : xA → Prop, w_X4_init G p R1 A ∧ (∀ A1 : xA, xok G A1 → R1 A1 → (A1.tg p = 27 ∧ (∀ A3 : xA, A3 = A1.setP p 0 s → (∀ A4 : xA, A4 = A3.setP p 2 a → (∀ A5 : xA, A5 = A4.setP p 1 t → (∀ A6 : xA, A6 = A5.setP p 3 b → ((i = 0 ∨ i = 1) ∧ (∀ A8 : xA, A8 = A6.setI p 4 i → (Q A8)))))))))
theorem m_X28_init (hG : xOK G) (hO : xHO G) {dp : Nat} {p : Nat} {s : Option Nat} {a : Option Nat} {t : Option Nat} {b : Option Nat} {i : Int32} {Q : xA → Prop} {A : xA} (h : w_X28_init G p s a t b i Q A) : MX G (dp + 2) kX28_init [.ref p, va_rf s, va_rf a, va_rf t, va_rf b, .int i] A (hV Q) := by
  unfold w_X28_init at h
  refine MX.of rfl (by cases s <;> cases a <;> cases t <;> cases b <;> exact Nat.le_of_ble_eq_true rfl) ?_
  refine X.lvs (lv' := [some (.ref p), some (va_rf s), some (va_rf a), some (va_rf t), some (va_rf b), some (.int i)]) (by cases s <;> cases a <;> cases t <;> cases b <;> rfl) ?_
  refine X.xok (fun w0 => ?_)
  replace h := h w0
  refine x_aload_n dX28_init_0 rfl ?_
  obtain ⟨R1, g1, h⟩ := h
  refine x_callI hG (Ky := kX4_init) (As := []) dX28_init_1 lk_X28_1 me_X4_init is_X4_init rfl rfl rfl rfl rfl (Nat.le_of_ble_eq_true rfl) (MX.post (m_X4_init hG hO g1) ?_)
  rintro _ A1 ⟨rfl, h1⟩
  refine X.xok (fun w1 => ?_)
  replace h := h A1 w1 h1
  change X _ _ _ _ A1 _ _ []
  refine x_aload_n dX28_init_4 rfl ?_
  refine x_aloadq_n dX28_init_5 rfl ?_
  obtain ⟨o2, h⟩ := h
  refine z_putP hG hO.1 s dX28_init_6 f_X28_7_26 ⟨_, rfl, Or.inr ⟨rfl, rfl, rfl⟩⟩ o2 (by decide) (Or.inl ⟨_, rfl⟩) (fun A3 e3 => ?_)
  replace h := h A3 e3
  refine x_aload_n dX28_init_9 rfl ?_
  refine x_aloadq_n dX28_init_10 rfl ?_
  refine z_putP hG hO.1 a dX28_init_11 f_X28_13_26 ⟨_, rfl, Or.inr ⟨rfl, rfl, rfl⟩⟩ (kP e3 o2) (by decide) (Or.inl ⟨_, rfl⟩) (fun A4 e4 => ?_)
  replace h := h A4 e4
  refine x_aload_n dX28_init_14 rfl ?_
  refine x_aloadq_n dX28_init_15 rfl ?_
  refine z_putP hG hO.1 t dX28_init_16 f_X28_17_26 ⟨_, rfl, Or.inr ⟨rfl, rfl, rfl⟩⟩ (kP e4 (kP e3 o2)) (by decide) (Or.inl ⟨_, rfl⟩) (fun A5 e5 => ?_)
  replace h := h A5 e5
  refine x_aload_n dX28_init_19 rfl ?_
  refine x_aloadq dX28_init_20 rfl ?_
  refine z_putP hG hO.1 b dX28_init_22 f_X28_20_26 ⟨_, rfl, Or.inr ⟨rfl, rfl, rfl⟩⟩ (kP e5 (kP e4 (kP e3 o2))) (by decide) (Or.inl ⟨_, rfl⟩) (fun A6 e6 => ?_)
  replace h := h A6 e6
  refine x_aload_n dX28_init_25 rfl ?_
  refine x_iload dX28_init_26 rfl ?_
  obtain ⟨o7, h⟩ := h
  refine z_putI hG hO.1 dX28_init_28 f_X28_23_26 ⟨_, rfl, Or.inr ⟨rfl, rfl, rfl⟩⟩ (kP e6 (kP e5 (kP e4 (kP e3 o2)))) (by decide) (narrow01 o7) (fits01 o7) ⟨_, rfl⟩ (fun A8 e8 => ?_)
  replace h := h A8 e8
  exact x_vret dX28_init_31 rfl ⟨rfl, h⟩
def w_X29_init (G : xG) (p : Nat) (c : Option Nat) (Q : xA → Prop) (A : xA) : Prop := xok G A → ∃ R1 : xA → Prop, w_X4_init G p R1 A ∧ (∀ A1 : xA, xok G A1 → R1 A1 → (A1.tg p = 28 ∧ (∀ A3 : xA, A3 = A1.setP p 0 c → (Q A3))))
theorem m_X29_init (hG : xOK G) (hO : xHO G) {dp : Nat} {p : Nat} {c : Option Nat} {Q : xA → Prop} {A : xA} (h : w_X29_init G p c Q A) : MX G (dp + 2) kX29_init [.ref p, va_rf c] A (hV Q) := by
  unfold w_X29_init at h
  refine MX.of rfl (by cases c <;> exact Nat.le_of_ble_eq_true rfl) ?_
  refine X.lvs (lv' := [some (.ref p), some (va_rf c)]) (by cases c <;> rfl) ?_
  refine X.xok (fun w0 => ?_)
  replace h := h w0
  refine x_aload_n dX29_init_0 rfl ?_
  obtain ⟨R1, g1, h⟩ := h
  refine x_callI hG (Ky := kX4_init) (As := []) dX29_init_1 lk_X29_1 me_X4_init is_X4_init rfl rfl rfl rfl rfl (Nat.le_of_ble_eq_true rfl) (MX.post (m_X4_init hG hO g1) ?_)
  rintro _ A1 ⟨rfl, h1⟩
  refine X.xok (fun w1 => ?_)
  replace h := h A1 w1 h1
  change X _ _ _ _ A1 _ _ []
  refine x_aload_n dX29_init_4 rfl ?_
  refine x_aloadq_n dX29_init_5 rfl ?_
  obtain ⟨o2, h⟩ := h
  refine z_putP hG hO.1 c dX29_init_6 f_X29_7_27 ⟨_, rfl, Or.inr ⟨rfl, rfl, rfl⟩⟩ o2 (by decide) (Or.inl ⟨_, rfl⟩) (fun A3 e3 => ?_)
  replace h := h A3 e3
  exact x_vret dX29_init_9 rfl ⟨rfl, h⟩
def w_X30_init (G : xG) (p : Nat) (q : Option Nat) (t : Int32) (o : Option Nat) (Q : xA → Prop) (A : xA) : Prop := xok G A → ∃ R1 : xA → Prop, w_X4_init G p R1 A ∧ (∀ A1 : xA, xok G A1 → R1 A1 → (A1.tg p = 29 ∧ (∀ A3 : xA, A3 = A1.setP p 0 q → (∀ A4 : xA, A4 = A3.setI p 1 t → (∀ A5 : xA, A5 = A4.setP p 2 o → (Q A5))))))
theorem m_X30_init (hG : xOK G) (hO : xHO G) {dp : Nat} {p : Nat} {q : Option Nat} {t : Int32} {o : Option Nat} {Q : xA → Prop} {A : xA} (h : w_X30_init G p q t o Q A) : MX G (dp + 2) kX30_init [.ref p, va_rf q, .int t, va_rf o] A (hV Q) := by
  unfold w_X30_init at h
  refine MX.of rfl (by cases q <;> cases o <;> exact Nat.le_of_ble_eq_true rfl) ?_
  refine X.lvs (lv' := [some (.ref p), some (va_rf q), some (.int t), some (va_rf o)]) (by cases q <;> cases o <;> rfl) ?_
  refine X.xok (fun w0 => ?_)
  replace h := h w0
  refine x_aload_n dX30_init_0 rfl ?_
  obtain ⟨R1, g1, h⟩ := h
  refine x_callI hG (Ky := kX4_init) (As := []) dX30_init_1 lk_X30_1 me_X4_init is_X4_init rfl rfl rfl rfl rfl (Nat.le_of_ble_eq_true rfl) (MX.post (m_X4_init hG hO g1) ?_)
  rintro _ A1 ⟨rfl, h1⟩
  refine X.xok (fun w1 => ?_)
  replace h := h A1 w1 h1
  change X _ _ _ _ A1 _ _ []
  refine x_aload_n dX30_init_4 rfl ?_
  refine x_aloadq_n dX30_init_5 rfl ?_
  obtain ⟨o2, h⟩ := h
  refine z_putP hG hO.1 q dX30_init_6 f_X30_7_28 ⟨_, rfl, Or.inr ⟨rfl, rfl, rfl⟩⟩ o2 (by decide) (Or.inl ⟨_, rfl⟩) (fun A3 e3 => ?_)
  replace h := h A3 e3
  refine x_aload_n dX30_init_9 rfl ?_
  refine x_iload_n dX30_init_10 rfl ?_
  refine z_putI hG hO.1 dX30_init_11 f_X30_13_28 ⟨_, rfl, Or.inr ⟨rfl, rfl, rfl⟩⟩ (kP e3 o2) (by decide) rfl rfl ⟨_, rfl⟩ (fun A4 e4 => ?_)
  replace h := h A4 e4
  refine x_aload_n dX30_init_14 rfl ?_
  refine x_aloadq_n dX30_init_15 rfl ?_
  refine z_putP hG hO.1 o dX30_init_16 f_X30_17_28 ⟨_, rfl, Or.inr ⟨rfl, rfl, rfl⟩⟩ (kI e4 (kP e3 o2)) (by decide) (Or.inl ⟨_, rfl⟩) (fun A5 e5 => ?_)
  replace h := h A5 e5
  exact x_vret dX30_init_19 rfl ⟨rfl, h⟩
def w_X31_init (G : xG) (p : Nat) (q : Int32) (b : Int32) (Q : xA → Prop) (A : xA) : Prop := xok G A → ∃ R1 : xA → Prop, w_X4_init G p R1 A ∧ (∀ A1 : xA, xok G A1 → R1 A1 → (A1.tg p = 30 ∧ (∀ A3 : xA, A3 = A1.setI p 0 q → ((b = 0 ∨ b = 1) ∧ (∀ A5 : xA, A5 = A3.setI p 1 b → (Q A5))))))
theorem m_X31_init (hG : xOK G) (hO : xHO G) {dp : Nat} {p : Nat} {q : Int32} {b : Int32} {Q : xA → Prop} {A : xA} (h : w_X31_init G p q b Q A) : MX G (dp + 2) kX31_init [.ref p, .int q, .int b] A (hV Q) := by
  unfold w_X31_init at h
  refine MX.of rfl (Nat.le_of_ble_eq_true rfl) ?_
  change X _ _ _ _ _ _ [some (.ref p), some (.int q), some (.int b)] _
  refine X.xok (fun w0 => ?_)
  replace h := h w0
  refine x_aload_n dX31_init_0 rfl ?_
  obtain ⟨R1, g1, h⟩ := h
  refine x_callI hG (Ky := kX4_init) (As := []) dX31_init_1 lk_X31_1 me_X4_init is_X4_init rfl rfl rfl rfl rfl (Nat.le_of_ble_eq_true rfl) (MX.post (m_X4_init hG hO g1) ?_)
  rintro _ A1 ⟨rfl, h1⟩
  refine X.xok (fun w1 => ?_)
  replace h := h A1 w1 h1
  change X _ _ _ _ A1 _ _ []
  refine x_aload_n dX31_init_4 rfl ?_
  refine x_iload_n dX31_init_5 rfl ?_
  obtain ⟨o2, h⟩ := h
  refine z_putI hG hO.1 dX31_init_6 f_X31_7_29 ⟨_, rfl, Or.inr ⟨rfl, rfl, rfl⟩⟩ o2 (by decide) rfl rfl ⟨_, rfl⟩ (fun A3 e3 => ?_)
  replace h := h A3 e3
  refine x_aload_n dX31_init_9 rfl ?_
  refine x_iload_n dX31_init_10 rfl ?_
  obtain ⟨o4, h⟩ := h
  refine z_putI hG hO.1 dX31_init_11 f_X31_13_29 ⟨_, rfl, Or.inr ⟨rfl, rfl, rfl⟩⟩ (kI e3 o2) (by decide) (narrow01 o4) (fits01 o4) ⟨_, rfl⟩ (fun A5 e5 => ?_)
  replace h := h A5 e5
  exact x_vret dX31_init_14 rfl ⟨rfl, h⟩
def w_X32_init (G : xG) (p : Nat) (b : Int32) (o : Option Nat) (Q : xA → Prop) (A : xA) : Prop := xok G A → ∃ R1 : xA → Prop, w_X4_init G p R1 A ∧ (∀ A1 : xA, xok G A1 → R1 A1 → (A1.tg p = 31 ∧ (∀ A3 : xA, A3 = A1.setI p 0 b → (∀ A4 : xA, A4 = A3.setP p 1 o → (Q A4)))))
theorem m_X32_init (hG : xOK G) (hO : xHO G) {dp : Nat} {p : Nat} {b : Int32} {o : Option Nat} {Q : xA → Prop} {A : xA} (h : w_X32_init G p b o Q A) : MX G (dp + 2) kX32_init [.ref p, .int b, va_rf o] A (hV Q) := by
  unfold w_X32_init at h
  refine MX.of rfl (by cases o <;> exact Nat.le_of_ble_eq_true rfl) ?_
  refine X.lvs (lv' := [some (.ref p), some (.int b), some (va_rf o)]) (by cases o <;> rfl) ?_
  refine X.xok (fun w0 => ?_)
  replace h := h w0
  refine x_aload_n dX32_init_0 rfl ?_
  obtain ⟨R1, g1, h⟩ := h
  refine x_callI hG (Ky := kX4_init) (As := []) dX32_init_1 lk_X32_1 me_X4_init is_X4_init rfl rfl rfl rfl rfl (Nat.le_of_ble_eq_true rfl) (MX.post (m_X4_init hG hO g1) ?_)
  rintro _ A1 ⟨rfl, h1⟩
  refine X.xok (fun w1 => ?_)
  replace h := h A1 w1 h1
  change X _ _ _ _ A1 _ _ []
  refine x_aload_n dX32_init_4 rfl ?_
  refine x_iload_n dX32_init_5 rfl ?_
  obtain ⟨o2, h⟩ := h
  refine z_putI hG hO.1 dX32_init_6 f_X32_7_30 ⟨_, rfl, Or.inr ⟨rfl, rfl, rfl⟩⟩ o2 (by decide) rfl rfl ⟨_, rfl⟩ (fun A3 e3 => ?_)
  replace h := h A3 e3
  refine x_aload_n dX32_init_9 rfl ?_
  refine x_aloadq_n dX32_init_10 rfl ?_
  refine z_putP hG hO.1 o dX32_init_11 f_X32_13_30 ⟨_, rfl, Or.inr ⟨rfl, rfl, rfl⟩⟩ (kI e3 o2) (by decide) (Or.inl ⟨_, rfl⟩) (fun A4 e4 => ?_)
  replace h := h A4 e4
  exact x_vret dX32_init_14 rfl ⟨rfl, h⟩
def w_X33_init (G : xG) (p : Nat) (o : Option Nat) (q : Int32) (Q : xA → Prop) (A : xA) : Prop := xok G A → ∃ R1 : xA → Prop, w_X4_init G p R1 A ∧ (∀ A1 : xA, xok G A1 → R1 A1 → (A1.tg p = 32 ∧ (∀ A3 : xA, A3 = A1.setP p 0 o → ((q = 0 ∨ q = 1) ∧ (∀ A5 : xA, A5 = A3.setI p 1 q → (Q A5))))))
theorem m_X33_init (hG : xOK G) (hO : xHO G) {dp : Nat} {p : Nat} {o : Option Nat} {q : Int32} {Q : xA → Prop} {A : xA} (h : w_X33_init G p o q Q A) : MX G (dp + 2) kX33_init [.ref p, va_rf o, .int q] A (hV Q) := by
  unfold w_X33_init at h
  refine MX.of rfl (by cases o <;> exact Nat.le_of_ble_eq_true rfl) ?_
  refine X.lvs (lv' := [some (.ref p), some (va_rf o), some (.int q)]) (by cases o <;> rfl) ?_
  refine X.xok (fun w0 => ?_)
  replace h := h w0
  refine x_aload_n dX33_init_0 rfl ?_
  obtain ⟨R1, g1, h⟩ := h
  refine x_callI hG (Ky := kX4_init) (As := []) dX33_init_1 lk_X33_1 me_X4_init is_X4_init rfl rfl rfl rfl rfl (Nat.le_of_ble_eq_true rfl) (MX.post (m_X4_init hG hO g1) ?_)
  rintro _ A1 ⟨rfl, h1⟩
  refine X.xok (fun w1 => ?_)
  replace h := h A1 w1 h1
  change X _ _ _ _ A1 _ _ []
  refine x_aload_n dX33_init_4 rfl ?_
  refine x_aloadq_n dX33_init_5 rfl ?_
  obtain ⟨o2, h⟩ := h
  refine z_putP hG hO.1 o dX33_init_6 f_X33_7_31 ⟨_, rfl, Or.inr ⟨rfl, rfl, rfl⟩⟩ o2 (by decide) (Or.inl ⟨_, rfl⟩) (fun A3 e3 => ?_)
  replace h := h A3 e3
  refine x_aload_n dX33_init_9 rfl ?_
  refine x_iload_n dX33_init_10 rfl ?_
  obtain ⟨o4, h⟩ := h
  refine z_putI hG hO.1 dX33_init_11 f_X33_13_31 ⟨_, rfl, Or.inr ⟨rfl, rfl, rfl⟩⟩ (kP e3 o2) (by decide) (narrow01 o4) (fits01 o4) ⟨_, rfl⟩ (fun A5 e5 => ?_)
  replace h := h A5 e5
  exact x_vret dX33_init_14 rfl ⟨rfl, h⟩
end W083
