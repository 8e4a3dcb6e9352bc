/-! ===== 099.hlower (tools/h045.py) ===== -/
set_option maxRecDepth 100000
section W099
variable {G : xG}
theorem fE_X32_35 : ∀ c, c ∈ eCl → xF RX32 35 c 0 := by
  intro c h
  simp only [eCl, List.mem_cons, List.not_mem_nil, or_false] at h
  rcases h with rfl | rfl | rfl | rfl | rfl | rfl | rfl | rfl
  · exact f_X32_35_14
  · exact f_X32_35_15
  · exact f_X32_35_16
  · exact f_X32_35_17
  · exact f_X32_35_18
  · exact f_X32_35_19
  · exact f_X32_35_20
  · exact f_X32_35_21
def xRC_D (G : xG) (D : Nat) (r0 : Nat → Option Nat → (xA → Prop) → (Nat → xA → Prop) → xA → Prop) (r1 : Nat → Option Nat → (xA → Prop) → (Nat → xA → Prop) → xA → Prop) (r2 : Nat → Option Nat → Option Nat → Option Nat → Option Nat → (xA → Prop) → (Nat → xA → Prop) → xA → Prop) (r3 : Nat → Option Nat → (xA → Prop) → (Nat → xA → Prop) → xA → Prop) : Prop := (∀ {p : Nat} {a0 : Option Nat} {Q : xA → Prop} {E : Nat → xA → Prop} {A : xA}, r0 p a0 Q E A → MX G D kX6_scoped [.ref p, va_rf a0] A (hX (hV Q) E)) ∧ (∀ {p : Nat} {a0 : Option Nat} {Q : xA → Prop} {E : Nat → xA → Prop} {A : xA}, r1 p a0 Q E A → MX G D kX5_lowerAll [.ref p, va_rf a0] A (hX (hV Q) E)) ∧ (∀ {p : Nat} {a0 : Option Nat} {a1 : Option Nat} {a2 : Option Nat} {a3 : Option Nat} {Q : xA → Prop} {E : Nat → xA → Prop} {A : xA}, r2 p a0 a1 a2 a3 Q E A → MX G D kX28_loop [.ref p, va_rf a0, va_rf a1, va_rf a2, va_rf a3] A (hX (hV Q) E)) ∧ ((∀ {p : Nat} {a0 : Option Nat} {Q : xA → Prop} {E : Nat → xA → Prop} {A : xA}, A.tg p = 5 → r3 p a0 Q E A → MX G D kX5_lower [.ref p, va_rf a0] A (hX (hV Q) E)) ∧ (∀ {p : Nat} {a0 : Option Nat} {Q : xA → Prop} {E : Nat → xA → Prop} {A : xA}, A.tg p = 24 → r3 p a0 Q E A → MX G D kX25_lower [.ref p, va_rf a0] A (hX (hV Q) E)) ∧ (∀ {p : Nat} {a0 : Option Nat} {Q : xA → Prop} {E : Nat → xA → Prop} {A : xA}, A.tg p = 25 → r3 p a0 Q E A → MX G D kX26_lower [.ref p, va_rf a0] A (hX (hV Q) E)) ∧ (∀ {p : Nat} {a0 : Option Nat} {Q : xA → Prop} {E : Nat → xA → Prop} {A : xA}, A.tg p = 26 → r3 p a0 Q E A → MX G D kX27_lower [.ref p, va_rf a0] A (hX (hV Q) E)) ∧ (∀ {p : Nat} {a0 : Option Nat} {Q : xA → Prop} {E : Nat → xA → Prop} {A : xA}, A.tg p = 27 → r3 p a0 Q E A → MX G D kX28_lower [.ref p, va_rf a0] A (hX (hV Q) E)) ∧ (∀ {p : Nat} {a0 : Option Nat} {Q : xA → Prop} {E : Nat → xA → Prop} {A : xA}, A.tg p = 28 → r3 p a0 Q E A → MX G D kX29_lower [.ref p, va_rf a0] A (hX (hV Q) E)) ∧ (∀ {p : Nat} {a0 : Option Nat} {Q : xA → Prop} {E : Nat → xA → Prop} {A : xA}, A.tg p = 29 → r3 p a0 Q E A → MX G D kX30_lower [.ref p, va_rf a0] A (hX (hV Q) E)) ∧ (∀ {p : Nat} {a0 : Option Nat} {Q : xA → Prop} {E : Nat → xA → Prop} {A : xA}, A.tg p = 30 → r3 p a0 Q E A → MX G D kX31_lower [.ref p, va_rf a0] A (hX (hV Q) E)) ∧ (∀ {p : Nat} {a0 : Option Nat} {Q : xA → Prop} {E : Nat → xA → Prop} {A : xA}, A.tg p = 31 → r3 p a0 Q E A → MX G D kX32_lower [.ref p, va_rf a0] A (hX (hV Q) E)) ∧ (∀ {p : Nat} {a0 : Option Nat} {Q : xA → Prop} {E : Nat → xA → Prop} {A : xA}, A.tg p = 32 → r3 p a0 Q E A → MX G D kX33_lower [.ref p, va_rf a0] A (hX (hV Q) E)))
def w_X6_scoped (G : xG) (r0 : Nat → Option Nat → (xA → Prop) → (Nat → xA → Prop) → xA → Prop) (r1 : Nat → Option Nat → (xA → Prop) → (Nat → xA → Prop) → xA → Prop) (r2 : Nat → Option Nat → Option Nat → Option Nat → Option Nat → (xA → Prop) → (Nat → xA → Prop) → xA → Prop) (r3 : Nat → Option Nat → (xA → Prop) → (Nat → xA → Prop) → xA → Prop) (p : Nat) (s : Option Nat) (Q : xA → Prop) (E : Nat → xA → Prop) (A : xA) : Prop := xok G A → A.tg p = 6 ∧ (∃ R1 : Int32 → xA → Prop, w_X6_open G p R1 A ∧ (∀ (v1 : Int32) (A1 : xA), xok G A1 → R1 v1 A1 → (∃ b3 : Nat, s = some b3 ∧ (xS A1 b3 ∧ (∃ R5 : xA → Prop, r3 b3 (some p) R5 E A1 ∧ (∀ A5 : xA, xok G A5 → R5 A5 → (A5.tg p = 6 ∧ (∃ R6 : xA → Prop, w_X6_close G p v1 R6 A5 ∧ (∀ A6 : xA, xok G A6 → R6 A6 → (Q A6))))))))))
theorem m_X6_scoped (hG : xOK G) (hO : xHO G) {dp : Nat} {r0 : Nat → Option Nat → (xA → Prop) → (Nat → xA → Prop) → xA → Prop} {r1 : Nat → Option Nat → (xA → Prop) → (Nat → xA → Prop) → xA → Prop} {r2 : Nat → Option Nat → Option Nat → Option Nat → Option Nat → (xA → Prop) → (Nat → xA → Prop) → xA → Prop} {r3 : Nat → Option Nat → (xA → Prop) → (Nat → xA → Prop) → xA → Prop} (hK : xRC_D G (dp + 1715) r0 r1 r2 r3) {p : Nat} {s : Option Nat} {Q : xA → Prop} {E : Nat → xA → Prop} {A : xA} (h : w_X6_scoped G r0 r1 r2 r3 p s Q E A) : MX G (dp + 1716) kX6_scoped [.ref p, va_rf s] A (hX (hV Q) E) := by
  unfold w_X6_scoped at h
  refine MX.of rfl (by cases s <;> exact Nat.le_of_ble_eq_true rfl) ?_
  refine X.lvs (lv' := [some (.ref p), some (va_rf s), none]) (by cases s <;> rfl) ?_
  refine X.xok (fun w0 => ?_)
  replace h := h w0
  refine x_aload_n dX6_scoped_0 rfl ?_
  obtain ⟨o2, h⟩ := h
  obtain ⟨R1, g1, h⟩ := h
  refine x_callV hG (Ky := kX6_open) (As := []) dX6_scoped_1 o2 rfl lk_X6_117 me_X6_open is_X6_open se_X6_open rfl rfl (Nat.le_of_ble_eq_true rfl) (MX.post (m_X6_open hG hO g1) ?_)
  rintro _ A1 ⟨v1, rfl, h1⟩
  refine X.xok (fun w1 => ?_)
  replace h := h v1 A1 w1 h1
  change X _ _ _ _ A1 _ _ [.int v1]
  refine x_istore_n dX6_scoped_4 (by decide) ?_
  refine X.lvs (lv' := [some (.ref p), some (va_rf s), some (.int v1)]) (by generalize s = z; cases z <;> rfl) ?_
  refine x_aloadq_n dX6_scoped_5 rfl ?_
  refine x_aload_n dX6_scoped_6 rfl ?_
  obtain ⟨b3, e3, h⟩ := h
  rw [e3]
  obtain ⟨o4, h⟩ := h
  obtain ⟨R5, g5, h⟩ := h
  refine z_disp (pc' := 7) (lv' := [some (.ref p), some (.ref b3), some (.int v1)]) (st' := []) (P := hX (hV R5) E) (kr := ?_) (kc := ?_)
  rotate_left
  · obtain ⟨c, tc, hc⟩ := o4
    simp only [sCl, List.mem_cons, List.not_mem_nil, or_false] at hc
    intro kr
    rcases hc with rfl | rfl | rfl | rfl | rfl | rfl | rfl | rfl | rfl | rfl
    · exact x_callU hG (Ky := kX5_lower) (As := [.ref p]) dX6_scoped_7 tc rfl q2248 q1982 (Or.inl q1981) xm_X4_lower me_X5_lower is_X5_lower q2216 rfl rfl (Nat.le_of_ble_eq_true rfl) (MX.post (hK.2.2.2.1 tc g5) kr)
    · exact x_callU hG (Ky := kX25_lower) (As := [.ref p]) dX6_scoped_7 tc rfl q2248 q1982 (Or.inl q1981) xm_X4_lower me_X25_lower is_X25_lower q2375 rfl rfl (Nat.le_of_ble_eq_true rfl) (MX.post (hK.2.2.2.2.1 tc g5) kr)
    · exact x_callU hG (Ky := kX26_lower) (As := [.ref p]) dX6_scoped_7 tc rfl q2248 q1982 (Or.inl q1981) xm_X4_lower me_X26_lower is_X26_lower q2374 rfl rfl (Nat.le_of_ble_eq_true rfl) (MX.post (hK.2.2.2.2.2.1 tc g5) kr)
    · exact x_callU hG (Ky := kX27_lower) (As := [.ref p]) dX6_scoped_7 tc rfl q2248 q1982 (Or.inl q1981) xm_X4_lower me_X27_lower is_X27_lower q2238 rfl rfl (Nat.le_of_ble_eq_true rfl) (MX.post (hK.2.2.2.2.2.2.1 tc g5) kr)
    · exact x_callU hG (Ky := kX28_lower) (As := [.ref p]) dX6_scoped_7 tc rfl q2248 q1982 (Or.inl q1981) xm_X4_lower me_X28_lower is_X28_lower q2371 rfl rfl (Nat.le_of_ble_eq_true rfl) (MX.post (hK.2.2.2.2.2.2.2.1 tc g5) kr)
    · exact x_callU hG (Ky := kX29_lower) (As := [.ref p]) dX6_scoped_7 tc rfl q2248 q1982 (Or.inl q1981) xm_X4_lower me_X29_lower is_X29_lower q2234 rfl rfl (Nat.le_of_ble_eq_true rfl) (MX.post (hK.2.2.2.2.2.2.2.2.1 tc g5) kr)
    · exact x_callU hG (Ky := kX30_lower) (As := [.ref p]) dX6_scoped_7 tc rfl q2248 q1982 (Or.inl q1981) xm_X4_lower me_X30_lower is_X30_lower q1983 rfl rfl (Nat.le_of_ble_eq_true rfl) (MX.post (hK.2.2.2.2.2.2.2.2.2.1 tc g5) kr)
    · exact x_callU hG (Ky := kX31_lower) (As := [.ref p]) dX6_scoped_7 tc rfl q2248 q1982 (Or.inl q1981) xm_X4_lower me_X31_lower is_X31_lower q2370 rfl rfl (Nat.le_of_ble_eq_true rfl) (MX.post (hK.2.2.2.2.2.2.2.2.2.2.1 tc g5) kr)
    · exact x_callU hG (Ky := kX32_lower) (As := [.ref p]) dX6_scoped_7 tc rfl q2248 q1982 (Or.inl q1981) xm_X4_lower me_X32_lower is_X32_lower q2373 rfl rfl (Nat.le_of_ble_eq_true rfl) (MX.post (hK.2.2.2.2.2.2.2.2.2.2.2.1 tc g5) kr)
    · exact x_callU hG (Ky := kX33_lower) (As := [.ref p]) dX6_scoped_7 tc rfl q2248 q1982 (Or.inl q1981) xm_X4_lower me_X33_lower is_X33_lower q2372 rfl rfl (Nat.le_of_ble_eq_true rfl) (MX.post (hK.2.2.2.2.2.2.2.2.2.2.2.2 tc g5) kr)
  rintro _ A5 (⟨rfl, h1⟩ | ⟨x5, rfl, h1⟩)
  rotate_left
  · exact ⟨rfl, Or.inr ⟨_, rfl, h1⟩⟩
  refine X.xok (fun w5 => ?_)
  replace h := h A5 w5 h1
  change X _ _ _ _ A5 _ _ []
  refine x_aload_n dX6_scoped_10 rfl ?_
  refine x_iload_n dX6_scoped_11 rfl ?_
  obtain ⟨o7, h⟩ := h
  obtain ⟨R6, g6, h⟩ := h
  refine x_callV hG (Ky := kX6_close) (As := [.int v1]) dX6_scoped_12 o7 rfl lk_X6_126 me_X6_close is_X6_close se_X6_close rfl rfl (Nat.le_of_ble_eq_true rfl) (MX.post (m_X6_close hG hO g6) ?_)
  rintro _ A6 ⟨rfl, h1⟩
  refine X.xok (fun w6 => ?_)
  replace h := h A6 w6 h1
  change X _ _ _ _ A6 _ _ []
  exact x_vret dX6_scoped_15 rfl (Or.inl ⟨rfl, h⟩)
def w_X5_lowerAll (G : xG) (r0 : Nat → Option Nat → (xA → Prop) → (Nat → xA → Prop) → xA → Prop) (r1 : Nat → Option Nat → (xA → Prop) → (Nat → xA → Prop) → xA → Prop) (r2 : Nat → Option Nat → Option Nat → Option Nat → Option Nat → (xA → Prop) → (Nat → xA → Prop) → xA → Prop) (r3 : Nat → Option Nat → (xA → Prop) → (Nat → xA → Prop) → xA → Prop) (p : Nat) (m : Option Nat) (Q : xA → Prop) (E : Nat → xA → Prop) (A : xA) : Prop := xok G A → ∃ L1 : Nat → Int32 → xA → Prop, (∃ n1 : Nat, L1 n1 (0 : Int32) A) ∧ (∀ (n1 : Nat) (y1_2 : Int32) (A1 : xA), L1 n1 y1_2 A1 → A1.tg p = 5 ∧ (∃ b4 : Nat, (A1.P p 0) = some b4 ∧ (A1.tg b4 = 37 ∧ (∃ R3 : Int32 → xA → Prop, w_J5_size G b4 R3 A1 ∧ (∀ (v3 : Int32) (A3 : xA), xok G A3 → R3 v3 A3 → (((v3 ≤ y1_2 → Q A3) ∧ (¬ v3 ≤ y1_2 → A3.tg p = 5 ∧ (∃ b8 : Nat, (A3.P p 0) = some b8 ∧ (A3.tg b8 = 37 ∧ (∃ R7 : Option Nat → xA → Prop, w_J5_get G b8 y1_2 R7 A3 ∧ (∀ (v7 : Option Nat) (A7 : xA), xok G A7 → R7 v7 A7 → (∃ b10 : Nat, v7 = some b10 ∧ (xS A7 b10 ∧ (∃ R12 : xA → Prop, r3 b10 m R12 E A7 ∧ (∀ A12 : xA, xok G A12 → R12 A12 → ((∃ q1 : Nat, q1 < n1 ∧ L1 q1 (y1_2 + (1 : Int32)) A12))))))))))))))))))
theorem m_X5_lowerAll (hG : xOK G) (hO : xHO G) {dp : Nat} {r0 : Nat → Option Nat → (xA → Prop) → (Nat → xA → Prop) → xA → Prop} {r1 : Nat → Option Nat → (xA → Prop) → (Nat → xA → Prop) → xA → Prop} {r2 : Nat → Option Nat → Option Nat → Option Nat → Option Nat → (xA → Prop) → (Nat → xA → Prop) → xA → Prop} {r3 : Nat → Option Nat → (xA → Prop) → (Nat → xA → Prop) → xA → Prop} (hK : xRC_D G (dp + 1715) r0 r1 r2 r3) {p : Nat} {m : Option Nat} {Q : xA → Prop} {E : Nat → xA → Prop} {A : xA} (h : w_X5_lowerAll G r0 r1 r2 r3 p m Q E A) : MX G (dp + 1716) kX5_lowerAll [.ref p, va_rf m] A (hX (hV Q) E) := by
  unfold w_X5_lowerAll at h
  refine MX.of rfl (by cases m <;> exact Nat.le_of_ble_eq_true rfl) ?_
  refine X.lvs (lv' := [some (.ref p), some (va_rf m), none]) (by cases m <;> rfl) ?_
  refine X.xok (fun w0 => ?_)
  replace h := h w0
  refine x_iconst_ (v := (0 : Int32)) dX5_lowerAll_0 (by decide) ?_
  refine x_istore_n dX5_lowerAll_1 (by decide) ?_
  refine X.lvs (lv' := [some (.ref p), some (va_rf m), some (.int (0 : Int32))]) (by generalize m = z; cases z <;> rfl) ?_
  obtain ⟨L1, ⟨n1, i1⟩, g1⟩ := h
  have kl1 : ∀ n1 : Nat, ∀ (y1_2 : Int32) (A1 : xA), L1 n1 y1_2 A1 → X G (dp + 1716) kX5_lowerAll (hX (hV Q) E) A1 2 [some (.ref p), some (va_rf m), some (.int y1_2)] [] := by
    intro n1
    induction n1 using Nat.strongRecOn with
    | ind n1 ih1 =>
      intro y1_2 A1 h
      replace h := g1 n1 y1_2 A1 h
      refine x_iload_n dX5_lowerAll_2 rfl ?_
      refine x_aload_n dX5_lowerAll_3 rfl ?_
      obtain ⟨o2, h⟩ := h
      refine x_get (v := va_rf (A1.P p 0)) hG dX5_lowerAll_4 f_X5_10_4 o2 rfl ?_
      obtain ⟨b4, e4, h⟩ := h
      rw [e4]
      obtain ⟨o5, h⟩ := h
      obtain ⟨R3, g3, h⟩ := h
      refine x_callV hG (Ky := kJ5_size) (As := []) dX5_lowerAll_7 o5 rfl lk_X5_30 me_J5_size is_J5_size se_J5_size rfl rfl (Nat.le_of_ble_eq_true rfl) (MX.post (m_w_J5_size hG hO g3) ?_)
      rintro _ A3 ⟨v3, rfl, h1⟩
      refine X.xok (fun w3 => ?_)
      replace h := h v3 A3 w3 h1
      change X _ _ _ _ A3 _ _ [.int v3, .int y1_2]
      refine x_icmp_ge (tgt := 34) dX5_lowerAll_10 (by decide) (fun c10 => ?_) (fun c10 => ?_)
      · replace h := h.1 c10
        exact x_vret dX5_lowerAll_34 rfl (Or.inl ⟨rfl, h⟩)
      · replace h := h.2 c10
        refine x_aload_n dX5_lowerAll_13 rfl ?_
        obtain ⟨o6, h⟩ := h
        refine x_get (v := va_rf (A3.P p 0)) hG dX5_lowerAll_14 f_X5_10_4 o6 rfl ?_
        refine x_iload_n dX5_lowerAll_17 rfl ?_
        obtain ⟨b8, e8, h⟩ := h
        rw [e8]
        obtain ⟨o9, h⟩ := h
        obtain ⟨R7, g7, h⟩ := h
        refine x_callV hG (Ky := kJ5_get) (As := [.int y1_2]) dX5_lowerAll_18 o9 rfl lk_X5_33 me_J5_get is_J5_get se_J5_get rfl rfl (Nat.le_of_ble_eq_true rfl) (MX.post (m_w_J5_get hG hO g7) ?_)
        rintro _ A7 ⟨v7, rfl, h1⟩
        refine X.xok (fun w7 => ?_)
        replace h := h v7 A7 w7 h1
        change X _ _ _ _ A7 _ _ [va_rf v7]
        obtain ⟨b10, e10, h⟩ := h
        rw [e10]
        obtain ⟨o11, h⟩ := h
        refine z_castS hG dX5_lowerAll_21 q1979 o11 ?_
        refine x_aloadq_n dX5_lowerAll_24 rfl ?_
        obtain ⟨R12, g12, h⟩ := h
        refine z_disp (pc' := 25) (lv' := [some (.ref p), some (va_rf m), some (.int y1_2)]) (st' := []) (P := hX (hV R12) E) (kr := ?_) (kc := ?_)
        rotate_left
        · obtain ⟨c, tc, hc⟩ := o11
          simp only [sCl, List.mem_cons, List.not_mem_nil, or_false] at hc
          intro kr
          rcases hc with rfl | rfl | rfl | rfl | rfl | rfl | rfl | rfl | rfl | rfl
          · exact x_callU hG (Ky := kX5_lower) (As := [va_rf m]) dX5_lowerAll_25 tc rfl q1980 q1982 (Or.inl q1981) xm_X4_lower me_X5_lower is_X5_lower q2216 rfl rfl (Nat.le_of_ble_eq_true rfl) (MX.post (hK.2.2.2.1 tc g12) kr)
          · exact x_callU hG (Ky := kX25_lower) (As := [va_rf m]) dX5_lowerAll_25 tc rfl q1980 q1982 (Or.inl q1981) xm_X4_lower me_X25_lower is_X25_lower q2375 rfl rfl (Nat.le_of_ble_eq_true rfl) (MX.post (hK.2.2.2.2.1 tc g12) kr)
          · exact x_callU hG (Ky := kX26_lower) (As := [va_rf m]) dX5_lowerAll_25 tc rfl q1980 q1982 (Or.inl q1981) xm_X4_lower me_X26_lower is_X26_lower q2374 rfl rfl (Nat.le_of_ble_eq_true rfl) (MX.post (hK.2.2.2.2.2.1 tc g12) kr)
          · exact x_callU hG (Ky := kX27_lower) (As := [va_rf m]) dX5_lowerAll_25 tc rfl q1980 q1982 (Or.inl q1981) xm_X4_lower me_X27_lower is_X27_lower q2238 rfl rfl (Nat.le_of_ble_eq_true rfl) (MX.post (hK.2.2.2.2.2.2.1 tc g12) kr)
          · exact x_callU hG (Ky := kX28_lower) (As := [va_rf m]) dX5_lowerAll_25 tc rfl q1980 q1982 (Or.inl q1981) xm_X4_lower me_X28_lower is_X28_lower q2371 rfl rfl (Nat.le_of_ble_eq_true rfl) (MX.post (hK.2.2.2.2.2.2.2.1 tc g12) kr)
          · exact x_callU hG (Ky := kX29_lower) (As := [va_rf m]) dX5_lowerAll_25 tc rfl q1980 q1982 (Or.inl q1981) xm_X4_lower me_X29_lower is_X29_lower q2234 rfl rfl (Nat.le_of_ble_eq_true rfl) (MX.post (hK.2.2.2.2.2.2.2.2.1 tc g12) kr)
          · exact x_callU hG (Ky := kX30_lower) (As := [va_rf m]) dX5_lowerAll_25 tc rfl q1980 q1982 (Or.inl q1981) xm_X4_lower me_X30_lower is_X30_lower q1983 rfl rfl (Nat.le_of_ble_eq_true rfl) (MX.post (hK.2.2.2.2.2.2.2.2.2.1 tc g12) kr)
          · exact x_callU hG (Ky := kX31_lower) (As := [va_rf m]) dX5_lowerAll_25 tc rfl q1980 q1982 (Or.inl q1981) xm_X4_lower me_X31_lower is_X31_lower q2370 rfl rfl (Nat.le_of_ble_eq_true rfl) (MX.post (hK.2.2.2.2.2.2.2.2.2.2.1 tc g12) kr)
          · exact x_callU hG (Ky := kX32_lower) (As := [va_rf m]) dX5_lowerAll_25 tc rfl q1980 q1982 (Or.inl q1981) xm_X4_lower me_X32_lower is_X32_lower q2373 rfl rfl (Nat.le_of_ble_eq_true rfl) (MX.post (hK.2.2.2.2.2.2.2.2.2.2.2.1 tc g12) kr)
          · exact x_callU hG (Ky := kX33_lower) (As := [va_rf m]) dX5_lowerAll_25 tc rfl q1980 q1982 (Or.inl q1981) xm_X4_lower me_X33_lower is_X33_lower q2372 rfl rfl (Nat.le_of_ble_eq_true rfl) (MX.post (hK.2.2.2.2.2.2.2.2.2.2.2.2 tc g12) kr)
        rintro _ A12 (⟨rfl, h1⟩ | ⟨x12, rfl, h1⟩)
        rotate_left
        · exact ⟨rfl, Or.inr ⟨_, rfl, h1⟩⟩
        refine X.xok (fun w12 => ?_)
        replace h := h A12 w12 h1
        change X _ _ _ _ A12 _ _ []
        refine x_iinc (v := (y1_2 + (1 : Int32))) dX5_lowerAll_28 rfl rfl (by decide) ?_
        refine X.lvs (lv' := [some (.ref p), some (va_rf m), some (.int (y1_2 + (1 : Int32)))]) (by generalize m = z; cases z <;> rfl) ?_
        refine x_goto (tgt := 2) dX5_lowerAll_31 (by decide) ?_
        obtain ⟨q1, l1, h⟩ := h
        change X _ _ _ _ _ _ [some (.ref p), some (va_rf m), some (.int (y1_2 + (1 : Int32)))] []
        exact X.weak (xle_c rfl (xle_c rfl (xle_c rfl xle_nil))) (ih1 q1 l1 (y1_2 + (1 : Int32)) A12 h)
  change X _ _ _ _ _ _ [some (.ref p), some (va_rf m), some (.int (0 : Int32))] []
  exact X.weak (xle_c rfl (xle_c rfl (xle_c rfl xle_nil))) (kl1 n1 (0 : Int32) A i1)
def w_X28_loop (G : xG) (r0 : Nat → Option Nat → (xA → Prop) → (Nat → xA → Prop) → xA → Prop) (r1 : Nat → Option Nat → (xA → Prop) → (Nat → xA → Prop) → xA → Prop) (r2 : Nat → Option Nat → Option Nat → Option Nat → Option Nat → (xA → Prop) → (Nat → xA → Prop) → xA → Prop) (r3 : Nat → Option Nat → (xA → Prop) → (Nat → xA → Prop) → xA → Prop) (p : Nat) (m : Option Nat) (a : Option Nat) (n : Option Nat) (e : Option Nat) (Q : xA → Prop) (E : Nat → xA → Prop) (A : xA) : Prop := xok G A → ∃ b2 : Nat, m = some b2 ∧ (A.tg b2 = 6 ∧ (∃ R1 : xA → Prop, w_X6_at G b2 a R1 A ∧ (∀ A1 : xA, xok G A1 → R1 A1 → (A1.tg b2 = 6 ∧ (∃ R4 : xA → Prop, w_X6_turn G b2 R4 A1 ∧ (∀ A4 : xA, xok G A4 → R4 A4 → (A4.tg b2 = 6 ∧ (∀ A7 : xA, A7 = A4.setP b2 11 e → (∀ A8 : xA, A8 = A7.setP b2 12 n → (A8.tg p = 27 ∧ (∃ R10 : xA → Prop, r0 b2 (A8.P p 3) R10 E A8 ∧ (∀ A10 : xA, xok G A10 → R10 A10 → (A10.tg b2 = 6 ∧ (∀ A12 : xA, A12 = A10.setP b2 11 (A4.P b2 11) → (∀ A13 : xA, A13 = A12.setP b2 12 (A4.P b2 12) → (∃ R14 : xA → Prop, w_X6_jump G b2 n R14 A13 ∧ (∀ A14 : xA, xok G A14 → R14 A14 → (Q A14))))))))))))))))))
theorem m_X28_loop (hG : xOK G) (hO : xHO G) {dp : Nat} {r0 : Nat → Option Nat → (xA → Prop) → (Nat → xA → Prop) → xA → Prop} {r1 : Nat → Option Nat → (xA → Prop) → (Nat → xA → Prop) → xA → Prop} {r2 : Nat → Option Nat → Option Nat → Option Nat → Option Nat → (xA → Prop) → (Nat → xA → Prop) → xA → Prop} {r3 : Nat → Option Nat → (xA → Prop) → (Nat → xA → Prop) → xA → Prop} (hK : xRC_D G (dp + 1715) r0 r1 r2 r3) {p : Nat} {m : Option Nat} {a : Option Nat} {n : Option Nat} {e : Option Nat} {Q : xA → Prop} {E : Nat → xA → Prop} {A : xA} (h : w_X28_loop G r0 r1 r2 r3 p m a n e Q E A) : MX G (dp + 1716) kX28_loop [.ref p, va_rf m, va_rf a, va_rf n, va_rf e] A (hX (hV Q) E) := by
  unfold w_X28_loop at h
  refine MX.of rfl (by cases m <;> cases a <;> cases n <;> cases e <;> exact Nat.le_of_ble_eq_true rfl) ?_
  refine X.lvs (lv' := [some (.ref p), some (va_rf m), some (va_rf a), some (va_rf n), some (va_rf e), none, none]) (by cases m <;> cases a <;> cases n <;> cases e <;> rfl) ?_
  refine X.xok (fun w0 => ?_)
  replace h := h w0
  refine x_aloadq_n dX28_loop_0 rfl ?_
  refine x_aloadq_n dX28_loop_1 rfl ?_
  obtain ⟨b2, e2, h⟩ := h
  rw [e2]
  obtain ⟨o3, h⟩ := h
  obtain ⟨R1, g1, h⟩ := h
  refine x_callV hG (Ky := kX6_at) (As := [va_rf a]) dX28_loop_2 o3 rfl lk_X28_49 me_X6_at is_X6_at se_X6_at rfl rfl (Nat.le_of_ble_eq_true rfl) (MX.post (m_X6_at hG hO g1) ?_)
  rintro _ A1 ⟨rfl, h1⟩
  refine X.xok (fun w1 => ?_)
  replace h := h A1 w1 h1
  change X _ _ _ _ A1 _ _ []
  refine x_aload_n dX28_loop_5 rfl ?_
  obtain ⟨o5, h⟩ := h
  obtain ⟨R4, g4, h⟩ := h
  refine x_callV hG (Ky := kX6_turn) (As := []) dX28_loop_6 o5 rfl lk_X28_62 me_X6_turn is_X6_turn se_X6_turn rfl rfl (Nat.le_of_ble_eq_true rfl) (MX.post (m_X6_turn hG hO g4) ?_)
  rintro _ A4 ⟨rfl, h1⟩
  refine X.xok (fun w4 => ?_)
  replace h := h A4 w4 h1
  change X _ _ _ _ A4 _ _ []
  refine x_aload_n dX28_loop_9 rfl ?_
  obtain ⟨o6, h⟩ := h
  refine x_get (v := va_rf (A4.P b2 11)) hG dX28_loop_10 f_X28_65_5 o6 rfl ?_
  refine x_astoreq dX28_loop_13 (by decide) ?_
  refine X.lvs (lv' := [some (.ref p), some (.ref b2), some (va_rf a), some (va_rf n), some (va_rf e), some (va_rf (A4.P b2 11)), none]) (by generalize e = z; cases z <;> rfl) ?_
  refine x_aload_n dX28_loop_15 rfl ?_
  refine x_get (v := va_rf (A4.P b2 12)) hG dX28_loop_16 f_X28_69_5 o6 rfl ?_
  refine x_astoreq dX28_loop_19 (by decide) ?_
  refine X.lvs (lv' := [some (.ref p), some (.ref b2), some (va_rf a), some (va_rf n), some (va_rf e), some (va_rf (A4.P b2 11)), some (va_rf (A4.P b2 12))]) (by generalize (A4.P b2 11) = z; cases z <;> rfl) ?_
  refine x_aload_n dX28_loop_21 rfl ?_
  refine x_aloadq dX28_loop_22 rfl ?_
  refine z_putP hG hO.1 e dX28_loop_24 f_X28_65_5 ⟨_, rfl, Or.inl rfl⟩ o6 (by decide) (Or.inl ⟨_, rfl⟩) (fun A7 e7 => ?_)
  replace h := h A7 e7
  refine x_aload_n dX28_loop_27 rfl ?_
  refine x_aloadq_n dX28_loop_28 rfl ?_
  refine z_putP hG hO.1 n dX28_loop_29 f_X28_69_5 ⟨_, rfl, Or.inl rfl⟩ (kP e7 o6) (by decide) (Or.inl ⟨_, rfl⟩) (fun A8 e8 => ?_)
  replace h := h A8 e8
  refine x_aload_n dX28_loop_32 rfl ?_
  refine x_aload_n dX28_loop_33 rfl ?_
  obtain ⟨o9, h⟩ := h
  refine x_get (v := va_rf (A8.P p 3)) hG dX28_loop_34 f_X28_20_26 o9 rfl ?_
  obtain ⟨R10, g10, h⟩ := h
  refine x_callV hG (Ky := kX6_scoped) (As := [va_rf (A8.P p 3)]) dX28_loop_37 (kP e8 (kP e7 o6)) rfl lk_X28_72 me_X6_scoped is_X6_scoped se_X6_scoped rfl rfl (Nat.le_of_ble_eq_true rfl) (MX.post (hK.1 g10) ?_)
  rintro _ A10 (⟨rfl, h1⟩ | ⟨x10, rfl, h1⟩)
  rotate_left
  · exact ⟨rfl, Or.inr ⟨_, rfl, h1⟩⟩
  refine X.xok (fun w10 => ?_)
  replace h := h A10 w10 h1
  change X _ _ _ _ A10 _ _ []
  refine x_aload_n dX28_loop_40 rfl ?_
  refine x_aloadq dX28_loop_41 rfl ?_
  obtain ⟨o11, h⟩ := h
  refine z_putP hG hO.1 (A4.P b2 11) dX28_loop_43 f_X28_65_5 ⟨_, rfl, Or.inl rfl⟩ o11 (by decide) (Or.inl ⟨_, rfl⟩) (fun A12 e12 => ?_)
  replace h := h A12 e12
  refine x_aload_n dX28_loop_46 rfl ?_
  refine x_aloadq dX28_loop_47 rfl ?_
  refine z_putP hG hO.1 (A4.P b2 12) dX28_loop_49 f_X28_69_5 ⟨_, rfl, Or.inl rfl⟩ (kP e12 o11) (by decide) (Or.inl ⟨_, rfl⟩) (fun A13 e13 => ?_)
  replace h := h A13 e13
  refine x_aload_n dX28_loop_52 rfl ?_
  refine x_aloadq_n dX28_loop_53 rfl ?_
  obtain ⟨R14, g14, h⟩ := h
  refine x_callV hG (Ky := kX6_jump) (As := [va_rf n]) dX28_loop_54 (kP e13 (kP e12 o11)) rfl lk_X28_41 me_X6_jump is_X6_jump se_X6_jump rfl rfl (Nat.le_of_ble_eq_true rfl) (MX.post (m_X6_jump hG hO g14) ?_)
  rintro _ A14 ⟨rfl, h1⟩
  refine X.xok (fun w14 => ?_)
  replace h := h A14 w14 h1
  change X _ _ _ _ A14 _ _ []
  exact x_vret dX28_loop_57 rfl (Or.inl ⟨rfl, h⟩)
def w_X5_lower (G : xG) (r0 : Nat → Option Nat → (xA → Prop) → (Nat → xA → Prop) → xA → Prop) (r1 : Nat → Option Nat → (xA → Prop) → (Nat → xA → Prop) → xA → Prop) (r2 : Nat → Option Nat → Option Nat → Option Nat → Option Nat → (xA → Prop) → (Nat → xA → Prop) → xA → Prop) (r3 : Nat → Option Nat → (xA → Prop) → (Nat → xA → Prop) → xA → Prop) (p : Nat) (m : Option Nat) (Q : xA → Prop) (E : Nat → xA → Prop) (A : xA) : Prop := xok G A → ∃ b2 : Nat, m = some b2 ∧ (A.tg b2 = 6 ∧ (∃ R1 : Int32 → xA → Prop, w_X6_open G b2 R1 A ∧ (∀ (v1 : Int32) (A1 : xA), xok G A1 → R1 v1 A1 → (A1.tg p = 5 ∧ (∃ R4 : xA → Prop, r1 p (some b2) R4 E A1 ∧ (∀ A4 : xA, xok G A4 → R4 A4 → (A4.tg b2 = 6 ∧ (∃ R6 : xA → Prop, w_X6_close G b2 v1 R6 A4 ∧ (∀ A6 : xA, xok G A6 → R6 A6 → (Q A6))))))))))
theorem m_X5_lower (hG : xOK G) (hO : xHO G) {dp : Nat} {r0 : Nat → Option Nat → (xA → Prop) → (Nat → xA → Prop) → xA → Prop} {r1 : Nat → Option Nat → (xA → Prop) → (Nat → xA → Prop) → xA → Prop} {r2 : Nat → Option Nat → Option Nat → Option Nat → Option Nat → (xA → Prop) → (Nat → xA → Prop) → xA → Prop} {r3 : Nat → Option Nat → (xA → Prop) → (Nat → xA → Prop) → xA → Prop} (hK : xRC_D G (dp + 1715) r0 r1 r2 r3) {p : Nat} {m : Option Nat} {Q : xA → Prop} {E : Nat → xA → Prop} {A : xA} (h : w_X5_lower G r0 r1 r2 r3 p m Q E A) : MX G (dp + 1716) kX5_lower [.ref p, va_rf m] A (hX (hV Q) E) := by
  unfold w_X5_lower at h
  refine MX.of rfl (by cases m <;> exact Nat.le_of_ble_eq_true rfl) ?_
  refine X.lvs (lv' := [some (.ref p), some (va_rf m), none]) (by cases m <;> rfl) ?_
  refine X.xok (fun w0 => ?_)
  replace h := h w0
  refine x_aloadq_n dX5_lower_0 rfl ?_
  obtain ⟨b2, e2, h⟩ := h
  rw [e2]
  obtain ⟨o3, h⟩ := h
  obtain ⟨R1, g1, h⟩ := h
  refine x_callV hG (Ky := kX6_open) (As := []) dX5_lower_1 o3 rfl lk_X5_16 me_X6_open is_X6_open se_X6_open rfl rfl (Nat.le_of_ble_eq_true rfl) (MX.post (m_X6_open hG hO g1) ?_)
  rintro _ A1 ⟨v1, rfl, h1⟩
  refine X.xok (fun w1 => ?_)
  replace h := h v1 A1 w1 h1
  change X _ _ _ _ A1 _ _ [.int v1]
  refine x_istore_n dX5_lower_4 (by decide) ?_
  refine x_aload_n dX5_lower_5 rfl ?_
  refine x_aload_n dX5_lower_6 rfl ?_
  obtain ⟨o5, h⟩ := h
  obtain ⟨R4, g4, h⟩ := h
  refine x_callV hG (Ky := kX5_lowerAll) (As := [.ref b2]) dX5_lower_7 o5 rfl lk_X5_22 me_X5_lowerAll is_X5_lowerAll se_X5_lowerAll rfl rfl (Nat.le_of_ble_eq_true rfl) (MX.post (hK.2.1 g4) ?_)
  rintro _ A4 (⟨rfl, h1⟩ | ⟨x4, rfl, h1⟩)
  rotate_left
  · exact ⟨rfl, Or.inr ⟨_, rfl, h1⟩⟩
  refine X.xok (fun w4 => ?_)
  replace h := h A4 w4 h1
  change X _ _ _ _ A4 _ _ []
  refine x_aload_n dX5_lower_10 rfl ?_
  refine x_iload_n dX5_lower_11 rfl ?_
  obtain ⟨o7, h⟩ := h
  obtain ⟨R6, g6, h⟩ := h
  refine x_callV hG (Ky := kX6_close) (As := [.int v1]) dX5_lower_12 o7 rfl lk_X5_26 me_X6_close is_X6_close se_X6_close rfl rfl (Nat.le_of_ble_eq_true rfl) (MX.post (m_X6_close hG hO g6) ?_)
  rintro _ A6 ⟨rfl, h1⟩
  refine X.xok (fun w6 => ?_)
  replace h := h A6 w6 h1
  change X _ _ _ _ A6 _ _ []
  exact x_vret dX5_lower_15 rfl (Or.inl ⟨rfl, h⟩)
def w_X25_lower (G : xG) (r0 : Nat → Option Nat → (xA → Prop) → (Nat → xA → Prop) → xA → Prop) (r1 : Nat → Option Nat → (xA → Prop) → (Nat → xA → Prop) → xA → Prop) (r2 : Nat → Option Nat → Option Nat → Option Nat → Option Nat → (xA → Prop) → (Nat → xA → Prop) → xA → Prop) (r3 : Nat → Option Nat → (xA → Prop) → (Nat → xA → Prop) → xA → Prop) (p : Nat) (m : Option Nat) (Q : xA → Prop) (E : Nat → xA → Prop) (A : xA) : Prop := xok G A → A.tg p = 24 ∧ (∃ b3 : Nat, m = some b3 ∧ (A.tg b3 = 6 ∧ (∃ R2 : xA → Prop, w_X6_unused G b3 (A.I p 0) (A.I p 1) R2 E A ∧ (∀ A2 : xA, xok G A2 → R2 A2 → (A2.tg p = 24 ∧ (A2.tg b3 = 6 ∧ (∃ R6 : Int32 → xA → Prop, w_X6_size G b3 (A2.P p 3) R6 E A2 ∧ (∀ (v6 : Int32) (A6 : xA), xok G A6 → R6 v6 A6 → (A6.tg p = 24 ∧ (A6.tg b3 = 6 ∧ (∃ R9 : xA → Prop, w_X6_words G b3 (f_X0_wordsOf (A6.I p 2) v6) (A6.I p 1) R9 E A6 ∧ (∀ A9 : xA, xok G A9 → R9 A9 → (rmO G A9 6 ∧ (∀ A12 : xA, A12 = A9.new 33 0 6 0 → (A12.tg p = 24 ∧ (A12.tg b3 = 6 ∧ (∃ R14 : Int32 → xA → Prop, w_X6_own G b3 (f_X0_wordsOf (A6.I p 2) v6) R14 A12 ∧ (∀ (v14 : Int32) (A14 : xA), xok G A14 → R14 v14 A14 → (∃ R16 : xA → Prop, w_X34_init G A9.n (A12.I p 0) (4 : Int32) v14 R16 A14 ∧ (∀ A16 : xA, xok G A16 → R16 A16 → (A16.tg p = 24 ∧ (A16.tg A9.n = 33 ∧ (((A16.I p 2) = 0 ∨ (A16.I p 2) = 1) ∧ (∀ A20 : xA, A20 = A16.setI A9.n 3 (A16.I p 2) → (∀ A21 : xA, A21 = A20.setI A9.n 4 v6 → (A21.tg b3 = 6 ∧ (∃ R22 : xA → Prop, w_X6_zero G b3 (some A9.n) R22 A21 ∧ (∀ A22 : xA, xok G A22 → R22 A22 → (A22.tg b3 = 6 ∧ (∃ R24 : xA → Prop, w_X6_know G b3 (some A9.n) R24 A22 ∧ (∀ A24 : xA, xok G A24 → R24 A24 → (Q A24))))))))))))))))))))))))))))))))
theorem m_X25_lower (hG : xOK G) (hO : xHO G) {dp : Nat} {r0 : Nat → Option Nat → (xA → Prop) → (Nat → xA → Prop) → xA → Prop} {r1 : Nat → Option Nat → (xA → Prop) → (Nat → xA → Prop) → xA → Prop} {r2 : Nat → Option Nat → Option Nat → Option Nat → Option Nat → (xA → Prop) → (Nat → xA → Prop) → xA → Prop} {r3 : Nat → Option Nat → (xA → Prop) → (Nat → xA → Prop) → xA → Prop} (hK : xRC_D G (dp + 1715) r0 r1 r2 r3) {p : Nat} {m : Option Nat} {Q : xA → Prop} {E : Nat → xA → Prop} {A : xA} (h : w_X25_lower G r0 r1 r2 r3 p m Q E A) : MX G (dp + 1716) kX25_lower [.ref p, va_rf m] A (hX (hV Q) E) := by
  unfold w_X25_lower at h
  refine MX.of rfl (by cases m <;> exact Nat.le_of_ble_eq_true rfl) ?_
  refine X.lvs (lv' := [some (.ref p), some (va_rf m), none, none, none]) (by cases m <;> rfl) ?_
  refine X.xok (fun w0 => ?_)
  replace h := h w0
  refine x_aloadq_n dX25_lower_0 rfl ?_
  refine x_aload_n dX25_lower_1 rfl ?_
  obtain ⟨o1, h⟩ := h
  refine x_get (v := .int (A.I p 0)) hG dX25_lower_2 f_X25_15_23 o1 rfl ?_
  refine x_aload_n dX25_lower_5 rfl ?_
  refine x_get (v := .int (A.I p 1)) hG dX25_lower_6 f_X25_9_23 o1 rfl ?_
  obtain ⟨b3, e3, h⟩ := h
  rw [e3]
  obtain ⟨o4, h⟩ := h
  obtain ⟨R2, g2, h⟩ := h
  refine x_callV hG (Ky := kX6_unused) (As := [.int (A.I p 0), .int (A.I p 1)]) dX25_lower_9 o4 rfl lk_X25_26 me_X6_unused is_X6_unused se_X6_unused rfl rfl (Nat.le_of_ble_eq_true rfl) (MX.post (m_X6_unused hG hO g2) ?_)
  rintro _ A2 (⟨rfl, h1⟩ | ⟨x2, rfl, h1⟩)
  rotate_left
  · exact ⟨rfl, Or.inr ⟨_, rfl, h1⟩⟩
  refine X.xok (fun w2 => ?_)
  replace h := h A2 w2 h1
  change X _ _ _ _ A2 _ _ []
  refine x_aload_n dX25_lower_12 rfl ?_
  refine x_aload_n dX25_lower_13 rfl ?_
  obtain ⟨o5, h⟩ := h
  refine x_get (v := va_rf (A2.P p 3)) hG dX25_lower_14 f_X25_22_23 o5 rfl ?_
  obtain ⟨o7, h⟩ := h
  obtain ⟨R6, g6, h⟩ := h
  refine x_callV hG (Ky := kX6_size) (As := [va_rf (A2.P p 3)]) dX25_lower_17 o7 rfl lk_X25_32 me_X6_size is_X6_size se_X6_size rfl rfl (Nat.le_of_ble_eq_true rfl) (MX.post (m_X6_size hG hO g6) ?_)
  rintro _ A6 (⟨v6, rfl, h1⟩ | ⟨x6, rfl, h1⟩)
  rotate_left
  · exact ⟨rfl, Or.inr ⟨_, rfl, h1⟩⟩
  refine X.xok (fun w6 => ?_)
  replace h := h v6 A6 w6 h1
  change X _ _ _ _ A6 _ _ [.int v6]
  refine x_istore_n dX25_lower_20 (by decide) ?_
  refine x_aload_n dX25_lower_21 rfl ?_
  obtain ⟨o8, h⟩ := h
  refine x_get (v := .int (A6.I p 2)) hG dX25_lower_22 f_X25_18_23 o8 rfl ?_
  refine x_iload_n dX25_lower_25 rfl ?_
  refine x_callS hG (Ky := kX0_wordsOf) (As := [.int (A6.I p 2), .int v6]) dX25_lower_26 lk_X25_35 me_X0_wordsOf st_X0_wordsOf rfl rfl (Nat.le_of_ble_eq_true rfl) (MX.post (m_X0_wordsOf hG pp_X0_wordsOf) ?_)
  rintro _ _ ⟨rfl, rfl⟩
  change X _ _ _ _ _ _ _ (.int (f_X0_wordsOf (A6.I p 2) v6) :: _)
  refine x_istore_n dX25_lower_29 (by decide) ?_
  refine x_aload_n dX25_lower_30 rfl ?_
  refine x_iload_n dX25_lower_31 rfl ?_
  refine x_aload_n dX25_lower_32 rfl ?_
  refine x_get (v := .int (A6.I p 1)) hG dX25_lower_33 f_X25_9_23 o8 rfl ?_
  obtain ⟨o10, h⟩ := h
  obtain ⟨R9, g9, h⟩ := h
  refine x_callV hG (Ky := kX6_words) (As := [.int (f_X0_wordsOf (A6.I p 2) v6), .int (A6.I p 1)]) dX25_lower_36 o10 rfl lk_X25_39 me_X6_words is_X6_words se_X6_words rfl rfl (Nat.le_of_ble_eq_true rfl) (MX.post (m_X6_words hG hO g9) ?_)
  rintro _ A9 (⟨rfl, h1⟩ | ⟨x9, rfl, h1⟩)
  rotate_left
  · exact ⟨rfl, Or.inr ⟨_, rfl, h1⟩⟩
  refine X.xok (fun w9 => ?_)
  replace h := h A9 w9 h1
  change X _ _ _ _ A9 _ _ []
  obtain ⟨o11, h⟩ := h
  refine z_new hG (c := 32) dX25_lower_39 rfl q2343 (by decide) rfl o11 (fun A12 e12 w12 => ?_)
  replace h := h A12 e12
  refine x_dup dX25_lower_42 rfl ?_
  refine x_aload_n dX25_lower_43 rfl ?_
  obtain ⟨o13, h⟩ := h
  refine x_get (v := .int (A12.I p 0)) hG dX25_lower_44 f_X25_15_23 o13 rfl ?_
  refine x_iconst_ (v := (4 : Int32)) dX25_lower_47 (by decide) ?_
  refine x_aload_n dX25_lower_48 rfl ?_
  refine x_iload_n dX25_lower_49 rfl ?_
  obtain ⟨o15, h⟩ := h
  obtain ⟨R14, g14, h⟩ := h
  refine x_callV hG (Ky := kX6_own) (As := [.int (f_X0_wordsOf (A6.I p 2) v6)]) dX25_lower_50 o15 rfl lk_X25_44 me_X6_own is_X6_own se_X6_own rfl rfl (Nat.le_of_ble_eq_true rfl) (MX.post (m_X6_own hG hO g14) ?_)
  rintro _ A14 ⟨v14, rfl, h1⟩
  refine X.xok (fun w14 => ?_)
  replace h := h v14 A14 w14 h1
  change X _ _ _ _ A14 _ _ [.int v14, .int (4 : Int32), .int (A12.I p 0), .ref A9.n, .ref A9.n]
  obtain ⟨R16, g16, h⟩ := h
  refine x_callI hG (Ky := kX34_init) (As := [.int (A12.I p 0), .int (4 : Int32), .int v14]) dX25_lower_53 lk_X25_48 me_X34_init is_X34_init rfl rfl rfl rfl rfl (Nat.le_of_ble_eq_true rfl) (MX.post (m_X34_init hG hO g16) ?_)
  rintro _ A16 ⟨rfl, h1⟩
  refine X.xok (fun w16 => ?_)
  replace h := h A16 w16 h1
  change X _ _ _ _ A16 _ _ [.ref A9.n]
  refine x_astore dX25_lower_56 (by decide) ?_
  refine x_aload dX25_lower_58 rfl ?_
  refine x_aload_n dX25_lower_60 rfl ?_
  obtain ⟨o17, h⟩ := h
  refine x_get (v := .int (A16.I p 2)) hG dX25_lower_61 f_X25_18_23 o17 rfl ?_
  obtain ⟨o18, h⟩ := h
  obtain ⟨o19, h⟩ := h
  refine z_putI hG hO.1 dX25_lower_64 f_X25_51_32 ⟨_, rfl, Or.inl rfl⟩ o18 (by decide) (narrow01 o19) (fits01 o19) ⟨_, rfl⟩ (fun A20 e20 => ?_)
  replace h := h A20 e20
  refine x_aload dX25_lower_67 rfl ?_
  refine x_iload_n dX25_lower_69 rfl ?_
  refine z_putI hG hO.1 dX25_lower_70 f_X25_52_32 ⟨_, rfl, Or.inl rfl⟩ (kI e20 o18) (by decide) rfl rfl ⟨_, rfl⟩ (fun A21 e21 => ?_)
  replace h := h A21 e21
  refine x_aload_n dX25_lower_73 rfl ?_
  refine x_aload dX25_lower_74 rfl ?_
  obtain ⟨o23, h⟩ := h
  obtain ⟨R22, g22, h⟩ := h
  refine x_callV hG (Ky := kX6_zero) (As := [.ref A9.n]) dX25_lower_76 o23 rfl lk_X25_54 me_X6_zero is_X6_zero se_X6_zero rfl rfl (Nat.le_of_ble_eq_true rfl) (MX.post (m_X6_zero hG hO g22) ?_)
  rintro _ A22 ⟨rfl, h1⟩
  refine X.xok (fun w22 => ?_)
  replace h := h A22 w22 h1
  change X _ _ _ _ A22 _ _ []
  refine x_aload_n dX25_lower_79 rfl ?_
  refine x_aload dX25_lower_80 rfl ?_
  obtain ⟨o25, h⟩ := h
  obtain ⟨R24, g24, h⟩ := h
  refine x_callV hG (Ky := kX6_know) (As := [.ref A9.n]) dX25_lower_82 o25 rfl lk_X25_58 me_X6_know is_X6_know se_X6_know rfl rfl (Nat.le_of_ble_eq_true rfl) (MX.post (m_X6_know hG hO g24) ?_)
  rintro _ A24 ⟨rfl, h1⟩
  refine X.xok (fun w24 => ?_)
  replace h := h A24 w24 h1
  change X _ _ _ _ A24 _ _ []
  exact x_vret dX25_lower_85 rfl (Or.inl ⟨rfl, h⟩)
def w_X26_lower (G : xG) (r0 : Nat → Option Nat → (xA → Prop) → (Nat → xA → Prop) → xA → Prop) (r1 : Nat → Option Nat → (xA → Prop) → (Nat → xA → Prop) → xA → Prop) (r2 : Nat → Option Nat → Option Nat → Option Nat → Option Nat → (xA → Prop) → (Nat → xA → Prop) → xA → Prop) (r3 : Nat → Option Nat → (xA → Prop) → (Nat → xA → Prop) → xA → Prop) (p : Nat) (m : Option Nat) (Q : xA → Prop) (E : Nat → xA → Prop) (A : xA) : Prop := xok G A → A.tg p = 25 ∧ (∃ b3 : Nat, m = some b3 ∧ (A.tg b3 = 6 ∧ (∃ R2 : xA → Prop, w_X6_unused G b3 (A.I p 0) (A.I p 1) R2 E A ∧ (∀ A2 : xA, xok G A2 → R2 A2 → (A2.tg p = 25 ∧ (A2.tg b3 = 6 ∧ (∃ R6 : xA → Prop, w_X6_words G b3 (1 : Int32) (A2.I p 1) R6 E A2 ∧ (∀ A6 : xA, xok G A6 → R6 A6 → (A6.tg p = 25 ∧ (∃ J9 : Int64 → xA → Prop, (∀ (y9_s0 : Int64) (A9 : xA), J9 y9_s0 A9 → A9.tg b3 = 6 ∧ (∃ R10 : Int32 → xA → Prop, w_X6_variable G b3 R10 A9 ∧ (∀ (v10 : Int32) (A10 : xA), xok G A10 → R10 v10 A10 → (A10.tg b3 = 6 ∧ (∃ R12 : xA → Prop, w_X6_move G b3 v10 y9_s0 R12 A10 ∧ (∀ A12 : xA, xok G A12 → R12 A12 → (rmO G A12 6 ∧ (∀ A15 : xA, A15 = A12.new 33 0 6 0 → (A15.tg p = 25 ∧ (∃ R17 : xA → Prop, w_X34_init G A12.n (A15.I p 0) (3 : Int32) v10 R17 A15 ∧ (∀ A17 : xA, xok G A17 → R17 A17 → (A17.tg b3 = 6 ∧ (∃ R18 : xA → Prop, w_X6_know G b3 (some A12.n) R18 A17 ∧ (∀ A18 : xA, xok G A18 → R18 A18 → (Q A18))))))))))))))) ∧ (((A6.P p 2) = none → J9 (f_X6_constant (0 : Int32)) A6) ∧ (∀ b20 : Nat, (A6.P p 2) = some b20 → xE A6 b20 ∧ (∃ R22 : Int64 → xA → Prop, g_V_4 G b20 (some b3) R22 E A6 ∧ (∀ (v22 : Int64) (A22 : xA), xok G A22 → R22 v22 A22 → (J9 v22 A22)))))))))))))))
theorem m_X26_lower (hG : xOK G) (hO : xHO G) {dp : Nat} {r0 : Nat → Option Nat → (xA → Prop) → (Nat → xA → Prop) → xA → Prop} {r1 : Nat → Option Nat → (xA → Prop) → (Nat → xA → Prop) → xA → Prop} {r2 : Nat → Option Nat → Option Nat → Option Nat → Option Nat → (xA → Prop) → (Nat → xA → Prop) → xA → Prop} {r3 : Nat → Option Nat → (xA → Prop) → (Nat → xA → Prop) → xA → Prop} (hK : xRC_D G (dp + 1715) r0 r1 r2 r3) {p : Nat} {m : Option Nat} {Q : xA → Prop} {E : Nat → xA → Prop} {A : xA} (h : w_X26_lower G r0 r1 r2 r3 p m Q E A) : MX G (dp + 1716) kX26_lower [.ref p, va_rf m] A (hX (hV Q) E) := by
  unfold w_X26_lower at h
  refine MX.of rfl (by cases m <;> exact Nat.le_of_ble_eq_true rfl) ?_
  refine X.lvs (lv' := [some (.ref p), some (va_rf m), none, none, none]) (by cases m <;> rfl) ?_
  refine X.xok (fun w0 => ?_)
  replace h := h w0
  refine x_aloadq_n dX26_lower_0 rfl ?_
  refine x_aload_n dX26_lower_1 rfl ?_
  obtain ⟨o1, h⟩ := h
  refine x_get (v := .int (A.I p 0)) hG dX26_lower_2 f_X26_15_24 o1 rfl ?_
  refine x_aload_n dX26_lower_5 rfl ?_
  refine x_get (v := .int (A.I p 1)) hG dX26_lower_6 f_X26_9_24 o1 rfl ?_
  obtain ⟨b3, e3, h⟩ := h
  rw [e3]
  obtain ⟨o4, h⟩ := h
  obtain ⟨R2, g2, h⟩ := h
  refine x_callV hG (Ky := kX6_unused) (As := [.int (A.I p 0), .int (A.I p 1)]) dX26_lower_9 o4 rfl lk_X26_22 me_X6_unused is_X6_unused se_X6_unused rfl rfl (Nat.le_of_ble_eq_true rfl) (MX.post (m_X6_unused hG hO g2) ?_)
  rintro _ A2 (⟨rfl, h1⟩ | ⟨x2, rfl, h1⟩)
  rotate_left
  · exact ⟨rfl, Or.inr ⟨_, rfl, h1⟩⟩
  refine X.xok (fun w2 => ?_)
  replace h := h A2 w2 h1
  change X _ _ _ _ A2 _ _ []
  refine x_aload_n dX26_lower_12 rfl ?_
  refine x_iconst_ (v := (1 : Int32)) dX26_lower_13 (by decide) ?_
  refine x_aload_n dX26_lower_14 rfl ?_
  obtain ⟨o5, h⟩ := h
  refine x_get (v := .int (A2.I p 1)) hG dX26_lower_15 f_X26_9_24 o5 rfl ?_
  obtain ⟨o7, h⟩ := h
  obtain ⟨R6, g6, h⟩ := h
  refine x_callV hG (Ky := kX6_words) (As := [.int (1 : Int32), .int (A2.I p 1)]) dX26_lower_18 o7 rfl lk_X26_28 me_X6_words is_X6_words se_X6_words rfl rfl (Nat.le_of_ble_eq_true rfl) (MX.post (m_X6_words hG hO g6) ?_)
  rintro _ A6 (⟨rfl, h1⟩ | ⟨x6, rfl, h1⟩)
  rotate_left
  · exact ⟨rfl, Or.inr ⟨_, rfl, h1⟩⟩
  refine X.xok (fun w6 => ?_)
  replace h := h A6 w6 h1
  change X _ _ _ _ A6 _ _ []
  refine x_aload_n dX26_lower_21 rfl ?_
  obtain ⟨o8, h⟩ := h
  refine x_get (v := va_rf (A6.P p 2)) hG dX26_lower_22 f_X26_18_24 o8 rfl ?_
  obtain ⟨J9, g9, h⟩ := h
  have kj9 : ∀ (y9_s0 : Int64) (A9 : xA), J9 y9_s0 A9 → X G (dp + 1716) kX26_lower (hX (hV Q) E) A9 43 [some (.ref p), some (.ref b3), none, none, none] [.long y9_s0] := by
    intro y9_s0 A9 h
    replace h := g9 y9_s0 A9 h
    refine x_lstore_n dX26_lower_43 (by decide) ?_
    refine x_aload_n dX26_lower_44 rfl ?_
    obtain ⟨o11, h⟩ := h
    obtain ⟨R10, g10, h⟩ := h
    refine x_callV hG (Ky := kX6_variable) (As := []) dX26_lower_45 o11 rfl lk_X26_41 me_X6_variable is_X6_variable se_X6_variable rfl rfl (Nat.le_of_ble_eq_true rfl) (MX.post (m_X6_variable hG hO g10) ?_)
    rintro _ A10 ⟨v10, rfl, h1⟩
    refine X.xok (fun w10 => ?_)
    replace h := h v10 A10 w10 h1
    change X _ _ _ _ A10 _ _ [.int v10]
    refine x_istore dX26_lower_48 (by decide) ?_
    refine x_aload_n dX26_lower_50 rfl ?_
    refine x_iload dX26_lower_51 rfl ?_
    refine x_lload_n dX26_lower_53 rfl ?_
    obtain ⟨o13, h⟩ := h
    obtain ⟨R12, g12, h⟩ := h
    refine x_callV hG (Ky := kX6_move) (As := [.int v10, .long y9_s0]) dX26_lower_54 o13 rfl lk_X26_45 me_X6_move is_X6_move se_X6_move rfl rfl (Nat.le_of_ble_eq_true rfl) (MX.post (m_X6_move hG hO g12) ?_)
    rintro _ A12 ⟨rfl, h1⟩
    refine X.xok (fun w12 => ?_)
    replace h := h A12 w12 h1
    change X _ _ _ _ A12 _ _ []
    refine x_aload_n dX26_lower_57 rfl ?_
    obtain ⟨o14, h⟩ := h
    refine z_new hG (c := 32) dX26_lower_58 rfl q2296 (by decide) rfl o14 (fun A15 e15 w15 => ?_)
    replace h := h A15 e15
    refine x_dup dX26_lower_61 rfl ?_
    refine x_aload_n dX26_lower_62 rfl ?_
    obtain ⟨o16, h⟩ := h
    refine x_get (v := .int (A15.I p 0)) hG dX26_lower_63 f_X26_15_24 o16 rfl ?_
    refine x_iconst_ (v := (3 : Int32)) dX26_lower_66 (by decide) ?_
    refine x_iload dX26_lower_67 rfl ?_
    obtain ⟨R17, g17, h⟩ := h
    refine x_callI hG (Ky := kX34_init) (As := [.int (A15.I p 0), .int (3 : Int32), .int v10]) dX26_lower_69 lk_X26_51 me_X34_init is_X34_init rfl rfl rfl rfl rfl (Nat.le_of_ble_eq_true rfl) (MX.post (m_X34_init hG hO g17) ?_)
    rintro _ A17 ⟨rfl, h1⟩
    refine X.xok (fun w17 => ?_)
    replace h := h A17 w17 h1
    change X _ _ _ _ A17 _ _ [.ref A12.n, .ref b3]
    obtain ⟨o19, h⟩ := h
    obtain ⟨R18, g18, h⟩ := h
    refine x_callV hG (Ky := kX6_know) (As := [.ref A12.n]) dX26_lower_72 o19 rfl lk_X26_54 me_X6_know is_X6_know se_X6_know rfl rfl (Nat.le_of_ble_eq_true rfl) (MX.post (m_X6_know hG hO g18) ?_)
    rintro _ A18 ⟨rfl, h1⟩
    refine X.xok (fun w18 => ?_)
    replace h := h A18 w18 h1
    change X _ _ _ _ A18 _ _ []
    exact x_vret dX26_lower_75 rfl (Or.inl ⟨rfl, h⟩)
  refine x_ifnonnull (tgt := 35) dX26_lower_25 (by decide) (fun b20 c25 => ?_) (fun c25 => ?_)
  · replace h := h.2 b20 c25
    refine x_aload_n dX26_lower_35 rfl ?_
    refine x_get (v := .ref b20) hG dX26_lower_36 f_X26_18_24 o8 (congrArg va_rf c25) ?_
    refine x_aload_n dX26_lower_39 rfl ?_
    obtain ⟨o21, h⟩ := h
    obtain ⟨R22, g22, h⟩ := h
    refine z_disp (pc' := 40) (lv' := [some (.ref p), some (.ref b3), none, none, none]) (st' := []) (P := hX (hL R22) E) (kr := ?_) (kc := ?_)
    rotate_left
    · obtain ⟨c, tc, hc⟩ := o21
      simp only [eCl, List.mem_cons, List.not_mem_nil, or_false] at hc
      intro kr
      rcases hc with rfl | rfl | rfl | rfl | rfl | rfl | rfl | rfl
      · exact x_callU hG (Ky := kX16_value) (As := [.ref b3]) dX26_lower_40 tc rfl q2293 q2014 (Or.inl q2013) xm_X15_value me_X16_value is_X16_value q2200 rfl rfl (Nat.le_of_ble_eq_true rfl) (MX.post ((rc_V hG hO 900).2.2.2.2.1.1 tc g22) kr)
      · exact x_callU hG (Ky := kX17_value) (As := [.ref b3]) dX26_lower_40 tc rfl q2293 q2014 (Or.inl q2013) xm_X15_value me_X17_value is_X17_value q2194 rfl rfl (Nat.le_of_ble_eq_true rfl) (MX.post ((rc_V hG hO 900).2.2.2.2.1.2.1 tc g22) kr)
      · exact x_callU hG (Ky := kX18_value) (As := [.ref b3]) dX26_lower_40 tc rfl q2293 q2014 (Or.inl q2013) xm_X15_value me_X18_value is_X18_value q2199 rfl rfl (Nat.le_of_ble_eq_true rfl) (MX.post ((rc_V hG hO 900).2.2.2.2.1.2.2.1 tc g22) kr)
      · exact x_callU hG (Ky := kX19_value) (As := [.ref b3]) dX26_lower_40 tc rfl q2293 q2014 (Or.inl q2013) xm_X15_value me_X19_value is_X19_value q2197 rfl rfl (Nat.le_of_ble_eq_true rfl) (MX.post ((rc_V hG hO 900).2.2.2.2.1.2.2.2.1 tc g22) kr)
      · exact x_callU hG (Ky := kX20_value) (As := [.ref b3]) dX26_lower_40 tc rfl q2293 q2014 (Or.inl q2013) xm_X15_value me_X20_value is_X20_value q2015 rfl rfl (Nat.le_of_ble_eq_true rfl) (MX.post ((rc_V hG hO 900).2.2.2.2.1.2.2.2.2.1 tc g22) kr)
      · exact x_callU hG (Ky := kX21_value) (As := [.ref b3]) dX26_lower_40 tc rfl q2293 q2014 (Or.inl q2013) xm_X15_value me_X21_value is_X21_value q2198 rfl rfl (Nat.le_of_ble_eq_true rfl) (MX.post ((rc_V hG hO 900).2.2.2.2.1.2.2.2.2.2.1 tc g22) kr)
      · exact x_callU hG (Ky := kX22_value) (As := [.ref b3]) dX26_lower_40 tc rfl q2293 q2014 (Or.inl q2013) xm_X15_value me_X22_value is_X22_value q2195 rfl rfl (Nat.le_of_ble_eq_true rfl) (MX.post ((rc_V hG hO 900).2.2.2.2.1.2.2.2.2.2.2.1 tc g22) kr)
      · exact x_callU hG (Ky := kX23_value) (As := [.ref b3]) dX26_lower_40 tc rfl q2293 q2014 (Or.inl q2013) xm_X15_value me_X23_value is_X23_value q2196 rfl rfl (Nat.le_of_ble_eq_true rfl) (MX.post ((rc_V hG hO 900).2.2.2.2.1.2.2.2.2.2.2.2 tc g22) kr)
    rintro _ A22 (⟨v22, rfl, h1⟩ | ⟨x22, rfl, h1⟩)
    rotate_left
    · exact ⟨rfl, Or.inr ⟨_, rfl, h1⟩⟩
    refine X.xok (fun w22 => ?_)
    replace h := h v22 A22 w22 h1
    change X _ _ _ _ A22 _ _ [.long v22]
    change X _ _ _ _ _ _ [some (.ref p), some (.ref b3), none, none, none] [.long v22]
    exact X.weak (xle_c rfl (xle_c rfl (xle_n (xle_n (xle_n xle_nil))))) (kj9 v22 A22 h)
  · replace h := h.1 c25
    refine x_iconst_ (v := (0 : Int32)) dX26_lower_28 (by decide) ?_
    refine x_callS hG (Ky := kX6_constant) (As := [.int (0 : Int32)]) dX26_lower_29 lk_X26_31 me_X6_constant st_X6_constant rfl rfl (Nat.le_of_ble_eq_true rfl) (MX.post (m_X6_constant hG) ?_)
    rintro _ _ ⟨rfl, rfl⟩
    change X _ _ _ _ _ _ _ (.long (f_X6_constant (0 : Int32)) :: _)
    refine x_goto (tgt := 43) dX26_lower_32 (by decide) ?_
    change X _ _ _ _ _ _ [some (.ref p), some (.ref b3), none, none, none] [.long (f_X6_constant (0 : Int32))]
    exact X.weak (xle_c rfl (xle_c rfl (xle_n (xle_n (xle_n xle_nil))))) (kj9 (f_X6_constant (0 : Int32)) A6 h)
def w_X27_lower (G : xG) (r0 : Nat → Option Nat → (xA → Prop) → (Nat → xA → Prop) → xA → Prop) (r1 : Nat → Option Nat → (xA → Prop) → (Nat → xA → Prop) → xA → Prop) (r2 : Nat → Option Nat → Option Nat → Option Nat → Option Nat → (xA → Prop) → (Nat → xA → Prop) → xA → Prop) (r3 : Nat → Option Nat → (xA → Prop) → (Nat → xA → Prop) → xA → Prop) (p : Nat) (m : Option Nat) (Q : xA → Prop) (E : Nat → xA → Prop) (A : xA) : Prop := xok G A → ∃ b2 : Nat, m = some b2 ∧ (A.tg b2 = 6 ∧ (∃ R1 : Option Nat → xA → Prop, w_X6_block G b2 R1 A ∧ (∀ (v1 : Option Nat) (A1 : xA), xok G A1 → R1 v1 A1 → (A1.tg b2 = 6 ∧ (∃ R4 : Option Nat → xA → Prop, w_X6_block G b2 R4 A1 ∧ (∀ (v4 : Option Nat) (A4 : xA), xok G A4 → R4 v4 A4 → (A4.tg p = 26 ∧ (∃ J7 : Option Nat → xA → Prop, (∀ (y7_s0 : Option Nat) (A7 : xA), J7 y7_s0 A7 → A7.tg p = 26 ∧ (∃ b9 : Nat, (A7.P p 0) = some b9 ∧ (xE A7 b9 ∧ (∃ R11 : xA → Prop, g_V_5 G b9 (some b2) v1 v4 R11 E A7 ∧ (∀ A11 : xA, xok G A11 → R11 A11 → (A11.tg b2 = 6 ∧ (∃ R12 : xA → Prop, w_X6_at G b2 v1 R12 A11 ∧ (∀ A12 : xA, xok G A12 → R12 A12 → (A12.tg p = 26 ∧ (A12.tg b2 = 6 ∧ (∃ R15 : xA → Prop, r0 b2 (A12.P p 1) R15 E A12 ∧ (∀ A15 : xA, xok G A15 → R15 A15 → (A15.tg b2 = 6 ∧ (∃ R17 : xA → Prop, w_X6_jump G b2 y7_s0 R17 A15 ∧ (∀ A17 : xA, xok G A17 → R17 A17 → (A17.tg p = 26 ∧ (∃ J20 : xA → Prop, (∀ (A20 : xA), J20 A20 → A20.tg b2 = 6 ∧ (∃ R21 : xA → Prop, w_X6_at G b2 y7_s0 R21 A20 ∧ (∀ A21 : xA, xok G A21 → R21 A21 → (Q A21)))) ∧ (((A17.P p 2) = none → J20 A17) ∧ (∀ b23 : Nat, (A17.P p 2) = some b23 → A17.tg b2 = 6 ∧ (∃ R24 : xA → Prop, w_X6_at G b2 v4 R24 A17 ∧ (∀ A24 : xA, xok G A24 → R24 A24 → (A24.tg p = 26 ∧ (A24.tg b2 = 6 ∧ (∃ R27 : xA → Prop, r0 b2 (A24.P p 2) R27 E A24 ∧ (∀ A27 : xA, xok G A27 → R27 A27 → (A27.tg b2 = 6 ∧ (∃ R29 : xA → Prop, w_X6_jump G b2 y7_s0 R29 A27 ∧ (∀ A29 : xA, xok G A29 → R29 A29 → (J20 A29))))))))))))))))))))))))))))) ∧ (((A4.P p 2) = none → J7 v4 A4) ∧ (∀ b31 : Nat, (A4.P p 2) = some b31 → A4.tg b2 = 6 ∧ (∃ R32 : Option Nat → xA → Prop, w_X6_block G b2 R32 A4 ∧ (∀ (v32 : Option Nat) (A32 : xA), xok G A32 → R32 v32 A32 → (J7 v32 A32)))))))))))))
theorem m_X27_lower (hG : xOK G) (hO : xHO G) {dp : Nat} {r0 : Nat → Option Nat → (xA → Prop) → (Nat → xA → Prop) → xA → Prop} {r1 : Nat → Option Nat → (xA → Prop) → (Nat → xA → Prop) → xA → Prop} {r2 : Nat → Option Nat → Option Nat → Option Nat → Option Nat → (xA → Prop) → (Nat → xA → Prop) → xA → Prop} {r3 : Nat → Option Nat → (xA → Prop) → (Nat → xA → Prop) → xA → Prop} (hK : xRC_D G (dp + 1715) r0 r1 r2 r3) {p : Nat} {m : Option Nat} {Q : xA → Prop} {E : Nat → xA → Prop} {A : xA} (h : w_X27_lower G r0 r1 r2 r3 p m Q E A) : MX G (dp + 1716) kX27_lower [.ref p, va_rf m] A (hX (hV Q) E) := by
  unfold w_X27_lower at h
  refine MX.of rfl (by cases m <;> exact Nat.le_of_ble_eq_true rfl) ?_
  refine X.lvs (lv' := [some (.ref p), some (va_rf m), none, none, none]) (by cases m <;> rfl) ?_
  refine X.xok (fun w0 => ?_)
  replace h := h w0
  refine x_aloadq_n dX27_lower_0 rfl ?_
  obtain ⟨b2, e2, h⟩ := h
  rw [e2]
  obtain ⟨o3, h⟩ := h
  obtain ⟨R1, g1, h⟩ := h
  refine x_callV hG (Ky := kX6_block) (As := []) dX27_lower_1 o3 rfl lk_X27_20 me_X6_block is_X6_block se_X6_block rfl rfl (Nat.le_of_ble_eq_true rfl) (MX.post (m_X6_block hG hO g1) ?_)
  rintro _ A1 ⟨v1, rfl, h1⟩
  refine X.xok (fun w1 => ?_)
  replace h := h v1 A1 w1 h1
  change X _ _ _ _ A1 _ _ [va_rf v1]
  refine x_astoreq_n dX27_lower_4 (by decide) ?_
  refine x_aload_n dX27_lower_5 rfl ?_
  obtain ⟨o5, h⟩ := h
  obtain ⟨R4, g4, h⟩ := h
  refine x_callV hG (Ky := kX6_block) (As := []) dX27_lower_6 o5 rfl lk_X27_20 me_X6_block is_X6_block se_X6_block rfl rfl (Nat.le_of_ble_eq_true rfl) (MX.post (m_X6_block hG hO g4) ?_)
  rintro _ A4 ⟨v4, rfl, h1⟩
  refine X.xok (fun w4 => ?_)
  replace h := h v4 A4 w4 h1
  change X _ _ _ _ A4 _ _ [va_rf v4]
  refine x_astoreq_n dX27_lower_9 (by decide) ?_
  refine X.lvs (lv' := [some (.ref p), some (.ref b2), some (va_rf v1), some (va_rf v4), none]) (by generalize v1 = z; cases z <;> rfl) ?_
  refine x_aload_n dX27_lower_10 rfl ?_
  obtain ⟨o6, h⟩ := h
  refine x_get (v := va_rf (A4.P p 2)) hG dX27_lower_11 f_X27_17_25 o6 rfl ?_
  obtain ⟨J7, g7, h⟩ := h
  have kj7 : ∀ (y7_s0 : Option Nat) (A7 : xA), J7 y7_s0 A7 → X G (dp + 1716) kX27_lower (hX (hV Q) E) A7 25 [some (.ref p), some (.ref b2), some (va_rf v1), some (va_rf v4), none] [va_rf y7_s0] := by
    intro y7_s0 A7 h
    replace h := g7 y7_s0 A7 h
    refine x_astoreq dX27_lower_25 (by decide) ?_
    refine X.lvs (lv' := [some (.ref p), some (.ref b2), some (va_rf v1), some (va_rf v4), some (va_rf y7_s0)]) (by generalize v4 = z; cases z <;> rfl) ?_
    refine x_aload_n dX27_lower_27 rfl ?_
    obtain ⟨o8, h⟩ := h
    refine x_get (v := va_rf (A7.P p 0)) hG dX27_lower_28 f_X27_7_25 o8 rfl ?_
    refine x_aload_n dX27_lower_31 rfl ?_
    refine x_aloadq_n dX27_lower_32 rfl ?_
    refine x_aloadq_n dX27_lower_33 rfl ?_
    obtain ⟨b9, e9, h⟩ := h
    rw [e9]
    obtain ⟨o10, h⟩ := h
    obtain ⟨R11, g11, h⟩ := h
    refine z_disp (pc' := 34) (lv' := [some (.ref p), some (.ref b2), some (va_rf v1), some (va_rf v4), some (va_rf y7_s0)]) (st' := []) (P := hX (hV R11) E) (kr := ?_) (kc := ?_)
    rotate_left
    · obtain ⟨c, tc, hc⟩ := o10
      simp only [eCl, List.mem_cons, List.not_mem_nil, or_false] at hc
      intro kr
      rcases hc with rfl | rfl | rfl | rfl | rfl | rfl | rfl | rfl
      · exact x_callU hG (Ky := kX15_branch) (As := [.ref b2, va_rf v1, va_rf v4]) dX27_lower_34 tc rfl q2242 q2047 (Or.inr ⟨is_X15_branch, _, _, _, me_X15_branch.1⟩) xm_X15_branch me_X15_branch is_X15_branch q2127 rfl rfl (Nat.le_of_ble_eq_true rfl) (MX.post ((rc_V hG hO 900).2.2.2.2.2.1 tc g11) kr)
      · exact x_callU hG (Ky := kX15_branch) (As := [.ref b2, va_rf v1, va_rf v4]) dX27_lower_34 tc rfl q2242 q2047 (Or.inr ⟨is_X15_branch, _, _, _, me_X15_branch.1⟩) xm_X15_branch me_X15_branch is_X15_branch q2121 rfl rfl (Nat.le_of_ble_eq_true rfl) (MX.post ((rc_V hG hO 900).2.2.2.2.2.2.1 tc g11) kr)
      · exact x_callU hG (Ky := kX15_branch) (As := [.ref b2, va_rf v1, va_rf v4]) dX27_lower_34 tc rfl q2242 q2047 (Or.inr ⟨is_X15_branch, _, _, _, me_X15_branch.1⟩) xm_X15_branch me_X15_branch is_X15_branch q2126 rfl rfl (Nat.le_of_ble_eq_true rfl) (MX.post ((rc_V hG hO 900).2.2.2.2.2.2.2.1 tc g11) kr)
      · exact x_callU hG (Ky := kX15_branch) (As := [.ref b2, va_rf v1, va_rf v4]) dX27_lower_34 tc rfl q2242 q2047 (Or.inr ⟨is_X15_branch, _, _, _, me_X15_branch.1⟩) xm_X15_branch me_X15_branch is_X15_branch q2124 rfl rfl (Nat.le_of_ble_eq_true rfl) (MX.post ((rc_V hG hO 900).2.2.2.2.2.2.2.2.1 tc g11) kr)
      · exact x_callU hG (Ky := kX20_branch) (As := [.ref b2, va_rf v1, va_rf v4]) dX27_lower_34 tc rfl q2242 q2047 (Or.inr ⟨is_X15_branch, _, _, _, me_X15_branch.1⟩) xm_X15_branch me_X20_branch is_X20_branch q2048 rfl rfl (Nat.le_of_ble_eq_true rfl) (MX.post ((rc_V hG hO 900).2.2.2.2.2.2.2.2.2.1 tc g11) kr)
      · exact x_callU hG (Ky := kX21_branch) (As := [.ref b2, va_rf v1, va_rf v4]) dX27_lower_34 tc rfl q2242 q2047 (Or.inr ⟨is_X15_branch, _, _, _, me_X15_branch.1⟩) xm_X15_branch me_X21_branch is_X21_branch q2125 rfl rfl (Nat.le_of_ble_eq_true rfl) (MX.post ((rc_V hG hO 900).2.2.2.2.2.2.2.2.2.2.1 tc g11) kr)
      · exact x_callU hG (Ky := kX22_branch) (As := [.ref b2, va_rf v1, va_rf v4]) dX27_lower_34 tc rfl q2242 q2047 (Or.inr ⟨is_X15_branch, _, _, _, me_X15_branch.1⟩) xm_X15_branch me_X22_branch is_X22_branch q2122 rfl rfl (Nat.le_of_ble_eq_true rfl) (MX.post ((rc_V hG hO 900).2.2.2.2.2.2.2.2.2.2.2.1 tc g11) kr)
      · exact x_callU hG (Ky := kX15_branch) (As := [.ref b2, va_rf v1, va_rf v4]) dX27_lower_34 tc rfl q2242 q2047 (Or.inr ⟨is_X15_branch, _, _, _, me_X15_branch.1⟩) xm_X15_branch me_X15_branch is_X15_branch q2123 rfl rfl (Nat.le_of_ble_eq_true rfl) (MX.post ((rc_V hG hO 900).2.2.2.2.2.2.2.2.2.2.2.2 tc g11) kr)
    rintro _ A11 (⟨rfl, h1⟩ | ⟨x11, rfl, h1⟩)
    rotate_left
    · exact ⟨rfl, Or.inr ⟨_, rfl, h1⟩⟩
    refine X.xok (fun w11 => ?_)
    replace h := h A11 w11 h1
    change X _ _ _ _ A11 _ _ []
    refine x_aload_n dX27_lower_37 rfl ?_
    refine x_aloadq_n dX27_lower_38 rfl ?_
    obtain ⟨o13, h⟩ := h
    obtain ⟨R12, g12, h⟩ := h
    refine x_callV hG (Ky := kX6_at) (As := [va_rf v1]) dX27_lower_39 o13 rfl lk_X27_32 me_X6_at is_X6_at se_X6_at rfl rfl (Nat.le_of_ble_eq_true rfl) (MX.post (m_X6_at hG hO g12) ?_)
    rintro _ A12 ⟨rfl, h1⟩
    refine X.xok (fun w12 => ?_)
    replace h := h A12 w12 h1
    change X _ _ _ _ A12 _ _ []
    refine x_aload_n dX27_lower_42 rfl ?_
    refine x_aload_n dX27_lower_43 rfl ?_
    obtain ⟨o14, h⟩ := h
    refine x_get (v := va_rf (A12.P p 1)) hG dX27_lower_44 f_X27_13_25 o14 rfl ?_
    obtain ⟨o16, h⟩ := h
    obtain ⟨R15, g15, h⟩ := h
    refine x_callV hG (Ky := kX6_scoped) (As := [va_rf (A12.P p 1)]) dX27_lower_47 o16 rfl lk_X27_36 me_X6_scoped is_X6_scoped se_X6_scoped rfl rfl (Nat.le_of_ble_eq_true rfl) (MX.post (hK.1 g15) ?_)
    rintro _ A15 (⟨rfl, h1⟩ | ⟨x15, rfl, h1⟩)
    rotate_left
    · exact ⟨rfl, Or.inr ⟨_, rfl, h1⟩⟩
    refine X.xok (fun w15 => ?_)
    replace h := h A15 w15 h1
    change X _ _ _ _ A15 _ _ []
    refine x_aload_n dX27_lower_50 rfl ?_
    refine x_aloadq dX27_lower_51 rfl ?_
    obtain ⟨o18, h⟩ := h
    obtain ⟨R17, g17, h⟩ := h
    refine x_callV hG (Ky := kX6_jump) (As := [va_rf y7_s0]) dX27_lower_53 o18 rfl lk_X27_40 me_X6_jump is_X6_jump se_X6_jump rfl rfl (Nat.le_of_ble_eq_true rfl) (MX.post (m_X6_jump hG hO g17) ?_)
    rintro _ A17 ⟨rfl, h1⟩
    refine X.xok (fun w17 => ?_)
    replace h := h A17 w17 h1
    change X _ _ _ _ A17 _ _ []
    refine x_aload_n dX27_lower_56 rfl ?_
    obtain ⟨o19, h⟩ := h
    refine x_get (v := va_rf (A17.P p 2)) hG dX27_lower_57 f_X27_17_25 o19 rfl ?_
    obtain ⟨J20, g20, h⟩ := h
    have kj20 : ∀ (A20 : xA), J20 A20 → X G (dp + 1716) kX27_lower (hX (hV Q) E) A20 82 [none, some (.ref b2), none, none, some (va_rf y7_s0)] [] := by
      intro A20 h
      replace h := g20 A20 h
      refine x_aload_n dX27_lower_82 rfl ?_
      refine x_aloadq dX27_lower_83 rfl ?_
      obtain ⟨o22, h⟩ := h
      obtain ⟨R21, g21, h⟩ := h
      refine x_callV hG (Ky := kX6_at) (As := [va_rf y7_s0]) dX27_lower_85 o22 rfl lk_X27_32 me_X6_at is_X6_at se_X6_at rfl rfl (Nat.le_of_ble_eq_true rfl) (MX.post (m_X6_at hG hO g21) ?_)
      rintro _ A21 ⟨rfl, h1⟩
      refine X.xok (fun w21 => ?_)
      replace h := h A21 w21 h1
      change X _ _ _ _ A21 _ _ []
      exact x_vret dX27_lower_88 rfl (Or.inl ⟨rfl, h⟩)
    refine x_ifnull (tgt := 82) dX27_lower_60 (by decide) (fun c60 => ?_) (fun b23 c60 => ?_)
    · replace h := h.1 c60
      change X _ _ _ _ _ _ [some (.ref p), some (.ref b2), some (va_rf v1), some (va_rf v4), some (va_rf y7_s0)] []
      exact X.weak (xle_n (xle_c rfl (xle_n (xle_n (xle_c rfl xle_nil))))) (kj20 A17 h)
    · replace h := h.2 b23 c60
      refine x_aload_n dX27_lower_63 rfl ?_
      refine x_aloadq_n dX27_lower_64 rfl ?_
      obtain ⟨o25, h⟩ := h
      obtain ⟨R24, g24, h⟩ := h
      refine x_callV hG (Ky := kX6_at) (As := [va_rf v4]) dX27_lower_65 o25 rfl lk_X27_32 me_X6_at is_X6_at se_X6_at rfl rfl (Nat.le_of_ble_eq_true rfl) (MX.post (m_X6_at hG hO g24) ?_)
      rintro _ A24 ⟨rfl, h1⟩
      refine X.xok (fun w24 => ?_)
      replace h := h A24 w24 h1
      change X _ _ _ _ A24 _ _ []
      refine x_aload_n dX27_lower_68 rfl ?_
      refine x_aload_n dX27_lower_69 rfl ?_
      obtain ⟨o26, h⟩ := h
      refine x_get (v := va_rf (A24.P p 2)) hG dX27_lower_70 f_X27_17_25 o26 rfl ?_
      obtain ⟨o28, h⟩ := h
      obtain ⟨R27, g27, h⟩ := h
      refine x_callV hG (Ky := kX6_scoped) (As := [va_rf (A24.P p 2)]) dX27_lower_73 o28 rfl lk_X27_36 me_X6_scoped is_X6_scoped se_X6_scoped rfl rfl (Nat.le_of_ble_eq_true rfl) (MX.post (hK.1 g27) ?_)
      rintro _ A27 (⟨rfl, h1⟩ | ⟨x27, rfl, h1⟩)
      rotate_left
      · exact ⟨rfl, Or.inr ⟨_, rfl, h1⟩⟩
      refine X.xok (fun w27 => ?_)
      replace h := h A27 w27 h1
      change X _ _ _ _ A27 _ _ []
      refine x_aload_n dX27_lower_76 rfl ?_
      refine x_aloadq dX27_lower_77 rfl ?_
      obtain ⟨o30, h⟩ := h
      obtain ⟨R29, g29, h⟩ := h
      refine x_callV hG (Ky := kX6_jump) (As := [va_rf y7_s0]) dX27_lower_79 o30 rfl lk_X27_40 me_X6_jump is_X6_jump se_X6_jump rfl rfl (Nat.le_of_ble_eq_true rfl) (MX.post (m_X6_jump hG hO g29) ?_)
      rintro _ A29 ⟨rfl, h1⟩
      refine X.xok (fun w29 => ?_)
      replace h := h A29 w29 h1
      change X _ _ _ _ A29 _ _ []
      change X _ _ _ _ _ _ [some (.ref p), some (.ref b2), some (va_rf v1), some (va_rf v4), some (va_rf y7_s0)] []
      exact X.weak (xle_n (xle_c rfl (xle_n (xle_n (xle_c rfl xle_nil))))) (kj20 A29 h)
  refine x_ifnonnull (tgt := 21) dX27_lower_14 (by decide) (fun b31 c14 => ?_) (fun c14 => ?_)
  · replace h := h.2 b31 c14
    refine x_aload_n dX27_lower_21 rfl ?_
    obtain ⟨o33, h⟩ := h
    obtain ⟨R32, g32, h⟩ := h
    refine x_callV hG (Ky := kX6_block) (As := []) dX27_lower_22 o33 rfl lk_X27_20 me_X6_block is_X6_block se_X6_block rfl rfl (Nat.le_of_ble_eq_true rfl) (MX.post (m_X6_block hG hO g32) ?_)
    rintro _ A32 ⟨v32, rfl, h1⟩
    refine X.xok (fun w32 => ?_)
    replace h := h v32 A32 w32 h1
    change X _ _ _ _ A32 _ _ [va_rf v32]
    change X _ _ _ _ _ _ [some (.ref p), some (.ref b2), some (va_rf v1), some (va_rf v4), none] [va_rf v32]
    exact X.weak (xle_c rfl (xle_c rfl (xle_c rfl (xle_c rfl (xle_n xle_nil))))) (kj7 v32 A32 h)
  · replace h := h.1 c14
    refine x_aloadq_n dX27_lower_17 rfl ?_
    refine x_goto (tgt := 25) dX27_lower_18 (by decide) ?_
    change X _ _ _ _ _ _ [some (.ref p), some (.ref b2), some (va_rf v1), some (va_rf v4), none] [va_rf v4]
    exact X.weak (xle_c rfl (xle_c rfl (xle_c rfl (xle_c rfl (xle_n xle_nil))))) (kj7 v4 A4 h)
def w_X28_lower (G : xG) (r0 : Nat → Option Nat → (xA → Prop) → (Nat → xA → Prop) → xA → Prop) (r1 : Nat → Option Nat → (xA → Prop) → (Nat → xA → Prop) → xA → Prop) (r2 : Nat → Option Nat → Option Nat → Option Nat → Option Nat → (xA → Prop) → (Nat → xA → Prop) → xA → Prop) (r3 : Nat → Option Nat → (xA → Prop) → (Nat → xA → Prop) → xA → Prop) (p : Nat) (m : Option Nat) (Q : xA → Prop) (E : Nat → xA → Prop) (A : xA) : Prop := xok G A → ∃ b2 : Nat, m = some b2 ∧ (A.tg b2 = 6 ∧ (∃ R1 : Int32 → xA → Prop, w_X6_open G b2 R1 A ∧ (∀ (v1 : Int32) (A1 : xA), xok G A1 → R1 v1 A1 → (A1.tg p = 27 ∧ (∃ J5 : xA → Prop, (∀ (A5 : xA), J5 A5 → A5.tg b2 = 6 ∧ (∃ R6 : Option Nat → xA → Prop, w_X6_block G b2 R6 A5 ∧ (∀ (v6 : Option Nat) (A6 : xA), xok G A6 → R6 v6 A6 → (A6.tg b2 = 6 ∧ (∃ R8 : Option Nat → xA → Prop, w_X6_block G b2 R8 A6 ∧ (∀ (v8 : Option Nat) (A8 : xA), xok G A8 → R8 v8 A8 → (A8.tg b2 = 6 ∧ (∃ R10 : Option Nat → xA → Prop, w_X6_block G b2 R10 A8 ∧ (∀ (v10 : Option Nat) (A10 : xA), xok G A10 → R10 v10 A10 → (A10.tg b2 = 6 ∧ (∃ R12 : Option Nat → xA → Prop, w_X6_block G b2 R12 A10 ∧ (∀ (v12 : Option Nat) (A12 : xA), xok G A12 → R12 v12 A12 → (A12.tg p = 27 ∧ (∃ J15 : xA → Prop, (∀ (A15 : xA), J15 A15 → A15.tg b2 = 6 ∧ (∃ R16 : xA → Prop, w_X6_at G b2 v12 R16 A15 ∧ (∀ A16 : xA, xok G A16 → R16 A16 → (A16.tg b2 = 6 ∧ (∃ R18 : xA → Prop, w_X6_close G b2 v1 R18 A16 ∧ (∀ A18 : xA, xok G A18 → R18 A18 → (Q A18))))))) ∧ (((A12.I p 4) = 0 → A12.tg b2 = 6 ∧ (∃ R20 : xA → Prop, w_X6_jump G b2 v6 R20 A12 ∧ (∀ A20 : xA, xok G A20 → R20 A20 → (A20.tg b2 = 6 ∧ (∃ R22 : xA → Prop, w_X6_at G b2 v6 R22 A20 ∧ (∀ A22 : xA, xok G A22 → R22 A22 → (A22.tg p = 27 ∧ (∃ J25 : xA → Prop, (∀ (A25 : xA), J25 A25 → A25.tg p = 27 ∧ (∃ J27 : xA → Prop, (∀ (A27 : xA), J27 A27 → A27.tg p = 27 ∧ (∃ J29 : Option Nat → Prop, (∀ (y29_s0 : Option Nat), J29 y29_s0 → ∃ R30 : xA → Prop, r2 p (some b2) v8 y29_s0 v12 R30 E A27 ∧ (∀ A30 : xA, xok G A30 → R30 A30 → (J15 A30))) ∧ (((A27.P p 1) = none → J29 v6) ∧ (∀ b31 : Nat, (A27.P p 1) = some b31 → J29 v10)))) ∧ (((A25.P p 1) = none → J27 A25) ∧ (∀ b32 : Nat, (A25.P p 1) = some b32 → A25.tg b2 = 6 ∧ (∃ R33 : xA → Prop, w_X6_at G b2 v10 R33 A25 ∧ (∀ A33 : xA, xok G A33 → R33 A33 → (A33.tg p = 27 ∧ (∃ b36 : Nat, (A33.P p 1) = some b36 ∧ (xS A33 b36 ∧ (∃ R38 : xA → Prop, r3 b36 (some b2) R38 E A33 ∧ (∀ A38 : xA, xok G A38 → R38 A38 → (A38.tg b2 = 6 ∧ (∃ R39 : xA → Prop, w_X6_jump G b2 v6 R39 A38 ∧ (∀ A39 : xA, xok G A39 → R39 A39 → (J27 A39))))))))))))))) ∧ (((A22.P p 2) = none → A22.tg b2 = 6 ∧ (∃ R42 : xA → Prop, w_X6_jump G b2 v8 R42 A22 ∧ (∀ A42 : xA, xok G A42 → R42 A42 → (J25 A42)))) ∧ (∀ b41 : Nat, (A22.P p 2) = some b41 → xE A22 b41 ∧ (∃ R45 : xA → Prop, g_V_5 G b41 (some b2) v8 v12 R45 E A22 ∧ (∀ A45 : xA, xok G A45 → R45 A45 → (J25 A45))))))))))))) ∧ (¬ (A12.I p 4) = 0 → A12.tg b2 = 6 ∧ (∃ R46 : xA → Prop, w_X6_jump G b2 v8 R46 A12 ∧ (∀ A46 : xA, xok G A46 → R46 A46 → (A46.tg p = 27 ∧ (∃ R48 : xA → Prop, r2 p (some b2) v8 v6 v12 R48 E A46 ∧ (∀ A48 : xA, xok G A48 → R48 A48 → (A48.tg b2 = 6 ∧ (∃ R50 : xA → Prop, w_X6_at G b2 v6 R50 A48 ∧ (∀ A50 : xA, xok G A50 → R50 A50 → (A50.tg p = 27 ∧ (∃ b53 : Nat, (A50.P p 2) = some b53 ∧ (xE A50 b53 ∧ (∃ R55 : xA → Prop, g_V_5 G b53 (some b2) v8 v12 R55 E A50 ∧ (∀ A55 : xA, xok G A55 → R55 A55 → (J15 A55)))))))))))))))))))))))))))))) ∧ (((A1.P p 0) = none → J5 A1) ∧ (∀ b56 : Nat, (A1.P p 0) = some b56 → xS A1 b56 ∧ (∃ R58 : xA → Prop, r3 b56 (some b2) R58 E A1 ∧ (∀ A58 : xA, xok G A58 → R58 A58 → (J5 A58))))))))))
theorem m_X28_lower (hG : xOK G) (hO : xHO G) {dp : Nat} {r0 : Nat → Option Nat → (xA → Prop) → (Nat → xA → Prop) → xA → Prop} {r1 : Nat → Option Nat → (xA → Prop) → (Nat → xA → Prop) → xA → Prop} {r2 : Nat → Option Nat → Option Nat → Option Nat → Option Nat → (xA → Prop) → (Nat → xA → Prop) → xA → Prop} {r3 : Nat → Option Nat → (xA → Prop) → (Nat → xA → Prop) → xA → Prop} (hK : xRC_D G (dp + 1715) r0 r1 r2 r3) {p : Nat} {m : Option Nat} {Q : xA → Prop} {E : Nat → xA → Prop} {A : xA} (h : w_X28_lower G r0 r1 r2 r3 p m Q E A) : MX G (dp + 1716) kX28_lower [.ref p, va_rf m] A (hX (hV Q) E) := by
  unfold w_X28_lower at h
  refine MX.of rfl (by cases m <;> exact Nat.le_of_ble_eq_true rfl) ?_
  refine X.lvs (lv' := [some (.ref p), some (va_rf m), none, none, none, none, none]) (by cases m <;> rfl) ?_
  refine X.xok (fun w0 => ?_)
  replace h := h w0
  refine x_aloadq_n dX28_lower_0 rfl ?_
  obtain ⟨b2, e2, h⟩ := h
  rw [e2]
  obtain ⟨o3, h⟩ := h
  obtain ⟨R1, g1, h⟩ := h
  refine x_callV hG (Ky := kX6_open) (As := []) dX28_lower_1 o3 rfl lk_X28_27 me_X6_open is_X6_open se_X6_open rfl rfl (Nat.le_of_ble_eq_true rfl) (MX.post (m_X6_open hG hO g1) ?_)
  rintro _ A1 ⟨v1, rfl, h1⟩
  refine X.xok (fun w1 => ?_)
  replace h := h v1 A1 w1 h1
  change X _ _ _ _ A1 _ _ [.int v1]
  refine x_istore_n dX28_lower_4 (by decide) ?_
  refine x_aload_n dX28_lower_5 rfl ?_
  obtain ⟨o4, h⟩ := h
  refine x_get (v := va_rf (A1.P p 0)) hG dX28_lower_6 f_X28_7_26 o4 rfl ?_
  obtain ⟨J5, g5, h⟩ := h
  have kj5 : ∀ (A5 : xA), J5 A5 → X G (dp + 1716) kX28_lower (hX (hV Q) E) A5 20 [some (.ref p), some (.ref b2), some (.int v1), none, none, none, none] [] := by
    intro A5 h
    replace h := g5 A5 h
    refine x_aload_n dX28_lower_20 rfl ?_
    obtain ⟨o7, h⟩ := h
    obtain ⟨R6, g6, h⟩ := h
    refine x_callV hG (Ky := kX6_block) (As := []) dX28_lower_21 o7 rfl lk_X28_37 me_X6_block is_X6_block se_X6_block rfl rfl (Nat.le_of_ble_eq_true rfl) (MX.post (m_X6_block hG hO g6) ?_)
    rintro _ A6 ⟨v6, rfl, h1⟩
    refine X.xok (fun w6 => ?_)
    replace h := h v6 A6 w6 h1
    change X _ _ _ _ A6 _ _ [va_rf v6]
    refine x_astoreq_n dX28_lower_24 (by decide) ?_
    refine x_aload_n dX28_lower_25 rfl ?_
    obtain ⟨o9, h⟩ := h
    obtain ⟨R8, g8, h⟩ := h
    refine x_callV hG (Ky := kX6_block) (As := []) dX28_lower_26 o9 rfl lk_X28_37 me_X6_block is_X6_block se_X6_block rfl rfl (Nat.le_of_ble_eq_true rfl) (MX.post (m_X6_block hG hO g8) ?_)
    rintro _ A8 ⟨v8, rfl, h1⟩
    refine X.xok (fun w8 => ?_)
    replace h := h v8 A8 w8 h1
    change X _ _ _ _ A8 _ _ [va_rf v8]
    refine x_astoreq dX28_lower_29 (by decide) ?_
    refine X.lvs (lv' := [some (.ref p), some (.ref b2), some (.int v1), some (va_rf v6), some (va_rf v8), none, none]) (by generalize v6 = z; cases z <;> rfl) ?_
    refine x_aload_n dX28_lower_31 rfl ?_
    obtain ⟨o11, h⟩ := h
    obtain ⟨R10, g10, h⟩ := h
    refine x_callV hG (Ky := kX6_block) (As := []) dX28_lower_32 o11 rfl lk_X28_37 me_X6_block is_X6_block se_X6_block rfl rfl (Nat.le_of_ble_eq_true rfl) (MX.post (m_X6_block hG hO g10) ?_)
    rintro _ A10 ⟨v10, rfl, h1⟩
    refine X.xok (fun w10 => ?_)
    replace h := h v10 A10 w10 h1
    change X _ _ _ _ A10 _ _ [va_rf v10]
    refine x_astoreq dX28_lower_35 (by decide) ?_
    refine X.lvs (lv' := [some (.ref p), some (.ref b2), some (.int v1), some (va_rf v6), some (va_rf v8), some (va_rf v10), none]) (by generalize v8 = z; cases z <;> rfl) ?_
    refine x_aload_n dX28_lower_37 rfl ?_
    obtain ⟨o13, h⟩ := h
    obtain ⟨R12, g12, h⟩ := h
    refine x_callV hG (Ky := kX6_block) (As := []) dX28_lower_38 o13 rfl lk_X28_37 me_X6_block is_X6_block se_X6_block rfl rfl (Nat.le_of_ble_eq_true rfl) (MX.post (m_X6_block hG hO g12) ?_)
    rintro _ A12 ⟨v12, rfl, h1⟩
    refine X.xok (fun w12 => ?_)
    replace h := h v12 A12 w12 h1
    change X _ _ _ _ A12 _ _ [va_rf v12]
    refine x_astoreq dX28_lower_41 (by decide) ?_
    refine X.lvs (lv' := [some (.ref p), some (.ref b2), some (.int v1), some (va_rf v6), some (va_rf v8), some (va_rf v10), some (va_rf v12)]) (by generalize v10 = z; cases z <;> rfl) ?_
    refine x_aload_n dX28_lower_43 rfl ?_
    obtain ⟨o14, h⟩ := h
    refine x_get (v := .int (A12.I p 4)) hG dX28_lower_44 f_X28_23_26 o14 rfl ?_
    obtain ⟨J15, g15, h⟩ := h
    have kj15 : ∀ (A15 : xA), J15 A15 → X G (dp + 1716) kX28_lower (hX (hV Q) E) A15 172 [none, some (.ref b2), some (.int v1), none, none, none, some (va_rf v12)] [] := by
      intro A15 h
      replace h := g15 A15 h
      refine x_aload_n dX28_lower_172 rfl ?_
      refine x_aloadq dX28_lower_173 rfl ?_
      obtain ⟨o17, h⟩ := h
      obtain ⟨R16, g16, h⟩ := h
      refine x_callV hG (Ky := kX6_at) (As := [va_rf v12]) dX28_lower_175 o17 rfl lk_X28_49 me_X6_at is_X6_at se_X6_at rfl rfl (Nat.le_of_ble_eq_true rfl) (MX.post (m_X6_at hG hO g16) ?_)
      rintro _ A16 ⟨rfl, h1⟩
      refine X.xok (fun w16 => ?_)
      replace h := h A16 w16 h1
      change X _ _ _ _ A16 _ _ []
      refine x_aload_n dX28_lower_178 rfl ?_
      refine x_iload_n dX28_lower_179 rfl ?_
      obtain ⟨o19, h⟩ := h
      obtain ⟨R18, g18, h⟩ := h
      refine x_callV hG (Ky := kX6_close) (As := [.int v1]) dX28_lower_180 o19 rfl lk_X28_58 me_X6_close is_X6_close se_X6_close rfl rfl (Nat.le_of_ble_eq_true rfl) (MX.post (m_X6_close hG hO g18) ?_)
      rintro _ A18 ⟨rfl, h1⟩
      refine X.xok (fun w18 => ?_)
      replace h := h A18 w18 h1
      change X _ _ _ _ A18 _ _ []
      exact x_vret dX28_lower_183 rfl (Or.inl ⟨rfl, h⟩)
    refine x_if_eq (tgt := 86) dX28_lower_47 (by decide) (fun c47 => ?_) (fun c47 => ?_)
    · replace h := h.1 c47
      refine x_aload_n dX28_lower_86 rfl ?_
      refine x_aloadq_n dX28_lower_87 rfl ?_
      obtain ⟨o21, h⟩ := h
      obtain ⟨R20, g20, h⟩ := h
      refine x_callV hG (Ky := kX6_jump) (As := [va_rf v6]) dX28_lower_88 o21 rfl lk_X28_41 me_X6_jump is_X6_jump se_X6_jump rfl rfl (Nat.le_of_ble_eq_true rfl) (MX.post (m_X6_jump hG hO g20) ?_)
      rintro _ A20 ⟨rfl, h1⟩
      refine X.xok (fun w20 => ?_)
      replace h := h A20 w20 h1
      change X _ _ _ _ A20 _ _ []
      refine x_aload_n dX28_lower_91 rfl ?_
      refine x_aloadq_n dX28_lower_92 rfl ?_
      obtain ⟨o23, h⟩ := h
      obtain ⟨R22, g22, h⟩ := h
      refine x_callV hG (Ky := kX6_at) (As := [va_rf v6]) dX28_lower_93 o23 rfl lk_X28_49 me_X6_at is_X6_at se_X6_at rfl rfl (Nat.le_of_ble_eq_true rfl) (MX.post (m_X6_at hG hO g22) ?_)
      rintro _ A22 ⟨rfl, h1⟩
      refine X.xok (fun w22 => ?_)
      replace h := h A22 w22 h1
      change X _ _ _ _ A22 _ _ []
      refine x_aload_n dX28_lower_96 rfl ?_
      obtain ⟨o24, h⟩ := h
      refine x_get (v := va_rf (A22.P p 2)) hG dX28_lower_97 f_X28_13_26 o24 rfl ?_
      obtain ⟨J25, g25, h⟩ := h
      have kj25 : ∀ (A25 : xA), J25 A25 → X G (dp + 1716) kX28_lower (hX (hV Q) E) A25 124 [some (.ref p), some (.ref b2), some (.int v1), some (va_rf v6), some (va_rf v8), some (va_rf v10), some (va_rf v12)] [] := by
        intro A25 h
        replace h := g25 A25 h
        refine x_aload_n dX28_lower_124 rfl ?_
        obtain ⟨o26, h⟩ := h
        refine x_get (v := va_rf (A25.P p 1)) hG dX28_lower_125 f_X28_17_26 o26 rfl ?_
        obtain ⟨J27, g27, h⟩ := h
        have kj27 : ∀ (A27 : xA), J27 A27 → X G (dp + 1716) kX28_lower (hX (hV Q) E) A27 150 [some (.ref p), some (.ref b2), some (.int v1), some (va_rf v6), some (va_rf v8), some (va_rf v10), some (va_rf v12)] [] := by
          intro A27 h
          replace h := g27 A27 h
          refine x_aload_n dX28_lower_150 rfl ?_
          refine x_aload_n dX28_lower_151 rfl ?_
          refine x_aloadq dX28_lower_152 rfl ?_
          refine x_aload_n dX28_lower_154 rfl ?_
          obtain ⟨o28, h⟩ := h
          refine x_get (v := va_rf (A27.P p 1)) hG dX28_lower_155 f_X28_17_26 o28 rfl ?_
          obtain ⟨J29, g29, h⟩ := h
          have kj29 : ∀ (y29_s0 : Option Nat), J29 y29_s0 → X G (dp + 1716) kX28_lower (hX (hV Q) E) A27 167 [none, some (.ref b2), some (.int v1), none, none, none, some (va_rf v12)] [va_rf y29_s0, va_rf v8, .ref b2, .ref p] := by
            intro y29_s0 h
            replace h := g29 y29_s0 h
            refine x_aloadq dX28_lower_167 rfl ?_
            obtain ⟨R30, g30, h⟩ := h
            refine x_callV hG (Ky := kX28_loop) (As := [.ref b2, va_rf v8, va_rf y29_s0, va_rf v12]) dX28_lower_169 o28 rfl lk_X28_45 me_X28_loop is_X28_loop se_X28_loop rfl rfl (Nat.le_of_ble_eq_true rfl) (MX.post (hK.2.2.1 g30) ?_)
            rintro _ A30 (⟨rfl, h1⟩ | ⟨x30, rfl, h1⟩)
            rotate_left
            · exact ⟨rfl, Or.inr ⟨_, rfl, h1⟩⟩
            refine X.xok (fun w30 => ?_)
            replace h := h A30 w30 h1
            change X _ _ _ _ A30 _ _ []
            change X _ _ _ _ _ _ [none, some (.ref b2), some (.int v1), none, none, none, some (va_rf v12)] []
            exact X.weak (xle_n (xle_c rfl (xle_c rfl (xle_n (xle_n (xle_n (xle_c rfl xle_nil))))))) (kj15 A30 h)
          refine x_ifnonnull (tgt := 165) dX28_lower_158 (by decide) (fun b31 c158 => ?_) (fun c158 => ?_)
          · replace h := h.2 b31 c158
            refine x_aloadq dX28_lower_165 rfl ?_
            change X _ _ _ _ _ _ [some (.ref p), some (.ref b2), some (.int v1), some (va_rf v6), some (va_rf v8), some (va_rf v10), some (va_rf v12)] [va_rf v10, va_rf v8, .ref b2, .ref p]
            exact X.weak (xle_n (xle_c rfl (xle_c rfl (xle_n (xle_n (xle_n (xle_c rfl xle_nil))))))) (kj29 v10 h)
          · replace h := h.1 c158
            refine x_aloadq_n dX28_lower_161 rfl ?_
            refine x_goto (tgt := 167) dX28_lower_162 (by decide) ?_
            change X _ _ _ _ _ _ [some (.ref p), some (.ref b2), some (.int v1), some (va_rf v6), some (va_rf v8), some (va_rf v10), some (va_rf v12)] [va_rf v6, va_rf v8, .ref b2, .ref p]
            exact X.weak (xle_n (xle_c rfl (xle_c rfl (xle_n (xle_n (xle_n (xle_c rfl xle_nil))))))) (kj29 v6 h)
        refine x_ifnull (tgt := 150) dX28_lower_128 (by decide) (fun c128 => ?_) (fun b32 c128 => ?_)
        · replace h := h.1 c128
          change X _ _ _ _ _ _ [some (.ref p), some (.ref b2), some (.int v1), some (va_rf v6), some (va_rf v8), some (va_rf v10), some (va_rf v12)] []
          exact X.weak (xle_c rfl (xle_c rfl (xle_c rfl (xle_c rfl (xle_c rfl (xle_c rfl (xle_c rfl xle_nil))))))) (kj27 A25 h)
        · replace h := h.2 b32 c128
          refine x_aload_n dX28_lower_131 rfl ?_
          refine x_aloadq dX28_lower_132 rfl ?_
          obtain ⟨o34, h⟩ := h
          obtain ⟨R33, g33, h⟩ := h
          refine x_callV hG (Ky := kX6_at) (As := [va_rf v10]) dX28_lower_134 o34 rfl lk_X28_49 me_X6_at is_X6_at se_X6_at rfl rfl (Nat.le_of_ble_eq_true rfl) (MX.post (m_X6_at hG hO g33) ?_)
          rintro _ A33 ⟨rfl, h1⟩
          refine X.xok (fun w33 => ?_)
          replace h := h A33 w33 h1
          change X _ _ _ _ A33 _ _ []
          refine x_aload_n dX28_lower_137 rfl ?_
          obtain ⟨o35, h⟩ := h
          refine x_get (v := va_rf (A33.P p 1)) hG dX28_lower_138 f_X28_17_26 o35 rfl ?_
          refine x_aload_n dX28_lower_141 rfl ?_
          obtain ⟨b36, e36, h⟩ := h
          rw [e36]
          obtain ⟨o37, h⟩ := h
          obtain ⟨R38, g38, h⟩ := h
          refine z_disp (pc' := 142) (lv' := [some (.ref p), some (.ref b2), some (.int v1), some (va_rf v6), some (va_rf v8), some (va_rf v10), some (va_rf v12)]) (st' := []) (P := hX (hV R38) E) (kr := ?_) (kc := ?_)
          rotate_left
          · obtain ⟨c, tc, hc⟩ := o37
            simp only [sCl, List.mem_cons, List.not_mem_nil, or_false] at hc
            intro kr
            rcases hc with rfl | rfl | rfl | rfl | rfl | rfl | rfl | rfl | rfl | rfl
            · exact x_callU hG (Ky := kX5_lower) (As := [.ref b2]) dX28_lower_142 tc rfl q2258 q1982 (Or.inl q1981) xm_X4_lower me_X5_lower is_X5_lower q2216 rfl rfl (Nat.le_of_ble_eq_true rfl) (MX.post (hK.2.2.2.1 tc g38) kr)
            · exact x_callU hG (Ky := kX25_lower) (As := [.ref b2]) dX28_lower_142 tc rfl q2258 q1982 (Or.inl q1981) xm_X4_lower me_X25_lower is_X25_lower q2375 rfl rfl (Nat.le_of_ble_eq_true rfl) (MX.post (hK.2.2.2.2.1 tc g38) kr)
            · exact x_callU hG (Ky := kX26_lower) (As := [.ref b2]) dX28_lower_142 tc rfl q2258 q1982 (Or.inl q1981) xm_X4_lower me_X26_lower is_X26_lower q2374 rfl rfl (Nat.le_of_ble_eq_true rfl) (MX.post (hK.2.2.2.2.2.1 tc g38) kr)
            · exact x_callU hG (Ky := kX27_lower) (As := [.ref b2]) dX28_lower_142 tc rfl q2258 q1982 (Or.inl q1981) xm_X4_lower me_X27_lower is_X27_lower q2238 rfl rfl (Nat.le_of_ble_eq_true rfl) (MX.post (hK.2.2.2.2.2.2.1 tc g38) kr)
            · exact x_callU hG (Ky := kX28_lower) (As := [.ref b2]) dX28_lower_142 tc rfl q2258 q1982 (Or.inl q1981) xm_X4_lower me_X28_lower is_X28_lower q2371 rfl rfl (Nat.le_of_ble_eq_true rfl) (MX.post (hK.2.2.2.2.2.2.2.1 tc g38) kr)
            · exact x_callU hG (Ky := kX29_lower) (As := [.ref b2]) dX28_lower_142 tc rfl q2258 q1982 (Or.inl q1981) xm_X4_lower me_X29_lower is_X29_lower q2234 rfl rfl (Nat.le_of_ble_eq_true rfl) (MX.post (hK.2.2.2.2.2.2.2.2.1 tc g38) kr)
            · exact x_callU hG (Ky := kX30_lower) (As := [.ref b2]) dX28_lower_142 tc rfl q2258 q1982 (Or.inl q1981) xm_X4_lower me_X30_lower is_X30_lower q1983 rfl rfl (Nat.le_of_ble_eq_true rfl) (MX.post (hK.2.2.2.2.2.2.2.2.2.1 tc g38) kr)
            · exact x_callU hG (Ky := kX31_lower) (As := [.ref b2]) dX28_lower_142 tc rfl q2258 q1982 (Or.inl q1981) xm_X4_lower me_X31_lower is_X31_lower q2370 rfl rfl (Nat.le_of_ble_eq_true rfl) (MX.post (hK.2.2.2.2.2.2.2.2.2.2.1 tc g38) kr)
            · exact x_callU hG (Ky := kX32_lower) (As := [.ref b2]) dX28_lower_142 tc rfl q2258 q1982 (Or.inl q1981) xm_X4_lower me_X32_lower is_X32_lower q2373 rfl rfl (Nat.le_of_ble_eq_true rfl) (MX.post (hK.2.2.2.2.2.2.2.2.2.2.2.1 tc g38) kr)
            · exact x_callU hG (Ky := kX33_lower) (As := [.ref b2]) dX28_lower_142 tc rfl q2258 q1982 (Or.inl q1981) xm_X4_lower me_X33_lower is_X33_lower q2372 rfl rfl (Nat.le_of_ble_eq_true rfl) (MX.post (hK.2.2.2.2.2.2.2.2.2.2.2.2 tc g38) kr)
          rintro _ A38 (⟨rfl, h1⟩ | ⟨x38, rfl, h1⟩)
          rotate_left
          · exact ⟨rfl, Or.inr ⟨_, rfl, h1⟩⟩
          refine X.xok (fun w38 => ?_)
          replace h := h A38 w38 h1
          change X _ _ _ _ A38 _ _ []
          refine x_aload_n dX28_lower_145 rfl ?_
          refine x_aloadq_n dX28_lower_146 rfl ?_
          obtain ⟨o40, h⟩ := h
          obtain ⟨R39, g39, h⟩ := h
          refine x_callV hG (Ky := kX6_jump) (As := [va_rf v6]) dX28_lower_147 o40 rfl lk_X28_41 me_X6_jump is_X6_jump se_X6_jump rfl rfl (Nat.le_of_ble_eq_true rfl) (MX.post (m_X6_jump hG hO g39) ?_)
          rintro _ A39 ⟨rfl, h1⟩
          refine X.xok (fun w39 => ?_)
          replace h := h A39 w39 h1
          change X _ _ _ _ A39 _ _ []
          change X _ _ _ _ _ _ [some (.ref p), some (.ref b2), some (.int v1), some (va_rf v6), some (va_rf v8), some (va_rf v10), some (va_rf v12)] []
          exact X.weak (xle_c rfl (xle_c rfl (xle_c rfl (xle_c rfl (xle_c rfl (xle_c rfl (xle_c rfl xle_nil))))))) (kj27 A39 h)
      refine x_ifnull (tgt := 118) dX28_lower_100 (by decide) (fun c100 => ?_) (fun b41 c100 => ?_)
      · replace h := h.1 c100
        refine x_aload_n dX28_lower_118 rfl ?_
        refine x_aloadq dX28_lower_119 rfl ?_
        obtain ⟨o43, h⟩ := h
        obtain ⟨R42, g42, h⟩ := h
        refine x_callV hG (Ky := kX6_jump) (As := [va_rf v8]) dX28_lower_121 o43 rfl lk_X28_41 me_X6_jump is_X6_jump se_X6_jump rfl rfl (Nat.le_of_ble_eq_true rfl) (MX.post (m_X6_jump hG hO g42) ?_)
        rintro _ A42 ⟨rfl, h1⟩
        refine X.xok (fun w42 => ?_)
        replace h := h A42 w42 h1
        change X _ _ _ _ A42 _ _ []
        change X _ _ _ _ _ _ [some (.ref p), some (.ref b2), some (.int v1), some (va_rf v6), some (va_rf v8), some (va_rf v10), some (va_rf v12)] []
        exact X.weak (xle_c rfl (xle_c rfl (xle_c rfl (xle_c rfl (xle_c rfl (xle_c rfl (xle_c rfl xle_nil))))))) (kj25 A42 h)
      · replace h := h.2 b41 c100
        refine x_aload_n dX28_lower_103 rfl ?_
        refine x_get (v := .ref b41) hG dX28_lower_104 f_X28_13_26 o24 (congrArg va_rf c100) ?_
        refine x_aload_n dX28_lower_107 rfl ?_
        refine x_aloadq dX28_lower_108 rfl ?_
        refine x_aloadq dX28_lower_110 rfl ?_
        obtain ⟨o44, h⟩ := h
        obtain ⟨R45, g45, h⟩ := h
        refine z_disp (pc' := 112) (lv' := [some (.ref p), some (.ref b2), some (.int v1), some (va_rf v6), some (va_rf v8), some (va_rf v10), some (va_rf v12)]) (st' := []) (P := hX (hV R45) E) (kr := ?_) (kc := ?_)
        rotate_left
        · obtain ⟨c, tc, hc⟩ := o44
          simp only [eCl, List.mem_cons, List.not_mem_nil, or_false] at hc
          intro kr
          rcases hc with rfl | rfl | rfl | rfl | rfl | rfl | rfl | rfl
          · exact x_callU hG (Ky := kX15_branch) (As := [.ref b2, va_rf v8, va_rf v12]) dX28_lower_112 tc rfl q2366 q2047 (Or.inr ⟨is_X15_branch, _, _, _, me_X15_branch.1⟩) xm_X15_branch me_X15_branch is_X15_branch q2127 rfl rfl (Nat.le_of_ble_eq_true rfl) (MX.post ((rc_V hG hO 900).2.2.2.2.2.1 tc g45) kr)
          · exact x_callU hG (Ky := kX15_branch) (As := [.ref b2, va_rf v8, va_rf v12]) dX28_lower_112 tc rfl q2366 q2047 (Or.inr ⟨is_X15_branch, _, _, _, me_X15_branch.1⟩) xm_X15_branch me_X15_branch is_X15_branch q2121 rfl rfl (Nat.le_of_ble_eq_true rfl) (MX.post ((rc_V hG hO 900).2.2.2.2.2.2.1 tc g45) kr)
          · exact x_callU hG (Ky := kX15_branch) (As := [.ref b2, va_rf v8, va_rf v12]) dX28_lower_112 tc rfl q2366 q2047 (Or.inr ⟨is_X15_branch, _, _, _, me_X15_branch.1⟩) xm_X15_branch me_X15_branch is_X15_branch q2126 rfl rfl (Nat.le_of_ble_eq_true rfl) (MX.post ((rc_V hG hO 900).2.2.2.2.2.2.2.1 tc g45) kr)
          · exact x_callU hG (Ky := kX15_branch) (As := [.ref b2, va_rf v8, va_rf v12]) dX28_lower_112 tc rfl q2366 q2047 (Or.inr ⟨is_X15_branch, _, _, _, me_X15_branch.1⟩) xm_X15_branch me_X15_branch is_X15_branch q2124 rfl rfl (Nat.le_of_ble_eq_true rfl) (MX.post ((rc_V hG hO 900).2.2.2.2.2.2.2.2.1 tc g45) kr)
          · exact x_callU hG (Ky := kX20_branch) (As := [.ref b2, va_rf v8, va_rf v12]) dX28_lower_112 tc rfl q2366 q2047 (Or.inr ⟨is_X15_branch, _, _, _, me_X15_branch.1⟩) xm_X15_branch me_X20_branch is_X20_branch q2048 rfl rfl (Nat.le_of_ble_eq_true rfl) (MX.post ((rc_V hG hO 900).2.2.2.2.2.2.2.2.2.1 tc g45) kr)
          · exact x_callU hG (Ky := kX21_branch) (As := [.ref b2, va_rf v8, va_rf v12]) dX28_lower_112 tc rfl q2366 q2047 (Or.inr ⟨is_X15_branch, _, _, _, me_X15_branch.1⟩) xm_X15_branch me_X21_branch is_X21_branch q2125 rfl rfl (Nat.le_of_ble_eq_true rfl) (MX.post ((rc_V hG hO 900).2.2.2.2.2.2.2.2.2.2.1 tc g45) kr)
          · exact x_callU hG (Ky := kX22_branch) (As := [.ref b2, va_rf v8, va_rf v12]) dX28_lower_112 tc rfl q2366 q2047 (Or.inr ⟨is_X15_branch, _, _, _, me_X15_branch.1⟩) xm_X15_branch me_X22_branch is_X22_branch q2122 rfl rfl (Nat.le_of_ble_eq_true rfl) (MX.post ((rc_V hG hO 900).2.2.2.2.2.2.2.2.2.2.2.1 tc g45) kr)
          · exact x_callU hG (Ky := kX15_branch) (As := [.ref b2, va_rf v8, va_rf v12]) dX28_lower_112 tc rfl q2366 q2047 (Or.inr ⟨is_X15_branch, _, _, _, me_X15_branch.1⟩) xm_X15_branch me_X15_branch is_X15_branch q2123 rfl rfl (Nat.le_of_ble_eq_true rfl) (MX.post ((rc_V hG hO 900).2.2.2.2.2.2.2.2.2.2.2.2 tc g45) kr)
        rintro _ A45 (⟨rfl, h1⟩ | ⟨x45, rfl, h1⟩)
        rotate_left
        · exact ⟨rfl, Or.inr ⟨_, rfl, h1⟩⟩
        refine X.xok (fun w45 => ?_)
        replace h := h A45 w45 h1
        change X _ _ _ _ A45 _ _ []
        refine x_goto (tgt := 124) dX28_lower_115 (by decide) ?_
        change X _ _ _ _ _ _ [some (.ref p), some (.ref b2), some (.int v1), some (va_rf v6), some (va_rf v8), some (va_rf v10), some (va_rf v12)] []
        exact X.weak (xle_c rfl (xle_c rfl (xle_c rfl (xle_c rfl (xle_c rfl (xle_c rfl (xle_c rfl xle_nil))))))) (kj25 A45 h)
    · replace h := h.2 c47
      refine x_aload_n dX28_lower_50 rfl ?_
      refine x_aloadq dX28_lower_51 rfl ?_
      obtain ⟨o47, h⟩ := h
      obtain ⟨R46, g46, h⟩ := h
      refine x_callV hG (Ky := kX6_jump) (As := [va_rf v8]) dX28_lower_53 o47 rfl lk_X28_41 me_X6_jump is_X6_jump se_X6_jump rfl rfl (Nat.le_of_ble_eq_true rfl) (MX.post (m_X6_jump hG hO g46) ?_)
      rintro _ A46 ⟨rfl, h1⟩
      refine X.xok (fun w46 => ?_)
      replace h := h A46 w46 h1
      change X _ _ _ _ A46 _ _ []
      refine x_aload_n dX28_lower_56 rfl ?_
      refine x_aload_n dX28_lower_57 rfl ?_
      refine x_aloadq dX28_lower_58 rfl ?_
      refine x_aloadq_n dX28_lower_60 rfl ?_
      refine x_aloadq dX28_lower_61 rfl ?_
      obtain ⟨o49, h⟩ := h
      obtain ⟨R48, g48, h⟩ := h
      refine x_callV hG (Ky := kX28_loop) (As := [.ref b2, va_rf v8, va_rf v6, va_rf v12]) dX28_lower_63 o49 rfl lk_X28_45 me_X28_loop is_X28_loop se_X28_loop rfl rfl (Nat.le_of_ble_eq_true rfl) (MX.post (hK.2.2.1 g48) ?_)
      rintro _ A48 (⟨rfl, h1⟩ | ⟨x48, rfl, h1⟩)
      rotate_left
      · exact ⟨rfl, Or.inr ⟨_, rfl, h1⟩⟩
      refine X.xok (fun w48 => ?_)
      replace h := h A48 w48 h1
      change X _ _ _ _ A48 _ _ []
      refine x_aload_n dX28_lower_66 rfl ?_
      refine x_aloadq_n dX28_lower_67 rfl ?_
      obtain ⟨o51, h⟩ := h
      obtain ⟨R50, g50, h⟩ := h
      refine x_callV hG (Ky := kX6_at) (As := [va_rf v6]) dX28_lower_68 o51 rfl lk_X28_49 me_X6_at is_X6_at se_X6_at rfl rfl (Nat.le_of_ble_eq_true rfl) (MX.post (m_X6_at hG hO g50) ?_)
      rintro _ A50 ⟨rfl, h1⟩
      refine X.xok (fun w50 => ?_)
      replace h := h A50 w50 h1
      change X _ _ _ _ A50 _ _ []
      refine x_aload_n dX28_lower_71 rfl ?_
      obtain ⟨o52, h⟩ := h
      refine x_get (v := va_rf (A50.P p 2)) hG dX28_lower_72 f_X28_13_26 o52 rfl ?_
      refine x_aload_n dX28_lower_75 rfl ?_
      refine x_aloadq dX28_lower_76 rfl ?_
      refine x_aloadq dX28_lower_78 rfl ?_
      obtain ⟨b53, e53, h⟩ := h
      rw [e53]
      obtain ⟨o54, h⟩ := h
      obtain ⟨R55, g55, h⟩ := h
      refine z_disp (pc' := 80) (lv' := [some (.ref p), some (.ref b2), some (.int v1), some (va_rf v6), some (va_rf v8), some (va_rf v10), some (va_rf v12)]) (st' := []) (P := hX (hV R55) E) (kr := ?_) (kc := ?_)
      rotate_left
      · obtain ⟨c, tc, hc⟩ := o54
        simp only [eCl, List.mem_cons, List.not_mem_nil, or_false] at hc
        intro kr
        rcases hc with rfl | rfl | rfl | rfl | rfl | rfl | rfl | rfl
        · exact x_callU hG (Ky := kX15_branch) (As := [.ref b2, va_rf v8, va_rf v12]) dX28_lower_80 tc rfl q2366 q2047 (Or.inr ⟨is_X15_branch, _, _, _, me_X15_branch.1⟩) xm_X15_branch me_X15_branch is_X15_branch q2127 rfl rfl (Nat.le_of_ble_eq_true rfl) (MX.post ((rc_V hG hO 900).2.2.2.2.2.1 tc g55) kr)
        · exact x_callU hG (Ky := kX15_branch) (As := [.ref b2, va_rf v8, va_rf v12]) dX28_lower_80 tc rfl q2366 q2047 (Or.inr ⟨is_X15_branch, _, _, _, me_X15_branch.1⟩) xm_X15_branch me_X15_branch is_X15_branch q2121 rfl rfl (Nat.le_of_ble_eq_true rfl) (MX.post ((rc_V hG hO 900).2.2.2.2.2.2.1 tc g55) kr)
        · exact x_callU hG (Ky := kX15_branch) (As := [.ref b2, va_rf v8, va_rf v12]) dX28_lower_80 tc rfl q2366 q2047 (Or.inr ⟨is_X15_branch, _, _, _, me_X15_branch.1⟩) xm_X15_branch me_X15_branch is_X15_branch q2126 rfl rfl (Nat.le_of_ble_eq_true rfl) (MX.post ((rc_V hG hO 900).2.2.2.2.2.2.2.1 tc g55) kr)
        · exact x_callU hG (Ky := kX15_branch) (As := [.ref b2, va_rf v8, va_rf v12]) dX28_lower_80 tc rfl q2366 q2047 (Or.inr ⟨is_X15_branch, _, _, _, me_X15_branch.1⟩) xm_X15_branch me_X15_branch is_X15_branch q2124 rfl rfl (Nat.le_of_ble_eq_true rfl) (MX.post ((rc_V hG hO 900).2.2.2.2.2.2.2.2.1 tc g55) kr)
        · exact x_callU hG (Ky := kX20_branch) (As := [.ref b2, va_rf v8, va_rf v12]) dX28_lower_80 tc rfl q2366 q2047 (Or.inr ⟨is_X15_branch, _, _, _, me_X15_branch.1⟩) xm_X15_branch me_X20_branch is_X20_branch q2048 rfl rfl (Nat.le_of_ble_eq_true rfl) (MX.post ((rc_V hG hO 900).2.2.2.2.2.2.2.2.2.1 tc g55) kr)
        · exact x_callU hG (Ky := kX21_branch) (As := [.ref b2, va_rf v8, va_rf v12]) dX28_lower_80 tc rfl q2366 q2047 (Or.inr ⟨is_X15_branch, _, _, _, me_X15_branch.1⟩) xm_X15_branch me_X21_branch is_X21_branch q2125 rfl rfl (Nat.le_of_ble_eq_true rfl) (MX.post ((rc_V hG hO 900).2.2.2.2.2.2.2.2.2.2.1 tc g55) kr)
        · exact x_callU hG (Ky := kX22_branch) (As := [.ref b2, va_rf v8, va_rf v12]) dX28_lower_80 tc rfl q2366 q2047 (Or.inr ⟨is_X15_branch, _, _, _, me_X15_branch.1⟩) xm_X15_branch me_X22_branch is_X22_branch q2122 rfl rfl (Nat.le_of_ble_eq_true rfl) (MX.post ((rc_V hG hO 900).2.2.2.2.2.2.2.2.2.2.2.1 tc g55) kr)
        · exact x_callU hG (Ky := kX15_branch) (As := [.ref b2, va_rf v8, va_rf v12]) dX28_lower_80 tc rfl q2366 q2047 (Or.inr ⟨is_X15_branch, _, _, _, me_X15_branch.1⟩) xm_X15_branch me_X15_branch is_X15_branch q2123 rfl rfl (Nat.le_of_ble_eq_true rfl) (MX.post ((rc_V hG hO 900).2.2.2.2.2.2.2.2.2.2.2.2 tc g55) kr)
      rintro _ A55 (⟨rfl, h1⟩ | ⟨x55, rfl, h1⟩)
      rotate_left
      · exact ⟨rfl, Or.inr ⟨_, rfl, h1⟩⟩
      refine X.xok (fun w55 => ?_)
      replace h := h A55 w55 h1
      change X _ _ _ _ A55 _ _ []
      refine x_goto (tgt := 172) dX28_lower_83 (by decide) ?_
      change X _ _ _ _ _ _ [some (.ref p), some (.ref b2), some (.int v1), some (va_rf v6), some (va_rf v8), some (va_rf v10), some (va_rf v12)] []
      exact X.weak (xle_n (xle_c rfl (xle_c rfl (xle_n (xle_n (xle_n (xle_c rfl xle_nil))))))) (kj15 A55 h)
  refine x_ifnull (tgt := 20) dX28_lower_9 (by decide) (fun c9 => ?_) (fun b56 c9 => ?_)
  · replace h := h.1 c9
    change X _ _ _ _ _ _ [some (.ref p), some (.ref b2), some (.int v1), none, none, none, none] []
    exact X.weak (xle_c rfl (xle_c rfl (xle_c rfl (xle_n (xle_n (xle_n (xle_n xle_nil))))))) (kj5 A1 h)
  · replace h := h.2 b56 c9
    refine x_aload_n dX28_lower_12 rfl ?_
    refine x_get (v := .ref b56) hG dX28_lower_13 f_X28_7_26 o4 (congrArg va_rf c9) ?_
    refine x_aload_n dX28_lower_16 rfl ?_
    obtain ⟨o57, h⟩ := h
    obtain ⟨R58, g58, h⟩ := h
    refine z_disp (pc' := 17) (lv' := [some (.ref p), some (.ref b2), some (.int v1), none, none, none, none]) (st' := []) (P := hX (hV R58) E) (kr := ?_) (kc := ?_)
    rotate_left
    · obtain ⟨c, tc, hc⟩ := o57
      simp only [sCl, List.mem_cons, List.not_mem_nil, or_false] at hc
      intro kr
      rcases hc with rfl | rfl | rfl | rfl | rfl | rfl | rfl | rfl | rfl | rfl
      · exact x_callU hG (Ky := kX5_lower) (As := [.ref b2]) dX28_lower_17 tc rfl q2258 q1982 (Or.inl q1981) xm_X4_lower me_X5_lower is_X5_lower q2216 rfl rfl (Nat.le_of_ble_eq_true rfl) (MX.post (hK.2.2.2.1 tc g58) kr)
      · exact x_callU hG (Ky := kX25_lower) (As := [.ref b2]) dX28_lower_17 tc rfl q2258 q1982 (Or.inl q1981) xm_X4_lower me_X25_lower is_X25_lower q2375 rfl rfl (Nat.le_of_ble_eq_true rfl) (MX.post (hK.2.2.2.2.1 tc g58) kr)
      · exact x_callU hG (Ky := kX26_lower) (As := [.ref b2]) dX28_lower_17 tc rfl q2258 q1982 (Or.inl q1981) xm_X4_lower me_X26_lower is_X26_lower q2374 rfl rfl (Nat.le_of_ble_eq_true rfl) (MX.post (hK.2.2.2.2.2.1 tc g58) kr)
      · exact x_callU hG (Ky := kX27_lower) (As := [.ref b2]) dX28_lower_17 tc rfl q2258 q1982 (Or.inl q1981) xm_X4_lower me_X27_lower is_X27_lower q2238 rfl rfl (Nat.le_of_ble_eq_true rfl) (MX.post (hK.2.2.2.2.2.2.1 tc g58) kr)
      · exact x_callU hG (Ky := kX28_lower) (As := [.ref b2]) dX28_lower_17 tc rfl q2258 q1982 (Or.inl q1981) xm_X4_lower me_X28_lower is_X28_lower q2371 rfl rfl (Nat.le_of_ble_eq_true rfl) (MX.post (hK.2.2.2.2.2.2.2.1 tc g58) kr)
      · exact x_callU hG (Ky := kX29_lower) (As := [.ref b2]) dX28_lower_17 tc rfl q2258 q1982 (Or.inl q1981) xm_X4_lower me_X29_lower is_X29_lower q2234 rfl rfl (Nat.le_of_ble_eq_true rfl) (MX.post (hK.2.2.2.2.2.2.2.2.1 tc g58) kr)
      · exact x_callU hG (Ky := kX30_lower) (As := [.ref b2]) dX28_lower_17 tc rfl q2258 q1982 (Or.inl q1981) xm_X4_lower me_X30_lower is_X30_lower q1983 rfl rfl (Nat.le_of_ble_eq_true rfl) (MX.post (hK.2.2.2.2.2.2.2.2.2.1 tc g58) kr)
      · exact x_callU hG (Ky := kX31_lower) (As := [.ref b2]) dX28_lower_17 tc rfl q2258 q1982 (Or.inl q1981) xm_X4_lower me_X31_lower is_X31_lower q2370 rfl rfl (Nat.le_of_ble_eq_true rfl) (MX.post (hK.2.2.2.2.2.2.2.2.2.2.1 tc g58) kr)
      · exact x_callU hG (Ky := kX32_lower) (As := [.ref b2]) dX28_lower_17 tc rfl q2258 q1982 (Or.inl q1981) xm_X4_lower me_X32_lower is_X32_lower q2373 rfl rfl (Nat.le_of_ble_eq_true rfl) (MX.post (hK.2.2.2.2.2.2.2.2.2.2.2.1 tc g58) kr)
      · exact x_callU hG (Ky := kX33_lower) (As := [.ref b2]) dX28_lower_17 tc rfl q2258 q1982 (Or.inl q1981) xm_X4_lower me_X33_lower is_X33_lower q2372 rfl rfl (Nat.le_of_ble_eq_true rfl) (MX.post (hK.2.2.2.2.2.2.2.2.2.2.2.2 tc g58) kr)
    rintro _ A58 (⟨rfl, h1⟩ | ⟨x58, rfl, h1⟩)
    rotate_left
    · exact ⟨rfl, Or.inr ⟨_, rfl, h1⟩⟩
    refine X.xok (fun w58 => ?_)
    replace h := h A58 w58 h1
    change X _ _ _ _ A58 _ _ []
    change X _ _ _ _ _ _ [some (.ref p), some (.ref b2), some (.int v1), none, none, none, none] []
    exact X.weak (xle_c rfl (xle_c rfl (xle_c rfl (xle_n (xle_n (xle_n (xle_n xle_nil))))))) (kj5 A58 h)
def w_X29_lower (G : xG) (r0 : Nat → Option Nat → (xA → Prop) → (Nat → xA → Prop) → xA → Prop) (r1 : Nat → Option Nat → (xA → Prop) → (Nat → xA → Prop) → xA → Prop) (r2 : Nat → Option Nat → Option Nat → Option Nat → Option Nat → (xA → Prop) → (Nat → xA → Prop) → xA → Prop) (r3 : Nat → Option Nat → (xA → Prop) → (Nat → xA → Prop) → xA → Prop) (p : Nat) (m : Option Nat) (Q : xA → Prop) (E : Nat → xA → Prop) (A : xA) : Prop := xok G A → A.tg p = 28 ∧ (∃ b3 : Nat, (A.P p 0) = some b3 ∧ (A.tg b3 = 16 ∧ (∃ R2 : Int64 → xA → Prop, g_V_0 G b3 m (0 : Int32) R2 E A ∧ (∀ (v2 : Int64) (A2 : xA), xok G A2 → R2 v2 A2 → (Q A2)))))
theorem m_X29_lower (hG : xOK G) (hO : xHO G) {dp : Nat} {r0 : Nat → Option Nat → (xA → Prop) → (Nat → xA → Prop) → xA → Prop} {r1 : Nat → Option Nat → (xA → Prop) → (Nat → xA → Prop) → xA → Prop} {r2 : Nat → Option Nat → Option Nat → Option Nat → Option Nat → (xA → Prop) → (Nat → xA → Prop) → xA → Prop} {r3 : Nat → Option Nat → (xA → Prop) → (Nat → xA → Prop) → xA → Prop} (hK : xRC_D G (dp + 1715) r0 r1 r2 r3) {p : Nat} {m : Option Nat} {Q : xA → Prop} {E : Nat → xA → Prop} {A : xA} (h : w_X29_lower G r0 r1 r2 r3 p m Q E A) : MX G (dp + 1716) kX29_lower [.ref p, va_rf m] A (hX (hV Q) E) := by
  unfold w_X29_lower at h
  refine MX.of rfl (by cases m <;> exact Nat.le_of_ble_eq_true rfl) ?_
  refine X.lvs (lv' := [some (.ref p), some (va_rf m), none, none]) (by cases m <;> rfl) ?_
  refine X.xok (fun w0 => ?_)
  replace h := h w0
  refine x_aload_n dX29_lower_0 rfl ?_
  obtain ⟨o1, h⟩ := h
  refine x_get (v := va_rf (A.P p 0)) hG dX29_lower_1 f_X29_7_27 o1 rfl ?_
  refine x_aloadq_n dX29_lower_4 rfl ?_
  refine x_iconst_ (v := (0 : Int32)) dX29_lower_5 (by decide) ?_
  obtain ⟨b3, e3, h⟩ := h
  rw [e3]
  obtain ⟨o4, h⟩ := h
  obtain ⟨R2, g2, h⟩ := h
  refine x_callV hG (Ky := kX17_call) (As := [va_rf m, .int (0 : Int32)]) dX29_lower_6 o4 rfl lk_X29_13 me_X17_call is_X17_call se_X17_call rfl rfl (Nat.le_of_ble_eq_true rfl) (MX.post ((rc_V hG hO 900).1 g2) ?_)
  rintro _ A2 (⟨v2, rfl, h1⟩ | ⟨x2, rfl, h1⟩)
  rotate_left
  · exact ⟨rfl, Or.inr ⟨_, rfl, h1⟩⟩
  refine X.xok (fun w2 => ?_)
  replace h := h v2 A2 w2 h1
  change X _ _ _ _ A2 _ _ [.long v2]
  refine x_lstore_n dX29_lower_9 (by decide) ?_
  refine X.lvs (lv' := [some (.ref p), some (va_rf m), some (.long v2), none]) (by generalize m = z; cases z <;> rfl) ?_
  exact x_vret dX29_lower_10 rfl (Or.inl ⟨rfl, h⟩)
def w_X30_lower (G : xG) (r0 : Nat → Option Nat → (xA → Prop) → (Nat → xA → Prop) → xA → Prop) (r1 : Nat → Option Nat → (xA → Prop) → (Nat → xA → Prop) → xA → Prop) (r2 : Nat → Option Nat → Option Nat → Option Nat → Option Nat → (xA → Prop) → (Nat → xA → Prop) → xA → Prop) (r3 : Nat → Option Nat → (xA → Prop) → (Nat → xA → Prop) → xA → Prop) (p : Nat) (m : Option Nat) (Q : xA → Prop) (E : Nat → xA → Prop) (A : xA) : Prop := xok G A → A.tg p = 29 ∧ (∃ b3 : Nat, (A.P p 0) = some b3 ∧ (A.tg b3 = 17 ∧ (∃ R2 : Option Nat → xA → Prop, w_X18_target G b3 m R2 E A ∧ (∀ (v2 : Option Nat) (A2 : xA), xok G A2 → R2 v2 A2 → (A2.tg p = 29 ∧ (∃ b6 : Nat, (A2.P p 0) = some b6 ∧ (A2.tg b6 = 17 ∧ (∃ J8 : Int64 → xA → Prop, (∀ (y8_s0 : Int64) (A8 : xA), J8 y8_s0 A8 → A8.tg p = 29 ∧ (∃ J10 : Int64 → xA → Prop, (∀ (y10_s0 : Int64) (A10 : xA), J10 y10_s0 A10 → A10.tg p = 29 ∧ (∃ J12 : Int64 → xA → Prop, (∀ (y12_s0 : Int64) (A12 : xA), J12 y12_s0 A12 → A12.tg p = 29 ∧ (∃ J14 : Int64 → xA → Prop, (∀ (y14_7 : Int64) (A14 : xA), J14 y14_7 A14 → A14.tg p = 29 ∧ (∃ b16 : Nat, (A14.P p 0) = some b16 ∧ (A14.tg b16 = 17 ∧ ((((A14.P b16 4) = none → ∃ b23 : Nat, m = some b23 ∧ (A14.tg b23 = 6 ∧ (∃ R22 : xA → Prop, w_X6_store G b23 v2 y14_7 R22 A14 ∧ (∀ A22 : xA, xok G A22 → R22 A22 → (Q A22))))) ∧ (∀ b18 : Nat, (A14.P b16 4) = some b18 → ∃ b20 : Nat, m = some b20 ∧ (A14.tg b20 = 6 ∧ (∃ R19 : xA → Prop, w_X6_storeElement G b20 v2 y8_s0 y14_7 R19 A14 ∧ (∀ A19 : xA, xok G A19 → R19 A19 → (Q A19)))))))))) ∧ (((A12.I p 1) < 0 → J14 y12_s0 A12) ∧ (¬ (A12.I p 1) < 0 → ∃ b26 : Nat, m = some b26 ∧ (A12.tg b26 = 6 ∧ (∃ R25 : Int64 → xA → Prop, g_A_0 G b26 (A12.I p 1) y10_s0 y12_s0 R25 A12 ∧ (∀ (v25 : Int64) (A25 : xA), xok G A25 → R25 v25 A25 → (J14 v25 A25)))))))) ∧ (((A10.P p 2) = none → J12 (f_X6_constant (1 : Int32)) A10) ∧ (∀ b28 : Nat, (A10.P p 2) = some b28 → xE A10 b28 ∧ (∃ R30 : Int64 → xA → Prop, g_V_4 G b28 m R30 E A10 ∧ (∀ (v30 : Int64) (A30 : xA), xok G A30 → R30 v30 A30 → (J12 v30 A30))))))) ∧ ((0 ≤ (A8.I p 1) → ∃ b31 : Nat, (A8.P p 0) = some b31 ∧ (A8.tg b31 = 17 ∧ ((((A8.P b31 4) = none → ∃ b38 : Nat, m = some b38 ∧ (A8.tg b38 = 6 ∧ (∃ R37 : Int64 → xA → Prop, w_X6_load G b38 v2 R37 A8 ∧ (∀ (v37 : Int64) (A37 : xA), xok G A37 → R37 v37 A37 → (J10 v37 A37))))) ∧ (∀ b33 : Nat, (A8.P b31 4) = some b33 → ∃ b35 : Nat, m = some b35 ∧ (A8.tg b35 = 6 ∧ (∃ R34 : Int64 → xA → Prop, w_X6_element G b35 v2 y8_s0 R34 A8 ∧ (∀ (v34 : Int64) (A34 : xA), xok G A34 → R34 v34 A34 → (J10 v34 A34))))))))) ∧ (¬ 0 ≤ (A8.I p 1) → J10 (0 : Int64) A8)))) ∧ (((A2.P b6 4) = none → J8 (f_X6_constant (0 : Int32)) A2) ∧ (∀ b40 : Nat, (A2.P b6 4) = some b40 → ∃ b42 : Nat, m = some b42 ∧ (A2.tg b42 = 6 ∧ (∃ R41 : Int64 → xA → Prop, g_V_1 G b42 v2 (some b40) (A2.I b6 3) R41 E A2 ∧ (∀ (v41 : Int64) (A41 : xA), xok G A41 → R41 v41 A41 → (J8 v41 A41))))))))))))))
theorem m_X30_lower (hG : xOK G) (hO : xHO G) {dp : Nat} {r0 : Nat → Option Nat → (xA → Prop) → (Nat → xA → Prop) → xA → Prop} {r1 : Nat → Option Nat → (xA → Prop) → (Nat → xA → Prop) → xA → Prop} {r2 : Nat → Option Nat → Option Nat → Option Nat → Option Nat → (xA → Prop) → (Nat → xA → Prop) → xA → Prop} {r3 : Nat → Option Nat → (xA → Prop) → (Nat → xA → Prop) → xA → Prop} (hK : xRC_D G (dp + 1715) r0 r1 r2 r3) {p : Nat} {m : Option Nat} {Q : xA → Prop} {E : Nat → xA → Prop} {A : xA} (h : w_X30_lower G r0 r1 r2 r3 p m Q E A) : MX G (dp + 1716) kX30_lower [.ref p, va_rf m] A (hX (hV Q) E) := by
  unfold w_X30_lower at h
  refine MX.of rfl (by cases m <;> exact Nat.le_of_ble_eq_true rfl) ?_
  refine X.lvs (lv' := [some (.ref p), some (va_rf m), none, none, none, none, none, none, none]) (by cases m <;> rfl) ?_
  refine X.xok (fun w0 => ?_)
  replace h := h w0
  refine x_aload_n dX30_lower_0 rfl ?_
  obtain ⟨o1, h⟩ := h
  refine x_get (v := va_rf (A.P p 0)) hG dX30_lower_1 f_X30_7_28 o1 rfl ?_
  refine x_aloadq_n dX30_lower_4 rfl ?_
  obtain ⟨b3, e3, h⟩ := h
  rw [e3]
  obtain ⟨o4, h⟩ := h
  obtain ⟨R2, g2, h⟩ := h
  refine x_callV hG (Ky := kX18_target) (As := [va_rf m]) dX30_lower_5 o4 rfl lk_X30_21 me_X18_target is_X18_target se_X18_target rfl rfl (Nat.le_of_ble_eq_true rfl) (MX.post (m_X18_target hG hO g2) ?_)
  rintro _ A2 (⟨v2, rfl, h1⟩ | ⟨x2, rfl, h1⟩)
  rotate_left
  · exact ⟨rfl, Or.inr ⟨_, rfl, h1⟩⟩
  refine X.xok (fun w2 => ?_)
  replace h := h v2 A2 w2 h1
  change X _ _ _ _ A2 _ _ [va_rf v2]
  refine x_astoreq_n dX30_lower_8 (by decide) ?_
  refine X.lvs (lv' := [some (.ref p), some (va_rf m), some (va_rf v2), none, none, none, none, none, none]) (by generalize m = z; cases z <;> rfl) ?_
  refine x_aload_n dX30_lower_9 rfl ?_
  obtain ⟨o5, h⟩ := h
  refine x_get (v := va_rf (A2.P p 0)) hG dX30_lower_10 f_X30_7_28 o5 rfl ?_
  obtain ⟨b6, e6, h⟩ := h
  rw [e6]
  obtain ⟨o7, h⟩ := h
  refine x_get (v := va_rf (A2.P b6 4)) hG dX30_lower_13 f_X30_27_16 o7 rfl ?_
  obtain ⟨J8, g8, h⟩ := h
  have kj8 : ∀ (y8_s0 : Int64) (A8 : xA), J8 y8_s0 A8 → X G (dp + 1716) kX30_lower (hX (hV Q) E) A8 45 [some (.ref p), some (va_rf m), some (va_rf v2), none, none, none, none, none, none] [.long y8_s0] := by
    intro y8_s0 A8 h
    replace h := g8 y8_s0 A8 h
    refine x_lstore_n dX30_lower_45 (by decide) ?_
    refine X.lvs (lv' := [some (.ref p), some (va_rf m), some (va_rf v2), some (.long y8_s0), none, none, none, none, none]) (by generalize v2 = z; cases z <;> rfl) ?_
    refine x_aload_n dX30_lower_46 rfl ?_
    obtain ⟨o9, h⟩ := h
    refine x_get (v := .int (A8.I p 1)) hG dX30_lower_47 f_X30_13_28 o9 rfl ?_
    obtain ⟨J10, g10, h⟩ := h
    have kj10 : ∀ (y10_s0 : Int64) (A10 : xA), J10 y10_s0 A10 → X G (dp + 1716) kX30_lower (hX (hV Q) E) A10 81 [some (.ref p), some (va_rf m), some (va_rf v2), some (.long y8_s0), none, none, none, none, none] [.long y10_s0] := by
      intro y10_s0 A10 h
      replace h := g10 y10_s0 A10 h
      refine x_lstore dX30_lower_81 (by decide) ?_
      refine x_aload_n dX30_lower_83 rfl ?_
      obtain ⟨o11, h⟩ := h
      refine x_get (v := va_rf (A10.P p 2)) hG dX30_lower_84 f_X30_17_28 o11 rfl ?_
      obtain ⟨J12, g12, h⟩ := h
      have kj12 : ∀ (y12_s0 : Int64) (A12 : xA), J12 y12_s0 A12 → X G (dp + 1716) kX30_lower (hX (hV Q) E) A12 105 [some (.ref p), some (va_rf m), some (va_rf v2), some (.long y8_s0), none, some (.long y10_s0), none, none, none] [.long y12_s0] := by
        intro y12_s0 A12 h
        replace h := g12 y12_s0 A12 h
        refine x_lstore dX30_lower_105 (by decide) ?_
        refine x_aload_n dX30_lower_107 rfl ?_
        obtain ⟨o13, h⟩ := h
        refine x_get (v := .int (A12.I p 1)) hG dX30_lower_108 f_X30_13_28 o13 rfl ?_
        obtain ⟨J14, g14, h⟩ := h
        have kj14 : ∀ (y14_7 : Int64) (A14 : xA), J14 y14_7 A14 → X G (dp + 1716) kX30_lower (hX (hV Q) E) A14 128 [some (.ref p), some (va_rf m), some (va_rf v2), some (.long y8_s0), none, none, none, some (.long y14_7), none] [] := by
          intro y14_7 A14 h
          replace h := g14 y14_7 A14 h
          refine x_aload_n dX30_lower_128 rfl ?_
          obtain ⟨o15, h⟩ := h
          refine x_get (v := va_rf (A14.P p 0)) hG dX30_lower_129 f_X30_7_28 o15 rfl ?_
          obtain ⟨b16, e16, h⟩ := h
          rw [e16]
          obtain ⟨o17, h⟩ := h
          refine x_get (v := va_rf (A14.P b16 4)) hG dX30_lower_132 f_X30_27_16 o17 rfl ?_
          refine x_ifnonnull (tgt := 148) dX30_lower_135 (by decide) (fun b18 c135 => ?_) (fun c135 => ?_)
          · replace h := h.2 b18 c135
            refine x_aloadq_n dX30_lower_148 rfl ?_
            refine x_aloadq_n dX30_lower_149 rfl ?_
            refine x_lload_n dX30_lower_150 rfl ?_
            refine x_lload dX30_lower_151 rfl ?_
            obtain ⟨b20, e20, h⟩ := h
            rw [e20]
            obtain ⟨o21, h⟩ := h
            obtain ⟨R19, g19, h⟩ := h
            refine x_callV hG (Ky := kX6_storeElement) (As := [va_rf v2, .long y8_s0, .long y14_7]) dX30_lower_153 o21 rfl lk_X30_63 me_X6_storeElement is_X6_storeElement se_X6_storeElement rfl rfl (Nat.le_of_ble_eq_true rfl) (MX.post (m_X6_storeElement hG hO g19) ?_)
            rintro _ A19 ⟨rfl, h1⟩
            refine X.xok (fun w19 => ?_)
            replace h := h A19 w19 h1
            change X _ _ _ _ A19 _ _ []
            exact x_vret dX30_lower_156 rfl (Or.inl ⟨rfl, h⟩)
          · replace h := h.1 c135
            refine x_aloadq_n dX30_lower_138 rfl ?_
            refine x_aloadq_n dX30_lower_139 rfl ?_
            refine x_lload dX30_lower_140 rfl ?_
            obtain ⟨b23, e23, h⟩ := h
            rw [e23]
            obtain ⟨o24, h⟩ := h
            obtain ⟨R22, g22, h⟩ := h
            refine x_callV hG (Ky := kX6_store) (As := [va_rf v2, .long y14_7]) dX30_lower_142 o24 rfl lk_X30_59 me_X6_store is_X6_store se_X6_store rfl rfl (Nat.le_of_ble_eq_true rfl) (MX.post (m_X6_store hG hO g22) ?_)
            rintro _ A22 ⟨rfl, h1⟩
            refine X.xok (fun w22 => ?_)
            replace h := h A22 w22 h1
            change X _ _ _ _ A22 _ _ []
            refine x_goto (tgt := 156) dX30_lower_145 (by decide) ?_
            exact x_vret dX30_lower_156 rfl (Or.inl ⟨rfl, h⟩)
        refine x_if_lt (tgt := 128) dX30_lower_111 (by decide) (fun c111 => ?_) (fun c111 => ?_)
        · replace h := h.1 c111
          change X _ _ _ _ _ _ [some (.ref p), some (va_rf m), some (va_rf v2), some (.long y8_s0), none, some (.long y10_s0), none, some (.long y12_s0), none] []
          exact X.weak (xle_c rfl (xle_c rfl (xle_c rfl (xle_c rfl (xle_n (xle_n (xle_n (xle_c rfl (xle_n xle_nil))))))))) (kj14 y12_s0 A12 h)
        · replace h := h.2 c111
          refine x_aloadq_n dX30_lower_114 rfl ?_
          refine x_aload_n dX30_lower_115 rfl ?_
          refine x_get (v := .int (A12.I p 1)) hG dX30_lower_116 f_X30_13_28 o13 rfl ?_
          refine x_lload dX30_lower_119 rfl ?_
          refine x_lload dX30_lower_121 rfl ?_
          obtain ⟨b26, e26, h⟩ := h
          rw [e26]
          obtain ⟨o27, h⟩ := h
          obtain ⟨R25, g25, h⟩ := h
          refine x_callV hG (Ky := kX6_act) (As := [.int (A12.I p 1), .long y10_s0, .long y12_s0]) dX30_lower_123 o27 rfl lk_X30_56 me_X6_act is_X6_act se_X6_act rfl rfl (Nat.le_of_ble_eq_true rfl) (MX.post ((rc_A hG hO 3) g25) ?_)
          rintro _ A25 ⟨v25, rfl, h1⟩
          refine X.xok (fun w25 => ?_)
          replace h := h v25 A25 w25 h1
          change X _ _ _ _ A25 _ _ [.long v25]
          refine x_lstore dX30_lower_126 (by decide) ?_
          change X _ _ _ _ _ _ [some (.ref p), some (.ref b26), some (va_rf v2), some (.long y8_s0), none, some (.long y10_s0), none, some (.long v25), none] []
          exact X.weak (xle_c rfl (xle_c (congrArg (fun z => some (va_rf z)) e26.symm) (xle_c rfl (xle_c rfl (xle_n (xle_n (xle_n (xle_c rfl (xle_n xle_nil))))))))) (kj14 v25 A25 h)
      refine x_ifnonnull (tgt := 97) dX30_lower_87 (by decide) (fun b28 c87 => ?_) (fun c87 => ?_)
      · replace h := h.2 b28 c87
        refine x_aload_n dX30_lower_97 rfl ?_
        refine x_get (v := .ref b28) hG dX30_lower_98 f_X30_17_28 o11 (congrArg va_rf c87) ?_
        refine x_aloadq_n dX30_lower_101 rfl ?_
        obtain ⟨o29, h⟩ := h
        obtain ⟨R30, g30, h⟩ := h
        refine z_disp (pc' := 102) (lv' := [some (.ref p), some (va_rf m), some (va_rf v2), some (.long y8_s0), none, some (.long y10_s0), none, none, none]) (st' := []) (P := hX (hL R30) E) (kr := ?_) (kc := ?_)
        rotate_left
        · obtain ⟨c, tc, hc⟩ := o29
          simp only [eCl, List.mem_cons, List.not_mem_nil, or_false] at hc
          intro kr
          rcases hc with rfl | rfl | rfl | rfl | rfl | rfl | rfl | rfl
          · exact x_callU hG (Ky := kX16_value) (As := [va_rf m]) dX30_lower_102 tc rfl q2204 q2014 (Or.inl q2013) xm_X15_value me_X16_value is_X16_value q2200 rfl rfl (Nat.le_of_ble_eq_true rfl) (MX.post ((rc_V hG hO 900).2.2.2.2.1.1 tc g30) kr)
          · exact x_callU hG (Ky := kX17_value) (As := [va_rf m]) dX30_lower_102 tc rfl q2204 q2014 (Or.inl q2013) xm_X15_value me_X17_value is_X17_value q2194 rfl rfl (Nat.le_of_ble_eq_true rfl) (MX.post ((rc_V hG hO 900).2.2.2.2.1.2.1 tc g30) kr)
          · exact x_callU hG (Ky := kX18_value) (As := [va_rf m]) dX30_lower_102 tc rfl q2204 q2014 (Or.inl q2013) xm_X15_value me_X18_value is_X18_value q2199 rfl rfl (Nat.le_of_ble_eq_true rfl) (MX.post ((rc_V hG hO 900).2.2.2.2.1.2.2.1 tc g30) kr)
          · exact x_callU hG (Ky := kX19_value) (As := [va_rf m]) dX30_lower_102 tc rfl q2204 q2014 (Or.inl q2013) xm_X15_value me_X19_value is_X19_value q2197 rfl rfl (Nat.le_of_ble_eq_true rfl) (MX.post ((rc_V hG hO 900).2.2.2.2.1.2.2.2.1 tc g30) kr)
          · exact x_callU hG (Ky := kX20_value) (As := [va_rf m]) dX30_lower_102 tc rfl q2204 q2014 (Or.inl q2013) xm_X15_value me_X20_value is_X20_value q2015 rfl rfl (Nat.le_of_ble_eq_true rfl) (MX.post ((rc_V hG hO 900).2.2.2.2.1.2.2.2.2.1 tc g30) kr)
          · exact x_callU hG (Ky := kX21_value) (As := [va_rf m]) dX30_lower_102 tc rfl q2204 q2014 (Or.inl q2013) xm_X15_value me_X21_value is_X21_value q2198 rfl rfl (Nat.le_of_ble_eq_true rfl) (MX.post ((rc_V hG hO 900).2.2.2.2.1.2.2.2.2.2.1 tc g30) kr)
          · exact x_callU hG (Ky := kX22_value) (As := [va_rf m]) dX30_lower_102 tc rfl q2204 q2014 (Or.inl q2013) xm_X15_value me_X22_value is_X22_value q2195 rfl rfl (Nat.le_of_ble_eq_true rfl) (MX.post ((rc_V hG hO 900).2.2.2.2.1.2.2.2.2.2.2.1 tc g30) kr)
          · exact x_callU hG (Ky := kX23_value) (As := [va_rf m]) dX30_lower_102 tc rfl q2204 q2014 (Or.inl q2013) xm_X15_value me_X23_value is_X23_value q2196 rfl rfl (Nat.le_of_ble_eq_true rfl) (MX.post ((rc_V hG hO 900).2.2.2.2.1.2.2.2.2.2.2.2 tc g30) kr)
        rintro _ A30 (⟨v30, rfl, h1⟩ | ⟨x30, rfl, h1⟩)
        rotate_left
        · exact ⟨rfl, Or.inr ⟨_, rfl, h1⟩⟩
        refine X.xok (fun w30 => ?_)
        replace h := h v30 A30 w30 h1
        change X _ _ _ _ A30 _ _ [.long v30]
        change X _ _ _ _ _ _ [some (.ref p), some (va_rf m), some (va_rf v2), some (.long y8_s0), none, some (.long y10_s0), none, none, none] [.long v30]
        exact X.weak (xle_c rfl (xle_c rfl (xle_c rfl (xle_c rfl (xle_n (xle_c rfl (xle_n (xle_n (xle_n xle_nil))))))))) (kj12 v30 A30 h)
      · replace h := h.1 c87
        refine x_iconst_ (v := (1 : Int32)) dX30_lower_90 (by decide) ?_
        refine x_callS hG (Ky := kX6_constant) (As := [.int (1 : Int32)]) dX30_lower_91 lk_X30_30 me_X6_constant st_X6_constant rfl rfl (Nat.le_of_ble_eq_true rfl) (MX.post (m_X6_constant hG) ?_)
        rintro _ _ ⟨rfl, rfl⟩
        change X _ _ _ _ _ _ _ (.long (f_X6_constant (1 : Int32)) :: _)
        refine x_goto (tgt := 105) dX30_lower_94 (by decide) ?_
        change X _ _ _ _ _ _ [some (.ref p), some (va_rf m), some (va_rf v2), some (.long y8_s0), none, some (.long y10_s0), none, none, none] [.long (f_X6_constant (1 : Int32))]
        exact X.weak (xle_c rfl (xle_c rfl (xle_c rfl (xle_c rfl (xle_n (xle_c rfl (xle_n (xle_n (xle_n xle_nil))))))))) (kj12 (f_X6_constant (1 : Int32)) A10 h)
    refine x_if_ge (tgt := 57) dX30_lower_50 (by decide) (fun c50 => ?_) (fun c50 => ?_)
    · replace h := h.1 c50
      refine x_aload_n dX30_lower_57 rfl ?_
      refine x_get (v := va_rf (A8.P p 0)) hG dX30_lower_58 f_X30_7_28 o9 rfl ?_
      obtain ⟨b31, e31, h⟩ := h
      rw [e31]
      obtain ⟨o32, h⟩ := h
      refine x_get (v := va_rf (A8.P b31 4)) hG dX30_lower_61 f_X30_27_16 o32 rfl ?_
      refine x_ifnonnull (tgt := 75) dX30_lower_64 (by decide) (fun b33 c64 => ?_) (fun c64 => ?_)
      · replace h := h.2 b33 c64
        refine x_aloadq_n dX30_lower_75 rfl ?_
        refine x_aloadq_n dX30_lower_76 rfl ?_
        refine x_lload_n dX30_lower_77 rfl ?_
        obtain ⟨b35, e35, h⟩ := h
        rw [e35]
        obtain ⟨o36, h⟩ := h
        obtain ⟨R34, g34, h⟩ := h
        refine x_callV hG (Ky := kX6_element) (As := [va_rf v2, .long y8_s0]) dX30_lower_78 o36 rfl lk_X30_46 me_X6_element is_X6_element se_X6_element rfl rfl (Nat.le_of_ble_eq_true rfl) (MX.post (m_X6_element hG hO g34) ?_)
        rintro _ A34 ⟨v34, rfl, h1⟩
        refine X.xok (fun w34 => ?_)
        replace h := h v34 A34 w34 h1
        change X _ _ _ _ A34 _ _ [.long v34]
        change X _ _ _ _ _ _ [some (.ref p), some (.ref b35), some (va_rf v2), some (.long y8_s0), none, none, none, none, none] [.long v34]
        exact X.weak (xle_c rfl (xle_c (congrArg (fun z => some (va_rf z)) e35.symm) (xle_c rfl (xle_c rfl (xle_n (xle_n (xle_n (xle_n (xle_n xle_nil))))))))) (kj10 v34 A34 h)
      · replace h := h.1 c64
        refine x_aloadq_n dX30_lower_67 rfl ?_
        refine x_aloadq_n dX30_lower_68 rfl ?_
        obtain ⟨b38, e38, h⟩ := h
        rw [e38]
        obtain ⟨o39, h⟩ := h
        obtain ⟨R37, g37, h⟩ := h
        refine x_callV hG (Ky := kX6_load) (As := [va_rf v2]) dX30_lower_69 o39 rfl lk_X30_42 me_X6_load is_X6_load se_X6_load rfl rfl (Nat.le_of_ble_eq_true rfl) (MX.post (m_X6_load hG hO g37) ?_)
        rintro _ A37 ⟨v37, rfl, h1⟩
        refine X.xok (fun w37 => ?_)
        replace h := h v37 A37 w37 h1
        change X _ _ _ _ A37 _ _ [.long v37]
        refine x_goto (tgt := 81) dX30_lower_72 (by decide) ?_
        change X _ _ _ _ _ _ [some (.ref p), some (.ref b38), some (va_rf v2), some (.long y8_s0), none, none, none, none, none] [.long v37]
        exact X.weak (xle_c rfl (xle_c (congrArg (fun z => some (va_rf z)) e38.symm) (xle_c rfl (xle_c rfl (xle_n (xle_n (xle_n (xle_n (xle_n xle_nil))))))))) (kj10 v37 A37 h)
    · replace h := h.2 c50
      refine x_lconst_ (v := (0 : Int64)) dX30_lower_53 (by decide) ?_
      refine x_goto (tgt := 81) dX30_lower_54 (by decide) ?_
      change X _ _ _ _ _ _ [some (.ref p), some (va_rf m), some (va_rf v2), some (.long y8_s0), none, none, none, none, none] [.long (0 : Int64)]
      exact X.weak (xle_c rfl (xle_c rfl (xle_c rfl (xle_c rfl (xle_n (xle_n (xle_n (xle_n (xle_n xle_nil))))))))) (kj10 (0 : Int64) A8 h)
  refine x_ifnonnull (tgt := 26) dX30_lower_16 (by decide) (fun b40 c16 => ?_) (fun c16 => ?_)
  · replace h := h.2 b40 c16
    refine x_aloadq_n dX30_lower_26 rfl ?_
    refine x_aloadq_n dX30_lower_27 rfl ?_
    refine x_aload_n dX30_lower_28 rfl ?_
    refine x_get (v := .ref b6) hG dX30_lower_29 f_X30_7_28 o5 (congrArg va_rf e6) ?_
    refine x_get (v := .ref b40) hG dX30_lower_32 f_X30_27_16 o7 (congrArg va_rf c16) ?_
    refine x_aload_n dX30_lower_35 rfl ?_
    refine x_get (v := .ref b6) hG dX30_lower_36 f_X30_7_28 o5 (congrArg va_rf e6) ?_
    refine x_get (v := .int (A2.I b6 3)) hG dX30_lower_39 f_X30_36_16 o7 rfl ?_
    obtain ⟨b42, e42, h⟩ := h
    rw [e42]
    obtain ⟨o43, h⟩ := h
    obtain ⟨R41, g41, h⟩ := h
    refine x_callV hG (Ky := kX6_index) (As := [va_rf v2, .ref b40, .int (A2.I b6 3)]) dX30_lower_42 o43 rfl lk_X30_39 me_X6_index is_X6_index se_X6_index rfl rfl (Nat.le_of_ble_eq_true rfl) (MX.post ((rc_V hG hO 900).2.1 g41) ?_)
    rintro _ A41 (⟨v41, rfl, h1⟩ | ⟨x41, rfl, h1⟩)
    rotate_left
    · exact ⟨rfl, Or.inr ⟨_, rfl, h1⟩⟩
    refine X.xok (fun w41 => ?_)
    replace h := h v41 A41 w41 h1
    change X _ _ _ _ A41 _ _ [.long v41]
    change X _ _ _ _ _ _ [some (.ref p), some (.ref b42), some (va_rf v2), none, none, none, none, none, none] [.long v41]
    exact X.weak (xle_c rfl (xle_c (congrArg (fun z => some (va_rf z)) e42.symm) (xle_c rfl (xle_n (xle_n (xle_n (xle_n (xle_n (xle_n xle_nil))))))))) (kj8 v41 A41 h)
  · replace h := h.1 c16
    refine x_iconst_ (v := (0 : Int32)) dX30_lower_19 (by decide) ?_
    refine x_callS hG (Ky := kX6_constant) (As := [.int (0 : Int32)]) dX30_lower_20 lk_X30_30 me_X6_constant st_X6_constant rfl rfl (Nat.le_of_ble_eq_true rfl) (MX.post (m_X6_constant hG) ?_)
    rintro _ _ ⟨rfl, rfl⟩
    change X _ _ _ _ _ _ _ (.long (f_X6_constant (0 : Int32)) :: _)
    refine x_goto (tgt := 45) dX30_lower_23 (by decide) ?_
    change X _ _ _ _ _ _ [some (.ref p), some (va_rf m), some (va_rf v2), none, none, none, none, none, none] [.long (f_X6_constant (0 : Int32))]
    exact X.weak (xle_c rfl (xle_c rfl (xle_c rfl (xle_n (xle_n (xle_n (xle_n (xle_n (xle_n xle_nil))))))))) (kj8 (f_X6_constant (0 : Int32)) A2 h)
def w_X31_lower (G : xG) (r0 : Nat → Option Nat → (xA → Prop) → (Nat → xA → Prop) → xA → Prop) (r1 : Nat → Option Nat → (xA → Prop) → (Nat → xA → Prop) → xA → Prop) (r2 : Nat → Option Nat → Option Nat → Option Nat → Option Nat → (xA → Prop) → (Nat → xA → Prop) → xA → Prop) (r3 : Nat → Option Nat → (xA → Prop) → (Nat → xA → Prop) → xA → Prop) (p : Nat) (m : Option Nat) (Q : xA → Prop) (E : Nat → xA → Prop) (A : xA) : Prop := xok G A → ∃ b1 : Nat, m = some b1 ∧ (A.tg b1 = 6 ∧ ((((A.P b1 11) = none → A.tg p = 30 ∧ (∃ R12 : Option Nat → xA → Prop, w_X6_fault G b1 (9 : Int32) (A.I p 0) R12 A ∧ (∀ (v12 : Option Nat) (A12 : xA), xok G A12 → R12 v12 A12 → (∃ b13 : Nat, v12 = some b13 ∧ (E b13 A12))))) ∧ (∀ b3 : Nat, (A.P b1 11) = some b3 → A.tg p = 30 ∧ (∃ J5 : Option Nat → Prop, (∀ (y5_s0 : Option Nat), J5 y5_s0 → ∃ R6 : xA → Prop, w_X6_jump G b1 y5_s0 R6 A ∧ (∀ A6 : xA, xok G A6 → R6 A6 → (A6.tg b1 = 6 ∧ (∃ R7 : Option Nat → xA → Prop, w_X6_block G b1 R7 A6 ∧ (∀ (v7 : Option Nat) (A7 : xA), xok G A7 → R7 v7 A7 → (A7.tg b1 = 6 ∧ (∃ R9 : xA → Prop, w_X6_at G b1 v7 R9 A7 ∧ (∀ A9 : xA, xok G A9 → R9 A9 → (Q A9))))))))) ∧ (((A.I p 1) = 0 → J5 (A.P b1 12)) ∧ (¬ (A.I p 1) = 0 → J5 (some b3))))))))
theorem m_X31_lower (hG : xOK G) (hO : xHO G) {dp : Nat} {r0 : Nat → Option Nat → (xA → Prop) → (Nat → xA → Prop) → xA → Prop} {r1 : Nat → Option Nat → (xA → Prop) → (Nat → xA → Prop) → xA → Prop} {r2 : Nat → Option Nat → Option Nat → Option Nat → Option Nat → (xA → Prop) → (Nat → xA → Prop) → xA → Prop} {r3 : Nat → Option Nat → (xA → Prop) → (Nat → xA → Prop) → xA → Prop} (hK : xRC_D G (dp + 1715) r0 r1 r2 r3) {p : Nat} {m : Option Nat} {Q : xA → Prop} {E : Nat → xA → Prop} {A : xA} (h : w_X31_lower G r0 r1 r2 r3 p m Q E A) : MX G (dp + 1716) kX31_lower [.ref p, va_rf m] A (hX (hV Q) E) := by
  unfold w_X31_lower at h
  refine MX.of rfl (by cases m <;> exact Nat.le_of_ble_eq_true rfl) ?_
  refine X.lvs (lv' := [some (.ref p), some (va_rf m)]) (by cases m <;> rfl) ?_
  refine X.xok (fun w0 => ?_)
  replace h := h w0
  refine x_aloadq_n dX31_lower_0 rfl ?_
  obtain ⟨b1, e1, h⟩ := h
  rw [e1]
  obtain ⟨o2, h⟩ := h
  refine x_get (v := va_rf (A.P b1 11)) hG dX31_lower_1 f_X31_17_5 o2 rfl ?_
  refine x_ifnonnull (tgt := 18) dX31_lower_4 (by decide) (fun b3 c4 => ?_) (fun c4 => ?_)
  · replace h := h.2 b3 c4
    refine x_aload_n dX31_lower_18 rfl ?_
    refine x_aload_n dX31_lower_19 rfl ?_
    obtain ⟨o4, h⟩ := h
    refine x_get (v := .int (A.I p 1)) hG dX31_lower_20 f_X31_13_29 o4 rfl ?_
    obtain ⟨J5, g5, h⟩ := h
    have kj5 : ∀ (y5_s0 : Option Nat), J5 y5_s0 → X G (dp + 1716) kX31_lower (hX (hV Q) E) A 37 [none, some (.ref b1)] [va_rf y5_s0, .ref b1] := by
      intro y5_s0 h
      replace h := g5 y5_s0 h
      obtain ⟨R6, g6, h⟩ := h
      refine x_callV hG (Ky := kX6_jump) (As := [va_rf y5_s0]) dX31_lower_37 o2 rfl lk_X31_30 me_X6_jump is_X6_jump se_X6_jump rfl rfl (Nat.le_of_ble_eq_true rfl) (MX.post (m_X6_jump hG hO g6) ?_)
      rintro _ A6 ⟨rfl, h1⟩
      refine X.xok (fun w6 => ?_)
      replace h := h A6 w6 h1
      change X _ _ _ _ A6 _ _ []
      refine x_aload_n dX31_lower_40 rfl ?_
      refine x_aload_n dX31_lower_41 rfl ?_
      obtain ⟨o8, h⟩ := h
      obtain ⟨R7, g7, h⟩ := h
      refine x_callV hG (Ky := kX6_block) (As := []) dX31_lower_42 o8 rfl lk_X31_34 me_X6_block is_X6_block se_X6_block rfl rfl (Nat.le_of_ble_eq_true rfl) (MX.post (m_X6_block hG hO g7) ?_)
      rintro _ A7 ⟨v7, rfl, h1⟩
      refine X.xok (fun w7 => ?_)
      replace h := h v7 A7 w7 h1
      change X _ _ _ _ A7 _ _ [va_rf v7, .ref b1]
      obtain ⟨o10, h⟩ := h
      obtain ⟨R9, g9, h⟩ := h
      refine x_callV hG (Ky := kX6_at) (As := [va_rf v7]) dX31_lower_45 o10 rfl lk_X31_38 me_X6_at is_X6_at se_X6_at rfl rfl (Nat.le_of_ble_eq_true rfl) (MX.post (m_X6_at hG hO g9) ?_)
      rintro _ A9 ⟨rfl, h1⟩
      refine X.xok (fun w9 => ?_)
      replace h := h A9 w9 h1
      change X _ _ _ _ A9 _ _ []
      exact x_vret dX31_lower_48 rfl (Or.inl ⟨rfl, h⟩)
    refine x_if_eq (tgt := 33) dX31_lower_23 (by decide) (fun c23 => ?_) (fun c23 => ?_)
    · replace h := h.1 c23
      refine x_aload_n dX31_lower_33 rfl ?_
      refine x_get (v := va_rf (A.P b1 12)) hG dX31_lower_34 f_X31_27_5 o2 rfl ?_
      change X _ _ _ _ _ _ [some (.ref p), some (.ref b1)] [va_rf (A.P b1 12), .ref b1]
      exact X.weak (xle_n (xle_c rfl xle_nil)) (kj5 (A.P b1 12) h)
    · replace h := h.2 c23
      refine x_aload_n dX31_lower_26 rfl ?_
      refine x_get (v := .ref b3) hG dX31_lower_27 f_X31_17_5 o2 (congrArg va_rf c4) ?_
      refine x_goto (tgt := 37) dX31_lower_30 (by decide) ?_
      change X _ _ _ _ _ _ [some (.ref p), some (.ref b1)] [.ref b3, .ref b1]
      exact X.weak (xle_n (xle_c rfl xle_nil)) (kj5 (some b3) h)
  · replace h := h.1 c4
    refine x_aload_n dX31_lower_7 rfl ?_
    refine x_bipush_ (v := (9 : Int32)) dX31_lower_8 (by decide) ?_
    refine x_aload_n dX31_lower_10 rfl ?_
    obtain ⟨o11, h⟩ := h
    refine x_get (v := .int (A.I p 0)) hG dX31_lower_11 f_X31_7_29 o11 rfl ?_
    obtain ⟨R12, g12, h⟩ := h
    refine x_callV hG (Ky := kX6_fault) (As := [.int (9 : Int32), .int (A.I p 0)]) dX31_lower_14 o2 rfl lk_X31_23 me_X6_fault is_X6_fault se_X6_fault rfl rfl (Nat.le_of_ble_eq_true rfl) (MX.post (m_X6_fault hG hO g12) ?_)
    rintro _ A12 ⟨v12, rfl, h1⟩
    refine X.xok (fun w12 => ?_)
    replace h := h v12 A12 w12 h1
    change X _ _ _ _ A12 _ _ [va_rf v12]
    obtain ⟨b13, e13, h⟩ := h
    rw [e13]
    exact x_athrow dX31_lower_17 rfl (Or.inr ⟨_, rfl, h⟩)
def w_X32_lower (G : xG) (r0 : Nat → Option Nat → (xA → Prop) → (Nat → xA → Prop) → xA → Prop) (r1 : Nat → Option Nat → (xA → Prop) → (Nat → xA → Prop) → xA → Prop) (r2 : Nat → Option Nat → Option Nat → Option Nat → Option Nat → (xA → Prop) → (Nat → xA → Prop) → xA → Prop) (r3 : Nat → Option Nat → (xA → Prop) → (Nat → xA → Prop) → xA → Prop) (p : Nat) (m : Option Nat) (Q : xA → Prop) (E : Nat → xA → Prop) (A : xA) : Prop := xok G A → ∃ b1 : Nat, m = some b1 ∧ (A.tg b1 = 6 ∧ (∃ b3 : Nat, (A.P b1 8) = some b3 ∧ (A.tg b3 = 14 ∧ (A.tg p = 31 ∧ ((((A.I b3 4) = (if (A.P p 1) = none then (1 : Int32) else (0 : Int32)) → ∃ J6 : Int64 → xA → Prop, (∀ (y6_s0 : Int64) (A6 : xA), J6 y6_s0 A6 → A6.tg b1 = 6 ∧ (∃ R7 : xA → Prop, w_X6_result G b1 y6_s0 R7 A6 ∧ (∀ A7 : xA, xok G A7 → R7 A7 → (A7.tg b1 = 6 ∧ (∃ R9 : Option Nat → xA → Prop, w_X6_block G b1 R9 A7 ∧ (∀ (v9 : Option Nat) (A9 : xA), xok G A9 → R9 v9 A9 → (A9.tg b1 = 6 ∧ (∃ R11 : xA → Prop, w_X6_at G b1 v9 R11 A9 ∧ (∀ A11 : xA, xok G A11 → R11 A11 → (Q A11)))))))))) ∧ (((A.P p 1) = none → J6 (f_X6_constant (0 : Int32)) A) ∧ (∀ b13 : Nat, (A.P p 1) = some b13 → xE A b13 ∧ (∃ R15 : Int64 → xA → Prop, g_V_4 G b13 (some b1) R15 E A ∧ (∀ (v15 : Int64) (A15 : xA), xok G A15 → R15 v15 A15 → (J6 v15 A15)))))) ∧ (¬ (A.I b3 4) = (if (A.P p 1) = none then (1 : Int32) else (0 : Int32)) → ∃ J16 : xA → Prop, (∀ (A16 : xA), J16 A16 → A16.tg p = 31 ∧ (A16.tg b1 = 6 ∧ (∃ R18 : Option Nat → xA → Prop, w_X6_fault G b1 (8 : Int32) (A16.I p 0) R18 A16 ∧ (∀ (v18 : Option Nat) (A18 : xA), xok G A18 → R18 v18 A18 → (∃ b20 : Nat, v18 = some b20 ∧ (E b20 A18)))))) ∧ (((A.P p 1) = none → J16 A) ∧ (∀ b21 : Nat, (A.P p 1) = some b21 → xE A b21 ∧ (∃ R23 : Int32 → xA → Prop, g_L_0 G b21 R23 A ∧ (∀ (v23 : Int32) (A23 : xA), xok G A23 → R23 v23 A23 → (((v23 < 0 → J16 A23) ∧ (¬ v23 < 0 → A23.tg p = 31 ∧ (∃ b25 : Nat, (A23.P p 1) = some b25 ∧ (xE A23 b25 ∧ (∃ R27 : Int32 → xA → Prop, g_L_0 G b25 R27 A23 ∧ (∀ (v27 : Int32) (A27 : xA), xok G A27 → R27 v27 A27 → (A27.tg p = 31 ∧ (∃ b29 : Nat, (A27.P p 1) = some b29 ∧ (xE A27 b29 ∧ (A27.tg b1 = 6 ∧ (∃ R31 : Option Nat → xA → Prop, w_X6_known G b1 v27 (A27.I b29 0) R31 E A27 ∧ (∀ (v31 : Option Nat) (A31 : xA), xok G A31 → R31 v31 A31 → (J16 A31)))))))))))))))))))))))))
theorem m_X32_lower (hG : xOK G) (hO : xHO G) {dp : Nat} {r0 : Nat → Option Nat → (xA → Prop) → (Nat → xA → Prop) → xA → Prop} {r1 : Nat → Option Nat → (xA → Prop) → (Nat → xA → Prop) → xA → Prop} {r2 : Nat → Option Nat → Option Nat → Option Nat → Option Nat → (xA → Prop) → (Nat → xA → Prop) → xA → Prop} {r3 : Nat → Option Nat → (xA → Prop) → (Nat → xA → Prop) → xA → Prop} (hK : xRC_D G (dp + 1715) r0 r1 r2 r3) {p : Nat} {m : Option Nat} {Q : xA → Prop} {E : Nat → xA → Prop} {A : xA} (h : w_X32_lower G r0 r1 r2 r3 p m Q E A) : MX G (dp + 1716) kX32_lower [.ref p, va_rf m] A (hX (hV Q) E) := by
  unfold w_X32_lower at h
  refine MX.of rfl (by cases m <;> exact Nat.le_of_ble_eq_true rfl) ?_
  refine X.lvs (lv' := [some (.ref p), some (va_rf m)]) (by cases m <;> rfl) ?_
  refine X.xok (fun w0 => ?_)
  replace h := h w0
  refine x_aloadq_n dX32_lower_0 rfl ?_
  obtain ⟨b1, e1, h⟩ := h
  rw [e1]
  obtain ⟨o2, h⟩ := h
  refine x_get (v := va_rf (A.P b1 8)) hG dX32_lower_1 f_X32_17_5 o2 rfl ?_
  obtain ⟨b3, e3, h⟩ := h
  rw [e3]
  obtain ⟨o4, h⟩ := h
  refine x_get (v := .int (A.I b3 4)) hG dX32_lower_4 f_X32_23_13 o4 rfl ?_
  refine x_aload_n dX32_lower_7 rfl ?_
  obtain ⟨o5, h⟩ := h
  refine x_get (v := va_rf (A.P p 1)) hG dX32_lower_8 f_X32_13_30 o5 rfl ?_
  refine x_via 19 (A' := A) (lv' := [some (.ref p), some (.ref b1)]) (st' := [.int (if (A.P p 1) = none then (1 : Int32) else (0 : Int32)), .int (A.I b3 4)]) ?_ (fun k19 => ?_)
  rotate_left
  · refine x_ifnonnull (tgt := 18) dX32_lower_11 (by decide) (fun _ c110 => ?_) (fun c11 => ?_)
    · have c11 : ¬ (A.P p 1) = none := by rw [c110]; simp
      refine x_iconst_ (v := (0 : Int32)) dX32_lower_18 (by decide) ?_
      change X _ _ _ _ _ _ [some (.ref p), some (.ref b1)] [.int (0 : Int32), .int (A.I b3 4)]
      simp only [if_neg c11] at k19 ⊢
      exact X.weak (xle_c rfl (xle_c rfl xle_nil)) k19
    · refine x_iconst_ (v := (1 : Int32)) dX32_lower_14 (by decide) ?_
      refine x_goto (tgt := 19) dX32_lower_15 (by decide) ?_
      change X _ _ _ _ _ _ [some (.ref p), some (.ref b1)] [.int (1 : Int32), .int (A.I b3 4)]
      simp only [if_pos c11] at k19 ⊢
      exact X.weak (xle_c rfl (xle_c rfl xle_nil)) k19
  refine x_icmp_eq (tgt := 69) dX32_lower_19 (by decide) (fun c19 => ?_) (fun c19 => ?_)
  · replace h := h.1 c19
    refine x_aload_n dX32_lower_69 rfl ?_
    refine x_aload_n dX32_lower_70 rfl ?_
    refine x_get (v := va_rf (A.P p 1)) hG dX32_lower_71 f_X32_13_30 o5 rfl ?_
    obtain ⟨J6, g6, h⟩ := h
    have kj6 : ∀ (y6_s0 : Int64) (A6 : xA), J6 y6_s0 A6 → X G (dp + 1716) kX32_lower (hX (hV Q) E) A6 92 [none, some (.ref b1)] [.long y6_s0, .ref b1] := by
      intro y6_s0 A6 h
      replace h := g6 y6_s0 A6 h
      obtain ⟨o8, h⟩ := h
      obtain ⟨R7, g7, h⟩ := h
      refine x_callV hG (Ky := kX6_result) (As := [.long y6_s0]) dX32_lower_92 o8 rfl lk_X32_54 me_X6_result is_X6_result se_X6_result rfl rfl (Nat.le_of_ble_eq_true rfl) (MX.post (m_X6_result hG hO g7) ?_)
      rintro _ A7 ⟨rfl, h1⟩
      refine X.xok (fun w7 => ?_)
      replace h := h A7 w7 h1
      change X _ _ _ _ A7 _ _ []
      refine x_aload_n dX32_lower_95 rfl ?_
      refine x_aload_n dX32_lower_96 rfl ?_
      obtain ⟨o10, h⟩ := h
      obtain ⟨R9, g9, h⟩ := h
      refine x_callV hG (Ky := kX6_block) (As := []) dX32_lower_97 o10 rfl lk_X32_58 me_X6_block is_X6_block se_X6_block rfl rfl (Nat.le_of_ble_eq_true rfl) (MX.post (m_X6_block hG hO g9) ?_)
      rintro _ A9 ⟨v9, rfl, h1⟩
      refine X.xok (fun w9 => ?_)
      replace h := h v9 A9 w9 h1
      change X _ _ _ _ A9 _ _ [va_rf v9, .ref b1]
      obtain ⟨o12, h⟩ := h
      obtain ⟨R11, g11, h⟩ := h
      refine x_callV hG (Ky := kX6_at) (As := [va_rf v9]) dX32_lower_100 o12 rfl lk_X32_62 me_X6_at is_X6_at se_X6_at rfl rfl (Nat.le_of_ble_eq_true rfl) (MX.post (m_X6_at hG hO g11) ?_)
      rintro _ A11 ⟨rfl, h1⟩
      refine X.xok (fun w11 => ?_)
      replace h := h A11 w11 h1
      change X _ _ _ _ A11 _ _ []
      exact x_vret dX32_lower_103 rfl (Or.inl ⟨rfl, h⟩)
    refine x_ifnonnull (tgt := 84) dX32_lower_74 (by decide) (fun b13 c74 => ?_) (fun c74 => ?_)
    · replace h := h.2 b13 c74
      refine x_aload_n dX32_lower_84 rfl ?_
      refine x_get (v := .ref b13) hG dX32_lower_85 f_X32_13_30 o5 (congrArg va_rf c74) ?_
      refine x_aload_n dX32_lower_88 rfl ?_
      obtain ⟨o14, h⟩ := h
      obtain ⟨R15, g15, h⟩ := h
      refine z_disp (pc' := 89) (lv' := [some (.ref p), some (.ref b1)]) (st' := [.ref b1]) (P := hX (hL R15) E) (kr := ?_) (kc := ?_)
      rotate_left
      · obtain ⟨c, tc, hc⟩ := o14
        simp only [eCl, List.mem_cons, List.not_mem_nil, or_false] at hc
        intro kr
        rcases hc with rfl | rfl | rfl | rfl | rfl | rfl | rfl | rfl
        · exact x_callU hG (Ky := kX16_value) (As := [.ref b1]) dX32_lower_89 tc rfl q2278 q2014 (Or.inl q2013) xm_X15_value me_X16_value is_X16_value q2200 rfl rfl (Nat.le_of_ble_eq_true rfl) (MX.post ((rc_V hG hO 900).2.2.2.2.1.1 tc g15) kr)
        · exact x_callU hG (Ky := kX17_value) (As := [.ref b1]) dX32_lower_89 tc rfl q2278 q2014 (Or.inl q2013) xm_X15_value me_X17_value is_X17_value q2194 rfl rfl (Nat.le_of_ble_eq_true rfl) (MX.post ((rc_V hG hO 900).2.2.2.2.1.2.1 tc g15) kr)
        · exact x_callU hG (Ky := kX18_value) (As := [.ref b1]) dX32_lower_89 tc rfl q2278 q2014 (Or.inl q2013) xm_X15_value me_X18_value is_X18_value q2199 rfl rfl (Nat.le_of_ble_eq_true rfl) (MX.post ((rc_V hG hO 900).2.2.2.2.1.2.2.1 tc g15) kr)
        · exact x_callU hG (Ky := kX19_value) (As := [.ref b1]) dX32_lower_89 tc rfl q2278 q2014 (Or.inl q2013) xm_X15_value me_X19_value is_X19_value q2197 rfl rfl (Nat.le_of_ble_eq_true rfl) (MX.post ((rc_V hG hO 900).2.2.2.2.1.2.2.2.1 tc g15) kr)
        · exact x_callU hG (Ky := kX20_value) (As := [.ref b1]) dX32_lower_89 tc rfl q2278 q2014 (Or.inl q2013) xm_X15_value me_X20_value is_X20_value q2015 rfl rfl (Nat.le_of_ble_eq_true rfl) (MX.post ((rc_V hG hO 900).2.2.2.2.1.2.2.2.2.1 tc g15) kr)
        · exact x_callU hG (Ky := kX21_value) (As := [.ref b1]) dX32_lower_89 tc rfl q2278 q2014 (Or.inl q2013) xm_X15_value me_X21_value is_X21_value q2198 rfl rfl (Nat.le_of_ble_eq_true rfl) (MX.post ((rc_V hG hO 900).2.2.2.2.1.2.2.2.2.2.1 tc g15) kr)
        · exact x_callU hG (Ky := kX22_value) (As := [.ref b1]) dX32_lower_89 tc rfl q2278 q2014 (Or.inl q2013) xm_X15_value me_X22_value is_X22_value q2195 rfl rfl (Nat.le_of_ble_eq_true rfl) (MX.post ((rc_V hG hO 900).2.2.2.2.1.2.2.2.2.2.2.1 tc g15) kr)
        · exact x_callU hG (Ky := kX23_value) (As := [.ref b1]) dX32_lower_89 tc rfl q2278 q2014 (Or.inl q2013) xm_X15_value me_X23_value is_X23_value q2196 rfl rfl (Nat.le_of_ble_eq_true rfl) (MX.post ((rc_V hG hO 900).2.2.2.2.1.2.2.2.2.2.2.2 tc g15) kr)
      rintro _ A15 (⟨v15, rfl, h1⟩ | ⟨x15, rfl, h1⟩)
      rotate_left
      · exact ⟨rfl, Or.inr ⟨_, rfl, h1⟩⟩
      refine X.xok (fun w15 => ?_)
      replace h := h v15 A15 w15 h1
      change X _ _ _ _ A15 _ _ [.long v15, .ref b1]
      change X _ _ _ _ _ _ [some (.ref p), some (.ref b1)] [.long v15, .ref b1]
      exact X.weak (xle_n (xle_c rfl xle_nil)) (kj6 v15 A15 h)
    · replace h := h.1 c74
      refine x_iconst_ (v := (0 : Int32)) dX32_lower_77 (by decide) ?_
      refine x_callS hG (Ky := kX6_constant) (As := [.int (0 : Int32)]) dX32_lower_78 lk_X32_46 me_X6_constant st_X6_constant rfl rfl (Nat.le_of_ble_eq_true rfl) (MX.post (m_X6_constant hG) ?_)
      rintro _ _ ⟨rfl, rfl⟩
      change X _ _ _ _ _ _ _ (.long (f_X6_constant (0 : Int32)) :: _)
      refine x_goto (tgt := 92) dX32_lower_81 (by decide) ?_
      change X _ _ _ _ _ _ [some (.ref p), some (.ref b1)] [.long (f_X6_constant (0 : Int32)), .ref b1]
      exact X.weak (xle_n (xle_c rfl xle_nil)) (kj6 (f_X6_constant (0 : Int32)) A h)
  · replace h := h.2 c19
    refine x_aload_n dX32_lower_22 rfl ?_
    refine x_get (v := va_rf (A.P p 1)) hG dX32_lower_23 f_X32_13_30 o5 rfl ?_
    obtain ⟨J16, g16, h⟩ := h
    have kj16 : ∀ (A16 : xA), J16 A16 → X G (dp + 1716) kX32_lower (hX (hV Q) E) A16 58 [some (.ref p), some (.ref b1)] [] := by
      intro A16 h
      replace h := g16 A16 h
      refine x_aload_n dX32_lower_58 rfl ?_
      refine x_bipush_ (v := (8 : Int32)) dX32_lower_59 (by decide) ?_
      refine x_aload_n dX32_lower_61 rfl ?_
      obtain ⟨o17, h⟩ := h
      refine x_get (v := .int (A16.I p 0)) hG dX32_lower_62 f_X32_7_30 o17 rfl ?_
      obtain ⟨o19, h⟩ := h
      obtain ⟨R18, g18, h⟩ := h
      refine x_callV hG (Ky := kX6_fault) (As := [.int (8 : Int32), .int (A16.I p 0)]) dX32_lower_65 o19 rfl lk_X32_42 me_X6_fault is_X6_fault se_X6_fault rfl rfl (Nat.le_of_ble_eq_true rfl) (MX.post (m_X6_fault hG hO g18) ?_)
      rintro _ A18 ⟨v18, rfl, h1⟩
      refine X.xok (fun w18 => ?_)
      replace h := h v18 A18 w18 h1
      change X _ _ _ _ A18 _ _ [va_rf v18]
      obtain ⟨b20, e20, h⟩ := h
      rw [e20]
      exact x_athrow dX32_lower_68 rfl (Or.inr ⟨_, rfl, h⟩)
    refine x_ifnull (tgt := 58) dX32_lower_26 (by decide) (fun c26 => ?_) (fun b21 c26 => ?_)
    · replace h := h.1 c26
      change X _ _ _ _ _ _ [some (.ref p), some (.ref b1)] []
      exact X.weak (xle_c rfl (xle_c rfl xle_nil)) (kj16 A h)
    · replace h := h.2 b21 c26
      refine x_aload_n dX32_lower_29 rfl ?_
      refine x_get (v := .ref b21) hG dX32_lower_30 f_X32_13_30 o5 (congrArg va_rf c26) ?_
      obtain ⟨o22, h⟩ := h
      obtain ⟨R23, g23, h⟩ := h
      refine z_disp (pc' := 33) (lv' := [some (.ref p), some (.ref b1)]) (st' := []) (P := hI R23) (kr := ?_) (kc := ?_)
      rotate_left
      · obtain ⟨c, tc, hc⟩ := o22
        simp only [eCl, List.mem_cons, List.not_mem_nil, or_false] at hc
        intro kr
        rcases hc with rfl | rfl | rfl | rfl | rfl | rfl | rfl | rfl
        · exact x_callU hG (Ky := kX15_leading) (As := []) dX32_lower_33 tc rfl q2274 q2153 (Or.inr ⟨is_X15_leading, _, _, _, me_X15_leading.1⟩) xm_X15_leading me_X15_leading is_X15_leading q2174 rfl rfl (Nat.le_of_ble_eq_true rfl) (MX.post ((rc_L hG hO 800).1 tc g23) kr)
        · exact x_callU hG (Ky := kX17_leading) (As := []) dX32_lower_33 tc rfl q2274 q2153 (Or.inr ⟨is_X15_leading, _, _, _, me_X15_leading.1⟩) xm_X15_leading me_X17_leading is_X17_leading q2155 rfl rfl (Nat.le_of_ble_eq_true rfl) (MX.post ((rc_L hG hO 800).2.1 tc g23) kr)
        · exact x_callU hG (Ky := kX18_leading) (As := []) dX32_lower_33 tc rfl q2274 q2153 (Or.inr ⟨is_X15_leading, _, _, _, me_X15_leading.1⟩) xm_X15_leading me_X18_leading is_X18_leading q2173 rfl rfl (Nat.le_of_ble_eq_true rfl) (MX.post ((rc_L hG hO 800).2.2.1 tc g23) kr)
        · exact x_callU hG (Ky := kX15_leading) (As := []) dX32_lower_33 tc rfl q2274 q2153 (Or.inr ⟨is_X15_leading, _, _, _, me_X15_leading.1⟩) xm_X15_leading me_X15_leading is_X15_leading q2171 rfl rfl (Nat.le_of_ble_eq_true rfl) (MX.post ((rc_L hG hO 800).2.2.2.1 tc g23) kr)
        · exact x_callU hG (Ky := kX15_leading) (As := []) dX32_lower_33 tc rfl q2274 q2153 (Or.inr ⟨is_X15_leading, _, _, _, me_X15_leading.1⟩) xm_X15_leading me_X15_leading is_X15_leading q2154 rfl rfl (Nat.le_of_ble_eq_true rfl) (MX.post ((rc_L hG hO 800).2.2.2.2.1 tc g23) kr)
        · exact x_callU hG (Ky := kX21_leading) (As := []) dX32_lower_33 tc rfl q2274 q2153 (Or.inr ⟨is_X15_leading, _, _, _, me_X15_leading.1⟩) xm_X15_leading me_X21_leading is_X21_leading q2172 rfl rfl (Nat.le_of_ble_eq_true rfl) (MX.post ((rc_L hG hO 800).2.2.2.2.2.1 tc g23) kr)
        · exact x_callU hG (Ky := kX22_leading) (As := []) dX32_lower_33 tc rfl q2274 q2153 (Or.inr ⟨is_X15_leading, _, _, _, me_X15_leading.1⟩) xm_X15_leading me_X22_leading is_X22_leading q2158 rfl rfl (Nat.le_of_ble_eq_true rfl) (MX.post ((rc_L hG hO 800).2.2.2.2.2.2.1 tc g23) kr)
        · exact x_callU hG (Ky := kX23_leading) (As := []) dX32_lower_33 tc rfl q2274 q2153 (Or.inr ⟨is_X15_leading, _, _, _, me_X15_leading.1⟩) xm_X15_leading me_X23_leading is_X23_leading q2170 rfl rfl (Nat.le_of_ble_eq_true rfl) (MX.post ((rc_L hG hO 800).2.2.2.2.2.2.2 tc g23) kr)
      rintro _ A23 ⟨v23, rfl, h1⟩
      refine X.xok (fun w23 => ?_)
      replace h := h v23 A23 w23 h1
      change X _ _ _ _ A23 _ _ [.int v23]
      refine x_if_lt (tgt := 58) dX32_lower_36 (by decide) (fun c36 => ?_) (fun c36 => ?_)
      · replace h := h.1 c36
        change X _ _ _ _ _ _ [some (.ref p), some (.ref b1)] []
        exact X.weak (xle_c rfl (xle_c rfl xle_nil)) (kj16 A23 h)
      · replace h := h.2 c36
        refine x_aload_n dX32_lower_39 rfl ?_
        refine x_aload_n dX32_lower_40 rfl ?_
        obtain ⟨o24, h⟩ := h
        refine x_get (v := va_rf (A23.P p 1)) hG dX32_lower_41 f_X32_13_30 o24 rfl ?_
        obtain ⟨b25, e25, h⟩ := h
        rw [e25]
        obtain ⟨o26, h⟩ := h
        obtain ⟨R27, g27, h⟩ := h
        refine z_disp (pc' := 44) (lv' := [some (.ref p), some (.ref b1)]) (st' := [.ref b1]) (P := hI R27) (kr := ?_) (kc := ?_)
        rotate_left
        · obtain ⟨c, tc, hc⟩ := o26
          simp only [eCl, List.mem_cons, List.not_mem_nil, or_false] at hc
          intro kr
          rcases hc with rfl | rfl | rfl | rfl | rfl | rfl | rfl | rfl
          · exact x_callU hG (Ky := kX15_leading) (As := []) dX32_lower_44 tc rfl q2274 q2153 (Or.inr ⟨is_X15_leading, _, _, _, me_X15_leading.1⟩) xm_X15_leading me_X15_leading is_X15_leading q2174 rfl rfl (Nat.le_of_ble_eq_true rfl) (MX.post ((rc_L hG hO 800).1 tc g27) kr)
          · exact x_callU hG (Ky := kX17_leading) (As := []) dX32_lower_44 tc rfl q2274 q2153 (Or.inr ⟨is_X15_leading, _, _, _, me_X15_leading.1⟩) xm_X15_leading me_X17_leading is_X17_leading q2155 rfl rfl (Nat.le_of_ble_eq_true rfl) (MX.post ((rc_L hG hO 800).2.1 tc g27) kr)
          · exact x_callU hG (Ky := kX18_leading) (As := []) dX32_lower_44 tc rfl q2274 q2153 (Or.inr ⟨is_X15_leading, _, _, _, me_X15_leading.1⟩) xm_X15_leading me_X18_leading is_X18_leading q2173 rfl rfl (Nat.le_of_ble_eq_true rfl) (MX.post ((rc_L hG hO 800).2.2.1 tc g27) kr)
          · exact x_callU hG (Ky := kX15_leading) (As := []) dX32_lower_44 tc rfl q2274 q2153 (Or.inr ⟨is_X15_leading, _, _, _, me_X15_leading.1⟩) xm_X15_leading me_X15_leading is_X15_leading q2171 rfl rfl (Nat.le_of_ble_eq_true rfl) (MX.post ((rc_L hG hO 800).2.2.2.1 tc g27) kr)
          · exact x_callU hG (Ky := kX15_leading) (As := []) dX32_lower_44 tc rfl q2274 q2153 (Or.inr ⟨is_X15_leading, _, _, _, me_X15_leading.1⟩) xm_X15_leading me_X15_leading is_X15_leading q2154 rfl rfl (Nat.le_of_ble_eq_true rfl) (MX.post ((rc_L hG hO 800).2.2.2.2.1 tc g27) kr)
          · exact x_callU hG (Ky := kX21_leading) (As := []) dX32_lower_44 tc rfl q2274 q2153 (Or.inr ⟨is_X15_leading, _, _, _, me_X15_leading.1⟩) xm_X15_leading me_X21_leading is_X21_leading q2172 rfl rfl (Nat.le_of_ble_eq_true rfl) (MX.post ((rc_L hG hO 800).2.2.2.2.2.1 tc g27) kr)
          · exact x_callU hG (Ky := kX22_leading) (As := []) dX32_lower_44 tc rfl q2274 q2153 (Or.inr ⟨is_X15_leading, _, _, _, me_X15_leading.1⟩) xm_X15_leading me_X22_leading is_X22_leading q2158 rfl rfl (Nat.le_of_ble_eq_true rfl) (MX.post ((rc_L hG hO 800).2.2.2.2.2.2.1 tc g27) kr)
          · exact x_callU hG (Ky := kX23_leading) (As := []) dX32_lower_44 tc rfl q2274 q2153 (Or.inr ⟨is_X15_leading, _, _, _, me_X15_leading.1⟩) xm_X15_leading me_X23_leading is_X23_leading q2170 rfl rfl (Nat.le_of_ble_eq_true rfl) (MX.post ((rc_L hG hO 800).2.2.2.2.2.2.2 tc g27) kr)
        rintro _ A27 ⟨v27, rfl, h1⟩
        refine X.xok (fun w27 => ?_)
        replace h := h v27 A27 w27 h1
        change X _ _ _ _ A27 _ _ [.int v27, .ref b1]
        refine x_aload_n dX32_lower_47 rfl ?_
        obtain ⟨o28, h⟩ := h
        refine x_get (v := va_rf (A27.P p 1)) hG dX32_lower_48 f_X32_13_30 o28 rfl ?_
        obtain ⟨b29, e29, h⟩ := h
        rw [e29]
        obtain ⟨o30, h⟩ := h
        refine z_getE hG dX32_lower_51 fE_X32_35 o30 ?_
        obtain ⟨o32, h⟩ := h
        obtain ⟨R31, g31, h⟩ := h
        refine x_callV hG (Ky := kX6_known) (As := [.int v27, .int (A27.I b29 0)]) dX32_lower_54 o32 rfl lk_X32_38 me_X6_known is_X6_known se_X6_known rfl rfl (Nat.le_of_ble_eq_true rfl) (MX.post (m_X6_known hG hO g31) ?_)
        rintro _ A31 (⟨v31, rfl, h1⟩ | ⟨x31, rfl, h1⟩)
        rotate_left
        · exact ⟨rfl, Or.inr ⟨_, rfl, h1⟩⟩
        refine X.xok (fun w31 => ?_)
        replace h := h v31 A31 w31 h1
        change X _ _ _ _ A31 _ _ [va_rf v31]
        refine x_pop dX32_lower_57 (va_rf_cat _) ?_
        change X _ _ _ _ _ _ [some (.ref p), some (.ref b1)] []
        exact X.weak (xle_c rfl (xle_c rfl xle_nil)) (kj16 A31 h)
def w_X33_lower (G : xG) (r0 : Nat → Option Nat → (xA → Prop) → (Nat → xA → Prop) → xA → Prop) (r1 : Nat → Option Nat → (xA → Prop) → (Nat → xA → Prop) → xA → Prop) (r2 : Nat → Option Nat → Option Nat → Option Nat → Option Nat → (xA → Prop) → (Nat → xA → Prop) → xA → Prop) (r3 : Nat → Option Nat → (xA → Prop) → (Nat → xA → Prop) → xA → Prop) (p : Nat) (m : Option Nat) (Q : xA → Prop) (E : Nat → xA → Prop) (A : xA) : Prop := xok G A → A.tg p = 32 ∧ (∃ b2 : Nat, (A.P p 0) = some b2 ∧ (xE A b2 ∧ (∃ R4 : Int64 → xA → Prop, g_V_4 G b2 m R4 E A ∧ (∀ (v4 : Int64) (A4 : xA), xok G A4 → R4 v4 A4 → (A4.tg p = 32 ∧ ((((A4.I p 1) = 0 → ∃ b7 : Nat, m = some b7 ∧ (A4.tg b7 = 6 ∧ (∃ R6 : xA → Prop, w_X6_halt G b7 v4 R6 A4 ∧ (∀ A6 : xA, xok G A6 → R6 A6 → (A6.tg b7 = 6 ∧ (∃ R9 : Option Nat → xA → Prop, w_X6_block G b7 R9 A6 ∧ (∀ (v9 : Option Nat) (A9 : xA), xok G A9 → R9 v9 A9 → (A9.tg b7 = 6 ∧ (∃ R11 : xA → Prop, w_X6_at G b7 v9 R11 A9 ∧ (∀ A11 : xA, xok G A11 → R11 A11 → (Q A11))))))))))) ∧ (¬ (A4.I p 1) = 0 → ∃ b14 : Nat, m = some b14 ∧ (A4.tg b14 = 6 ∧ (∃ R13 : xA → Prop, w_X6_put G b14 v4 R13 A4 ∧ (∀ A13 : xA, xok G A13 → R13 A13 → (Q A13))))))))))))
theorem m_X33_lower (hG : xOK G) (hO : xHO G) {dp : Nat} {r0 : Nat → Option Nat → (xA → Prop) → (Nat → xA → Prop) → xA → Prop} {r1 : Nat → Option Nat → (xA → Prop) → (Nat → xA → Prop) → xA → Prop} {r2 : Nat → Option Nat → Option Nat → Option Nat → Option Nat → (xA → Prop) → (Nat → xA → Prop) → xA → Prop} {r3 : Nat → Option Nat → (xA → Prop) → (Nat → xA → Prop) → xA → Prop} (hK : xRC_D G (dp + 1715) r0 r1 r2 r3) {p : Nat} {m : Option Nat} {Q : xA → Prop} {E : Nat → xA → Prop} {A : xA} (h : w_X33_lower G r0 r1 r2 r3 p m Q E A) : MX G (dp + 1716) kX33_lower [.ref p, va_rf m] A (hX (hV Q) E) := by
  unfold w_X33_lower at h
  refine MX.of rfl (by cases m <;> exact Nat.le_of_ble_eq_true rfl) ?_
  refine X.lvs (lv' := [some (.ref p), some (va_rf m), none, none]) (by cases m <;> rfl) ?_
  refine X.xok (fun w0 => ?_)
  replace h := h w0
  refine x_aload_n dX33_lower_0 rfl ?_
  obtain ⟨o1, h⟩ := h
  refine x_get (v := va_rf (A.P p 0)) hG dX33_lower_1 f_X33_7_31 o1 rfl ?_
  refine x_aloadq_n dX33_lower_4 rfl ?_
  obtain ⟨b2, e2, h⟩ := h
  rw [e2]
  obtain ⟨o3, h⟩ := h
  obtain ⟨R4, g4, h⟩ := h
  refine z_disp (pc' := 5) (lv' := [some (.ref p), some (va_rf m), none, none]) (st' := []) (P := hX (hL R4) E) (kr := ?_) (kc := ?_)
  rotate_left
  · obtain ⟨c, tc, hc⟩ := o3
    simp only [eCl, List.mem_cons, List.not_mem_nil, or_false] at hc
    intro kr
    rcases hc with rfl | rfl | rfl | rfl | rfl | rfl | rfl | rfl
    · exact x_callU hG (Ky := kX16_value) (As := [va_rf m]) dX33_lower_5 tc rfl q2261 q2014 (Or.inl q2013) xm_X15_value me_X16_value is_X16_value q2200 rfl rfl (Nat.le_of_ble_eq_true rfl) (MX.post ((rc_V hG hO 900).2.2.2.2.1.1 tc g4) kr)
    · exact x_callU hG (Ky := kX17_value) (As := [va_rf m]) dX33_lower_5 tc rfl q2261 q2014 (Or.inl q2013) xm_X15_value me_X17_value is_X17_value q2194 rfl rfl (Nat.le_of_ble_eq_true rfl) (MX.post ((rc_V hG hO 900).2.2.2.2.1.2.1 tc g4) kr)
    · exact x_callU hG (Ky := kX18_value) (As := [va_rf m]) dX33_lower_5 tc rfl q2261 q2014 (Or.inl q2013) xm_X15_value me_X18_value is_X18_value q2199 rfl rfl (Nat.le_of_ble_eq_true rfl) (MX.post ((rc_V hG hO 900).2.2.2.2.1.2.2.1 tc g4) kr)
    · exact x_callU hG (Ky := kX19_value) (As := [va_rf m]) dX33_lower_5 tc rfl q2261 q2014 (Or.inl q2013) xm_X15_value me_X19_value is_X19_value q2197 rfl rfl (Nat.le_of_ble_eq_true rfl) (MX.post ((rc_V hG hO 900).2.2.2.2.1.2.2.2.1 tc g4) kr)
    · exact x_callU hG (Ky := kX20_value) (As := [va_rf m]) dX33_lower_5 tc rfl q2261 q2014 (Or.inl q2013) xm_X15_value me_X20_value is_X20_value q2015 rfl rfl (Nat.le_of_ble_eq_true rfl) (MX.post ((rc_V hG hO 900).2.2.2.2.1.2.2.2.2.1 tc g4) kr)
    · exact x_callU hG (Ky := kX21_value) (As := [va_rf m]) dX33_lower_5 tc rfl q2261 q2014 (Or.inl q2013) xm_X15_value me_X21_value is_X21_value q2198 rfl rfl (Nat.le_of_ble_eq_true rfl) (MX.post ((rc_V hG hO 900).2.2.2.2.1.2.2.2.2.2.1 tc g4) kr)
    · exact x_callU hG (Ky := kX22_value) (As := [va_rf m]) dX33_lower_5 tc rfl q2261 q2014 (Or.inl q2013) xm_X15_value me_X22_value is_X22_value q2195 rfl rfl (Nat.le_of_ble_eq_true rfl) (MX.post ((rc_V hG hO 900).2.2.2.2.1.2.2.2.2.2.2.1 tc g4) kr)
    · exact x_callU hG (Ky := kX23_value) (As := [va_rf m]) dX33_lower_5 tc rfl q2261 q2014 (Or.inl q2013) xm_X15_value me_X23_value is_X23_value q2196 rfl rfl (Nat.le_of_ble_eq_true rfl) (MX.post ((rc_V hG hO 900).2.2.2.2.1.2.2.2.2.2.2.2 tc g4) kr)
  rintro _ A4 (⟨v4, rfl, h1⟩ | ⟨x4, rfl, h1⟩)
  rotate_left
  · exact ⟨rfl, Or.inr ⟨_, rfl, h1⟩⟩
  refine X.xok (fun w4 => ?_)
  replace h := h v4 A4 w4 h1
  change X _ _ _ _ A4 _ _ [.long v4]
  refine x_lstore_n dX33_lower_8 (by decide) ?_
  refine X.lvs (lv' := [some (.ref p), some (va_rf m), some (.long v4), none]) (by generalize m = z; cases z <;> rfl) ?_
  refine x_aload_n dX33_lower_9 rfl ?_
  obtain ⟨o5, h⟩ := h
  refine x_get (v := .int (A4.I p 1)) hG dX33_lower_10 f_X33_13_31 o5 rfl ?_
  refine x_if_eq (tgt := 22) dX33_lower_13 (by decide) (fun c13 => ?_) (fun c13 => ?_)
  · replace h := h.1 c13
    refine x_aloadq_n dX33_lower_22 rfl ?_
    refine x_lload_n dX33_lower_23 rfl ?_
    obtain ⟨b7, e7, h⟩ := h
    rw [e7]
    obtain ⟨o8, h⟩ := h
    obtain ⟨R6, g6, h⟩ := h
    refine x_callV hG (Ky := kX6_halt) (As := [.long v4]) dX33_lower_24 o8 rfl lk_X33_29 me_X6_halt is_X6_halt se_X6_halt rfl rfl (Nat.le_of_ble_eq_true rfl) (MX.post (m_X6_halt hG hO g6) ?_)
    rintro _ A6 ⟨rfl, h1⟩
    refine X.xok (fun w6 => ?_)
    replace h := h A6 w6 h1
    change X _ _ _ _ A6 _ _ []
    refine x_aload_n dX33_lower_27 rfl ?_
    refine x_aload_n dX33_lower_28 rfl ?_
    obtain ⟨o10, h⟩ := h
    obtain ⟨R9, g9, h⟩ := h
    refine x_callV hG (Ky := kX6_block) (As := []) dX33_lower_29 o10 rfl lk_X33_32 me_X6_block is_X6_block se_X6_block rfl rfl (Nat.le_of_ble_eq_true rfl) (MX.post (m_X6_block hG hO g9) ?_)
    rintro _ A9 ⟨v9, rfl, h1⟩
    refine X.xok (fun w9 => ?_)
    replace h := h v9 A9 w9 h1
    change X _ _ _ _ A9 _ _ [va_rf v9, .ref b7]
    obtain ⟨o12, h⟩ := h
    obtain ⟨R11, g11, h⟩ := h
    refine x_callV hG (Ky := kX6_at) (As := [va_rf v9]) dX33_lower_32 o12 rfl lk_X33_36 me_X6_at is_X6_at se_X6_at rfl rfl (Nat.le_of_ble_eq_true rfl) (MX.post (m_X6_at hG hO g11) ?_)
    rintro _ A11 ⟨rfl, h1⟩
    refine X.xok (fun w11 => ?_)
    replace h := h A11 w11 h1
    change X _ _ _ _ A11 _ _ []
    exact x_vret dX33_lower_35 rfl (Or.inl ⟨rfl, h⟩)
  · replace h := h.2 c13
    refine x_aloadq_n dX33_lower_16 rfl ?_
    refine x_lload_n dX33_lower_17 rfl ?_
    obtain ⟨b14, e14, h⟩ := h
    rw [e14]
    obtain ⟨o15, h⟩ := h
    obtain ⟨R13, g13, h⟩ := h
    refine x_callV hG (Ky := kX6_put) (As := [.long v4]) dX33_lower_18 o15 rfl lk_X33_23 me_X6_put is_X6_put se_X6_put rfl rfl (Nat.le_of_ble_eq_true rfl) (MX.post (m_X6_put hG hO g13) ?_)
    rintro _ A13 ⟨rfl, h1⟩
    refine X.xok (fun w13 => ?_)
    replace h := h A13 w13 h1
    change X _ _ _ _ A13 _ _ []
    exact x_vret dX33_lower_21 rfl (Or.inl ⟨rfl, h⟩)
def rk_D (G : xG) : Nat → (Nat → Option Nat → (xA → Prop) → (Nat → xA → Prop) → xA → Prop) × (Nat → Option Nat → (xA → Prop) → (Nat → xA → Prop) → xA → Prop) × (Nat → Option Nat → Option Nat → Option Nat → Option Nat → (xA → Prop) → (Nat → xA → Prop) → xA → Prop) × (Nat → Option Nat → (xA → Prop) → (Nat → xA → Prop) → xA → Prop)
  | 0 => (fun _ _ _ _ _ => False, fun _ _ _ _ _ => False, fun _ _ _ _ _ _ _ _ => False, fun _ _ _ _ _ => False)
  | n + 1 => (fun p a0 Q E A => w_X6_scoped G (rk_D G n).1 (rk_D G n).2.1 (rk_D G n).2.2.1 (rk_D G n).2.2.2 p a0 Q E A,
    fun p a0 Q E A => w_X5_lowerAll G (rk_D G n).1 (rk_D G n).2.1 (rk_D G n).2.2.1 (rk_D G n).2.2.2 p a0 Q E A,
    fun p a0 a1 a2 a3 Q E A => w_X28_loop G (rk_D G n).1 (rk_D G n).2.1 (rk_D G n).2.2.1 (rk_D G n).2.2.2 p a0 a1 a2 a3 Q E A,
    fun p a0 Q E A => (A.tg p = 5 → w_X5_lower G (rk_D G n).1 (rk_D G n).2.1 (rk_D G n).2.2.1 (rk_D G n).2.2.2 p a0 Q E A) ∧ (A.tg p = 24 → w_X25_lower G (rk_D G n).1 (rk_D G n).2.1 (rk_D G n).2.2.1 (rk_D G n).2.2.2 p a0 Q E A) ∧ (A.tg p = 25 → w_X26_lower G (rk_D G n).1 (rk_D G n).2.1 (rk_D G n).2.2.1 (rk_D G n).2.2.2 p a0 Q E A) ∧ (A.tg p = 26 → w_X27_lower G (rk_D G n).1 (rk_D G n).2.1 (rk_D G n).2.2.1 (rk_D G n).2.2.2 p a0 Q E A) ∧ (A.tg p = 27 → w_X28_lower G (rk_D G n).1 (rk_D G n).2.1 (rk_D G n).2.2.1 (rk_D G n).2.2.2 p a0 Q E A) ∧ (A.tg p = 28 → w_X29_lower G (rk_D G n).1 (rk_D G n).2.1 (rk_D G n).2.2.1 (rk_D G n).2.2.2 p a0 Q E A) ∧ (A.tg p = 29 → w_X30_lower G (rk_D G n).1 (rk_D G n).2.1 (rk_D G n).2.2.1 (rk_D G n).2.2.2 p a0 Q E A) ∧ (A.tg p = 30 → w_X31_lower G (rk_D G n).1 (rk_D G n).2.1 (rk_D G n).2.2.1 (rk_D G n).2.2.2 p a0 Q E A) ∧ (A.tg p = 31 → w_X32_lower G (rk_D G n).1 (rk_D G n).2.1 (rk_D G n).2.2.1 (rk_D G n).2.2.2 p a0 Q E A) ∧ (A.tg p = 32 → w_X33_lower G (rk_D G n).1 (rk_D G n).2.1 (rk_D G n).2.2.1 (rk_D G n).2.2.2 p a0 Q E A))
theorem rc_D (hG : xOK G) (hO : xHO G) {dp : Nat} : ∀ n, xRC_D G (dp + n + 1715) (rk_D G n).1 (rk_D G n).2.1 (rk_D G n).2.2.1 (rk_D G n).2.2.2
  | 0 => ⟨fun h => False.elim h, fun h => False.elim h, fun h => False.elim h, ⟨fun _ h => False.elim h, fun _ h => False.elim h, fun _ h => False.elim h, fun _ h => False.elim h, fun _ h => False.elim h, fun _ h => False.elim h, fun _ h => False.elim h, fun _ h => False.elim h, fun _ h => False.elim h, fun _ h => False.elim h⟩⟩
  | n + 1 => ⟨fun h => m_X6_scoped (dp := dp + n) hG hO (rc_D hG hO n) h,
    fun h => m_X5_lowerAll (dp := dp + n) hG hO (rc_D hG hO n) h,
    fun h => m_X28_loop (dp := dp + n) hG hO (rc_D hG hO n) h,
    ⟨fun t h => m_X5_lower (dp := dp + n) hG hO (rc_D hG hO n) (h.1 t), fun t h => m_X25_lower (dp := dp + n) hG hO (rc_D hG hO n) (h.2.1 t), fun t h => m_X26_lower (dp := dp + n) hG hO (rc_D hG hO n) (h.2.2.1 t), fun t h => m_X27_lower (dp := dp + n) hG hO (rc_D hG hO n) (h.2.2.2.1 t), fun t h => m_X28_lower (dp := dp + n) hG hO (rc_D hG hO n) (h.2.2.2.2.1 t), fun t h => m_X29_lower (dp := dp + n) hG hO (rc_D hG hO n) (h.2.2.2.2.2.1 t), fun t h => m_X30_lower (dp := dp + n) hG hO (rc_D hG hO n) (h.2.2.2.2.2.2.1 t), fun t h => m_X31_lower (dp := dp + n) hG hO (rc_D hG hO n) (h.2.2.2.2.2.2.2.1 t), fun t h => m_X32_lower (dp := dp + n) hG hO (rc_D hG hO n) (h.2.2.2.2.2.2.2.2.1 t), fun t h => m_X33_lower (dp := dp + n) hG hO (rc_D hG hO n) (h.2.2.2.2.2.2.2.2.2 t)⟩⟩
def g_D_0 (G : xG) : Nat → Option Nat → (xA → Prop) → (Nat → xA → Prop) → xA → Prop := (rk_D G 200).1
def g_D_1 (G : xG) : Nat → Option Nat → (xA → Prop) → (Nat → xA → Prop) → xA → Prop := (rk_D G 200).2.1
def g_D_2 (G : xG) : Nat → Option Nat → Option Nat → Option Nat → Option Nat → (xA → Prop) → (Nat → xA → Prop) → xA → Prop := (rk_D G 200).2.2.1
def g_D_3 (G : xG) : Nat → Option Nat → (xA → Prop) → (Nat → xA → Prop) → xA → Prop := (rk_D G 200).2.2.2
end W099
