/-! ===== 048.hproc (tools/h045.py) ===== -/
set_option maxRecDepth 100000
section W048
variable {G : xG}
def w_X12_init (G : xG) (p : Nat) (Q : xA → Prop) (A : xA) : Prop := xok G A → rmA G A (32 : Int32) ∧ (∀ A2 : xA, A2 = A.new 200 (ix (32 : Int32)) (ix (32 : Int32)) 0 → (A2.tg p = 12 ∧ (∀ A4 : xA, A4 = A2.setP p 1 (some A.n) → (Q A4))))
theorem m_X12_init (hG : xOK G) (hO : xHO G) {dp : Nat} {p : Nat} {Q : xA → Prop} {A : xA} (h : w_X12_init G p Q A) : MX G (dp + 1) kX12_init [.ref p] A (hV Q) := by
  unfold w_X12_init at h
  refine MX.of rfl (Nat.le_of_ble_eq_true rfl) ?_
  change X _ _ _ _ _ _ [some (.ref p)] _
  refine X.xok (fun w0 => ?_)
  replace h := h w0
  refine x_aload_n dX12_init_0 rfl ?_
  refine x_objInit hG dX12_init_1 q845 q261 q262 (Nat.le_of_ble_eq_true rfl) ?_
  refine x_aload_n dX12_init_4 rfl ?_
  refine x_bipush_ (v := (32 : Int32)) dX12_init_5 (by decide) ?_
  obtain ⟨o1, h⟩ := h
  refine z_newa hG (j := 0) dX12_init_7 (by decide) rfl o1 q378 (fun A2 e2 w2 => ?_)
  replace h := h A2 e2
  obtain ⟨o3, h⟩ := h
  refine z_putP hG hO.1 (some A.n) dX12_init_9 f_X12_9_11 ⟨_, rfl, Or.inr ⟨rfl, rfl, rfl⟩⟩ o3 (by decide) (Or.inr ⟨_, rfl⟩) (fun A4 e4 => ?_)
  replace h := h A4 e4
  exact x_vret dX12_init_12 rfl ⟨rfl, h⟩
def w_X12_next (G : xG) (p : Nat) (Q : Int32 → xA → Prop) (A : xA) : Prop := xok G A → A.tg p = 12 ∧ (∀ A2 : xA, A2 = A.setI p 2 ((A.I p 2) + (4 : Int32)) → (∀ A3 : xA, A3 = A2.setI p 3 ((A.I p 3) + (1 : Int32)) → (Q (0 : Int32) A3)))
theorem m_X12_next (hG : xOK G) (hO : xHO G) {dp : Nat} {p : Nat} {Q : Int32 → xA → Prop} {A : xA} (h : w_X12_next G p Q A) : MX G (dp + 0) kX12_next [.ref p] A (hI Q) := by
  unfold w_X12_next at h
  refine MX.of rfl (Nat.le_of_ble_eq_true rfl) ?_
  change X _ _ _ _ _ _ [some (.ref p)] _
  refine X.xok (fun w0 => ?_)
  replace h := h w0
  refine x_aload_n dX12_next_0 rfl ?_
  refine x_dup dX12_next_1 rfl ?_
  obtain ⟨o1, h⟩ := h
  refine x_get (v := .int (A.I p 2)) hG dX12_next_2 f_X12_19_11 o1 rfl ?_
  refine x_iconst_ (v := (4 : Int32)) dX12_next_5 (by decide) ?_
  refine x_iadd dX12_next_6 ?_
  refine z_putI hG hO.1 dX12_next_7 f_X12_19_11 ⟨_, rfl, Or.inl rfl⟩ o1 (by decide) rfl rfl ⟨_, rfl⟩ (fun A2 e2 => ?_)
  replace h := h A2 e2
  refine x_aload_n dX12_next_10 rfl ?_
  refine x_dup dX12_next_11 rfl ?_
  refine x_get (v := .int (A.I p 3)) hG dX12_next_12 f_X12_59_11 (kI e2 o1) (congrArg Value.int (sI_k e2 (by decide))) ?_
  refine x_iconst_ (v := (1 : Int32)) dX12_next_15 (by decide) ?_
  refine x_iadd dX12_next_16 ?_
  refine z_putI hG hO.1 dX12_next_17 f_X12_59_11 ⟨_, rfl, Or.inl rfl⟩ (kI e2 o1) (by decide) rfl rfl ⟨_, rfl⟩ (fun A3 e3 => ?_)
  replace h := h A3 e3
  refine x_iconst_ (v := (0 : Int32)) dX12_next_20 (by decide) ?_
  exact x_iret dX12_next_21 rfl ⟨_, rfl, h⟩
def w_X12_makes (G : xG) (p : Nat) (w : Int32) (v : Int32) (Q : Int32 → xA → Prop) (A : xA) : Prop := xok G A → ∃ J1 : xA → Prop, (∀ (A1 : xA), J1 A1 → A1.tg p = 12 ∧ (∃ R2 : Int32 → xA → Prop, w_X12_next G p R2 A1 ∧ (∀ (v2 : Int32) (A2 : xA), xok G A2 → R2 v2 A2 → (Q v2 A2)))) ∧ ((((jishr w (7 : Int32)) &&& (31 : Int32)) ≤ 0 → J1 A) ∧ (¬ ((jishr w (7 : Int32)) &&& (31 : Int32)) ≤ 0 → A.tg p = 12 ∧ (∃ b5 : Nat, (A.P p 1) = some b5 ∧ (A.tg b5 = 200 ∧ (G.N ≤ b5 ∧ (vp_in ((jishr w (7 : Int32)) &&& (31 : Int32)) (A.ln b5) ∧ (∀ A9 : xA, A9 = A.setI b5 (ix ((jishr w (7 : Int32)) &&& (31 : Int32))) v → (J1 A9))))))))
theorem m_X12_makes (hG : xOK G) (hO : xHO G) {dp : Nat} {p : Nat} {w : Int32} {v : Int32} {Q : Int32 → xA → Prop} {A : xA} (h : w_X12_makes G p w v Q A) : MX G (dp + 1) kX12_makes [.ref p, .int w, .int v] A (hI Q) := by
  unfold w_X12_makes at h
  refine MX.of rfl (Nat.le_of_ble_eq_true rfl) ?_
  change X _ _ _ _ _ _ [some (.ref p), some (.int w), some (.int v), none] _
  refine X.xok (fun w0 => ?_)
  replace h := h w0
  refine x_iload_n dX12_makes_0 rfl ?_
  refine x_bipush_ (v := (7 : Int32)) dX12_makes_1 (by decide) ?_
  refine x_ishr dX12_makes_3 ?_
  refine x_eqi (v := (jishr w (7 : Int32))) rfl ?_
  refine x_bipush_ (v := (31 : Int32)) dX12_makes_4 (by decide) ?_
  refine x_iand dX12_makes_6 ?_
  refine x_istore_n dX12_makes_7 (by decide) ?_
  refine x_iload_n dX12_makes_8 rfl ?_
  obtain ⟨J1, g1, h⟩ := h
  have kj1 : ∀ (A1 : xA), J1 A1 → X G (dp + 1) kX12_makes (hI Q) A1 19 [some (.ref p), none, none, none] [] := by
    intro A1 h
    replace h := g1 A1 h
    refine x_aload_n dX12_makes_19 rfl ?_
    obtain ⟨o3, h⟩ := h
    obtain ⟨R2, g2, h⟩ := h
    refine x_callV hG (Ky := kX12_next) (As := []) dX12_makes_20 o3 rfl lk_X12_55 me_X12_next is_X12_next se_X12_next rfl rfl (Nat.le_of_ble_eq_true rfl) (MX.post (m_X12_next hG hO g2) ?_)
    rintro _ A2 ⟨v2, rfl, h1⟩
    refine X.xok (fun w2 => ?_)
    replace h := h v2 A2 w2 h1
    change X _ _ _ _ A2 _ _ [.int v2]
    exact x_iret dX12_makes_23 rfl ⟨_, rfl, h⟩
  refine x_if_le (tgt := 19) dX12_makes_9 (by decide) (fun c9 => ?_) (fun c9 => ?_)
  · replace h := h.1 c9
    change X _ _ _ _ _ _ [some (.ref p), some (.int w), some (.int v), some (.int ((jishr w (7 : Int32)) &&& (31 : Int32)))] []
    exact X.weak (xle_c rfl (xle_n (xle_n (xle_n xle_nil)))) (kj1 A h)
  · replace h := h.2 c9
    refine x_aload_n dX12_makes_12 rfl ?_
    obtain ⟨o4, h⟩ := h
    refine x_get (v := va_rf (A.P p 1)) hG dX12_makes_13 f_X12_9_11 o4 rfl ?_
    refine x_iload_n dX12_makes_16 rfl ?_
    refine x_iload_n dX12_makes_17 rfl ?_
    obtain ⟨b5, e5, h⟩ := h
    rw [e5]
    obtain ⟨o6, h⟩ := h
    obtain ⟨o7, h⟩ := h
    obtain ⟨o8, h⟩ := h
    refine z_iast hG dX12_makes_18 o6 o7 o8 (fun A9 e9 => ?_)
    replace h := h A9 e9
    change X _ _ _ _ _ _ [some (.ref p), some (.int w), some (.int v), some (.int ((jishr w (7 : Int32)) &&& (31 : Int32)))] []
    exact X.weak (xle_c rfl (xle_n (xle_n (xle_n xle_nil)))) (kj1 A9 h)
def w_X12_jumps (G : xG) (p : Nat) (w : Int32) (t : Int32) (Q : Int32 → xA → Prop) (A : xA) : Prop := xok G A → (((t &&& (3 : Int32)) = 0 → A.tg p = 12 ∧ (∃ R2 : Int32 → xA → Prop, w_X12_makes G p w ((A.I p 2) + (4 : Int32)) R2 A ∧ (∀ (v2 : Int32) (A2 : xA), xok G A2 → R2 v2 A2 → (A2.tg p = 12 ∧ (∀ A4 : xA, A4 = A2.setI p 2 t → (Q v2 A4)))))) ∧ (¬ (t &&& (3 : Int32)) = 0 → Q (3 : Int32) A))
theorem m_X12_jumps (hG : xOK G) (hO : xHO G) {dp : Nat} {p : Nat} {w : Int32} {t : Int32} {Q : Int32 → xA → Prop} {A : xA} (h : w_X12_jumps G p w t Q A) : MX G (dp + 2) kX12_jumps [.ref p, .int w, .int t] A (hI Q) := by
  unfold w_X12_jumps at h
  refine MX.of rfl (Nat.le_of_ble_eq_true rfl) ?_
  change X _ _ _ _ _ _ [some (.ref p), some (.int w), some (.int t), none] _
  refine X.xok (fun w0 => ?_)
  replace h := h w0
  refine x_iload_n dX12_jumps_0 rfl ?_
  refine x_iconst_ (v := (3 : Int32)) dX12_jumps_1 (by decide) ?_
  refine x_iand dX12_jumps_2 ?_
  refine x_if_eq (tgt := 8) dX12_jumps_3 (by decide) (fun c3 => ?_) (fun c3 => ?_)
  · replace h := h.1 c3
    refine x_aload_n dX12_jumps_8 rfl ?_
    refine x_iload_n dX12_jumps_9 rfl ?_
    refine x_aload_n dX12_jumps_10 rfl ?_
    obtain ⟨o1, h⟩ := h
    refine x_get (v := .int (A.I p 2)) hG dX12_jumps_11 f_X12_19_11 o1 rfl ?_
    refine x_iconst_ (v := (4 : Int32)) dX12_jumps_14 (by decide) ?_
    refine x_iadd dX12_jumps_15 ?_
    obtain ⟨R2, g2, h⟩ := h
    refine x_callV hG (Ky := kX12_makes) (As := [.int w, .int ((A.I p 2) + (4 : Int32))]) dX12_jumps_16 o1 rfl lk_X12_26 me_X12_makes is_X12_makes se_X12_makes rfl rfl (Nat.le_of_ble_eq_true rfl) (MX.post (m_X12_makes hG hO g2) ?_)
    rintro _ A2 ⟨v2, rfl, h1⟩
    refine X.xok (fun w2 => ?_)
    replace h := h v2 A2 w2 h1
    change X _ _ _ _ A2 _ _ [.int v2]
    refine x_istore_n dX12_jumps_19 (by decide) ?_
    refine x_aload_n dX12_jumps_20 rfl ?_
    refine x_iload_n dX12_jumps_21 rfl ?_
    obtain ⟨o3, h⟩ := h
    refine z_putI hG hO.1 dX12_jumps_22 f_X12_19_11 ⟨_, rfl, Or.inl rfl⟩ o3 (by decide) rfl rfl ⟨_, rfl⟩ (fun A4 e4 => ?_)
    replace h := h A4 e4
    refine x_iload_n dX12_jumps_25 rfl ?_
    exact x_iret dX12_jumps_26 rfl ⟨_, rfl, h⟩
  · replace h := h.2 c3
    refine x_iconst_ (v := (3 : Int32)) dX12_jumps_6 (by decide) ?_
    exact x_iret dX12_jumps_7 rfl ⟨_, rfl, h⟩
def w_X12_goesOn (G : xG) (p : Nat) (w : Int32) (i : Int32) (Q : Int32 → xA → Prop) (A : xA) : Prop := xok G A → ((i = 0 → A.tg p = 12 ∧ (∃ R4 : Int32 → xA → Prop, w_X12_next G p R4 A ∧ (∀ (v4 : Int32) (A4 : xA), xok G A4 → R4 v4 A4 → (Q v4 A4)))) ∧ (¬ i = 0 → A.tg p = 12 ∧ ((((((A.I p 2) + ((((jishl (jishr w (31 : Int32)) (12 : Int32)) ||| (jishl ((jishr w (7 : Int32)) &&& (1 : Int32)) (11 : Int32))) ||| (jishl ((jishr w (25 : Int32)) &&& (63 : Int32)) (5 : Int32))) ||| (jishl ((jishr w (8 : Int32)) &&& (15 : Int32)) (1 : Int32)))) &&& (3 : Int32)) = 0 → ∀ A2 : xA, A2 = A.setI p 2 ((A.I p 2) + ((((jishl (jishr w (31 : Int32)) (12 : Int32)) ||| (jishl ((jishr w (7 : Int32)) &&& (1 : Int32)) (11 : Int32))) ||| (jishl ((jishr w (25 : Int32)) &&& (63 : Int32)) (5 : Int32))) ||| (jishl ((jishr w (8 : Int32)) &&& (15 : Int32)) (1 : Int32)))) → (∀ A3 : xA, A3 = A2.setI p 3 ((A.I p 3) + (1 : Int32)) → (Q (0 : Int32) A3))) ∧ (¬ (((A.I p 2) + ((((jishl (jishr w (31 : Int32)) (12 : Int32)) ||| (jishl ((jishr w (7 : Int32)) &&& (1 : Int32)) (11 : Int32))) ||| (jishl ((jishr w (25 : Int32)) &&& (63 : Int32)) (5 : Int32))) ||| (jishl ((jishr w (8 : Int32)) &&& (15 : Int32)) (1 : Int32)))) &&& (3 : Int32)) = 0 → Q (3 : Int32) A)))))
theorem m_X12_goesOn (hG : xOK G) (hO : xHO G) {dp : Nat} {p : Nat} {w : Int32} {i : Int32} {Q : Int32 → xA → Prop} {A : xA} (h : w_X12_goesOn G p w i Q A) : MX G (dp + 1) kX12_goesOn [.ref p, .int w, .int i] A (hI Q) := by
  unfold w_X12_goesOn at h
  refine MX.of rfl (Nat.le_of_ble_eq_true rfl) ?_
  change X _ _ _ _ _ _ [some (.ref p), some (.int w), some (.int i), none] _
  refine X.xok (fun w0 => ?_)
  replace h := h w0
  refine x_iload_n dX12_goesOn_0 rfl ?_
  refine x_if_ne (tgt := 9) dX12_goesOn_1 (by decide) (fun c1 => ?_) (fun c1 => ?_)
  · replace h := h.2 c1
    refine x_aload_n dX12_goesOn_9 rfl ?_
    obtain ⟨o1, h⟩ := h
    refine x_get (v := .int (A.I p 2)) hG dX12_goesOn_10 f_X12_19_11 o1 rfl ?_
    refine x_iload_n dX12_goesOn_13 rfl ?_
    refine x_bipush_ (v := (31 : Int32)) dX12_goesOn_14 (by decide) ?_
    refine x_ishr dX12_goesOn_16 ?_
    refine x_eqi (v := (jishr w (31 : Int32))) rfl ?_
    refine x_bipush_ (v := (12 : Int32)) dX12_goesOn_17 (by decide) ?_
    refine x_ishl dX12_goesOn_19 ?_
    refine x_eqi (v := (jishl (jishr w (31 : Int32)) (12 : Int32))) rfl ?_
    refine x_iload_n dX12_goesOn_20 rfl ?_
    refine x_bipush_ (v := (7 : Int32)) dX12_goesOn_21 (by decide) ?_
    refine x_ishr dX12_goesOn_23 ?_
    refine x_eqi (v := (jishr w (7 : Int32))) rfl ?_
    refine x_iconst_ (v := (1 : Int32)) dX12_goesOn_24 (by decide) ?_
    refine x_iand dX12_goesOn_25 ?_
    refine x_bipush_ (v := (11 : Int32)) dX12_goesOn_26 (by decide) ?_
    refine x_ishl dX12_goesOn_28 ?_
    refine x_eqi (v := (jishl ((jishr w (7 : Int32)) &&& (1 : Int32)) (11 : Int32))) rfl ?_
    refine x_ior dX12_goesOn_29 ?_
    refine x_iload_n dX12_goesOn_30 rfl ?_
    refine x_bipush_ (v := (25 : Int32)) dX12_goesOn_31 (by decide) ?_
    refine x_ishr dX12_goesOn_33 ?_
    refine x_eqi (v := (jishr w (25 : Int32))) rfl ?_
    refine x_bipush_ (v := (63 : Int32)) dX12_goesOn_34 (by decide) ?_
    refine x_iand dX12_goesOn_36 ?_
    refine x_iconst_ (v := (5 : Int32)) dX12_goesOn_37 (by decide) ?_
    refine x_ishl dX12_goesOn_38 ?_
    refine x_eqi (v := (jishl ((jishr w (25 : Int32)) &&& (63 : Int32)) (5 : Int32))) rfl ?_
    refine x_ior dX12_goesOn_39 ?_
    refine x_iload_n dX12_goesOn_40 rfl ?_
    refine x_bipush_ (v := (8 : Int32)) dX12_goesOn_41 (by decide) ?_
    refine x_ishr dX12_goesOn_43 ?_
    refine x_eqi (v := (jishr w (8 : Int32))) rfl ?_
    refine x_bipush_ (v := (15 : Int32)) dX12_goesOn_44 (by decide) ?_
    refine x_iand dX12_goesOn_46 ?_
    refine x_iconst_ (v := (1 : Int32)) dX12_goesOn_47 (by decide) ?_
    refine x_ishl dX12_goesOn_48 ?_
    refine x_eqi (v := (jishl ((jishr w (8 : Int32)) &&& (15 : Int32)) (1 : Int32))) rfl ?_
    refine x_ior dX12_goesOn_49 ?_
    refine x_iadd dX12_goesOn_50 ?_
    refine x_istore_n dX12_goesOn_51 (by decide) ?_
    refine x_iload_n dX12_goesOn_52 rfl ?_
    refine x_iconst_ (v := (3 : Int32)) dX12_goesOn_53 (by decide) ?_
    refine x_iand dX12_goesOn_54 ?_
    refine x_if_eq (tgt := 60) dX12_goesOn_55 (by decide) (fun c55 => ?_) (fun c55 => ?_)
    · replace h := h.1 c55
      refine x_aload_n dX12_goesOn_60 rfl ?_
      refine x_iload_n dX12_goesOn_61 rfl ?_
      refine z_putI hG hO.1 dX12_goesOn_62 f_X12_19_11 ⟨_, rfl, Or.inl rfl⟩ o1 (by decide) rfl rfl ⟨_, rfl⟩ (fun A2 e2 => ?_)
      replace h := h A2 e2
      refine x_aload_n dX12_goesOn_65 rfl ?_
      refine x_dup dX12_goesOn_66 rfl ?_
      refine x_get (v := .int (A.I p 3)) hG dX12_goesOn_67 f_X12_59_11 (kI e2 o1) (congrArg Value.int (sI_k e2 (by decide))) ?_
      refine x_iconst_ (v := (1 : Int32)) dX12_goesOn_70 (by decide) ?_
      refine x_iadd dX12_goesOn_71 ?_
      refine z_putI hG hO.1 dX12_goesOn_72 f_X12_59_11 ⟨_, rfl, Or.inl rfl⟩ (kI e2 o1) (by decide) rfl rfl ⟨_, rfl⟩ (fun A3 e3 => ?_)
      replace h := h A3 e3
      refine x_iconst_ (v := (0 : Int32)) dX12_goesOn_75 (by decide) ?_
      exact x_iret dX12_goesOn_76 rfl ⟨_, rfl, h⟩
    · replace h := h.2 c55
      refine x_iconst_ (v := (3 : Int32)) dX12_goesOn_58 (by decide) ?_
      exact x_iret dX12_goesOn_59 rfl ⟨_, rfl, h⟩
  · replace h := h.1 c1
    refine x_aload_n dX12_goesOn_4 rfl ?_
    obtain ⟨o5, h⟩ := h
    obtain ⟨R4, g4, h⟩ := h
    refine x_callV hG (Ky := kX12_next) (As := []) dX12_goesOn_5 o5 rfl lk_X12_55 me_X12_next is_X12_next se_X12_next rfl rfl (Nat.le_of_ble_eq_true rfl) (MX.post (m_X12_next hG hO g4) ?_)
    rintro _ A4 ⟨v4, rfl, h1⟩
    refine X.xok (fun w4 => ?_)
    replace h := h v4 A4 w4 h1
    change X _ _ _ _ A4 _ _ [.int v4]
    exact x_iret dX12_goesOn_8 rfl ⟨_, rfl, h⟩
def w_X12_loads (G : xG) (p : Nat) (w : Int32) (f : Int32) (a : Int32) (Q : Int32 → xA → Prop) (A : xA) : Prop := xok G A → (((f &&& (3 : Int32)) = (3 : Int32) → Q (2 : Int32) A) ∧ (¬ (f &&& (3 : Int32)) = (3 : Int32) → ((f = (6 : Int32) → Q (2 : Int32) A) ∧ (¬ f = (6 : Int32) → (((a &&& ((jishl (1 : Int32) (f &&& (3 : Int32))) - (1 : Int32))) = 0 → A.tg p = 12 ∧ (∃ b2 : Nat, (A.P p 0) = some b2 ∧ (A.tg b2 = 200 ∧ ((((jiushr a (2 : Int32)) < (nI (A.ln b2)) → vp_in (jiushr a (2 : Int32)) (A.ln b2) ∧ (∃ R5 : Int32 → xA → Prop, w_X12_makes G p w (if f = 0 then (jiushr (A.I b2 (ix (jiushr a (2 : Int32)))) ((8 : Int32) * (a &&& (3 : Int32)))).toInt8.toInt32 else (if f = (1 : Int32) then (jiushr (A.I b2 (ix (jiushr a (2 : Int32)))) ((8 : Int32) * (a &&& (3 : Int32)))).toInt16.toInt32 else (if f = (2 : Int32) then (jiushr (A.I b2 (ix (jiushr a (2 : Int32)))) ((8 : Int32) * (a &&& (3 : Int32)))) else (if f = (4 : Int32) then ((jiushr (A.I b2 (ix (jiushr a (2 : Int32)))) ((8 : Int32) * (a &&& (3 : Int32)))) &&& (255 : Int32)) else ((jiushr (A.I b2 (ix (jiushr a (2 : Int32)))) ((8 : Int32) * (a &&& (3 : Int32)))) &&& (65535 : Int32)))))) R5 A ∧ (∀ (v5 : Int32) (A5 : xA), xok G A5 → R5 v5 A5 → (Q v5 A5)))) ∧ (¬ (jiushr a (2 : Int32)) < (nI (A.ln b2)) → Q (5 : Int32) A)))))) ∧ (¬ (a &&& ((jishl (1 : Int32) (f &&& (3 : Int32))) - (1 : Int32))) = 0 → Q (4 : Int32) A))))))
theorem m_X12_loads (hG : xOK G) (hO : xHO G) {dp : Nat} {p : Nat} {w : Int32} {f : Int32} {a : Int32} {Q : Int32 → xA → Prop} {A : xA} (h : w_X12_loads G p w f a Q A) : MX G (dp + 2) kX12_loads [.ref p, .int w, .int f, .int a] A (hI Q) := by
  unfold w_X12_loads at h
  refine MX.of rfl (Nat.le_of_ble_eq_true rfl) ?_
  change X _ _ _ _ _ _ [some (.ref p), some (.int w), some (.int f), some (.int a), none, none] _
  refine X.xok (fun w0 => ?_)
  replace h := h w0
  refine x_iload_n dX12_loads_0 rfl ?_
  refine x_iconst_ (v := (3 : Int32)) dX12_loads_1 (by decide) ?_
  refine x_iand dX12_loads_2 ?_
  refine x_istore dX12_loads_3 (by decide) ?_
  refine x_iload dX12_loads_5 rfl ?_
  refine x_iconst_ (v := (3 : Int32)) dX12_loads_7 (by decide) ?_
  refine x_icmp_eq (tgt := 17) dX12_loads_8 (by decide) (fun c8 => ?_) (fun c8 => ?_)
  · replace h := h.1 c8
    refine x_iconst_ (v := (2 : Int32)) dX12_loads_17 (by decide) ?_
    exact x_iret dX12_loads_18 rfl ⟨_, rfl, h⟩
  · replace h := h.2 c8
    refine x_iload_n dX12_loads_11 rfl ?_
    refine x_bipush_ (v := (6 : Int32)) dX12_loads_12 (by decide) ?_
    refine x_icmp_ne (tgt := 19) dX12_loads_14 (by decide) (fun c14 => ?_) (fun c14 => ?_)
    · replace h := h.2 c14
      refine x_iload_n dX12_loads_19 rfl ?_
      refine x_iconst_ (v := (1 : Int32)) dX12_loads_20 (by decide) ?_
      refine x_iload dX12_loads_21 rfl ?_
      refine x_ishl dX12_loads_23 ?_
      refine x_eqi (v := (jishl (1 : Int32) (f &&& (3 : Int32)))) rfl ?_
      refine x_iconst_ (v := (1 : Int32)) dX12_loads_24 (by decide) ?_
      refine x_isub dX12_loads_25 ?_
      refine x_iand dX12_loads_26 ?_
      refine x_if_eq (tgt := 32) dX12_loads_27 (by decide) (fun c27 => ?_) (fun c27 => ?_)
      · replace h := h.1 c27
        refine x_iload_n dX12_loads_32 rfl ?_
        refine x_iconst_ (v := (2 : Int32)) dX12_loads_33 (by decide) ?_
        refine x_iushr dX12_loads_34 ?_
        refine x_eqi (v := (jiushr a (2 : Int32))) rfl ?_
        refine x_aload_n dX12_loads_35 rfl ?_
        obtain ⟨o1, h⟩ := h
        refine x_get (v := va_rf (A.P p 0)) hG dX12_loads_36 f_X12_23_11 o1 rfl ?_
        obtain ⟨b2, e2, h⟩ := h
        rw [e2]
        obtain ⟨o3, h⟩ := h
        refine x_alen hG (j := 0) dX12_loads_39 o3 ?_
        refine x_icmp_lt (tgt := 45) dX12_loads_40 (by decide) (fun c40 => ?_) (fun c40 => ?_)
        · replace h := h.1 c40
          refine x_aload_n dX12_loads_45 rfl ?_
          refine x_get (v := .ref b2) hG dX12_loads_46 f_X12_23_11 o1 (congrArg va_rf e2) ?_
          refine x_iload_n dX12_loads_49 rfl ?_
          refine x_iconst_ (v := (2 : Int32)) dX12_loads_50 (by decide) ?_
          refine x_iushr dX12_loads_51 ?_
          refine x_eqi (v := (jiushr a (2 : Int32))) rfl ?_
          obtain ⟨o4, h⟩ := h
          refine x_iald hG dX12_loads_52 o3 o4 ?_
          refine x_bipush_ (v := (8 : Int32)) dX12_loads_53 (by decide) ?_
          refine x_iload_n dX12_loads_55 rfl ?_
          refine x_iconst_ (v := (3 : Int32)) dX12_loads_56 (by decide) ?_
          refine x_iand dX12_loads_57 ?_
          refine x_imul dX12_loads_58 ?_
          refine x_iushr dX12_loads_59 ?_
          refine x_eqi (v := (jiushr (A.I b2 (ix (jiushr a (2 : Int32)))) ((8 : Int32) * (a &&& (3 : Int32))))) rfl ?_
          refine x_istore dX12_loads_60 (by decide) ?_
          refine x_aload_n dX12_loads_62 rfl ?_
          refine x_iload_n dX12_loads_63 rfl ?_
          refine x_iload_n dX12_loads_64 rfl ?_
          refine x_via 114 (A' := A) (lv' := [none, none, none, none, none, none]) (st' := [.int (if f = 0 then (jiushr (A.I b2 (ix (jiushr a (2 : Int32)))) ((8 : Int32) * (a &&& (3 : Int32)))).toInt8.toInt32 else (if f = (1 : Int32) then (jiushr (A.I b2 (ix (jiushr a (2 : Int32)))) ((8 : Int32) * (a &&& (3 : Int32)))).toInt16.toInt32 else (if f = (2 : Int32) then (jiushr (A.I b2 (ix (jiushr a (2 : Int32)))) ((8 : Int32) * (a &&& (3 : Int32)))) else (if f = (4 : Int32) then ((jiushr (A.I b2 (ix (jiushr a (2 : Int32)))) ((8 : Int32) * (a &&& (3 : Int32)))) &&& (255 : Int32)) else ((jiushr (A.I b2 (ix (jiushr a (2 : Int32)))) ((8 : Int32) * (a &&& (3 : Int32)))) &&& (65535 : Int32)))))), .int w, .ref p]) ?_ (fun k114 => ?_)
          rotate_left
          · refine x_if_ne (tgt := 74) dX12_loads_65 (by decide) (fun c65 => ?_) (fun c65 => ?_)
            · refine x_iload_n dX12_loads_74 rfl ?_
              refine x_iconst_ (v := (1 : Int32)) dX12_loads_75 (by decide) ?_
              refine x_icmp_ne (tgt := 85) dX12_loads_76 (by decide) (fun c76 => ?_) (fun c76 => ?_)
              · refine x_iload_n dX12_loads_85 rfl ?_
                refine x_iconst_ (v := (2 : Int32)) dX12_loads_86 (by decide) ?_
                refine x_icmp_ne (tgt := 95) dX12_loads_87 (by decide) (fun c87 => ?_) (fun c87 => ?_)
                · refine x_iload_n dX12_loads_95 rfl ?_
                  refine x_iconst_ (v := (4 : Int32)) dX12_loads_96 (by decide) ?_
                  refine x_icmp_ne (tgt := 109) dX12_loads_97 (by decide) (fun c97 => ?_) (fun c97 => ?_)
                  · refine x_iload dX12_loads_109 rfl ?_
                    refine x_ldc hG dX12_loads_111 q2916 ?_
                    refine x_iand dX12_loads_113 ?_
                    change X _ _ _ _ _ _ [some (.ref p), some (.int w), some (.int f), some (.int a), some (.int (f &&& (3 : Int32))), some (.int (jiushr (A.I b2 (ix (jiushr a (2 : Int32)))) ((8 : Int32) * (a &&& (3 : Int32)))))] [.int ((jiushr (A.I b2 (ix (jiushr a (2 : Int32)))) ((8 : Int32) * (a &&& (3 : Int32)))) &&& (65535 : Int32)), .int w, .ref p]
                    try simp only [if_neg c65] at c76 c87 c97 k114 ⊢
                    try simp only [if_neg c76] at c87 c97 k114 ⊢
                    try simp only [if_neg c87] at c97 k114 ⊢
                    try simp only [if_neg c97] at k114 ⊢
                    exact X.weak (xle_n (xle_n (xle_n (xle_n (xle_n (xle_n xle_nil)))))) k114
                  · refine x_iload dX12_loads_100 rfl ?_
                    refine x_sipush_ (v := (255 : Int32)) dX12_loads_102 (by decide) ?_
                    refine x_iand dX12_loads_105 ?_
                    refine x_goto (tgt := 114) dX12_loads_106 (by decide) ?_
                    change X _ _ _ _ _ _ [some (.ref p), some (.int w), some (.int f), some (.int a), some (.int (f &&& (3 : Int32))), some (.int (jiushr (A.I b2 (ix (jiushr a (2 : Int32)))) ((8 : Int32) * (a &&& (3 : Int32)))))] [.int ((jiushr (A.I b2 (ix (jiushr a (2 : Int32)))) ((8 : Int32) * (a &&& (3 : Int32)))) &&& (255 : Int32)), .int w, .ref p]
                    try simp only [if_neg c65] at c76 c87 c97 k114 ⊢
                    try simp only [if_neg c76] at c87 c97 k114 ⊢
                    try simp only [if_neg c87] at c97 k114 ⊢
                    try simp only [if_pos c97] at k114 ⊢
                    exact X.weak (xle_n (xle_n (xle_n (xle_n (xle_n (xle_n xle_nil)))))) k114
                · refine x_iload dX12_loads_90 rfl ?_
                  refine x_goto (tgt := 114) dX12_loads_92 (by decide) ?_
                  change X _ _ _ _ _ _ [some (.ref p), some (.int w), some (.int f), some (.int a), some (.int (f &&& (3 : Int32))), some (.int (jiushr (A.I b2 (ix (jiushr a (2 : Int32)))) ((8 : Int32) * (a &&& (3 : Int32)))))] [.int (jiushr (A.I b2 (ix (jiushr a (2 : Int32)))) ((8 : Int32) * (a &&& (3 : Int32)))), .int w, .ref p]
                  try simp only [if_neg c65] at c76 c87 k114 ⊢
                  try simp only [if_neg c76] at c87 k114 ⊢
                  try simp only [if_pos c87] at k114 ⊢
                  exact X.weak (xle_n (xle_n (xle_n (xle_n (xle_n (xle_n xle_nil)))))) k114
              · refine x_iload dX12_loads_79 rfl ?_
                refine x_i2s dX12_loads_81 ?_
                refine x_goto (tgt := 114) dX12_loads_82 (by decide) ?_
                change X _ _ _ _ _ _ [some (.ref p), some (.int w), some (.int f), some (.int a), some (.int (f &&& (3 : Int32))), some (.int (jiushr (A.I b2 (ix (jiushr a (2 : Int32)))) ((8 : Int32) * (a &&& (3 : Int32)))))] [.int (jiushr (A.I b2 (ix (jiushr a (2 : Int32)))) ((8 : Int32) * (a &&& (3 : Int32)))).toInt16.toInt32, .int w, .ref p]
                try simp only [if_neg c65] at c76 k114 ⊢
                try simp only [if_pos c76] at k114 ⊢
                exact X.weak (xle_n (xle_n (xle_n (xle_n (xle_n (xle_n xle_nil)))))) k114
            · refine x_iload dX12_loads_68 rfl ?_
              refine x_i2b dX12_loads_70 ?_
              refine x_goto (tgt := 114) dX12_loads_71 (by decide) ?_
              change X _ _ _ _ _ _ [some (.ref p), some (.int w), some (.int f), some (.int a), some (.int (f &&& (3 : Int32))), some (.int (jiushr (A.I b2 (ix (jiushr a (2 : Int32)))) ((8 : Int32) * (a &&& (3 : Int32)))))] [.int (jiushr (A.I b2 (ix (jiushr a (2 : Int32)))) ((8 : Int32) * (a &&& (3 : Int32)))).toInt8.toInt32, .int w, .ref p]
              simp only [if_pos c65] at k114 ⊢
              exact X.weak (xle_n (xle_n (xle_n (xle_n (xle_n (xle_n xle_nil)))))) k114
          obtain ⟨R5, g5, h⟩ := h
          refine x_callV hG (Ky := kX12_makes) (As := [.int w, .int (if f = 0 then (jiushr (A.I b2 (ix (jiushr a (2 : Int32)))) ((8 : Int32) * (a &&& (3 : Int32)))).toInt8.toInt32 else (if f = (1 : Int32) then (jiushr (A.I b2 (ix (jiushr a (2 : Int32)))) ((8 : Int32) * (a &&& (3 : Int32)))).toInt16.toInt32 else (if f = (2 : Int32) then (jiushr (A.I b2 (ix (jiushr a (2 : Int32)))) ((8 : Int32) * (a &&& (3 : Int32)))) else (if f = (4 : Int32) then ((jiushr (A.I b2 (ix (jiushr a (2 : Int32)))) ((8 : Int32) * (a &&& (3 : Int32)))) &&& (255 : Int32)) else ((jiushr (A.I b2 (ix (jiushr a (2 : Int32)))) ((8 : Int32) * (a &&& (3 : Int32)))) &&& (65535 : Int32))))))]) dX12_loads_114 o1 rfl lk_X12_26 me_X12_makes is_X12_makes se_X12_makes rfl rfl (Nat.le_of_ble_eq_true rfl) (MX.post (m_X12_makes hG hO g5) ?_)
          rintro _ A5 ⟨v5, rfl, h1⟩
          refine X.xok (fun w5 => ?_)
          replace h := h v5 A5 w5 h1
          change X _ _ _ _ A5 _ _ [.int v5]
          exact x_iret dX12_loads_117 rfl ⟨_, rfl, h⟩
        · replace h := h.2 c40
          refine x_iconst_ (v := (5 : Int32)) dX12_loads_43 (by decide) ?_
          exact x_iret dX12_loads_44 rfl ⟨_, rfl, h⟩
      · replace h := h.2 c27
        refine x_iconst_ (v := (4 : Int32)) dX12_loads_30 (by decide) ?_
        exact x_iret dX12_loads_31 rfl ⟨_, rfl, h⟩
    · replace h := h.1 c14
      refine x_iconst_ (v := (2 : Int32)) dX12_loads_17 (by decide) ?_
      exact x_iret dX12_loads_18 rfl ⟨_, rfl, h⟩
def w_X12_stores (G : xG) (p : Nat) (f : Int32) (a : Int32) (v : Int32) (Q : Int32 → xA → Prop) (A : xA) : Prop := xok G A → ((f ≤ (2 : Int32) → (((a &&& ((jishl (1 : Int32) f) - (1 : Int32))) = 0 → A.tg p = 12 ∧ (∃ b2 : Nat, (A.P p 0) = some b2 ∧ (A.tg b2 = 200 ∧ ((((jiushr a (2 : Int32)) < (nI (A.ln b2)) → vp_in (jiushr a (2 : Int32)) (A.ln b2) ∧ (G.N ≤ b2 ∧ (∀ A6 : xA, A6 = A.setI b2 (ix (jiushr a (2 : Int32))) (((A.I b2 (ix (jiushr a (2 : Int32)))) &&& ((jishl (if f = 0 then (255 : Int32) else (if f = (1 : Int32) then (65535 : Int32) else (-1 : Int32))) ((8 : Int32) * (a &&& (3 : Int32)))) ^^^ (-1 : Int32))) ||| ((jishl v ((8 : Int32) * (a &&& (3 : Int32)))) &&& (jishl (if f = 0 then (255 : Int32) else (if f = (1 : Int32) then (65535 : Int32) else (-1 : Int32))) ((8 : Int32) * (a &&& (3 : Int32)))))) → (∃ R7 : Int32 → xA → Prop, w_X12_next G p R7 A6 ∧ (∀ (v7 : Int32) (A7 : xA), xok G A7 → R7 v7 A7 → (Q v7 A7)))))) ∧ (¬ (jiushr a (2 : Int32)) < (nI (A.ln b2)) → Q (5 : Int32) A)))))) ∧ (¬ (a &&& ((jishl (1 : Int32) f) - (1 : Int32))) = 0 → Q (4 : Int32) A))) ∧ (¬ f ≤ (2 : Int32) → Q (2 : Int32) A))
theorem m_X12_stores (hG : xOK G) (hO : xHO G) {dp : Nat} {p : Nat} {f : Int32} {a : Int32} {v : Int32} {Q : Int32 → xA → Prop} {A : xA} (h : w_X12_stores G p f a v Q A) : MX G (dp + 1) kX12_stores [.ref p, .int f, .int a, .int v] A (hI Q) := by
  unfold w_X12_stores at h
  refine MX.of rfl (Nat.le_of_ble_eq_true rfl) ?_
  change X _ _ _ _ _ _ [some (.ref p), some (.int f), some (.int a), some (.int v), none, none] _
  refine X.xok (fun w0 => ?_)
  replace h := h w0
  refine x_iload_n dX12_stores_0 rfl ?_
  refine x_iconst_ (v := (2 : Int32)) dX12_stores_1 (by decide) ?_
  refine x_icmp_le (tgt := 7) dX12_stores_2 (by decide) (fun c2 => ?_) (fun c2 => ?_)
  · replace h := h.1 c2
    refine x_iload_n dX12_stores_7 rfl ?_
    refine x_iconst_ (v := (1 : Int32)) dX12_stores_8 (by decide) ?_
    refine x_iload_n dX12_stores_9 rfl ?_
    refine x_ishl dX12_stores_10 ?_
    refine x_eqi (v := (jishl (1 : Int32) f)) rfl ?_
    refine x_iconst_ (v := (1 : Int32)) dX12_stores_11 (by decide) ?_
    refine x_isub dX12_stores_12 ?_
    refine x_iand dX12_stores_13 ?_
    refine x_if_eq (tgt := 19) dX12_stores_14 (by decide) (fun c14 => ?_) (fun c14 => ?_)
    · replace h := h.1 c14
      refine x_iload_n dX12_stores_19 rfl ?_
      refine x_iconst_ (v := (2 : Int32)) dX12_stores_20 (by decide) ?_
      refine x_iushr dX12_stores_21 ?_
      refine x_eqi (v := (jiushr a (2 : Int32))) rfl ?_
      refine x_aload_n dX12_stores_22 rfl ?_
      obtain ⟨o1, h⟩ := h
      refine x_get (v := va_rf (A.P p 0)) hG dX12_stores_23 f_X12_23_11 o1 rfl ?_
      obtain ⟨b2, e2, h⟩ := h
      rw [e2]
      obtain ⟨o3, h⟩ := h
      refine x_alen hG (j := 0) dX12_stores_26 o3 ?_
      refine x_icmp_lt (tgt := 32) dX12_stores_27 (by decide) (fun c27 => ?_) (fun c27 => ?_)
      · replace h := h.1 c27
        refine x_bipush_ (v := (8 : Int32)) dX12_stores_32 (by decide) ?_
        refine x_iload_n dX12_stores_34 rfl ?_
        refine x_iconst_ (v := (3 : Int32)) dX12_stores_35 (by decide) ?_
        refine x_iand dX12_stores_36 ?_
        refine x_imul dX12_stores_37 ?_
        refine x_istore dX12_stores_38 (by decide) ?_
        refine x_iload_n dX12_stores_40 rfl ?_
        refine x_via 61 (A' := A) (lv' := [some (.ref p), none, some (.int a), some (.int v), some (.int ((8 : Int32) * (a &&& (3 : Int32)))), none]) (st' := [.int (if f = 0 then (255 : Int32) else (if f = (1 : Int32) then (65535 : Int32) else (-1 : Int32)))]) ?_ (fun k61 => ?_)
        rotate_left
        · refine x_if_ne (tgt := 50) dX12_stores_41 (by decide) (fun c41 => ?_) (fun c41 => ?_)
          · refine x_iload_n dX12_stores_50 rfl ?_
            refine x_iconst_ (v := (1 : Int32)) dX12_stores_51 (by decide) ?_
            refine x_icmp_ne (tgt := 60) dX12_stores_52 (by decide) (fun c52 => ?_) (fun c52 => ?_)
            · refine x_iconst_ (v := (-1 : Int32)) dX12_stores_60 (by decide) ?_
              change X _ _ _ _ _ _ [some (.ref p), some (.int f), some (.int a), some (.int v), some (.int ((8 : Int32) * (a &&& (3 : Int32)))), none] [.int (-1 : Int32)]
              try simp only [if_neg c41] at c52 k61 ⊢
              try simp only [if_neg c52] at k61 ⊢
              exact X.weak (xle_c rfl (xle_n (xle_c rfl (xle_c rfl (xle_c rfl (xle_n xle_nil)))))) k61
            · refine x_ldc hG dX12_stores_55 q2916 ?_
              refine x_goto (tgt := 61) dX12_stores_57 (by decide) ?_
              change X _ _ _ _ _ _ [some (.ref p), some (.int f), some (.int a), some (.int v), some (.int ((8 : Int32) * (a &&& (3 : Int32)))), none] [.int (65535 : Int32)]
              try simp only [if_neg c41] at c52 k61 ⊢
              try simp only [if_pos c52] at k61 ⊢
              exact X.weak (xle_c rfl (xle_n (xle_c rfl (xle_c rfl (xle_c rfl (xle_n xle_nil)))))) k61
          · refine x_sipush_ (v := (255 : Int32)) dX12_stores_44 (by decide) ?_
            refine x_goto (tgt := 61) dX12_stores_47 (by decide) ?_
            change X _ _ _ _ _ _ [some (.ref p), some (.int f), some (.int a), some (.int v), some (.int ((8 : Int32) * (a &&& (3 : Int32)))), none] [.int (255 : Int32)]
            simp only [if_pos c41] at k61 ⊢
            exact X.weak (xle_c rfl (xle_n (xle_c rfl (xle_c rfl (xle_c rfl (xle_n xle_nil)))))) k61
        refine x_iload dX12_stores_61 rfl ?_
        refine x_ishl dX12_stores_63 ?_
        refine x_eqi (v := (jishl (if f = 0 then (255 : Int32) else (if f = (1 : Int32) then (65535 : Int32) else (-1 : Int32))) ((8 : Int32) * (a &&& (3 : Int32))))) rfl ?_
        refine x_istore dX12_stores_64 (by decide) ?_
        refine x_aload_n dX12_stores_66 rfl ?_
        refine x_get (v := .ref b2) hG dX12_stores_67 f_X12_23_11 o1 (congrArg va_rf e2) ?_
        refine x_iload_n dX12_stores_70 rfl ?_
        refine x_iconst_ (v := (2 : Int32)) dX12_stores_71 (by decide) ?_
        refine x_iushr dX12_stores_72 ?_
        refine x_eqi (v := (jiushr a (2 : Int32))) rfl ?_
        refine x_aload_n dX12_stores_73 rfl ?_
        refine x_get (v := .ref b2) hG dX12_stores_74 f_X12_23_11 o1 (congrArg va_rf e2) ?_
        refine x_iload_n dX12_stores_77 rfl ?_
        refine x_iconst_ (v := (2 : Int32)) dX12_stores_78 (by decide) ?_
        refine x_iushr dX12_stores_79 ?_
        refine x_eqi (v := (jiushr a (2 : Int32))) rfl ?_
        obtain ⟨o4, h⟩ := h
        refine x_iald hG dX12_stores_80 o3 o4 ?_
        refine x_iload dX12_stores_81 rfl ?_
        refine x_iconst_ (v := (-1 : Int32)) dX12_stores_83 (by decide) ?_
        refine x_ixor dX12_stores_84 ?_
        refine x_iand dX12_stores_85 ?_
        refine x_iload_n dX12_stores_86 rfl ?_
        refine x_iload dX12_stores_87 rfl ?_
        refine x_ishl dX12_stores_89 ?_
        refine x_eqi (v := (jishl v ((8 : Int32) * (a &&& (3 : Int32))))) rfl ?_
        refine x_iload dX12_stores_90 rfl ?_
        refine x_iand dX12_stores_92 ?_
        refine x_ior dX12_stores_93 ?_
        obtain ⟨o5, h⟩ := h
        refine z_iast hG dX12_stores_94 o3 o5 o4 (fun A6 e6 => ?_)
        replace h := h A6 e6
        refine x_aload_n dX12_stores_95 rfl ?_
        obtain ⟨R7, g7, h⟩ := h
        refine x_callV hG (Ky := kX12_next) (As := []) dX12_stores_96 (kI e6 o1) rfl lk_X12_55 me_X12_next is_X12_next se_X12_next rfl rfl (Nat.le_of_ble_eq_true rfl) (MX.post (m_X12_next hG hO g7) ?_)
        rintro _ A7 ⟨v7, rfl, h1⟩
        refine X.xok (fun w7 => ?_)
        replace h := h v7 A7 w7 h1
        change X _ _ _ _ A7 _ _ [.int v7]
        exact x_iret dX12_stores_99 rfl ⟨_, rfl, h⟩
      · replace h := h.2 c27
        refine x_iconst_ (v := (5 : Int32)) dX12_stores_30 (by decide) ?_
        exact x_iret dX12_stores_31 rfl ⟨_, rfl, h⟩
    · replace h := h.2 c14
      refine x_iconst_ (v := (4 : Int32)) dX12_stores_17 (by decide) ?_
      exact x_iret dX12_stores_18 rfl ⟨_, rfl, h⟩
  · replace h := h.2 c2
    refine x_iconst_ (v := (2 : Int32)) dX12_stores_5 (by decide) ?_
    exact x_iret dX12_stores_6 rfl ⟨_, rfl, h⟩
def w_X12_reckons (G : xG) (p : Nat) (w : Int32) (f : Int32) (a : Int32) (Q : Int32 → xA → Prop) (A : xA) : Prop := xok G A → ((f = (1 : Int32) → (((jiushr w (25 : Int32)) = 0 → A.tg p = 12 ∧ (∃ R7 : Int32 → xA → Prop, w_X12_makes G p w (jishl a ((jishr w (20 : Int32)) &&& (31 : Int32))) R7 A ∧ (∀ (v7 : Int32) (A7 : xA), xok G A7 → R7 v7 A7 → (Q v7 A7)))) ∧ (¬ (jiushr w (25 : Int32)) = 0 → Q (2 : Int32) A))) ∧ (¬ f = (1 : Int32) → ((f = (5 : Int32) → (((jiushr w (25 : Int32)) = 0 → A.tg p = 12 ∧ (∃ R3 : Int32 → xA → Prop, w_X12_makes G p w (jiushr a ((jishr w (20 : Int32)) &&& (31 : Int32))) R3 A ∧ (∀ (v3 : Int32) (A3 : xA), xok G A3 → R3 v3 A3 → (Q v3 A3)))) ∧ (¬ (jiushr w (25 : Int32)) = 0 → (((jiushr w (25 : Int32)) = (32 : Int32) → A.tg p = 12 ∧ (∃ R5 : Int32 → xA → Prop, w_X12_makes G p w (jishr a ((jishr w (20 : Int32)) &&& (31 : Int32))) R5 A ∧ (∀ (v5 : Int32) (A5 : xA), xok G A5 → R5 v5 A5 → (Q v5 A5)))) ∧ (¬ (jiushr w (25 : Int32)) = (32 : Int32) → Q (2 : Int32) A))))) ∧ (¬ f = (5 : Int32) → A.tg p = 12 ∧ (∃ R1 : Int32 → xA → Prop, w_X12_makes G p w (f_X12_plain f a (jishr w (20 : Int32))) R1 A ∧ (∀ (v1 : Int32) (A1 : xA), xok G A1 → R1 v1 A1 → (Q v1 A1)))))))
theorem m_X12_reckons (hG : xOK G) (hO : xHO G) {dp : Nat} {p : Nat} {w : Int32} {f : Int32} {a : Int32} {Q : Int32 → xA → Prop} {A : xA} (h : w_X12_reckons G p w f a Q A) : MX G (dp + 2) kX12_reckons [.ref p, .int w, .int f, .int a] A (hI Q) := by
  unfold w_X12_reckons at h
  refine MX.of rfl (Nat.le_of_ble_eq_true rfl) ?_
  change X _ _ _ _ _ _ [some (.ref p), some (.int w), some (.int f), some (.int a), none, none, none] _
  refine X.xok (fun w0 => ?_)
  replace h := h w0
  refine x_iload_n dX12_reckons_0 rfl ?_
  refine x_bipush_ (v := (20 : Int32)) dX12_reckons_1 (by decide) ?_
  refine x_ishr dX12_reckons_3 ?_
  refine x_eqi (v := (jishr w (20 : Int32))) rfl ?_
  refine x_istore dX12_reckons_4 (by decide) ?_
  refine x_iload_n dX12_reckons_6 rfl ?_
  refine x_bipush_ (v := (25 : Int32)) dX12_reckons_7 (by decide) ?_
  refine x_iushr dX12_reckons_9 ?_
  refine x_eqi (v := (jiushr w (25 : Int32))) rfl ?_
  refine x_istore dX12_reckons_10 (by decide) ?_
  refine x_iload dX12_reckons_12 rfl ?_
  refine x_bipush_ (v := (31 : Int32)) dX12_reckons_14 (by decide) ?_
  refine x_iand dX12_reckons_16 ?_
  refine x_istore dX12_reckons_17 (by decide) ?_
  refine x_iload_n dX12_reckons_19 rfl ?_
  refine x_iconst_ (v := (1 : Int32)) dX12_reckons_20 (by decide) ?_
  refine x_icmp_ne (tgt := 29) dX12_reckons_21 (by decide) (fun c21 => ?_) (fun c21 => ?_)
  · replace h := h.2 c21
    refine x_iload_n dX12_reckons_29 rfl ?_
    refine x_iconst_ (v := (5 : Int32)) dX12_reckons_30 (by decide) ?_
    refine x_icmp_ne (tgt := 48) dX12_reckons_31 (by decide) (fun c31 => ?_) (fun c31 => ?_)
    · replace h := h.2 c31
      refine x_aload_n dX12_reckons_48 rfl ?_
      refine x_iload_n dX12_reckons_49 rfl ?_
      refine x_iload_n dX12_reckons_50 rfl ?_
      refine x_iconst_ (v := (1 : Int32)) dX12_reckons_51 (by decide) ?_
      refine x_icmp_ne (tgt := 62) dX12_reckons_52 (by decide) (fun _ => ?_) (fun h => absurd h c21)
      refine x_iload_n dX12_reckons_62 rfl ?_
      refine x_iconst_ (v := (5 : Int32)) dX12_reckons_63 (by decide) ?_
      refine x_icmp_ne (tgt := 86) dX12_reckons_64 (by decide) (fun _ => ?_) (fun h => absurd h c31)
      refine x_iload_n dX12_reckons_86 rfl ?_
      refine x_iload_n dX12_reckons_87 rfl ?_
      refine x_iload dX12_reckons_88 rfl ?_
      refine x_callS hG (Ky := kX12_plain) (As := [.int f, .int a, .int (jishr w (20 : Int32))]) dX12_reckons_90 lk_X12_66 me_X12_plain st_X12_plain rfl rfl (Nat.le_of_ble_eq_true rfl) (MX.post (m_X12_plain hG) ?_)
      rintro _ _ ⟨rfl, rfl⟩
      change X _ _ _ _ _ _ _ (.int (f_X12_plain f a (jishr w (20 : Int32))) :: _)
      obtain ⟨o2, h⟩ := h
      obtain ⟨R1, g1, h⟩ := h
      refine x_callV hG (Ky := kX12_makes) (As := [.int w, .int (f_X12_plain f a (jishr w (20 : Int32)))]) dX12_reckons_93 o2 rfl lk_X12_26 me_X12_makes is_X12_makes se_X12_makes rfl rfl (Nat.le_of_ble_eq_true rfl) (MX.post (m_X12_makes hG hO g1) ?_)
      rintro _ A1 ⟨v1, rfl, h1⟩
      refine X.xok (fun w1 => ?_)
      replace h := h v1 A1 w1 h1
      change X _ _ _ _ A1 _ _ [.int v1]
      exact x_iret dX12_reckons_96 rfl ⟨_, rfl, h⟩
    · replace h := h.1 c31
      refine x_iload dX12_reckons_34 rfl ?_
      refine x_if_eq (tgt := 48) dX12_reckons_36 (by decide) (fun c36 => ?_) (fun c36 => ?_)
      · replace h := h.1 c36
        refine x_aload_n dX12_reckons_48 rfl ?_
        refine x_iload_n dX12_reckons_49 rfl ?_
        refine x_iload_n dX12_reckons_50 rfl ?_
        refine x_iconst_ (v := (1 : Int32)) dX12_reckons_51 (by decide) ?_
        refine x_icmp_ne (tgt := 62) dX12_reckons_52 (by decide) (fun _ => ?_) (fun h => absurd h c21)
        refine x_iload_n dX12_reckons_62 rfl ?_
        refine x_iconst_ (v := (5 : Int32)) dX12_reckons_63 (by decide) ?_
        refine x_icmp_ne (tgt := 86) dX12_reckons_64 (by decide) (fun h => absurd c31 h) (fun _ => ?_)
        refine x_iload dX12_reckons_67 rfl ?_
        refine x_if_ne (tgt := 79) dX12_reckons_69 (by decide) (fun h => absurd c36 h) (fun _ => ?_)
        refine x_iload_n dX12_reckons_72 rfl ?_
        refine x_iload dX12_reckons_73 rfl ?_
        refine x_iushr dX12_reckons_75 ?_
        refine x_eqi (v := (jiushr a ((jishr w (20 : Int32)) &&& (31 : Int32)))) rfl ?_
        refine x_goto (tgt := 93) dX12_reckons_76 (by decide) ?_
        obtain ⟨o4, h⟩ := h
        obtain ⟨R3, g3, h⟩ := h
        refine x_callV hG (Ky := kX12_makes) (As := [.int w, .int (jiushr a ((jishr w (20 : Int32)) &&& (31 : Int32)))]) dX12_reckons_93 o4 rfl lk_X12_26 me_X12_makes is_X12_makes se_X12_makes rfl rfl (Nat.le_of_ble_eq_true rfl) (MX.post (m_X12_makes hG hO g3) ?_)
        rintro _ A3 ⟨v3, rfl, h1⟩
        refine X.xok (fun w3 => ?_)
        replace h := h v3 A3 w3 h1
        change X _ _ _ _ A3 _ _ [.int v3]
        exact x_iret dX12_reckons_96 rfl ⟨_, rfl, h⟩
      · replace h := h.2 c36
        refine x_iload dX12_reckons_39 rfl ?_
        refine x_bipush_ (v := (32 : Int32)) dX12_reckons_41 (by decide) ?_
        refine x_icmp_eq (tgt := 48) dX12_reckons_43 (by decide) (fun c43 => ?_) (fun c43 => ?_)
        · replace h := h.1 c43
          refine x_aload_n dX12_reckons_48 rfl ?_
          refine x_iload_n dX12_reckons_49 rfl ?_
          refine x_iload_n dX12_reckons_50 rfl ?_
          refine x_iconst_ (v := (1 : Int32)) dX12_reckons_51 (by decide) ?_
          refine x_icmp_ne (tgt := 62) dX12_reckons_52 (by decide) (fun _ => ?_) (fun h => absurd h c21)
          refine x_iload_n dX12_reckons_62 rfl ?_
          refine x_iconst_ (v := (5 : Int32)) dX12_reckons_63 (by decide) ?_
          refine x_icmp_ne (tgt := 86) dX12_reckons_64 (by decide) (fun h => absurd c31 h) (fun _ => ?_)
          refine x_iload dX12_reckons_67 rfl ?_
          refine x_if_ne (tgt := 79) dX12_reckons_69 (by decide) (fun _ => ?_) (fun h => absurd h c36)
          refine x_iload_n dX12_reckons_79 rfl ?_
          refine x_iload dX12_reckons_80 rfl ?_
          refine x_ishr dX12_reckons_82 ?_
          refine x_eqi (v := (jishr a ((jishr w (20 : Int32)) &&& (31 : Int32)))) rfl ?_
          refine x_goto (tgt := 93) dX12_reckons_83 (by decide) ?_
          obtain ⟨o6, h⟩ := h
          obtain ⟨R5, g5, h⟩ := h
          refine x_callV hG (Ky := kX12_makes) (As := [.int w, .int (jishr a ((jishr w (20 : Int32)) &&& (31 : Int32)))]) dX12_reckons_93 o6 rfl lk_X12_26 me_X12_makes is_X12_makes se_X12_makes rfl rfl (Nat.le_of_ble_eq_true rfl) (MX.post (m_X12_makes hG hO g5) ?_)
          rintro _ A5 ⟨v5, rfl, h1⟩
          refine X.xok (fun w5 => ?_)
          replace h := h v5 A5 w5 h1
          change X _ _ _ _ A5 _ _ [.int v5]
          exact x_iret dX12_reckons_96 rfl ⟨_, rfl, h⟩
        · replace h := h.2 c43
          refine x_iconst_ (v := (2 : Int32)) dX12_reckons_46 (by decide) ?_
          exact x_iret dX12_reckons_47 rfl ⟨_, rfl, h⟩
  · replace h := h.1 c21
    refine x_iload dX12_reckons_24 rfl ?_
    refine x_if_ne (tgt := 46) dX12_reckons_26 (by decide) (fun c26 => ?_) (fun c26 => ?_)
    · replace h := h.2 c26
      refine x_iconst_ (v := (2 : Int32)) dX12_reckons_46 (by decide) ?_
      exact x_iret dX12_reckons_47 rfl ⟨_, rfl, h⟩
    · replace h := h.1 c26
      refine x_iload_n dX12_reckons_29 rfl ?_
      refine x_iconst_ (v := (5 : Int32)) dX12_reckons_30 (by decide) ?_
      refine x_icmp_ne (tgt := 48) dX12_reckons_31 (by decide) (fun _ => ?_) (fun h => absurd h (by rw [c21]; decide))
      refine x_aload_n dX12_reckons_48 rfl ?_
      refine x_iload_n dX12_reckons_49 rfl ?_
      refine x_iload_n dX12_reckons_50 rfl ?_
      refine x_iconst_ (v := (1 : Int32)) dX12_reckons_51 (by decide) ?_
      refine x_icmp_ne (tgt := 62) dX12_reckons_52 (by decide) (fun h => absurd c21 h) (fun _ => ?_)
      refine x_iload_n dX12_reckons_55 rfl ?_
      refine x_iload dX12_reckons_56 rfl ?_
      refine x_ishl dX12_reckons_58 ?_
      refine x_eqi (v := (jishl a ((jishr w (20 : Int32)) &&& (31 : Int32)))) rfl ?_
      refine x_goto (tgt := 93) dX12_reckons_59 (by decide) ?_
      obtain ⟨o8, h⟩ := h
      obtain ⟨R7, g7, h⟩ := h
      refine x_callV hG (Ky := kX12_makes) (As := [.int w, .int (jishl a ((jishr w (20 : Int32)) &&& (31 : Int32)))]) dX12_reckons_93 o8 rfl lk_X12_26 me_X12_makes is_X12_makes se_X12_makes rfl rfl (Nat.le_of_ble_eq_true rfl) (MX.post (m_X12_makes hG hO g7) ?_)
      rintro _ A7 ⟨v7, rfl, h1⟩
      refine X.xok (fun w7 => ?_)
      replace h := h v7 A7 w7 h1
      change X _ _ _ _ A7 _ _ [.int v7]
      exact x_iret dX12_reckons_96 rfl ⟨_, rfl, h⟩
def w_X12_reckons_2 (G : xG) (p : Nat) (w : Int32) (f : Int32) (a : Int32) (b : Int32) (Q : Int32 → xA → Prop) (A : xA) : Prop := xok G A → ((((jiushr w (25 : Int32)) = (0 : Int32)) → A.tg p = 12 ∧ (∃ R2 : Int32 → xA → Prop, w_X12_makes G p w (f_X12_plain f a b) R2 A ∧ (∀ (v2 : Int32) (A2 : xA), xok G A2 → R2 v2 A2 → (Q v2 A2)))) ∧ (((jiushr w (25 : Int32)) = (1 : Int32)) → A.tg p = 12 ∧ (∃ R4 : Int32 → xA → Prop, w_X12_makes G p w (f_X12_product f a b) R4 A ∧ (∀ (v4 : Int32) (A4 : xA), xok G A4 → R4 v4 A4 → (Q v4 A4)))) ∧ (((jiushr w (25 : Int32)) = (32 : Int32)) → ((f = 0 → A.tg p = 12 ∧ (∃ R8 : Int32 → xA → Prop, w_X12_makes G p w (a - b) R8 A ∧ (∀ (v8 : Int32) (A8 : xA), xok G A8 → R8 v8 A8 → (Q v8 A8)))) ∧ (¬ f = 0 → ((f = (5 : Int32) → A.tg p = 12 ∧ (∃ R6 : Int32 → xA → Prop, w_X12_makes G p w (jishr a (b &&& (31 : Int32))) R6 A ∧ (∀ (v6 : Int32) (A6 : xA), xok G A6 → R6 v6 A6 → (Q v6 A6)))) ∧ (¬ f = (5 : Int32) → Q (2 : Int32) A))))) ∧ ((¬ (jiushr w (25 : Int32)) = (0 : Int32) ∧ ¬ (jiushr w (25 : Int32)) = (1 : Int32) ∧ ¬ (jiushr w (25 : Int32)) = (32 : Int32)) → Q (2 : Int32) A))
theorem m_X12_reckons_2 (hG : xOK G) (hO : xHO G) {dp : Nat} {p : Nat} {w : Int32} {f : Int32} {a : Int32} {b : Int32} {Q : Int32 → xA → Prop} {A : xA} (h : w_X12_reckons_2 G p w f a b Q A) : MX G (dp + 2) kX12_reckons_2 [.ref p, .int w, .int f, .int a, .int b] A (hI Q) := by
  unfold w_X12_reckons_2 at h
  refine MX.of rfl (Nat.le_of_ble_eq_true rfl) ?_
  change X _ _ _ _ _ _ [some (.ref p), some (.int w), some (.int f), some (.int a), some (.int b)] _
  refine X.xok (fun w0 => ?_)
  replace h := h w0
  refine x_iload_n dX12_reckons_2_0 rfl ?_
  refine x_bipush_ (v := (25 : Int32)) dX12_reckons_2_1 (by decide) ?_
  refine x_iushr dX12_reckons_2_3 ?_
  refine x_eqi (v := (jiushr w (25 : Int32))) rfl ?_
  have kt1_0 : ((jiushr w (25 : Int32)) = (0 : Int32)) → X G (dp + 2) kX12_reckons_2 (hI Q) A 40 [some (.ref p), some (.int w), some (.int f), some (.int a), some (.int b)] [] := by
    intro c4
    replace h := h.1 c4
    refine x_aload_n dX12_reckons_2_40 rfl ?_
    refine x_iload_n dX12_reckons_2_41 rfl ?_
    refine x_iload_n dX12_reckons_2_42 rfl ?_
    refine x_iload_n dX12_reckons_2_43 rfl ?_
    refine x_iload dX12_reckons_2_44 rfl ?_
    refine x_callS hG (Ky := kX12_plain) (As := [.int f, .int a, .int b]) dX12_reckons_2_46 lk_X12_66 me_X12_plain st_X12_plain rfl rfl (Nat.le_of_ble_eq_true rfl) (MX.post (m_X12_plain hG) ?_)
    rintro _ _ ⟨rfl, rfl⟩
    change X _ _ _ _ _ _ _ (.int (f_X12_plain f a b) :: _)
    obtain ⟨o3, h⟩ := h
    obtain ⟨R2, g2, h⟩ := h
    refine x_callV hG (Ky := kX12_makes) (As := [.int w, .int (f_X12_plain f a b)]) dX12_reckons_2_49 o3 rfl lk_X12_26 me_X12_makes is_X12_makes se_X12_makes rfl rfl (Nat.le_of_ble_eq_true rfl) (MX.post (m_X12_makes hG hO g2) ?_)
    rintro _ A2 ⟨v2, rfl, h1⟩
    refine X.xok (fun w2 => ?_)
    replace h := h v2 A2 w2 h1
    change X _ _ _ _ A2 _ _ [.int v2]
    exact x_iret dX12_reckons_2_52 rfl ⟨_, rfl, h⟩
  have kt1_1 : ((jiushr w (25 : Int32)) = (1 : Int32)) → X G (dp + 2) kX12_reckons_2 (hI Q) A 53 [some (.ref p), some (.int w), some (.int f), some (.int a), some (.int b)] [] := by
    intro c4
    replace h := h.2.1 c4
    refine x_aload_n dX12_reckons_2_53 rfl ?_
    refine x_iload_n dX12_reckons_2_54 rfl ?_
    refine x_iload_n dX12_reckons_2_55 rfl ?_
    refine x_iload_n dX12_reckons_2_56 rfl ?_
    refine x_iload dX12_reckons_2_57 rfl ?_
    refine x_callS hG (Ky := kX12_product) (As := [.int f, .int a, .int b]) dX12_reckons_2_59 lk_X12_69 me_X12_product st_X12_product rfl rfl (Nat.le_of_ble_eq_true rfl) (MX.post (m_X12_product hG pp_X12_product) ?_)
    rintro _ _ ⟨rfl, rfl⟩
    change X _ _ _ _ _ _ _ (.int (f_X12_product f a b) :: _)
    obtain ⟨o5, h⟩ := h
    obtain ⟨R4, g4, h⟩ := h
    refine x_callV hG (Ky := kX12_makes) (As := [.int w, .int (f_X12_product f a b)]) dX12_reckons_2_62 o5 rfl lk_X12_26 me_X12_makes is_X12_makes se_X12_makes rfl rfl (Nat.le_of_ble_eq_true rfl) (MX.post (m_X12_makes hG hO g4) ?_)
    rintro _ A4 ⟨v4, rfl, h1⟩
    refine X.xok (fun w4 => ?_)
    replace h := h v4 A4 w4 h1
    change X _ _ _ _ A4 _ _ [.int v4]
    exact x_iret dX12_reckons_2_65 rfl ⟨_, rfl, h⟩
  have kt1_2 : ((jiushr w (25 : Int32)) = (32 : Int32)) → X G (dp + 2) kX12_reckons_2 (hI Q) A 66 [some (.ref p), some (.int w), some (.int f), some (.int a), some (.int b)] [] := by
    intro c4
    replace h := h.2.2.1 c4
    refine x_iload_n dX12_reckons_2_66 rfl ?_
    refine x_if_ne (tgt := 82) dX12_reckons_2_67 (by decide) (fun c67 => ?_) (fun c67 => ?_)
    · replace h := h.2 c67
      refine x_iload_n dX12_reckons_2_82 rfl ?_
      refine x_iconst_ (v := (5 : Int32)) dX12_reckons_2_83 (by decide) ?_
      refine x_icmp_ne (tgt := 102) dX12_reckons_2_84 (by decide) (fun c84 => ?_) (fun c84 => ?_)
      · replace h := h.2 c84
        refine x_iconst_ (v := (2 : Int32)) dX12_reckons_2_102 (by decide) ?_
        exact x_iret dX12_reckons_2_103 rfl ⟨_, rfl, h⟩
      · replace h := h.1 c84
        refine x_aload_n dX12_reckons_2_87 rfl ?_
        refine x_iload_n dX12_reckons_2_88 rfl ?_
        refine x_iload_n dX12_reckons_2_89 rfl ?_
        refine x_iload dX12_reckons_2_90 rfl ?_
        refine x_bipush_ (v := (31 : Int32)) dX12_reckons_2_92 (by decide) ?_
        refine x_iand dX12_reckons_2_94 ?_
        refine x_ishr dX12_reckons_2_95 ?_
        refine x_eqi (v := (jishr a (b &&& (31 : Int32)))) rfl ?_
        obtain ⟨o7, h⟩ := h
        obtain ⟨R6, g6, h⟩ := h
        refine x_callV hG (Ky := kX12_makes) (As := [.int w, .int (jishr a (b &&& (31 : Int32)))]) dX12_reckons_2_96 o7 rfl lk_X12_26 me_X12_makes is_X12_makes se_X12_makes rfl rfl (Nat.le_of_ble_eq_true rfl) (MX.post (m_X12_makes hG hO g6) ?_)
        rintro _ A6 ⟨v6, rfl, h1⟩
        refine X.xok (fun w6 => ?_)
        replace h := h v6 A6 w6 h1
        change X _ _ _ _ A6 _ _ [.int v6]
        refine x_goto (tgt := 103) dX12_reckons_2_99 (by decide) ?_
        exact x_iret dX12_reckons_2_103 rfl ⟨_, rfl, h⟩
    · replace h := h.1 c67
      refine x_aload_n dX12_reckons_2_70 rfl ?_
      refine x_iload_n dX12_reckons_2_71 rfl ?_
      refine x_iload_n dX12_reckons_2_72 rfl ?_
      refine x_iload dX12_reckons_2_73 rfl ?_
      refine x_isub dX12_reckons_2_75 ?_
      obtain ⟨o9, h⟩ := h
      obtain ⟨R8, g8, h⟩ := h
      refine x_callV hG (Ky := kX12_makes) (As := [.int w, .int (a - b)]) dX12_reckons_2_76 o9 rfl lk_X12_26 me_X12_makes is_X12_makes se_X12_makes rfl rfl (Nat.le_of_ble_eq_true rfl) (MX.post (m_X12_makes hG hO g8) ?_)
      rintro _ A8 ⟨v8, rfl, h1⟩
      refine X.xok (fun w8 => ?_)
      replace h := h v8 A8 w8 h1
      change X _ _ _ _ A8 _ _ [.int v8]
      refine x_goto (tgt := 103) dX12_reckons_2_79 (by decide) ?_
      exact x_iret dX12_reckons_2_103 rfl ⟨_, rfl, h⟩
  have kd1 : (¬ (jiushr w (25 : Int32)) = (0 : Int32) ∧ ¬ (jiushr w (25 : Int32)) = (1 : Int32) ∧ ¬ (jiushr w (25 : Int32)) = (32 : Int32)) → X G (dp + 2) kX12_reckons_2 (hI Q) A 104 [some (.ref p), some (.int w), some (.int f), some (.int a), some (.int b)] [] := by
    intro c4
    replace h := h.2.2.2 c4
    refine x_iconst_ (v := (2 : Int32)) dX12_reckons_2_104 (by decide) ?_
    exact x_iret dX12_reckons_2_105 rfl ⟨_, rfl, h⟩
  refine x_sw (0 : Int32) (fun s4_0 => ?_) (fun s4_0 => ?_)
  · refine x_lookup (off := 36) (tgt := 40) dX12_reckons_2_4 (by decide) (by rw [s4_0]; rfl) (by decide) ?_
    exact kt1_0 s4_0
  refine x_sw (1 : Int32) (fun s4_1 => ?_) (fun s4_1 => ?_)
  · refine x_lookup (off := 49) (tgt := 53) dX12_reckons_2_4 (by decide) (by rw [s4_1]; rfl) (by decide) ?_
    exact kt1_1 s4_1
  refine x_sw (32 : Int32) (fun s4_2 => ?_) (fun s4_2 => ?_)
  · refine x_lookup (off := 62) (tgt := 66) dX12_reckons_2_4 (by decide) (by rw [s4_2]; rfl) (by decide) ?_
    exact kt1_2 s4_2
  refine x_lookup (off := 100) (tgt := 104) dX12_reckons_2_4 (by decide) (by show Op.lookupswitch.offset [(0, 36), (1, 49), (32, 62)] _ _ = _; rw [lv_osw s4_0 (by decide), lv_osw s4_1 (by decide), lv_osw s4_2 (by decide)]; rfl) (by decide) ?_
  exact kd1 ⟨s4_0, s4_1, s4_2⟩
def w_X12_step (G : xG) (p : Nat) (Q : Int32 → xA → Prop) (A : xA) : Prop := xok G A → A.tg p = 12 ∧ (((((A.I p 2) &&& (3 : Int32)) = 0 → ∃ b2 : Nat, (A.P p 0) = some b2 ∧ (A.tg b2 = 200 ∧ ((((jiushr (A.I p 2) (2 : Int32)) < (nI (A.ln b2)) → vp_in (jiushr (A.I p 2) (2 : Int32)) (A.ln b2) ∧ (∃ b5 : Nat, (A.P p 1) = some b5 ∧ (A.tg b5 = 200 ∧ (vp_in ((jishr (A.I b2 (ix (jiushr (A.I p 2) (2 : Int32)))) (15 : Int32)) &&& (31 : Int32)) (A.ln b5) ∧ (vp_in ((jishr (A.I b2 (ix (jiushr (A.I p 2) (2 : Int32)))) (20 : Int32)) &&& (31 : Int32)) (A.ln b5) ∧ ((((((A.I b2 (ix (jiushr (A.I p 2) (2 : Int32)))) &&& (127 : Int32)) = (55 : Int32)) → ∃ R10 : Int32 → xA → Prop, w_X12_makes G p (A.I b2 (ix (jiushr (A.I p 2) (2 : Int32)))) ((A.I b2 (ix (jiushr (A.I p 2) (2 : Int32)))) &&& (-4096 : Int32)) R10 A ∧ (∀ (v10 : Int32) (A10 : xA), xok G A10 → R10 v10 A10 → (Q v10 A10))) ∧ ((((A.I b2 (ix (jiushr (A.I p 2) (2 : Int32)))) &&& (127 : Int32)) = (23 : Int32)) → ∃ R11 : Int32 → xA → Prop, w_X12_makes G p (A.I b2 (ix (jiushr (A.I p 2) (2 : Int32)))) ((A.I p 2) + ((A.I b2 (ix (jiushr (A.I p 2) (2 : Int32)))) &&& (-4096 : Int32))) R11 A ∧ (∀ (v11 : Int32) (A11 : xA), xok G A11 → R11 v11 A11 → (Q v11 A11))) ∧ ((((A.I b2 (ix (jiushr (A.I p 2) (2 : Int32)))) &&& (127 : Int32)) = (111 : Int32)) → ∃ R12 : Int32 → xA → Prop, w_X12_jumps G p (A.I b2 (ix (jiushr (A.I p 2) (2 : Int32)))) ((A.I p 2) + ((((jishl (jishr (A.I b2 (ix (jiushr (A.I p 2) (2 : Int32)))) (31 : Int32)) (20 : Int32)) ||| ((A.I b2 (ix (jiushr (A.I p 2) (2 : Int32)))) &&& (1044480 : Int32))) ||| (jishl ((jishr (A.I b2 (ix (jiushr (A.I p 2) (2 : Int32)))) (20 : Int32)) &&& (1 : Int32)) (11 : Int32))) ||| (jishl ((jishr (A.I b2 (ix (jiushr (A.I p 2) (2 : Int32)))) (21 : Int32)) &&& (1023 : Int32)) (1 : Int32)))) R12 A ∧ (∀ (v12 : Int32) (A12 : xA), xok G A12 → R12 v12 A12 → (Q v12 A12))) ∧ ((((A.I b2 (ix (jiushr (A.I p 2) (2 : Int32)))) &&& (127 : Int32)) = (103 : Int32)) → ((((jishr (A.I b2 (ix (jiushr (A.I p 2) (2 : Int32)))) (12 : Int32)) &&& (7 : Int32)) = 0 → ∃ R13 : Int32 → xA → Prop, w_X12_jumps G p (A.I b2 (ix (jiushr (A.I p 2) (2 : Int32)))) (((A.I b5 (ix ((jishr (A.I b2 (ix (jiushr (A.I p 2) (2 : Int32)))) (15 : Int32)) &&& (31 : Int32)))) + (jishr (A.I b2 (ix (jiushr (A.I p 2) (2 : Int32)))) (20 : Int32))) &&& (-2 : Int32)) R13 A ∧ (∀ (v13 : Int32) (A13 : xA), xok G A13 → R13 v13 A13 → (Q v13 A13))) ∧ (¬ ((jishr (A.I b2 (ix (jiushr (A.I p 2) (2 : Int32)))) (12 : Int32)) &&& (7 : Int32)) = 0 → Q (2 : Int32) A))) ∧ ((((A.I b2 (ix (jiushr (A.I p 2) (2 : Int32)))) &&& (127 : Int32)) = (99 : Int32)) → ((((jishr (A.I b2 (ix (jiushr (A.I p 2) (2 : Int32)))) (12 : Int32)) &&& (7 : Int32)) = (2 : Int32) → Q (2 : Int32) A) ∧ (¬ ((jishr (A.I b2 (ix (jiushr (A.I p 2) (2 : Int32)))) (12 : Int32)) &&& (7 : Int32)) = (2 : Int32) → ((((jishr (A.I b2 (ix (jiushr (A.I p 2) (2 : Int32)))) (12 : Int32)) &&& (7 : Int32)) = (3 : Int32) → Q (2 : Int32) A) ∧ (¬ ((jishr (A.I b2 (ix (jiushr (A.I p 2) (2 : Int32)))) (12 : Int32)) &&& (7 : Int32)) = (3 : Int32) → ∃ R14 : Int32 → xA → Prop, w_X12_goesOn G p (A.I b2 (ix (jiushr (A.I p 2) (2 : Int32)))) (f_X12_goes ((jishr (A.I b2 (ix (jiushr (A.I p 2) (2 : Int32)))) (12 : Int32)) &&& (7 : Int32)) (A.I b5 (ix ((jishr (A.I b2 (ix (jiushr (A.I p 2) (2 : Int32)))) (15 : Int32)) &&& (31 : Int32)))) (A.I b5 (ix ((jishr (A.I b2 (ix (jiushr (A.I p 2) (2 : Int32)))) (20 : Int32)) &&& (31 : Int32))))) R14 A ∧ (∀ (v14 : Int32) (A14 : xA), xok G A14 → R14 v14 A14 → (Q v14 A14))))))) ∧ ((((A.I b2 (ix (jiushr (A.I p 2) (2 : Int32)))) &&& (127 : Int32)) = (3 : Int32)) → ∃ R15 : Int32 → xA → Prop, w_X12_loads G p (A.I b2 (ix (jiushr (A.I p 2) (2 : Int32)))) ((jishr (A.I b2 (ix (jiushr (A.I p 2) (2 : Int32)))) (12 : Int32)) &&& (7 : Int32)) ((A.I b5 (ix ((jishr (A.I b2 (ix (jiushr (A.I p 2) (2 : Int32)))) (15 : Int32)) &&& (31 : Int32)))) + (jishr (A.I b2 (ix (jiushr (A.I p 2) (2 : Int32)))) (20 : Int32))) R15 A ∧ (∀ (v15 : Int32) (A15 : xA), xok G A15 → R15 v15 A15 → (Q v15 A15))) ∧ ((((A.I b2 (ix (jiushr (A.I p 2) (2 : Int32)))) &&& (127 : Int32)) = (35 : Int32)) → ∃ R16 : Int32 → xA → Prop, w_X12_stores G p ((jishr (A.I b2 (ix (jiushr (A.I p 2) (2 : Int32)))) (12 : Int32)) &&& (7 : Int32)) ((A.I b5 (ix ((jishr (A.I b2 (ix (jiushr (A.I p 2) (2 : Int32)))) (15 : Int32)) &&& (31 : Int32)))) + ((jishl (jishr (A.I b2 (ix (jiushr (A.I p 2) (2 : Int32)))) (25 : Int32)) (5 : Int32)) ||| ((jishr (A.I b2 (ix (jiushr (A.I p 2) (2 : Int32)))) (7 : Int32)) &&& (31 : Int32)))) (A.I b5 (ix ((jishr (A.I b2 (ix (jiushr (A.I p 2) (2 : Int32)))) (20 : Int32)) &&& (31 : Int32)))) R16 A ∧ (∀ (v16 : Int32) (A16 : xA), xok G A16 → R16 v16 A16 → (Q v16 A16))) ∧ ((((A.I b2 (ix (jiushr (A.I p 2) (2 : Int32)))) &&& (127 : Int32)) = (19 : Int32)) → ∃ R17 : Int32 → xA → Prop, w_X12_reckons G p (A.I b2 (ix (jiushr (A.I p 2) (2 : Int32)))) ((jishr (A.I b2 (ix (jiushr (A.I p 2) (2 : Int32)))) (12 : Int32)) &&& (7 : Int32)) (A.I b5 (ix ((jishr (A.I b2 (ix (jiushr (A.I p 2) (2 : Int32)))) (15 : Int32)) &&& (31 : Int32)))) R17 A ∧ (∀ (v17 : Int32) (A17 : xA), xok G A17 → R17 v17 A17 → (Q v17 A17))) ∧ ((((A.I b2 (ix (jiushr (A.I p 2) (2 : Int32)))) &&& (127 : Int32)) = (51 : Int32)) → ∃ R18 : Int32 → xA → Prop, w_X12_reckons_2 G p (A.I b2 (ix (jiushr (A.I p 2) (2 : Int32)))) ((jishr (A.I b2 (ix (jiushr (A.I p 2) (2 : Int32)))) (12 : Int32)) &&& (7 : Int32)) (A.I b5 (ix ((jishr (A.I b2 (ix (jiushr (A.I p 2) (2 : Int32)))) (15 : Int32)) &&& (31 : Int32)))) (A.I b5 (ix ((jishr (A.I b2 (ix (jiushr (A.I p 2) (2 : Int32)))) (20 : Int32)) &&& (31 : Int32)))) R18 A ∧ (∀ (v18 : Int32) (A18 : xA), xok G A18 → R18 v18 A18 → (Q v18 A18))) ∧ ((((A.I b2 (ix (jiushr (A.I p 2) (2 : Int32)))) &&& (127 : Int32)) = (15 : Int32)) → ((((jishr (A.I b2 (ix (jiushr (A.I p 2) (2 : Int32)))) (12 : Int32)) &&& (7 : Int32)) = 0 → ∃ R19 : Int32 → xA → Prop, w_X12_next G p R19 A ∧ (∀ (v19 : Int32) (A19 : xA), xok G A19 → R19 v19 A19 → (Q v19 A19))) ∧ (¬ ((jishr (A.I b2 (ix (jiushr (A.I p 2) (2 : Int32)))) (12 : Int32)) &&& (7 : Int32)) = 0 → Q (2 : Int32) A))) ∧ ((((A.I b2 (ix (jiushr (A.I p 2) (2 : Int32)))) &&& (127 : Int32)) = (115 : Int32)) → (((A.I b2 (ix (jiushr (A.I p 2) (2 : Int32)))) = (115 : Int32) → ∃ R20 : Int32 → xA → Prop, w_X12_next G p R20 A ∧ (∀ (v20 : Int32) (A20 : xA), xok G A20 → R20 v20 A20 → (Q (v20 + (6 : Int32)) A20))) ∧ (¬ (A.I b2 (ix (jiushr (A.I p 2) (2 : Int32)))) = (115 : Int32) → (((A.I b2 (ix (jiushr (A.I p 2) (2 : Int32)))) = (1048691 : Int32) → ∃ R21 : Int32 → xA → Prop, w_X12_next G p R21 A ∧ (∀ (v21 : Int32) (A21 : xA), xok G A21 → R21 v21 A21 → (Q (v21 + (7 : Int32)) A21))) ∧ (¬ (A.I b2 (ix (jiushr (A.I p 2) (2 : Int32)))) = (1048691 : Int32) → Q (2 : Int32) A))))) ∧ ((¬ ((A.I b2 (ix (jiushr (A.I p 2) (2 : Int32)))) &&& (127 : Int32)) = (55 : Int32) ∧ ¬ ((A.I b2 (ix (jiushr (A.I p 2) (2 : Int32)))) &&& (127 : Int32)) = (23 : Int32) ∧ ¬ ((A.I b2 (ix (jiushr (A.I p 2) (2 : Int32)))) &&& (127 : Int32)) = (111 : Int32) ∧ ¬ ((A.I b2 (ix (jiushr (A.I p 2) (2 : Int32)))) &&& (127 : Int32)) = (103 : Int32) ∧ ¬ ((A.I b2 (ix (jiushr (A.I p 2) (2 : Int32)))) &&& (127 : Int32)) = (99 : Int32) ∧ ¬ ((A.I b2 (ix (jiushr (A.I p 2) (2 : Int32)))) &&& (127 : Int32)) = (3 : Int32) ∧ ¬ ((A.I b2 (ix (jiushr (A.I p 2) (2 : Int32)))) &&& (127 : Int32)) = (35 : Int32) ∧ ¬ ((A.I b2 (ix (jiushr (A.I p 2) (2 : Int32)))) &&& (127 : Int32)) = (19 : Int32) ∧ ¬ ((A.I b2 (ix (jiushr (A.I p 2) (2 : Int32)))) &&& (127 : Int32)) = (51 : Int32) ∧ ¬ ((A.I b2 (ix (jiushr (A.I p 2) (2 : Int32)))) &&& (127 : Int32)) = (15 : Int32) ∧ ¬ ((A.I b2 (ix (jiushr (A.I p 2) (2 : Int32)))) &&& (127 : Int32)) = (115 : Int32)) → Q (2 : Int32) A)))))))) ∧ (¬ (jiushr (A.I p 2) (2 : Int32)) < (nI (A.ln b2)) → Q (1 : Int32) A))))) ∧ (¬ ((A.I p 2) &&& (3 : Int32)) = 0 → Q (1 : Int32) A)))
theorem m_X12_step (hG : xOK G) (hO : xHO G) {dp : Nat} {p : Nat} {Q : Int32 → xA → Prop} {A : xA} (h : w_X12_step G p Q A) : MX G (dp + 3) kX12_step [.ref p] A (hI Q) := by
  unfold w_X12_step at h
  refine MX.of rfl (Nat.le_of_ble_eq_true rfl) ?_
  change X _ _ _ _ _ _ [some (.ref p), none, none, none, none] _
  refine X.xok (fun w0 => ?_)
  replace h := h w0
  refine x_aload_n dX12_step_0 rfl ?_
  obtain ⟨o1, h⟩ := h
  refine x_get (v := .int (A.I p 2)) hG dX12_step_1 f_X12_19_11 o1 rfl ?_
  refine x_iconst_ (v := (3 : Int32)) dX12_step_4 (by decide) ?_
  refine x_iand dX12_step_5 ?_
  refine x_if_ne (tgt := 23) dX12_step_6 (by decide) (fun c6 => ?_) (fun c6 => ?_)
  · replace h := h.2 c6
    refine x_iconst_ (v := (1 : Int32)) dX12_step_23 (by decide) ?_
    exact x_iret dX12_step_24 rfl ⟨_, rfl, h⟩
  · replace h := h.1 c6
    refine x_aload_n dX12_step_9 rfl ?_
    refine x_get (v := .int (A.I p 2)) hG dX12_step_10 f_X12_19_11 o1 rfl ?_
    refine x_iconst_ (v := (2 : Int32)) dX12_step_13 (by decide) ?_
    refine x_iushr dX12_step_14 ?_
    refine x_eqi (v := (jiushr (A.I p 2) (2 : Int32))) rfl ?_
    refine x_aload_n dX12_step_15 rfl ?_
    refine x_get (v := va_rf (A.P p 0)) hG dX12_step_16 f_X12_23_11 o1 rfl ?_
    obtain ⟨b2, e2, h⟩ := h
    rw [e2]
    obtain ⟨o3, h⟩ := h
    refine x_alen hG (j := 0) dX12_step_19 o3 ?_
    refine x_icmp_lt (tgt := 25) dX12_step_20 (by decide) (fun c20 => ?_) (fun c20 => ?_)
    · replace h := h.1 c20
      refine x_aload_n dX12_step_25 rfl ?_
      refine x_get (v := .ref b2) hG dX12_step_26 f_X12_23_11 o1 (congrArg va_rf e2) ?_
      refine x_aload_n dX12_step_29 rfl ?_
      refine x_get (v := .int (A.I p 2)) hG dX12_step_30 f_X12_19_11 o1 rfl ?_
      refine x_iconst_ (v := (2 : Int32)) dX12_step_33 (by decide) ?_
      refine x_iushr dX12_step_34 ?_
      refine x_eqi (v := (jiushr (A.I p 2) (2 : Int32))) rfl ?_
      obtain ⟨o4, h⟩ := h
      refine x_iald hG dX12_step_35 o3 o4 ?_
      refine x_istore_n dX12_step_36 (by decide) ?_
      refine x_iload_n dX12_step_37 rfl ?_
      refine x_bipush_ (v := (12 : Int32)) dX12_step_38 (by decide) ?_
      refine x_ishr dX12_step_40 ?_
      refine x_eqi (v := (jishr (A.I b2 (ix (jiushr (A.I p 2) (2 : Int32)))) (12 : Int32))) rfl ?_
      refine x_bipush_ (v := (7 : Int32)) dX12_step_41 (by decide) ?_
      refine x_iand dX12_step_43 ?_
      refine x_istore_n dX12_step_44 (by decide) ?_
      refine x_aload_n dX12_step_45 rfl ?_
      refine x_get (v := va_rf (A.P p 1)) hG dX12_step_46 f_X12_9_11 o1 rfl ?_
      refine x_iload_n dX12_step_49 rfl ?_
      refine x_bipush_ (v := (15 : Int32)) dX12_step_50 (by decide) ?_
      refine x_ishr dX12_step_52 ?_
      refine x_eqi (v := (jishr (A.I b2 (ix (jiushr (A.I p 2) (2 : Int32)))) (15 : Int32))) rfl ?_
      refine x_bipush_ (v := (31 : Int32)) dX12_step_53 (by decide) ?_
      refine x_iand dX12_step_55 ?_
      obtain ⟨b5, e5, h⟩ := h
      rw [e5]
      obtain ⟨o6, h⟩ := h
      obtain ⟨o7, h⟩ := h
      refine x_iald hG dX12_step_56 o6 o7 ?_
      refine x_istore_n dX12_step_57 (by decide) ?_
      refine x_aload_n dX12_step_58 rfl ?_
      refine x_get (v := .ref b5) hG dX12_step_59 f_X12_9_11 o1 (congrArg va_rf e5) ?_
      refine x_iload_n dX12_step_62 rfl ?_
      refine x_bipush_ (v := (20 : Int32)) dX12_step_63 (by decide) ?_
      refine x_ishr dX12_step_65 ?_
      refine x_eqi (v := (jishr (A.I b2 (ix (jiushr (A.I p 2) (2 : Int32)))) (20 : Int32))) rfl ?_
      refine x_bipush_ (v := (31 : Int32)) dX12_step_66 (by decide) ?_
      refine x_iand dX12_step_68 ?_
      obtain ⟨o8, h⟩ := h
      refine x_iald hG dX12_step_69 o6 o8 ?_
      refine x_istore dX12_step_70 (by decide) ?_
      refine x_iload_n dX12_step_72 rfl ?_
      refine x_bipush_ (v := (127 : Int32)) dX12_step_73 (by decide) ?_
      refine x_iand dX12_step_75 ?_
      have kt9_0 : (((A.I b2 (ix (jiushr (A.I p 2) (2 : Int32)))) &&& (127 : Int32)) = (55 : Int32)) → X G (dp + 3) kX12_step (hI Q) A 176 [some (.ref p), some (.int (A.I b2 (ix (jiushr (A.I p 2) (2 : Int32))))), some (.int ((jishr (A.I b2 (ix (jiushr (A.I p 2) (2 : Int32)))) (12 : Int32)) &&& (7 : Int32))), some (.int (A.I b5 (ix ((jishr (A.I b2 (ix (jiushr (A.I p 2) (2 : Int32)))) (15 : Int32)) &&& (31 : Int32))))), some (.int (A.I b5 (ix ((jishr (A.I b2 (ix (jiushr (A.I p 2) (2 : Int32)))) (20 : Int32)) &&& (31 : Int32)))))] [] := by
        intro c76
        replace h := h.1 c76
        refine x_aload_n dX12_step_176 rfl ?_
        refine x_iload_n dX12_step_177 rfl ?_
        refine x_iload_n dX12_step_178 rfl ?_
        refine x_sipush_ (v := (-4096 : Int32)) dX12_step_179 (by decide) ?_
        refine x_iand dX12_step_182 ?_
        obtain ⟨R10, g10, h⟩ := h
        refine x_callV hG (Ky := kX12_makes) (As := [.int (A.I b2 (ix (jiushr (A.I p 2) (2 : Int32)))), .int ((A.I b2 (ix (jiushr (A.I p 2) (2 : Int32)))) &&& (-4096 : Int32))]) dX12_step_183 o1 rfl lk_X12_26 me_X12_makes is_X12_makes se_X12_makes rfl rfl (Nat.le_of_ble_eq_true rfl) (MX.post (m_X12_makes hG hO g10) ?_)
        rintro _ A10 ⟨v10, rfl, h1⟩
        refine X.xok (fun w10 => ?_)
        replace h := h v10 A10 w10 h1
        change X _ _ _ _ A10 _ _ [.int v10]
        exact x_iret dX12_step_186 rfl ⟨_, rfl, h⟩
      have kt9_1 : (((A.I b2 (ix (jiushr (A.I p 2) (2 : Int32)))) &&& (127 : Int32)) = (23 : Int32)) → X G (dp + 3) kX12_step (hI Q) A 187 [some (.ref p), some (.int (A.I b2 (ix (jiushr (A.I p 2) (2 : Int32))))), some (.int ((jishr (A.I b2 (ix (jiushr (A.I p 2) (2 : Int32)))) (12 : Int32)) &&& (7 : Int32))), some (.int (A.I b5 (ix ((jishr (A.I b2 (ix (jiushr (A.I p 2) (2 : Int32)))) (15 : Int32)) &&& (31 : Int32))))), some (.int (A.I b5 (ix ((jishr (A.I b2 (ix (jiushr (A.I p 2) (2 : Int32)))) (20 : Int32)) &&& (31 : Int32)))))] [] := by
        intro c76
        replace h := h.2.1 c76
        refine x_aload_n dX12_step_187 rfl ?_
        refine x_iload_n dX12_step_188 rfl ?_
        refine x_aload_n dX12_step_189 rfl ?_
        refine x_get (v := .int (A.I p 2)) hG dX12_step_190 f_X12_19_11 o1 rfl ?_
        refine x_iload_n dX12_step_193 rfl ?_
        refine x_sipush_ (v := (-4096 : Int32)) dX12_step_194 (by decide) ?_
        refine x_iand dX12_step_197 ?_
        refine x_iadd dX12_step_198 ?_
        obtain ⟨R11, g11, h⟩ := h
        refine x_callV hG (Ky := kX12_makes) (As := [.int (A.I b2 (ix (jiushr (A.I p 2) (2 : Int32)))), .int ((A.I p 2) + ((A.I b2 (ix (jiushr (A.I p 2) (2 : Int32)))) &&& (-4096 : Int32)))]) dX12_step_199 o1 rfl lk_X12_26 me_X12_makes is_X12_makes se_X12_makes rfl rfl (Nat.le_of_ble_eq_true rfl) (MX.post (m_X12_makes hG hO g11) ?_)
        rintro _ A11 ⟨v11, rfl, h1⟩
        refine X.xok (fun w11 => ?_)
        replace h := h v11 A11 w11 h1
        change X _ _ _ _ A11 _ _ [.int v11]
        exact x_iret dX12_step_202 rfl ⟨_, rfl, h⟩
      have kt9_2 : (((A.I b2 (ix (jiushr (A.I p 2) (2 : Int32)))) &&& (127 : Int32)) = (111 : Int32)) → X G (dp + 3) kX12_step (hI Q) A 203 [some (.ref p), some (.int (A.I b2 (ix (jiushr (A.I p 2) (2 : Int32))))), some (.int ((jishr (A.I b2 (ix (jiushr (A.I p 2) (2 : Int32)))) (12 : Int32)) &&& (7 : Int32))), some (.int (A.I b5 (ix ((jishr (A.I b2 (ix (jiushr (A.I p 2) (2 : Int32)))) (15 : Int32)) &&& (31 : Int32))))), some (.int (A.I b5 (ix ((jishr (A.I b2 (ix (jiushr (A.I p 2) (2 : Int32)))) (20 : Int32)) &&& (31 : Int32)))))] [] := by
        intro c76
        replace h := h.2.2.1 c76
        refine x_aload_n dX12_step_203 rfl ?_
        refine x_iload_n dX12_step_204 rfl ?_
        refine x_aload_n dX12_step_205 rfl ?_
        refine x_get (v := .int (A.I p 2)) hG dX12_step_206 f_X12_19_11 o1 rfl ?_
        refine x_iload_n dX12_step_209 rfl ?_
        refine x_bipush_ (v := (31 : Int32)) dX12_step_210 (by decide) ?_
        refine x_ishr dX12_step_212 ?_
        refine x_eqi (v := (jishr (A.I b2 (ix (jiushr (A.I p 2) (2 : Int32)))) (31 : Int32))) rfl ?_
        refine x_bipush_ (v := (20 : Int32)) dX12_step_213 (by decide) ?_
        refine x_ishl dX12_step_215 ?_
        refine x_eqi (v := (jishl (jishr (A.I b2 (ix (jiushr (A.I p 2) (2 : Int32)))) (31 : Int32)) (20 : Int32))) rfl ?_
        refine x_iload_n dX12_step_216 rfl ?_
        refine x_ldc hG dX12_step_217 q2899 ?_
        refine x_iand dX12_step_219 ?_
        refine x_ior dX12_step_220 ?_
        refine x_iload_n dX12_step_221 rfl ?_
        refine x_bipush_ (v := (20 : Int32)) dX12_step_222 (by decide) ?_
        refine x_ishr dX12_step_224 ?_
        refine x_eqi (v := (jishr (A.I b2 (ix (jiushr (A.I p 2) (2 : Int32)))) (20 : Int32))) rfl ?_
        refine x_iconst_ (v := (1 : Int32)) dX12_step_225 (by decide) ?_
        refine x_iand dX12_step_226 ?_
        refine x_bipush_ (v := (11 : Int32)) dX12_step_227 (by decide) ?_
        refine x_ishl dX12_step_229 ?_
        refine x_eqi (v := (jishl ((jishr (A.I b2 (ix (jiushr (A.I p 2) (2 : Int32)))) (20 : Int32)) &&& (1 : Int32)) (11 : Int32))) rfl ?_
        refine x_ior dX12_step_230 ?_
        refine x_iload_n dX12_step_231 rfl ?_
        refine x_bipush_ (v := (21 : Int32)) dX12_step_232 (by decide) ?_
        refine x_ishr dX12_step_234 ?_
        refine x_eqi (v := (jishr (A.I b2 (ix (jiushr (A.I p 2) (2 : Int32)))) (21 : Int32))) rfl ?_
        refine x_sipush_ (v := (1023 : Int32)) dX12_step_235 (by decide) ?_
        refine x_iand dX12_step_238 ?_
        refine x_iconst_ (v := (1 : Int32)) dX12_step_239 (by decide) ?_
        refine x_ishl dX12_step_240 ?_
        refine x_eqi (v := (jishl ((jishr (A.I b2 (ix (jiushr (A.I p 2) (2 : Int32)))) (21 : Int32)) &&& (1023 : Int32)) (1 : Int32))) rfl ?_
        refine x_ior dX12_step_241 ?_
        refine x_iadd dX12_step_242 ?_
        obtain ⟨R12, g12, h⟩ := h
        refine x_callV hG (Ky := kX12_jumps) (As := [.int (A.I b2 (ix (jiushr (A.I p 2) (2 : Int32)))), .int ((A.I p 2) + ((((jishl (jishr (A.I b2 (ix (jiushr (A.I p 2) (2 : Int32)))) (31 : Int32)) (20 : Int32)) ||| ((A.I b2 (ix (jiushr (A.I p 2) (2 : Int32)))) &&& (1044480 : Int32))) ||| (jishl ((jishr (A.I b2 (ix (jiushr (A.I p 2) (2 : Int32)))) (20 : Int32)) &&& (1 : Int32)) (11 : Int32))) ||| (jishl ((jishr (A.I b2 (ix (jiushr (A.I p 2) (2 : Int32)))) (21 : Int32)) &&& (1023 : Int32)) (1 : Int32))))]) dX12_step_243 o1 rfl lk_X12_31 me_X12_jumps is_X12_jumps se_X12_jumps rfl rfl (Nat.le_of_ble_eq_true rfl) (MX.post (m_X12_jumps hG hO g12) ?_)
        rintro _ A12 ⟨v12, rfl, h1⟩
        refine X.xok (fun w12 => ?_)
        replace h := h v12 A12 w12 h1
        change X _ _ _ _ A12 _ _ [.int v12]
        exact x_iret dX12_step_246 rfl ⟨_, rfl, h⟩
      have kt9_3 : (((A.I b2 (ix (jiushr (A.I p 2) (2 : Int32)))) &&& (127 : Int32)) = (103 : Int32)) → X G (dp + 3) kX12_step (hI Q) A 247 [some (.ref p), some (.int (A.I b2 (ix (jiushr (A.I p 2) (2 : Int32))))), some (.int ((jishr (A.I b2 (ix (jiushr (A.I p 2) (2 : Int32)))) (12 : Int32)) &&& (7 : Int32))), some (.int (A.I b5 (ix ((jishr (A.I b2 (ix (jiushr (A.I p 2) (2 : Int32)))) (15 : Int32)) &&& (31 : Int32))))), some (.int (A.I b5 (ix ((jishr (A.I b2 (ix (jiushr (A.I p 2) (2 : Int32)))) (20 : Int32)) &&& (31 : Int32)))))] [] := by
        intro c76
        replace h := h.2.2.2.1 c76
        refine x_iload_n dX12_step_247 rfl ?_
        refine x_if_eq (tgt := 255) dX12_step_248 (by decide) (fun c248 => ?_) (fun c248 => ?_)
        · replace h := h.1 c248
          refine x_aload_n dX12_step_255 rfl ?_
          refine x_iload_n dX12_step_256 rfl ?_
          refine x_iload_n dX12_step_257 rfl ?_
          refine x_iload_n dX12_step_258 rfl ?_
          refine x_bipush_ (v := (20 : Int32)) dX12_step_259 (by decide) ?_
          refine x_ishr dX12_step_261 ?_
          refine x_eqi (v := (jishr (A.I b2 (ix (jiushr (A.I p 2) (2 : Int32)))) (20 : Int32))) rfl ?_
          refine x_iadd dX12_step_262 ?_
          refine x_bipush_ (v := (-2 : Int32)) dX12_step_263 (by decide) ?_
          refine x_iand dX12_step_265 ?_
          obtain ⟨R13, g13, h⟩ := h
          refine x_callV hG (Ky := kX12_jumps) (As := [.int (A.I b2 (ix (jiushr (A.I p 2) (2 : Int32)))), .int (((A.I b5 (ix ((jishr (A.I b2 (ix (jiushr (A.I p 2) (2 : Int32)))) (15 : Int32)) &&& (31 : Int32)))) + (jishr (A.I b2 (ix (jiushr (A.I p 2) (2 : Int32)))) (20 : Int32))) &&& (-2 : Int32))]) dX12_step_266 o1 rfl lk_X12_31 me_X12_jumps is_X12_jumps se_X12_jumps rfl rfl (Nat.le_of_ble_eq_true rfl) (MX.post (m_X12_jumps hG hO g13) ?_)
          rintro _ A13 ⟨v13, rfl, h1⟩
          refine X.xok (fun w13 => ?_)
          replace h := h v13 A13 w13 h1
          change X _ _ _ _ A13 _ _ [.int v13]
          exact x_iret dX12_step_269 rfl ⟨_, rfl, h⟩
        · replace h := h.2 c248
          refine x_iconst_ (v := (2 : Int32)) dX12_step_251 (by decide) ?_
          refine x_goto (tgt := 269) dX12_step_252 (by decide) ?_
          exact x_iret dX12_step_269 rfl ⟨_, rfl, h⟩
      have kt9_4 : (((A.I b2 (ix (jiushr (A.I p 2) (2 : Int32)))) &&& (127 : Int32)) = (99 : Int32)) → X G (dp + 3) kX12_step (hI Q) A 270 [some (.ref p), some (.int (A.I b2 (ix (jiushr (A.I p 2) (2 : Int32))))), some (.int ((jishr (A.I b2 (ix (jiushr (A.I p 2) (2 : Int32)))) (12 : Int32)) &&& (7 : Int32))), some (.int (A.I b5 (ix ((jishr (A.I b2 (ix (jiushr (A.I p 2) (2 : Int32)))) (15 : Int32)) &&& (31 : Int32))))), some (.int (A.I b5 (ix ((jishr (A.I b2 (ix (jiushr (A.I p 2) (2 : Int32)))) (20 : Int32)) &&& (31 : Int32)))))] [] := by
        intro c76
        replace h := h.2.2.2.2.1 c76
        refine x_iload_n dX12_step_270 rfl ?_
        refine x_iconst_ (v := (2 : Int32)) dX12_step_271 (by decide) ?_
        refine x_icmp_eq (tgt := 280) dX12_step_272 (by decide) (fun c272 => ?_) (fun c272 => ?_)
        · replace h := h.1 c272
          refine x_iconst_ (v := (2 : Int32)) dX12_step_280 (by decide) ?_
          refine x_goto (tgt := 296) dX12_step_281 (by decide) ?_
          exact x_iret dX12_step_296 rfl ⟨_, rfl, h⟩
        · replace h := h.2 c272
          refine x_iload_n dX12_step_275 rfl ?_
          refine x_iconst_ (v := (3 : Int32)) dX12_step_276 (by decide) ?_
          refine x_icmp_ne (tgt := 284) dX12_step_277 (by decide) (fun c277 => ?_) (fun c277 => ?_)
          · replace h := h.2 c277
            refine x_aload_n dX12_step_284 rfl ?_
            refine x_iload_n dX12_step_285 rfl ?_
            refine x_iload_n dX12_step_286 rfl ?_
            refine x_iload_n dX12_step_287 rfl ?_
            refine x_iload dX12_step_288 rfl ?_
            refine x_callS hG (Ky := kX12_goes) (As := [.int ((jishr (A.I b2 (ix (jiushr (A.I p 2) (2 : Int32)))) (12 : Int32)) &&& (7 : Int32)), .int (A.I b5 (ix ((jishr (A.I b2 (ix (jiushr (A.I p 2) (2 : Int32)))) (15 : Int32)) &&& (31 : Int32)))), .int (A.I b5 (ix ((jishr (A.I b2 (ix (jiushr (A.I p 2) (2 : Int32)))) (20 : Int32)) &&& (31 : Int32))))]) dX12_step_290 lk_X12_34 me_X12_goes st_X12_goes rfl rfl (Nat.le_of_ble_eq_true rfl) (MX.post (m_X12_goes hG) ?_)
            rintro _ _ ⟨rfl, rfl⟩
            change X _ _ _ _ _ _ _ (.int (f_X12_goes ((jishr (A.I b2 (ix (jiushr (A.I p 2) (2 : Int32)))) (12 : Int32)) &&& (7 : Int32)) (A.I b5 (ix ((jishr (A.I b2 (ix (jiushr (A.I p 2) (2 : Int32)))) (15 : Int32)) &&& (31 : Int32)))) (A.I b5 (ix ((jishr (A.I b2 (ix (jiushr (A.I p 2) (2 : Int32)))) (20 : Int32)) &&& (31 : Int32))))) :: _)
            obtain ⟨R14, g14, h⟩ := h
            refine x_callV hG (Ky := kX12_goesOn) (As := [.int (A.I b2 (ix (jiushr (A.I p 2) (2 : Int32)))), .int (f_X12_goes ((jishr (A.I b2 (ix (jiushr (A.I p 2) (2 : Int32)))) (12 : Int32)) &&& (7 : Int32)) (A.I b5 (ix ((jishr (A.I b2 (ix (jiushr (A.I p 2) (2 : Int32)))) (15 : Int32)) &&& (31 : Int32)))) (A.I b5 (ix ((jishr (A.I b2 (ix (jiushr (A.I p 2) (2 : Int32)))) (20 : Int32)) &&& (31 : Int32)))))]) dX12_step_293 o1 rfl lk_X12_38 me_X12_goesOn is_X12_goesOn se_X12_goesOn rfl rfl (Nat.le_of_ble_eq_true rfl) (MX.post (m_X12_goesOn hG hO g14) ?_)
            rintro _ A14 ⟨v14, rfl, h1⟩
            refine X.xok (fun w14 => ?_)
            replace h := h v14 A14 w14 h1
            change X _ _ _ _ A14 _ _ [.int v14]
            exact x_iret dX12_step_296 rfl ⟨_, rfl, h⟩
          · replace h := h.1 c277
            refine x_iconst_ (v := (2 : Int32)) dX12_step_280 (by decide) ?_
            refine x_goto (tgt := 296) dX12_step_281 (by decide) ?_
            exact x_iret dX12_step_296 rfl ⟨_, rfl, h⟩
      have kt9_5 : (((A.I b2 (ix (jiushr (A.I p 2) (2 : Int32)))) &&& (127 : Int32)) = (3 : Int32)) → X G (dp + 3) kX12_step (hI Q) A 297 [some (.ref p), some (.int (A.I b2 (ix (jiushr (A.I p 2) (2 : Int32))))), some (.int ((jishr (A.I b2 (ix (jiushr (A.I p 2) (2 : Int32)))) (12 : Int32)) &&& (7 : Int32))), some (.int (A.I b5 (ix ((jishr (A.I b2 (ix (jiushr (A.I p 2) (2 : Int32)))) (15 : Int32)) &&& (31 : Int32))))), some (.int (A.I b5 (ix ((jishr (A.I b2 (ix (jiushr (A.I p 2) (2 : Int32)))) (20 : Int32)) &&& (31 : Int32)))))] [] := by
        intro c76
        replace h := h.2.2.2.2.2.1 c76
        refine x_aload_n dX12_step_297 rfl ?_
        refine x_iload_n dX12_step_298 rfl ?_
        refine x_iload_n dX12_step_299 rfl ?_
        refine x_iload_n dX12_step_300 rfl ?_
        refine x_iload_n dX12_step_301 rfl ?_
        refine x_bipush_ (v := (20 : Int32)) dX12_step_302 (by decide) ?_
        refine x_ishr dX12_step_304 ?_
        refine x_eqi (v := (jishr (A.I b2 (ix (jiushr (A.I p 2) (2 : Int32)))) (20 : Int32))) rfl ?_
        refine x_iadd dX12_step_305 ?_
        obtain ⟨R15, g15, h⟩ := h
        refine x_callV hG (Ky := kX12_loads) (As := [.int (A.I b2 (ix (jiushr (A.I p 2) (2 : Int32)))), .int ((jishr (A.I b2 (ix (jiushr (A.I p 2) (2 : Int32)))) (12 : Int32)) &&& (7 : Int32)), .int ((A.I b5 (ix ((jishr (A.I b2 (ix (jiushr (A.I p 2) (2 : Int32)))) (15 : Int32)) &&& (31 : Int32)))) + (jishr (A.I b2 (ix (jiushr (A.I p 2) (2 : Int32)))) (20 : Int32)))]) dX12_step_306 o1 rfl lk_X12_42 me_X12_loads is_X12_loads se_X12_loads rfl rfl (Nat.le_of_ble_eq_true rfl) (MX.post (m_X12_loads hG hO g15) ?_)
        rintro _ A15 ⟨v15, rfl, h1⟩
        refine X.xok (fun w15 => ?_)
        replace h := h v15 A15 w15 h1
        change X _ _ _ _ A15 _ _ [.int v15]
        exact x_iret dX12_step_309 rfl ⟨_, rfl, h⟩
      have kt9_6 : (((A.I b2 (ix (jiushr (A.I p 2) (2 : Int32)))) &&& (127 : Int32)) = (35 : Int32)) → X G (dp + 3) kX12_step (hI Q) A 310 [some (.ref p), some (.int (A.I b2 (ix (jiushr (A.I p 2) (2 : Int32))))), some (.int ((jishr (A.I b2 (ix (jiushr (A.I p 2) (2 : Int32)))) (12 : Int32)) &&& (7 : Int32))), some (.int (A.I b5 (ix ((jishr (A.I b2 (ix (jiushr (A.I p 2) (2 : Int32)))) (15 : Int32)) &&& (31 : Int32))))), some (.int (A.I b5 (ix ((jishr (A.I b2 (ix (jiushr (A.I p 2) (2 : Int32)))) (20 : Int32)) &&& (31 : Int32)))))] [] := by
        intro c76
        replace h := h.2.2.2.2.2.2.1 c76
        refine x_aload_n dX12_step_310 rfl ?_
        refine x_iload_n dX12_step_311 rfl ?_
        refine x_iload_n dX12_step_312 rfl ?_
        refine x_iload_n dX12_step_313 rfl ?_
        refine x_bipush_ (v := (25 : Int32)) dX12_step_314 (by decide) ?_
        refine x_ishr dX12_step_316 ?_
        refine x_eqi (v := (jishr (A.I b2 (ix (jiushr (A.I p 2) (2 : Int32)))) (25 : Int32))) rfl ?_
        refine x_iconst_ (v := (5 : Int32)) dX12_step_317 (by decide) ?_
        refine x_ishl dX12_step_318 ?_
        refine x_eqi (v := (jishl (jishr (A.I b2 (ix (jiushr (A.I p 2) (2 : Int32)))) (25 : Int32)) (5 : Int32))) rfl ?_
        refine x_iload_n dX12_step_319 rfl ?_
        refine x_bipush_ (v := (7 : Int32)) dX12_step_320 (by decide) ?_
        refine x_ishr dX12_step_322 ?_
        refine x_eqi (v := (jishr (A.I b2 (ix (jiushr (A.I p 2) (2 : Int32)))) (7 : Int32))) rfl ?_
        refine x_bipush_ (v := (31 : Int32)) dX12_step_323 (by decide) ?_
        refine x_iand dX12_step_325 ?_
        refine x_ior dX12_step_326 ?_
        refine x_iadd dX12_step_327 ?_
        refine x_iload dX12_step_328 rfl ?_
        obtain ⟨R16, g16, h⟩ := h
        refine x_callV hG (Ky := kX12_stores) (As := [.int ((jishr (A.I b2 (ix (jiushr (A.I p 2) (2 : Int32)))) (12 : Int32)) &&& (7 : Int32)), .int ((A.I b5 (ix ((jishr (A.I b2 (ix (jiushr (A.I p 2) (2 : Int32)))) (15 : Int32)) &&& (31 : Int32)))) + ((jishl (jishr (A.I b2 (ix (jiushr (A.I p 2) (2 : Int32)))) (25 : Int32)) (5 : Int32)) ||| ((jishr (A.I b2 (ix (jiushr (A.I p 2) (2 : Int32)))) (7 : Int32)) &&& (31 : Int32)))), .int (A.I b5 (ix ((jishr (A.I b2 (ix (jiushr (A.I p 2) (2 : Int32)))) (20 : Int32)) &&& (31 : Int32))))]) dX12_step_330 o1 rfl lk_X12_46 me_X12_stores is_X12_stores se_X12_stores rfl rfl (Nat.le_of_ble_eq_true rfl) (MX.post (m_X12_stores hG hO g16) ?_)
        rintro _ A16 ⟨v16, rfl, h1⟩
        refine X.xok (fun w16 => ?_)
        replace h := h v16 A16 w16 h1
        change X _ _ _ _ A16 _ _ [.int v16]
        exact x_iret dX12_step_333 rfl ⟨_, rfl, h⟩
      have kt9_7 : (((A.I b2 (ix (jiushr (A.I p 2) (2 : Int32)))) &&& (127 : Int32)) = (19 : Int32)) → X G (dp + 3) kX12_step (hI Q) A 334 [some (.ref p), some (.int (A.I b2 (ix (jiushr (A.I p 2) (2 : Int32))))), some (.int ((jishr (A.I b2 (ix (jiushr (A.I p 2) (2 : Int32)))) (12 : Int32)) &&& (7 : Int32))), some (.int (A.I b5 (ix ((jishr (A.I b2 (ix (jiushr (A.I p 2) (2 : Int32)))) (15 : Int32)) &&& (31 : Int32))))), some (.int (A.I b5 (ix ((jishr (A.I b2 (ix (jiushr (A.I p 2) (2 : Int32)))) (20 : Int32)) &&& (31 : Int32)))))] [] := by
        intro c76
        replace h := h.2.2.2.2.2.2.2.1 c76
        refine x_aload_n dX12_step_334 rfl ?_
        refine x_iload_n dX12_step_335 rfl ?_
        refine x_iload_n dX12_step_336 rfl ?_
        refine x_iload_n dX12_step_337 rfl ?_
        obtain ⟨R17, g17, h⟩ := h
        refine x_callV hG (Ky := kX12_reckons) (As := [.int (A.I b2 (ix (jiushr (A.I p 2) (2 : Int32)))), .int ((jishr (A.I b2 (ix (jiushr (A.I p 2) (2 : Int32)))) (12 : Int32)) &&& (7 : Int32)), .int (A.I b5 (ix ((jishr (A.I b2 (ix (jiushr (A.I p 2) (2 : Int32)))) (15 : Int32)) &&& (31 : Int32))))]) dX12_step_338 o1 rfl lk_X12_49 me_X12_reckons is_X12_reckons se_X12_reckons rfl rfl (Nat.le_of_ble_eq_true rfl) (MX.post (m_X12_reckons hG hO g17) ?_)
        rintro _ A17 ⟨v17, rfl, h1⟩
        refine X.xok (fun w17 => ?_)
        replace h := h v17 A17 w17 h1
        change X _ _ _ _ A17 _ _ [.int v17]
        exact x_iret dX12_step_341 rfl ⟨_, rfl, h⟩
      have kt9_8 : (((A.I b2 (ix (jiushr (A.I p 2) (2 : Int32)))) &&& (127 : Int32)) = (51 : Int32)) → X G (dp + 3) kX12_step (hI Q) A 342 [some (.ref p), some (.int (A.I b2 (ix (jiushr (A.I p 2) (2 : Int32))))), some (.int ((jishr (A.I b2 (ix (jiushr (A.I p 2) (2 : Int32)))) (12 : Int32)) &&& (7 : Int32))), some (.int (A.I b5 (ix ((jishr (A.I b2 (ix (jiushr (A.I p 2) (2 : Int32)))) (15 : Int32)) &&& (31 : Int32))))), some (.int (A.I b5 (ix ((jishr (A.I b2 (ix (jiushr (A.I p 2) (2 : Int32)))) (20 : Int32)) &&& (31 : Int32)))))] [] := by
        intro c76
        replace h := h.2.2.2.2.2.2.2.2.1 c76
        refine x_aload_n dX12_step_342 rfl ?_
        refine x_iload_n dX12_step_343 rfl ?_
        refine x_iload_n dX12_step_344 rfl ?_
        refine x_iload_n dX12_step_345 rfl ?_
        refine x_iload dX12_step_346 rfl ?_
        obtain ⟨R18, g18, h⟩ := h
        refine x_callV hG (Ky := kX12_reckons_2) (As := [.int (A.I b2 (ix (jiushr (A.I p 2) (2 : Int32)))), .int ((jishr (A.I b2 (ix (jiushr (A.I p 2) (2 : Int32)))) (12 : Int32)) &&& (7 : Int32)), .int (A.I b5 (ix ((jishr (A.I b2 (ix (jiushr (A.I p 2) (2 : Int32)))) (15 : Int32)) &&& (31 : Int32)))), .int (A.I b5 (ix ((jishr (A.I b2 (ix (jiushr (A.I p 2) (2 : Int32)))) (20 : Int32)) &&& (31 : Int32))))]) dX12_step_348 o1 rfl lk_X12_52 me_X12_reckons_2 is_X12_reckons_2 se_X12_reckons_2 rfl rfl (Nat.le_of_ble_eq_true rfl) (MX.post (m_X12_reckons_2 hG hO g18) ?_)
        rintro _ A18 ⟨v18, rfl, h1⟩
        refine X.xok (fun w18 => ?_)
        replace h := h v18 A18 w18 h1
        change X _ _ _ _ A18 _ _ [.int v18]
        exact x_iret dX12_step_351 rfl ⟨_, rfl, h⟩
      have kt9_9 : (((A.I b2 (ix (jiushr (A.I p 2) (2 : Int32)))) &&& (127 : Int32)) = (15 : Int32)) → X G (dp + 3) kX12_step (hI Q) A 352 [some (.ref p), some (.int (A.I b2 (ix (jiushr (A.I p 2) (2 : Int32))))), some (.int ((jishr (A.I b2 (ix (jiushr (A.I p 2) (2 : Int32)))) (12 : Int32)) &&& (7 : Int32))), some (.int (A.I b5 (ix ((jishr (A.I b2 (ix (jiushr (A.I p 2) (2 : Int32)))) (15 : Int32)) &&& (31 : Int32))))), some (.int (A.I b5 (ix ((jishr (A.I b2 (ix (jiushr (A.I p 2) (2 : Int32)))) (20 : Int32)) &&& (31 : Int32)))))] [] := by
        intro c76
        replace h := h.2.2.2.2.2.2.2.2.2.1 c76
        refine x_iload_n dX12_step_352 rfl ?_
        refine x_if_ne (tgt := 363) dX12_step_353 (by decide) (fun c353 => ?_) (fun c353 => ?_)
        · replace h := h.2 c353
          refine x_iconst_ (v := (2 : Int32)) dX12_step_363 (by decide) ?_
          exact x_iret dX12_step_364 rfl ⟨_, rfl, h⟩
        · replace h := h.1 c353
          refine x_aload_n dX12_step_356 rfl ?_
          obtain ⟨R19, g19, h⟩ := h
          refine x_callV hG (Ky := kX12_next) (As := []) dX12_step_357 o1 rfl lk_X12_55 me_X12_next is_X12_next se_X12_next rfl rfl (Nat.le_of_ble_eq_true rfl) (MX.post (m_X12_next hG hO g19) ?_)
          rintro _ A19 ⟨v19, rfl, h1⟩
          refine X.xok (fun w19 => ?_)
          replace h := h v19 A19 w19 h1
          change X _ _ _ _ A19 _ _ [.int v19]
          refine x_goto (tgt := 364) dX12_step_360 (by decide) ?_
          exact x_iret dX12_step_364 rfl ⟨_, rfl, h⟩
      have kt9_10 : (((A.I b2 (ix (jiushr (A.I p 2) (2 : Int32)))) &&& (127 : Int32)) = (115 : Int32)) → X G (dp + 3) kX12_step (hI Q) A 365 [some (.ref p), some (.int (A.I b2 (ix (jiushr (A.I p 2) (2 : Int32))))), some (.int ((jishr (A.I b2 (ix (jiushr (A.I p 2) (2 : Int32)))) (12 : Int32)) &&& (7 : Int32))), some (.int (A.I b5 (ix ((jishr (A.I b2 (ix (jiushr (A.I p 2) (2 : Int32)))) (15 : Int32)) &&& (31 : Int32))))), some (.int (A.I b5 (ix ((jishr (A.I b2 (ix (jiushr (A.I p 2) (2 : Int32)))) (20 : Int32)) &&& (31 : Int32)))))] [] := by
        intro c76
        replace h := h.2.2.2.2.2.2.2.2.2.2.1 c76
        refine x_iload_n dX12_step_365 rfl ?_
        refine x_bipush_ (v := (115 : Int32)) dX12_step_366 (by decide) ?_
        refine x_icmp_eq (tgt := 379) dX12_step_368 (by decide) (fun c368 => ?_) (fun c368 => ?_)
        · replace h := h.1 c368
          refine x_aload_n dX12_step_379 rfl ?_
          obtain ⟨R20, g20, h⟩ := h
          refine x_callV hG (Ky := kX12_next) (As := []) dX12_step_380 o1 rfl lk_X12_55 me_X12_next is_X12_next se_X12_next rfl rfl (Nat.le_of_ble_eq_true rfl) (MX.post (m_X12_next hG hO g20) ?_)
          rintro _ A20 ⟨v20, rfl, h1⟩
          refine X.xok (fun w20 => ?_)
          replace h := h v20 A20 w20 h1
          change X _ _ _ _ A20 _ _ [.int v20]
          refine x_iload_n dX12_step_383 rfl ?_
          refine x_bipush_ (v := (115 : Int32)) dX12_step_384 (by decide) ?_
          refine x_icmp_ne (tgt := 394) dX12_step_386 (by decide) (fun h => absurd c368 h) (fun _ => ?_)
          refine x_bipush_ (v := (6 : Int32)) dX12_step_389 (by decide) ?_
          refine x_goto (tgt := 396) dX12_step_391 (by decide) ?_
          refine x_iadd dX12_step_396 ?_
          exact x_iret dX12_step_397 rfl ⟨_, rfl, h⟩
        · replace h := h.2 c368
          refine x_iload_n dX12_step_371 rfl ?_
          refine x_ldc hG dX12_step_372 q2937 ?_
          refine x_icmp_eq (tgt := 379) dX12_step_374 (by decide) (fun c374 => ?_) (fun c374 => ?_)
          · replace h := h.1 c374
            refine x_aload_n dX12_step_379 rfl ?_
            obtain ⟨R21, g21, h⟩ := h
            refine x_callV hG (Ky := kX12_next) (As := []) dX12_step_380 o1 rfl lk_X12_55 me_X12_next is_X12_next se_X12_next rfl rfl (Nat.le_of_ble_eq_true rfl) (MX.post (m_X12_next hG hO g21) ?_)
            rintro _ A21 ⟨v21, rfl, h1⟩
            refine X.xok (fun w21 => ?_)
            replace h := h v21 A21 w21 h1
            change X _ _ _ _ A21 _ _ [.int v21]
            refine x_iload_n dX12_step_383 rfl ?_
            refine x_bipush_ (v := (115 : Int32)) dX12_step_384 (by decide) ?_
            refine x_icmp_ne (tgt := 394) dX12_step_386 (by decide) (fun _ => ?_) (fun h => absurd h c368)
            refine x_bipush_ (v := (7 : Int32)) dX12_step_394 (by decide) ?_
            refine x_iadd dX12_step_396 ?_
            exact x_iret dX12_step_397 rfl ⟨_, rfl, h⟩
          · replace h := h.2 c374
            refine x_iconst_ (v := (2 : Int32)) dX12_step_377 (by decide) ?_
            exact x_iret dX12_step_378 rfl ⟨_, rfl, h⟩
      have kd9 : (¬ ((A.I b2 (ix (jiushr (A.I p 2) (2 : Int32)))) &&& (127 : Int32)) = (55 : Int32) ∧ ¬ ((A.I b2 (ix (jiushr (A.I p 2) (2 : Int32)))) &&& (127 : Int32)) = (23 : Int32) ∧ ¬ ((A.I b2 (ix (jiushr (A.I p 2) (2 : Int32)))) &&& (127 : Int32)) = (111 : Int32) ∧ ¬ ((A.I b2 (ix (jiushr (A.I p 2) (2 : Int32)))) &&& (127 : Int32)) = (103 : Int32) ∧ ¬ ((A.I b2 (ix (jiushr (A.I p 2) (2 : Int32)))) &&& (127 : Int32)) = (99 : Int32) ∧ ¬ ((A.I b2 (ix (jiushr (A.I p 2) (2 : Int32)))) &&& (127 : Int32)) = (3 : Int32) ∧ ¬ ((A.I b2 (ix (jiushr (A.I p 2) (2 : Int32)))) &&& (127 : Int32)) = (35 : Int32) ∧ ¬ ((A.I b2 (ix (jiushr (A.I p 2) (2 : Int32)))) &&& (127 : Int32)) = (19 : Int32) ∧ ¬ ((A.I b2 (ix (jiushr (A.I p 2) (2 : Int32)))) &&& (127 : Int32)) = (51 : Int32) ∧ ¬ ((A.I b2 (ix (jiushr (A.I p 2) (2 : Int32)))) &&& (127 : Int32)) = (15 : Int32) ∧ ¬ ((A.I b2 (ix (jiushr (A.I p 2) (2 : Int32)))) &&& (127 : Int32)) = (115 : Int32)) → X G (dp + 3) kX12_step (hI Q) A 398 [some (.ref p), some (.int (A.I b2 (ix (jiushr (A.I p 2) (2 : Int32))))), some (.int ((jishr (A.I b2 (ix (jiushr (A.I p 2) (2 : Int32)))) (12 : Int32)) &&& (7 : Int32))), some (.int (A.I b5 (ix ((jishr (A.I b2 (ix (jiushr (A.I p 2) (2 : Int32)))) (15 : Int32)) &&& (31 : Int32))))), some (.int (A.I b5 (ix ((jishr (A.I b2 (ix (jiushr (A.I p 2) (2 : Int32)))) (20 : Int32)) &&& (31 : Int32)))))] [] := by
        intro c76
        replace h := h.2.2.2.2.2.2.2.2.2.2.2 c76
        refine x_iconst_ (v := (2 : Int32)) dX12_step_398 (by decide) ?_
        exact x_iret dX12_step_399 rfl ⟨_, rfl, h⟩
      refine x_sw (3 : Int32) (fun s76_0 => ?_) (fun s76_0 => ?_)
      · refine x_lookup (off := 221) (tgt := 297) dX12_step_76 (by decide) (by rw [s76_0]; rfl) (by decide) ?_
        exact kt9_5 s76_0
      refine x_sw (15 : Int32) (fun s76_1 => ?_) (fun s76_1 => ?_)
      · refine x_lookup (off := 276) (tgt := 352) dX12_step_76 (by decide) (by rw [s76_1]; rfl) (by decide) ?_
        exact kt9_9 s76_1
      refine x_sw (19 : Int32) (fun s76_2 => ?_) (fun s76_2 => ?_)
      · refine x_lookup (off := 258) (tgt := 334) dX12_step_76 (by decide) (by rw [s76_2]; rfl) (by decide) ?_
        exact kt9_7 s76_2
      refine x_sw (23 : Int32) (fun s76_3 => ?_) (fun s76_3 => ?_)
      · refine x_lookup (off := 111) (tgt := 187) dX12_step_76 (by decide) (by rw [s76_3]; rfl) (by decide) ?_
        exact kt9_1 s76_3
      refine x_sw (35 : Int32) (fun s76_4 => ?_) (fun s76_4 => ?_)
      · refine x_lookup (off := 234) (tgt := 310) dX12_step_76 (by decide) (by rw [s76_4]; rfl) (by decide) ?_
        exact kt9_6 s76_4
      refine x_sw (51 : Int32) (fun s76_5 => ?_) (fun s76_5 => ?_)
      · refine x_lookup (off := 266) (tgt := 342) dX12_step_76 (by decide) (by rw [s76_5]; rfl) (by decide) ?_
        exact kt9_8 s76_5
      refine x_sw (55 : Int32) (fun s76_6 => ?_) (fun s76_6 => ?_)
      · refine x_lookup (off := 100) (tgt := 176) dX12_step_76 (by decide) (by rw [s76_6]; rfl) (by decide) ?_
        exact kt9_0 s76_6
      refine x_sw (99 : Int32) (fun s76_7 => ?_) (fun s76_7 => ?_)
      · refine x_lookup (off := 194) (tgt := 270) dX12_step_76 (by decide) (by rw [s76_7]; rfl) (by decide) ?_
        exact kt9_4 s76_7
      refine x_sw (103 : Int32) (fun s76_8 => ?_) (fun s76_8 => ?_)
      · refine x_lookup (off := 171) (tgt := 247) dX12_step_76 (by decide) (by rw [s76_8]; rfl) (by decide) ?_
        exact kt9_3 s76_8
      refine x_sw (111 : Int32) (fun s76_9 => ?_) (fun s76_9 => ?_)
      · refine x_lookup (off := 127) (tgt := 203) dX12_step_76 (by decide) (by rw [s76_9]; rfl) (by decide) ?_
        exact kt9_2 s76_9
      refine x_sw (115 : Int32) (fun s76_10 => ?_) (fun s76_10 => ?_)
      · refine x_lookup (off := 289) (tgt := 365) dX12_step_76 (by decide) (by rw [s76_10]; rfl) (by decide) ?_
        exact kt9_10 s76_10
      refine x_lookup (off := 322) (tgt := 398) dX12_step_76 (by decide) (by show Op.lookupswitch.offset [(3, 221), (15, 276), (19, 258), (23, 111), (35, 234), (51, 266), (55, 100), (99, 194), (103, 171), (111, 127), (115, 289)] _ _ = _; rw [lv_osw s76_0 (by decide), lv_osw s76_1 (by decide), lv_osw s76_2 (by decide), lv_osw s76_3 (by decide), lv_osw s76_4 (by decide), lv_osw s76_5 (by decide), lv_osw s76_6 (by decide), lv_osw s76_7 (by decide), lv_osw s76_8 (by decide), lv_osw s76_9 (by decide), lv_osw s76_10 (by decide)]; rfl) (by decide) ?_
      exact kd9 ⟨s76_6, s76_3, s76_9, s76_8, s76_7, s76_0, s76_4, s76_2, s76_5, s76_1, s76_10⟩
    · replace h := h.2 c20
      refine x_iconst_ (v := (1 : Int32)) dX12_step_23 (by decide) ?_
      exact x_iret dX12_step_24 rfl ⟨_, rfl, h⟩
def w_X12_go (G : xG) (p : Nat) (n : Int32) (Q : Int32 → xA → Prop) (A : xA) : Prop := xok G A → ∃ L1 : Nat → Int32 → Int32 → xA → Prop, (∃ n1 : Nat, L1 n1 (0 : Int32) (0 : Int32) A) ∧ (∀ (n1 : Nat) (y1_2 : Int32) (y1_3 : Int32) (A1 : xA), L1 n1 y1_2 y1_3 A1 → ((n ≤ y1_3 → Q y1_2 A1) ∧ (¬ n ≤ y1_3 → ((y1_2 = 0 → A1.tg p = 12 ∧ (∃ R2 : Int32 → xA → Prop, w_X12_step G p R2 A1 ∧ (∀ (v2 : Int32) (A2 : xA), xok G A2 → R2 v2 A2 → ((∃ q1 : Nat, q1 < n1 ∧ L1 q1 v2 (y1_3 + (1 : Int32)) A2))))) ∧ (¬ y1_2 = 0 → Q y1_2 A1)))))
theorem m_X12_go (hG : xOK G) (hO : xHO G) {dp : Nat} {p : Nat} {n : Int32} {Q : Int32 → xA → Prop} {A : xA} (h : w_X12_go G p n Q A) : MX G (dp + 4) kX12_go [.ref p, .int n] A (hI Q) := by
  unfold w_X12_go at h
  refine MX.of rfl (Nat.le_of_ble_eq_true rfl) ?_
  change X _ _ _ _ _ _ [some (.ref p), some (.int n), none, none] _
  refine X.xok (fun w0 => ?_)
  replace h := h w0
  refine x_iconst_ (v := (0 : Int32)) dX12_go_0 (by decide) ?_
  refine x_istore_n dX12_go_1 (by decide) ?_
  refine x_iconst_ (v := (0 : Int32)) dX12_go_2 (by decide) ?_
  refine x_istore_n dX12_go_3 (by decide) ?_
  obtain ⟨L1, ⟨n1, i1⟩, g1⟩ := h
  have kl1 : ∀ n1 : Nat, ∀ (y1_2 : Int32) (y1_3 : Int32) (A1 : xA), L1 n1 y1_2 y1_3 A1 → X G (dp + 4) kX12_go (hI Q) A1 4 [some (.ref p), some (.int n), some (.int y1_2), some (.int y1_3)] [] := by
    intro n1
    induction n1 using Nat.strongRecOn with
    | ind n1 ih1 =>
      intro y1_2 y1_3 A1 h
      replace h := g1 n1 y1_2 y1_3 A1 h
      refine x_iload_n dX12_go_4 rfl ?_
      refine x_iload_n dX12_go_5 rfl ?_
      refine x_icmp_ge (tgt := 24) dX12_go_6 (by decide) (fun c6 => ?_) (fun c6 => ?_)
      · replace h := h.1 c6
        refine x_iload_n dX12_go_24 rfl ?_
        exact x_iret dX12_go_25 rfl ⟨_, rfl, h⟩
      · replace h := h.2 c6
        refine x_iload_n dX12_go_9 rfl ?_
        refine x_if_ne (tgt := 24) dX12_go_10 (by decide) (fun c10 => ?_) (fun c10 => ?_)
        · replace h := h.2 c10
          refine x_iload_n dX12_go_24 rfl ?_
          exact x_iret dX12_go_25 rfl ⟨_, rfl, h⟩
        · replace h := h.1 c10
          refine x_aload_n dX12_go_13 rfl ?_
          obtain ⟨o3, h⟩ := h
          obtain ⟨R2, g2, h⟩ := h
          refine x_callV hG (Ky := kX12_step) (As := []) dX12_go_14 o3 rfl lk_X12_15 me_X12_step is_X12_step se_X12_step rfl rfl (Nat.le_of_ble_eq_true rfl) (MX.post (m_X12_step hG hO g2) ?_)
          rintro _ A2 ⟨v2, rfl, h1⟩
          refine X.xok (fun w2 => ?_)
          replace h := h v2 A2 w2 h1
          change X _ _ _ _ A2 _ _ [.int v2]
          refine x_istore_n dX12_go_17 (by decide) ?_
          refine x_iinc (v := (y1_3 + (1 : Int32))) dX12_go_18 rfl rfl (by decide) ?_
          refine x_goto (tgt := 4) dX12_go_21 (by decide) ?_
          obtain ⟨q1, l1, h⟩ := h
          change X _ _ _ _ _ _ [some (.ref p), some (.int n), some (.int v2), some (.int (y1_3 + (1 : Int32)))] []
          exact X.weak (xle_c rfl (xle_c rfl (xle_c rfl (xle_c rfl xle_nil)))) (ih1 q1 l1 v2 (y1_3 + (1 : Int32)) A2 h)
  change X _ _ _ _ _ _ [some (.ref p), some (.int n), some (.int (0 : Int32)), some (.int (0 : Int32))] []
  exact X.weak (xle_c rfl (xle_c rfl (xle_c rfl (xle_c rfl xle_nil)))) (kl1 n1 (0 : Int32) (0 : Int32) A i1)
end W048
