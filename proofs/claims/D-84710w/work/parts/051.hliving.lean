/-! ===== 051.hliving (tools/h045.py) ===== -/
set_option maxRecDepth 100000
section W051
variable {G : xG}
def w_X7_init (G : xG) (p : Nat) (Q : xA → Prop) (A : xA) : Prop := xok G A → rmA G A (64 : Int32) ∧ (∀ A2 : xA, A2 = A.new 201 (ix (64 : Int32)) (ix (64 : Int32)) 0 → (A2.tg p = 7 ∧ (∀ A4 : xA, A4 = A2.setP p 1 (some A.n) → (rmA G A4 (64 : Int32) ∧ (∀ A6 : xA, A6 = A4.new 201 (ix (64 : Int32)) (ix (64 : Int32)) 0 → (∀ A7 : xA, A7 = A6.setP p 2 (some A4.n) → (rmA G A7 (64 : Int32) ∧ (∀ A9 : xA, A9 = A7.new 201 (ix (64 : Int32)) (ix (64 : Int32)) 0 → (∀ A10 : xA, A10 = A9.setP p 3 (some A7.n) → (Q A10))))))))))
theorem m_X7_init (hG : xOK G) (hO : xHO G) {dp : Nat} {p : Nat} {Q : xA → Prop} {A : xA} (h : w_X7_init G p Q A) : MX G (dp + 1) kX7_init [.ref p] A (hV Q) := by
  unfold w_X7_init at h
  refine MX.of rfl (Nat.le_of_ble_eq_true rfl) ?_
  change X _ _ _ _ _ _ [some (.ref p)] _
  refine X.xok (fun w0 => ?_)
  replace h := h w0
  refine x_aload_n dX7_init_0 rfl ?_
  refine x_objInit hG dX7_init_1 q584 q261 q262 (Nat.le_of_ble_eq_true rfl) ?_
  refine x_aload_n dX7_init_4 rfl ?_
  refine x_bipush_ (v := (64 : Int32)) dX7_init_5 (by decide) ?_
  obtain ⟨o1, h⟩ := h
  refine z_newa hG (j := 1) dX7_init_7 (by decide) rfl o1 q599 (fun A2 e2 w2 => ?_)
  replace h := h A2 e2
  obtain ⟨o3, h⟩ := h
  refine z_putP hG hO.1 (some A.n) dX7_init_9 f_X7_9_6 ⟨_, rfl, Or.inl rfl⟩ o3 (by decide) (Or.inr ⟨_, rfl⟩) (fun A4 e4 => ?_)
  replace h := h A4 e4
  refine x_aload_n dX7_init_12 rfl ?_
  refine x_bipush_ (v := (64 : Int32)) dX7_init_13 (by decide) ?_
  obtain ⟨o5, h⟩ := h
  refine z_newa hG (j := 1) dX7_init_15 (by decide) rfl o5 q599 (fun A6 e6 w6 => ?_)
  replace h := h A6 e6
  refine z_putP hG hO.1 (some A4.n) dX7_init_17 f_X7_15_6 ⟨_, rfl, Or.inl rfl⟩ (kN e6 w6 (kP e4 o3)) (by decide) (Or.inr ⟨_, rfl⟩) (fun A7 e7 => ?_)
  replace h := h A7 e7
  refine x_aload_n dX7_init_20 rfl ?_
  refine x_bipush_ (v := (64 : Int32)) dX7_init_21 (by decide) ?_
  obtain ⟨o8, h⟩ := h
  refine z_newa hG (j := 1) dX7_init_23 (by decide) rfl o8 q599 (fun A9 e9 w9 => ?_)
  replace h := h A9 e9
  refine z_putP hG hO.1 (some A7.n) dX7_init_25 f_X7_18_6 ⟨_, rfl, Or.inl rfl⟩ (kN e9 w9 (kP e7 (kN e6 w6 (kP e4 o3)))) (by decide) (Or.inr ⟨_, rfl⟩) (fun A10 e10 => ?_)
  replace h := h A10 e10
  exact x_vret dX7_init_28 rfl ⟨rfl, h⟩
def w_X7_is (G : xG) (p : Nat) (r : Int32) (Q : Int32 → xA → Prop) (A : xA) : Prop := xok G A → A.tg p = 7 ∧ (∃ b2 : Nat, (A.P p 3) = some b2 ∧ (A.tg b2 = 201 ∧ (vp_in (jishr r (6 : Int32)) (A.ln b2) ∧ (Q (if (lg_cmp ((jlshr (A.L b2 (ix (jishr r (6 : Int32)))) (r &&& (63 : Int32))) &&& (1 : Int64)) (0 : Int64)) = 0 then (0 : Int32) else (1 : Int32)) A))))
theorem m_X7_is (hG : xOK G) (hO : xHO G) {dp : Nat} {p : Nat} {r : Int32} {Q : Int32 → xA → Prop} {A : xA} (h : w_X7_is G p r Q A) : MX G (dp + 0) kX7_is [.ref p, .int r] A (hZ Q) := by
  unfold w_X7_is at h
  refine MX.of rfl (Nat.le_of_ble_eq_true rfl) ?_
  change X _ _ _ _ _ _ [some (.ref p), some (.int r)] _
  refine X.xok (fun w0 => ?_)
  replace h := h w0
  refine x_aload_n dX7_is_0 rfl ?_
  obtain ⟨o1, h⟩ := h
  refine x_get (v := va_rf (A.P p 3)) hG dX7_is_1 f_X7_18_6 o1 rfl ?_
  refine x_iload_n dX7_is_4 rfl ?_
  refine x_bipush_ (v := (6 : Int32)) dX7_is_5 (by decide) ?_
  refine x_ishr dX7_is_7 ?_
  refine x_eqi (v := (jishr r (6 : Int32))) rfl ?_
  obtain ⟨b2, e2, h⟩ := h
  rw [e2]
  obtain ⟨o3, h⟩ := h
  obtain ⟨o4, h⟩ := h
  refine x_lald hG dX7_is_8 o3 o4 ?_
  refine x_iload_n dX7_is_9 rfl ?_
  refine x_bipush_ (v := (63 : Int32)) dX7_is_10 (by decide) ?_
  refine x_iand dX7_is_12 ?_
  refine x_lshr dX7_is_13 ?_
  refine x_eql (v := (jlshr (A.L b2 (ix (jishr r (6 : Int32)))) (r &&& (63 : Int32)))) rfl ?_
  refine x_lconst_ (v := (1 : Int64)) dX7_is_14 (by decide) ?_
  refine x_land dX7_is_15 ?_
  refine x_lconst_ (v := (0 : Int64)) dX7_is_16 (by decide) ?_
  refine x_lcmp dX7_is_17 ?_
  refine x_via 26 (A' := A) (lv' := [none, none]) (st' := [.int (if (lg_cmp ((jlshr (A.L b2 (ix (jishr r (6 : Int32)))) (r &&& (63 : Int32))) &&& (1 : Int64)) (0 : Int64)) = 0 then (0 : Int32) else (1 : Int32))]) ?_ (fun k26 => ?_)
  rotate_left
  · refine x_if_eq (tgt := 25) dX7_is_18 (by decide) (fun c18 => ?_) (fun c18 => ?_)
    · refine x_iconst_ (v := (0 : Int32)) dX7_is_25 (by decide) ?_
      change X _ _ _ _ _ _ [some (.ref p), some (.int r)] [.int (0 : Int32)]
      simp only [if_pos c18] at k26 ⊢
      exact X.weak (xle_n (xle_n xle_nil)) k26
    · refine x_iconst_ (v := (1 : Int32)) dX7_is_21 (by decide) ?_
      refine x_goto (tgt := 26) dX7_is_22 (by decide) ?_
      change X _ _ _ _ _ _ [some (.ref p), some (.int r)] [.int (1 : Int32)]
      simp only [if_neg c18] at k26 ⊢
      exact X.weak (xle_n (xle_n xle_nil)) k26
  exact x_zret dX7_is_26 rfl ite01 ⟨_, rfl, ite01, h⟩
def w_X7_add (G : xG) (p : Nat) (o : Int64) (Q : xA → Prop) (A : xA) : Prop := xok G A → (((f_X0_isConstant o) = 0 → A.tg p = 7 ∧ (∃ b2 : Nat, (A.P p 3) = some b2 ∧ (A.tg b2 = 201 ∧ (vp_in (jishr o.toInt32 (6 : Int32)) (A.ln b2) ∧ (G.N ≤ b2 ∧ (∀ A6 : xA, A6 = A.setL b2 (ix (jishr o.toInt32 (6 : Int32))) ((A.L b2 (ix (jishr o.toInt32 (6 : Int32)))) ||| (jlshl (1 : Int64) (o &&& (63 : Int64)).toInt32)) → (Q A6))))))) ∧ (¬ (f_X0_isConstant o) = 0 → Q A))
theorem m_X7_add (hG : xOK G) (hO : xHO G) {dp : Nat} {p : Nat} {o : Int64} {Q : xA → Prop} {A : xA} (h : w_X7_add G p o Q A) : MX G (dp + 1) kX7_add [.ref p, .long o] A (hV Q) := by
  unfold w_X7_add at h
  refine MX.of rfl (Nat.le_of_ble_eq_true rfl) ?_
  change X _ _ _ _ _ _ [some (.ref p), some (.long o), none] _
  refine X.xok (fun w0 => ?_)
  replace h := h w0
  refine x_lload_n dX7_add_0 rfl ?_
  refine x_callS hG (Ky := kX0_isConstant) (As := [.long o]) dX7_add_1 lk_X7_91 me_X0_isConstant st_X0_isConstant rfl rfl (Nat.le_of_ble_eq_true rfl) (MX.post (m_X0_isConstant hG) ?_)
  rintro _ _ ⟨rfl, rfl⟩
  change X _ _ _ _ _ _ _ (.int (f_X0_isConstant o) :: _)
  refine x_if_ne (tgt := 28) dX7_add_4 (by decide) (fun c4 => ?_) (fun c4 => ?_)
  · replace h := h.2 c4
    exact x_vret dX7_add_28 rfl ⟨rfl, h⟩
  · replace h := h.1 c4
    refine x_aload_n dX7_add_7 rfl ?_
    obtain ⟨o1, h⟩ := h
    refine x_get (v := va_rf (A.P p 3)) hG dX7_add_8 f_X7_18_6 o1 rfl ?_
    refine x_lload_n dX7_add_11 rfl ?_
    refine x_l2i dX7_add_12 ?_
    refine x_bipush_ (v := (6 : Int32)) dX7_add_13 (by decide) ?_
    refine x_ishr dX7_add_15 ?_
    refine x_eqi (v := (jishr o.toInt32 (6 : Int32))) rfl ?_
    refine x_dup2_11 dX7_add_16 rfl (va_rf_cat _) ?_
    obtain ⟨b2, e2, h⟩ := h
    rw [e2]
    obtain ⟨o3, h⟩ := h
    obtain ⟨o4, h⟩ := h
    refine x_lald hG dX7_add_17 o3 o4 ?_
    refine x_lconst_ (v := (1 : Int64)) dX7_add_18 (by decide) ?_
    refine x_lload_n dX7_add_19 rfl ?_
    refine x_ldc2 hG dX7_add_20 q2634 ?_
    refine x_land dX7_add_23 ?_
    refine x_l2i dX7_add_24 ?_
    refine x_lshl dX7_add_25 ?_
    refine x_eql (v := (jlshl (1 : Int64) (o &&& (63 : Int64)).toInt32)) rfl ?_
    refine x_lor dX7_add_26 ?_
    obtain ⟨o5, h⟩ := h
    refine z_last hG dX7_add_27 o3 o5 o4 (fun A6 e6 => ?_)
    replace h := h A6 e6
    exact x_vret dX7_add_28 rfl ⟨rfl, h⟩
def w_X7_back (G : xG) (p : Nat) (x : Option Nat) (Q : xA → Prop) (A : xA) : Prop := xok G A → ∃ b1 : Nat, x = some b1 ∧ (A.tg b1 = 36 ∧ (∃ J3 : xA → Prop, (∀ (A3 : xA), J3 A3 → A3.tg b1 = 36 ∧ (∃ J5 : xA → Prop, (∀ (A5 : xA), J5 A5 → A5.tg b1 = 36 ∧ (∃ J7 : xA → Prop, (∀ (A7 : xA), J7 A7 → A7.tg b1 = 36 ∧ (∃ R8 : Int32 → xA → Prop, w_X37_isStore G b1 R8 A7 ∧ (∀ (v8 : Int32) (A8 : xA), xok G A8 → (v8 = 0 ∨ v8 = 1) → R8 v8 A8 → (∃ J10 : xA → Prop, (∀ (A10 : xA), J10 A10 → A10.tg b1 = 36 ∧ ((((A10.P b1 9) = none → Q A10) ∧ (∀ b12 : Nat, (A10.P b1 9) = some b12 → ∃ L13 : Nat → Int32 → xA → Prop, (∃ n13 : Nat, L13 n13 (0 : Int32) A10) ∧ (∀ (n13 : Nat) (y13_2 : Int32) (A13 : xA), L13 n13 y13_2 A13 → A13.tg b1 = 36 ∧ (∃ b15 : Nat, (A13.P b1 9) = some b15 ∧ (A13.tg b15 = 201 ∧ ((((nI (A13.ln b15)) ≤ y13_2 → Q A13) ∧ (¬ (nI (A13.ln b15)) ≤ y13_2 → vp_in y13_2 (A13.ln b15) ∧ (A13.tg p = 7 ∧ (∃ R18 : xA → Prop, w_X7_add G p (A13.L b15 (ix y13_2)) R18 A13 ∧ (∀ A18 : xA, xok G A18 → R18 A18 → ((∃ q13 : Nat, q13 < n13 ∧ L13 q13 (y13_2 + (1 : Int32)) A18))))))))))))))) ∧ ((v8 = 0 → J10 A8) ∧ (¬ v8 = 0 → A8.tg b1 = 36 ∧ (A8.tg p = 7 ∧ (∃ R21 : xA → Prop, w_X7_add G p (A8.L b1 4) R21 A8 ∧ (∀ A21 : xA, xok G A21 → R21 A21 → (J10 A21)))))))))) ∧ (((f_X0_below (A5.I b1 0)) = 0 → (((A5.I b1 0) = (25 : Int32) → A5.tg p = 7 ∧ (∃ R25 : xA → Prop, w_X7_add G p (A5.L b1 3) R25 A5 ∧ (∀ A25 : xA, xok G A25 → R25 A25 → (J7 A25)))) ∧ (¬ (A5.I b1 0) = (25 : Int32) → ∃ R27 : Int32 → xA → Prop, w_X37_isLoad G b1 R27 A5 ∧ (∀ (v27 : Int32) (A27 : xA), xok G A27 → (v27 = 0 ∨ v27 = 1) → R27 v27 A27 → (((v27 = 0 → A27.tg b1 = 36 ∧ (∃ R31 : Int32 → xA → Prop, w_X37_isStore G b1 R31 A27 ∧ (∀ (v31 : Int32) (A31 : xA), xok G A31 → (v31 = 0 ∨ v31 = 1) → R31 v31 A31 → (((v31 = 0 → J7 A31) ∧ (¬ v31 = 0 → A31.tg b1 = 36 ∧ (A31.tg p = 7 ∧ (∃ R34 : xA → Prop, w_X7_add G p (A31.L b1 3) R34 A31 ∧ (∀ A34 : xA, xok G A34 → R34 A34 → (J7 A34)))))))))) ∧ (¬ v27 = 0 → A27.tg b1 = 36 ∧ (A27.tg p = 7 ∧ (∃ R29 : xA → Prop, w_X7_add G p (A27.L b1 3) R29 A27 ∧ (∀ A29 : xA, xok G A29 → R29 A29 → (J7 A29))))))))))) ∧ (¬ (f_X0_below (A5.I b1 0)) = 0 → A5.tg p = 7 ∧ (∃ R23 : xA → Prop, w_X7_add G p (A5.L b1 3) R23 A5 ∧ (∀ A23 : xA, xok G A23 → R23 A23 → (J7 A23))))))) ∧ (((f_X0_below (A3.I b1 0)) = 0 → (((A3.I b1 0) = (20 : Int32) → A3.tg p = 7 ∧ (∃ R38 : xA → Prop, w_X7_add G p (A3.L b1 2) R38 A3 ∧ (∀ A38 : xA, xok G A38 → R38 A38 → (J5 A38)))) ∧ (¬ (A3.I b1 0) = (20 : Int32) → (((A3.I b1 0) = (28 : Int32) → A3.tg p = 7 ∧ (∃ R40 : xA → Prop, w_X7_add G p (A3.L b1 2) R40 A3 ∧ (∀ A40 : xA, xok G A40 → R40 A40 → (J5 A40)))) ∧ (¬ (A3.I b1 0) = (28 : Int32) → (((A3.I b1 0) = (30 : Int32) → A3.tg p = 7 ∧ (∃ R42 : xA → Prop, w_X7_add G p (A3.L b1 2) R42 A3 ∧ (∀ A42 : xA, xok G A42 → R42 A42 → (J5 A42)))) ∧ (¬ (A3.I b1 0) = (30 : Int32) → (((A3.I b1 0) = (25 : Int32) → A3.tg p = 7 ∧ (∃ R44 : xA → Prop, w_X7_add G p (A3.L b1 2) R44 A3 ∧ (∀ A44 : xA, xok G A44 → R44 A44 → (J5 A44)))) ∧ (¬ (A3.I b1 0) = (25 : Int32) → ∃ R46 : Int32 → xA → Prop, w_X37_isLoad G b1 R46 A3 ∧ (∀ (v46 : Int32) (A46 : xA), xok G A46 → (v46 = 0 ∨ v46 = 1) → R46 v46 A46 → (((v46 = 0 → A46.tg b1 = 36 ∧ (∃ R50 : Int32 → xA → Prop, w_X37_isStore G b1 R50 A46 ∧ (∀ (v50 : Int32) (A50 : xA), xok G A50 → (v50 = 0 ∨ v50 = 1) → R50 v50 A50 → (((v50 = 0 → J5 A50) ∧ (¬ v50 = 0 → A50.tg b1 = 36 ∧ (A50.tg p = 7 ∧ (∃ R53 : xA → Prop, w_X7_add G p (A50.L b1 2) R53 A50 ∧ (∀ A53 : xA, xok G A53 → R53 A53 → (J5 A53)))))))))) ∧ (¬ v46 = 0 → A46.tg b1 = 36 ∧ (A46.tg p = 7 ∧ (∃ R48 : xA → Prop, w_X7_add G p (A46.L b1 2) R48 A46 ∧ (∀ A48 : xA, xok G A48 → R48 A48 → (J5 A48))))))))))))))))) ∧ (¬ (f_X0_below (A3.I b1 0)) = 0 → A3.tg p = 7 ∧ (∃ R36 : xA → Prop, w_X7_add G p (A3.L b1 2) R36 A3 ∧ (∀ A36 : xA, xok G A36 → R36 A36 → (J5 A36))))))) ∧ (((A.I b1 1) < 0 → J3 A) ∧ (¬ (A.I b1 1) < 0 → A.tg p = 7 ∧ (∃ b56 : Nat, (A.P p 3) = some b56 ∧ (A.tg b56 = 201 ∧ (vp_in (jishr (A.I b1 1) (6 : Int32)) (A.ln b56) ∧ (G.N ≤ b56 ∧ (∀ A60 : xA, A60 = A.setL b56 (ix (jishr (A.I b1 1) (6 : Int32))) ((A.L b56 (ix (jishr (A.I b1 1) (6 : Int32)))) &&& ((jlshl (1 : Int64) ((A.I b1 1) &&& (63 : Int32))) ^^^ (-1 : Int64))) → (J3 A60))))))))))
theorem m_X7_back (hG : xOK G) (hO : xHO G) {dp : Nat} {p : Nat} {x : Option Nat} {Q : xA → Prop} {A : xA} (h : w_X7_back G p x Q A) : MX G (dp + 2) kX7_back [.ref p, va_rf x] A (hV Q) := by
  unfold w_X7_back at h
  refine MX.of rfl (by cases x <;> exact Nat.le_of_ble_eq_true rfl) ?_
  refine X.lvs (lv' := [some (.ref p), some (va_rf x), none]) (by cases x <;> rfl) ?_
  refine X.xok (fun w0 => ?_)
  replace h := h w0
  refine x_aloadq_n dX7_back_0 rfl ?_
  obtain ⟨b1, e1, h⟩ := h
  rw [e1]
  obtain ⟨o2, h⟩ := h
  refine x_get (v := .int (A.I b1 1)) hG dX7_back_1 f_X7_97_35 o2 rfl ?_
  obtain ⟨J3, g3, h⟩ := h
  have kj3 : ∀ (A3 : xA), J3 A3 → X G (dp + 2) kX7_back (hV Q) A3 35 [some (.ref p), some (.ref b1), none] [] := by
    intro A3 h
    replace h := g3 A3 h
    refine x_aload_n dX7_back_35 rfl ?_
    obtain ⟨o4, h⟩ := h
    refine x_get (v := .int (A3.I b1 0)) hG dX7_back_36 f_X7_102_35 o4 rfl ?_
    refine x_callS hG (Ky := kX0_below) (As := [.int (A3.I b1 0)]) dX7_back_39 lk_X7_105 me_X0_below st_X0_below rfl rfl (Nat.le_of_ble_eq_true rfl) (MX.post (m_X0_below hG) ?_)
    rintro _ _ ⟨rfl, rfl⟩
    change X _ _ _ _ _ _ _ (.int (f_X0_below (A3.I b1 0)) :: _)
    obtain ⟨J5, g5, h⟩ := h
    have kj5 : ∀ (A5 : xA), J5 A5 → X G (dp + 2) kX7_back (hV Q) A5 103 [some (.ref p), some (.ref b1), none] [] := by
      intro A5 h
      replace h := g5 A5 h
      refine x_aload_n dX7_back_103 rfl ?_
      obtain ⟨o6, h⟩ := h
      refine x_get (v := .int (A5.I b1 0)) hG dX7_back_104 f_X7_102_35 o6 rfl ?_
      refine x_callS hG (Ky := kX0_below) (As := [.int (A5.I b1 0)]) dX7_back_107 lk_X7_105 me_X0_below st_X0_below rfl rfl (Nat.le_of_ble_eq_true rfl) (MX.post (m_X0_below hG) ?_)
      rintro _ _ ⟨rfl, rfl⟩
      change X _ _ _ _ _ _ _ (.int (f_X0_below (A5.I b1 0)) :: _)
      obtain ⟨J7, g7, h⟩ := h
      have kj7 : ∀ (A7 : xA), J7 A7 → X G (dp + 2) kX7_back (hV Q) A7 144 [some (.ref p), some (.ref b1), none] [] := by
        intro A7 h
        replace h := g7 A7 h
        refine x_aload_n dX7_back_144 rfl ?_
        obtain ⟨o9, h⟩ := h
        obtain ⟨R8, g8, h⟩ := h
        refine x_callV hG (Ky := kX37_isStore) (As := []) dX7_back_145 o9 rfl lk_X7_113 me_X37_isStore is_X37_isStore se_X37_isStore rfl rfl (Nat.le_of_ble_eq_true rfl) (MX.post (m_X37_isStore hG hO g8) ?_)
        rintro _ A8 ⟨v8, rfl, zv8, h1⟩
        refine X.xok (fun w8 => ?_)
        replace h := h v8 A8 w8 zv8 h1
        change X _ _ _ _ A8 _ _ [.int v8]
        obtain ⟨J10, g10, h⟩ := h
        have kj10 : ∀ (A10 : xA), J10 A10 → X G (dp + 2) kX7_back (hV Q) A10 159 [some (.ref p), some (.ref b1), none] [] := by
          intro A10 h
          replace h := g10 A10 h
          refine x_aload_n dX7_back_159 rfl ?_
          obtain ⟨o11, h⟩ := h
          refine x_get (v := va_rf (A10.P b1 9)) hG dX7_back_160 f_X7_121_35 o11 rfl ?_
          refine x_ifnull (tgt := 193) dX7_back_163 (by decide) (fun c163 => ?_) (fun b12 c163 => ?_)
          · replace h := h.1 c163
            exact x_vret dX7_back_193 rfl ⟨rfl, h⟩
          · replace h := h.2 b12 c163
            refine x_iconst_ (v := (0 : Int32)) dX7_back_166 (by decide) ?_
            refine x_istore_n dX7_back_167 (by decide) ?_
            obtain ⟨L13, ⟨n13, i13⟩, g13⟩ := h
            have kl13 : ∀ n13 : Nat, ∀ (y13_2 : Int32) (A13 : xA), L13 n13 y13_2 A13 → X G (dp + 2) kX7_back (hV Q) A13 168 [some (.ref p), some (.ref b1), some (.int y13_2)] [] := by
              intro n13
              induction n13 using Nat.strongRecOn with
              | ind n13 ih13 =>
                intro y13_2 A13 h
                replace h := g13 n13 y13_2 A13 h
                refine x_iload_n dX7_back_168 rfl ?_
                refine x_aload_n dX7_back_169 rfl ?_
                obtain ⟨o14, h⟩ := h
                refine x_get (v := va_rf (A13.P b1 9)) hG dX7_back_170 f_X7_121_35 o14 rfl ?_
                obtain ⟨b15, e15, h⟩ := h
                rw [e15]
                obtain ⟨o16, h⟩ := h
                refine x_alen hG (j := 1) dX7_back_173 o16 ?_
                refine x_icmp_ge (tgt := 193) dX7_back_174 (by decide) (fun c174 => ?_) (fun c174 => ?_)
                · replace h := h.1 c174
                  exact x_vret dX7_back_193 rfl ⟨rfl, h⟩
                · replace h := h.2 c174
                  refine x_aload_n dX7_back_177 rfl ?_
                  refine x_aload_n dX7_back_178 rfl ?_
                  refine x_get (v := .ref b15) hG dX7_back_179 f_X7_121_35 o14 (congrArg va_rf e15) ?_
                  refine x_iload_n dX7_back_182 rfl ?_
                  obtain ⟨o17, h⟩ := h
                  refine x_lald hG dX7_back_183 o16 o17 ?_
                  obtain ⟨o19, h⟩ := h
                  obtain ⟨R18, g18, h⟩ := h
                  refine x_callV hG (Ky := kX7_add) (As := [.long (A13.L b15 (ix y13_2))]) dX7_back_184 o19 rfl lk_X7_84 me_X7_add is_X7_add se_X7_add rfl rfl (Nat.le_of_ble_eq_true rfl) (MX.post (m_X7_add hG hO g18) ?_)
                  rintro _ A18 ⟨rfl, h1⟩
                  refine X.xok (fun w18 => ?_)
                  replace h := h A18 w18 h1
                  change X _ _ _ _ A18 _ _ []
                  refine x_iinc (v := (y13_2 + (1 : Int32))) dX7_back_187 rfl rfl (by decide) ?_
                  refine x_goto (tgt := 168) dX7_back_190 (by decide) ?_
                  obtain ⟨q13, l13, h⟩ := h
                  change X _ _ _ _ _ _ [some (.ref p), some (.ref b1), some (.int (y13_2 + (1 : Int32)))] []
                  exact X.weak (xle_c rfl (xle_c rfl (xle_c rfl xle_nil))) (ih13 q13 l13 (y13_2 + (1 : Int32)) A18 h)
            change X _ _ _ _ _ _ [some (.ref p), some (.ref b1), some (.int (0 : Int32))] []
            exact X.weak (xle_c rfl (xle_c rfl (xle_c rfl xle_nil))) (kl13 n13 (0 : Int32) A10 i13)
        refine x_if_eq (tgt := 159) dX7_back_148 (by decide) (fun c148 => ?_) (fun c148 => ?_)
        · replace h := h.1 c148
          change X _ _ _ _ _ _ [some (.ref p), some (.ref b1), none] []
          exact X.weak (xle_c rfl (xle_c rfl (xle_n xle_nil))) (kj10 A8 h)
        · replace h := h.2 c148
          refine x_aload_n dX7_back_151 rfl ?_
          refine x_aload_n dX7_back_152 rfl ?_
          obtain ⟨o20, h⟩ := h
          refine x_get (v := .long (A8.L b1 4)) hG dX7_back_153 f_X7_118_35 o20 rfl ?_
          obtain ⟨o22, h⟩ := h
          obtain ⟨R21, g21, h⟩ := h
          refine x_callV hG (Ky := kX7_add) (As := [.long (A8.L b1 4)]) dX7_back_156 o22 rfl lk_X7_84 me_X7_add is_X7_add se_X7_add rfl rfl (Nat.le_of_ble_eq_true rfl) (MX.post (m_X7_add hG hO g21) ?_)
          rintro _ A21 ⟨rfl, h1⟩
          refine X.xok (fun w21 => ?_)
          replace h := h A21 w21 h1
          change X _ _ _ _ A21 _ _ []
          change X _ _ _ _ _ _ [some (.ref p), some (.ref b1), none] []
          exact X.weak (xle_c rfl (xle_c rfl (xle_n xle_nil))) (kj10 A21 h)
      refine x_if_ne (tgt := 136) dX7_back_110 (by decide) (fun c110 => ?_) (fun c110 => ?_)
      · replace h := h.2 c110
        refine x_aload_n dX7_back_136 rfl ?_
        refine x_aload_n dX7_back_137 rfl ?_
        refine x_get (v := .long (A5.L b1 3)) hG dX7_back_138 f_X7_117_35 o6 rfl ?_
        obtain ⟨o24, h⟩ := h
        obtain ⟨R23, g23, h⟩ := h
        refine x_callV hG (Ky := kX7_add) (As := [.long (A5.L b1 3)]) dX7_back_141 o24 rfl lk_X7_84 me_X7_add is_X7_add se_X7_add rfl rfl (Nat.le_of_ble_eq_true rfl) (MX.post (m_X7_add hG hO g23) ?_)
        rintro _ A23 ⟨rfl, h1⟩
        refine X.xok (fun w23 => ?_)
        replace h := h A23 w23 h1
        change X _ _ _ _ A23 _ _ []
        change X _ _ _ _ _ _ [some (.ref p), some (.ref b1), none] []
        exact X.weak (xle_c rfl (xle_c rfl (xle_n xle_nil))) (kj7 A23 h)
      · replace h := h.1 c110
        refine x_aload_n dX7_back_113 rfl ?_
        refine x_get (v := .int (A5.I b1 0)) hG dX7_back_114 f_X7_102_35 o6 rfl ?_
        refine x_bipush_ (v := (25 : Int32)) dX7_back_117 (by decide) ?_
        refine x_icmp_eq (tgt := 136) dX7_back_119 (by decide) (fun c119 => ?_) (fun c119 => ?_)
        · replace h := h.1 c119
          refine x_aload_n dX7_back_136 rfl ?_
          refine x_aload_n dX7_back_137 rfl ?_
          refine x_get (v := .long (A5.L b1 3)) hG dX7_back_138 f_X7_117_35 o6 rfl ?_
          obtain ⟨o26, h⟩ := h
          obtain ⟨R25, g25, h⟩ := h
          refine x_callV hG (Ky := kX7_add) (As := [.long (A5.L b1 3)]) dX7_back_141 o26 rfl lk_X7_84 me_X7_add is_X7_add se_X7_add rfl rfl (Nat.le_of_ble_eq_true rfl) (MX.post (m_X7_add hG hO g25) ?_)
          rintro _ A25 ⟨rfl, h1⟩
          refine X.xok (fun w25 => ?_)
          replace h := h A25 w25 h1
          change X _ _ _ _ A25 _ _ []
          change X _ _ _ _ _ _ [some (.ref p), some (.ref b1), none] []
          exact X.weak (xle_c rfl (xle_c rfl (xle_n xle_nil))) (kj7 A25 h)
        · replace h := h.2 c119
          refine x_aload_n dX7_back_122 rfl ?_
          obtain ⟨R27, g27, h⟩ := h
          refine x_callV hG (Ky := kX37_isLoad) (As := []) dX7_back_123 o6 rfl lk_X7_109 me_X37_isLoad is_X37_isLoad se_X37_isLoad rfl rfl (Nat.le_of_ble_eq_true rfl) (MX.post (m_X37_isLoad hG hO g27) ?_)
          rintro _ A27 ⟨v27, rfl, zv27, h1⟩
          refine X.xok (fun w27 => ?_)
          replace h := h v27 A27 w27 zv27 h1
          change X _ _ _ _ A27 _ _ [.int v27]
          refine x_if_ne (tgt := 136) dX7_back_126 (by decide) (fun c126 => ?_) (fun c126 => ?_)
          · replace h := h.2 c126
            refine x_aload_n dX7_back_136 rfl ?_
            refine x_aload_n dX7_back_137 rfl ?_
            obtain ⟨o28, h⟩ := h
            refine x_get (v := .long (A27.L b1 3)) hG dX7_back_138 f_X7_117_35 o28 rfl ?_
            obtain ⟨o30, h⟩ := h
            obtain ⟨R29, g29, h⟩ := h
            refine x_callV hG (Ky := kX7_add) (As := [.long (A27.L b1 3)]) dX7_back_141 o30 rfl lk_X7_84 me_X7_add is_X7_add se_X7_add rfl rfl (Nat.le_of_ble_eq_true rfl) (MX.post (m_X7_add hG hO g29) ?_)
            rintro _ A29 ⟨rfl, h1⟩
            refine X.xok (fun w29 => ?_)
            replace h := h A29 w29 h1
            change X _ _ _ _ A29 _ _ []
            change X _ _ _ _ _ _ [some (.ref p), some (.ref b1), none] []
            exact X.weak (xle_c rfl (xle_c rfl (xle_n xle_nil))) (kj7 A29 h)
          · replace h := h.1 c126
            refine x_aload_n dX7_back_129 rfl ?_
            obtain ⟨o32, h⟩ := h
            obtain ⟨R31, g31, h⟩ := h
            refine x_callV hG (Ky := kX37_isStore) (As := []) dX7_back_130 o32 rfl lk_X7_113 me_X37_isStore is_X37_isStore se_X37_isStore rfl rfl (Nat.le_of_ble_eq_true rfl) (MX.post (m_X37_isStore hG hO g31) ?_)
            rintro _ A31 ⟨v31, rfl, zv31, h1⟩
            refine X.xok (fun w31 => ?_)
            replace h := h v31 A31 w31 zv31 h1
            change X _ _ _ _ A31 _ _ [.int v31]
            refine x_if_eq (tgt := 144) dX7_back_133 (by decide) (fun c133 => ?_) (fun c133 => ?_)
            · replace h := h.1 c133
              change X _ _ _ _ _ _ [some (.ref p), some (.ref b1), none] []
              exact X.weak (xle_c rfl (xle_c rfl (xle_n xle_nil))) (kj7 A31 h)
            · replace h := h.2 c133
              refine x_aload_n dX7_back_136 rfl ?_
              refine x_aload_n dX7_back_137 rfl ?_
              obtain ⟨o33, h⟩ := h
              refine x_get (v := .long (A31.L b1 3)) hG dX7_back_138 f_X7_117_35 o33 rfl ?_
              obtain ⟨o35, h⟩ := h
              obtain ⟨R34, g34, h⟩ := h
              refine x_callV hG (Ky := kX7_add) (As := [.long (A31.L b1 3)]) dX7_back_141 o35 rfl lk_X7_84 me_X7_add is_X7_add se_X7_add rfl rfl (Nat.le_of_ble_eq_true rfl) (MX.post (m_X7_add hG hO g34) ?_)
              rintro _ A34 ⟨rfl, h1⟩
              refine X.xok (fun w34 => ?_)
              replace h := h A34 w34 h1
              change X _ _ _ _ A34 _ _ []
              change X _ _ _ _ _ _ [some (.ref p), some (.ref b1), none] []
              exact X.weak (xle_c rfl (xle_c rfl (xle_n xle_nil))) (kj7 A34 h)
    refine x_if_ne (tgt := 95) dX7_back_42 (by decide) (fun c42 => ?_) (fun c42 => ?_)
    · replace h := h.2 c42
      refine x_aload_n dX7_back_95 rfl ?_
      refine x_aload_n dX7_back_96 rfl ?_
      refine x_get (v := .long (A3.L b1 2)) hG dX7_back_97 f_X7_116_35 o4 rfl ?_
      obtain ⟨o37, h⟩ := h
      obtain ⟨R36, g36, h⟩ := h
      refine x_callV hG (Ky := kX7_add) (As := [.long (A3.L b1 2)]) dX7_back_100 o37 rfl lk_X7_84 me_X7_add is_X7_add se_X7_add rfl rfl (Nat.le_of_ble_eq_true rfl) (MX.post (m_X7_add hG hO g36) ?_)
      rintro _ A36 ⟨rfl, h1⟩
      refine X.xok (fun w36 => ?_)
      replace h := h A36 w36 h1
      change X _ _ _ _ A36 _ _ []
      change X _ _ _ _ _ _ [some (.ref p), some (.ref b1), none] []
      exact X.weak (xle_c rfl (xle_c rfl (xle_n xle_nil))) (kj5 A36 h)
    · replace h := h.1 c42
      refine x_aload_n dX7_back_45 rfl ?_
      refine x_get (v := .int (A3.I b1 0)) hG dX7_back_46 f_X7_102_35 o4 rfl ?_
      refine x_bipush_ (v := (20 : Int32)) dX7_back_49 (by decide) ?_
      refine x_icmp_eq (tgt := 95) dX7_back_51 (by decide) (fun c51 => ?_) (fun c51 => ?_)
      · replace h := h.1 c51
        refine x_aload_n dX7_back_95 rfl ?_
        refine x_aload_n dX7_back_96 rfl ?_
        refine x_get (v := .long (A3.L b1 2)) hG dX7_back_97 f_X7_116_35 o4 rfl ?_
        obtain ⟨o39, h⟩ := h
        obtain ⟨R38, g38, h⟩ := h
        refine x_callV hG (Ky := kX7_add) (As := [.long (A3.L b1 2)]) dX7_back_100 o39 rfl lk_X7_84 me_X7_add is_X7_add se_X7_add rfl rfl (Nat.le_of_ble_eq_true rfl) (MX.post (m_X7_add hG hO g38) ?_)
        rintro _ A38 ⟨rfl, h1⟩
        refine X.xok (fun w38 => ?_)
        replace h := h A38 w38 h1
        change X _ _ _ _ A38 _ _ []
        change X _ _ _ _ _ _ [some (.ref p), some (.ref b1), none] []
        exact X.weak (xle_c rfl (xle_c rfl (xle_n xle_nil))) (kj5 A38 h)
      · replace h := h.2 c51
        refine x_aload_n dX7_back_54 rfl ?_
        refine x_get (v := .int (A3.I b1 0)) hG dX7_back_55 f_X7_102_35 o4 rfl ?_
        refine x_bipush_ (v := (28 : Int32)) dX7_back_58 (by decide) ?_
        refine x_icmp_eq (tgt := 95) dX7_back_60 (by decide) (fun c60 => ?_) (fun c60 => ?_)
        · replace h := h.1 c60
          refine x_aload_n dX7_back_95 rfl ?_
          refine x_aload_n dX7_back_96 rfl ?_
          refine x_get (v := .long (A3.L b1 2)) hG dX7_back_97 f_X7_116_35 o4 rfl ?_
          obtain ⟨o41, h⟩ := h
          obtain ⟨R40, g40, h⟩ := h
          refine x_callV hG (Ky := kX7_add) (As := [.long (A3.L b1 2)]) dX7_back_100 o41 rfl lk_X7_84 me_X7_add is_X7_add se_X7_add rfl rfl (Nat.le_of_ble_eq_true rfl) (MX.post (m_X7_add hG hO g40) ?_)
          rintro _ A40 ⟨rfl, h1⟩
          refine X.xok (fun w40 => ?_)
          replace h := h A40 w40 h1
          change X _ _ _ _ A40 _ _ []
          change X _ _ _ _ _ _ [some (.ref p), some (.ref b1), none] []
          exact X.weak (xle_c rfl (xle_c rfl (xle_n xle_nil))) (kj5 A40 h)
        · replace h := h.2 c60
          refine x_aload_n dX7_back_63 rfl ?_
          refine x_get (v := .int (A3.I b1 0)) hG dX7_back_64 f_X7_102_35 o4 rfl ?_
          refine x_bipush_ (v := (30 : Int32)) dX7_back_67 (by decide) ?_
          refine x_icmp_eq (tgt := 95) dX7_back_69 (by decide) (fun c69 => ?_) (fun c69 => ?_)
          · replace h := h.1 c69
            refine x_aload_n dX7_back_95 rfl ?_
            refine x_aload_n dX7_back_96 rfl ?_
            refine x_get (v := .long (A3.L b1 2)) hG dX7_back_97 f_X7_116_35 o4 rfl ?_
            obtain ⟨o43, h⟩ := h
            obtain ⟨R42, g42, h⟩ := h
            refine x_callV hG (Ky := kX7_add) (As := [.long (A3.L b1 2)]) dX7_back_100 o43 rfl lk_X7_84 me_X7_add is_X7_add se_X7_add rfl rfl (Nat.le_of_ble_eq_true rfl) (MX.post (m_X7_add hG hO g42) ?_)
            rintro _ A42 ⟨rfl, h1⟩
            refine X.xok (fun w42 => ?_)
            replace h := h A42 w42 h1
            change X _ _ _ _ A42 _ _ []
            change X _ _ _ _ _ _ [some (.ref p), some (.ref b1), none] []
            exact X.weak (xle_c rfl (xle_c rfl (xle_n xle_nil))) (kj5 A42 h)
          · replace h := h.2 c69
            refine x_aload_n dX7_back_72 rfl ?_
            refine x_get (v := .int (A3.I b1 0)) hG dX7_back_73 f_X7_102_35 o4 rfl ?_
            refine x_bipush_ (v := (25 : Int32)) dX7_back_76 (by decide) ?_
            refine x_icmp_eq (tgt := 95) dX7_back_78 (by decide) (fun c78 => ?_) (fun c78 => ?_)
            · replace h := h.1 c78
              refine x_aload_n dX7_back_95 rfl ?_
              refine x_aload_n dX7_back_96 rfl ?_
              refine x_get (v := .long (A3.L b1 2)) hG dX7_back_97 f_X7_116_35 o4 rfl ?_
              obtain ⟨o45, h⟩ := h
              obtain ⟨R44, g44, h⟩ := h
              refine x_callV hG (Ky := kX7_add) (As := [.long (A3.L b1 2)]) dX7_back_100 o45 rfl lk_X7_84 me_X7_add is_X7_add se_X7_add rfl rfl (Nat.le_of_ble_eq_true rfl) (MX.post (m_X7_add hG hO g44) ?_)
              rintro _ A44 ⟨rfl, h1⟩
              refine X.xok (fun w44 => ?_)
              replace h := h A44 w44 h1
              change X _ _ _ _ A44 _ _ []
              change X _ _ _ _ _ _ [some (.ref p), some (.ref b1), none] []
              exact X.weak (xle_c rfl (xle_c rfl (xle_n xle_nil))) (kj5 A44 h)
            · replace h := h.2 c78
              refine x_aload_n dX7_back_81 rfl ?_
              obtain ⟨R46, g46, h⟩ := h
              refine x_callV hG (Ky := kX37_isLoad) (As := []) dX7_back_82 o4 rfl lk_X7_109 me_X37_isLoad is_X37_isLoad se_X37_isLoad rfl rfl (Nat.le_of_ble_eq_true rfl) (MX.post (m_X37_isLoad hG hO g46) ?_)
              rintro _ A46 ⟨v46, rfl, zv46, h1⟩
              refine X.xok (fun w46 => ?_)
              replace h := h v46 A46 w46 zv46 h1
              change X _ _ _ _ A46 _ _ [.int v46]
              refine x_if_ne (tgt := 95) dX7_back_85 (by decide) (fun c85 => ?_) (fun c85 => ?_)
              · replace h := h.2 c85
                refine x_aload_n dX7_back_95 rfl ?_
                refine x_aload_n dX7_back_96 rfl ?_
                obtain ⟨o47, h⟩ := h
                refine x_get (v := .long (A46.L b1 2)) hG dX7_back_97 f_X7_116_35 o47 rfl ?_
                obtain ⟨o49, h⟩ := h
                obtain ⟨R48, g48, h⟩ := h
                refine x_callV hG (Ky := kX7_add) (As := [.long (A46.L b1 2)]) dX7_back_100 o49 rfl lk_X7_84 me_X7_add is_X7_add se_X7_add rfl rfl (Nat.le_of_ble_eq_true rfl) (MX.post (m_X7_add hG hO g48) ?_)
                rintro _ A48 ⟨rfl, h1⟩
                refine X.xok (fun w48 => ?_)
                replace h := h A48 w48 h1
                change X _ _ _ _ A48 _ _ []
                change X _ _ _ _ _ _ [some (.ref p), some (.ref b1), none] []
                exact X.weak (xle_c rfl (xle_c rfl (xle_n xle_nil))) (kj5 A48 h)
              · replace h := h.1 c85
                refine x_aload_n dX7_back_88 rfl ?_
                obtain ⟨o51, h⟩ := h
                obtain ⟨R50, g50, h⟩ := h
                refine x_callV hG (Ky := kX37_isStore) (As := []) dX7_back_89 o51 rfl lk_X7_113 me_X37_isStore is_X37_isStore se_X37_isStore rfl rfl (Nat.le_of_ble_eq_true rfl) (MX.post (m_X37_isStore hG hO g50) ?_)
                rintro _ A50 ⟨v50, rfl, zv50, h1⟩
                refine X.xok (fun w50 => ?_)
                replace h := h v50 A50 w50 zv50 h1
                change X _ _ _ _ A50 _ _ [.int v50]
                refine x_if_eq (tgt := 103) dX7_back_92 (by decide) (fun c92 => ?_) (fun c92 => ?_)
                · replace h := h.1 c92
                  change X _ _ _ _ _ _ [some (.ref p), some (.ref b1), none] []
                  exact X.weak (xle_c rfl (xle_c rfl (xle_n xle_nil))) (kj5 A50 h)
                · replace h := h.2 c92
                  refine x_aload_n dX7_back_95 rfl ?_
                  refine x_aload_n dX7_back_96 rfl ?_
                  obtain ⟨o52, h⟩ := h
                  refine x_get (v := .long (A50.L b1 2)) hG dX7_back_97 f_X7_116_35 o52 rfl ?_
                  obtain ⟨o54, h⟩ := h
                  obtain ⟨R53, g53, h⟩ := h
                  refine x_callV hG (Ky := kX7_add) (As := [.long (A50.L b1 2)]) dX7_back_100 o54 rfl lk_X7_84 me_X7_add is_X7_add se_X7_add rfl rfl (Nat.le_of_ble_eq_true rfl) (MX.post (m_X7_add hG hO g53) ?_)
                  rintro _ A53 ⟨rfl, h1⟩
                  refine X.xok (fun w53 => ?_)
                  replace h := h A53 w53 h1
                  change X _ _ _ _ A53 _ _ []
                  change X _ _ _ _ _ _ [some (.ref p), some (.ref b1), none] []
                  exact X.weak (xle_c rfl (xle_c rfl (xle_n xle_nil))) (kj5 A53 h)
  refine x_if_lt (tgt := 35) dX7_back_4 (by decide) (fun c4 => ?_) (fun c4 => ?_)
  · replace h := h.1 c4
    change X _ _ _ _ _ _ [some (.ref p), some (.ref b1), none] []
    exact X.weak (xle_c rfl (xle_c rfl (xle_n xle_nil))) (kj3 A h)
  · replace h := h.2 c4
    refine x_aload_n dX7_back_7 rfl ?_
    obtain ⟨o55, h⟩ := h
    refine x_get (v := va_rf (A.P p 3)) hG dX7_back_8 f_X7_18_6 o55 rfl ?_
    refine x_aload_n dX7_back_11 rfl ?_
    refine x_get (v := .int (A.I b1 1)) hG dX7_back_12 f_X7_97_35 o2 rfl ?_
    refine x_bipush_ (v := (6 : Int32)) dX7_back_15 (by decide) ?_
    refine x_ishr dX7_back_17 ?_
    refine x_eqi (v := (jishr (A.I b1 1) (6 : Int32))) rfl ?_
    refine x_dup2_11 dX7_back_18 rfl (va_rf_cat _) ?_
    obtain ⟨b56, e56, h⟩ := h
    rw [e56]
    obtain ⟨o57, h⟩ := h
    obtain ⟨o58, h⟩ := h
    refine x_lald hG dX7_back_19 o57 o58 ?_
    refine x_lconst_ (v := (1 : Int64)) dX7_back_20 (by decide) ?_
    refine x_aload_n dX7_back_21 rfl ?_
    refine x_get (v := .int (A.I b1 1)) hG dX7_back_22 f_X7_97_35 o2 rfl ?_
    refine x_bipush_ (v := (63 : Int32)) dX7_back_25 (by decide) ?_
    refine x_iand dX7_back_27 ?_
    refine x_lshl dX7_back_28 ?_
    refine x_eql (v := (jlshl (1 : Int64) ((A.I b1 1) &&& (63 : Int32)))) rfl ?_
    refine x_ldc2 hG dX7_back_29 q2640 ?_
    refine x_lxor dX7_back_32 ?_
    refine x_land dX7_back_33 ?_
    obtain ⟨o59, h⟩ := h
    refine z_last hG dX7_back_34 o57 o59 o58 (fun A60 e60 => ?_)
    replace h := h A60 e60
    change X _ _ _ _ _ _ [some (.ref p), some (.ref b1), none] []
    exact X.weak (xle_c rfl (xle_c rfl (xle_n xle_nil))) (kj3 A60 h)
def w_X7_begin (G : xG) (p : Nat) (b : Option Nat) (Q : xA → Prop) (A : xA) : Prop := xok G A → ∃ L1 : Nat → Int32 → xA → Prop, (∃ n1 : Nat, L1 n1 (0 : Int32) A) ∧ (∀ (n1 : Nat) (y1_2 : Int32) (A1 : xA), L1 n1 y1_2 A1 → A1.tg p = 7 ∧ ((((A1.I p 0) ≤ y1_2 → ∃ b3 : Nat, b = some b3 ∧ (A1.tg b3 = 35 ∧ (∃ J5 : xA → Prop, (∀ (A5 : xA), J5 A5 → A5.tg b3 = 35 ∧ ((((A5.I b3 1) = (2 : Int32) → A5.tg p = 7 ∧ (∃ R7 : xA → Prop, w_X7_add G p (A5.L b3 4) R7 A5 ∧ (∀ A7 : xA, xok G A7 → R7 A7 → (Q A7)))) ∧ (¬ (A5.I b3 1) = (2 : Int32) → Q A5)))) ∧ (((A1.I b3 1) = (3 : Int32) → ∃ R9 : xA → Prop, w_X7_add G p (A1.L b3 3) R9 A1 ∧ (∀ A9 : xA, xok G A9 → R9 A9 → (J5 A9))) ∧ (¬ (A1.I b3 1) = (3 : Int32) → (((A1.I b3 1) = (2 : Int32) → ∃ R10 : xA → Prop, w_X7_add G p (A1.L b3 3) R10 A1 ∧ (∀ A10 : xA, xok G A10 → R10 A10 → (J5 A10))) ∧ (¬ (A1.I b3 1) = (2 : Int32) → J5 A1))))))) ∧ (¬ (A1.I p 0) ≤ y1_2 → ∃ b11 : Nat, b = some b11 ∧ (A1.tg b11 = 35 ∧ (∃ b13 : Nat, (A1.P p 2) = some b13 ∧ (A1.tg b13 = 201 ∧ (vp_in (((A1.I p 0) * (A1.I b11 8)) + y1_2) (A1.ln b13) ∧ (∃ b16 : Nat, (A1.P p 3) = some b16 ∧ (A1.tg b16 = 201 ∧ (G.N ≤ b16 ∧ (vp_in y1_2 (A1.ln b16) ∧ (∀ A20 : xA, A20 = A1.setL b16 (ix y1_2) (A1.L b13 (ix (((A1.I p 0) * (A1.I b11 8)) + y1_2))) → ((∃ q1 : Nat, q1 < n1 ∧ L1 q1 (y1_2 + (1 : Int32)) A20)))))))))))))))
theorem m_X7_begin (hG : xOK G) (hO : xHO G) {dp : Nat} {p : Nat} {b : Option Nat} {Q : xA → Prop} {A : xA} (h : w_X7_begin G p b Q A) : MX G (dp + 2) kX7_begin [.ref p, va_rf b] A (hV Q) := by
  unfold w_X7_begin at h
  refine MX.of rfl (by cases b <;> exact Nat.le_of_ble_eq_true rfl) ?_
  refine X.lvs (lv' := [some (.ref p), some (va_rf b), none]) (by cases b <;> rfl) ?_
  refine X.xok (fun w0 => ?_)
  replace h := h w0
  refine x_iconst_ (v := (0 : Int32)) dX7_begin_0 (by decide) ?_
  refine x_istore_n dX7_begin_1 (by decide) ?_
  refine X.lvs (lv' := [some (.ref p), some (va_rf b), some (.int (0 : Int32))]) (by generalize b = z; cases z <;> rfl) ?_
  obtain ⟨L1, ⟨n1, i1⟩, g1⟩ := h
  have kl1 : ∀ n1 : Nat, ∀ (y1_2 : Int32) (A1 : xA), L1 n1 y1_2 A1 → X G (dp + 2) kX7_begin (hV Q) A1 2 [some (.ref p), some (va_rf b), some (.int y1_2)] [] := by
    intro n1
    induction n1 using Nat.strongRecOn with
    | ind n1 ih1 =>
      intro y1_2 A1 h
      replace h := g1 n1 y1_2 A1 h
      refine x_iload_n dX7_begin_2 rfl ?_
      refine x_aload_n dX7_begin_3 rfl ?_
      obtain ⟨o2, h⟩ := h
      refine x_get (v := .int (A1.I p 0)) hG dX7_begin_4 f_X7_27_6 o2 rfl ?_
      refine x_icmp_ge (tgt := 38) dX7_begin_7 (by decide) (fun c7 => ?_) (fun c7 => ?_)
      · replace h := h.1 c7
        refine x_aloadq_n dX7_begin_38 rfl ?_
        obtain ⟨b3, e3, h⟩ := h
        rw [e3]
        obtain ⟨o4, h⟩ := h
        refine x_get (v := .int (A1.I b3 1)) hG dX7_begin_39 f_X7_77_34 o4 rfl ?_
        refine x_iconst_ (v := (3 : Int32)) dX7_begin_42 (by decide) ?_
        obtain ⟨J5, g5, h⟩ := h
        have kj5 : ∀ (A5 : xA), J5 A5 → X G (dp + 2) kX7_begin (hV Q) A5 62 [some (.ref p), some (.ref b3), none] [] := by
          intro A5 h
          replace h := g5 A5 h
          refine x_aload_n dX7_begin_62 rfl ?_
          obtain ⟨o6, h⟩ := h
          refine x_get (v := .int (A5.I b3 1)) hG dX7_begin_63 f_X7_77_34 o6 rfl ?_
          refine x_iconst_ (v := (2 : Int32)) dX7_begin_66 (by decide) ?_
          refine x_icmp_ne (tgt := 78) dX7_begin_67 (by decide) (fun c67 => ?_) (fun c67 => ?_)
          · replace h := h.2 c67
            exact x_vret dX7_begin_78 rfl ⟨rfl, h⟩
          · replace h := h.1 c67
            refine x_aload_n dX7_begin_70 rfl ?_
            refine x_aload_n dX7_begin_71 rfl ?_
            refine x_get (v := .long (A5.L b3 4)) hG dX7_begin_72 f_X7_88_34 o6 rfl ?_
            obtain ⟨o8, h⟩ := h
            obtain ⟨R7, g7, h⟩ := h
            refine x_callV hG (Ky := kX7_add) (As := [.long (A5.L b3 4)]) dX7_begin_75 o8 rfl lk_X7_84 me_X7_add is_X7_add se_X7_add rfl rfl (Nat.le_of_ble_eq_true rfl) (MX.post (m_X7_add hG hO g7) ?_)
            rintro _ A7 ⟨rfl, h1⟩
            refine X.xok (fun w7 => ?_)
            replace h := h A7 w7 h1
            change X _ _ _ _ A7 _ _ []
            exact x_vret dX7_begin_78 rfl ⟨rfl, h⟩
        refine x_icmp_eq (tgt := 54) dX7_begin_43 (by decide) (fun c43 => ?_) (fun c43 => ?_)
        · replace h := h.1 c43
          refine x_aload_n dX7_begin_54 rfl ?_
          refine x_aload_n dX7_begin_55 rfl ?_
          refine x_get (v := .long (A1.L b3 3)) hG dX7_begin_56 f_X7_80_34 o4 rfl ?_
          obtain ⟨R9, g9, h⟩ := h
          refine x_callV hG (Ky := kX7_add) (As := [.long (A1.L b3 3)]) dX7_begin_59 o2 rfl lk_X7_84 me_X7_add is_X7_add se_X7_add rfl rfl (Nat.le_of_ble_eq_true rfl) (MX.post (m_X7_add hG hO g9) ?_)
          rintro _ A9 ⟨rfl, h1⟩
          refine X.xok (fun w9 => ?_)
          replace h := h A9 w9 h1
          change X _ _ _ _ A9 _ _ []
          change X _ _ _ _ _ _ [some (.ref p), some (.ref b3), some (.int y1_2)] []
          exact X.weak (xle_c rfl (xle_c rfl (xle_n xle_nil))) (kj5 A9 h)
        · replace h := h.2 c43
          refine x_aload_n dX7_begin_46 rfl ?_
          refine x_get (v := .int (A1.I b3 1)) hG dX7_begin_47 f_X7_77_34 o4 rfl ?_
          refine x_iconst_ (v := (2 : Int32)) dX7_begin_50 (by decide) ?_
          refine x_icmp_ne (tgt := 62) dX7_begin_51 (by decide) (fun c51 => ?_) (fun c51 => ?_)
          · replace h := h.2 c51
            change X _ _ _ _ _ _ [some (.ref p), some (.ref b3), some (.int y1_2)] []
            exact X.weak (xle_c rfl (xle_c rfl (xle_n xle_nil))) (kj5 A1 h)
          · replace h := h.1 c51
            refine x_aload_n dX7_begin_54 rfl ?_
            refine x_aload_n dX7_begin_55 rfl ?_
            refine x_get (v := .long (A1.L b3 3)) hG dX7_begin_56 f_X7_80_34 o4 rfl ?_
            obtain ⟨R10, g10, h⟩ := h
            refine x_callV hG (Ky := kX7_add) (As := [.long (A1.L b3 3)]) dX7_begin_59 o2 rfl lk_X7_84 me_X7_add is_X7_add se_X7_add rfl rfl (Nat.le_of_ble_eq_true rfl) (MX.post (m_X7_add hG hO g10) ?_)
            rintro _ A10 ⟨rfl, h1⟩
            refine X.xok (fun w10 => ?_)
            replace h := h A10 w10 h1
            change X _ _ _ _ A10 _ _ []
            change X _ _ _ _ _ _ [some (.ref p), some (.ref b3), some (.int y1_2)] []
            exact X.weak (xle_c rfl (xle_c rfl (xle_n xle_nil))) (kj5 A10 h)
      · replace h := h.2 c7
        refine x_aload_n dX7_begin_10 rfl ?_
        refine x_get (v := va_rf (A1.P p 3)) hG dX7_begin_11 f_X7_18_6 o2 rfl ?_
        refine x_iload_n dX7_begin_14 rfl ?_
        refine x_aload_n dX7_begin_15 rfl ?_
        refine x_get (v := va_rf (A1.P p 2)) hG dX7_begin_16 f_X7_15_6 o2 rfl ?_
        refine x_aload_n dX7_begin_19 rfl ?_
        refine x_get (v := .int (A1.I p 0)) hG dX7_begin_20 f_X7_27_6 o2 rfl ?_
        refine x_aloadq_n dX7_begin_23 rfl ?_
        obtain ⟨b11, e11, h⟩ := h
        rw [e11]
        obtain ⟨o12, h⟩ := h
        refine x_get (v := .int (A1.I b11 8)) hG dX7_begin_24 f_X7_54_34 o12 rfl ?_
        refine x_imul dX7_begin_27 ?_
        refine x_iload_n dX7_begin_28 rfl ?_
        refine x_iadd dX7_begin_29 ?_
        obtain ⟨b13, e13, h⟩ := h
        rw [e13]
        obtain ⟨o14, h⟩ := h
        obtain ⟨o15, h⟩ := h
        refine x_lald hG dX7_begin_30 o14 o15 ?_
        obtain ⟨b16, e16, h⟩ := h
        rw [e16]
        obtain ⟨o17, h⟩ := h
        obtain ⟨o18, h⟩ := h
        obtain ⟨o19, h⟩ := h
        refine z_last hG dX7_begin_31 o17 o18 o19 (fun A20 e20 => ?_)
        replace h := h A20 e20
        refine x_iinc (v := (y1_2 + (1 : Int32))) dX7_begin_32 rfl rfl (by decide) ?_
        refine x_goto (tgt := 2) dX7_begin_35 (by decide) ?_
        obtain ⟨q1, l1, h⟩ := h
        change X _ _ _ _ _ _ [some (.ref p), some (.ref b11), some (.int (y1_2 + (1 : Int32)))] []
        exact X.weak (xle_c rfl (xle_c (congrArg (fun z => some (va_rf z)) e11.symm) (xle_c rfl xle_nil))) (ih1 q1 l1 (y1_2 + (1 : Int32)) A20 h)
  change X _ _ _ _ _ _ [some (.ref p), some (va_rf b), some (.int (0 : Int32))] []
  exact X.weak (xle_c rfl (xle_c rfl (xle_c rfl xle_nil))) (kl1 n1 (0 : Int32) A i1)
def w_X7_one (G : xG) (p : Nat) (b : Option Nat) (Q : Int32 → xA → Prop) (A : xA) : Prop := xok G A → A.tg p = 7 ∧ (∃ b2 : Nat, b = some b2 ∧ (A.tg b2 = 35 ∧ (∃ L4 : Nat → Int32 → xA → Prop, (∃ n4 : Nat, L4 n4 (0 : Int32) A) ∧ (∀ (n4 : Nat) (y4_3 : Int32) (A4 : xA), L4 n4 y4_3 A4 → A4.tg p = 7 ∧ ((((A4.I p 0) ≤ y4_3 → ∃ R6 : xA → Prop, w_X7_begin G p (some b2) R6 A4 ∧ (∀ A6 : xA, xok G A6 → R6 A6 → (A6.tg b2 = 35 ∧ (∃ b9 : Nat, (A6.P b2 0) = some b9 ∧ (A6.tg b9 = 37 ∧ (∃ R8 : Int32 → xA → Prop, w_J5_size G b9 R8 A6 ∧ (∀ (v8 : Int32) (A8 : xA), xok G A8 → R8 v8 A8 → (∃ L11 : Nat → Int32 → xA → Prop, (∃ n11 : Nat, L11 n11 (v8 - (1 : Int32)) A8) ∧ (∀ (n11 : Nat) (y11_3 : Int32) (A11 : xA), L11 n11 y11_3 A11 → ((y11_3 < 0 → ∃ L12 : Nat → Int32 → Int32 → xA → Prop, (∃ n12 : Nat, L12 n12 (0 : Int32) (0 : Int32) A11) ∧ (∀ (n12 : Nat) (y12_3 : Int32) (y12_4 : Int32) (A12 : xA), L12 n12 y12_3 y12_4 A12 → A12.tg p = 7 ∧ ((((A12.I p 0) ≤ y12_4 → (y12_3 = 0 ∨ y12_3 = 1) ∧ (Q y12_3 A12)) ∧ (¬ (A12.I p 0) ≤ y12_4 → ∃ J15 : Int32 → Prop, (∀ (y15_s0 : Int32), J15 y15_s0 → ∃ b16 : Nat, (A12.P p 3) = some b16 ∧ (A12.tg b16 = 201 ∧ (vp_in y12_4 (A12.ln b16) ∧ (∃ b19 : Nat, (A12.P p 1) = some b19 ∧ (A12.tg b19 = 201 ∧ (G.N ≤ b19 ∧ (vp_in (((A.I p 0) * (A.I b2 8)) + y12_4) (A12.ln b19) ∧ (∀ A23 : xA, A23 = A12.setL b19 (ix (((A.I p 0) * (A.I b2 8)) + y12_4)) (A12.L b16 (ix y12_4)) → ((∃ q12 : Nat, q12 < n12 ∧ L12 q12 y15_s0 (y12_4 + (1 : Int32)) A23)))))))))) ∧ ((y12_3 = 0 → ∃ b24 : Nat, (A12.P p 1) = some b24 ∧ (A12.tg b24 = 201 ∧ (vp_in (((A.I p 0) * (A.I b2 8)) + y12_4) (A12.ln b24) ∧ (∃ b27 : Nat, (A12.P p 3) = some b27 ∧ (A12.tg b27 = 201 ∧ (vp_in y12_4 (A12.ln b27) ∧ ((((lg_cmp (A12.L b24 (ix (((A.I p 0) * (A.I b2 8)) + y12_4))) (A12.L b27 (ix y12_4))) = 0 → J15 (0 : Int32)) ∧ (¬ (lg_cmp (A12.L b24 (ix (((A.I p 0) * (A.I b2 8)) + y12_4))) (A12.L b27 (ix y12_4))) = 0 → J15 (1 : Int32)))))))))) ∧ (¬ y12_3 = 0 → J15 (1 : Int32)))))))) ∧ (¬ y11_3 < 0 → A11.tg b2 = 35 ∧ (∃ b32 : Nat, (A11.P b2 0) = some b32 ∧ (A11.tg b32 = 37 ∧ (∃ R31 : Option Nat → xA → Prop, w_J5_get G b32 y11_3 R31 A11 ∧ (∀ (v31 : Option Nat) (A31 : xA), xok G A31 → R31 v31 A31 → (∃ b34 : Nat, v31 = some b34 ∧ (A31.tg b34 = 36 ∧ (A31.tg p = 7 ∧ (∃ R36 : xA → Prop, w_X7_back G p (some b34) R36 A31 ∧ (∀ A36 : xA, xok G A36 → R36 A36 → ((∃ q11 : Nat, q11 < n11 ∧ L11 q11 (y11_3 + (-1 : Int32)) A36)))))))))))))))))))))) ∧ (¬ (A4.I p 0) ≤ y4_3 → ∃ b38 : Nat, (A4.P p 2) = some b38 ∧ (A4.tg b38 = 201 ∧ (vp_in (((A.I p 0) * (A.I b2 8)) + y4_3) (A4.ln b38) ∧ (A4.tg b2 = 35 ∧ (∃ J42 : Int64 → Prop, (∀ (y42_s0 : Int64), J42 y42_s0 → ∃ J43 : Int64 → Prop, (∀ (y43_s0 : Int64), J43 y43_s0 → G.N ≤ b38 ∧ (∀ A45 : xA, A45 = A4.setL b38 (ix (((A.I p 0) * (A.I b2 8)) + y4_3)) ((A4.L b38 (ix (((A.I p 0) * (A.I b2 8)) + y4_3))) ||| (y42_s0 ||| y43_s0)) → ((∃ q4 : Nat, q4 < n4 ∧ L4 q4 (y4_3 + (1 : Int32)) A45)))) ∧ (((A4.P b2 6) = none → J43 (0 : Int64)) ∧ (∀ b46 : Nat, (A4.P b2 6) = some b46 → A4.tg b46 = 35 ∧ (∃ b48 : Nat, (A4.P p 1) = some b48 ∧ (A4.tg b48 = 201 ∧ (vp_in (((A4.I p 0) * (A4.I b46 8)) + y4_3) (A4.ln b48) ∧ (J43 (A4.L b48 (ix (((A4.I p 0) * (A4.I b46 8)) + y4_3)))))))))) ∧ (((A4.P b2 5) = none → J42 (0 : Int64)) ∧ (∀ b51 : Nat, (A4.P b2 5) = some b51 → A4.tg b51 = 35 ∧ (∃ b53 : Nat, (A4.P p 1) = some b53 ∧ (A4.tg b53 = 201 ∧ (vp_in (((A4.I p 0) * (A4.I b51 8)) + y4_3) (A4.ln b53) ∧ (J42 (A4.L b53 (ix (((A4.I p 0) * (A4.I b51 8)) + y4_3))))))))))))))))))))
theorem m_X7_one (hG : xOK G) (hO : xHO G) {dp : Nat} {p : Nat} {b : Option Nat} {Q : Int32 → xA → Prop} {A : xA} (h : w_X7_one G p b Q A) : MX G (dp + 3) kX7_one [.ref p, va_rf b] A (hZ Q) := by
  unfold w_X7_one at h
  refine MX.of rfl (by cases b <;> exact Nat.le_of_ble_eq_true rfl) ?_
  refine X.lvs (lv' := [some (.ref p), some (va_rf b), none, none, none]) (by cases b <;> rfl) ?_
  refine X.xok (fun w0 => ?_)
  replace h := h w0
  refine x_aload_n dX7_one_0 rfl ?_
  obtain ⟨o1, h⟩ := h
  refine x_get (v := .int (A.I p 0)) hG dX7_one_1 f_X7_27_6 o1 rfl ?_
  refine x_aloadq_n dX7_one_4 rfl ?_
  obtain ⟨b2, e2, h⟩ := h
  rw [e2]
  obtain ⟨o3, h⟩ := h
  refine x_get (v := .int (A.I b2 8)) hG dX7_one_5 f_X7_54_34 o3 rfl ?_
  refine x_imul dX7_one_8 ?_
  refine x_istore_n dX7_one_9 (by decide) ?_
  refine x_iconst_ (v := (0 : Int32)) dX7_one_10 (by decide) ?_
  refine x_istore_n dX7_one_11 (by decide) ?_
  obtain ⟨L4, ⟨n4, i4⟩, g4⟩ := h
  have kl4 : ∀ n4 : Nat, ∀ (y4_3 : Int32) (A4 : xA), L4 n4 y4_3 A4 → X G (dp + 3) kX7_one (hZ Q) A4 12 [some (.ref p), some (.ref b2), some (.int ((A.I p 0) * (A.I b2 8))), some (.int y4_3), none] [] := by
    intro n4
    induction n4 using Nat.strongRecOn with
    | ind n4 ih4 =>
      intro y4_3 A4 h
      replace h := g4 n4 y4_3 A4 h
      refine x_iload_n dX7_one_12 rfl ?_
      refine x_aload_n dX7_one_13 rfl ?_
      obtain ⟨o5, h⟩ := h
      refine x_get (v := .int (A4.I p 0)) hG dX7_one_14 f_X7_27_6 o5 rfl ?_
      refine x_icmp_ge (tgt := 98) dX7_one_17 (by decide) (fun c17 => ?_) (fun c17 => ?_)
      · replace h := h.1 c17
        refine x_aload_n dX7_one_98 rfl ?_
        refine x_aload_n dX7_one_99 rfl ?_
        obtain ⟨R6, g6, h⟩ := h
        refine x_callV hG (Ky := kX7_begin) (As := [.ref b2]) dX7_one_100 o5 rfl lk_X7_64 me_X7_begin is_X7_begin se_X7_begin rfl rfl (Nat.le_of_ble_eq_true rfl) (MX.post (m_X7_begin hG hO g6) ?_)
        rintro _ A6 ⟨rfl, h1⟩
        refine X.xok (fun w6 => ?_)
        replace h := h A6 w6 h1
        change X _ _ _ _ A6 _ _ []
        refine x_aload_n dX7_one_103 rfl ?_
        obtain ⟨o7, h⟩ := h
        refine x_get (v := va_rf (A6.P b2 0)) hG dX7_one_104 f_X7_68_34 o7 rfl ?_
        obtain ⟨b9, e9, h⟩ := h
        rw [e9]
        obtain ⟨o10, h⟩ := h
        obtain ⟨R8, g8, h⟩ := h
        refine x_callV hG (Ky := kJ5_size) (As := []) dX7_one_107 o10 rfl lk_X7_34 me_J5_size is_J5_size se_J5_size rfl rfl (Nat.le_of_ble_eq_true rfl) (MX.post (m_w_J5_size hG hO g8) ?_)
        rintro _ A8 ⟨v8, rfl, h1⟩
        refine X.xok (fun w8 => ?_)
        replace h := h v8 A8 w8 h1
        change X _ _ _ _ A8 _ _ [.int v8]
        refine x_iconst_ (v := (1 : Int32)) dX7_one_110 (by decide) ?_
        refine x_isub dX7_one_111 ?_
        refine x_istore_n dX7_one_112 (by decide) ?_
        obtain ⟨L11, ⟨n11, i11⟩, g11⟩ := h
        have kl11 : ∀ n11 : Nat, ∀ (y11_3 : Int32) (A11 : xA), L11 n11 y11_3 A11 → X G (dp + 3) kX7_one (hZ Q) A11 113 [some (.ref p), some (.ref b2), some (.int ((A.I p 0) * (A.I b2 8))), some (.int y11_3), none] [] := by
          intro n11
          induction n11 using Nat.strongRecOn with
          | ind n11 ih11 =>
            intro y11_3 A11 h
            replace h := g11 n11 y11_3 A11 h
            refine x_iload_n dX7_one_113 rfl ?_
            refine x_if_lt (tgt := 138) dX7_one_114 (by decide) (fun c114 => ?_) (fun c114 => ?_)
            · replace h := h.1 c114
              refine x_iconst_ (v := (0 : Int32)) dX7_one_138 (by decide) ?_
              refine x_istore_n dX7_one_139 (by decide) ?_
              refine x_iconst_ (v := (0 : Int32)) dX7_one_140 (by decide) ?_
              refine x_istore dX7_one_141 (by decide) ?_
              obtain ⟨L12, ⟨n12, i12⟩, g12⟩ := h
              have kl12 : ∀ n12 : Nat, ∀ (y12_3 : Int32) (y12_4 : Int32) (A12 : xA), L12 n12 y12_3 y12_4 A12 → X G (dp + 3) kX7_one (hZ Q) A12 143 [some (.ref p), none, some (.int ((A.I p 0) * (A.I b2 8))), some (.int y12_3), some (.int y12_4)] [] := by
                intro n12
                induction n12 using Nat.strongRecOn with
                | ind n12 ih12 =>
                  intro y12_3 y12_4 A12 h
                  replace h := g12 n12 y12_3 y12_4 A12 h
                  refine x_iload dX7_one_143 rfl ?_
                  refine x_aload_n dX7_one_145 rfl ?_
                  obtain ⟨o13, h⟩ := h
                  refine x_get (v := .int (A12.I p 0)) hG dX7_one_146 f_X7_27_6 o13 rfl ?_
                  refine x_icmp_ge (tgt := 204) dX7_one_149 (by decide) (fun c149 => ?_) (fun c149 => ?_)
                  · replace h := h.1 c149
                    refine x_iload_n dX7_one_204 rfl ?_
                    obtain ⟨o14, h⟩ := h
                    exact x_zret dX7_one_205 rfl o14 ⟨_, rfl, o14, h⟩
                  · replace h := h.2 c149
                    refine x_iload_n dX7_one_152 rfl ?_
                    obtain ⟨J15, g15, h⟩ := h
                    have kj15 : ∀ (y15_s0 : Int32), J15 y15_s0 → X G (dp + 3) kX7_one (hZ Q) A12 181 [some (.ref p), none, some (.int ((A.I p 0) * (A.I b2 8))), none, some (.int y12_4)] [.int y15_s0] := by
                      intro y15_s0 h
                      replace h := g15 y15_s0 h
                      refine x_istore_n dX7_one_181 (by decide) ?_
                      refine x_aload_n dX7_one_182 rfl ?_
                      refine x_get (v := va_rf (A12.P p 1)) hG dX7_one_183 f_X7_9_6 o13 rfl ?_
                      refine x_iload_n dX7_one_186 rfl ?_
                      refine x_iload dX7_one_187 rfl ?_
                      refine x_iadd dX7_one_189 ?_
                      refine x_aload_n dX7_one_190 rfl ?_
                      refine x_get (v := va_rf (A12.P p 3)) hG dX7_one_191 f_X7_18_6 o13 rfl ?_
                      refine x_iload dX7_one_194 rfl ?_
                      obtain ⟨b16, e16, h⟩ := h
                      rw [e16]
                      obtain ⟨o17, h⟩ := h
                      obtain ⟨o18, h⟩ := h
                      refine x_lald hG dX7_one_196 o17 o18 ?_
                      obtain ⟨b19, e19, h⟩ := h
                      rw [e19]
                      obtain ⟨o20, h⟩ := h
                      obtain ⟨o21, h⟩ := h
                      obtain ⟨o22, h⟩ := h
                      refine z_last hG dX7_one_197 o20 o21 o22 (fun A23 e23 => ?_)
                      replace h := h A23 e23
                      refine x_iinc (v := (y12_4 + (1 : Int32))) dX7_one_198 rfl rfl (by decide) ?_
                      refine x_goto (tgt := 143) dX7_one_201 (by decide) ?_
                      obtain ⟨q12, l12, h⟩ := h
                      change X _ _ _ _ _ _ [some (.ref p), none, some (.int ((A.I p 0) * (A.I b2 8))), some (.int y15_s0), some (.int (y12_4 + (1 : Int32)))] []
                      exact X.weak (xle_c rfl (xle_n (xle_c rfl (xle_c rfl (xle_c rfl xle_nil))))) (ih12 q12 l12 y15_s0 (y12_4 + (1 : Int32)) A23 h)
                    refine x_if_ne (tgt := 176) dX7_one_153 (by decide) (fun c153 => ?_) (fun c153 => ?_)
                    · replace h := h.2 c153
                      refine x_iconst_ (v := (1 : Int32)) dX7_one_176 (by decide) ?_
                      refine x_goto (tgt := 181) dX7_one_177 (by decide) ?_
                      change X _ _ _ _ _ _ [some (.ref p), none, some (.int ((A.I p 0) * (A.I b2 8))), some (.int y12_3), some (.int y12_4)] [.int (1 : Int32)]
                      exact X.weak (xle_c rfl (xle_n (xle_c rfl (xle_n (xle_c rfl xle_nil))))) (kj15 (1 : Int32) h)
                    · replace h := h.1 c153
                      refine x_aload_n dX7_one_156 rfl ?_
                      refine x_get (v := va_rf (A12.P p 1)) hG dX7_one_157 f_X7_9_6 o13 rfl ?_
                      refine x_iload_n dX7_one_160 rfl ?_
                      refine x_iload dX7_one_161 rfl ?_
                      refine x_iadd dX7_one_163 ?_
                      obtain ⟨b24, e24, h⟩ := h
                      rw [e24]
                      obtain ⟨o25, h⟩ := h
                      obtain ⟨o26, h⟩ := h
                      refine x_lald hG dX7_one_164 o25 o26 ?_
                      refine x_aload_n dX7_one_165 rfl ?_
                      refine x_get (v := va_rf (A12.P p 3)) hG dX7_one_166 f_X7_18_6 o13 rfl ?_
                      refine x_iload dX7_one_169 rfl ?_
                      obtain ⟨b27, e27, h⟩ := h
                      rw [e27]
                      obtain ⟨o28, h⟩ := h
                      obtain ⟨o29, h⟩ := h
                      refine x_lald hG dX7_one_171 o28 o29 ?_
                      refine x_lcmp dX7_one_172 ?_
                      refine x_if_eq (tgt := 180) dX7_one_173 (by decide) (fun c173 => ?_) (fun c173 => ?_)
                      · replace h := h.1 c173
                        refine x_iconst_ (v := (0 : Int32)) dX7_one_180 (by decide) ?_
                        change X _ _ _ _ _ _ [some (.ref p), none, some (.int ((A.I p 0) * (A.I b2 8))), some (.int y12_3), some (.int y12_4)] [.int (0 : Int32)]
                        exact X.weak (xle_c rfl (xle_n (xle_c rfl (xle_n (xle_c rfl xle_nil))))) (kj15 (0 : Int32) h)
                      · replace h := h.2 c173
                        refine x_iconst_ (v := (1 : Int32)) dX7_one_176 (by decide) ?_
                        refine x_goto (tgt := 181) dX7_one_177 (by decide) ?_
                        change X _ _ _ _ _ _ [some (.ref p), none, some (.int ((A.I p 0) * (A.I b2 8))), some (.int y12_3), some (.int y12_4)] [.int (1 : Int32)]
                        exact X.weak (xle_c rfl (xle_n (xle_c rfl (xle_n (xle_c rfl xle_nil))))) (kj15 (1 : Int32) h)
              change X _ _ _ _ _ _ [some (.ref p), some (.ref b2), some (.int ((A.I p 0) * (A.I b2 8))), some (.int (0 : Int32)), some (.int (0 : Int32))] []
              exact X.weak (xle_c rfl (xle_n (xle_c rfl (xle_c rfl (xle_c rfl xle_nil))))) (kl12 n12 (0 : Int32) (0 : Int32) A11 i12)
            · replace h := h.2 c114
              refine x_aload_n dX7_one_117 rfl ?_
              refine x_aload_n dX7_one_118 rfl ?_
              obtain ⟨o30, h⟩ := h
              refine x_get (v := va_rf (A11.P b2 0)) hG dX7_one_119 f_X7_68_34 o30 rfl ?_
              refine x_iload_n dX7_one_122 rfl ?_
              obtain ⟨b32, e32, h⟩ := h
              rw [e32]
              obtain ⟨o33, h⟩ := h
              obtain ⟨R31, g31, h⟩ := h
              refine x_callV hG (Ky := kJ5_get) (As := [.int y11_3]) dX7_one_123 o33 rfl lk_X7_44 me_J5_get is_J5_get se_J5_get rfl rfl (Nat.le_of_ble_eq_true rfl) (MX.post (m_w_J5_get hG hO g31) ?_)
              rintro _ A31 ⟨v31, rfl, h1⟩
              refine X.xok (fun w31 => ?_)
              replace h := h v31 A31 w31 h1
              change X _ _ _ _ A31 _ _ [va_rf v31, .ref p]
              obtain ⟨b34, e34, h⟩ := h
              rw [e34]
              obtain ⟨o35, h⟩ := h
              refine x_cast hG dX7_one_126 q2635 o35 rfl (Or.inl rfl) ?_
              obtain ⟨o37, h⟩ := h
              obtain ⟨R36, g36, h⟩ := h
              refine x_callV hG (Ky := kX7_back) (As := [.ref b34]) dX7_one_129 o37 rfl lk_X7_73 me_X7_back is_X7_back se_X7_back rfl rfl (Nat.le_of_ble_eq_true rfl) (MX.post (m_X7_back hG hO g36) ?_)
              rintro _ A36 ⟨rfl, h1⟩
              refine X.xok (fun w36 => ?_)
              replace h := h A36 w36 h1
              change X _ _ _ _ A36 _ _ []
              refine x_iinc (v := (y11_3 + (-1 : Int32))) dX7_one_132 rfl rfl (by decide) ?_
              refine x_goto (tgt := 113) dX7_one_135 (by decide) ?_
              obtain ⟨q11, l11, h⟩ := h
              change X _ _ _ _ _ _ [some (.ref p), some (.ref b2), some (.int ((A.I p 0) * (A.I b2 8))), some (.int (y11_3 + (-1 : Int32))), none] []
              exact X.weak (xle_c rfl (xle_c rfl (xle_c rfl (xle_c rfl (xle_n xle_nil))))) (ih11 q11 l11 (y11_3 + (-1 : Int32)) A36 h)
        change X _ _ _ _ _ _ [some (.ref p), some (.ref b2), some (.int ((A.I p 0) * (A.I b2 8))), some (.int (v8 - (1 : Int32))), none] []
        exact X.weak (xle_c rfl (xle_c rfl (xle_c rfl (xle_c rfl (xle_n xle_nil))))) (kl11 n11 (v8 - (1 : Int32)) A8 i11)
      · replace h := h.2 c17
        refine x_aload_n dX7_one_20 rfl ?_
        refine x_get (v := va_rf (A4.P p 2)) hG dX7_one_21 f_X7_15_6 o5 rfl ?_
        refine x_iload_n dX7_one_24 rfl ?_
        refine x_iload_n dX7_one_25 rfl ?_
        refine x_iadd dX7_one_26 ?_
        refine x_dup2_11 dX7_one_27 rfl (va_rf_cat _) ?_
        obtain ⟨b38, e38, h⟩ := h
        rw [e38]
        obtain ⟨o39, h⟩ := h
        obtain ⟨o40, h⟩ := h
        refine x_lald hG dX7_one_28 o39 o40 ?_
        refine x_aload_n dX7_one_29 rfl ?_
        obtain ⟨o41, h⟩ := h
        refine x_get (v := va_rf (A4.P b2 5)) hG dX7_one_30 f_X7_57_34 o41 rfl ?_
        obtain ⟨J42, g42, h⟩ := h
        have kj42 : ∀ (y42_s0 : Int64), J42 y42_s0 → X G (dp + 3) kX7_one (hZ Q) A4 59 [some (.ref p), some (.ref b2), some (.int ((A.I p 0) * (A.I b2 8))), some (.int y4_3), none] [.long y42_s0, .long (A4.L b38 (ix (((A.I p 0) * (A.I b2 8)) + y4_3))), .int (((A.I p 0) * (A.I b2 8)) + y4_3), .ref b38] := by
          intro y42_s0 h
          replace h := g42 y42_s0 h
          refine x_aload_n dX7_one_59 rfl ?_
          refine x_get (v := va_rf (A4.P b2 6)) hG dX7_one_60 f_X7_61_34 o41 rfl ?_
          obtain ⟨J43, g43, h⟩ := h
          have kj43 : ∀ (y43_s0 : Int64), J43 y43_s0 → X G (dp + 3) kX7_one (hZ Q) A4 89 [some (.ref p), some (.ref b2), some (.int ((A.I p 0) * (A.I b2 8))), some (.int y4_3), none] [.long y43_s0, .long y42_s0, .long (A4.L b38 (ix (((A.I p 0) * (A.I b2 8)) + y4_3))), .int (((A.I p 0) * (A.I b2 8)) + y4_3), .ref b38] := by
            intro y43_s0 h
            replace h := g43 y43_s0 h
            refine x_lor dX7_one_89 ?_
            refine x_lor dX7_one_90 ?_
            obtain ⟨o44, h⟩ := h
            refine z_last hG dX7_one_91 o39 o44 o40 (fun A45 e45 => ?_)
            replace h := h A45 e45
            refine x_iinc (v := (y4_3 + (1 : Int32))) dX7_one_92 rfl rfl (by decide) ?_
            refine x_goto (tgt := 12) dX7_one_95 (by decide) ?_
            obtain ⟨q4, l4, h⟩ := h
            change X _ _ _ _ _ _ [some (.ref p), some (.ref b2), some (.int ((A.I p 0) * (A.I b2 8))), some (.int (y4_3 + (1 : Int32))), none] []
            exact X.weak (xle_c rfl (xle_c rfl (xle_c rfl (xle_c rfl (xle_n xle_nil))))) (ih4 q4 l4 (y4_3 + (1 : Int32)) A45 h)
          refine x_ifnonnull (tgt := 70) dX7_one_63 (by decide) (fun b46 c63 => ?_) (fun c63 => ?_)
          · replace h := h.2 b46 c63
            refine x_aload_n dX7_one_70 rfl ?_
            refine x_get (v := va_rf (A4.P p 1)) hG dX7_one_71 f_X7_9_6 o5 rfl ?_
            refine x_aload_n dX7_one_74 rfl ?_
            refine x_get (v := .int (A4.I p 0)) hG dX7_one_75 f_X7_27_6 o5 rfl ?_
            refine x_aload_n dX7_one_78 rfl ?_
            refine x_get (v := .ref b46) hG dX7_one_79 f_X7_61_34 o41 (congrArg va_rf c63) ?_
            obtain ⟨o47, h⟩ := h
            refine x_get (v := .int (A4.I b46 8)) hG dX7_one_82 f_X7_54_34 o47 rfl ?_
            refine x_imul dX7_one_85 ?_
            refine x_iload_n dX7_one_86 rfl ?_
            refine x_iadd dX7_one_87 ?_
            obtain ⟨b48, e48, h⟩ := h
            rw [e48]
            obtain ⟨o49, h⟩ := h
            obtain ⟨o50, h⟩ := h
            refine x_lald hG dX7_one_88 o49 o50 ?_
            change X _ _ _ _ _ _ [some (.ref p), some (.ref b2), some (.int ((A.I p 0) * (A.I b2 8))), some (.int y4_3), none] [.long (A4.L b48 (ix (((A4.I p 0) * (A4.I b46 8)) + y4_3))), .long y42_s0, .long (A4.L b38 (ix (((A.I p 0) * (A.I b2 8)) + y4_3))), .int (((A.I p 0) * (A.I b2 8)) + y4_3), .ref b38]
            exact X.weak (xle_c rfl (xle_c rfl (xle_c rfl (xle_c rfl (xle_n xle_nil))))) (kj43 (A4.L b48 (ix (((A4.I p 0) * (A4.I b46 8)) + y4_3))) h)
          · replace h := h.1 c63
            refine x_lconst_ (v := (0 : Int64)) dX7_one_66 (by decide) ?_
            refine x_goto (tgt := 89) dX7_one_67 (by decide) ?_
            change X _ _ _ _ _ _ [some (.ref p), some (.ref b2), some (.int ((A.I p 0) * (A.I b2 8))), some (.int y4_3), none] [.long (0 : Int64), .long y42_s0, .long (A4.L b38 (ix (((A.I p 0) * (A.I b2 8)) + y4_3))), .int (((A.I p 0) * (A.I b2 8)) + y4_3), .ref b38]
            exact X.weak (xle_c rfl (xle_c rfl (xle_c rfl (xle_c rfl (xle_n xle_nil))))) (kj43 (0 : Int64) h)
        refine x_ifnonnull (tgt := 40) dX7_one_33 (by decide) (fun b51 c33 => ?_) (fun c33 => ?_)
        · replace h := h.2 b51 c33
          refine x_aload_n dX7_one_40 rfl ?_
          refine x_get (v := va_rf (A4.P p 1)) hG dX7_one_41 f_X7_9_6 o5 rfl ?_
          refine x_aload_n dX7_one_44 rfl ?_
          refine x_get (v := .int (A4.I p 0)) hG dX7_one_45 f_X7_27_6 o5 rfl ?_
          refine x_aload_n dX7_one_48 rfl ?_
          refine x_get (v := .ref b51) hG dX7_one_49 f_X7_57_34 o41 (congrArg va_rf c33) ?_
          obtain ⟨o52, h⟩ := h
          refine x_get (v := .int (A4.I b51 8)) hG dX7_one_52 f_X7_54_34 o52 rfl ?_
          refine x_imul dX7_one_55 ?_
          refine x_iload_n dX7_one_56 rfl ?_
          refine x_iadd dX7_one_57 ?_
          obtain ⟨b53, e53, h⟩ := h
          rw [e53]
          obtain ⟨o54, h⟩ := h
          obtain ⟨o55, h⟩ := h
          refine x_lald hG dX7_one_58 o54 o55 ?_
          change X _ _ _ _ _ _ [some (.ref p), some (.ref b2), some (.int ((A.I p 0) * (A.I b2 8))), some (.int y4_3), none] [.long (A4.L b53 (ix (((A4.I p 0) * (A4.I b51 8)) + y4_3))), .long (A4.L b38 (ix (((A.I p 0) * (A.I b2 8)) + y4_3))), .int (((A.I p 0) * (A.I b2 8)) + y4_3), .ref b38]
          exact X.weak (xle_c rfl (xle_c rfl (xle_c rfl (xle_c rfl (xle_n xle_nil))))) (kj42 (A4.L b53 (ix (((A4.I p 0) * (A4.I b51 8)) + y4_3))) h)
        · replace h := h.1 c33
          refine x_lconst_ (v := (0 : Int64)) dX7_one_36 (by decide) ?_
          refine x_goto (tgt := 59) dX7_one_37 (by decide) ?_
          change X _ _ _ _ _ _ [some (.ref p), some (.ref b2), some (.int ((A.I p 0) * (A.I b2 8))), some (.int y4_3), none] [.long (0 : Int64), .long (A4.L b38 (ix (((A.I p 0) * (A.I b2 8)) + y4_3))), .int (((A.I p 0) * (A.I b2 8)) + y4_3), .ref b38]
          exact X.weak (xle_c rfl (xle_c rfl (xle_c rfl (xle_c rfl (xle_n xle_nil))))) (kj42 (0 : Int64) h)
  change X _ _ _ _ _ _ [some (.ref p), some (.ref b2), some (.int ((A.I p 0) * (A.I b2 8))), some (.int (0 : Int32)), none] []
  exact X.weak (xle_c rfl (xle_c rfl (xle_c rfl (xle_c rfl (xle_n xle_nil))))) (kl4 n4 (0 : Int32) A i4)
def w_X7_find (G : xG) (p : Nat) (c : Option Nat) (Q : xA → Prop) (A : xA) : Prop := xok G A → ∃ b1 : Nat, c = some b1 ∧ (A.tg b1 = 34 ∧ (A.tg p = 7 ∧ (∀ A4 : xA, A4 = A.setI p 0 (((A.I b1 2) + (63 : Int32)) / (64 : Int32)) → (∃ b6 : Nat, (A.P b1 1) = some b6 ∧ (A4.tg b6 = 37 ∧ (∃ R5 : Int32 → xA → Prop, w_J5_size G b6 R5 A4 ∧ (∀ (v5 : Int32) (A5 : xA), xok G A5 → R5 v5 A5 → (A5.tg p = 7 ∧ (∃ R9 : Option Nat → xA → Prop, w_X0_roomFor_2 G (A5.P p 1) ((((A.I b1 2) + (63 : Int32)) / (64 : Int32)) * v5) R9 A5 ∧ (∀ (v9 : Option Nat) (A9 : xA), xok G A9 → R9 v9 A9 → (A9.tg p = 7 ∧ (∀ A11 : xA, A11 = A9.setP p 1 v9 → (∃ R12 : Option Nat → xA → Prop, w_X0_roomFor_2 G (A9.P p 2) ((((A.I b1 2) + (63 : Int32)) / (64 : Int32)) * v5) R12 A11 ∧ (∀ (v12 : Option Nat) (A12 : xA), xok G A12 → R12 v12 A12 → (A12.tg p = 7 ∧ (∀ A14 : xA, A14 = A12.setP p 2 v12 → (∃ R15 : Option Nat → xA → Prop, w_X0_roomFor_2 G (A12.P p 3) (A12.I p 0) R15 A14 ∧ (∀ (v15 : Option Nat) (A15 : xA), xok G A15 → R15 v15 A15 → (A15.tg p = 7 ∧ (∀ A17 : xA, A17 = A15.setP p 3 v15 → (∃ L18 : Nat → Int32 → xA → Prop, (∃ n18 : Nat, L18 n18 (0 : Int32) A17) ∧ (∀ (n18 : Nat) (y18_3 : Int32) (A18 : xA), L18 n18 y18_3 A18 → ((((((A.I b1 2) + (63 : Int32)) / (64 : Int32)) * v5) ≤ y18_3 → ∃ L19 : Nat → Int32 → xA → Prop, (∃ n19 : Nat, L19 n19 (1 : Int32) A18) ∧ (∀ (n19 : Nat) (y19_3 : Int32) (A19 : xA), L19 n19 y19_3 A19 → ((y19_3 = 0 → Q A19) ∧ (¬ y19_3 = 0 → A19.tg b1 = 34 ∧ (∃ b22 : Nat, (A19.P b1 1) = some b22 ∧ (A19.tg b22 = 37 ∧ (∃ R21 : Int32 → xA → Prop, w_J5_size G b22 R21 A19 ∧ (∀ (v21 : Int32) (A21 : xA), xok G A21 → R21 v21 A21 → (∃ L24 : Nat → Int32 → Int32 → xA → Prop, (∃ n24 : Nat, L24 n24 (0 : Int32) (v21 - (1 : Int32)) A21) ∧ (∀ (n24 : Nat) (y24_3 : Int32) (y24_4 : Int32) (A24 : xA), L24 n24 y24_3 y24_4 A24 → ((y24_4 < 0 → (∃ q19 : Nat, q19 < n19 ∧ L19 q19 y24_3 A24)) ∧ (¬ y24_4 < 0 → A24.tg b1 = 34 ∧ (∃ b27 : Nat, (A24.P b1 1) = some b27 ∧ (A24.tg b27 = 37 ∧ (∃ R26 : Option Nat → xA → Prop, w_J5_get G b27 y24_4 R26 A24 ∧ (∀ (v26 : Option Nat) (A26 : xA), xok G A26 → R26 v26 A26 → (∃ b29 : Nat, v26 = some b29 ∧ (A26.tg b29 = 35 ∧ (A26.tg p = 7 ∧ (∃ R31 : Int32 → xA → Prop, w_X7_one G p (some b29) R31 A26 ∧ (∀ (v31 : Int32) (A31 : xA), xok G A31 → (v31 = 0 ∨ v31 = 1) → R31 v31 A31 → ((∃ q24 : Nat, q24 < n24 ∧ L24 q24 (if v31 = 0 then (if y24_3 = 0 then (0 : Int32) else (1 : Int32)) else (1 : Int32)) (y24_4 + (-1 : Int32)) A31))))))))))))))))))))))) ∧ (¬ ((((A.I b1 2) + (63 : Int32)) / (64 : Int32)) * v5) ≤ y18_3 → A18.tg p = 7 ∧ (∃ b34 : Nat, (A18.P p 1) = some b34 ∧ (A18.tg b34 = 201 ∧ (G.N ≤ b34 ∧ (vp_in y18_3 (A18.ln b34) ∧ (∀ A38 : xA, A38 = A18.setL b34 (ix y18_3) (0 : Int64) → (∃ b39 : Nat, (A18.P p 2) = some b39 ∧ (A38.tg b39 = 201 ∧ (G.N ≤ b39 ∧ (vp_in y18_3 (A38.ln b39) ∧ (∀ A43 : xA, A43 = A38.setL b39 (ix y18_3) (0 : Int64) → ((∃ q18 : Nat, q18 < n18 ∧ L18 q18 (y18_3 + (1 : Int32)) A43))))))))))))))))))))))))))))))))))))
theorem m_X7_find (hG : xOK G) (hO : xHO G) {dp : Nat} {p : Nat} {c : Option Nat} {Q : xA → Prop} {A : xA} (h : w_X7_find G p c Q A) : MX G (dp + 4) kX7_find [.ref p, va_rf c] A (hV Q) := by
  unfold w_X7_find at h
  refine MX.of rfl (by cases c <;> exact Nat.le_of_ble_eq_true rfl) ?_
  refine X.lvs (lv' := [some (.ref p), some (va_rf c), none, none, none]) (by cases c <;> rfl) ?_
  refine X.xok (fun w0 => ?_)
  replace h := h w0
  refine x_aload_n dX7_find_0 rfl ?_
  refine x_aloadq_n dX7_find_1 rfl ?_
  obtain ⟨b1, e1, h⟩ := h
  rw [e1]
  obtain ⟨o2, h⟩ := h
  refine x_get (v := .int (A.I b1 2)) hG dX7_find_2 f_X7_21_33 o2 rfl ?_
  refine x_bipush_ (v := (63 : Int32)) dX7_find_5 (by decide) ?_
  refine x_iadd dX7_find_7 ?_
  refine x_bipush_ (v := (64 : Int32)) dX7_find_8 (by decide) ?_
  refine x_idiv dX7_find_10 (by decide) ?_
  obtain ⟨o3, h⟩ := h
  refine z_putI hG hO.1 dX7_find_11 f_X7_27_6 ⟨_, rfl, Or.inl rfl⟩ o3 (by decide) rfl rfl ⟨_, rfl⟩ (fun A4 e4 => ?_)
  replace h := h A4 e4
  refine x_aload_n dX7_find_14 rfl ?_
  refine x_get (v := .int (((A.I b1 2) + (63 : Int32)) / (64 : Int32))) hG dX7_find_15 f_X7_27_6 (kI e4 o3) (congrArg Value.int (sI_s e4)) ?_
  refine x_aload_n dX7_find_18 rfl ?_
  refine x_get (v := va_rf (A.P b1 1)) hG dX7_find_19 f_X7_30_33 (kI e4 o2) (congrArg va_rf (sI_P e4)) ?_
  obtain ⟨b6, e6, h⟩ := h
  rw [e6]
  obtain ⟨o7, h⟩ := h
  obtain ⟨R5, g5, h⟩ := h
  refine x_callV hG (Ky := kJ5_size) (As := []) dX7_find_22 o7 rfl lk_X7_34 me_J5_size is_J5_size se_J5_size rfl rfl (Nat.le_of_ble_eq_true rfl) (MX.post (m_w_J5_size hG hO g5) ?_)
  rintro _ A5 ⟨v5, rfl, h1⟩
  refine X.xok (fun w5 => ?_)
  replace h := h v5 A5 w5 h1
  change X _ _ _ _ A5 _ _ [.int v5, .int (((A.I b1 2) + (63 : Int32)) / (64 : Int32))]
  refine x_imul dX7_find_25 ?_
  refine x_istore_n dX7_find_26 (by decide) ?_
  refine x_aload_n dX7_find_27 rfl ?_
  refine x_aload_n dX7_find_28 rfl ?_
  obtain ⟨o8, h⟩ := h
  refine x_get (v := va_rf (A5.P p 1)) hG dX7_find_29 f_X7_9_6 o8 rfl ?_
  refine x_iload_n dX7_find_32 rfl ?_
  obtain ⟨R9, g9, h⟩ := h
  refine x_callS hG (Ky := kX0_roomFor_2) (As := [va_rf (A5.P p 1), .int ((((A.I b1 2) + (63 : Int32)) / (64 : Int32)) * v5)]) dX7_find_33 lk_X7_40 me_X0_roomFor_2 st_X0_roomFor_2 rfl rfl (Nat.le_of_ble_eq_true rfl) (MX.post (m_X0_roomFor_2 hG hO g9) ?_)
  rintro _ A9 ⟨v9, rfl, h1⟩
  refine X.xok (fun w9 => ?_)
  replace h := h v9 A9 w9 h1
  change X _ _ _ _ A9 _ _ [va_rf v9, .ref p]
  obtain ⟨o10, h⟩ := h
  refine z_putP hG hO.1 v9 dX7_find_36 f_X7_9_6 ⟨_, rfl, Or.inl rfl⟩ o10 (by decide) (Or.inr ⟨_, rfl⟩) (fun A11 e11 => ?_)
  replace h := h A11 e11
  refine x_aload_n dX7_find_39 rfl ?_
  refine x_aload_n dX7_find_40 rfl ?_
  refine x_get (v := va_rf (A9.P p 2)) hG dX7_find_41 f_X7_15_6 (kP e11 o10) (congrArg va_rf (sP_k e11 (by decide))) ?_
  refine x_iload_n dX7_find_44 rfl ?_
  obtain ⟨R12, g12, h⟩ := h
  refine x_callS hG (Ky := kX0_roomFor_2) (As := [va_rf (A9.P p 2), .int ((((A.I b1 2) + (63 : Int32)) / (64 : Int32)) * v5)]) dX7_find_45 lk_X7_40 me_X0_roomFor_2 st_X0_roomFor_2 rfl rfl (Nat.le_of_ble_eq_true rfl) (MX.post (m_X0_roomFor_2 hG hO g12) ?_)
  rintro _ A12 ⟨v12, rfl, h1⟩
  refine X.xok (fun w12 => ?_)
  replace h := h v12 A12 w12 h1
  change X _ _ _ _ A12 _ _ [va_rf v12, .ref p]
  obtain ⟨o13, h⟩ := h
  refine z_putP hG hO.1 v12 dX7_find_48 f_X7_15_6 ⟨_, rfl, Or.inl rfl⟩ o13 (by decide) (Or.inr ⟨_, rfl⟩) (fun A14 e14 => ?_)
  replace h := h A14 e14
  refine x_aload_n dX7_find_51 rfl ?_
  refine x_aload_n dX7_find_52 rfl ?_
  refine x_get (v := va_rf (A12.P p 3)) hG dX7_find_53 f_X7_18_6 (kP e14 o13) (congrArg va_rf (sP_k e14 (by decide))) ?_
  refine x_aload_n dX7_find_56 rfl ?_
  refine x_get (v := .int (A12.I p 0)) hG dX7_find_57 f_X7_27_6 (kP e14 o13) (congrArg Value.int (sP_I e14)) ?_
  obtain ⟨R15, g15, h⟩ := h
  refine x_callS hG (Ky := kX0_roomFor_2) (As := [va_rf (A12.P p 3), .int (A12.I p 0)]) dX7_find_60 lk_X7_40 me_X0_roomFor_2 st_X0_roomFor_2 rfl rfl (Nat.le_of_ble_eq_true rfl) (MX.post (m_X0_roomFor_2 hG hO g15) ?_)
  rintro _ A15 ⟨v15, rfl, h1⟩
  refine X.xok (fun w15 => ?_)
  replace h := h v15 A15 w15 h1
  change X _ _ _ _ A15 _ _ [va_rf v15, .ref p]
  obtain ⟨o16, h⟩ := h
  refine z_putP hG hO.1 v15 dX7_find_63 f_X7_18_6 ⟨_, rfl, Or.inl rfl⟩ o16 (by decide) (Or.inr ⟨_, rfl⟩) (fun A17 e17 => ?_)
  replace h := h A17 e17
  refine x_iconst_ (v := (0 : Int32)) dX7_find_66 (by decide) ?_
  refine x_istore_n dX7_find_67 (by decide) ?_
  obtain ⟨L18, ⟨n18, i18⟩, g18⟩ := h
  have kl18 : ∀ n18 : Nat, ∀ (y18_3 : Int32) (A18 : xA), L18 n18 y18_3 A18 → X G (dp + 4) kX7_find (hV Q) A18 68 [some (.ref p), some (.ref b1), some (.int ((((A.I b1 2) + (63 : Int32)) / (64 : Int32)) * v5)), some (.int y18_3), none] [] := by
    intro n18
    induction n18 using Nat.strongRecOn with
    | ind n18 ih18 =>
      intro y18_3 A18 h
      replace h := g18 n18 y18_3 A18 h
      refine x_iload_n dX7_find_68 rfl ?_
      refine x_iload_n dX7_find_69 rfl ?_
      refine x_icmp_ge (tgt := 93) dX7_find_70 (by decide) (fun c70 => ?_) (fun c70 => ?_)
      · replace h := h.1 c70
        refine x_iconst_ (v := (1 : Int32)) dX7_find_93 (by decide) ?_
        refine x_istore_n dX7_find_94 (by decide) ?_
        obtain ⟨L19, ⟨n19, i19⟩, g19⟩ := h
        have kl19 : ∀ n19 : Nat, ∀ (y19_3 : Int32) (A19 : xA), L19 n19 y19_3 A19 → X G (dp + 4) kX7_find (hV Q) A19 95 [some (.ref p), some (.ref b1), none, some (.int y19_3), none] [] := by
          intro n19
          induction n19 using Nat.strongRecOn with
          | ind n19 ih19 =>
            intro y19_3 A19 h
            replace h := g19 n19 y19_3 A19 h
            refine x_iload_n dX7_find_95 rfl ?_
            refine x_if_eq (tgt := 155) dX7_find_96 (by decide) (fun c96 => ?_) (fun c96 => ?_)
            · replace h := h.1 c96
              exact x_vret dX7_find_155 rfl ⟨rfl, h⟩
            · replace h := h.2 c96
              refine x_iconst_ (v := (0 : Int32)) dX7_find_99 (by decide) ?_
              refine x_istore_n dX7_find_100 (by decide) ?_
              refine x_aload_n dX7_find_101 rfl ?_
              obtain ⟨o20, h⟩ := h
              refine x_get (v := va_rf (A19.P b1 1)) hG dX7_find_102 f_X7_30_33 o20 rfl ?_
              obtain ⟨b22, e22, h⟩ := h
              rw [e22]
              obtain ⟨o23, h⟩ := h
              obtain ⟨R21, g21, h⟩ := h
              refine x_callV hG (Ky := kJ5_size) (As := []) dX7_find_105 o23 rfl lk_X7_34 me_J5_size is_J5_size se_J5_size rfl rfl (Nat.le_of_ble_eq_true rfl) (MX.post (m_w_J5_size hG hO g21) ?_)
              rintro _ A21 ⟨v21, rfl, h1⟩
              refine X.xok (fun w21 => ?_)
              replace h := h v21 A21 w21 h1
              change X _ _ _ _ A21 _ _ [.int v21]
              refine x_iconst_ (v := (1 : Int32)) dX7_find_108 (by decide) ?_
              refine x_isub dX7_find_109 ?_
              refine x_istore dX7_find_110 (by decide) ?_
              obtain ⟨L24, ⟨n24, i24⟩, g24⟩ := h
              have kl24 : ∀ n24 : Nat, ∀ (y24_3 : Int32) (y24_4 : Int32) (A24 : xA), L24 n24 y24_3 y24_4 A24 → X G (dp + 4) kX7_find (hV Q) A24 112 [some (.ref p), some (.ref b1), none, some (.int y24_3), some (.int y24_4)] [] := by
                intro n24
                induction n24 using Nat.strongRecOn with
                | ind n24 ih24 =>
                  intro y24_3 y24_4 A24 h
                  replace h := g24 n24 y24_3 y24_4 A24 h
                  refine x_iload dX7_find_112 rfl ?_
                  refine x_if_lt (tgt := 152) dX7_find_114 (by decide) (fun c114 => ?_) (fun c114 => ?_)
                  · replace h := h.1 c114
                    refine x_goto (tgt := 95) dX7_find_152 (by decide) ?_
                    obtain ⟨q19, l19, h⟩ := h
                    change X _ _ _ _ _ _ [some (.ref p), some (.ref b1), none, some (.int y24_3), some (.int y24_4)] []
                    exact X.weak (xle_c rfl (xle_c rfl (xle_n (xle_c rfl (xle_n xle_nil))))) (ih19 q19 l19 y24_3 A24 h)
                  · replace h := h.2 c114
                    refine x_aload_n dX7_find_117 rfl ?_
                    refine x_aload_n dX7_find_118 rfl ?_
                    obtain ⟨o25, h⟩ := h
                    refine x_get (v := va_rf (A24.P b1 1)) hG dX7_find_119 f_X7_30_33 o25 rfl ?_
                    refine x_iload dX7_find_122 rfl ?_
                    obtain ⟨b27, e27, h⟩ := h
                    rw [e27]
                    obtain ⟨o28, h⟩ := h
                    obtain ⟨R26, g26, h⟩ := h
                    refine x_callV hG (Ky := kJ5_get) (As := [.int y24_4]) dX7_find_124 o28 rfl lk_X7_44 me_J5_get is_J5_get se_J5_get rfl rfl (Nat.le_of_ble_eq_true rfl) (MX.post (m_w_J5_get hG hO g26) ?_)
                    rintro _ A26 ⟨v26, rfl, h1⟩
                    refine X.xok (fun w26 => ?_)
                    replace h := h v26 A26 w26 h1
                    change X _ _ _ _ A26 _ _ [va_rf v26, .ref p]
                    obtain ⟨b29, e29, h⟩ := h
                    rw [e29]
                    obtain ⟨o30, h⟩ := h
                    refine x_cast hG dX7_find_127 q2620 o30 rfl (Or.inl rfl) ?_
                    obtain ⟨o32, h⟩ := h
                    obtain ⟨R31, g31, h⟩ := h
                    refine x_callV hG (Ky := kX7_one) (As := [.ref b29]) dX7_find_130 o32 rfl lk_X7_50 me_X7_one is_X7_one se_X7_one rfl rfl (Nat.le_of_ble_eq_true rfl) (MX.post (m_X7_one hG hO g31) ?_)
                    rintro _ A31 ⟨v31, rfl, zv31, h1⟩
                    refine X.xok (fun w31 => ?_)
                    replace h := h v31 A31 w31 zv31 h1
                    change X _ _ _ _ A31 _ _ [.int v31]
                    refine x_via 145 (A' := A31) (lv' := [some (.ref p), some (.ref b1), none, none, some (.int y24_4)]) (st' := [.int (if v31 = 0 then (if y24_3 = 0 then (0 : Int32) else (1 : Int32)) else (1 : Int32))]) ?_ (fun k145 => ?_)
                    rotate_left
                    · refine x_if_ne (tgt := 140) dX7_find_133 (by decide) (fun c133 => ?_) (fun c133 => ?_)
                      · refine x_iconst_ (v := (1 : Int32)) dX7_find_140 (by decide) ?_
                        refine x_goto (tgt := 145) dX7_find_141 (by decide) ?_
                        change X _ _ _ _ _ _ [some (.ref p), some (.ref b1), none, some (.int y24_3), some (.int y24_4)] [.int (1 : Int32)]
                        simp only [if_neg c133] at k145 ⊢
                        exact X.weak (xle_c rfl (xle_c rfl (xle_n (xle_n (xle_c rfl xle_nil))))) k145
                      · refine x_iload_n dX7_find_136 rfl ?_
                        refine x_if_eq (tgt := 144) dX7_find_137 (by decide) (fun c137 => ?_) (fun c137 => ?_)
                        · refine x_iconst_ (v := (0 : Int32)) dX7_find_144 (by decide) ?_
                          change X _ _ _ _ _ _ [some (.ref p), some (.ref b1), none, some (.int y24_3), some (.int y24_4)] [.int (0 : Int32)]
                          try simp only [if_pos c133] at c137 k145 ⊢
                          try simp only [if_pos c137] at k145 ⊢
                          exact X.weak (xle_c rfl (xle_c rfl (xle_n (xle_n (xle_c rfl xle_nil))))) k145
                        · refine x_iconst_ (v := (1 : Int32)) dX7_find_140 (by decide) ?_
                          refine x_goto (tgt := 145) dX7_find_141 (by decide) ?_
                          change X _ _ _ _ _ _ [some (.ref p), some (.ref b1), none, some (.int y24_3), some (.int y24_4)] [.int (1 : Int32)]
                          try simp only [if_pos c133] at c137 k145 ⊢
                          try simp only [if_neg c137] at k145 ⊢
                          exact X.weak (xle_c rfl (xle_c rfl (xle_n (xle_n (xle_c rfl xle_nil))))) k145
                    refine x_istore_n dX7_find_145 (by decide) ?_
                    refine x_iinc (v := (y24_4 + (-1 : Int32))) dX7_find_146 rfl rfl (by decide) ?_
                    refine x_goto (tgt := 112) dX7_find_149 (by decide) ?_
                    obtain ⟨q24, l24, h⟩ := h
                    change X _ _ _ _ _ _ [some (.ref p), some (.ref b1), none, some (.int (if v31 = 0 then (if y24_3 = 0 then (0 : Int32) else (1 : Int32)) else (1 : Int32))), some (.int (y24_4 + (-1 : Int32)))] []
                    exact X.weak (xle_c rfl (xle_c rfl (xle_n (xle_c rfl (xle_c rfl xle_nil))))) (ih24 q24 l24 (if v31 = 0 then (if y24_3 = 0 then (0 : Int32) else (1 : Int32)) else (1 : Int32)) (y24_4 + (-1 : Int32)) A31 h)
              change X _ _ _ _ _ _ [some (.ref p), some (.ref b1), none, some (.int (0 : Int32)), some (.int (v21 - (1 : Int32)))] []
              exact X.weak (xle_c rfl (xle_c rfl (xle_n (xle_c rfl (xle_c rfl xle_nil))))) (kl24 n24 (0 : Int32) (v21 - (1 : Int32)) A21 i24)
        change X _ _ _ _ _ _ [some (.ref p), some (.ref b1), some (.int ((((A.I b1 2) + (63 : Int32)) / (64 : Int32)) * v5)), some (.int (1 : Int32)), none] []
        exact X.weak (xle_c rfl (xle_c rfl (xle_n (xle_c rfl (xle_n xle_nil))))) (kl19 n19 (1 : Int32) A18 i19)
      · replace h := h.2 c70
        refine x_aload_n dX7_find_73 rfl ?_
        obtain ⟨o33, h⟩ := h
        refine x_get (v := va_rf (A18.P p 1)) hG dX7_find_74 f_X7_9_6 o33 rfl ?_
        refine x_iload_n dX7_find_77 rfl ?_
        refine x_lconst_ (v := (0 : Int64)) dX7_find_78 (by decide) ?_
        obtain ⟨b34, e34, h⟩ := h
        rw [e34]
        obtain ⟨o35, h⟩ := h
        obtain ⟨o36, h⟩ := h
        obtain ⟨o37, h⟩ := h
        refine z_last hG dX7_find_79 o35 o36 o37 (fun A38 e38 => ?_)
        replace h := h A38 e38
        refine x_aload_n dX7_find_80 rfl ?_
        refine x_get (v := va_rf (A18.P p 2)) hG dX7_find_81 f_X7_15_6 (kL e38 o33) (congrArg va_rf (sL_P e38)) ?_
        refine x_iload_n dX7_find_84 rfl ?_
        refine x_lconst_ (v := (0 : Int64)) dX7_find_85 (by decide) ?_
        obtain ⟨b39, e39, h⟩ := h
        rw [e39]
        obtain ⟨o40, h⟩ := h
        obtain ⟨o41, h⟩ := h
        obtain ⟨o42, h⟩ := h
        refine z_last hG dX7_find_86 o40 o41 o42 (fun A43 e43 => ?_)
        replace h := h A43 e43
        refine x_iinc (v := (y18_3 + (1 : Int32))) dX7_find_87 rfl rfl (by decide) ?_
        refine x_goto (tgt := 68) dX7_find_90 (by decide) ?_
        obtain ⟨q18, l18, h⟩ := h
        change X _ _ _ _ _ _ [some (.ref p), some (.ref b1), some (.int ((((A.I b1 2) + (63 : Int32)) / (64 : Int32)) * v5)), some (.int (y18_3 + (1 : Int32))), none] []
        exact X.weak (xle_c rfl (xle_c rfl (xle_c rfl (xle_c rfl (xle_n xle_nil))))) (ih18 q18 l18 (y18_3 + (1 : Int32)) A43 h)
  change X _ _ _ _ _ _ [some (.ref p), some (.ref b1), some (.int ((((A.I b1 2) + (63 : Int32)) / (64 : Int32)) * v5)), some (.int (0 : Int32)), none] []
  exact X.weak (xle_c rfl (xle_c rfl (xle_c rfl (xle_c rfl (xle_n xle_nil))))) (kl18 n18 (0 : Int32) A17 i18)
end W051
