/-! ===== 052.hpaint (tools/h045.py) ===== -/
set_option maxRecDepth 100000
section W052
variable {G : xG}
def w_X11_init (G : xG) (p : Nat) (l : Option Nat) (Q : xA → Prop) (A : xA) : Prop := xok G A → rmA G A (64 : Int32) ∧ (∀ A2 : xA, A2 = A.new 201 (ix (64 : Int32)) (ix (64 : Int32)) 0 → (A2.tg p = 11 ∧ (∀ A4 : xA, A4 = A2.setP p 4 (some A.n) → (rmA G A4 (64 : Int32) ∧ (∀ A6 : xA, A6 = A4.new 203 (ix (64 : Int32)) (ix (64 : Int32)) 0 → (∀ A7 : xA, A7 = A6.setP p 5 (some A4.n) → (rmA G A7 (64 : Int32) ∧ (∀ A9 : xA, A9 = A7.new 203 (ix (64 : Int32)) (ix (64 : Int32)) 0 → (∀ A10 : xA, A10 = A9.setP p 6 (some A7.n) → (rmA G A10 (64 : Int32) ∧ (∀ A12 : xA, A12 = A10.new 203 (ix (64 : Int32)) (ix (64 : Int32)) 0 → (∀ A13 : xA, A13 = A12.setP p 7 (some A10.n) → (rmA G A13 (64 : Int32) ∧ (∀ A15 : xA, A15 = A13.new 200 (ix (64 : Int32)) (ix (64 : Int32)) 0 → (∀ A16 : xA, A16 = A15.setP p 8 (some A13.n) → (rmA G A16 (64 : Int32) ∧ (∀ A18 : xA, A18 = A16.new 200 (ix (64 : Int32)) (ix (64 : Int32)) 0 → (∀ A19 : xA, A19 = A18.setP p 9 (some A16.n) → (rmA G A19 (64 : Int32) ∧ (∀ A21 : xA, A21 = A19.new 200 (ix (64 : Int32)) (ix (64 : Int32)) 0 → (∀ A22 : xA, A22 = A21.setP p 10 (some A19.n) → (rmA G A22 (64 : Int32) ∧ (∀ A24 : xA, A24 = A22.new 200 (ix (64 : Int32)) (ix (64 : Int32)) 0 → (∀ A25 : xA, A25 = A24.setP p 11 (some A22.n) → (rmA G A25 (64 : Int32) ∧ (∀ A27 : xA, A27 = A25.new 200 (ix (64 : Int32)) (ix (64 : Int32)) 0 → (∀ A28 : xA, A28 = A27.setP p 12 (some A25.n) → (∀ A29 : xA, A29 = A28.setP p 0 l → (Q A29)))))))))))))))))))))))))))))
theorem m_X11_init (hG : xOK G) (hO : xHO G) {dp : Nat} {p : Nat} {l : Option Nat} {Q : xA → Prop} {A : xA} (h : w_X11_init G p l Q A) : MX G (dp + 1) kX11_init [.ref p, va_rf l] A (hV Q) := by
  unfold w_X11_init at h
  refine MX.of rfl (by cases l <;> exact Nat.le_of_ble_eq_true rfl) ?_
  refine X.lvs (lv' := [some (.ref p), some (va_rf l)]) (by cases l <;> rfl) ?_
  refine X.xok (fun w0 => ?_)
  replace h := h w0
  refine x_aload_n dX11_init_0 rfl ?_
  refine x_objInit hG dX11_init_1 q768 q261 q262 (Nat.le_of_ble_eq_true rfl) ?_
  refine x_aload_n dX11_init_4 rfl ?_
  refine x_bipush_ (v := (64 : Int32)) dX11_init_5 (by decide) ?_
  obtain ⟨o1, h⟩ := h
  refine z_newa hG (j := 1) dX11_init_7 (by decide) rfl o1 q599 (fun A2 e2 w2 => ?_)
  replace h := h A2 e2
  obtain ⟨o3, h⟩ := h
  refine z_putP hG hO.1 (some A.n) dX11_init_9 f_X11_9_10 ⟨_, rfl, Or.inl rfl⟩ o3 (by decide) (Or.inr ⟨_, rfl⟩) (fun A4 e4 => ?_)
  replace h := h A4 e4
  refine x_aload_n dX11_init_12 rfl ?_
  refine x_bipush_ (v := (64 : Int32)) dX11_init_13 (by decide) ?_
  obtain ⟨o5, h⟩ := h
  refine z_newa hG (j := 3) dX11_init_15 (by decide) rfl o5 q756 (fun A6 e6 w6 => ?_)
  replace h := h A6 e6
  refine z_putP hG hO.1 (some A4.n) dX11_init_17 f_X11_15_10 ⟨_, rfl, Or.inl rfl⟩ (kN e6 w6 (kP e4 o3)) (by decide) (Or.inr ⟨_, rfl⟩) (fun A7 e7 => ?_)
  replace h := h A7 e7
  refine x_aload_n dX11_init_20 rfl ?_
  refine x_bipush_ (v := (64 : Int32)) dX11_init_21 (by decide) ?_
  obtain ⟨o8, h⟩ := h
  refine z_newa hG (j := 3) dX11_init_23 (by decide) rfl o8 q756 (fun A9 e9 w9 => ?_)
  replace h := h A9 e9
  refine z_putP hG hO.1 (some A7.n) dX11_init_25 f_X11_19_10 ⟨_, rfl, Or.inl rfl⟩ (kN e9 w9 (kP e7 (kN e6 w6 (kP e4 o3)))) (by decide) (Or.inr ⟨_, rfl⟩) (fun A10 e10 => ?_)
  replace h := h A10 e10
  refine x_aload_n dX11_init_28 rfl ?_
  refine x_bipush_ (v := (64 : Int32)) dX11_init_29 (by decide) ?_
  obtain ⟨o11, h⟩ := h
  refine z_newa hG (j := 3) dX11_init_31 (by decide) rfl o11 q756 (fun A12 e12 w12 => ?_)
  replace h := h A12 e12
  refine z_putP hG hO.1 (some A10.n) dX11_init_33 f_X11_22_10 ⟨_, rfl, Or.inl rfl⟩ (kN e12 w12 (kP e10 (kN e9 w9 (kP e7 (kN e6 w6 (kP e4 o3)))))) (by decide) (Or.inr ⟨_, rfl⟩) (fun A13 e13 => ?_)
  replace h := h A13 e13
  refine x_aload_n dX11_init_36 rfl ?_
  refine x_bipush_ (v := (64 : Int32)) dX11_init_37 (by decide) ?_
  obtain ⟨o14, h⟩ := h
  refine z_newa hG (j := 0) dX11_init_39 (by decide) rfl o14 q378 (fun A15 e15 w15 => ?_)
  replace h := h A15 e15
  refine z_putP hG hO.1 (some A13.n) dX11_init_41 f_X11_25_10 ⟨_, rfl, Or.inl rfl⟩ (kN e15 w15 (kP e13 (kN e12 w12 (kP e10 (kN e9 w9 (kP e7 (kN e6 w6 (kP e4 o3)))))))) (by decide) (Or.inr ⟨_, rfl⟩) (fun A16 e16 => ?_)
  replace h := h A16 e16
  refine x_aload_n dX11_init_44 rfl ?_
  refine x_bipush_ (v := (64 : Int32)) dX11_init_45 (by decide) ?_
  obtain ⟨o17, h⟩ := h
  refine z_newa hG (j := 0) dX11_init_47 (by decide) rfl o17 q378 (fun A18 e18 w18 => ?_)
  replace h := h A18 e18
  refine z_putP hG hO.1 (some A16.n) dX11_init_49 f_X11_29_10 ⟨_, rfl, Or.inl rfl⟩ (kN e18 w18 (kP e16 (kN e15 w15 (kP e13 (kN e12 w12 (kP e10 (kN e9 w9 (kP e7 (kN e6 w6 (kP e4 o3)))))))))) (by decide) (Or.inr ⟨_, rfl⟩) (fun A19 e19 => ?_)
  replace h := h A19 e19
  refine x_aload_n dX11_init_52 rfl ?_
  refine x_bipush_ (v := (64 : Int32)) dX11_init_53 (by decide) ?_
  obtain ⟨o20, h⟩ := h
  refine z_newa hG (j := 0) dX11_init_55 (by decide) rfl o20 q378 (fun A21 e21 w21 => ?_)
  replace h := h A21 e21
  refine z_putP hG hO.1 (some A19.n) dX11_init_57 f_X11_32_10 ⟨_, rfl, Or.inl rfl⟩ (kN e21 w21 (kP e19 (kN e18 w18 (kP e16 (kN e15 w15 (kP e13 (kN e12 w12 (kP e10 (kN e9 w9 (kP e7 (kN e6 w6 (kP e4 o3)))))))))))) (by decide) (Or.inr ⟨_, rfl⟩) (fun A22 e22 => ?_)
  replace h := h A22 e22
  refine x_aload_n dX11_init_60 rfl ?_
  refine x_bipush_ (v := (64 : Int32)) dX11_init_61 (by decide) ?_
  obtain ⟨o23, h⟩ := h
  refine z_newa hG (j := 0) dX11_init_63 (by decide) rfl o23 q378 (fun A24 e24 w24 => ?_)
  replace h := h A24 e24
  refine z_putP hG hO.1 (some A22.n) dX11_init_65 f_X11_35_10 ⟨_, rfl, Or.inl rfl⟩ (kN e24 w24 (kP e22 (kN e21 w21 (kP e19 (kN e18 w18 (kP e16 (kN e15 w15 (kP e13 (kN e12 w12 (kP e10 (kN e9 w9 (kP e7 (kN e6 w6 (kP e4 o3)))))))))))))) (by decide) (Or.inr ⟨_, rfl⟩) (fun A25 e25 => ?_)
  replace h := h A25 e25
  refine x_aload_n dX11_init_68 rfl ?_
  refine x_bipush_ (v := (64 : Int32)) dX11_init_69 (by decide) ?_
  obtain ⟨o26, h⟩ := h
  refine z_newa hG (j := 0) dX11_init_71 (by decide) rfl o26 q378 (fun A27 e27 w27 => ?_)
  replace h := h A27 e27
  refine z_putP hG hO.1 (some A25.n) dX11_init_73 f_X11_38_10 ⟨_, rfl, Or.inl rfl⟩ (kN e27 w27 (kP e25 (kN e24 w24 (kP e22 (kN e21 w21 (kP e19 (kN e18 w18 (kP e16 (kN e15 w15 (kP e13 (kN e12 w12 (kP e10 (kN e9 w9 (kP e7 (kN e6 w6 (kP e4 o3)))))))))))))))) (by decide) (Or.inr ⟨_, rfl⟩) (fun A28 e28 => ?_)
  replace h := h A28 e28
  refine x_aload_n dX11_init_76 rfl ?_
  refine x_aloadq_n dX11_init_77 rfl ?_
  refine z_putP hG hO.1 l dX11_init_78 f_X11_41_10 ⟨_, rfl, Or.inr ⟨rfl, rfl, rfl⟩⟩ (kP e28 (kN e27 w27 (kP e25 (kN e24 w24 (kP e22 (kN e21 w21 (kP e19 (kN e18 w18 (kP e16 (kN e15 w15 (kP e13 (kN e12 w12 (kP e10 (kN e9 w9 (kP e7 (kN e6 w6 (kP e4 o3))))))))))))))))) (by decide) (Or.inl ⟨_, rfl⟩) (fun A29 e29 => ?_)
  replace h := h A29 e29
  exact x_vret dX11_init_81 rfl ⟨rfl, h⟩
def w_X11_most (G : xG) (p : Nat) (r : Int32) (Q : Int32 → xA → Prop) (A : xA) : Prop := xok G A → A.tg p = 11 ∧ (∃ b2 : Nat, (A.P p 5) = some b2 ∧ (A.tg b2 = 203 ∧ (vp_in r (A.ln b2) ∧ (Q (if (A.I b2 (ix r)) = 0 then (nI (A.ln (G.cs 3))) else ((nI (A.ln (G.cs 3))) - (5 : Int32))) A))))
theorem m_X11_most (hG : xOK G) (hO : xHO G) {dp : Nat} {p : Nat} {r : Int32} {Q : Int32 → xA → Prop} {A : xA} (h : w_X11_most G p r Q A) : MX G (dp + 0) kX11_most [.ref p, .int r] A (hI Q) := by
  unfold w_X11_most at h
  refine MX.of rfl (Nat.le_of_ble_eq_true rfl) ?_
  change X _ _ _ _ _ _ [some (.ref p), some (.int r)] _
  refine X.xok (fun w0 => ?_)
  replace h := h w0
  refine x_aload_n dX11_most_0 rfl ?_
  obtain ⟨o1, h⟩ := h
  refine x_get (v := va_rf (A.P p 5)) hG dX11_most_1 f_X11_15_10 o1 rfl ?_
  refine x_iload_n dX11_most_4 rfl ?_
  obtain ⟨b2, e2, h⟩ := h
  rw [e2]
  obtain ⟨o3, h⟩ := h
  obtain ⟨o4, h⟩ := h
  refine x_zald hG dX11_most_5 o3 o4 ?_
  refine x_via 22 (A' := A) (lv' := [none, none]) (st' := [.int (if (A.I b2 (ix r)) = 0 then (nI (A.ln (G.cs 3))) else ((nI (A.ln (G.cs 3))) - (5 : Int32)))]) ?_ (fun k22 => ?_)
  rotate_left
  · refine x_if_eq (tgt := 18) dX11_most_6 (by decide) (fun c6 => ?_) (fun c6 => ?_)
    · refine x_gets hG (C := "CompiledHouse") hO.2.2.1.1.1 (Or.inr ⟨_, q2708⟩) (Or.inl rfl) dX11_most_18 ?_
      refine X.xok (fun w7 => ?_)
      have t7 := xold_tg w7 hO.2.2.1.1.2.1 hO.2.2.1.1.2.2.1
      refine x_alen hG (j := 0) dX11_most_21 t7 ?_
      change X _ _ _ _ _ _ [some (.ref p), some (.int r)] [.int (nI (A.ln (G.cs 3)))]
      simp only [if_pos c6] at k22 ⊢
      exact X.weak (xle_n (xle_n xle_nil)) k22
    · refine x_gets hG (C := "CompiledHouse") hO.2.2.1.1.1 (Or.inr ⟨_, q2708⟩) (Or.inl rfl) dX11_most_9 ?_
      refine X.xok (fun w8 => ?_)
      have t8 := xold_tg w8 hO.2.2.1.1.2.1 hO.2.2.1.1.2.2.1
      refine x_alen hG (j := 0) dX11_most_12 t8 ?_
      refine x_iconst_ (v := (5 : Int32)) dX11_most_13 (by decide) ?_
      refine x_isub dX11_most_14 ?_
      refine x_goto (tgt := 22) dX11_most_15 (by decide) ?_
      change X _ _ _ _ _ _ [some (.ref p), some (.int r)] [.int ((nI (A.ln (G.cs 3))) - (5 : Int32))]
      simp only [if_neg c6] at k22 ⊢
      exact X.weak (xle_n (xle_n xle_nil)) k22
  exact x_iret dX11_most_22 rfl ⟨_, rfl, h⟩
def w_X11_tie (G : xG) (p : Nat) (a : Int32) (b : Int32) (Q : xA → Prop) (A : xA) : Prop := xok G A → A.tg p = 11 ∧ (∃ b2 : Nat, (A.P p 4) = some b2 ∧ (A.tg b2 = 201 ∧ (vp_in ((a * (A.I p 1)) + (jishr b (6 : Int32))) (A.ln b2) ∧ (G.N ≤ b2 ∧ (∀ A6 : xA, A6 = A.setL b2 (ix ((a * (A.I p 1)) + (jishr b (6 : Int32)))) ((A.L b2 (ix ((a * (A.I p 1)) + (jishr b (6 : Int32))))) ||| (jlshl (1 : Int64) (b &&& (63 : Int32)))) → (vp_in ((b * (A.I p 1)) + (jishr a (6 : Int32))) (A6.ln b2) ∧ (∀ A8 : xA, A8 = A6.setL b2 (ix ((b * (A.I p 1)) + (jishr a (6 : Int32)))) ((A6.L b2 (ix ((b * (A.I p 1)) + (jishr a (6 : Int32))))) ||| (jlshl (1 : Int64) (a &&& (63 : Int32)))) → (Q A8))))))))
theorem m_X11_tie (hG : xOK G) (hO : xHO G) {dp : Nat} {p : Nat} {a : Int32} {b : Int32} {Q : xA → Prop} {A : xA} (h : w_X11_tie G p a b Q A) : MX G (dp + 0) kX11_tie [.ref p, .int a, .int b] A (hV Q) := by
  unfold w_X11_tie at h
  refine MX.of rfl (Nat.le_of_ble_eq_true rfl) ?_
  change X _ _ _ _ _ _ [some (.ref p), some (.int a), some (.int b)] _
  refine X.xok (fun w0 => ?_)
  replace h := h w0
  refine x_aload_n dX11_tie_0 rfl ?_
  obtain ⟨o1, h⟩ := h
  refine x_get (v := va_rf (A.P p 4)) hG dX11_tie_1 f_X11_9_10 o1 rfl ?_
  refine x_iload_n dX11_tie_4 rfl ?_
  refine x_aload_n dX11_tie_5 rfl ?_
  refine x_get (v := .int (A.I p 1)) hG dX11_tie_6 f_X11_54_10 o1 rfl ?_
  refine x_imul dX11_tie_9 ?_
  refine x_iload_n dX11_tie_10 rfl ?_
  refine x_bipush_ (v := (6 : Int32)) dX11_tie_11 (by decide) ?_
  refine x_ishr dX11_tie_13 ?_
  refine x_eqi (v := (jishr b (6 : Int32))) rfl ?_
  refine x_iadd dX11_tie_14 ?_
  refine x_dup2_11 dX11_tie_15 rfl (va_rf_cat _) ?_
  obtain ⟨b2, e2, h⟩ := h
  rw [e2]
  obtain ⟨o3, h⟩ := h
  obtain ⟨o4, h⟩ := h
  refine x_lald hG dX11_tie_16 o3 o4 ?_
  refine x_lconst_ (v := (1 : Int64)) dX11_tie_17 (by decide) ?_
  refine x_iload_n dX11_tie_18 rfl ?_
  refine x_bipush_ (v := (63 : Int32)) dX11_tie_19 (by decide) ?_
  refine x_iand dX11_tie_21 ?_
  refine x_lshl dX11_tie_22 ?_
  refine x_eql (v := (jlshl (1 : Int64) (b &&& (63 : Int32)))) rfl ?_
  refine x_lor dX11_tie_23 ?_
  obtain ⟨o5, h⟩ := h
  refine z_last hG dX11_tie_24 o3 o5 o4 (fun A6 e6 => ?_)
  replace h := h A6 e6
  refine x_aload_n dX11_tie_25 rfl ?_
  refine x_get (v := .ref b2) hG dX11_tie_26 f_X11_9_10 (kL e6 o1) (congrArg va_rf ((sL_P e6).trans e2)) ?_
  refine x_iload_n dX11_tie_29 rfl ?_
  refine x_aload_n dX11_tie_30 rfl ?_
  refine x_get (v := .int (A.I p 1)) hG dX11_tie_31 f_X11_54_10 (kL e6 o1) (congrArg Value.int (sL_I e6)) ?_
  refine x_imul dX11_tie_34 ?_
  refine x_iload_n dX11_tie_35 rfl ?_
  refine x_bipush_ (v := (6 : Int32)) dX11_tie_36 (by decide) ?_
  refine x_ishr dX11_tie_38 ?_
  refine x_eqi (v := (jishr a (6 : Int32))) rfl ?_
  refine x_iadd dX11_tie_39 ?_
  refine x_dup2_11 dX11_tie_40 rfl rfl ?_
  obtain ⟨o7, h⟩ := h
  refine x_lald hG dX11_tie_41 (kL e6 o3) o7 ?_
  refine x_lconst_ (v := (1 : Int64)) dX11_tie_42 (by decide) ?_
  refine x_iload_n dX11_tie_43 rfl ?_
  refine x_bipush_ (v := (63 : Int32)) dX11_tie_44 (by decide) ?_
  refine x_iand dX11_tie_46 ?_
  refine x_lshl dX11_tie_47 ?_
  refine x_eql (v := (jlshl (1 : Int64) (a &&& (63 : Int32)))) rfl ?_
  refine x_lor dX11_tie_48 ?_
  refine z_last hG dX11_tie_49 (kL e6 o3) o5 o7 (fun A8 e8 => ?_)
  replace h := h A8 e8
  exact x_vret dX11_tie_50 rfl ⟨rfl, h⟩
def w_X11_cross (G : xG) (p : Nat) (d : Int32) (r : Option Nat) (Q : xA → Prop) (A : xA) : Prop := xok G A → ∃ L1 : Nat → Int32 → xA → Prop, (∃ n1 : Nat, L1 n1 (0 : Int32) A) ∧ (∀ (n1 : Nat) (y1_3 : Int32) (A1 : xA), L1 n1 y1_3 A1 → A1.tg p = 11 ∧ ((((A1.I p 1) ≤ y1_3 → Q A1) ∧ (¬ (A1.I p 1) ≤ y1_3 → ∃ b3 : Nat, r = some b3 ∧ (A1.tg b3 = 201 ∧ (vp_in y1_3 (A1.ln b3) ∧ (∃ L6 : Nat → Int64 → xA → Prop, (∃ n6 : Nat, L6 n6 (A1.L b3 (ix y1_3)) A1) ∧ (∀ (n6 : Nat) (y6_4 : Int64) (A6 : xA), L6 n6 y6_4 A6 → (((lg_cmp y6_4 (0 : Int64)) = 0 → (∃ q1 : Nat, q1 < n1 ∧ L1 q1 (y1_3 + (1 : Int32)) A6)) ∧ (¬ (lg_cmp y6_4 (0 : Int64)) = 0 → A6.tg p = 11 ∧ (∃ b8 : Nat, (A6.P p 5) = some b8 ∧ (A6.tg b8 = 203 ∧ (vp_in (((64 : Int32) * y1_3) + (f_J16_numberOfTrailingZeros y6_4)) (A6.ln b8) ∧ (G.N ≤ b8 ∧ (∀ A12 : xA, A12 = A6.setI b8 (ix (((64 : Int32) * y1_3) + (f_J16_numberOfTrailingZeros y6_4))) (if (A6.I b8 (ix (((64 : Int32) * y1_3) + (f_J16_numberOfTrailingZeros y6_4)))) = 0 then (if (((64 : Int32) * y1_3) + (f_J16_numberOfTrailingZeros y6_4)) = d then (0 : Int32) else (1 : Int32)) else (1 : Int32)) → ((∃ q6 : Nat, q6 < n6 ∧ L6 q6 (y6_4 &&& (y6_4 - (1 : Int64))) A12)))))))))))))))))
theorem m_X11_cross (hG : xOK G) (hO : xHO G) {dp : Nat} {p : Nat} {d : Int32} {r : Option Nat} {Q : xA → Prop} {A : xA} (h : w_X11_cross G p d r Q A) : MX G (dp + 2) kX11_cross [.ref p, .int d, va_rf r] A (hV Q) := by
  unfold w_X11_cross at h
  refine MX.of rfl (by cases r <;> exact Nat.le_of_ble_eq_true rfl) ?_
  refine X.lvs (lv' := [some (.ref p), some (.int d), some (va_rf r), none, none, none, none]) (by cases r <;> rfl) ?_
  refine X.xok (fun w0 => ?_)
  replace h := h w0
  refine x_iconst_ (v := (0 : Int32)) dX11_cross_0 (by decide) ?_
  refine x_istore_n dX11_cross_1 (by decide) ?_
  refine X.lvs (lv' := [some (.ref p), some (.int d), some (va_rf r), some (.int (0 : Int32)), none, none, none]) (by generalize r = z; cases z <;> rfl) ?_
  obtain ⟨L1, ⟨n1, i1⟩, g1⟩ := h
  have kl1 : ∀ n1 : Nat, ∀ (y1_3 : Int32) (A1 : xA), L1 n1 y1_3 A1 → X G (dp + 2) kX11_cross (hV Q) A1 2 [some (.ref p), some (.int d), some (va_rf r), some (.int y1_3), none, none, none] [] := by
    intro n1
    induction n1 using Nat.strongRecOn with
    | ind n1 ih1 =>
      intro y1_3 A1 h
      replace h := g1 n1 y1_3 A1 h
      refine x_iload_n dX11_cross_2 rfl ?_
      refine x_aload_n dX11_cross_3 rfl ?_
      obtain ⟨o2, h⟩ := h
      refine x_get (v := .int (A1.I p 1)) hG dX11_cross_4 f_X11_54_10 o2 rfl ?_
      refine x_icmp_ge (tgt := 80) dX11_cross_7 (by decide) (fun c7 => ?_) (fun c7 => ?_)
      · replace h := h.1 c7
        exact x_vret dX11_cross_80 rfl ⟨rfl, h⟩
      · replace h := h.2 c7
        refine x_aloadq_n dX11_cross_10 rfl ?_
        refine x_iload_n dX11_cross_11 rfl ?_
        obtain ⟨b3, e3, h⟩ := h
        rw [e3]
        obtain ⟨o4, h⟩ := h
        obtain ⟨o5, h⟩ := h
        refine x_lald hG dX11_cross_12 o4 o5 ?_
        refine x_lstore dX11_cross_13 (by decide) ?_
        obtain ⟨L6, ⟨n6, i6⟩, g6⟩ := h
        have kl6 : ∀ n6 : Nat, ∀ (y6_4 : Int64) (A6 : xA), L6 n6 y6_4 A6 → X G (dp + 2) kX11_cross (hV Q) A6 15 [some (.ref p), some (.int d), some (.ref b3), some (.int y1_3), some (.long y6_4), none, none] [] := by
          intro n6
          induction n6 using Nat.strongRecOn with
          | ind n6 ih6 =>
            intro y6_4 A6 h
            replace h := g6 n6 y6_4 A6 h
            refine x_lload dX11_cross_15 rfl ?_
            refine x_lconst_ (v := (0 : Int64)) dX11_cross_17 (by decide) ?_
            refine x_lcmp dX11_cross_18 ?_
            refine x_if_eq (tgt := 74) dX11_cross_19 (by decide) (fun c19 => ?_) (fun c19 => ?_)
            · replace h := h.1 c19
              refine x_iinc (v := (y1_3 + (1 : Int32))) dX11_cross_74 rfl rfl (by decide) ?_
              refine x_goto (tgt := 2) dX11_cross_77 (by decide) ?_
              obtain ⟨q1, l1, h⟩ := h
              change X _ _ _ _ _ _ [some (.ref p), some (.int d), some (.ref b3), some (.int (y1_3 + (1 : Int32))), some (.long y6_4), none, none] []
              exact X.weak (xle_c rfl (xle_c rfl (xle_c (congrArg (fun z => some (va_rf z)) e3.symm) (xle_c rfl (xle_n (xle_n (xle_n xle_nil))))))) (ih1 q1 l1 (y1_3 + (1 : Int32)) A6 h)
            · replace h := h.2 c19
              refine x_bipush_ (v := (64 : Int32)) dX11_cross_22 (by decide) ?_
              refine x_iload_n dX11_cross_24 rfl ?_
              refine x_imul dX11_cross_25 ?_
              refine x_lload dX11_cross_26 rfl ?_
              refine x_callS hG (Ky := kJ16_numberOfTrailingZeros) (As := [.long y6_4]) dX11_cross_28 lk_X11_134 me_J16_numberOfTrailingZeros st_J16_numberOfTrailingZeros rfl rfl (Nat.le_of_ble_eq_true rfl) (MX.post (m_J16_numberOfTrailingZeros hG) ?_)
              rintro _ _ ⟨rfl, rfl⟩
              change X _ _ _ _ _ _ _ (.int (f_J16_numberOfTrailingZeros y6_4) :: _)
              refine x_iadd dX11_cross_31 ?_
              refine x_istore dX11_cross_32 (by decide) ?_
              refine x_aload_n dX11_cross_34 rfl ?_
              obtain ⟨o7, h⟩ := h
              refine x_get (v := va_rf (A6.P p 5)) hG dX11_cross_35 f_X11_15_10 o7 rfl ?_
              refine x_iload dX11_cross_38 rfl ?_
              refine x_aload_n dX11_cross_40 rfl ?_
              refine x_get (v := va_rf (A6.P p 5)) hG dX11_cross_41 f_X11_15_10 o7 rfl ?_
              refine x_iload dX11_cross_44 rfl ?_
              obtain ⟨b8, e8, h⟩ := h
              rw [e8]
              obtain ⟨o9, h⟩ := h
              obtain ⟨o10, h⟩ := h
              refine x_zald hG dX11_cross_46 o9 o10 ?_
              refine x_via 61 (A' := A6) (lv' := [some (.ref p), some (.int d), some (.ref b3), some (.int y1_3), some (.long y6_4), none, none]) (st' := [.int (if (A6.I b8 (ix (((64 : Int32) * y1_3) + (f_J16_numberOfTrailingZeros y6_4)))) = 0 then (if (((64 : Int32) * y1_3) + (f_J16_numberOfTrailingZeros y6_4)) = d then (0 : Int32) else (1 : Int32)) else (1 : Int32)), .int (((64 : Int32) * y1_3) + (f_J16_numberOfTrailingZeros y6_4)), .ref b8]) ?_ (fun k61 => ?_)
              rotate_left
              · refine x_if_ne (tgt := 56) dX11_cross_47 (by decide) (fun c47 => ?_) (fun c47 => ?_)
                · refine x_iconst_ (v := (1 : Int32)) dX11_cross_56 (by decide) ?_
                  refine x_goto (tgt := 61) dX11_cross_57 (by decide) ?_
                  change X _ _ _ _ _ _ [some (.ref p), some (.int d), some (.ref b3), some (.int y1_3), some (.long y6_4), none, some (.int (((64 : Int32) * y1_3) + (f_J16_numberOfTrailingZeros y6_4)))] [.int (1 : Int32), .int (((64 : Int32) * y1_3) + (f_J16_numberOfTrailingZeros y6_4)), .ref b8]
                  simp only [if_neg c47] at k61 ⊢
                  exact X.weak (xle_c rfl (xle_c rfl (xle_c rfl (xle_c rfl (xle_c rfl (xle_n (xle_n xle_nil))))))) k61
                · refine x_iload dX11_cross_50 rfl ?_
                  refine x_iload_n dX11_cross_52 rfl ?_
                  refine x_icmp_eq (tgt := 60) dX11_cross_53 (by decide) (fun c53 => ?_) (fun c53 => ?_)
                  · refine x_iconst_ (v := (0 : Int32)) dX11_cross_60 (by decide) ?_
                    change X _ _ _ _ _ _ [some (.ref p), some (.int d), some (.ref b3), some (.int y1_3), some (.long y6_4), none, some (.int (((64 : Int32) * y1_3) + (f_J16_numberOfTrailingZeros y6_4)))] [.int (0 : Int32), .int (((64 : Int32) * y1_3) + (f_J16_numberOfTrailingZeros y6_4)), .ref b8]
                    try simp only [if_pos c47] at c53 k61 ⊢
                    try simp only [if_pos c53] at k61 ⊢
                    exact X.weak (xle_c rfl (xle_c rfl (xle_c rfl (xle_c rfl (xle_c rfl (xle_n (xle_n xle_nil))))))) k61
                  · refine x_iconst_ (v := (1 : Int32)) dX11_cross_56 (by decide) ?_
                    refine x_goto (tgt := 61) dX11_cross_57 (by decide) ?_
                    change X _ _ _ _ _ _ [some (.ref p), some (.int d), some (.ref b3), some (.int y1_3), some (.long y6_4), none, some (.int (((64 : Int32) * y1_3) + (f_J16_numberOfTrailingZeros y6_4)))] [.int (1 : Int32), .int (((64 : Int32) * y1_3) + (f_J16_numberOfTrailingZeros y6_4)), .ref b8]
                    try simp only [if_pos c47] at c53 k61 ⊢
                    try simp only [if_neg c53] at k61 ⊢
                    exact X.weak (xle_c rfl (xle_c rfl (xle_c rfl (xle_c rfl (xle_c rfl (xle_n (xle_n xle_nil))))))) k61
              obtain ⟨o11, h⟩ := h
              refine z_zast hG dX11_cross_61 o9 o11 o10 (by (repeat' split) <;> decide) (fun A12 e12 => ?_)
              replace h := h A12 e12
              refine x_lload dX11_cross_62 rfl ?_
              refine x_lload dX11_cross_64 rfl ?_
              refine x_lconst_ (v := (1 : Int64)) dX11_cross_66 (by decide) ?_
              refine x_lsub dX11_cross_67 ?_
              refine x_land dX11_cross_68 ?_
              refine x_lstore dX11_cross_69 (by decide) ?_
              refine x_goto (tgt := 15) dX11_cross_71 (by decide) ?_
              obtain ⟨q6, l6, h⟩ := h
              change X _ _ _ _ _ _ [some (.ref p), some (.int d), some (.ref b3), some (.int y1_3), some (.long (y6_4 &&& (y6_4 - (1 : Int64)))), none, none] []
              exact X.weak (xle_c rfl (xle_c rfl (xle_c rfl (xle_c rfl (xle_c rfl (xle_n (xle_n xle_nil))))))) (ih6 q6 l6 (y6_4 &&& (y6_4 - (1 : Int64))) A12 h)
        change X _ _ _ _ _ _ [some (.ref p), some (.int d), some (.ref b3), some (.int y1_3), some (.long (A1.L b3 (ix y1_3))), none, none] []
        exact X.weak (xle_c rfl (xle_c rfl (xle_c rfl (xle_c rfl (xle_c rfl (xle_n (xle_n xle_nil))))))) (kl6 n6 (A1.L b3 (ix y1_3)) A1 i6)
  change X _ _ _ _ _ _ [some (.ref p), some (.int d), some (va_rf r), some (.int (0 : Int32)), none, none, none] []
  exact X.weak (xle_c rfl (xle_c rfl (xle_c rfl (xle_c rfl (xle_n (xle_n (xle_n xle_nil))))))) (kl1 n1 (0 : Int32) A i1)
def w_X11_meet (G : xG) (p : Nat) (x : Option Nat) (r : Option Nat) (Q : xA → Prop) (A : xA) : Prop := xok G A → A.tg p = 11 ∧ (∃ b2 : Nat, x = some b2 ∧ (A.tg b2 = 36 ∧ (∃ b4 : Nat, (A.P p 6) = some b4 ∧ (A.tg b4 = 203 ∧ (G.N ≤ b4 ∧ (vp_in (A.I b2 1) (A.ln b4) ∧ (∀ A8 : xA, A8 = A.setI b4 (ix (A.I b2 1)) (1 : Int32) → (∃ J9 : xA → Prop, (∀ (A9 : xA), J9 A9 → ∃ L10 : Nat → Int32 → xA → Prop, (∃ n10 : Nat, L10 n10 (0 : Int32) A9) ∧ (∀ (n10 : Nat) (y10_4 : Int32) (A10 : xA), L10 n10 y10_4 A10 → A10.tg p = 11 ∧ ((((A10.I p 1) ≤ y10_4 → Q A10) ∧ (¬ (A10.I p 1) ≤ y10_4 → ∃ b12 : Nat, r = some b12 ∧ (A10.tg b12 = 201 ∧ (vp_in y10_4 (A10.ln b12) ∧ (∃ L15 : Nat → Int64 → xA → Prop, (∃ n15 : Nat, L15 n15 (A10.L b12 (ix y10_4)) A10) ∧ (∀ (n15 : Nat) (y15_5 : Int64) (A15 : xA), L15 n15 y15_5 A15 → (((lg_cmp y15_5 (0 : Int64)) = 0 → (∃ q10 : Nat, q10 < n10 ∧ L10 q10 (y10_4 + (1 : Int32)) A15)) ∧ (¬ (lg_cmp y15_5 (0 : Int64)) = 0 → A15.tg b2 = 36 ∧ (∃ J17 : xA → Prop, (∀ (A17 : xA), J17 A17 → (∃ q15 : Nat, q15 < n15 ∧ L15 q15 (y15_5 &&& (y15_5 - (1 : Int64))) A17)) ∧ (((((64 : Int32) * y10_4) + (f_J16_numberOfTrailingZeros y15_5)) = (A15.I b2 1) → J17 A15) ∧ (¬ (((64 : Int32) * y10_4) + (f_J16_numberOfTrailingZeros y15_5)) = (A15.I b2 1) → (((((64 : Int32) * y10_4) + (f_J16_numberOfTrailingZeros y15_5)) = (if (A.I b2 0) = (20 : Int32) then (if (f_X0_isConstant (A.L b2 2)) = 0 then (A.L b2 2).toInt32 else (-1 : Int32)) else (-1 : Int32)) → J17 A15) ∧ (¬ (((64 : Int32) * y10_4) + (f_J16_numberOfTrailingZeros y15_5)) = (if (A.I b2 0) = (20 : Int32) then (if (f_X0_isConstant (A.L b2 2)) = 0 then (A.L b2 2).toInt32 else (-1 : Int32)) else (-1 : Int32)) → A15.tg p = 11 ∧ (∃ R18 : xA → Prop, w_X11_tie G p (A15.I b2 1) (((64 : Int32) * y10_4) + (f_J16_numberOfTrailingZeros y15_5)) R18 A15 ∧ (∀ A18 : xA, xok G A18 → R18 A18 → (J17 A18))))))))))))))))))) ∧ (((if (A.I b2 0) = (20 : Int32) then (if (f_X0_isConstant (A.L b2 2)) = 0 then (A.L b2 2).toInt32 else (-1 : Int32)) else (-1 : Int32)) < 0 → J9 A8) ∧ (¬ (if (A.I b2 0) = (20 : Int32) then (if (f_X0_isConstant (A.L b2 2)) = 0 then (A.L b2 2).toInt32 else (-1 : Int32)) else (-1 : Int32)) < 0 → ∃ b20 : Nat, (A.P p 9) = some b20 ∧ (A8.tg b20 = 200 ∧ (G.N ≤ b20 ∧ (vp_in (A.I b2 1) (A8.ln b20) ∧ (∀ A24 : xA, A24 = A8.setI b20 (ix (A.I b2 1)) (if (A.I b2 0) = (20 : Int32) then (if (f_X0_isConstant (A.L b2 2)) = 0 then (A.L b2 2).toInt32 else (-1 : Int32)) else (-1 : Int32)) → (vp_in (if (A.I b2 0) = (20 : Int32) then (if (f_X0_isConstant (A.L b2 2)) = 0 then (A.L b2 2).toInt32 else (-1 : Int32)) else (-1 : Int32)) (A24.ln b20) ∧ (((0 ≤ (A24.I b20 (ix (if (A.I b2 0) = (20 : Int32) then (if (f_X0_isConstant (A.L b2 2)) = 0 then (A.L b2 2).toInt32 else (-1 : Int32)) else (-1 : Int32)))) → J9 A24) ∧ (¬ 0 ≤ (A24.I b20 (ix (if (A.I b2 0) = (20 : Int32) then (if (f_X0_isConstant (A.L b2 2)) = 0 then (A.L b2 2).toInt32 else (-1 : Int32)) else (-1 : Int32)))) → ∀ A26 : xA, A26 = A24.setI b20 (ix (if (A.I b2 0) = (20 : Int32) then (if (f_X0_isConstant (A.L b2 2)) = 0 then (A.L b2 2).toInt32 else (-1 : Int32)) else (-1 : Int32))) (A.I b2 1) → (J9 A26)))))))))))))))))))
theorem m_X11_meet (hG : xOK G) (hO : xHO G) {dp : Nat} {p : Nat} {x : Option Nat} {r : Option Nat} {Q : xA → Prop} {A : xA} (h : w_X11_meet G p x r Q A) : MX G (dp + 2) kX11_meet [.ref p, va_rf x, va_rf r] A (hV Q) := by
  unfold w_X11_meet at h
  refine MX.of rfl (by cases x <;> cases r <;> exact Nat.le_of_ble_eq_true rfl) ?_
  refine X.lvs (lv' := [some (.ref p), some (va_rf x), some (va_rf r), none, none, none, none, none]) (by cases x <;> cases r <;> rfl) ?_
  refine X.xok (fun w0 => ?_)
  replace h := h w0
  refine x_aload_n dX11_meet_0 rfl ?_
  obtain ⟨o1, h⟩ := h
  refine x_get (v := va_rf (A.P p 6)) hG dX11_meet_1 f_X11_19_10 o1 rfl ?_
  refine x_aloadq_n dX11_meet_4 rfl ?_
  obtain ⟨b2, e2, h⟩ := h
  rw [e2]
  obtain ⟨o3, h⟩ := h
  refine x_get (v := .int (A.I b2 1)) hG dX11_meet_5 f_X11_98_35 o3 rfl ?_
  refine x_iconst_ (v := (1 : Int32)) dX11_meet_8 (by decide) ?_
  obtain ⟨b4, e4, h⟩ := h
  rw [e4]
  obtain ⟨o5, h⟩ := h
  obtain ⟨o6, h⟩ := h
  obtain ⟨o7, h⟩ := h
  refine z_zast hG dX11_meet_9 o5 o6 o7 (by decide) (fun A8 e8 => ?_)
  replace h := h A8 e8
  refine x_aload_n dX11_meet_10 rfl ?_
  refine x_get (v := .int (A.I b2 0)) hG dX11_meet_11 f_X11_108_35 (kI e8 o3) (congrArg Value.int (sI_a e8 (tne o3 o5 (by decide)))) ?_
  refine x_bipush_ (v := (20 : Int32)) dX11_meet_14 (by decide) ?_
  refine x_via 38 (A' := A8) (lv' := [some (.ref p), some (.ref b2), some (va_rf r), none, none, none, none, none]) (st' := [.int (if (A.I b2 0) = (20 : Int32) then (if (f_X0_isConstant (A.L b2 2)) = 0 then (A.L b2 2).toInt32 else (-1 : Int32)) else (-1 : Int32))]) ?_ (fun k38 => ?_)
  rotate_left
  · refine x_icmp_ne (tgt := 37) dX11_meet_16 (by decide) (fun c16 => ?_) (fun c16 => ?_)
    · refine x_iconst_ (v := (-1 : Int32)) dX11_meet_37 (by decide) ?_
      change X _ _ _ _ _ _ [some (.ref p), some (.ref b2), some (va_rf r), none, none, none, none, none] [.int (-1 : Int32)]
      simp only [if_neg c16] at k38 ⊢
      exact X.weak (xle_c rfl (xle_c rfl (xle_c rfl (xle_n (xle_n (xle_n (xle_n (xle_n xle_nil)))))))) k38
    · refine x_aload_n dX11_meet_19 rfl ?_
      refine x_get (v := .long (A.L b2 2)) hG dX11_meet_20 f_X11_126_35 (kI e8 o3) (congrArg Value.long (sI_L e8)) ?_
      refine x_callS hG (Ky := kX0_isConstant) (As := [.long (A.L b2 2)]) dX11_meet_23 lk_X11_130 me_X0_isConstant st_X0_isConstant rfl rfl (Nat.le_of_ble_eq_true rfl) (MX.post (m_X0_isConstant hG) ?_)
      rintro _ _ ⟨rfl, rfl⟩
      change X _ _ _ _ _ _ _ (.int (f_X0_isConstant (A.L b2 2)) :: _)
      refine x_if_ne (tgt := 37) dX11_meet_26 (by decide) (fun c26 => ?_) (fun c26 => ?_)
      · refine x_iconst_ (v := (-1 : Int32)) dX11_meet_37 (by decide) ?_
        change X _ _ _ _ _ _ [some (.ref p), some (.ref b2), some (va_rf r), none, none, none, none, none] [.int (-1 : Int32)]
        try simp only [if_pos c16] at c26 k38 ⊢
        try simp only [if_neg c26] at k38 ⊢
        exact X.weak (xle_c rfl (xle_c rfl (xle_c rfl (xle_n (xle_n (xle_n (xle_n (xle_n xle_nil)))))))) k38
      · refine x_aload_n dX11_meet_29 rfl ?_
        refine x_get (v := .long (A.L b2 2)) hG dX11_meet_30 f_X11_126_35 (kI e8 o3) (congrArg Value.long (sI_L e8)) ?_
        refine x_l2i dX11_meet_33 ?_
        refine x_goto (tgt := 38) dX11_meet_34 (by decide) ?_
        change X _ _ _ _ _ _ [some (.ref p), some (.ref b2), some (va_rf r), none, none, none, none, none] [.int (A.L b2 2).toInt32]
        try simp only [if_pos c16] at c26 k38 ⊢
        try simp only [if_pos c26] at k38 ⊢
        exact X.weak (xle_c rfl (xle_c rfl (xle_c rfl (xle_n (xle_n (xle_n (xle_n (xle_n xle_nil)))))))) k38
  refine x_istore_n dX11_meet_38 (by decide) ?_
  refine X.lvs (lv' := [some (.ref p), some (.ref b2), some (va_rf r), some (.int (if (A.I b2 0) = (20 : Int32) then (if (f_X0_isConstant (A.L b2 2)) = 0 then (A.L b2 2).toInt32 else (-1 : Int32)) else (-1 : Int32))), none, none, none, none]) (by generalize r = z; cases z <;> rfl) ?_
  refine x_iload_n dX11_meet_39 rfl ?_
  obtain ⟨J9, g9, h⟩ := h
  have kj9 : ∀ (A9 : xA), J9 A9 → X G (dp + 2) kX11_meet (hV Q) A9 72 [some (.ref p), some (.ref b2), some (va_rf r), some (.int (if (A.I b2 0) = (20 : Int32) then (if (f_X0_isConstant (A.L b2 2)) = 0 then (A.L b2 2).toInt32 else (-1 : Int32)) else (-1 : Int32))), none, none, none, none] [] := by
    intro A9 h
    replace h := g9 A9 h
    refine x_iconst_ (v := (0 : Int32)) dX11_meet_72 (by decide) ?_
    refine x_istore dX11_meet_73 (by decide) ?_
    obtain ⟨L10, ⟨n10, i10⟩, g10⟩ := h
    have kl10 : ∀ n10 : Nat, ∀ (y10_4 : Int32) (A10 : xA), L10 n10 y10_4 A10 → X G (dp + 2) kX11_meet (hV Q) A10 75 [some (.ref p), some (.ref b2), some (va_rf r), some (.int (if (A.I b2 0) = (20 : Int32) then (if (f_X0_isConstant (A.L b2 2)) = 0 then (A.L b2 2).toInt32 else (-1 : Int32)) else (-1 : Int32))), some (.int y10_4), none, none, none] [] := by
      intro n10
      induction n10 using Nat.strongRecOn with
      | ind n10 ih10 =>
        intro y10_4 A10 h
        replace h := g10 n10 y10_4 A10 h
        refine x_iload dX11_meet_75 rfl ?_
        refine x_aload_n dX11_meet_77 rfl ?_
        obtain ⟨o11, h⟩ := h
        refine x_get (v := .int (A10.I p 1)) hG dX11_meet_78 f_X11_54_10 o11 rfl ?_
        refine x_icmp_ge (tgt := 153) dX11_meet_81 (by decide) (fun c81 => ?_) (fun c81 => ?_)
        · replace h := h.1 c81
          exact x_vret dX11_meet_153 rfl ⟨rfl, h⟩
        · replace h := h.2 c81
          refine x_aloadq_n dX11_meet_84 rfl ?_
          refine x_iload dX11_meet_85 rfl ?_
          obtain ⟨b12, e12, h⟩ := h
          rw [e12]
          obtain ⟨o13, h⟩ := h
          obtain ⟨o14, h⟩ := h
          refine x_lald hG dX11_meet_87 o13 o14 ?_
          refine x_lstore dX11_meet_88 (by decide) ?_
          obtain ⟨L15, ⟨n15, i15⟩, g15⟩ := h
          have kl15 : ∀ n15 : Nat, ∀ (y15_5 : Int64) (A15 : xA), L15 n15 y15_5 A15 → X G (dp + 2) kX11_meet (hV Q) A15 90 [some (.ref p), some (.ref b2), some (.ref b12), some (.int (if (A.I b2 0) = (20 : Int32) then (if (f_X0_isConstant (A.L b2 2)) = 0 then (A.L b2 2).toInt32 else (-1 : Int32)) else (-1 : Int32))), some (.int y10_4), some (.long y15_5), none, none] [] := by
            intro n15
            induction n15 using Nat.strongRecOn with
            | ind n15 ih15 =>
              intro y15_5 A15 h
              replace h := g15 n15 y15_5 A15 h
              refine x_lload dX11_meet_90 rfl ?_
              refine x_lconst_ (v := (0 : Int64)) dX11_meet_92 (by decide) ?_
              refine x_lcmp dX11_meet_93 ?_
              refine x_if_eq (tgt := 147) dX11_meet_94 (by decide) (fun c94 => ?_) (fun c94 => ?_)
              · replace h := h.1 c94
                refine x_iinc (v := (y10_4 + (1 : Int32))) dX11_meet_147 rfl rfl (by decide) ?_
                refine x_goto (tgt := 75) dX11_meet_150 (by decide) ?_
                obtain ⟨q10, l10, h⟩ := h
                change X _ _ _ _ _ _ [some (.ref p), some (.ref b2), some (.ref b12), some (.int (if (A.I b2 0) = (20 : Int32) then (if (f_X0_isConstant (A.L b2 2)) = 0 then (A.L b2 2).toInt32 else (-1 : Int32)) else (-1 : Int32))), some (.int (y10_4 + (1 : Int32))), some (.long y15_5), none, none] []
                exact X.weak (xle_c rfl (xle_c rfl (xle_c (congrArg (fun z => some (va_rf z)) e12.symm) (xle_c rfl (xle_c rfl (xle_n (xle_n (xle_n xle_nil)))))))) (ih10 q10 l10 (y10_4 + (1 : Int32)) A15 h)
              · replace h := h.2 c94
                refine x_bipush_ (v := (64 : Int32)) dX11_meet_97 (by decide) ?_
                refine x_iload dX11_meet_99 rfl ?_
                refine x_imul dX11_meet_101 ?_
                refine x_lload dX11_meet_102 rfl ?_
                refine x_callS hG (Ky := kJ16_numberOfTrailingZeros) (As := [.long y15_5]) dX11_meet_104 lk_X11_134 me_J16_numberOfTrailingZeros st_J16_numberOfTrailingZeros rfl rfl (Nat.le_of_ble_eq_true rfl) (MX.post (m_J16_numberOfTrailingZeros hG) ?_)
                rintro _ _ ⟨rfl, rfl⟩
                change X _ _ _ _ _ _ _ (.int (f_J16_numberOfTrailingZeros y15_5) :: _)
                refine x_iadd dX11_meet_107 ?_
                refine x_istore dX11_meet_108 (by decide) ?_
                refine x_iload dX11_meet_110 rfl ?_
                refine x_aload_n dX11_meet_112 rfl ?_
                obtain ⟨o16, h⟩ := h
                refine x_get (v := .int (A15.I b2 1)) hG dX11_meet_113 f_X11_98_35 o16 rfl ?_
                obtain ⟨J17, g17, h⟩ := h
                have kj17 : ∀ (A17 : xA), J17 A17 → X G (dp + 2) kX11_meet (hV Q) A17 135 [some (.ref p), some (.ref b2), some (.ref b12), some (.int (if (A.I b2 0) = (20 : Int32) then (if (f_X0_isConstant (A.L b2 2)) = 0 then (A.L b2 2).toInt32 else (-1 : Int32)) else (-1 : Int32))), some (.int y10_4), some (.long y15_5), none, none] [] := by
                  intro A17 h
                  replace h := g17 A17 h
                  refine x_lload dX11_meet_135 rfl ?_
                  refine x_lload dX11_meet_137 rfl ?_
                  refine x_lconst_ (v := (1 : Int64)) dX11_meet_139 (by decide) ?_
                  refine x_lsub dX11_meet_140 ?_
                  refine x_land dX11_meet_141 ?_
                  refine x_lstore dX11_meet_142 (by decide) ?_
                  refine x_goto (tgt := 90) dX11_meet_144 (by decide) ?_
                  obtain ⟨q15, l15, h⟩ := h
                  change X _ _ _ _ _ _ [some (.ref p), some (.ref b2), some (.ref b12), some (.int (if (A.I b2 0) = (20 : Int32) then (if (f_X0_isConstant (A.L b2 2)) = 0 then (A.L b2 2).toInt32 else (-1 : Int32)) else (-1 : Int32))), some (.int y10_4), some (.long (y15_5 &&& (y15_5 - (1 : Int64)))), none, none] []
                  exact X.weak (xle_c rfl (xle_c rfl (xle_c rfl (xle_c rfl (xle_c rfl (xle_c rfl (xle_n (xle_n xle_nil)))))))) (ih15 q15 l15 (y15_5 &&& (y15_5 - (1 : Int64))) A17 h)
                refine x_icmp_eq (tgt := 135) dX11_meet_116 (by decide) (fun c116 => ?_) (fun c116 => ?_)
                · replace h := h.1 c116
                  change X _ _ _ _ _ _ [some (.ref p), some (.ref b2), some (.ref b12), some (.int (if (A.I b2 0) = (20 : Int32) then (if (f_X0_isConstant (A.L b2 2)) = 0 then (A.L b2 2).toInt32 else (-1 : Int32)) else (-1 : Int32))), some (.int y10_4), some (.long y15_5), none, some (.int (((64 : Int32) * y10_4) + (f_J16_numberOfTrailingZeros y15_5)))] []
                  exact X.weak (xle_c rfl (xle_c rfl (xle_c rfl (xle_c rfl (xle_c rfl (xle_c rfl (xle_n (xle_n xle_nil)))))))) (kj17 A15 h)
                · replace h := h.2 c116
                  refine x_iload dX11_meet_119 rfl ?_
                  refine x_iload_n dX11_meet_121 rfl ?_
                  refine x_icmp_eq (tgt := 135) dX11_meet_122 (by decide) (fun c122 => ?_) (fun c122 => ?_)
                  · replace h := h.1 c122
                    change X _ _ _ _ _ _ [some (.ref p), some (.ref b2), some (.ref b12), some (.int (if (A.I b2 0) = (20 : Int32) then (if (f_X0_isConstant (A.L b2 2)) = 0 then (A.L b2 2).toInt32 else (-1 : Int32)) else (-1 : Int32))), some (.int y10_4), some (.long y15_5), none, some (.int (((64 : Int32) * y10_4) + (f_J16_numberOfTrailingZeros y15_5)))] []
                    exact X.weak (xle_c rfl (xle_c rfl (xle_c rfl (xle_c rfl (xle_c rfl (xle_c rfl (xle_n (xle_n xle_nil)))))))) (kj17 A15 h)
                  · replace h := h.2 c122
                    refine x_aload_n dX11_meet_125 rfl ?_
                    refine x_aload_n dX11_meet_126 rfl ?_
                    refine x_get (v := .int (A15.I b2 1)) hG dX11_meet_127 f_X11_98_35 o16 rfl ?_
                    refine x_iload dX11_meet_130 rfl ?_
                    obtain ⟨o19, h⟩ := h
                    obtain ⟨R18, g18, h⟩ := h
                    refine x_callV hG (Ky := kX11_tie) (As := [.int (A15.I b2 1), .int (((64 : Int32) * y10_4) + (f_J16_numberOfTrailingZeros y15_5))]) dX11_meet_132 o19 rfl lk_X11_140 me_X11_tie is_X11_tie se_X11_tie rfl rfl (Nat.le_of_ble_eq_true rfl) (MX.post (m_X11_tie hG hO g18) ?_)
                    rintro _ A18 ⟨rfl, h1⟩
                    refine X.xok (fun w18 => ?_)
                    replace h := h A18 w18 h1
                    change X _ _ _ _ A18 _ _ []
                    change X _ _ _ _ _ _ [some (.ref p), some (.ref b2), some (.ref b12), some (.int (if (A.I b2 0) = (20 : Int32) then (if (f_X0_isConstant (A.L b2 2)) = 0 then (A.L b2 2).toInt32 else (-1 : Int32)) else (-1 : Int32))), some (.int y10_4), some (.long y15_5), none, some (.int (((64 : Int32) * y10_4) + (f_J16_numberOfTrailingZeros y15_5)))] []
                    exact X.weak (xle_c rfl (xle_c rfl (xle_c rfl (xle_c rfl (xle_c rfl (xle_c rfl (xle_n (xle_n xle_nil)))))))) (kj17 A18 h)
          change X _ _ _ _ _ _ [some (.ref p), some (.ref b2), some (.ref b12), some (.int (if (A.I b2 0) = (20 : Int32) then (if (f_X0_isConstant (A.L b2 2)) = 0 then (A.L b2 2).toInt32 else (-1 : Int32)) else (-1 : Int32))), some (.int y10_4), some (.long (A10.L b12 (ix y10_4))), none, none] []
          exact X.weak (xle_c rfl (xle_c rfl (xle_c rfl (xle_c rfl (xle_c rfl (xle_c rfl (xle_n (xle_n xle_nil)))))))) (kl15 n15 (A10.L b12 (ix y10_4)) A10 i15)
    change X _ _ _ _ _ _ [some (.ref p), some (.ref b2), some (va_rf r), some (.int (if (A.I b2 0) = (20 : Int32) then (if (f_X0_isConstant (A.L b2 2)) = 0 then (A.L b2 2).toInt32 else (-1 : Int32)) else (-1 : Int32))), some (.int (0 : Int32)), none, none, none] []
    exact X.weak (xle_c rfl (xle_c rfl (xle_c rfl (xle_c rfl (xle_c rfl (xle_n (xle_n (xle_n xle_nil)))))))) (kl10 n10 (0 : Int32) A9 i10)
  refine x_if_lt (tgt := 72) dX11_meet_40 (by decide) (fun c40 => ?_) (fun c40 => ?_)
  · replace h := h.1 c40
    change X _ _ _ _ _ _ [some (.ref p), some (.ref b2), some (va_rf r), some (.int (if (A.I b2 0) = (20 : Int32) then (if (f_X0_isConstant (A.L b2 2)) = 0 then (A.L b2 2).toInt32 else (-1 : Int32)) else (-1 : Int32))), none, none, none, none] []
    exact X.weak (xle_c rfl (xle_c rfl (xle_c rfl (xle_c rfl (xle_n (xle_n (xle_n (xle_n xle_nil)))))))) (kj9 A8 h)
  · replace h := h.2 c40
    refine x_aload_n dX11_meet_43 rfl ?_
    refine x_get (v := va_rf (A.P p 9)) hG dX11_meet_44 f_X11_29_10 (kI e8 o1) (congrArg va_rf (sI_P e8)) ?_
    refine x_aload_n dX11_meet_47 rfl ?_
    refine x_get (v := .int (A.I b2 1)) hG dX11_meet_48 f_X11_98_35 (kI e8 o3) (congrArg Value.int (sI_a e8 (tne o3 o5 (by decide)))) ?_
    refine x_iload_n dX11_meet_51 rfl ?_
    obtain ⟨b20, e20, h⟩ := h
    rw [e20]
    obtain ⟨o21, h⟩ := h
    obtain ⟨o22, h⟩ := h
    obtain ⟨o23, h⟩ := h
    refine z_iast hG dX11_meet_52 o21 o22 o23 (fun A24 e24 => ?_)
    replace h := h A24 e24
    refine x_aload_n dX11_meet_53 rfl ?_
    refine x_get (v := .ref b20) hG dX11_meet_54 f_X11_29_10 (kI e24 (kI e8 o1)) (congrArg va_rf (((sI_P e24).trans (sI_P e8)).trans e20)) ?_
    refine x_iload_n dX11_meet_57 rfl ?_
    obtain ⟨o25, h⟩ := h
    refine x_iald hG dX11_meet_58 (kI e24 o21) o25 ?_
    refine x_if_ge (tgt := 72) dX11_meet_59 (by decide) (fun c59 => ?_) (fun c59 => ?_)
    · replace h := h.1 c59
      change X _ _ _ _ _ _ [some (.ref p), some (.ref b2), some (va_rf r), some (.int (if (A.I b2 0) = (20 : Int32) then (if (f_X0_isConstant (A.L b2 2)) = 0 then (A.L b2 2).toInt32 else (-1 : Int32)) else (-1 : Int32))), none, none, none, none] []
      exact X.weak (xle_c rfl (xle_c rfl (xle_c rfl (xle_c rfl (xle_n (xle_n (xle_n (xle_n xle_nil)))))))) (kj9 A24 h)
    · replace h := h.2 c59
      refine x_aload_n dX11_meet_62 rfl ?_
      refine x_get (v := .ref b20) hG dX11_meet_63 f_X11_29_10 (kI e24 (kI e8 o1)) (congrArg va_rf (((sI_P e24).trans (sI_P e8)).trans e20)) ?_
      refine x_iload_n dX11_meet_66 rfl ?_
      refine x_aload_n dX11_meet_67 rfl ?_
      refine x_get (v := .int (A.I b2 1)) hG dX11_meet_68 f_X11_98_35 (kI e24 (kI e8 o3)) (congrArg Value.int ((sI_a e24 (tne (kI e8 o3) o21 (by decide))).trans (sI_a e8 (tne o3 o5 (by decide))))) ?_
      refine z_iast hG dX11_meet_71 (kI e24 o21) o22 o25 (fun A26 e26 => ?_)
      replace h := h A26 e26
      change X _ _ _ _ _ _ [some (.ref p), some (.ref b2), some (va_rf r), some (.int (if (A.I b2 0) = (20 : Int32) then (if (f_X0_isConstant (A.L b2 2)) = 0 then (A.L b2 2).toInt32 else (-1 : Int32)) else (-1 : Int32))), none, none, none, none] []
      exact X.weak (xle_c rfl (xle_c rfl (xle_c rfl (xle_c rfl (xle_n (xle_n (xle_n (xle_n xle_nil)))))))) (kj9 A26 h)
def w_X11_stack (G : xG) (p : Nat) (Q : Int32 → xA → Prop) (A : xA) : Prop := xok G A → ∃ L1 : Nat → Int32 → Int32 → xA → Prop, (∃ n1 : Nat, L1 n1 (0 : Int32) (0 : Int32) A) ∧ (∀ (n1 : Nat) (y1_1 : Int32) (y1_2 : Int32) (A1 : xA), L1 n1 y1_1 y1_2 A1 → A1.tg p = 11 ∧ ((((A1.I p 2) ≤ y1_2 → ∃ L3 : Nat → Int32 → xA → Prop, (∃ n3 : Nat, L3 n3 (0 : Int32) A1) ∧ (∀ (n3 : Nat) (y3_2 : Int32) (A3 : xA), L3 n3 y3_2 A3 → ((y1_1 ≤ y3_2 → Q y1_1 A3) ∧ (¬ y1_1 ≤ y3_2 → ∃ L4 : Nat → Int32 → Int32 → xA → Prop, (∃ n4 : Nat, L4 n4 (-1 : Int32) (0 : Int32) A3) ∧ (∀ (n4 : Nat) (y4_3 : Int32) (y4_4 : Int32) (A4 : xA), L4 n4 y4_3 y4_4 A4 → A4.tg p = 11 ∧ (∃ J6 : Int32 → xA → Prop, (∀ (y6_3 : Int32) (A6 : xA), J6 y6_3 A6 → A6.tg p = 11 ∧ (∃ b8 : Nat, (A6.P p 12) = some b8 ∧ (A6.tg b8 = 200 ∧ (G.N ≤ b8 ∧ (vp_in y3_2 (A6.ln b8) ∧ (∀ A12 : xA, A12 = A6.setI b8 (ix y3_2) y6_3 → (∃ b13 : Nat, (A6.P p 7) = some b13 ∧ (A12.tg b13 = 203 ∧ (G.N ≤ b13 ∧ (vp_in y6_3 (A12.ln b13) ∧ (∀ A17 : xA, A17 = A12.setI b13 (ix y6_3) (1 : Int32) → (∃ L18 : Nat → Int32 → xA → Prop, (∃ n18 : Nat, L18 n18 (0 : Int32) A17) ∧ (∀ (n18 : Nat) (y18_4 : Int32) (A18 : xA), L18 n18 y18_4 A18 → A18.tg p = 11 ∧ ((((A18.I p 1) ≤ y18_4 → (∃ q3 : Nat, q3 < n3 ∧ L3 q3 (y3_2 + (1 : Int32)) A18)) ∧ (¬ (A18.I p 1) ≤ y18_4 → ∃ b20 : Nat, (A18.P p 4) = some b20 ∧ (A18.tg b20 = 201 ∧ (vp_in ((y6_3 * (A18.I p 1)) + y18_4) (A18.ln b20) ∧ (∃ L23 : Nat → Int64 → xA → Prop, (∃ n23 : Nat, L23 n23 (A18.L b20 (ix ((y6_3 * (A18.I p 1)) + y18_4))) A18) ∧ (∀ (n23 : Nat) (y23_5 : Int64) (A23 : xA), L23 n23 y23_5 A23 → (((lg_cmp y23_5 (0 : Int64)) = 0 → (∃ q18 : Nat, q18 < n18 ∧ L18 q18 (y18_4 + (1 : Int32)) A23)) ∧ (¬ (lg_cmp y23_5 (0 : Int64)) = 0 → A23.tg p = 11 ∧ (∃ b25 : Nat, (A23.P p 8) = some b25 ∧ (A23.tg b25 = 200 ∧ (vp_in (((64 : Int32) * y18_4) + (f_J16_numberOfTrailingZeros y23_5)) (A23.ln b25) ∧ (G.N ≤ b25 ∧ (∀ A29 : xA, A29 = A23.setI b25 (ix (((64 : Int32) * y18_4) + (f_J16_numberOfTrailingZeros y23_5))) ((A23.I b25 (ix (((64 : Int32) * y18_4) + (f_J16_numberOfTrailingZeros y23_5)))) - (1 : Int32)) → ((∃ q23 : Nat, q23 < n23 ∧ L23 q23 (y23_5 &&& (y23_5 - (1 : Int64))) A29))))))))))))))))))))))))))))) ∧ (((A4.I p 2) ≤ y4_4 → J6 y4_3 A4) ∧ (¬ (A4.I p 2) ≤ y4_4 → ∃ b30 : Nat, (A4.P p 6) = some b30 ∧ (A4.tg b30 = 203 ∧ (vp_in y4_4 (A4.ln b30) ∧ ((((A4.I b30 (ix y4_4)) = 0 → (∃ q4 : Nat, q4 < n4 ∧ L4 q4 y4_3 (y4_4 + (1 : Int32)) A4)) ∧ (¬ (A4.I b30 (ix y4_4)) = 0 → ∃ b33 : Nat, (A4.P p 7) = some b33 ∧ (A4.tg b33 = 203 ∧ (vp_in y4_4 (A4.ln b33) ∧ ((((A4.I b33 (ix y4_4)) = 0 → ∃ b36 : Nat, (A4.P p 8) = some b36 ∧ (A4.tg b36 = 200 ∧ (vp_in y4_4 (A4.ln b36) ∧ (∃ R39 : Int32 → xA → Prop, w_X11_most G p y4_4 R39 A4 ∧ (∀ (v39 : Int32) (A39 : xA), xok G A39 → R39 v39 A39 → (((v39 ≤ (A4.I b36 (ix y4_4)) → ∃ J40 : Int32 → Prop, (∀ (y40_3 : Int32), J40 y40_3 → (∃ q4 : Nat, q4 < n4 ∧ L4 q4 y40_3 (y4_4 + (1 : Int32)) A39)) ∧ ((y4_3 < 0 → J40 y4_4) ∧ (¬ y4_3 < 0 → A39.tg p = 11 ∧ (∃ b42 : Nat, (A39.P p 8) = some b42 ∧ (A39.tg b42 = 200 ∧ (vp_in y4_4 (A39.ln b42) ∧ (vp_in y4_3 (A39.ln b42) ∧ ((((A39.I b42 (ix y4_4)) ≤ (A39.I b42 (ix y4_3)) → J40 y4_3) ∧ (¬ (A39.I b42 (ix y4_4)) ≤ (A39.I b42 (ix y4_3)) → J40 y4_4)))))))))) ∧ (¬ v39 ≤ (A4.I b36 (ix y4_4)) → J6 y4_4 A39)))))))) ∧ (¬ (A4.I b33 (ix y4_4)) = 0 → (∃ q4 : Nat, q4 < n4 ∧ L4 q4 y4_3 (y4_4 + (1 : Int32)) A4))))))))))))))))))) ∧ (¬ (A1.I p 2) ≤ y1_2 → ∃ b46 : Nat, (A1.P p 6) = some b46 ∧ (A1.tg b46 = 203 ∧ (vp_in y1_2 (A1.ln b46) ∧ (∃ L49 : Nat → Int32 → xA → Prop, (∃ n49 : Nat, L49 n49 (0 : Int32) A1) ∧ (∀ (n49 : Nat) (y49_3 : Int32) (A49 : xA), L49 n49 y49_3 A49 → A49.tg p = 11 ∧ ((((A49.I p 1) ≤ y49_3 → (∃ q1 : Nat, q1 < n1 ∧ L1 q1 (y1_1 + (if (A1.I b46 (ix y1_2)) = 0 then (0 : Int32) else (1 : Int32))) (y1_2 + (1 : Int32)) A49)) ∧ (¬ (A49.I p 1) ≤ y49_3 → ∃ b51 : Nat, (A49.P p 8) = some b51 ∧ (A49.tg b51 = 200 ∧ (vp_in y1_2 (A49.ln b51) ∧ (∃ b54 : Nat, (A49.P p 4) = some b54 ∧ (A49.tg b54 = 201 ∧ (vp_in ((y1_2 * (A49.I p 1)) + y49_3) (A49.ln b54) ∧ (G.N ≤ b51 ∧ (∀ A58 : xA, A58 = A49.setI b51 (ix y1_2) ((A49.I b51 (ix y1_2)) + (f_J16_bitCount (A49.L b54 (ix ((y1_2 * (A49.I p 1)) + y49_3))))) → ((∃ q49 : Nat, q49 < n49 ∧ L49 q49 (y49_3 + (1 : Int32)) A58))))))))))))))))))))
theorem m_X11_stack (hG : xOK G) (hO : xHO G) {dp : Nat} {p : Nat} {Q : Int32 → xA → Prop} {A : xA} (h : w_X11_stack G p Q A) : MX G (dp + 2) kX11_stack [.ref p] A (hI Q) := by
  unfold w_X11_stack at h
  refine MX.of rfl (Nat.le_of_ble_eq_true rfl) ?_
  change X _ _ _ _ _ _ [some (.ref p), none, none, none, none, none, none] _
  refine X.xok (fun w0 => ?_)
  replace h := h w0
  refine x_iconst_ (v := (0 : Int32)) dX11_stack_0 (by decide) ?_
  refine x_istore_n dX11_stack_1 (by decide) ?_
  refine x_iconst_ (v := (0 : Int32)) dX11_stack_2 (by decide) ?_
  refine x_istore_n dX11_stack_3 (by decide) ?_
  obtain ⟨L1, ⟨n1, i1⟩, g1⟩ := h
  have kl1 : ∀ n1 : Nat, ∀ (y1_1 : Int32) (y1_2 : Int32) (A1 : xA), L1 n1 y1_1 y1_2 A1 → X G (dp + 2) kX11_stack (hI Q) A1 4 [some (.ref p), some (.int y1_1), some (.int y1_2), none, none, none, none] [] := by
    intro n1
    induction n1 using Nat.strongRecOn with
    | ind n1 ih1 =>
      intro y1_1 y1_2 A1 h
      replace h := g1 n1 y1_1 y1_2 A1 h
      refine x_iload_n dX11_stack_4 rfl ?_
      refine x_aload_n dX11_stack_5 rfl ?_
      obtain ⟨o2, h⟩ := h
      refine x_get (v := .int (A1.I p 2)) hG dX11_stack_6 f_X11_51_10 o2 rfl ?_
      refine x_icmp_ge (tgt := 76) dX11_stack_9 (by decide) (fun c9 => ?_) (fun c9 => ?_)
      · replace h := h.1 c9
        refine x_iconst_ (v := (0 : Int32)) dX11_stack_76 (by decide) ?_
        refine x_istore_n dX11_stack_77 (by decide) ?_
        obtain ⟨L3, ⟨n3, i3⟩, g3⟩ := h
        have kl3 : ∀ n3 : Nat, ∀ (y3_2 : Int32) (A3 : xA), L3 n3 y3_2 A3 → X G (dp + 2) kX11_stack (hI Q) A3 78 [some (.ref p), some (.int y1_1), some (.int y3_2), none, none, none, none] [] := by
          intro n3
          induction n3 using Nat.strongRecOn with
          | ind n3 ih3 =>
            intro y3_2 A3 h
            replace h := g3 n3 y3_2 A3 h
            refine x_iload_n dX11_stack_78 rfl ?_
            refine x_iload_n dX11_stack_79 rfl ?_
            refine x_icmp_ge (tgt := 264) dX11_stack_80 (by decide) (fun c80 => ?_) (fun c80 => ?_)
            · replace h := h.1 c80
              refine x_iload_n dX11_stack_264 rfl ?_
              exact x_iret dX11_stack_265 rfl ⟨_, rfl, h⟩
            · replace h := h.2 c80
              refine x_iconst_ (v := (-1 : Int32)) dX11_stack_83 (by decide) ?_
              refine x_istore_n dX11_stack_84 (by decide) ?_
              refine x_iconst_ (v := (0 : Int32)) dX11_stack_85 (by decide) ?_
              refine x_istore dX11_stack_86 (by decide) ?_
              obtain ⟨L4, ⟨n4, i4⟩, g4⟩ := h
              have kl4 : ∀ n4 : Nat, ∀ (y4_3 : Int32) (y4_4 : Int32) (A4 : xA), L4 n4 y4_3 y4_4 A4 → X G (dp + 2) kX11_stack (hI Q) A4 88 [some (.ref p), some (.int y1_1), some (.int y3_2), some (.int y4_3), some (.int y4_4), none, none] [] := by
                intro n4
                induction n4 using Nat.strongRecOn with
                | ind n4 ih4 =>
                  intro y4_3 y4_4 A4 h
                  replace h := g4 n4 y4_3 y4_4 A4 h
                  refine x_iload dX11_stack_88 rfl ?_
                  refine x_aload_n dX11_stack_90 rfl ?_
                  obtain ⟨o5, h⟩ := h
                  refine x_get (v := .int (A4.I p 2)) hG dX11_stack_91 f_X11_51_10 o5 rfl ?_
                  obtain ⟨J6, g6, h⟩ := h
                  have kj6 : ∀ (y6_3 : Int32) (A6 : xA), J6 y6_3 A6 → X G (dp + 2) kX11_stack (hI Q) A6 171 [some (.ref p), some (.int y1_1), some (.int y3_2), some (.int y6_3), none, none, none] [] := by
                    intro y6_3 A6 h
                    replace h := g6 y6_3 A6 h
                    refine x_aload_n dX11_stack_171 rfl ?_
                    obtain ⟨o7, h⟩ := h
                    refine x_get (v := va_rf (A6.P p 12)) hG dX11_stack_172 f_X11_38_10 o7 rfl ?_
                    refine x_iload_n dX11_stack_175 rfl ?_
                    refine x_iload_n dX11_stack_176 rfl ?_
                    obtain ⟨b8, e8, h⟩ := h
                    rw [e8]
                    obtain ⟨o9, h⟩ := h
                    obtain ⟨o10, h⟩ := h
                    obtain ⟨o11, h⟩ := h
                    refine z_iast hG dX11_stack_177 o9 o10 o11 (fun A12 e12 => ?_)
                    replace h := h A12 e12
                    refine x_aload_n dX11_stack_178 rfl ?_
                    refine x_get (v := va_rf (A6.P p 7)) hG dX11_stack_179 f_X11_22_10 (kI e12 o7) (congrArg va_rf (sI_P e12)) ?_
                    refine x_iload_n dX11_stack_182 rfl ?_
                    refine x_iconst_ (v := (1 : Int32)) dX11_stack_183 (by decide) ?_
                    obtain ⟨b13, e13, h⟩ := h
                    rw [e13]
                    obtain ⟨o14, h⟩ := h
                    obtain ⟨o15, h⟩ := h
                    obtain ⟨o16, h⟩ := h
                    refine z_zast hG dX11_stack_184 o14 o15 o16 (by decide) (fun A17 e17 => ?_)
                    replace h := h A17 e17
                    refine x_iconst_ (v := (0 : Int32)) dX11_stack_185 (by decide) ?_
                    refine x_istore dX11_stack_186 (by decide) ?_
                    obtain ⟨L18, ⟨n18, i18⟩, g18⟩ := h
                    have kl18 : ∀ n18 : Nat, ∀ (y18_4 : Int32) (A18 : xA), L18 n18 y18_4 A18 → X G (dp + 2) kX11_stack (hI Q) A18 188 [some (.ref p), some (.int y1_1), some (.int y3_2), some (.int y6_3), some (.int y18_4), none, none] [] := by
                      intro n18
                      induction n18 using Nat.strongRecOn with
                      | ind n18 ih18 =>
                        intro y18_4 A18 h
                        replace h := g18 n18 y18_4 A18 h
                        refine x_iload dX11_stack_188 rfl ?_
                        refine x_aload_n dX11_stack_190 rfl ?_
                        obtain ⟨o19, h⟩ := h
                        refine x_get (v := .int (A18.I p 1)) hG dX11_stack_191 f_X11_54_10 o19 rfl ?_
                        refine x_icmp_ge (tgt := 258) dX11_stack_194 (by decide) (fun c194 => ?_) (fun c194 => ?_)
                        · replace h := h.1 c194
                          refine x_iinc (v := (y3_2 + (1 : Int32))) dX11_stack_258 rfl rfl (by decide) ?_
                          refine x_goto (tgt := 78) dX11_stack_261 (by decide) ?_
                          obtain ⟨q3, l3, h⟩ := h
                          change X _ _ _ _ _ _ [some (.ref p), some (.int y1_1), some (.int (y3_2 + (1 : Int32))), some (.int y6_3), some (.int y18_4), none, none] []
                          exact X.weak (xle_c rfl (xle_c rfl (xle_c rfl (xle_n (xle_n (xle_n (xle_n xle_nil))))))) (ih3 q3 l3 (y3_2 + (1 : Int32)) A18 h)
                        · replace h := h.2 c194
                          refine x_aload_n dX11_stack_197 rfl ?_
                          refine x_get (v := va_rf (A18.P p 4)) hG dX11_stack_198 f_X11_9_10 o19 rfl ?_
                          refine x_iload_n dX11_stack_201 rfl ?_
                          refine x_aload_n dX11_stack_202 rfl ?_
                          refine x_get (v := .int (A18.I p 1)) hG dX11_stack_203 f_X11_54_10 o19 rfl ?_
                          refine x_imul dX11_stack_206 ?_
                          refine x_iload dX11_stack_207 rfl ?_
                          refine x_iadd dX11_stack_209 ?_
                          obtain ⟨b20, e20, h⟩ := h
                          rw [e20]
                          obtain ⟨o21, h⟩ := h
                          obtain ⟨o22, h⟩ := h
                          refine x_lald hG dX11_stack_210 o21 o22 ?_
                          refine x_lstore dX11_stack_211 (by decide) ?_
                          obtain ⟨L23, ⟨n23, i23⟩, g23⟩ := h
                          have kl23 : ∀ n23 : Nat, ∀ (y23_5 : Int64) (A23 : xA), L23 n23 y23_5 A23 → X G (dp + 2) kX11_stack (hI Q) A23 213 [some (.ref p), some (.int y1_1), some (.int y3_2), some (.int y6_3), some (.int y18_4), some (.long y23_5), none] [] := by
                            intro n23
                            induction n23 using Nat.strongRecOn with
                            | ind n23 ih23 =>
                              intro y23_5 A23 h
                              replace h := g23 n23 y23_5 A23 h
                              refine x_lload dX11_stack_213 rfl ?_
                              refine x_lconst_ (v := (0 : Int64)) dX11_stack_215 (by decide) ?_
                              refine x_lcmp dX11_stack_216 ?_
                              refine x_if_eq (tgt := 252) dX11_stack_217 (by decide) (fun c217 => ?_) (fun c217 => ?_)
                              · replace h := h.1 c217
                                refine x_iinc (v := (y18_4 + (1 : Int32))) dX11_stack_252 rfl rfl (by decide) ?_
                                refine x_goto (tgt := 188) dX11_stack_255 (by decide) ?_
                                obtain ⟨q18, l18, h⟩ := h
                                change X _ _ _ _ _ _ [some (.ref p), some (.int y1_1), some (.int y3_2), some (.int y6_3), some (.int (y18_4 + (1 : Int32))), some (.long y23_5), none] []
                                exact X.weak (xle_c rfl (xle_c rfl (xle_c rfl (xle_c rfl (xle_c rfl (xle_n (xle_n xle_nil))))))) (ih18 q18 l18 (y18_4 + (1 : Int32)) A23 h)
                              · replace h := h.2 c217
                                refine x_aload_n dX11_stack_220 rfl ?_
                                obtain ⟨o24, h⟩ := h
                                refine x_get (v := va_rf (A23.P p 8)) hG dX11_stack_221 f_X11_25_10 o24 rfl ?_
                                refine x_bipush_ (v := (64 : Int32)) dX11_stack_224 (by decide) ?_
                                refine x_iload dX11_stack_226 rfl ?_
                                refine x_imul dX11_stack_228 ?_
                                refine x_lload dX11_stack_229 rfl ?_
                                refine x_callS hG (Ky := kJ16_numberOfTrailingZeros) (As := [.long y23_5]) dX11_stack_231 lk_X11_134 me_J16_numberOfTrailingZeros st_J16_numberOfTrailingZeros rfl rfl (by simp only [List.append_eq, List.nil_append, List.map_cons, va_rf_cat]; exact Nat.le_of_ble_eq_true rfl) (MX.post (m_J16_numberOfTrailingZeros hG) ?_)
                                rintro _ _ ⟨rfl, rfl⟩
                                change X _ _ _ _ _ _ _ (.int (f_J16_numberOfTrailingZeros y23_5) :: _)
                                refine x_iadd dX11_stack_234 ?_
                                refine x_dup2_11 dX11_stack_235 rfl (va_rf_cat _) ?_
                                obtain ⟨b25, e25, h⟩ := h
                                rw [e25]
                                obtain ⟨o26, h⟩ := h
                                obtain ⟨o27, h⟩ := h
                                refine x_iald hG dX11_stack_236 o26 o27 ?_
                                refine x_iconst_ (v := (1 : Int32)) dX11_stack_237 (by decide) ?_
                                refine x_isub dX11_stack_238 ?_
                                obtain ⟨o28, h⟩ := h
                                refine z_iast hG dX11_stack_239 o26 o28 o27 (fun A29 e29 => ?_)
                                replace h := h A29 e29
                                refine x_lload dX11_stack_240 rfl ?_
                                refine x_lload dX11_stack_242 rfl ?_
                                refine x_lconst_ (v := (1 : Int64)) dX11_stack_244 (by decide) ?_
                                refine x_lsub dX11_stack_245 ?_
                                refine x_land dX11_stack_246 ?_
                                refine x_lstore dX11_stack_247 (by decide) ?_
                                refine x_goto (tgt := 213) dX11_stack_249 (by decide) ?_
                                obtain ⟨q23, l23, h⟩ := h
                                change X _ _ _ _ _ _ [some (.ref p), some (.int y1_1), some (.int y3_2), some (.int y6_3), some (.int y18_4), some (.long (y23_5 &&& (y23_5 - (1 : Int64)))), none] []
                                exact X.weak (xle_c rfl (xle_c rfl (xle_c rfl (xle_c rfl (xle_c rfl (xle_c rfl (xle_n xle_nil))))))) (ih23 q23 l23 (y23_5 &&& (y23_5 - (1 : Int64))) A29 h)
                          change X _ _ _ _ _ _ [some (.ref p), some (.int y1_1), some (.int y3_2), some (.int y6_3), some (.int y18_4), some (.long (A18.L b20 (ix ((y6_3 * (A18.I p 1)) + y18_4)))), none] []
                          exact X.weak (xle_c rfl (xle_c rfl (xle_c rfl (xle_c rfl (xle_c rfl (xle_c rfl (xle_n xle_nil))))))) (kl23 n23 (A18.L b20 (ix ((y6_3 * (A18.I p 1)) + y18_4))) A18 i23)
                    change X _ _ _ _ _ _ [some (.ref p), some (.int y1_1), some (.int y3_2), some (.int y6_3), some (.int (0 : Int32)), none, none] []
                    exact X.weak (xle_c rfl (xle_c rfl (xle_c rfl (xle_c rfl (xle_c rfl (xle_n (xle_n xle_nil))))))) (kl18 n18 (0 : Int32) A17 i18)
                  refine x_icmp_ge (tgt := 171) dX11_stack_94 (by decide) (fun c94 => ?_) (fun c94 => ?_)
                  · replace h := h.1 c94
                    change X _ _ _ _ _ _ [some (.ref p), some (.int y1_1), some (.int y3_2), some (.int y4_3), some (.int y4_4), none, none] []
                    exact X.weak (xle_c rfl (xle_c rfl (xle_c rfl (xle_c rfl (xle_n (xle_n (xle_n xle_nil))))))) (kj6 y4_3 A4 h)
                  · replace h := h.2 c94
                    refine x_aload_n dX11_stack_97 rfl ?_
                    refine x_get (v := va_rf (A4.P p 6)) hG dX11_stack_98 f_X11_19_10 o5 rfl ?_
                    refine x_iload dX11_stack_101 rfl ?_
                    obtain ⟨b30, e30, h⟩ := h
                    rw [e30]
                    obtain ⟨o31, h⟩ := h
                    obtain ⟨o32, h⟩ := h
                    refine x_zald hG dX11_stack_103 o31 o32 ?_
                    refine x_if_eq (tgt := 165) dX11_stack_104 (by decide) (fun c104 => ?_) (fun c104 => ?_)
                    · replace h := h.1 c104
                      refine x_iinc (v := (y4_4 + (1 : Int32))) dX11_stack_165 rfl rfl (by decide) ?_
                      refine x_goto (tgt := 88) dX11_stack_168 (by decide) ?_
                      obtain ⟨q4, l4, h⟩ := h
                      change X _ _ _ _ _ _ [some (.ref p), some (.int y1_1), some (.int y3_2), some (.int y4_3), some (.int (y4_4 + (1 : Int32))), none, none] []
                      exact X.weak (xle_c rfl (xle_c rfl (xle_c rfl (xle_c rfl (xle_c rfl (xle_n (xle_n xle_nil))))))) (ih4 q4 l4 y4_3 (y4_4 + (1 : Int32)) A4 h)
                    · replace h := h.2 c104
                      refine x_aload_n dX11_stack_107 rfl ?_
                      refine x_get (v := va_rf (A4.P p 7)) hG dX11_stack_108 f_X11_22_10 o5 rfl ?_
                      refine x_iload dX11_stack_111 rfl ?_
                      obtain ⟨b33, e33, h⟩ := h
                      rw [e33]
                      obtain ⟨o34, h⟩ := h
                      obtain ⟨o35, h⟩ := h
                      refine x_zald hG dX11_stack_113 o34 o35 ?_
                      refine x_if_eq (tgt := 120) dX11_stack_114 (by decide) (fun c114 => ?_) (fun c114 => ?_)
                      · replace h := h.1 c114
                        refine x_aload_n dX11_stack_120 rfl ?_
                        refine x_get (v := va_rf (A4.P p 8)) hG dX11_stack_121 f_X11_25_10 o5 rfl ?_
                        refine x_iload dX11_stack_124 rfl ?_
                        obtain ⟨b36, e36, h⟩ := h
                        rw [e36]
                        obtain ⟨o37, h⟩ := h
                        obtain ⟨o38, h⟩ := h
                        refine x_iald hG dX11_stack_126 o37 o38 ?_
                        refine x_aload_n dX11_stack_127 rfl ?_
                        refine x_iload dX11_stack_128 rfl ?_
                        obtain ⟨R39, g39, h⟩ := h
                        refine x_callV hG (Ky := kX11_most) (As := [.int y4_4]) dX11_stack_130 o5 rfl lk_X11_150 me_X11_most is_X11_most se_X11_most rfl rfl (Nat.le_of_ble_eq_true rfl) (MX.post (m_X11_most hG hO g39) ?_)
                        rintro _ A39 ⟨v39, rfl, h1⟩
                        refine X.xok (fun w39 => ?_)
                        replace h := h v39 A39 w39 h1
                        change X _ _ _ _ A39 _ _ [.int v39, .int (A4.I b36 (ix y4_4))]
                        refine x_icmp_ge (tgt := 142) dX11_stack_133 (by decide) (fun c133 => ?_) (fun c133 => ?_)
                        · replace h := h.1 c133
                          refine x_iload_n dX11_stack_142 rfl ?_
                          obtain ⟨J40, g40, h⟩ := h
                          have kj40 : ∀ (y40_3 : Int32), J40 y40_3 → X G (dp + 2) kX11_stack (hI Q) A39 165 [some (.ref p), some (.int y1_1), some (.int y3_2), some (.int y40_3), some (.int y4_4), none, none] [] := by
                            intro y40_3 h
                            replace h := g40 y40_3 h
                            refine x_iinc (v := (y4_4 + (1 : Int32))) dX11_stack_165 rfl rfl (by decide) ?_
                            refine x_goto (tgt := 88) dX11_stack_168 (by decide) ?_
                            obtain ⟨q4, l4, h⟩ := h
                            change X _ _ _ _ _ _ [some (.ref p), some (.int y1_1), some (.int y3_2), some (.int y40_3), some (.int (y4_4 + (1 : Int32))), none, none] []
                            exact X.weak (xle_c rfl (xle_c rfl (xle_c rfl (xle_c rfl (xle_c rfl (xle_n (xle_n xle_nil))))))) (ih4 q4 l4 y40_3 (y4_4 + (1 : Int32)) A39 h)
                          refine x_if_lt (tgt := 162) dX11_stack_143 (by decide) (fun c143 => ?_) (fun c143 => ?_)
                          · replace h := h.1 c143
                            refine x_iload dX11_stack_162 rfl ?_
                            refine x_istore_n dX11_stack_164 (by decide) ?_
                            change X _ _ _ _ _ _ [some (.ref p), some (.int y1_1), some (.int y3_2), some (.int y4_4), some (.int y4_4), none, none] []
                            exact X.weak (xle_c rfl (xle_c rfl (xle_c rfl (xle_c rfl (xle_c rfl (xle_n (xle_n xle_nil))))))) (kj40 y4_4 h)
                          · replace h := h.2 c143
                            refine x_aload_n dX11_stack_146 rfl ?_
                            obtain ⟨o41, h⟩ := h
                            refine x_get (v := va_rf (A39.P p 8)) hG dX11_stack_147 f_X11_25_10 o41 rfl ?_
                            refine x_iload dX11_stack_150 rfl ?_
                            obtain ⟨b42, e42, h⟩ := h
                            rw [e42]
                            obtain ⟨o43, h⟩ := h
                            obtain ⟨o44, h⟩ := h
                            refine x_iald hG dX11_stack_152 o43 o44 ?_
                            refine x_aload_n dX11_stack_153 rfl ?_
                            refine x_get (v := .ref b42) hG dX11_stack_154 f_X11_25_10 o41 (congrArg va_rf e42) ?_
                            refine x_iload_n dX11_stack_157 rfl ?_
                            obtain ⟨o45, h⟩ := h
                            refine x_iald hG dX11_stack_158 o43 o45 ?_
                            refine x_icmp_le (tgt := 165) dX11_stack_159 (by decide) (fun c159 => ?_) (fun c159 => ?_)
                            · replace h := h.1 c159
                              change X _ _ _ _ _ _ [some (.ref p), some (.int y1_1), some (.int y3_2), some (.int y4_3), some (.int y4_4), none, none] []
                              exact X.weak (xle_c rfl (xle_c rfl (xle_c rfl (xle_c rfl (xle_c rfl (xle_n (xle_n xle_nil))))))) (kj40 y4_3 h)
                            · replace h := h.2 c159
                              refine x_iload dX11_stack_162 rfl ?_
                              refine x_istore_n dX11_stack_164 (by decide) ?_
                              change X _ _ _ _ _ _ [some (.ref p), some (.int y1_1), some (.int y3_2), some (.int y4_4), some (.int y4_4), none, none] []
                              exact X.weak (xle_c rfl (xle_c rfl (xle_c rfl (xle_c rfl (xle_c rfl (xle_n (xle_n xle_nil))))))) (kj40 y4_4 h)
                        · replace h := h.2 c133
                          refine x_iload dX11_stack_136 rfl ?_
                          refine x_istore_n dX11_stack_138 (by decide) ?_
                          refine x_goto (tgt := 171) dX11_stack_139 (by decide) ?_
                          change X _ _ _ _ _ _ [some (.ref p), some (.int y1_1), some (.int y3_2), some (.int y4_4), some (.int y4_4), none, none] []
                          exact X.weak (xle_c rfl (xle_c rfl (xle_c rfl (xle_c rfl (xle_n (xle_n (xle_n xle_nil))))))) (kj6 y4_4 A39 h)
                      · replace h := h.2 c114
                        refine x_goto (tgt := 165) dX11_stack_117 (by decide) ?_
                        refine x_iinc (v := (y4_4 + (1 : Int32))) dX11_stack_165 rfl rfl (by decide) ?_
                        refine x_goto (tgt := 88) dX11_stack_168 (by decide) ?_
                        obtain ⟨q4, l4, h⟩ := h
                        change X _ _ _ _ _ _ [some (.ref p), some (.int y1_1), some (.int y3_2), some (.int y4_3), some (.int (y4_4 + (1 : Int32))), none, none] []
                        exact X.weak (xle_c rfl (xle_c rfl (xle_c rfl (xle_c rfl (xle_c rfl (xle_n (xle_n xle_nil))))))) (ih4 q4 l4 y4_3 (y4_4 + (1 : Int32)) A4 h)
              change X _ _ _ _ _ _ [some (.ref p), some (.int y1_1), some (.int y3_2), some (.int (-1 : Int32)), some (.int (0 : Int32)), none, none] []
              exact X.weak (xle_c rfl (xle_c rfl (xle_c rfl (xle_c rfl (xle_c rfl (xle_n (xle_n xle_nil))))))) (kl4 n4 (-1 : Int32) (0 : Int32) A3 i4)
        change X _ _ _ _ _ _ [some (.ref p), some (.int y1_1), some (.int (0 : Int32)), none, none, none, none] []
        exact X.weak (xle_c rfl (xle_c rfl (xle_c rfl (xle_n (xle_n (xle_n (xle_n xle_nil))))))) (kl3 n3 (0 : Int32) A1 i3)
      · replace h := h.2 c9
        refine x_iload_n dX11_stack_12 rfl ?_
        refine x_aload_n dX11_stack_13 rfl ?_
        refine x_get (v := va_rf (A1.P p 6)) hG dX11_stack_14 f_X11_19_10 o2 rfl ?_
        refine x_iload_n dX11_stack_17 rfl ?_
        obtain ⟨b46, e46, h⟩ := h
        rw [e46]
        obtain ⟨o47, h⟩ := h
        obtain ⟨o48, h⟩ := h
        refine x_zald hG dX11_stack_18 o47 o48 ?_
        refine x_via 27 (A' := A1) (lv' := [some (.ref p), none, some (.int y1_2), none, none, none, none]) (st' := [.int (if (A1.I b46 (ix y1_2)) = 0 then (0 : Int32) else (1 : Int32)), .int y1_1]) ?_ (fun k27 => ?_)
        rotate_left
        · refine x_if_eq (tgt := 26) dX11_stack_19 (by decide) (fun c19 => ?_) (fun c19 => ?_)
          · refine x_iconst_ (v := (0 : Int32)) dX11_stack_26 (by decide) ?_
            change X _ _ _ _ _ _ [some (.ref p), some (.int y1_1), some (.int y1_2), none, none, none, none] [.int (0 : Int32), .int y1_1]
            simp only [if_pos c19] at k27 ⊢
            exact X.weak (xle_c rfl (xle_n (xle_c rfl (xle_n (xle_n (xle_n (xle_n xle_nil))))))) k27
          · refine x_iconst_ (v := (1 : Int32)) dX11_stack_22 (by decide) ?_
            refine x_goto (tgt := 27) dX11_stack_23 (by decide) ?_
            change X _ _ _ _ _ _ [some (.ref p), some (.int y1_1), some (.int y1_2), none, none, none, none] [.int (1 : Int32), .int y1_1]
            simp only [if_neg c19] at k27 ⊢
            exact X.weak (xle_c rfl (xle_n (xle_c rfl (xle_n (xle_n (xle_n (xle_n xle_nil))))))) k27
        refine x_iadd dX11_stack_27 ?_
        refine x_istore_n dX11_stack_28 (by decide) ?_
        refine x_iconst_ (v := (0 : Int32)) dX11_stack_29 (by decide) ?_
        refine x_istore_n dX11_stack_30 (by decide) ?_
        obtain ⟨L49, ⟨n49, i49⟩, g49⟩ := h
        have kl49 : ∀ n49 : Nat, ∀ (y49_3 : Int32) (A49 : xA), L49 n49 y49_3 A49 → X G (dp + 2) kX11_stack (hI Q) A49 31 [some (.ref p), some (.int (y1_1 + (if (A1.I b46 (ix y1_2)) = 0 then (0 : Int32) else (1 : Int32)))), some (.int y1_2), some (.int y49_3), none, none, none] [] := by
          intro n49
          induction n49 using Nat.strongRecOn with
          | ind n49 ih49 =>
            intro y49_3 A49 h
            replace h := g49 n49 y49_3 A49 h
            refine x_iload_n dX11_stack_31 rfl ?_
            refine x_aload_n dX11_stack_32 rfl ?_
            obtain ⟨o50, h⟩ := h
            refine x_get (v := .int (A49.I p 1)) hG dX11_stack_33 f_X11_54_10 o50 rfl ?_
            refine x_icmp_ge (tgt := 70) dX11_stack_36 (by decide) (fun c36 => ?_) (fun c36 => ?_)
            · replace h := h.1 c36
              refine x_iinc (v := (y1_2 + (1 : Int32))) dX11_stack_70 rfl rfl (by decide) ?_
              refine x_goto (tgt := 4) dX11_stack_73 (by decide) ?_
              obtain ⟨q1, l1, h⟩ := h
              change X _ _ _ _ _ _ [some (.ref p), some (.int (y1_1 + (if (A1.I b46 (ix y1_2)) = 0 then (0 : Int32) else (1 : Int32)))), some (.int (y1_2 + (1 : Int32))), some (.int y49_3), none, none, none] []
              exact X.weak (xle_c rfl (xle_c rfl (xle_c rfl (xle_n (xle_n (xle_n (xle_n xle_nil))))))) (ih1 q1 l1 (y1_1 + (if (A1.I b46 (ix y1_2)) = 0 then (0 : Int32) else (1 : Int32))) (y1_2 + (1 : Int32)) A49 h)
            · replace h := h.2 c36
              refine x_aload_n dX11_stack_39 rfl ?_
              refine x_get (v := va_rf (A49.P p 8)) hG dX11_stack_40 f_X11_25_10 o50 rfl ?_
              refine x_iload_n dX11_stack_43 rfl ?_
              refine x_dup2_11 dX11_stack_44 rfl (va_rf_cat _) ?_
              obtain ⟨b51, e51, h⟩ := h
              rw [e51]
              obtain ⟨o52, h⟩ := h
              obtain ⟨o53, h⟩ := h
              refine x_iald hG dX11_stack_45 o52 o53 ?_
              refine x_aload_n dX11_stack_46 rfl ?_
              refine x_get (v := va_rf (A49.P p 4)) hG dX11_stack_47 f_X11_9_10 o50 rfl ?_
              refine x_iload_n dX11_stack_50 rfl ?_
              refine x_aload_n dX11_stack_51 rfl ?_
              refine x_get (v := .int (A49.I p 1)) hG dX11_stack_52 f_X11_54_10 o50 rfl ?_
              refine x_imul dX11_stack_55 ?_
              refine x_iload_n dX11_stack_56 rfl ?_
              refine x_iadd dX11_stack_57 ?_
              obtain ⟨b54, e54, h⟩ := h
              rw [e54]
              obtain ⟨o55, h⟩ := h
              obtain ⟨o56, h⟩ := h
              refine x_lald hG dX11_stack_58 o55 o56 ?_
              refine x_callS hG (Ky := kJ16_bitCount) (As := [.long (A49.L b54 (ix ((y1_2 * (A49.I p 1)) + y49_3)))]) dX11_stack_59 lk_X11_147 me_J16_bitCount st_J16_bitCount rfl rfl (Nat.le_of_ble_eq_true rfl) (MX.post (m_J16_bitCount hG) ?_)
              rintro _ _ ⟨rfl, rfl⟩
              change X _ _ _ _ _ _ _ (.int (f_J16_bitCount (A49.L b54 (ix ((y1_2 * (A49.I p 1)) + y49_3)))) :: _)
              refine x_iadd dX11_stack_62 ?_
              obtain ⟨o57, h⟩ := h
              refine z_iast hG dX11_stack_63 o52 o57 o53 (fun A58 e58 => ?_)
              replace h := h A58 e58
              refine x_iinc (v := (y49_3 + (1 : Int32))) dX11_stack_64 rfl rfl (by decide) ?_
              refine x_goto (tgt := 31) dX11_stack_67 (by decide) ?_
              obtain ⟨q49, l49, h⟩ := h
              change X _ _ _ _ _ _ [some (.ref p), some (.int (y1_1 + (if (A1.I b46 (ix y1_2)) = 0 then (0 : Int32) else (1 : Int32)))), some (.int y1_2), some (.int (y49_3 + (1 : Int32))), none, none, none] []
              exact X.weak (xle_c rfl (xle_c rfl (xle_c rfl (xle_c rfl (xle_n (xle_n (xle_n xle_nil))))))) (ih49 q49 l49 (y49_3 + (1 : Int32)) A58 h)
        change X _ _ _ _ _ _ [some (.ref p), some (.int (y1_1 + (if (A1.I b46 (ix y1_2)) = 0 then (0 : Int32) else (1 : Int32)))), some (.int y1_2), some (.int (0 : Int32)), none, none, none] []
        exact X.weak (xle_c rfl (xle_c rfl (xle_c rfl (xle_c rfl (xle_n (xle_n (xle_n xle_nil))))))) (kl49 n49 (0 : Int32) A1 i49)
  change X _ _ _ _ _ _ [some (.ref p), some (.int (0 : Int32)), some (.int (0 : Int32)), none, none, none, none] []
  exact X.weak (xle_c rfl (xle_c rfl (xle_c rfl (xle_n (xle_n (xle_n (xle_n xle_nil))))))) (kl1 n1 (0 : Int32) (0 : Int32) A i1)
def w_X11_choose (G : xG) (p : Nat) (l : Int32) (Q : xA → Prop) (A : xA) : Prop := xok G A → A.tg p = 11 ∧ (∀ A2 : xA, A2 = A.setI p 3 (0 : Int32) → (∃ L3 : Nat → Int32 → xA → Prop, (∃ n3 : Nat, L3 n3 (l - (1 : Int32)) A2) ∧ (∀ (n3 : Nat) (y3_2 : Int32) (A3 : xA), L3 n3 y3_2 A3 → ((y3_2 < 0 → Q A3) ∧ (¬ y3_2 < 0 → A3.tg p = 11 ∧ (∃ b5 : Nat, (A3.P p 12) = some b5 ∧ (A3.tg b5 = 200 ∧ (vp_in y3_2 (A3.ln b5) ∧ (∃ L8 : Nat → Int32 → Int32 → Prop, (∃ n8 : Nat, L8 n8 (0 : Int32) (0 : Int32)) ∧ (∀ (n8 : Nat) (y8_4 : Int32) (y8_5 : Int32), L8 n8 y8_4 y8_5 → (((A3.I p 1) ≤ y8_5 → ∃ b9 : Nat, (A3.P p 5) = some b9 ∧ (A3.tg b9 = 203 ∧ (vp_in (A3.I b5 (ix y3_2)) (A3.ln b9) ∧ (∃ b12 : Nat, (A3.P p 9) = some b12 ∧ (A3.tg b12 = 200 ∧ (vp_in (A3.I b5 (ix y3_2)) (A3.ln b12) ∧ (∃ J15 : Int32 → Prop, (∀ (y15_s0 : Int32), J15 y15_s0 → ∃ L16 : Nat → Int32 → Int32 → Prop, (∃ n16 : Nat, L16 n16 (if y15_s0 < (if (A3.I b9 (ix (A3.I b5 (ix y3_2)))) = 0 then (0 : Int32) else (5 : Int32)) then (-1 : Int32) else (if ((jishr y8_4 y15_s0) &&& (1 : Int32)) = 0 then y15_s0 else (-1 : Int32))) (if (A3.I b9 (ix (A3.I b5 (ix y3_2)))) = 0 then (0 : Int32) else (5 : Int32))) ∧ (∀ (n16 : Nat) (y16_7 : Int32) (y16_8 : Int32), L16 n16 y16_7 y16_8 → ∃ J18 : Prop, (J18 → ∃ b19 : Nat, (A3.P p 10) = some b19 ∧ (A3.tg b19 = 200 ∧ (G.N ≤ b19 ∧ (vp_in (A3.I b5 (ix y3_2)) (A3.ln b19) ∧ (∀ A23 : xA, A23 = A3.setI b19 (ix (A3.I b5 (ix y3_2))) y16_7 → (∃ J24 : xA → Prop, (∀ (A24 : xA), J24 A24 → (∃ q3 : Nat, q3 < n3 ∧ L3 q3 (y3_2 + (-1 : Int32)) A24)) ∧ ((y16_7 < 0 → ∃ b25 : Nat, (A3.P p 11) = some b25 ∧ (A23.tg b25 = 200 ∧ (G.N ≤ b25 ∧ (vp_in (A3.I b5 (ix y3_2)) (A23.ln b25) ∧ (∀ A29 : xA, A29 = A23.setI b25 (ix (A3.I b5 (ix y3_2))) (A3.I p 3) → (∀ A30 : xA, A30 = A29.setI p 3 ((A3.I p 3) + (1 : Int32)) → (J24 A30))))))) ∧ (¬ y16_7 < 0 → J24 A23)))))))) ∧ (((nI (A3.ln (G.cs 3))) ≤ y16_8 → J18) ∧ (¬ (nI (A3.ln (G.cs 3))) ≤ y16_8 → ((0 ≤ y16_7 → J18) ∧ (¬ 0 ≤ y16_7 → (∃ q16 : Nat, q16 < n16 ∧ L16 q16 (if ((jishr y8_4 y16_8) &&& (1 : Int32)) = 0 then y16_8 else y16_7) (y16_8 + (1 : Int32))))))))) ∧ ((0 ≤ (A3.I b12 (ix (A3.I b5 (ix y3_2)))) → ∃ b31 : Nat, (A3.P p 10) = some b31 ∧ (A3.tg b31 = 200 ∧ (vp_in (A3.I b12 (ix (A3.I b5 (ix y3_2)))) (A3.ln b31) ∧ (J15 (A3.I b31 (ix (A3.I b12 (ix (A3.I b5 (ix y3_2)))))))))) ∧ (¬ 0 ≤ (A3.I b12 (ix (A3.I b5 (ix y3_2)))) → J15 (-1 : Int32)))))))))) ∧ (¬ (A3.I p 1) ≤ y8_5 → ∃ b34 : Nat, (A3.P p 4) = some b34 ∧ (A3.tg b34 = 201 ∧ (vp_in (((A3.I b5 (ix y3_2)) * (A3.I p 1)) + y8_5) (A3.ln b34) ∧ (∃ L37 : Nat → Int32 → Int64 → Prop, (∃ n37 : Nat, L37 n37 y8_4 (A3.L b34 (ix (((A3.I b5 (ix y3_2)) * (A3.I p 1)) + y8_5)))) ∧ (∀ (n37 : Nat) (y37_4 : Int32) (y37_6 : Int64), L37 n37 y37_4 y37_6 → (((lg_cmp y37_6 (0 : Int64)) = 0 → (∃ q8 : Nat, q8 < n8 ∧ L8 q8 y37_4 (y8_5 + (1 : Int32)))) ∧ (¬ (lg_cmp y37_6 (0 : Int64)) = 0 → ∃ b38 : Nat, (A3.P p 10) = some b38 ∧ (A3.tg b38 = 200 ∧ (vp_in (((64 : Int32) * y8_5) + (f_J16_numberOfTrailingZeros y37_6)) (A3.ln b38) ∧ ((∃ q37 : Nat, q37 < n37 ∧ L37 q37 (if (A3.I b38 (ix (((64 : Int32) * y8_5) + (f_J16_numberOfTrailingZeros y37_6)))) < 0 then y37_4 else (y37_4 ||| (jishl (1 : Int32) (A3.I b38 (ix (((64 : Int32) * y8_5) + (f_J16_numberOfTrailingZeros y37_6))))))) (y37_6 &&& (y37_6 - (1 : Int64)))))))))))))))))))))))))
theorem m_X11_choose (hG : xOK G) (hO : xHO G) {dp : Nat} {p : Nat} {l : Int32} {Q : xA → Prop} {A : xA} (h : w_X11_choose G p l Q A) : MX G (dp + 2) kX11_choose [.ref p, .int l] A (hV Q) := by
  unfold w_X11_choose at h
  refine MX.of rfl (Nat.le_of_ble_eq_true rfl) ?_
  change X _ _ _ _ _ _ [some (.ref p), some (.int l), none, none, none, none, none, none, none] _
  refine X.xok (fun w0 => ?_)
  replace h := h w0
  refine x_aload_n dX11_choose_0 rfl ?_
  refine x_iconst_ (v := (0 : Int32)) dX11_choose_1 (by decide) ?_
  obtain ⟨o1, h⟩ := h
  refine z_putI hG hO.1 dX11_choose_2 f_X11_154_10 ⟨_, rfl, Or.inl rfl⟩ o1 (by decide) rfl rfl ⟨_, rfl⟩ (fun A2 e2 => ?_)
  replace h := h A2 e2
  refine x_iload_n dX11_choose_5 rfl ?_
  refine x_iconst_ (v := (1 : Int32)) dX11_choose_6 (by decide) ?_
  refine x_isub dX11_choose_7 ?_
  refine x_istore_n dX11_choose_8 (by decide) ?_
  obtain ⟨L3, ⟨n3, i3⟩, g3⟩ := h
  have kl3 : ∀ n3 : Nat, ∀ (y3_2 : Int32) (A3 : xA), L3 n3 y3_2 A3 → X G (dp + 2) kX11_choose (hV Q) A3 9 [some (.ref p), none, some (.int y3_2), none, none, none, none, none, none] [] := by
    intro n3
    induction n3 using Nat.strongRecOn with
    | ind n3 ih3 =>
      intro y3_2 A3 h
      replace h := g3 n3 y3_2 A3 h
      refine x_iload_n dX11_choose_9 rfl ?_
      refine x_if_lt (tgt := 255) dX11_choose_10 (by decide) (fun c10 => ?_) (fun c10 => ?_)
      · replace h := h.1 c10
        exact x_vret dX11_choose_255 rfl ⟨rfl, h⟩
      · replace h := h.2 c10
        refine x_aload_n dX11_choose_13 rfl ?_
        obtain ⟨o4, h⟩ := h
        refine x_get (v := va_rf (A3.P p 12)) hG dX11_choose_14 f_X11_38_10 o4 rfl ?_
        refine x_iload_n dX11_choose_17 rfl ?_
        obtain ⟨b5, e5, h⟩ := h
        rw [e5]
        obtain ⟨o6, h⟩ := h
        obtain ⟨o7, h⟩ := h
        refine x_iald hG dX11_choose_18 o6 o7 ?_
        refine x_istore_n dX11_choose_19 (by decide) ?_
        refine x_iconst_ (v := (0 : Int32)) dX11_choose_20 (by decide) ?_
        refine x_istore dX11_choose_21 (by decide) ?_
        refine x_iconst_ (v := (0 : Int32)) dX11_choose_23 (by decide) ?_
        refine x_istore dX11_choose_24 (by decide) ?_
        obtain ⟨L8, ⟨n8, i8⟩, g8⟩ := h
        have kl8 : ∀ n8 : Nat, ∀ (y8_4 : Int32) (y8_5 : Int32), L8 n8 y8_4 y8_5 → X G (dp + 2) kX11_choose (hV Q) A3 26 [some (.ref p), none, some (.int y3_2), some (.int (A3.I b5 (ix y3_2))), some (.int y8_4), some (.int y8_5), none, none, none] [] := by
          intro n8
          induction n8 using Nat.strongRecOn with
          | ind n8 ih8 =>
            intro y8_4 y8_5 h
            replace h := g8 n8 y8_4 y8_5 h
            refine x_iload dX11_choose_26 rfl ?_
            refine x_aload_n dX11_choose_28 rfl ?_
            refine x_get (v := .int (A3.I p 1)) hG dX11_choose_29 f_X11_54_10 o4 rfl ?_
            refine x_icmp_ge (tgt := 108) dX11_choose_32 (by decide) (fun c32 => ?_) (fun c32 => ?_)
            · replace h := h.1 c32
              refine x_aload_n dX11_choose_108 rfl ?_
              refine x_get (v := va_rf (A3.P p 5)) hG dX11_choose_109 f_X11_15_10 o4 rfl ?_
              refine x_iload_n dX11_choose_112 rfl ?_
              obtain ⟨b9, e9, h⟩ := h
              rw [e9]
              obtain ⟨o10, h⟩ := h
              obtain ⟨o11, h⟩ := h
              refine x_zald hG dX11_choose_113 o10 o11 ?_
              refine x_via 122 (A' := A3) (lv' := [some (.ref p), none, some (.int y3_2), some (.int (A3.I b5 (ix y3_2))), some (.int y8_4), none, none, none, none]) (st' := [.int (if (A3.I b9 (ix (A3.I b5 (ix y3_2)))) = 0 then (0 : Int32) else (5 : Int32))]) ?_ (fun k122 => ?_)
              rotate_left
              · refine x_if_eq (tgt := 121) dX11_choose_114 (by decide) (fun c114 => ?_) (fun c114 => ?_)
                · refine x_iconst_ (v := (0 : Int32)) dX11_choose_121 (by decide) ?_
                  change X _ _ _ _ _ _ [some (.ref p), none, some (.int y3_2), some (.int (A3.I b5 (ix y3_2))), some (.int y8_4), some (.int y8_5), none, none, none] [.int (0 : Int32)]
                  simp only [if_pos c114] at k122 ⊢
                  exact X.weak (xle_c rfl (xle_n (xle_c rfl (xle_c rfl (xle_c rfl (xle_n (xle_n (xle_n (xle_n xle_nil))))))))) k122
                · refine x_iconst_ (v := (5 : Int32)) dX11_choose_117 (by decide) ?_
                  refine x_goto (tgt := 122) dX11_choose_118 (by decide) ?_
                  change X _ _ _ _ _ _ [some (.ref p), none, some (.int y3_2), some (.int (A3.I b5 (ix y3_2))), some (.int y8_4), some (.int y8_5), none, none, none] [.int (5 : Int32)]
                  simp only [if_neg c114] at k122 ⊢
                  exact X.weak (xle_c rfl (xle_n (xle_c rfl (xle_c rfl (xle_c rfl (xle_n (xle_n (xle_n (xle_n xle_nil))))))))) k122
              refine x_istore dX11_choose_122 (by decide) ?_
              refine x_aload_n dX11_choose_124 rfl ?_
              refine x_get (v := va_rf (A3.P p 9)) hG dX11_choose_125 f_X11_29_10 o4 rfl ?_
              refine x_iload_n dX11_choose_128 rfl ?_
              obtain ⟨b12, e12, h⟩ := h
              rw [e12]
              obtain ⟨o13, h⟩ := h
              obtain ⟨o14, h⟩ := h
              refine x_iald hG dX11_choose_129 o13 o14 ?_
              obtain ⟨J15, g15, h⟩ := h
              have kj15 : ∀ (y15_s0 : Int32), J15 y15_s0 → X G (dp + 2) kX11_choose (hV Q) A3 148 [some (.ref p), none, some (.int y3_2), some (.int (A3.I b5 (ix y3_2))), some (.int y8_4), some (.int (if (A3.I b9 (ix (A3.I b5 (ix y3_2)))) = 0 then (0 : Int32) else (5 : Int32))), none, none, none] [.int y15_s0] := by
                intro y15_s0 h
                replace h := g15 y15_s0 h
                refine x_istore dX11_choose_148 (by decide) ?_
                refine x_iload dX11_choose_150 rfl ?_
                refine x_iload dX11_choose_152 rfl ?_
                refine x_via 173 (A' := A3) (lv' := [some (.ref p), none, some (.int y3_2), some (.int (A3.I b5 (ix y3_2))), some (.int y8_4), some (.int (if (A3.I b9 (ix (A3.I b5 (ix y3_2)))) = 0 then (0 : Int32) else (5 : Int32))), none, none, none]) (st' := [.int (if y15_s0 < (if (A3.I b9 (ix (A3.I b5 (ix y3_2)))) = 0 then (0 : Int32) else (5 : Int32)) then (-1 : Int32) else (if ((jishr y8_4 y15_s0) &&& (1 : Int32)) = 0 then y15_s0 else (-1 : Int32)))]) ?_ (fun k173 => ?_)
                rotate_left
                · refine x_icmp_lt (tgt := 172) dX11_choose_154 (by decide) (fun c154 => ?_) (fun c154 => ?_)
                  · refine x_iconst_ (v := (-1 : Int32)) dX11_choose_172 (by decide) ?_
                    change X _ _ _ _ _ _ [some (.ref p), none, some (.int y3_2), some (.int (A3.I b5 (ix y3_2))), some (.int y8_4), some (.int (if (A3.I b9 (ix (A3.I b5 (ix y3_2)))) = 0 then (0 : Int32) else (5 : Int32))), some (.int y15_s0), none, none] [.int (-1 : Int32)]
                    simp only [if_pos c154] at k173 ⊢
                    exact X.weak (xle_c rfl (xle_n (xle_c rfl (xle_c rfl (xle_c rfl (xle_c rfl (xle_n (xle_n (xle_n xle_nil))))))))) k173
                  · refine x_iload dX11_choose_157 rfl ?_
                    refine x_iload dX11_choose_159 rfl ?_
                    refine x_ishr dX11_choose_161 ?_
                    refine x_eqi (v := (jishr y8_4 y15_s0)) rfl ?_
                    refine x_iconst_ (v := (1 : Int32)) dX11_choose_162 (by decide) ?_
                    refine x_iand dX11_choose_163 ?_
                    refine x_if_ne (tgt := 172) dX11_choose_164 (by decide) (fun c164 => ?_) (fun c164 => ?_)
                    · refine x_iconst_ (v := (-1 : Int32)) dX11_choose_172 (by decide) ?_
                      change X _ _ _ _ _ _ [some (.ref p), none, some (.int y3_2), some (.int (A3.I b5 (ix y3_2))), some (.int y8_4), some (.int (if (A3.I b9 (ix (A3.I b5 (ix y3_2)))) = 0 then (0 : Int32) else (5 : Int32))), some (.int y15_s0), none, none] [.int (-1 : Int32)]
                      try simp only [if_neg c154] at c164 k173 ⊢
                      try simp only [if_neg c164] at k173 ⊢
                      exact X.weak (xle_c rfl (xle_n (xle_c rfl (xle_c rfl (xle_c rfl (xle_c rfl (xle_n (xle_n (xle_n xle_nil))))))))) k173
                    · refine x_iload dX11_choose_167 rfl ?_
                      refine x_goto (tgt := 173) dX11_choose_169 (by decide) ?_
                      change X _ _ _ _ _ _ [some (.ref p), none, some (.int y3_2), some (.int (A3.I b5 (ix y3_2))), some (.int y8_4), some (.int (if (A3.I b9 (ix (A3.I b5 (ix y3_2)))) = 0 then (0 : Int32) else (5 : Int32))), some (.int y15_s0), none, none] [.int y15_s0]
                      try simp only [if_neg c154] at c164 k173 ⊢
                      try simp only [if_pos c164] at k173 ⊢
                      exact X.weak (xle_c rfl (xle_n (xle_c rfl (xle_c rfl (xle_c rfl (xle_c rfl (xle_n (xle_n (xle_n xle_nil))))))))) k173
                refine x_istore dX11_choose_173 (by decide) ?_
                refine x_iload dX11_choose_175 rfl ?_
                refine x_istore dX11_choose_177 (by decide) ?_
                obtain ⟨L16, ⟨n16, i16⟩, g16⟩ := h
                have kl16 : ∀ n16 : Nat, ∀ (y16_7 : Int32) (y16_8 : Int32), L16 n16 y16_7 y16_8 → X G (dp + 2) kX11_choose (hV Q) A3 179 [some (.ref p), none, some (.int y3_2), some (.int (A3.I b5 (ix y3_2))), some (.int y8_4), none, none, some (.int y16_7), some (.int y16_8)] [] := by
                  intro n16
                  induction n16 using Nat.strongRecOn with
                  | ind n16 ih16 =>
                    intro y16_7 y16_8 h
                    replace h := g16 n16 y16_7 y16_8 h
                    refine x_iload dX11_choose_179 rfl ?_
                    refine x_gets hG (C := "CompiledHouse") hO.2.2.1.1.1 (Or.inr ⟨_, q2708⟩) (Or.inl rfl) dX11_choose_181 ?_
                    refine X.xok (fun w17 => ?_)
                    have t17 := xold_tg w17 hO.2.2.1.1.2.1 hO.2.2.1.1.2.2.1
                    refine x_alen hG (j := 0) dX11_choose_184 t17 ?_
                    obtain ⟨J18, g18, h⟩ := h
                    have kj18 : J18 → X G (dp + 2) kX11_choose (hV Q) A3 213 [some (.ref p), none, some (.int y3_2), some (.int (A3.I b5 (ix y3_2))), none, none, none, some (.int y16_7), none] [] := by
                      intro h
                      replace h := g18 h
                      refine x_aload_n dX11_choose_213 rfl ?_
                      refine x_get (v := va_rf (A3.P p 10)) hG dX11_choose_214 f_X11_32_10 o4 rfl ?_
                      refine x_iload_n dX11_choose_217 rfl ?_
                      refine x_iload dX11_choose_218 rfl ?_
                      obtain ⟨b19, e19, h⟩ := h
                      rw [e19]
                      obtain ⟨o20, h⟩ := h
                      obtain ⟨o21, h⟩ := h
                      obtain ⟨o22, h⟩ := h
                      refine z_iast hG dX11_choose_220 o20 o21 o22 (fun A23 e23 => ?_)
                      replace h := h A23 e23
                      refine x_iload dX11_choose_221 rfl ?_
                      obtain ⟨J24, g24, h⟩ := h
                      have kj24 : ∀ (A24 : xA), J24 A24 → X G (dp + 2) kX11_choose (hV Q) A24 249 [some (.ref p), none, some (.int y3_2), none, none, none, none, none, none] [] := by
                        intro A24 h
                        replace h := g24 A24 h
                        refine x_iinc (v := (y3_2 + (-1 : Int32))) dX11_choose_249 rfl rfl (by decide) ?_
                        refine x_goto (tgt := 9) dX11_choose_252 (by decide) ?_
                        obtain ⟨q3, l3, h⟩ := h
                        change X _ _ _ _ _ _ [some (.ref p), none, some (.int (y3_2 + (-1 : Int32))), none, none, none, none, none, none] []
                        exact X.weak (xle_c rfl (xle_n (xle_c rfl (xle_n (xle_n (xle_n (xle_n (xle_n (xle_n xle_nil))))))))) (ih3 q3 l3 (y3_2 + (-1 : Int32)) A24 h)
                      refine x_if_lt (tgt := 229) dX11_choose_223 (by decide) (fun c223 => ?_) (fun c223 => ?_)
                      · replace h := h.1 c223
                        refine x_aload_n dX11_choose_229 rfl ?_
                        refine x_get (v := va_rf (A3.P p 11)) hG dX11_choose_230 f_X11_35_10 (kI e23 o4) (congrArg va_rf (sI_P e23)) ?_
                        refine x_iload_n dX11_choose_233 rfl ?_
                        refine x_aload_n dX11_choose_234 rfl ?_
                        refine x_get (v := .int (A3.I p 3)) hG dX11_choose_235 f_X11_154_10 (kI e23 o4) (congrArg Value.int (sI_a e23 (tne o4 o20 (by decide)))) ?_
                        obtain ⟨b25, e25, h⟩ := h
                        rw [e25]
                        obtain ⟨o26, h⟩ := h
                        obtain ⟨o27, h⟩ := h
                        obtain ⟨o28, h⟩ := h
                        refine z_iast hG dX11_choose_238 o26 o27 o28 (fun A29 e29 => ?_)
                        replace h := h A29 e29
                        refine x_aload_n dX11_choose_239 rfl ?_
                        refine x_dup dX11_choose_240 rfl ?_
                        refine x_get (v := .int (A3.I p 3)) hG dX11_choose_241 f_X11_154_10 (kI e29 (kI e23 o4)) (congrArg Value.int ((sI_a e29 (tne (kI e23 o4) o26 (by decide))).trans (sI_a e23 (tne o4 o20 (by decide))))) ?_
                        refine x_iconst_ (v := (1 : Int32)) dX11_choose_244 (by decide) ?_
                        refine x_iadd dX11_choose_245 ?_
                        refine z_putI hG hO.1 dX11_choose_246 f_X11_154_10 ⟨_, rfl, Or.inl rfl⟩ (kI e29 (kI e23 o4)) (by decide) rfl rfl ⟨_, rfl⟩ (fun A30 e30 => ?_)
                        replace h := h A30 e30
                        change X _ _ _ _ _ _ [some (.ref p), none, some (.int y3_2), some (.int (A3.I b5 (ix y3_2))), none, none, none, some (.int y16_7), none] []
                        exact X.weak (xle_c rfl (xle_n (xle_c rfl (xle_n (xle_n (xle_n (xle_n (xle_n (xle_n xle_nil))))))))) (kj24 A30 h)
                      · replace h := h.2 c223
                        refine x_goto (tgt := 249) dX11_choose_226 (by decide) ?_
                        change X _ _ _ _ _ _ [some (.ref p), none, some (.int y3_2), some (.int (A3.I b5 (ix y3_2))), none, none, none, some (.int y16_7), none] []
                        exact X.weak (xle_c rfl (xle_n (xle_c rfl (xle_n (xle_n (xle_n (xle_n (xle_n (xle_n xle_nil))))))))) (kj24 A23 h)
                    refine x_icmp_ge (tgt := 213) dX11_choose_185 (by decide) (fun c185 => ?_) (fun c185 => ?_)
                    · replace h := h.1 c185
                      change X _ _ _ _ _ _ [some (.ref p), none, some (.int y3_2), some (.int (A3.I b5 (ix y3_2))), some (.int y8_4), none, none, some (.int y16_7), some (.int y16_8)] []
                      exact X.weak (xle_c rfl (xle_n (xle_c rfl (xle_c rfl (xle_n (xle_n (xle_n (xle_c rfl (xle_n xle_nil))))))))) (kj18 h)
                    · replace h := h.2 c185
                      refine x_iload dX11_choose_188 rfl ?_
                      refine x_if_ge (tgt := 213) dX11_choose_190 (by decide) (fun c190 => ?_) (fun c190 => ?_)
                      · replace h := h.1 c190
                        change X _ _ _ _ _ _ [some (.ref p), none, some (.int y3_2), some (.int (A3.I b5 (ix y3_2))), some (.int y8_4), none, none, some (.int y16_7), some (.int y16_8)] []
                        exact X.weak (xle_c rfl (xle_n (xle_c rfl (xle_c rfl (xle_n (xle_n (xle_n (xle_c rfl (xle_n xle_nil))))))))) (kj18 h)
                      · replace h := h.2 c190
                        refine x_iload dX11_choose_193 rfl ?_
                        refine x_iload dX11_choose_195 rfl ?_
                        refine x_ishr dX11_choose_197 ?_
                        refine x_eqi (v := (jishr y8_4 y16_8)) rfl ?_
                        refine x_iconst_ (v := (1 : Int32)) dX11_choose_198 (by decide) ?_
                        refine x_iand dX11_choose_199 ?_
                        refine x_via 207 (A' := A3) (lv' := [some (.ref p), none, some (.int y3_2), some (.int (A3.I b5 (ix y3_2))), some (.int y8_4), none, none, some (.int (if ((jishr y8_4 y16_8) &&& (1 : Int32)) = 0 then y16_8 else y16_7)), some (.int y16_8)]) (st' := []) ?_ (fun k207 => ?_)
                        rotate_left
                        · refine x_if_ne (tgt := 207) dX11_choose_200 (by decide) (fun c200 => ?_) (fun c200 => ?_)
                          · change X _ _ _ _ _ _ [some (.ref p), none, some (.int y3_2), some (.int (A3.I b5 (ix y3_2))), some (.int y8_4), none, none, some (.int y16_7), some (.int y16_8)] []
                            simp only [if_neg c200] at k207 ⊢
                            exact X.weak (xle_c rfl (xle_n (xle_c rfl (xle_c rfl (xle_c rfl (xle_n (xle_n (xle_c rfl (xle_c rfl xle_nil))))))))) k207
                          · refine x_iload dX11_choose_203 rfl ?_
                            refine x_istore dX11_choose_205 (by decide) ?_
                            change X _ _ _ _ _ _ [some (.ref p), none, some (.int y3_2), some (.int (A3.I b5 (ix y3_2))), some (.int y8_4), none, none, some (.int y16_8), some (.int y16_8)] []
                            simp only [if_pos c200] at k207 ⊢
                            exact X.weak (xle_c rfl (xle_n (xle_c rfl (xle_c rfl (xle_c rfl (xle_n (xle_n (xle_c rfl (xle_c rfl xle_nil))))))))) k207
                        refine x_iinc (v := (y16_8 + (1 : Int32))) dX11_choose_207 rfl rfl (by decide) ?_
                        refine x_goto (tgt := 179) dX11_choose_210 (by decide) ?_
                        obtain ⟨q16, l16, h⟩ := h
                        change X _ _ _ _ _ _ [some (.ref p), none, some (.int y3_2), some (.int (A3.I b5 (ix y3_2))), some (.int y8_4), none, none, some (.int (if ((jishr y8_4 y16_8) &&& (1 : Int32)) = 0 then y16_8 else y16_7)), some (.int (y16_8 + (1 : Int32)))] []
                        exact X.weak (xle_c rfl (xle_n (xle_c rfl (xle_c rfl (xle_c rfl (xle_n (xle_n (xle_c rfl (xle_c rfl xle_nil))))))))) (ih16 q16 l16 (if ((jishr y8_4 y16_8) &&& (1 : Int32)) = 0 then y16_8 else y16_7) (y16_8 + (1 : Int32)) h)
                change X _ _ _ _ _ _ [some (.ref p), none, some (.int y3_2), some (.int (A3.I b5 (ix y3_2))), some (.int y8_4), some (.int (if (A3.I b9 (ix (A3.I b5 (ix y3_2)))) = 0 then (0 : Int32) else (5 : Int32))), none, some (.int (if y15_s0 < (if (A3.I b9 (ix (A3.I b5 (ix y3_2)))) = 0 then (0 : Int32) else (5 : Int32)) then (-1 : Int32) else (if ((jishr y8_4 y15_s0) &&& (1 : Int32)) = 0 then y15_s0 else (-1 : Int32)))), some (.int (if (A3.I b9 (ix (A3.I b5 (ix y3_2)))) = 0 then (0 : Int32) else (5 : Int32)))] []
                exact X.weak (xle_c rfl (xle_n (xle_c rfl (xle_c rfl (xle_c rfl (xle_n (xle_n (xle_c rfl (xle_c rfl xle_nil))))))))) (kl16 n16 (if y15_s0 < (if (A3.I b9 (ix (A3.I b5 (ix y3_2)))) = 0 then (0 : Int32) else (5 : Int32)) then (-1 : Int32) else (if ((jishr y8_4 y15_s0) &&& (1 : Int32)) = 0 then y15_s0 else (-1 : Int32))) (if (A3.I b9 (ix (A3.I b5 (ix y3_2)))) = 0 then (0 : Int32) else (5 : Int32)) i16)
              refine x_if_ge (tgt := 137) dX11_choose_130 (by decide) (fun c130 => ?_) (fun c130 => ?_)
              · replace h := h.1 c130
                refine x_aload_n dX11_choose_137 rfl ?_
                refine x_get (v := va_rf (A3.P p 10)) hG dX11_choose_138 f_X11_32_10 o4 rfl ?_
                refine x_aload_n dX11_choose_141 rfl ?_
                refine x_get (v := .ref b12) hG dX11_choose_142 f_X11_29_10 o4 (congrArg va_rf e12) ?_
                refine x_iload_n dX11_choose_145 rfl ?_
                refine x_iald hG dX11_choose_146 o13 o14 ?_
                obtain ⟨b31, e31, h⟩ := h
                rw [e31]
                obtain ⟨o32, h⟩ := h
                obtain ⟨o33, h⟩ := h
                refine x_iald hG dX11_choose_147 o32 o33 ?_
                change X _ _ _ _ _ _ [some (.ref p), none, some (.int y3_2), some (.int (A3.I b5 (ix y3_2))), some (.int y8_4), some (.int (if (A3.I b9 (ix (A3.I b5 (ix y3_2)))) = 0 then (0 : Int32) else (5 : Int32))), none, none, none] [.int (A3.I b31 (ix (A3.I b12 (ix (A3.I b5 (ix y3_2))))))]
                exact X.weak (xle_c rfl (xle_n (xle_c rfl (xle_c rfl (xle_c rfl (xle_c rfl (xle_n (xle_n (xle_n xle_nil))))))))) (kj15 (A3.I b31 (ix (A3.I b12 (ix (A3.I b5 (ix y3_2)))))) h)
              · replace h := h.2 c130
                refine x_iconst_ (v := (-1 : Int32)) dX11_choose_133 (by decide) ?_
                refine x_goto (tgt := 148) dX11_choose_134 (by decide) ?_
                change X _ _ _ _ _ _ [some (.ref p), none, some (.int y3_2), some (.int (A3.I b5 (ix y3_2))), some (.int y8_4), some (.int (if (A3.I b9 (ix (A3.I b5 (ix y3_2)))) = 0 then (0 : Int32) else (5 : Int32))), none, none, none] [.int (-1 : Int32)]
                exact X.weak (xle_c rfl (xle_n (xle_c rfl (xle_c rfl (xle_c rfl (xle_c rfl (xle_n (xle_n (xle_n xle_nil))))))))) (kj15 (-1 : Int32) h)
            · replace h := h.2 c32
              refine x_aload_n dX11_choose_35 rfl ?_
              refine x_get (v := va_rf (A3.P p 4)) hG dX11_choose_36 f_X11_9_10 o4 rfl ?_
              refine x_iload_n dX11_choose_39 rfl ?_
              refine x_aload_n dX11_choose_40 rfl ?_
              refine x_get (v := .int (A3.I p 1)) hG dX11_choose_41 f_X11_54_10 o4 rfl ?_
              refine x_imul dX11_choose_44 ?_
              refine x_iload dX11_choose_45 rfl ?_
              refine x_iadd dX11_choose_47 ?_
              obtain ⟨b34, e34, h⟩ := h
              rw [e34]
              obtain ⟨o35, h⟩ := h
              obtain ⟨o36, h⟩ := h
              refine x_lald hG dX11_choose_48 o35 o36 ?_
              refine x_lstore dX11_choose_49 (by decide) ?_
              obtain ⟨L37, ⟨n37, i37⟩, g37⟩ := h
              have kl37 : ∀ n37 : Nat, ∀ (y37_4 : Int32) (y37_6 : Int64), L37 n37 y37_4 y37_6 → X G (dp + 2) kX11_choose (hV Q) A3 51 [some (.ref p), none, some (.int y3_2), some (.int (A3.I b5 (ix y3_2))), some (.int y37_4), some (.int y8_5), some (.long y37_6), none, none] [] := by
                intro n37
                induction n37 using Nat.strongRecOn with
                | ind n37 ih37 =>
                  intro y37_4 y37_6 h
                  replace h := g37 n37 y37_4 y37_6 h
                  refine x_lload dX11_choose_51 rfl ?_
                  refine x_lconst_ (v := (0 : Int64)) dX11_choose_53 (by decide) ?_
                  refine x_lcmp dX11_choose_54 ?_
                  refine x_if_eq (tgt := 102) dX11_choose_55 (by decide) (fun c55 => ?_) (fun c55 => ?_)
                  · replace h := h.1 c55
                    refine x_iinc (v := (y8_5 + (1 : Int32))) dX11_choose_102 rfl rfl (by decide) ?_
                    refine x_goto (tgt := 26) dX11_choose_105 (by decide) ?_
                    obtain ⟨q8, l8, h⟩ := h
                    change X _ _ _ _ _ _ [some (.ref p), none, some (.int y3_2), some (.int (A3.I b5 (ix y3_2))), some (.int y37_4), some (.int (y8_5 + (1 : Int32))), some (.long y37_6), none, none] []
                    exact X.weak (xle_c rfl (xle_n (xle_c rfl (xle_c rfl (xle_c rfl (xle_c rfl (xle_n (xle_n (xle_n xle_nil))))))))) (ih8 q8 l8 y37_4 (y8_5 + (1 : Int32)) h)
                  · replace h := h.2 c55
                    refine x_aload_n dX11_choose_58 rfl ?_
                    refine x_get (v := va_rf (A3.P p 10)) hG dX11_choose_59 f_X11_32_10 o4 rfl ?_
                    refine x_bipush_ (v := (64 : Int32)) dX11_choose_62 (by decide) ?_
                    refine x_iload dX11_choose_64 rfl ?_
                    refine x_imul dX11_choose_66 ?_
                    refine x_lload dX11_choose_67 rfl ?_
                    refine x_callS hG (Ky := kJ16_numberOfTrailingZeros) (As := [.long y37_6]) dX11_choose_69 lk_X11_134 me_J16_numberOfTrailingZeros st_J16_numberOfTrailingZeros rfl rfl (by simp only [List.append_eq, List.nil_append, List.map_cons, va_rf_cat]; exact Nat.le_of_ble_eq_true rfl) (MX.post (m_J16_numberOfTrailingZeros hG) ?_)
                    rintro _ _ ⟨rfl, rfl⟩
                    change X _ _ _ _ _ _ _ (.int (f_J16_numberOfTrailingZeros y37_6) :: _)
                    refine x_iadd dX11_choose_72 ?_
                    obtain ⟨b38, e38, h⟩ := h
                    rw [e38]
                    obtain ⟨o39, h⟩ := h
                    obtain ⟨o40, h⟩ := h
                    refine x_iald hG dX11_choose_73 o39 o40 ?_
                    refine x_istore dX11_choose_74 (by decide) ?_
                    refine x_iload dX11_choose_76 rfl ?_
                    refine x_via 90 (A' := A3) (lv' := [some (.ref p), none, some (.int y3_2), some (.int (A3.I b5 (ix y3_2))), some (.int (if (A3.I b38 (ix (((64 : Int32) * y8_5) + (f_J16_numberOfTrailingZeros y37_6)))) < 0 then y37_4 else (y37_4 ||| (jishl (1 : Int32) (A3.I b38 (ix (((64 : Int32) * y8_5) + (f_J16_numberOfTrailingZeros y37_6)))))))), some (.int y8_5), some (.long y37_6), none, none]) (st' := []) ?_ (fun k90 => ?_)
                    rotate_left
                    · refine x_if_lt (tgt := 90) dX11_choose_78 (by decide) (fun c78 => ?_) (fun c78 => ?_)
                      · change X _ _ _ _ _ _ [some (.ref p), none, some (.int y3_2), some (.int (A3.I b5 (ix y3_2))), some (.int y37_4), some (.int y8_5), some (.long y37_6), none, some (.int (A3.I b38 (ix (((64 : Int32) * y8_5) + (f_J16_numberOfTrailingZeros y37_6)))))] []
                        simp only [if_pos c78] at k90 ⊢
                        exact X.weak (xle_c rfl (xle_n (xle_c rfl (xle_c rfl (xle_c rfl (xle_c rfl (xle_c rfl (xle_n (xle_n xle_nil))))))))) k90
                      · refine x_iload dX11_choose_81 rfl ?_
                        refine x_iconst_ (v := (1 : Int32)) dX11_choose_83 (by decide) ?_
                        refine x_iload dX11_choose_84 rfl ?_
                        refine x_ishl dX11_choose_86 ?_
                        refine x_eqi (v := (jishl (1 : Int32) (A3.I b38 (ix (((64 : Int32) * y8_5) + (f_J16_numberOfTrailingZeros y37_6)))))) rfl ?_
                        refine x_ior dX11_choose_87 ?_
                        refine x_istore dX11_choose_88 (by decide) ?_
                        change X _ _ _ _ _ _ [some (.ref p), none, some (.int y3_2), some (.int (A3.I b5 (ix y3_2))), some (.int (y37_4 ||| (jishl (1 : Int32) (A3.I b38 (ix (((64 : Int32) * y8_5) + (f_J16_numberOfTrailingZeros y37_6))))))), some (.int y8_5), some (.long y37_6), none, some (.int (A3.I b38 (ix (((64 : Int32) * y8_5) + (f_J16_numberOfTrailingZeros y37_6)))))] []
                        simp only [if_neg c78] at k90 ⊢
                        exact X.weak (xle_c rfl (xle_n (xle_c rfl (xle_c rfl (xle_c rfl (xle_c rfl (xle_c rfl (xle_n (xle_n xle_nil))))))))) k90
                    refine x_lload dX11_choose_90 rfl ?_
                    refine x_lload dX11_choose_92 rfl ?_
                    refine x_lconst_ (v := (1 : Int64)) dX11_choose_94 (by decide) ?_
                    refine x_lsub dX11_choose_95 ?_
                    refine x_land dX11_choose_96 ?_
                    refine x_lstore dX11_choose_97 (by decide) ?_
                    refine x_goto (tgt := 51) dX11_choose_99 (by decide) ?_
                    obtain ⟨q37, l37, h⟩ := h
                    change X _ _ _ _ _ _ [some (.ref p), none, some (.int y3_2), some (.int (A3.I b5 (ix y3_2))), some (.int (if (A3.I b38 (ix (((64 : Int32) * y8_5) + (f_J16_numberOfTrailingZeros y37_6)))) < 0 then y37_4 else (y37_4 ||| (jishl (1 : Int32) (A3.I b38 (ix (((64 : Int32) * y8_5) + (f_J16_numberOfTrailingZeros y37_6)))))))), some (.int y8_5), some (.long (y37_6 &&& (y37_6 - (1 : Int64)))), none, none] []
                    exact X.weak (xle_c rfl (xle_n (xle_c rfl (xle_c rfl (xle_c rfl (xle_c rfl (xle_c rfl (xle_n (xle_n xle_nil))))))))) (ih37 q37 l37 (if (A3.I b38 (ix (((64 : Int32) * y8_5) + (f_J16_numberOfTrailingZeros y37_6)))) < 0 then y37_4 else (y37_4 ||| (jishl (1 : Int32) (A3.I b38 (ix (((64 : Int32) * y8_5) + (f_J16_numberOfTrailingZeros y37_6))))))) (y37_6 &&& (y37_6 - (1 : Int64))) h)
              change X _ _ _ _ _ _ [some (.ref p), none, some (.int y3_2), some (.int (A3.I b5 (ix y3_2))), some (.int y8_4), some (.int y8_5), some (.long (A3.L b34 (ix (((A3.I b5 (ix y3_2)) * (A3.I p 1)) + y8_5)))), none, none] []
              exact X.weak (xle_c rfl (xle_n (xle_c rfl (xle_c rfl (xle_c rfl (xle_c rfl (xle_c rfl (xle_n (xle_n xle_nil))))))))) (kl37 n37 y8_4 (A3.L b34 (ix (((A3.I b5 (ix y3_2)) * (A3.I p 1)) + y8_5))) i37)
        change X _ _ _ _ _ _ [some (.ref p), none, some (.int y3_2), some (.int (A3.I b5 (ix y3_2))), some (.int (0 : Int32)), some (.int (0 : Int32)), none, none, none] []
        exact X.weak (xle_c rfl (xle_n (xle_c rfl (xle_c rfl (xle_c rfl (xle_c rfl (xle_n (xle_n (xle_n xle_nil))))))))) (kl8 n8 (0 : Int32) (0 : Int32) i8)
  change X _ _ _ _ _ _ [some (.ref p), some (.int l), some (.int (l - (1 : Int32))), none, none, none, none, none, none] []
  exact X.weak (xle_c rfl (xle_n (xle_c rfl (xle_n (xle_n (xle_n (xle_n (xle_n (xle_n xle_nil))))))))) (kl3 n3 (l - (1 : Int32)) A2 i3)
def w_X11_paint (G : xG) (p : Nat) (c : Option Nat) (Q : xA → Prop) (A : xA) : Prop := xok G A → ∃ b1 : Nat, c = some b1 ∧ (A.tg b1 = 34 ∧ (A.tg p = 11 ∧ (∀ A4 : xA, A4 = A.setI p 2 (A.I b1 2) → (∀ A5 : xA, A5 = A4.setI p 1 (((A.I b1 2) + (63 : Int32)) / (64 : Int32)) → (∃ R6 : Option Nat → xA → Prop, w_X0_roomFor_2 G (A.P p 4) ((A.I b1 2) * (((A.I b1 2) + (63 : Int32)) / (64 : Int32))) R6 A5 ∧ (∀ (v6 : Option Nat) (A6 : xA), xok G A6 → R6 v6 A6 → (A6.tg p = 11 ∧ (∀ A8 : xA, A8 = A6.setP p 4 v6 → (∃ R9 : Option Nat → xA → Prop, w_X0_roomFor_3 G (A6.P p 5) (A6.I p 2) R9 A8 ∧ (∀ (v9 : Option Nat) (A9 : xA), xok G A9 → R9 v9 A9 → (A9.tg p = 11 ∧ (∀ A11 : xA, A11 = A9.setP p 5 v9 → (∃ R12 : Option Nat → xA → Prop, w_X0_roomFor_3 G (A9.P p 6) (A9.I p 2) R12 A11 ∧ (∀ (v12 : Option Nat) (A12 : xA), xok G A12 → R12 v12 A12 → (A12.tg p = 11 ∧ (∀ A14 : xA, A14 = A12.setP p 6 v12 → (∃ R15 : Option Nat → xA → Prop, w_X0_roomFor_3 G (A12.P p 7) (A12.I p 2) R15 A14 ∧ (∀ (v15 : Option Nat) (A15 : xA), xok G A15 → R15 v15 A15 → (A15.tg p = 11 ∧ (∀ A17 : xA, A17 = A15.setP p 7 v15 → (∃ R18 : Option Nat → xA → Prop, w_X0_roomFor G (A15.P p 8) (A15.I p 2) R18 A17 ∧ (∀ (v18 : Option Nat) (A18 : xA), xok G A18 → R18 v18 A18 → (A18.tg p = 11 ∧ (∀ A20 : xA, A20 = A18.setP p 8 v18 → (∃ R21 : Option Nat → xA → Prop, w_X0_roomFor G (A18.P p 9) (A18.I p 2) R21 A20 ∧ (∀ (v21 : Option Nat) (A21 : xA), xok G A21 → R21 v21 A21 → (A21.tg p = 11 ∧ (∀ A23 : xA, A23 = A21.setP p 9 v21 → (∃ R24 : Option Nat → xA → Prop, w_X0_roomFor G (A21.P p 10) (A21.I p 2) R24 A23 ∧ (∀ (v24 : Option Nat) (A24 : xA), xok G A24 → R24 v24 A24 → (A24.tg p = 11 ∧ (∀ A26 : xA, A26 = A24.setP p 10 v24 → (∃ R27 : Option Nat → xA → Prop, w_X0_roomFor G (A24.P p 11) (A24.I p 2) R27 A26 ∧ (∀ (v27 : Option Nat) (A27 : xA), xok G A27 → R27 v27 A27 → (A27.tg p = 11 ∧ (∀ A29 : xA, A29 = A27.setP p 11 v27 → (∃ R30 : Option Nat → xA → Prop, w_X0_roomFor G (A27.P p 12) (A27.I p 2) R30 A29 ∧ (∀ (v30 : Option Nat) (A30 : xA), xok G A30 → R30 v30 A30 → (A30.tg p = 11 ∧ (∀ A32 : xA, A32 = A30.setP p 12 v30 → (∃ L33 : Nat → Int32 → xA → Prop, (∃ n33 : Nat, L33 n33 (0 : Int32) A32) ∧ (∀ (n33 : Nat) (y33_2 : Int32) (A33 : xA), L33 n33 y33_2 A33 → A33.tg p = 11 ∧ (((((A33.I p 2) * (A33.I p 1)) ≤ y33_2 → ∃ L35 : Nat → Int32 → xA → Prop, (∃ n35 : Nat, L35 n35 (0 : Int32) A33) ∧ (∀ (n35 : Nat) (y35_2 : Int32) (A35 : xA), L35 n35 y35_2 A35 → A35.tg p = 11 ∧ ((((A35.I p 2) ≤ y35_2 → ∃ b38 : Nat, (A35.P p 0) = some b38 ∧ (A35.tg b38 = 7 ∧ (∃ R37 : xA → Prop, w_X7_find G b38 (some b1) R37 A35 ∧ (∀ A37 : xA, xok G A37 → R37 A37 → (∃ L40 : Nat → Int32 → xA → Prop, (∃ n40 : Nat, L40 n40 (0 : Int32) A37) ∧ (∀ (n40 : Nat) (y40_2 : Int32) (A40 : xA), L40 n40 y40_2 A40 → A40.tg b1 = 34 ∧ (∃ b43 : Nat, (A40.P b1 1) = some b43 ∧ (A40.tg b43 = 37 ∧ (∃ R42 : Int32 → xA → Prop, w_J5_size G b43 R42 A40 ∧ (∀ (v42 : Int32) (A42 : xA), xok G A42 → R42 v42 A42 → (((v42 ≤ y40_2 → A42.tg p = 11 ∧ (∃ R45 : Int32 → xA → Prop, w_X11_stack G p R45 A42 ∧ (∀ (v45 : Int32) (A45 : xA), xok G A45 → R45 v45 A45 → (A45.tg p = 11 ∧ (∃ R47 : xA → Prop, w_X11_choose G p v45 R47 A45 ∧ (∀ A47 : xA, xok G A47 → R47 A47 → (Q A47))))))) ∧ (¬ v42 ≤ y40_2 → A42.tg b1 = 34 ∧ (∃ b51 : Nat, (A42.P b1 1) = some b51 ∧ (A42.tg b51 = 37 ∧ (∃ R50 : Option Nat → xA → Prop, w_J5_get G b51 y40_2 R50 A42 ∧ (∀ (v50 : Option Nat) (A50 : xA), xok G A50 → R50 v50 A50 → (∃ b53 : Nat, v50 = some b53 ∧ (A50.tg b53 = 35 ∧ (A50.tg p = 11 ∧ (∃ b57 : Nat, (A50.P p 0) = some b57 ∧ (A50.tg b57 = 7 ∧ (∃ R56 : xA → Prop, w_X7_begin G b57 (some b53) R56 A50 ∧ (∀ A56 : xA, xok G A56 → R56 A56 → (A56.tg b53 = 35 ∧ (∃ b61 : Nat, (A56.P b53 0) = some b61 ∧ (A56.tg b61 = 37 ∧ (∃ R60 : Int32 → xA → Prop, w_J5_size G b61 R60 A56 ∧ (∀ (v60 : Int32) (A60 : xA), xok G A60 → R60 v60 A60 → (∃ L63 : Nat → Int32 → xA → Prop, (∃ n63 : Nat, L63 n63 (v60 - (1 : Int32)) A60) ∧ (∀ (n63 : Nat) (y63_4 : Int32) (A63 : xA), L63 n63 y63_4 A63 → ((y63_4 < 0 → (∃ q40 : Nat, q40 < n40 ∧ L40 q40 (y40_2 + (1 : Int32)) A63)) ∧ (¬ y63_4 < 0 → A63.tg b53 = 35 ∧ (∃ b66 : Nat, (A63.P b53 0) = some b66 ∧ (A63.tg b66 = 37 ∧ (∃ R65 : Option Nat → xA → Prop, w_J5_get G b66 y63_4 R65 A63 ∧ (∀ (v65 : Option Nat) (A65 : xA), xok G A65 → R65 v65 A65 → (∃ b68 : Nat, v65 = some b68 ∧ (A65.tg b68 = 36 ∧ (∃ J70 : xA → Prop, (∀ (A70 : xA), J70 A70 → A70.tg b68 = 36 ∧ (∃ J72 : xA → Prop, (∀ (A72 : xA), J72 A72 → A72.tg p = 11 ∧ (∃ b75 : Nat, (A72.P p 0) = some b75 ∧ (A72.tg b75 = 7 ∧ (∃ R74 : xA → Prop, w_X7_back G b75 (some b68) R74 A72 ∧ (∀ A74 : xA, xok G A74 → R74 A74 → ((∃ q63 : Nat, q63 < n63 ∧ L63 q63 (y63_4 + (-1 : Int32)) A74))))))) ∧ (((A70.I b68 0) = (26 : Int32) → A70.tg p = 11 ∧ (∃ b78 : Nat, (A70.P p 0) = some b78 ∧ (A70.tg b78 = 7 ∧ (∃ R80 : xA → Prop, w_X11_cross G p (A70.I b68 1) (A70.P b78 3) R80 A70 ∧ (∀ A80 : xA, xok G A80 → R80 A80 → (J72 A80)))))) ∧ (¬ (A70.I b68 0) = (26 : Int32) → J72 A70)))) ∧ (((A65.I b68 1) < 0 → J70 A65) ∧ (¬ (A65.I b68 1) < 0 → A65.tg p = 11 ∧ (∃ b82 : Nat, (A65.P p 0) = some b82 ∧ (A65.tg b82 = 7 ∧ (∃ R84 : xA → Prop, w_X11_meet G p (some b68) (A65.P b82 3) R84 A65 ∧ (∀ A84 : xA, xok G A84 → R84 A84 → (J70 A84))))))))))))))))))))))))))))))))))))))))))))))) ∧ (¬ (A35.I p 2) ≤ y35_2 → ∃ b85 : Nat, (A35.P p 5) = some b85 ∧ (A35.tg b85 = 203 ∧ (G.N ≤ b85 ∧ (vp_in y35_2 (A35.ln b85) ∧ (∀ A89 : xA, A89 = A35.setI b85 (ix y35_2) (0 : Int32) → (∃ b90 : Nat, (A35.P p 6) = some b90 ∧ (A89.tg b90 = 203 ∧ (G.N ≤ b90 ∧ (vp_in y35_2 (A89.ln b90) ∧ (∀ A94 : xA, A94 = A89.setI b90 (ix y35_2) (0 : Int32) → (∃ b95 : Nat, (A35.P p 7) = some b95 ∧ (A94.tg b95 = 203 ∧ (G.N ≤ b95 ∧ (vp_in y35_2 (A94.ln b95) ∧ (∀ A99 : xA, A99 = A94.setI b95 (ix y35_2) (0 : Int32) → (∃ b100 : Nat, (A35.P p 8) = some b100 ∧ (A99.tg b100 = 200 ∧ (G.N ≤ b100 ∧ (vp_in y35_2 (A99.ln b100) ∧ (∀ A104 : xA, A104 = A99.setI b100 (ix y35_2) (0 : Int32) → (∃ b105 : Nat, (A35.P p 9) = some b105 ∧ (A104.tg b105 = 200 ∧ (G.N ≤ b105 ∧ (vp_in y35_2 (A104.ln b105) ∧ (∀ A109 : xA, A109 = A104.setI b105 (ix y35_2) (-1 : Int32) → (∃ b110 : Nat, (A35.P p 10) = some b110 ∧ (A109.tg b110 = 200 ∧ (G.N ≤ b110 ∧ (vp_in y35_2 (A109.ln b110) ∧ (∀ A114 : xA, A114 = A109.setI b110 (ix y35_2) (-1 : Int32) → (∃ b115 : Nat, (A35.P p 11) = some b115 ∧ (A114.tg b115 = 200 ∧ (G.N ≤ b115 ∧ (vp_in y35_2 (A114.ln b115) ∧ (∀ A119 : xA, A119 = A114.setI b115 (ix y35_2) (0 : Int32) → ((∃ q35 : Nat, q35 < n35 ∧ L35 q35 (y35_2 + (1 : Int32)) A119))))))))))))))))))))))))))))))))))))))))) ∧ (¬ ((A33.I p 2) * (A33.I p 1)) ≤ y33_2 → ∃ b120 : Nat, (A33.P p 4) = some b120 ∧ (A33.tg b120 = 201 ∧ (G.N ≤ b120 ∧ (vp_in y33_2 (A33.ln b120) ∧ (∀ A124 : xA, A124 = A33.setL b120 (ix y33_2) (0 : Int64) → ((∃ q33 : Nat, q33 < n33 ∧ L33 q33 (y33_2 + (1 : Int32)) A124)))))))))))))))))))))))))))))))))))))))))))))))))))
theorem m_X11_paint (hG : xOK G) (hO : xHO G) {dp : Nat} {p : Nat} {c : Option Nat} {Q : xA → Prop} {A : xA} (h : w_X11_paint G p c Q A) : MX G (dp + 5) kX11_paint [.ref p, va_rf c] A (hV Q) := by
  unfold w_X11_paint at h
  refine MX.of rfl (by cases c <;> exact Nat.le_of_ble_eq_true rfl) ?_
  refine X.lvs (lv' := [some (.ref p), some (va_rf c), none, none, none, none]) (by cases c <;> rfl) ?_
  refine X.xok (fun w0 => ?_)
  replace h := h w0
  refine x_aload_n dX11_paint_0 rfl ?_
  refine x_aloadq_n dX11_paint_1 rfl ?_
  obtain ⟨b1, e1, h⟩ := h
  rw [e1]
  obtain ⟨o2, h⟩ := h
  refine x_get (v := .int (A.I b1 2)) hG dX11_paint_2 f_X11_45_33 o2 rfl ?_
  obtain ⟨o3, h⟩ := h
  refine z_putI hG hO.1 dX11_paint_5 f_X11_51_10 ⟨_, rfl, Or.inl rfl⟩ o3 (by decide) rfl rfl ⟨_, rfl⟩ (fun A4 e4 => ?_)
  replace h := h A4 e4
  refine x_aload_n dX11_paint_8 rfl ?_
  refine x_aload_n dX11_paint_9 rfl ?_
  refine x_get (v := .int (A.I b1 2)) hG dX11_paint_10 f_X11_51_10 (kI e4 o3) (congrArg Value.int (sI_s e4)) ?_
  refine x_bipush_ (v := (63 : Int32)) dX11_paint_13 (by decide) ?_
  refine x_iadd dX11_paint_15 ?_
  refine x_bipush_ (v := (64 : Int32)) dX11_paint_16 (by decide) ?_
  refine x_idiv dX11_paint_18 (by decide) ?_
  refine z_putI hG hO.1 dX11_paint_19 f_X11_54_10 ⟨_, rfl, Or.inl rfl⟩ (kI e4 o3) (by decide) rfl rfl ⟨_, rfl⟩ (fun A5 e5 => ?_)
  replace h := h A5 e5
  refine x_aload_n dX11_paint_22 rfl ?_
  refine x_aload_n dX11_paint_23 rfl ?_
  refine x_get (v := va_rf (A.P p 4)) hG dX11_paint_24 f_X11_9_10 (kI e5 (kI e4 o3)) (congrArg va_rf ((sI_P e5).trans (sI_P e4))) ?_
  refine x_aload_n dX11_paint_27 rfl ?_
  refine x_get (v := .int (A.I b1 2)) hG dX11_paint_28 f_X11_51_10 (kI e5 (kI e4 o3)) (congrArg Value.int ((sI_k e5 (by decide)).trans (sI_s e4))) ?_
  refine x_aload_n dX11_paint_31 rfl ?_
  refine x_get (v := .int (((A.I b1 2) + (63 : Int32)) / (64 : Int32))) hG dX11_paint_32 f_X11_54_10 (kI e5 (kI e4 o3)) (congrArg Value.int (sI_s e5)) ?_
  refine x_imul dX11_paint_35 ?_
  obtain ⟨R6, g6, h⟩ := h
  refine x_callS hG (Ky := kX0_roomFor_2) (As := [va_rf (A.P p 4), .int ((A.I b1 2) * (((A.I b1 2) + (63 : Int32)) / (64 : Int32)))]) dX11_paint_36 lk_X11_57 me_X0_roomFor_2 st_X0_roomFor_2 rfl rfl (Nat.le_of_ble_eq_true rfl) (MX.post (m_X0_roomFor_2 hG hO g6) ?_)
  rintro _ A6 ⟨v6, rfl, h1⟩
  refine X.xok (fun w6 => ?_)
  replace h := h v6 A6 w6 h1
  change X _ _ _ _ A6 _ _ [va_rf v6, .ref p]
  obtain ⟨o7, h⟩ := h
  refine z_putP hG hO.1 v6 dX11_paint_39 f_X11_9_10 ⟨_, rfl, Or.inl rfl⟩ o7 (by decide) (Or.inr ⟨_, rfl⟩) (fun A8 e8 => ?_)
  replace h := h A8 e8
  refine x_aload_n dX11_paint_42 rfl ?_
  refine x_aload_n dX11_paint_43 rfl ?_
  refine x_get (v := va_rf (A6.P p 5)) hG dX11_paint_44 f_X11_15_10 (kP e8 o7) (congrArg va_rf (sP_k e8 (by decide))) ?_
  refine x_aload_n dX11_paint_47 rfl ?_
  refine x_get (v := .int (A6.I p 2)) hG dX11_paint_48 f_X11_51_10 (kP e8 o7) (congrArg Value.int (sP_I e8)) ?_
  obtain ⟨R9, g9, h⟩ := h
  refine x_callS hG (Ky := kX0_roomFor_3) (As := [va_rf (A6.P p 5), .int (A6.I p 2)]) dX11_paint_51 lk_X11_61 me_X0_roomFor_3 st_X0_roomFor_3 rfl rfl (Nat.le_of_ble_eq_true rfl) (MX.post (m_X0_roomFor_3 hG hO g9) ?_)
  rintro _ A9 ⟨v9, rfl, h1⟩
  refine X.xok (fun w9 => ?_)
  replace h := h v9 A9 w9 h1
  change X _ _ _ _ A9 _ _ [va_rf v9, .ref p]
  obtain ⟨o10, h⟩ := h
  refine z_putP hG hO.1 v9 dX11_paint_54 f_X11_15_10 ⟨_, rfl, Or.inl rfl⟩ o10 (by decide) (Or.inr ⟨_, rfl⟩) (fun A11 e11 => ?_)
  replace h := h A11 e11
  refine x_aload_n dX11_paint_57 rfl ?_
  refine x_aload_n dX11_paint_58 rfl ?_
  refine x_get (v := va_rf (A9.P p 6)) hG dX11_paint_59 f_X11_19_10 (kP e11 o10) (congrArg va_rf (sP_k e11 (by decide))) ?_
  refine x_aload_n dX11_paint_62 rfl ?_
  refine x_get (v := .int (A9.I p 2)) hG dX11_paint_63 f_X11_51_10 (kP e11 o10) (congrArg Value.int (sP_I e11)) ?_
  obtain ⟨R12, g12, h⟩ := h
  refine x_callS hG (Ky := kX0_roomFor_3) (As := [va_rf (A9.P p 6), .int (A9.I p 2)]) dX11_paint_66 lk_X11_61 me_X0_roomFor_3 st_X0_roomFor_3 rfl rfl (Nat.le_of_ble_eq_true rfl) (MX.post (m_X0_roomFor_3 hG hO g12) ?_)
  rintro _ A12 ⟨v12, rfl, h1⟩
  refine X.xok (fun w12 => ?_)
  replace h := h v12 A12 w12 h1
  change X _ _ _ _ A12 _ _ [va_rf v12, .ref p]
  obtain ⟨o13, h⟩ := h
  refine z_putP hG hO.1 v12 dX11_paint_69 f_X11_19_10 ⟨_, rfl, Or.inl rfl⟩ o13 (by decide) (Or.inr ⟨_, rfl⟩) (fun A14 e14 => ?_)
  replace h := h A14 e14
  refine x_aload_n dX11_paint_72 rfl ?_
  refine x_aload_n dX11_paint_73 rfl ?_
  refine x_get (v := va_rf (A12.P p 7)) hG dX11_paint_74 f_X11_22_10 (kP e14 o13) (congrArg va_rf (sP_k e14 (by decide))) ?_
  refine x_aload_n dX11_paint_77 rfl ?_
  refine x_get (v := .int (A12.I p 2)) hG dX11_paint_78 f_X11_51_10 (kP e14 o13) (congrArg Value.int (sP_I e14)) ?_
  obtain ⟨R15, g15, h⟩ := h
  refine x_callS hG (Ky := kX0_roomFor_3) (As := [va_rf (A12.P p 7), .int (A12.I p 2)]) dX11_paint_81 lk_X11_61 me_X0_roomFor_3 st_X0_roomFor_3 rfl rfl (Nat.le_of_ble_eq_true rfl) (MX.post (m_X0_roomFor_3 hG hO g15) ?_)
  rintro _ A15 ⟨v15, rfl, h1⟩
  refine X.xok (fun w15 => ?_)
  replace h := h v15 A15 w15 h1
  change X _ _ _ _ A15 _ _ [va_rf v15, .ref p]
  obtain ⟨o16, h⟩ := h
  refine z_putP hG hO.1 v15 dX11_paint_84 f_X11_22_10 ⟨_, rfl, Or.inl rfl⟩ o16 (by decide) (Or.inr ⟨_, rfl⟩) (fun A17 e17 => ?_)
  replace h := h A17 e17
  refine x_aload_n dX11_paint_87 rfl ?_
  refine x_aload_n dX11_paint_88 rfl ?_
  refine x_get (v := va_rf (A15.P p 8)) hG dX11_paint_89 f_X11_25_10 (kP e17 o16) (congrArg va_rf (sP_k e17 (by decide))) ?_
  refine x_aload_n dX11_paint_92 rfl ?_
  refine x_get (v := .int (A15.I p 2)) hG dX11_paint_93 f_X11_51_10 (kP e17 o16) (congrArg Value.int (sP_I e17)) ?_
  obtain ⟨R18, g18, h⟩ := h
  refine x_callS hG (Ky := kX0_roomFor) (As := [va_rf (A15.P p 8), .int (A15.I p 2)]) dX11_paint_96 lk_X11_64 me_X0_roomFor st_X0_roomFor rfl rfl (Nat.le_of_ble_eq_true rfl) (MX.post (m_X0_roomFor hG hO g18) ?_)
  rintro _ A18 ⟨v18, rfl, h1⟩
  refine X.xok (fun w18 => ?_)
  replace h := h v18 A18 w18 h1
  change X _ _ _ _ A18 _ _ [va_rf v18, .ref p]
  obtain ⟨o19, h⟩ := h
  refine z_putP hG hO.1 v18 dX11_paint_99 f_X11_25_10 ⟨_, rfl, Or.inl rfl⟩ o19 (by decide) (Or.inr ⟨_, rfl⟩) (fun A20 e20 => ?_)
  replace h := h A20 e20
  refine x_aload_n dX11_paint_102 rfl ?_
  refine x_aload_n dX11_paint_103 rfl ?_
  refine x_get (v := va_rf (A18.P p 9)) hG dX11_paint_104 f_X11_29_10 (kP e20 o19) (congrArg va_rf (sP_k e20 (by decide))) ?_
  refine x_aload_n dX11_paint_107 rfl ?_
  refine x_get (v := .int (A18.I p 2)) hG dX11_paint_108 f_X11_51_10 (kP e20 o19) (congrArg Value.int (sP_I e20)) ?_
  obtain ⟨R21, g21, h⟩ := h
  refine x_callS hG (Ky := kX0_roomFor) (As := [va_rf (A18.P p 9), .int (A18.I p 2)]) dX11_paint_111 lk_X11_64 me_X0_roomFor st_X0_roomFor rfl rfl (Nat.le_of_ble_eq_true rfl) (MX.post (m_X0_roomFor hG hO g21) ?_)
  rintro _ A21 ⟨v21, rfl, h1⟩
  refine X.xok (fun w21 => ?_)
  replace h := h v21 A21 w21 h1
  change X _ _ _ _ A21 _ _ [va_rf v21, .ref p]
  obtain ⟨o22, h⟩ := h
  refine z_putP hG hO.1 v21 dX11_paint_114 f_X11_29_10 ⟨_, rfl, Or.inl rfl⟩ o22 (by decide) (Or.inr ⟨_, rfl⟩) (fun A23 e23 => ?_)
  replace h := h A23 e23
  refine x_aload_n dX11_paint_117 rfl ?_
  refine x_aload_n dX11_paint_118 rfl ?_
  refine x_get (v := va_rf (A21.P p 10)) hG dX11_paint_119 f_X11_32_10 (kP e23 o22) (congrArg va_rf (sP_k e23 (by decide))) ?_
  refine x_aload_n dX11_paint_122 rfl ?_
  refine x_get (v := .int (A21.I p 2)) hG dX11_paint_123 f_X11_51_10 (kP e23 o22) (congrArg Value.int (sP_I e23)) ?_
  obtain ⟨R24, g24, h⟩ := h
  refine x_callS hG (Ky := kX0_roomFor) (As := [va_rf (A21.P p 10), .int (A21.I p 2)]) dX11_paint_126 lk_X11_64 me_X0_roomFor st_X0_roomFor rfl rfl (Nat.le_of_ble_eq_true rfl) (MX.post (m_X0_roomFor hG hO g24) ?_)
  rintro _ A24 ⟨v24, rfl, h1⟩
  refine X.xok (fun w24 => ?_)
  replace h := h v24 A24 w24 h1
  change X _ _ _ _ A24 _ _ [va_rf v24, .ref p]
  obtain ⟨o25, h⟩ := h
  refine z_putP hG hO.1 v24 dX11_paint_129 f_X11_32_10 ⟨_, rfl, Or.inl rfl⟩ o25 (by decide) (Or.inr ⟨_, rfl⟩) (fun A26 e26 => ?_)
  replace h := h A26 e26
  refine x_aload_n dX11_paint_132 rfl ?_
  refine x_aload_n dX11_paint_133 rfl ?_
  refine x_get (v := va_rf (A24.P p 11)) hG dX11_paint_134 f_X11_35_10 (kP e26 o25) (congrArg va_rf (sP_k e26 (by decide))) ?_
  refine x_aload_n dX11_paint_137 rfl ?_
  refine x_get (v := .int (A24.I p 2)) hG dX11_paint_138 f_X11_51_10 (kP e26 o25) (congrArg Value.int (sP_I e26)) ?_
  obtain ⟨R27, g27, h⟩ := h
  refine x_callS hG (Ky := kX0_roomFor) (As := [va_rf (A24.P p 11), .int (A24.I p 2)]) dX11_paint_141 lk_X11_64 me_X0_roomFor st_X0_roomFor rfl rfl (Nat.le_of_ble_eq_true rfl) (MX.post (m_X0_roomFor hG hO g27) ?_)
  rintro _ A27 ⟨v27, rfl, h1⟩
  refine X.xok (fun w27 => ?_)
  replace h := h v27 A27 w27 h1
  change X _ _ _ _ A27 _ _ [va_rf v27, .ref p]
  obtain ⟨o28, h⟩ := h
  refine z_putP hG hO.1 v27 dX11_paint_144 f_X11_35_10 ⟨_, rfl, Or.inl rfl⟩ o28 (by decide) (Or.inr ⟨_, rfl⟩) (fun A29 e29 => ?_)
  replace h := h A29 e29
  refine x_aload_n dX11_paint_147 rfl ?_
  refine x_aload_n dX11_paint_148 rfl ?_
  refine x_get (v := va_rf (A27.P p 12)) hG dX11_paint_149 f_X11_38_10 (kP e29 o28) (congrArg va_rf (sP_k e29 (by decide))) ?_
  refine x_aload_n dX11_paint_152 rfl ?_
  refine x_get (v := .int (A27.I p 2)) hG dX11_paint_153 f_X11_51_10 (kP e29 o28) (congrArg Value.int (sP_I e29)) ?_
  obtain ⟨R30, g30, h⟩ := h
  refine x_callS hG (Ky := kX0_roomFor) (As := [va_rf (A27.P p 12), .int (A27.I p 2)]) dX11_paint_156 lk_X11_64 me_X0_roomFor st_X0_roomFor rfl rfl (Nat.le_of_ble_eq_true rfl) (MX.post (m_X0_roomFor hG hO g30) ?_)
  rintro _ A30 ⟨v30, rfl, h1⟩
  refine X.xok (fun w30 => ?_)
  replace h := h v30 A30 w30 h1
  change X _ _ _ _ A30 _ _ [va_rf v30, .ref p]
  obtain ⟨o31, h⟩ := h
  refine z_putP hG hO.1 v30 dX11_paint_159 f_X11_38_10 ⟨_, rfl, Or.inl rfl⟩ o31 (by decide) (Or.inr ⟨_, rfl⟩) (fun A32 e32 => ?_)
  replace h := h A32 e32
  refine x_iconst_ (v := (0 : Int32)) dX11_paint_162 (by decide) ?_
  refine x_istore_n dX11_paint_163 (by decide) ?_
  obtain ⟨L33, ⟨n33, i33⟩, g33⟩ := h
  have kl33 : ∀ n33 : Nat, ∀ (y33_2 : Int32) (A33 : xA), L33 n33 y33_2 A33 → X G (dp + 5) kX11_paint (hV Q) A33 164 [some (.ref p), some (.ref b1), some (.int y33_2), none, none, none] [] := by
    intro n33
    induction n33 using Nat.strongRecOn with
    | ind n33 ih33 =>
      intro y33_2 A33 h
      replace h := g33 n33 y33_2 A33 h
      refine x_iload_n dX11_paint_164 rfl ?_
      refine x_aload_n dX11_paint_165 rfl ?_
      obtain ⟨o34, h⟩ := h
      refine x_get (v := .int (A33.I p 2)) hG dX11_paint_166 f_X11_51_10 o34 rfl ?_
      refine x_aload_n dX11_paint_169 rfl ?_
      refine x_get (v := .int (A33.I p 1)) hG dX11_paint_170 f_X11_54_10 o34 rfl ?_
      refine x_imul dX11_paint_173 ?_
      refine x_icmp_ge (tgt := 190) dX11_paint_174 (by decide) (fun c174 => ?_) (fun c174 => ?_)
      · replace h := h.1 c174
        refine x_iconst_ (v := (0 : Int32)) dX11_paint_190 (by decide) ?_
        refine x_istore_n dX11_paint_191 (by decide) ?_
        obtain ⟨L35, ⟨n35, i35⟩, g35⟩ := h
        have kl35 : ∀ n35 : Nat, ∀ (y35_2 : Int32) (A35 : xA), L35 n35 y35_2 A35 → X G (dp + 5) kX11_paint (hV Q) A35 192 [some (.ref p), some (.ref b1), some (.int y35_2), none, none, none] [] := by
          intro n35
          induction n35 using Nat.strongRecOn with
          | ind n35 ih35 =>
            intro y35_2 A35 h
            replace h := g35 n35 y35_2 A35 h
            refine x_iload_n dX11_paint_192 rfl ?_
            refine x_aload_n dX11_paint_193 rfl ?_
            obtain ⟨o36, h⟩ := h
            refine x_get (v := .int (A35.I p 2)) hG dX11_paint_194 f_X11_51_10 o36 rfl ?_
            refine x_icmp_ge (tgt := 255) dX11_paint_197 (by decide) (fun c197 => ?_) (fun c197 => ?_)
            · replace h := h.1 c197
              refine x_aload_n dX11_paint_255 rfl ?_
              refine x_get (v := va_rf (A35.P p 0)) hG dX11_paint_256 f_X11_41_10 o36 rfl ?_
              refine x_aload_n dX11_paint_259 rfl ?_
              obtain ⟨b38, e38, h⟩ := h
              rw [e38]
              obtain ⟨o39, h⟩ := h
              obtain ⟨R37, g37, h⟩ := h
              refine x_callV hG (Ky := kX7_find) (As := [.ref b1]) dX11_paint_260 o39 rfl lk_X11_67 me_X7_find is_X7_find se_X7_find rfl rfl (Nat.le_of_ble_eq_true rfl) (MX.post (m_X7_find hG hO g37) ?_)
              rintro _ A37 ⟨rfl, h1⟩
              refine X.xok (fun w37 => ?_)
              replace h := h A37 w37 h1
              change X _ _ _ _ A37 _ _ []
              refine x_iconst_ (v := (0 : Int32)) dX11_paint_263 (by decide) ?_
              refine x_istore_n dX11_paint_264 (by decide) ?_
              obtain ⟨L40, ⟨n40, i40⟩, g40⟩ := h
              have kl40 : ∀ n40 : Nat, ∀ (y40_2 : Int32) (A40 : xA), L40 n40 y40_2 A40 → X G (dp + 5) kX11_paint (hV Q) A40 265 [some (.ref p), some (.ref b1), some (.int y40_2), none, none, none] [] := by
                intro n40
                induction n40 using Nat.strongRecOn with
                | ind n40 ih40 =>
                  intro y40_2 A40 h
                  replace h := g40 n40 y40_2 A40 h
                  refine x_iload_n dX11_paint_265 rfl ?_
                  refine x_aload_n dX11_paint_266 rfl ?_
                  obtain ⟨o41, h⟩ := h
                  refine x_get (v := va_rf (A40.P b1 1)) hG dX11_paint_267 f_X11_73_33 o41 rfl ?_
                  obtain ⟨b43, e43, h⟩ := h
                  rw [e43]
                  obtain ⟨o44, h⟩ := h
                  obtain ⟨R42, g42, h⟩ := h
                  refine x_callV hG (Ky := kJ5_size) (As := []) dX11_paint_270 o44 rfl lk_X11_77 me_J5_size is_J5_size se_J5_size rfl rfl (Nat.le_of_ble_eq_true rfl) (MX.post (m_w_J5_size hG hO g42) ?_)
                  rintro _ A42 ⟨v42, rfl, h1⟩
                  refine X.xok (fun w42 => ?_)
                  replace h := h v42 A42 w42 h1
                  change X _ _ _ _ A42 _ _ [.int v42, .int y40_2]
                  refine x_icmp_ge (tgt := 394) dX11_paint_273 (by decide) (fun c273 => ?_) (fun c273 => ?_)
                  · replace h := h.1 c273
                    refine x_aload_n dX11_paint_394 rfl ?_
                    refine x_aload_n dX11_paint_395 rfl ?_
                    obtain ⟨o46, h⟩ := h
                    obtain ⟨R45, g45, h⟩ := h
                    refine x_callV hG (Ky := kX11_stack) (As := []) dX11_paint_396 o46 rfl lk_X11_119 me_X11_stack is_X11_stack se_X11_stack rfl rfl (Nat.le_of_ble_eq_true rfl) (MX.post (m_X11_stack hG hO g45) ?_)
                    rintro _ A45 ⟨v45, rfl, h1⟩
                    refine X.xok (fun w45 => ?_)
                    replace h := h v45 A45 w45 h1
                    change X _ _ _ _ A45 _ _ [.int v45, .ref p]
                    obtain ⟨o48, h⟩ := h
                    obtain ⟨R47, g47, h⟩ := h
                    refine x_callV hG (Ky := kX11_choose) (As := [.int v45]) dX11_paint_399 o48 rfl lk_X11_122 me_X11_choose is_X11_choose se_X11_choose rfl rfl (Nat.le_of_ble_eq_true rfl) (MX.post (m_X11_choose hG hO g47) ?_)
                    rintro _ A47 ⟨rfl, h1⟩
                    refine X.xok (fun w47 => ?_)
                    replace h := h A47 w47 h1
                    change X _ _ _ _ A47 _ _ []
                    exact x_vret dX11_paint_402 rfl ⟨rfl, h⟩
                  · replace h := h.2 c273
                    refine x_aload_n dX11_paint_276 rfl ?_
                    obtain ⟨o49, h⟩ := h
                    refine x_get (v := va_rf (A42.P b1 1)) hG dX11_paint_277 f_X11_73_33 o49 rfl ?_
                    refine x_iload_n dX11_paint_280 rfl ?_
                    obtain ⟨b51, e51, h⟩ := h
                    rw [e51]
                    obtain ⟨o52, h⟩ := h
                    obtain ⟨R50, g50, h⟩ := h
                    refine x_callV hG (Ky := kJ5_get) (As := [.int y40_2]) dX11_paint_281 o52 rfl lk_X11_83 me_J5_get is_J5_get se_J5_get rfl rfl (Nat.le_of_ble_eq_true rfl) (MX.post (m_w_J5_get hG hO g50) ?_)
                    rintro _ A50 ⟨v50, rfl, h1⟩
                    refine X.xok (fun w50 => ?_)
                    replace h := h v50 A50 w50 h1
                    change X _ _ _ _ A50 _ _ [va_rf v50]
                    obtain ⟨b53, e53, h⟩ := h
                    rw [e53]
                    obtain ⟨o54, h⟩ := h
                    refine x_cast hG dX11_paint_284 q2673 o54 rfl (Or.inl rfl) ?_
                    refine x_astore_n dX11_paint_287 (by decide) ?_
                    refine x_aload_n dX11_paint_288 rfl ?_
                    obtain ⟨o55, h⟩ := h
                    refine x_get (v := va_rf (A50.P p 0)) hG dX11_paint_289 f_X11_41_10 o55 rfl ?_
                    refine x_aload_n dX11_paint_292 rfl ?_
                    obtain ⟨b57, e57, h⟩ := h
                    rw [e57]
                    obtain ⟨o58, h⟩ := h
                    obtain ⟨R56, g56, h⟩ := h
                    refine x_callV hG (Ky := kX7_begin) (As := [.ref b53]) dX11_paint_293 o58 rfl lk_X11_89 me_X7_begin is_X7_begin se_X7_begin rfl rfl (Nat.le_of_ble_eq_true rfl) (MX.post (m_X7_begin hG hO g56) ?_)
                    rintro _ A56 ⟨rfl, h1⟩
                    refine X.xok (fun w56 => ?_)
                    replace h := h A56 w56 h1
                    change X _ _ _ _ A56 _ _ []
                    refine x_aload_n dX11_paint_296 rfl ?_
                    obtain ⟨o59, h⟩ := h
                    refine x_get (v := va_rf (A56.P b53 0)) hG dX11_paint_297 f_X11_93_34 o59 rfl ?_
                    obtain ⟨b61, e61, h⟩ := h
                    rw [e61]
                    obtain ⟨o62, h⟩ := h
                    obtain ⟨R60, g60, h⟩ := h
                    refine x_callV hG (Ky := kJ5_size) (As := []) dX11_paint_300 o62 rfl lk_X11_77 me_J5_size is_J5_size se_J5_size rfl rfl (Nat.le_of_ble_eq_true rfl) (MX.post (m_w_J5_size hG hO g60) ?_)
                    rintro _ A60 ⟨v60, rfl, h1⟩
                    refine X.xok (fun w60 => ?_)
                    replace h := h v60 A60 w60 h1
                    change X _ _ _ _ A60 _ _ [.int v60]
                    refine x_iconst_ (v := (1 : Int32)) dX11_paint_303 (by decide) ?_
                    refine x_isub dX11_paint_304 ?_
                    refine x_istore dX11_paint_305 (by decide) ?_
                    obtain ⟨L63, ⟨n63, i63⟩, g63⟩ := h
                    have kl63 : ∀ n63 : Nat, ∀ (y63_4 : Int32) (A63 : xA), L63 n63 y63_4 A63 → X G (dp + 5) kX11_paint (hV Q) A63 307 [some (.ref p), some (.ref b1), some (.int y40_2), some (.ref b53), some (.int y63_4), none] [] := by
                      intro n63
                      induction n63 using Nat.strongRecOn with
                      | ind n63 ih63 =>
                        intro y63_4 A63 h
                        replace h := g63 n63 y63_4 A63 h
                        refine x_iload dX11_paint_307 rfl ?_
                        refine x_if_lt (tgt := 388) dX11_paint_309 (by decide) (fun c309 => ?_) (fun c309 => ?_)
                        · replace h := h.1 c309
                          refine x_iinc (v := (y40_2 + (1 : Int32))) dX11_paint_388 rfl rfl (by decide) ?_
                          refine x_goto (tgt := 265) dX11_paint_391 (by decide) ?_
                          obtain ⟨q40, l40, h⟩ := h
                          change X _ _ _ _ _ _ [some (.ref p), some (.ref b1), some (.int (y40_2 + (1 : Int32))), some (.ref b53), some (.int y63_4), none] []
                          exact X.weak (xle_c rfl (xle_c rfl (xle_c rfl (xle_n (xle_n (xle_n xle_nil)))))) (ih40 q40 l40 (y40_2 + (1 : Int32)) A63 h)
                        · replace h := h.2 c309
                          refine x_aload_n dX11_paint_312 rfl ?_
                          obtain ⟨o64, h⟩ := h
                          refine x_get (v := va_rf (A63.P b53 0)) hG dX11_paint_313 f_X11_93_34 o64 rfl ?_
                          refine x_iload dX11_paint_316 rfl ?_
                          obtain ⟨b66, e66, h⟩ := h
                          rw [e66]
                          obtain ⟨o67, h⟩ := h
                          obtain ⟨R65, g65, h⟩ := h
                          refine x_callV hG (Ky := kJ5_get) (As := [.int y63_4]) dX11_paint_318 o67 rfl lk_X11_83 me_J5_get is_J5_get se_J5_get rfl rfl (Nat.le_of_ble_eq_true rfl) (MX.post (m_w_J5_get hG hO g65) ?_)
                          rintro _ A65 ⟨v65, rfl, h1⟩
                          refine X.xok (fun w65 => ?_)
                          replace h := h v65 A65 w65 h1
                          change X _ _ _ _ A65 _ _ [va_rf v65]
                          obtain ⟨b68, e68, h⟩ := h
                          rw [e68]
                          obtain ⟨o69, h⟩ := h
                          refine x_cast hG dX11_paint_321 q2675 o69 rfl (Or.inl rfl) ?_
                          refine x_astore dX11_paint_324 (by decide) ?_
                          refine x_aload dX11_paint_326 rfl ?_
                          refine x_get (v := .int (A65.I b68 1)) hG dX11_paint_328 f_X11_98_35 o69 rfl ?_
                          obtain ⟨J70, g70, h⟩ := h
                          have kj70 : ∀ (A70 : xA), J70 A70 → X G (dp + 5) kX11_paint (hV Q) A70 347 [some (.ref p), some (.ref b1), some (.int y40_2), some (.ref b53), some (.int y63_4), some (.ref b68)] [] := by
                            intro A70 h
                            replace h := g70 A70 h
                            refine x_aload dX11_paint_347 rfl ?_
                            obtain ⟨o71, h⟩ := h
                            refine x_get (v := .int (A70.I b68 0)) hG dX11_paint_349 f_X11_108_35 o71 rfl ?_
                            refine x_bipush_ (v := (26 : Int32)) dX11_paint_352 (by decide) ?_
                            obtain ⟨J72, g72, h⟩ := h
                            have kj72 : ∀ (A72 : xA), J72 A72 → X G (dp + 5) kX11_paint (hV Q) A72 373 [some (.ref p), some (.ref b1), some (.int y40_2), some (.ref b53), some (.int y63_4), some (.ref b68)] [] := by
                              intro A72 h
                              replace h := g72 A72 h
                              refine x_aload_n dX11_paint_373 rfl ?_
                              obtain ⟨o73, h⟩ := h
                              refine x_get (v := va_rf (A72.P p 0)) hG dX11_paint_374 f_X11_41_10 o73 rfl ?_
                              refine x_aload dX11_paint_377 rfl ?_
                              obtain ⟨b75, e75, h⟩ := h
                              rw [e75]
                              obtain ⟨o76, h⟩ := h
                              obtain ⟨R74, g74, h⟩ := h
                              refine x_callV hG (Ky := kX7_back) (As := [.ref b68]) dX11_paint_379 o76 rfl lk_X11_115 me_X7_back is_X7_back se_X7_back rfl rfl (Nat.le_of_ble_eq_true rfl) (MX.post (m_X7_back hG hO g74) ?_)
                              rintro _ A74 ⟨rfl, h1⟩
                              refine X.xok (fun w74 => ?_)
                              replace h := h A74 w74 h1
                              change X _ _ _ _ A74 _ _ []
                              refine x_iinc (v := (y63_4 + (-1 : Int32))) dX11_paint_382 rfl rfl (by decide) ?_
                              refine x_goto (tgt := 307) dX11_paint_385 (by decide) ?_
                              obtain ⟨q63, l63, h⟩ := h
                              change X _ _ _ _ _ _ [some (.ref p), some (.ref b1), some (.int y40_2), some (.ref b53), some (.int (y63_4 + (-1 : Int32))), some (.ref b68)] []
                              exact X.weak (xle_c rfl (xle_c rfl (xle_c rfl (xle_c rfl (xle_c rfl (xle_n xle_nil)))))) (ih63 q63 l63 (y63_4 + (-1 : Int32)) A74 h)
                            refine x_icmp_ne (tgt := 373) dX11_paint_354 (by decide) (fun c354 => ?_) (fun c354 => ?_)
                            · replace h := h.2 c354
                              change X _ _ _ _ _ _ [some (.ref p), some (.ref b1), some (.int y40_2), some (.ref b53), some (.int y63_4), some (.ref b68)] []
                              exact X.weak (xle_c rfl (xle_c rfl (xle_c rfl (xle_c rfl (xle_c rfl (xle_c rfl xle_nil)))))) (kj72 A70 h)
                            · replace h := h.1 c354
                              refine x_aload_n dX11_paint_357 rfl ?_
                              refine x_aload dX11_paint_358 rfl ?_
                              refine x_get (v := .int (A70.I b68 1)) hG dX11_paint_360 f_X11_98_35 o71 rfl ?_
                              refine x_aload_n dX11_paint_363 rfl ?_
                              obtain ⟨o77, h⟩ := h
                              refine x_get (v := va_rf (A70.P p 0)) hG dX11_paint_364 f_X11_41_10 o77 rfl ?_
                              obtain ⟨b78, e78, h⟩ := h
                              rw [e78]
                              obtain ⟨o79, h⟩ := h
                              refine x_get (v := va_rf (A70.P b78 3)) hG dX11_paint_367 f_X11_101_6 o79 rfl ?_
                              obtain ⟨R80, g80, h⟩ := h
                              refine x_callV hG (Ky := kX11_cross) (As := [.int (A70.I b68 1), va_rf (A70.P b78 3)]) dX11_paint_370 o77 rfl lk_X11_111 me_X11_cross is_X11_cross se_X11_cross rfl rfl (Nat.le_of_ble_eq_true rfl) (MX.post (m_X11_cross hG hO g80) ?_)
                              rintro _ A80 ⟨rfl, h1⟩
                              refine X.xok (fun w80 => ?_)
                              replace h := h A80 w80 h1
                              change X _ _ _ _ A80 _ _ []
                              change X _ _ _ _ _ _ [some (.ref p), some (.ref b1), some (.int y40_2), some (.ref b53), some (.int y63_4), some (.ref b68)] []
                              exact X.weak (xle_c rfl (xle_c rfl (xle_c rfl (xle_c rfl (xle_c rfl (xle_c rfl xle_nil)))))) (kj72 A80 h)
                          refine x_if_lt (tgt := 347) dX11_paint_331 (by decide) (fun c331 => ?_) (fun c331 => ?_)
                          · replace h := h.1 c331
                            change X _ _ _ _ _ _ [some (.ref p), some (.ref b1), some (.int y40_2), some (.ref b53), some (.int y63_4), some (.ref b68)] []
                            exact X.weak (xle_c rfl (xle_c rfl (xle_c rfl (xle_c rfl (xle_c rfl (xle_c rfl xle_nil)))))) (kj70 A65 h)
                          · replace h := h.2 c331
                            refine x_aload_n dX11_paint_334 rfl ?_
                            refine x_aload dX11_paint_335 rfl ?_
                            refine x_aload_n dX11_paint_337 rfl ?_
                            obtain ⟨o81, h⟩ := h
                            refine x_get (v := va_rf (A65.P p 0)) hG dX11_paint_338 f_X11_41_10 o81 rfl ?_
                            obtain ⟨b82, e82, h⟩ := h
                            rw [e82]
                            obtain ⟨o83, h⟩ := h
                            refine x_get (v := va_rf (A65.P b82 3)) hG dX11_paint_341 f_X11_101_6 o83 rfl ?_
                            obtain ⟨R84, g84, h⟩ := h
                            refine x_callV hG (Ky := kX11_meet) (As := [.ref b68, va_rf (A65.P b82 3)]) dX11_paint_344 o81 rfl lk_X11_104 me_X11_meet is_X11_meet se_X11_meet rfl rfl (Nat.le_of_ble_eq_true rfl) (MX.post (m_X11_meet hG hO g84) ?_)
                            rintro _ A84 ⟨rfl, h1⟩
                            refine X.xok (fun w84 => ?_)
                            replace h := h A84 w84 h1
                            change X _ _ _ _ A84 _ _ []
                            change X _ _ _ _ _ _ [some (.ref p), some (.ref b1), some (.int y40_2), some (.ref b53), some (.int y63_4), some (.ref b68)] []
                            exact X.weak (xle_c rfl (xle_c rfl (xle_c rfl (xle_c rfl (xle_c rfl (xle_c rfl xle_nil)))))) (kj70 A84 h)
                    change X _ _ _ _ _ _ [some (.ref p), some (.ref b1), some (.int y40_2), some (.ref b53), some (.int (v60 - (1 : Int32))), none] []
                    exact X.weak (xle_c rfl (xle_c rfl (xle_c rfl (xle_c rfl (xle_c rfl (xle_n xle_nil)))))) (kl63 n63 (v60 - (1 : Int32)) A60 i63)
              change X _ _ _ _ _ _ [some (.ref p), some (.ref b1), some (.int (0 : Int32)), none, none, none] []
              exact X.weak (xle_c rfl (xle_c rfl (xle_c rfl (xle_n (xle_n (xle_n xle_nil)))))) (kl40 n40 (0 : Int32) A37 i40)
            · replace h := h.2 c197
              refine x_aload_n dX11_paint_200 rfl ?_
              refine x_get (v := va_rf (A35.P p 5)) hG dX11_paint_201 f_X11_15_10 o36 rfl ?_
              refine x_iload_n dX11_paint_204 rfl ?_
              refine x_iconst_ (v := (0 : Int32)) dX11_paint_205 (by decide) ?_
              obtain ⟨b85, e85, h⟩ := h
              rw [e85]
              obtain ⟨o86, h⟩ := h
              obtain ⟨o87, h⟩ := h
              obtain ⟨o88, h⟩ := h
              refine z_zast hG dX11_paint_206 o86 o87 o88 (by decide) (fun A89 e89 => ?_)
              replace h := h A89 e89
              refine x_aload_n dX11_paint_207 rfl ?_
              refine x_get (v := va_rf (A35.P p 6)) hG dX11_paint_208 f_X11_19_10 (kI e89 o36) (congrArg va_rf (sI_P e89)) ?_
              refine x_iload_n dX11_paint_211 rfl ?_
              refine x_iconst_ (v := (0 : Int32)) dX11_paint_212 (by decide) ?_
              obtain ⟨b90, e90, h⟩ := h
              rw [e90]
              obtain ⟨o91, h⟩ := h
              obtain ⟨o92, h⟩ := h
              obtain ⟨o93, h⟩ := h
              refine z_zast hG dX11_paint_213 o91 o92 o93 (by decide) (fun A94 e94 => ?_)
              replace h := h A94 e94
              refine x_aload_n dX11_paint_214 rfl ?_
              refine x_get (v := va_rf (A35.P p 7)) hG dX11_paint_215 f_X11_22_10 (kI e94 (kI e89 o36)) (congrArg va_rf ((sI_P e94).trans (sI_P e89))) ?_
              refine x_iload_n dX11_paint_218 rfl ?_
              refine x_iconst_ (v := (0 : Int32)) dX11_paint_219 (by decide) ?_
              obtain ⟨b95, e95, h⟩ := h
              rw [e95]
              obtain ⟨o96, h⟩ := h
              obtain ⟨o97, h⟩ := h
              obtain ⟨o98, h⟩ := h
              refine z_zast hG dX11_paint_220 o96 o97 o98 (by decide) (fun A99 e99 => ?_)
              replace h := h A99 e99
              refine x_aload_n dX11_paint_221 rfl ?_
              refine x_get (v := va_rf (A35.P p 8)) hG dX11_paint_222 f_X11_25_10 (kI e99 (kI e94 (kI e89 o36))) (congrArg va_rf ((sI_P e99).trans ((sI_P e94).trans (sI_P e89)))) ?_
              refine x_iload_n dX11_paint_225 rfl ?_
              refine x_iconst_ (v := (0 : Int32)) dX11_paint_226 (by decide) ?_
              obtain ⟨b100, e100, h⟩ := h
              rw [e100]
              obtain ⟨o101, h⟩ := h
              obtain ⟨o102, h⟩ := h
              obtain ⟨o103, h⟩ := h
              refine z_iast hG dX11_paint_227 o101 o102 o103 (fun A104 e104 => ?_)
              replace h := h A104 e104
              refine x_aload_n dX11_paint_228 rfl ?_
              refine x_get (v := va_rf (A35.P p 9)) hG dX11_paint_229 f_X11_29_10 (kI e104 (kI e99 (kI e94 (kI e89 o36)))) (congrArg va_rf ((sI_P e104).trans ((sI_P e99).trans ((sI_P e94).trans (sI_P e89))))) ?_
              refine x_iload_n dX11_paint_232 rfl ?_
              refine x_iconst_ (v := (-1 : Int32)) dX11_paint_233 (by decide) ?_
              obtain ⟨b105, e105, h⟩ := h
              rw [e105]
              obtain ⟨o106, h⟩ := h
              obtain ⟨o107, h⟩ := h
              obtain ⟨o108, h⟩ := h
              refine z_iast hG dX11_paint_234 o106 o107 o108 (fun A109 e109 => ?_)
              replace h := h A109 e109
              refine x_aload_n dX11_paint_235 rfl ?_
              refine x_get (v := va_rf (A35.P p 10)) hG dX11_paint_236 f_X11_32_10 (kI e109 (kI e104 (kI e99 (kI e94 (kI e89 o36))))) (congrArg va_rf ((sI_P e109).trans ((sI_P e104).trans ((sI_P e99).trans ((sI_P e94).trans (sI_P e89)))))) ?_
              refine x_iload_n dX11_paint_239 rfl ?_
              refine x_iconst_ (v := (-1 : Int32)) dX11_paint_240 (by decide) ?_
              obtain ⟨b110, e110, h⟩ := h
              rw [e110]
              obtain ⟨o111, h⟩ := h
              obtain ⟨o112, h⟩ := h
              obtain ⟨o113, h⟩ := h
              refine z_iast hG dX11_paint_241 o111 o112 o113 (fun A114 e114 => ?_)
              replace h := h A114 e114
              refine x_aload_n dX11_paint_242 rfl ?_
              refine x_get (v := va_rf (A35.P p 11)) hG dX11_paint_243 f_X11_35_10 (kI e114 (kI e109 (kI e104 (kI e99 (kI e94 (kI e89 o36)))))) (congrArg va_rf ((sI_P e114).trans ((sI_P e109).trans ((sI_P e104).trans ((sI_P e99).trans ((sI_P e94).trans (sI_P e89))))))) ?_
              refine x_iload_n dX11_paint_246 rfl ?_
              refine x_iconst_ (v := (0 : Int32)) dX11_paint_247 (by decide) ?_
              obtain ⟨b115, e115, h⟩ := h
              rw [e115]
              obtain ⟨o116, h⟩ := h
              obtain ⟨o117, h⟩ := h
              obtain ⟨o118, h⟩ := h
              refine z_iast hG dX11_paint_248 o116 o117 o118 (fun A119 e119 => ?_)
              replace h := h A119 e119
              refine x_iinc (v := (y35_2 + (1 : Int32))) dX11_paint_249 rfl rfl (by decide) ?_
              refine x_goto (tgt := 192) dX11_paint_252 (by decide) ?_
              obtain ⟨q35, l35, h⟩ := h
              change X _ _ _ _ _ _ [some (.ref p), some (.ref b1), some (.int (y35_2 + (1 : Int32))), none, none, none] []
              exact X.weak (xle_c rfl (xle_c rfl (xle_c rfl (xle_n (xle_n (xle_n xle_nil)))))) (ih35 q35 l35 (y35_2 + (1 : Int32)) A119 h)
        change X _ _ _ _ _ _ [some (.ref p), some (.ref b1), some (.int (0 : Int32)), none, none, none] []
        exact X.weak (xle_c rfl (xle_c rfl (xle_c rfl (xle_n (xle_n (xle_n xle_nil)))))) (kl35 n35 (0 : Int32) A33 i35)
      · replace h := h.2 c174
        refine x_aload_n dX11_paint_177 rfl ?_
        refine x_get (v := va_rf (A33.P p 4)) hG dX11_paint_178 f_X11_9_10 o34 rfl ?_
        refine x_iload_n dX11_paint_181 rfl ?_
        refine x_lconst_ (v := (0 : Int64)) dX11_paint_182 (by decide) ?_
        obtain ⟨b120, e120, h⟩ := h
        rw [e120]
        obtain ⟨o121, h⟩ := h
        obtain ⟨o122, h⟩ := h
        obtain ⟨o123, h⟩ := h
        refine z_last hG dX11_paint_183 o121 o122 o123 (fun A124 e124 => ?_)
        replace h := h A124 e124
        refine x_iinc (v := (y33_2 + (1 : Int32))) dX11_paint_184 rfl rfl (by decide) ?_
        refine x_goto (tgt := 164) dX11_paint_187 (by decide) ?_
        obtain ⟨q33, l33, h⟩ := h
        change X _ _ _ _ _ _ [some (.ref p), some (.ref b1), some (.int (y33_2 + (1 : Int32))), none, none, none] []
        exact X.weak (xle_c rfl (xle_c rfl (xle_c rfl (xle_n (xle_n (xle_n xle_nil)))))) (ih33 q33 l33 (y33_2 + (1 : Int32)) A124 h)
  change X _ _ _ _ _ _ [some (.ref p), some (.ref b1), some (.int (0 : Int32)), none, none, none] []
  exact X.weak (xle_c rfl (xle_c rfl (xle_c rfl (xle_n (xle_n (xle_n xle_nil)))))) (kl33 n33 (0 : Int32) A32 i33)
end W052
