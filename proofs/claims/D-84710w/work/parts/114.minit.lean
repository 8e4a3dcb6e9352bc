/-! ===== 114.minit (tools/h045.py) ===== -/
set_option maxRecDepth 100000
section W114
variable {G : xG}
def w_X13_init (G : xG) (p : Nat) (Q : xA → Prop) (A : xA) : Prop := xok G A → rmA G A (4000 : Int32) ∧ (∀ A2 : xA, A2 = A.new 200 (ix (4000 : Int32)) (ix (4000 : Int32)) 0 → (A2.tg p = 13 ∧ (∀ A4 : xA, A4 = A2.setP p 0 (some A.n) → (rmA G A4 (4000 : Int32) ∧ (∀ A6 : xA, A6 = A4.new 200 (ix (4000 : Int32)) (ix (4000 : Int32)) 0 → (∀ A7 : xA, A7 = A6.setP p 1 (some A4.n) → (rmA G A7 (4002 : Int32) ∧ (∀ A9 : xA, A9 = A7.new 200 (ix (4002 : Int32)) (ix (4002 : Int32)) 0 → (∀ A10 : xA, A10 = A9.setP p 4 (some A7.n) → (rmA G A10 (4002 : Int32) ∧ (∀ A12 : xA, A12 = A10.new 200 (ix (4002 : Int32)) (ix (4002 : Int32)) 0 → (∀ A13 : xA, A13 = A12.setP p 5 (some A10.n) → (rmA G A13 (4002 : Int32) ∧ (∀ A15 : xA, A15 = A13.new 200 (ix (4002 : Int32)) (ix (4002 : Int32)) 0 → (∀ A16 : xA, A16 = A15.setP p 6 (some A13.n) → (rmA G A16 (2100 : Int32) ∧ (∀ A18 : xA, A18 = A16.new 200 (ix (2100 : Int32)) (ix (2100 : Int32)) 0 → (∀ A19 : xA, A19 = A18.setP p 9 (some A16.n) → (rmA G A19 (2100 : Int32) ∧ (∀ A21 : xA, A21 = A19.new 200 (ix (2100 : Int32)) (ix (2100 : Int32)) 0 → (∀ A22 : xA, A22 = A21.setP p 10 (some A19.n) → (rmA G A22 (2100 : Int32) ∧ (∀ A24 : xA, A24 = A22.new 200 (ix (2100 : Int32)) (ix (2100 : Int32)) 0 → (∀ A25 : xA, A25 = A24.setP p 11 (some A22.n) → (rmA G A25 (64 : Int32) ∧ (∀ A27 : xA, A27 = A25.new 200 (ix (64 : Int32)) (ix (64 : Int32)) 0 → (∀ A28 : xA, A28 = A27.setP p 12 (some A25.n) → (rmA G A28 (900 : Int32) ∧ (∀ A30 : xA, A30 = A28.new 200 (ix (900 : Int32)) (ix (900 : Int32)) 0 → (∀ A31 : xA, A31 = A30.setP p 16 (some A28.n) → (rmA G A31 (900 : Int32) ∧ (∀ A33 : xA, A33 = A31.new 200 (ix (900 : Int32)) (ix (900 : Int32)) 0 → (∀ A34 : xA, A34 = A33.setP p 17 (some A31.n) → (rmA G A34 (900 : Int32) ∧ (∀ A36 : xA, A36 = A34.new 200 (ix (900 : Int32)) (ix (900 : Int32)) 0 → (∀ A37 : xA, A37 = A36.setP p 18 (some A34.n) → (rmA G A37 (900 : Int32) ∧ (∀ A39 : xA, A39 = A37.new 200 (ix (900 : Int32)) (ix (900 : Int32)) 0 → (∀ A40 : xA, A40 = A39.setP p 19 (some A37.n) → (rmA G A40 (900 : Int32) ∧ (∀ A42 : xA, A42 = A40.new 200 (ix (900 : Int32)) (ix (900 : Int32)) 0 → (∀ A43 : xA, A43 = A42.setP p 20 (some A40.n) → (rmA G A43 (900 : Int32) ∧ (∀ A45 : xA, A45 = A43.new 200 (ix (900 : Int32)) (ix (900 : Int32)) 0 → (∀ A46 : xA, A46 = A45.setP p 21 (some A43.n) → (rmA G A46 (900 : Int32) ∧ (∀ A48 : xA, A48 = A46.new 203 (ix (900 : Int32)) (ix (900 : Int32)) 0 → (∀ A49 : xA, A49 = A48.setP p 22 (some A46.n) → (rmA G A49 (900 : Int32) ∧ (∀ A51 : xA, A51 = A49.new 203 (ix (900 : Int32)) (ix (900 : Int32)) 0 → (∀ A52 : xA, A52 = A51.setP p 23 (some A49.n) → (rmA G A52 (500 : Int32) ∧ (∀ A54 : xA, A54 = A52.new 200 (ix (500 : Int32)) (ix (500 : Int32)) 0 → (∀ A55 : xA, A55 = A54.setP p 25 (some A52.n) → (rmA G A55 (500 : Int32) ∧ (∀ A57 : xA, A57 = A55.new 200 (ix (500 : Int32)) (ix (500 : Int32)) 0 → (∀ A58 : xA, A58 = A57.setP p 26 (some A55.n) → (rmA G A58 (500 : Int32) ∧ (∀ A60 : xA, A60 = A58.new 200 (ix (500 : Int32)) (ix (500 : Int32)) 0 → (∀ A61 : xA, A61 = A60.setP p 27 (some A58.n) → (rmA G A61 (500 : Int32) ∧ (∀ A63 : xA, A63 = A61.new 200 (ix (500 : Int32)) (ix (500 : Int32)) 0 → (∀ A64 : xA, A64 = A63.setP p 28 (some A61.n) → (rmA G A64 (500 : Int32) ∧ (∀ A66 : xA, A66 = A64.new 200 (ix (500 : Int32)) (ix (500 : Int32)) 0 → (∀ A67 : xA, A67 = A66.setP p 29 (some A64.n) → (rmA G A67 (500 : Int32) ∧ (∀ A69 : xA, A69 = A67.new 200 (ix (500 : Int32)) (ix (500 : Int32)) 0 → (∀ A70 : xA, A70 = A69.setP p 30 (some A67.n) → (rmA G A70 (500 : Int32) ∧ (∀ A72 : xA, A72 = A70.new 200 (ix (500 : Int32)) (ix (500 : Int32)) 0 → (∀ A73 : xA, A73 = A72.setP p 31 (some A70.n) → (rmA G A73 (500 : Int32) ∧ (∀ A75 : xA, A75 = A73.new 200 (ix (500 : Int32)) (ix (500 : Int32)) 0 → (∀ A76 : xA, A76 = A75.setP p 32 (some A73.n) → (rmA G A76 (500 : Int32) ∧ (∀ A78 : xA, A78 = A76.new 203 (ix (500 : Int32)) (ix (500 : Int32)) 0 → (∀ A79 : xA, A79 = A78.setP p 33 (some A76.n) → (rmA G A79 (900 : Int32) ∧ (∀ A81 : xA, A81 = A79.new 200 (ix (900 : Int32)) (ix (900 : Int32)) 0 → (∀ A82 : xA, A82 = A81.setP p 34 (some A79.n) → (rmA G A82 (2001 : Int32) ∧ (∀ A84 : xA, A84 = A82.new 200 (ix (2001 : Int32)) (ix (2001 : Int32)) 0 → (∀ A85 : xA, A85 = A84.setP p 38 (some A82.n) → (rmA G A85 (2001 : Int32) ∧ (∀ A87 : xA, A87 = A85.new 200 (ix (2001 : Int32)) (ix (2001 : Int32)) 0 → (∀ A88 : xA, A88 = A87.setP p 39 (some A85.n) → (rmA G A88 (2001 : Int32) ∧ (∀ A90 : xA, A90 = A88.new 203 (ix (2001 : Int32)) (ix (2001 : Int32)) 0 → (∀ A91 : xA, A91 = A90.setP p 40 (some A88.n) → (rmA G A91 (8008 : Int32) ∧ (∀ A93 : xA, A93 = A91.new 200 (ix (8008 : Int32)) (ix (8008 : Int32)) 0 → (∀ A94 : xA, A94 = A93.setP p 41 (some A91.n) → (rmA G A94 (9000 : Int32) ∧ (∀ A96 : xA, A96 = A94.new 200 (ix (9000 : Int32)) (ix (9000 : Int32)) 0 → (∀ A97 : xA, A97 = A96.setP p 56 (some A94.n) → (rmA G A97 (9000 : Int32) ∧ (∀ A99 : xA, A99 = A97.new 200 (ix (9000 : Int32)) (ix (9000 : Int32)) 0 → (∀ A100 : xA, A100 = A99.setP p 57 (some A97.n) → (rmA G A100 (9000 : Int32) ∧ (∀ A102 : xA, A102 = A100.new 200 (ix (9000 : Int32)) (ix (9000 : Int32)) 0 → (∀ A103 : xA, A103 = A102.setP p 58 (some A100.n) → (rmA G A103 (9000 : Int32) ∧ (∀ A105 : xA, A105 = A103.new 200 (ix (9000 : Int32)) (ix (9000 : Int32)) 0 → (∀ A106 : xA, A106 = A105.setP p 59 (some A103.n) → (rmA G A106 (600 : Int32) ∧ (∀ A108 : xA, A108 = A106.new 200 (ix (600 : Int32)) (ix (600 : Int32)) 0 → (∀ A109 : xA, A109 = A108.setP p 67 (some A106.n) → (rmA G A109 (600 : Int32) ∧ (∀ A111 : xA, A111 = A109.new 200 (ix (600 : Int32)) (ix (600 : Int32)) 0 → (∀ A112 : xA, A112 = A111.setP p 68 (some A109.n) → (rmA G A112 (600 : Int32) ∧ (∀ A114 : xA, A114 = A112.new 200 (ix (600 : Int32)) (ix (600 : Int32)) 0 → (∀ A115 : xA, A115 = A114.setP p 69 (some A112.n) → (rmA G A115 (280000 : Int32) ∧ (∀ A117 : xA, A117 = A115.new 200 (ix (280000 : Int32)) (ix (280000 : Int32)) 0 → (∀ A118 : xA, A118 = A117.setP p 71 (some A115.n) → (rmA G A118 (500 : Int32) ∧ (∀ A120 : xA, A120 = A118.new 200 (ix (500 : Int32)) (ix (500 : Int32)) 0 → (∀ A121 : xA, A121 = A120.setP p 88 (some A118.n) → (rmA G A121 (2000 : Int32) ∧ (∀ A123 : xA, A123 = A121.new 200 (ix (2000 : Int32)) (ix (2000 : Int32)) 0 → (∀ A124 : xA, A124 = A123.setP p 89 (some A121.n) → (rmA G A124 (20000 : Int32) ∧ (∀ A126 : xA, A126 = A124.new 200 (ix (20000 : Int32)) (ix (20000 : Int32)) 0 → (∀ A127 : xA, A127 = A126.setP p 90 (some A124.n) → (rmA G A127 (520 : Int32) ∧ (∀ A129 : xA, A129 = A127.new 200 (ix (520 : Int32)) (ix (520 : Int32)) 0 → (∀ A130 : xA, A130 = A129.setP p 91 (some A127.n) → (rmA G A130 (520 : Int32) ∧ (∀ A132 : xA, A132 = A130.new 200 (ix (520 : Int32)) (ix (520 : Int32)) 0 → (∀ A133 : xA, A133 = A132.setP p 92 (some A130.n) → (rmA G A133 (520 : Int32) ∧ (∀ A135 : xA, A135 = A133.new 200 (ix (520 : Int32)) (ix (520 : Int32)) 0 → (∀ A136 : xA, A136 = A135.setP p 93 (some A133.n) → (rmA G A136 (4096 : Int32) ∧ (∀ A138 : xA, A138 = A136.new 200 (ix (4096 : Int32)) (ix (4096 : Int32)) 0 → (∀ A139 : xA, A139 = A138.setP p 94 (some A136.n) → (rmA G A139 (33 : Int32) ∧ (∀ A141 : xA, A141 = A139.new 200 (ix (33 : Int32)) (ix (33 : Int32)) 0 → (∀ A142 : xA, A142 = A141.setP p 95 (some A139.n) → (Q A142))))))))))))))))))))))))))))))))))))))))))))))))))))))))))))))))))))))))))))))))))))))))))))))))))))))))))))))))))))))))))))))))))))))))))))))
theorem m_X13_init (hG : xOK G) (hO : xHO G) {dp : Nat} {p : Nat} {Q : xA → Prop} {A : xA} (h : w_X13_init G p Q A) : MX G (dp + 1) kX13_init [.ref p] A (hV Q) := by
  unfold w_X13_init at h
  refine MX.of rfl (Nat.le_of_ble_eq_true rfl) ?_
  change X _ _ _ _ _ _ [some (.ref p)] _
  refine X.xok (fun w0 => ?_)
  replace h := h w0
  refine x_aload_n dX13_init_0 rfl ?_
  refine x_objInit hG dX13_init_1 q2997 q261 q262 (Nat.le_of_ble_eq_true rfl) ?_
  refine x_aload_n dX13_init_4 rfl ?_
  refine x_sipush_ (v := (4000 : Int32)) dX13_init_5 (by decide) ?_
  obtain ⟨o1, h⟩ := h
  refine z_newa hG (j := 0) dX13_init_8 (by decide) rfl o1 q378 (fun A2 e2 w2 => ?_)
  replace h := h A2 e2
  obtain ⟨o3, h⟩ := h
  refine z_putP hG hO.1 (some A.n) dX13_init_10 f_X13_9_12 ⟨_, rfl, Or.inr ⟨rfl, rfl, rfl⟩⟩ o3 (by decide) (Or.inr ⟨_, rfl⟩) (fun A4 e4 => ?_)
  replace h := h A4 e4
  refine x_aload_n dX13_init_13 rfl ?_
  refine x_sipush_ (v := (4000 : Int32)) dX13_init_14 (by decide) ?_
  obtain ⟨o5, h⟩ := h
  refine z_newa hG (j := 0) dX13_init_17 (by decide) rfl o5 q378 (fun A6 e6 w6 => ?_)
  replace h := h A6 e6
  refine z_putP hG hO.1 (some A4.n) dX13_init_19 f_X13_13_12 ⟨_, rfl, Or.inr ⟨rfl, rfl, rfl⟩⟩ (kN e6 w6 (kP e4 o3)) (by decide) (Or.inr ⟨_, rfl⟩) (fun A7 e7 => ?_)
  replace h := h A7 e7
  refine x_aload_n dX13_init_22 rfl ?_
  refine x_sipush_ (v := (4002 : Int32)) dX13_init_23 (by decide) ?_
  obtain ⟨o8, h⟩ := h
  refine z_newa hG (j := 0) dX13_init_26 (by decide) rfl o8 q378 (fun A9 e9 w9 => ?_)
  replace h := h A9 e9
  refine z_putP hG hO.1 (some A7.n) dX13_init_28 f_X13_16_12 ⟨_, rfl, Or.inr ⟨rfl, rfl, rfl⟩⟩ (kN e9 w9 (kP e7 (kN e6 w6 (kP e4 o3)))) (by decide) (Or.inr ⟨_, rfl⟩) (fun A10 e10 => ?_)
  replace h := h A10 e10
  refine x_aload_n dX13_init_31 rfl ?_
  refine x_sipush_ (v := (4002 : Int32)) dX13_init_32 (by decide) ?_
  obtain ⟨o11, h⟩ := h
  refine z_newa hG (j := 0) dX13_init_35 (by decide) rfl o11 q378 (fun A12 e12 w12 => ?_)
  replace h := h A12 e12
  refine z_putP hG hO.1 (some A10.n) dX13_init_37 f_X13_19_12 ⟨_, rfl, Or.inr ⟨rfl, rfl, rfl⟩⟩ (kN e12 w12 (kP e10 (kN e9 w9 (kP e7 (kN e6 w6 (kP e4 o3)))))) (by decide) (Or.inr ⟨_, rfl⟩) (fun A13 e13 => ?_)
  replace h := h A13 e13
  refine x_aload_n dX13_init_40 rfl ?_
  refine x_sipush_ (v := (4002 : Int32)) dX13_init_41 (by decide) ?_
  obtain ⟨o14, h⟩ := h
  refine z_newa hG (j := 0) dX13_init_44 (by decide) rfl o14 q378 (fun A15 e15 w15 => ?_)
  replace h := h A15 e15
  refine z_putP hG hO.1 (some A13.n) dX13_init_46 f_X13_22_12 ⟨_, rfl, Or.inr ⟨rfl, rfl, rfl⟩⟩ (kN e15 w15 (kP e13 (kN e12 w12 (kP e10 (kN e9 w9 (kP e7 (kN e6 w6 (kP e4 o3)))))))) (by decide) (Or.inr ⟨_, rfl⟩) (fun A16 e16 => ?_)
  replace h := h A16 e16
  refine x_aload_n dX13_init_49 rfl ?_
  refine x_sipush_ (v := (2100 : Int32)) dX13_init_50 (by decide) ?_
  obtain ⟨o17, h⟩ := h
  refine z_newa hG (j := 0) dX13_init_53 (by decide) rfl o17 q378 (fun A18 e18 w18 => ?_)
  replace h := h A18 e18
  refine z_putP hG hO.1 (some A16.n) dX13_init_55 f_X13_25_12 ⟨_, rfl, Or.inr ⟨rfl, rfl, rfl⟩⟩ (kN e18 w18 (kP e16 (kN e15 w15 (kP e13 (kN e12 w12 (kP e10 (kN e9 w9 (kP e7 (kN e6 w6 (kP e4 o3)))))))))) (by decide) (Or.inr ⟨_, rfl⟩) (fun A19 e19 => ?_)
  replace h := h A19 e19
  refine x_aload_n dX13_init_58 rfl ?_
  refine x_sipush_ (v := (2100 : Int32)) dX13_init_59 (by decide) ?_
  obtain ⟨o20, h⟩ := h
  refine z_newa hG (j := 0) dX13_init_62 (by decide) rfl o20 q378 (fun A21 e21 w21 => ?_)
  replace h := h A21 e21
  refine z_putP hG hO.1 (some A19.n) dX13_init_64 f_X13_28_12 ⟨_, rfl, Or.inr ⟨rfl, rfl, rfl⟩⟩ (kN e21 w21 (kP e19 (kN e18 w18 (kP e16 (kN e15 w15 (kP e13 (kN e12 w12 (kP e10 (kN e9 w9 (kP e7 (kN e6 w6 (kP e4 o3)))))))))))) (by decide) (Or.inr ⟨_, rfl⟩) (fun A22 e22 => ?_)
  replace h := h A22 e22
  refine x_aload_n dX13_init_67 rfl ?_
  refine x_sipush_ (v := (2100 : Int32)) dX13_init_68 (by decide) ?_
  obtain ⟨o23, h⟩ := h
  refine z_newa hG (j := 0) dX13_init_71 (by decide) rfl o23 q378 (fun A24 e24 w24 => ?_)
  replace h := h A24 e24
  refine z_putP hG hO.1 (some A22.n) dX13_init_73 f_X13_31_12 ⟨_, rfl, Or.inr ⟨rfl, rfl, rfl⟩⟩ (kN e24 w24 (kP e22 (kN e21 w21 (kP e19 (kN e18 w18 (kP e16 (kN e15 w15 (kP e13 (kN e12 w12 (kP e10 (kN e9 w9 (kP e7 (kN e6 w6 (kP e4 o3)))))))))))))) (by decide) (Or.inr ⟨_, rfl⟩) (fun A25 e25 => ?_)
  replace h := h A25 e25
  refine x_aload_n dX13_init_76 rfl ?_
  refine x_bipush_ (v := (64 : Int32)) dX13_init_77 (by decide) ?_
  obtain ⟨o26, h⟩ := h
  refine z_newa hG (j := 0) dX13_init_79 (by decide) rfl o26 q378 (fun A27 e27 w27 => ?_)
  replace h := h A27 e27
  refine z_putP hG hO.1 (some A25.n) dX13_init_81 f_X13_34_12 ⟨_, rfl, Or.inr ⟨rfl, rfl, rfl⟩⟩ (kN e27 w27 (kP e25 (kN e24 w24 (kP e22 (kN e21 w21 (kP e19 (kN e18 w18 (kP e16 (kN e15 w15 (kP e13 (kN e12 w12 (kP e10 (kN e9 w9 (kP e7 (kN e6 w6 (kP e4 o3)))))))))))))))) (by decide) (Or.inr ⟨_, rfl⟩) (fun A28 e28 => ?_)
  replace h := h A28 e28
  refine x_aload_n dX13_init_84 rfl ?_
  refine x_sipush_ (v := (900 : Int32)) dX13_init_85 (by decide) ?_
  obtain ⟨o29, h⟩ := h
  refine z_newa hG (j := 0) dX13_init_88 (by decide) rfl o29 q378 (fun A30 e30 w30 => ?_)
  replace h := h A30 e30
  refine z_putP hG hO.1 (some A28.n) dX13_init_90 f_X13_37_12 ⟨_, rfl, Or.inr ⟨rfl, rfl, rfl⟩⟩ (kN e30 w30 (kP e28 (kN e27 w27 (kP e25 (kN e24 w24 (kP e22 (kN e21 w21 (kP e19 (kN e18 w18 (kP e16 (kN e15 w15 (kP e13 (kN e12 w12 (kP e10 (kN e9 w9 (kP e7 (kN e6 w6 (kP e4 o3)))))))))))))))))) (by decide) (Or.inr ⟨_, rfl⟩) (fun A31 e31 => ?_)
  replace h := h A31 e31
  refine x_aload_n dX13_init_93 rfl ?_
  refine x_sipush_ (v := (900 : Int32)) dX13_init_94 (by decide) ?_
  obtain ⟨o32, h⟩ := h
  refine z_newa hG (j := 0) dX13_init_97 (by decide) rfl o32 q378 (fun A33 e33 w33 => ?_)
  replace h := h A33 e33
  refine z_putP hG hO.1 (some A31.n) dX13_init_99 f_X13_40_12 ⟨_, rfl, Or.inr ⟨rfl, rfl, rfl⟩⟩ (kN e33 w33 (kP e31 (kN e30 w30 (kP e28 (kN e27 w27 (kP e25 (kN e24 w24 (kP e22 (kN e21 w21 (kP e19 (kN e18 w18 (kP e16 (kN e15 w15 (kP e13 (kN e12 w12 (kP e10 (kN e9 w9 (kP e7 (kN e6 w6 (kP e4 o3)))))))))))))))))))) (by decide) (Or.inr ⟨_, rfl⟩) (fun A34 e34 => ?_)
  replace h := h A34 e34
  refine x_aload_n dX13_init_102 rfl ?_
  refine x_sipush_ (v := (900 : Int32)) dX13_init_103 (by decide) ?_
  obtain ⟨o35, h⟩ := h
  refine z_newa hG (j := 0) dX13_init_106 (by decide) rfl o35 q378 (fun A36 e36 w36 => ?_)
  replace h := h A36 e36
  refine z_putP hG hO.1 (some A34.n) dX13_init_108 f_X13_43_12 ⟨_, rfl, Or.inr ⟨rfl, rfl, rfl⟩⟩ (kN e36 w36 (kP e34 (kN e33 w33 (kP e31 (kN e30 w30 (kP e28 (kN e27 w27 (kP e25 (kN e24 w24 (kP e22 (kN e21 w21 (kP e19 (kN e18 w18 (kP e16 (kN e15 w15 (kP e13 (kN e12 w12 (kP e10 (kN e9 w9 (kP e7 (kN e6 w6 (kP e4 o3)))))))))))))))))))))) (by decide) (Or.inr ⟨_, rfl⟩) (fun A37 e37 => ?_)
  replace h := h A37 e37
  refine x_aload_n dX13_init_111 rfl ?_
  refine x_sipush_ (v := (900 : Int32)) dX13_init_112 (by decide) ?_
  obtain ⟨o38, h⟩ := h
  refine z_newa hG (j := 0) dX13_init_115 (by decide) rfl o38 q378 (fun A39 e39 w39 => ?_)
  replace h := h A39 e39
  refine z_putP hG hO.1 (some A37.n) dX13_init_117 f_X13_46_12 ⟨_, rfl, Or.inr ⟨rfl, rfl, rfl⟩⟩ (kN e39 w39 (kP e37 (kN e36 w36 (kP e34 (kN e33 w33 (kP e31 (kN e30 w30 (kP e28 (kN e27 w27 (kP e25 (kN e24 w24 (kP e22 (kN e21 w21 (kP e19 (kN e18 w18 (kP e16 (kN e15 w15 (kP e13 (kN e12 w12 (kP e10 (kN e9 w9 (kP e7 (kN e6 w6 (kP e4 o3)))))))))))))))))))))))) (by decide) (Or.inr ⟨_, rfl⟩) (fun A40 e40 => ?_)
  replace h := h A40 e40
  refine x_aload_n dX13_init_120 rfl ?_
  refine x_sipush_ (v := (900 : Int32)) dX13_init_121 (by decide) ?_
  obtain ⟨o41, h⟩ := h
  refine z_newa hG (j := 0) dX13_init_124 (by decide) rfl o41 q378 (fun A42 e42 w42 => ?_)
  replace h := h A42 e42
  refine z_putP hG hO.1 (some A40.n) dX13_init_126 f_X13_49_12 ⟨_, rfl, Or.inr ⟨rfl, rfl, rfl⟩⟩ (kN e42 w42 (kP e40 (kN e39 w39 (kP e37 (kN e36 w36 (kP e34 (kN e33 w33 (kP e31 (kN e30 w30 (kP e28 (kN e27 w27 (kP e25 (kN e24 w24 (kP e22 (kN e21 w21 (kP e19 (kN e18 w18 (kP e16 (kN e15 w15 (kP e13 (kN e12 w12 (kP e10 (kN e9 w9 (kP e7 (kN e6 w6 (kP e4 o3)))))))))))))))))))))))))) (by decide) (Or.inr ⟨_, rfl⟩) (fun A43 e43 => ?_)
  replace h := h A43 e43
  refine x_aload_n dX13_init_129 rfl ?_
  refine x_sipush_ (v := (900 : Int32)) dX13_init_130 (by decide) ?_
  obtain ⟨o44, h⟩ := h
  refine z_newa hG (j := 0) dX13_init_133 (by decide) rfl o44 q378 (fun A45 e45 w45 => ?_)
  replace h := h A45 e45
  refine z_putP hG hO.1 (some A43.n) dX13_init_135 f_X13_52_12 ⟨_, rfl, Or.inr ⟨rfl, rfl, rfl⟩⟩ (kN e45 w45 (kP e43 (kN e42 w42 (kP e40 (kN e39 w39 (kP e37 (kN e36 w36 (kP e34 (kN e33 w33 (kP e31 (kN e30 w30 (kP e28 (kN e27 w27 (kP e25 (kN e24 w24 (kP e22 (kN e21 w21 (kP e19 (kN e18 w18 (kP e16 (kN e15 w15 (kP e13 (kN e12 w12 (kP e10 (kN e9 w9 (kP e7 (kN e6 w6 (kP e4 o3)))))))))))))))))))))))))))) (by decide) (Or.inr ⟨_, rfl⟩) (fun A46 e46 => ?_)
  replace h := h A46 e46
  refine x_aload_n dX13_init_138 rfl ?_
  refine x_sipush_ (v := (900 : Int32)) dX13_init_139 (by decide) ?_
  obtain ⟨o47, h⟩ := h
  refine z_newa hG (j := 3) dX13_init_142 (by decide) rfl o47 q756 (fun A48 e48 w48 => ?_)
  replace h := h A48 e48
  refine z_putP hG hO.1 (some A46.n) dX13_init_144 f_X13_55_12 ⟨_, rfl, Or.inr ⟨rfl, rfl, rfl⟩⟩ (kN e48 w48 (kP e46 (kN e45 w45 (kP e43 (kN e42 w42 (kP e40 (kN e39 w39 (kP e37 (kN e36 w36 (kP e34 (kN e33 w33 (kP e31 (kN e30 w30 (kP e28 (kN e27 w27 (kP e25 (kN e24 w24 (kP e22 (kN e21 w21 (kP e19 (kN e18 w18 (kP e16 (kN e15 w15 (kP e13 (kN e12 w12 (kP e10 (kN e9 w9 (kP e7 (kN e6 w6 (kP e4 o3)))))))))))))))))))))))))))))) (by decide) (Or.inr ⟨_, rfl⟩) (fun A49 e49 => ?_)
  replace h := h A49 e49
  refine x_aload_n dX13_init_147 rfl ?_
  refine x_sipush_ (v := (900 : Int32)) dX13_init_148 (by decide) ?_
  obtain ⟨o50, h⟩ := h
  refine z_newa hG (j := 3) dX13_init_151 (by decide) rfl o50 q756 (fun A51 e51 w51 => ?_)
  replace h := h A51 e51
  refine z_putP hG hO.1 (some A49.n) dX13_init_153 f_X13_59_12 ⟨_, rfl, Or.inr ⟨rfl, rfl, rfl⟩⟩ (kN e51 w51 (kP e49 (kN e48 w48 (kP e46 (kN e45 w45 (kP e43 (kN e42 w42 (kP e40 (kN e39 w39 (kP e37 (kN e36 w36 (kP e34 (kN e33 w33 (kP e31 (kN e30 w30 (kP e28 (kN e27 w27 (kP e25 (kN e24 w24 (kP e22 (kN e21 w21 (kP e19 (kN e18 w18 (kP e16 (kN e15 w15 (kP e13 (kN e12 w12 (kP e10 (kN e9 w9 (kP e7 (kN e6 w6 (kP e4 o3)))))))))))))))))))))))))))))))) (by decide) (Or.inr ⟨_, rfl⟩) (fun A52 e52 => ?_)
  replace h := h A52 e52
  refine x_aload_n dX13_init_156 rfl ?_
  refine x_sipush_ (v := (500 : Int32)) dX13_init_157 (by decide) ?_
  obtain ⟨o53, h⟩ := h
  refine z_newa hG (j := 0) dX13_init_160 (by decide) rfl o53 q378 (fun A54 e54 w54 => ?_)
  replace h := h A54 e54
  refine z_putP hG hO.1 (some A52.n) dX13_init_162 f_X13_62_12 ⟨_, rfl, Or.inr ⟨rfl, rfl, rfl⟩⟩ (kN e54 w54 (kP e52 (kN e51 w51 (kP e49 (kN e48 w48 (kP e46 (kN e45 w45 (kP e43 (kN e42 w42 (kP e40 (kN e39 w39 (kP e37 (kN e36 w36 (kP e34 (kN e33 w33 (kP e31 (kN e30 w30 (kP e28 (kN e27 w27 (kP e25 (kN e24 w24 (kP e22 (kN e21 w21 (kP e19 (kN e18 w18 (kP e16 (kN e15 w15 (kP e13 (kN e12 w12 (kP e10 (kN e9 w9 (kP e7 (kN e6 w6 (kP e4 o3)))))))))))))))))))))))))))))))))) (by decide) (Or.inr ⟨_, rfl⟩) (fun A55 e55 => ?_)
  replace h := h A55 e55
  refine x_aload_n dX13_init_165 rfl ?_
  refine x_sipush_ (v := (500 : Int32)) dX13_init_166 (by decide) ?_
  obtain ⟨o56, h⟩ := h
  refine z_newa hG (j := 0) dX13_init_169 (by decide) rfl o56 q378 (fun A57 e57 w57 => ?_)
  replace h := h A57 e57
  refine z_putP hG hO.1 (some A55.n) dX13_init_171 f_X13_65_12 ⟨_, rfl, Or.inr ⟨rfl, rfl, rfl⟩⟩ (kN e57 w57 (kP e55 (kN e54 w54 (kP e52 (kN e51 w51 (kP e49 (kN e48 w48 (kP e46 (kN e45 w45 (kP e43 (kN e42 w42 (kP e40 (kN e39 w39 (kP e37 (kN e36 w36 (kP e34 (kN e33 w33 (kP e31 (kN e30 w30 (kP e28 (kN e27 w27 (kP e25 (kN e24 w24 (kP e22 (kN e21 w21 (kP e19 (kN e18 w18 (kP e16 (kN e15 w15 (kP e13 (kN e12 w12 (kP e10 (kN e9 w9 (kP e7 (kN e6 w6 (kP e4 o3)))))))))))))))))))))))))))))))))))) (by decide) (Or.inr ⟨_, rfl⟩) (fun A58 e58 => ?_)
  replace h := h A58 e58
  refine x_aload_n dX13_init_174 rfl ?_
  refine x_sipush_ (v := (500 : Int32)) dX13_init_175 (by decide) ?_
  obtain ⟨o59, h⟩ := h
  refine z_newa hG (j := 0) dX13_init_178 (by decide) rfl o59 q378 (fun A60 e60 w60 => ?_)
  replace h := h A60 e60
  refine z_putP hG hO.1 (some A58.n) dX13_init_180 f_X13_68_12 ⟨_, rfl, Or.inr ⟨rfl, rfl, rfl⟩⟩ (kN e60 w60 (kP e58 (kN e57 w57 (kP e55 (kN e54 w54 (kP e52 (kN e51 w51 (kP e49 (kN e48 w48 (kP e46 (kN e45 w45 (kP e43 (kN e42 w42 (kP e40 (kN e39 w39 (kP e37 (kN e36 w36 (kP e34 (kN e33 w33 (kP e31 (kN e30 w30 (kP e28 (kN e27 w27 (kP e25 (kN e24 w24 (kP e22 (kN e21 w21 (kP e19 (kN e18 w18 (kP e16 (kN e15 w15 (kP e13 (kN e12 w12 (kP e10 (kN e9 w9 (kP e7 (kN e6 w6 (kP e4 o3)))))))))))))))))))))))))))))))))))))) (by decide) (Or.inr ⟨_, rfl⟩) (fun A61 e61 => ?_)
  replace h := h A61 e61
  refine x_aload_n dX13_init_183 rfl ?_
  refine x_sipush_ (v := (500 : Int32)) dX13_init_184 (by decide) ?_
  obtain ⟨o62, h⟩ := h
  refine z_newa hG (j := 0) dX13_init_187 (by decide) rfl o62 q378 (fun A63 e63 w63 => ?_)
  replace h := h A63 e63
  refine z_putP hG hO.1 (some A61.n) dX13_init_189 f_X13_71_12 ⟨_, rfl, Or.inr ⟨rfl, rfl, rfl⟩⟩ (kN e63 w63 (kP e61 (kN e60 w60 (kP e58 (kN e57 w57 (kP e55 (kN e54 w54 (kP e52 (kN e51 w51 (kP e49 (kN e48 w48 (kP e46 (kN e45 w45 (kP e43 (kN e42 w42 (kP e40 (kN e39 w39 (kP e37 (kN e36 w36 (kP e34 (kN e33 w33 (kP e31 (kN e30 w30 (kP e28 (kN e27 w27 (kP e25 (kN e24 w24 (kP e22 (kN e21 w21 (kP e19 (kN e18 w18 (kP e16 (kN e15 w15 (kP e13 (kN e12 w12 (kP e10 (kN e9 w9 (kP e7 (kN e6 w6 (kP e4 o3)))))))))))))))))))))))))))))))))))))))) (by decide) (Or.inr ⟨_, rfl⟩) (fun A64 e64 => ?_)
  replace h := h A64 e64
  refine x_aload_n dX13_init_192 rfl ?_
  refine x_sipush_ (v := (500 : Int32)) dX13_init_193 (by decide) ?_
  obtain ⟨o65, h⟩ := h
  refine z_newa hG (j := 0) dX13_init_196 (by decide) rfl o65 q378 (fun A66 e66 w66 => ?_)
  replace h := h A66 e66
  refine z_putP hG hO.1 (some A64.n) dX13_init_198 f_X13_74_12 ⟨_, rfl, Or.inr ⟨rfl, rfl, rfl⟩⟩ (kN e66 w66 (kP e64 (kN e63 w63 (kP e61 (kN e60 w60 (kP e58 (kN e57 w57 (kP e55 (kN e54 w54 (kP e52 (kN e51 w51 (kP e49 (kN e48 w48 (kP e46 (kN e45 w45 (kP e43 (kN e42 w42 (kP e40 (kN e39 w39 (kP e37 (kN e36 w36 (kP e34 (kN e33 w33 (kP e31 (kN e30 w30 (kP e28 (kN e27 w27 (kP e25 (kN e24 w24 (kP e22 (kN e21 w21 (kP e19 (kN e18 w18 (kP e16 (kN e15 w15 (kP e13 (kN e12 w12 (kP e10 (kN e9 w9 (kP e7 (kN e6 w6 (kP e4 o3)))))))))))))))))))))))))))))))))))))))))) (by decide) (Or.inr ⟨_, rfl⟩) (fun A67 e67 => ?_)
  replace h := h A67 e67
  refine x_aload_n dX13_init_201 rfl ?_
  refine x_sipush_ (v := (500 : Int32)) dX13_init_202 (by decide) ?_
  obtain ⟨o68, h⟩ := h
  refine z_newa hG (j := 0) dX13_init_205 (by decide) rfl o68 q378 (fun A69 e69 w69 => ?_)
  replace h := h A69 e69
  refine z_putP hG hO.1 (some A67.n) dX13_init_207 f_X13_77_12 ⟨_, rfl, Or.inr ⟨rfl, rfl, rfl⟩⟩ (kN e69 w69 (kP e67 (kN e66 w66 (kP e64 (kN e63 w63 (kP e61 (kN e60 w60 (kP e58 (kN e57 w57 (kP e55 (kN e54 w54 (kP e52 (kN e51 w51 (kP e49 (kN e48 w48 (kP e46 (kN e45 w45 (kP e43 (kN e42 w42 (kP e40 (kN e39 w39 (kP e37 (kN e36 w36 (kP e34 (kN e33 w33 (kP e31 (kN e30 w30 (kP e28 (kN e27 w27 (kP e25 (kN e24 w24 (kP e22 (kN e21 w21 (kP e19 (kN e18 w18 (kP e16 (kN e15 w15 (kP e13 (kN e12 w12 (kP e10 (kN e9 w9 (kP e7 (kN e6 w6 (kP e4 o3)))))))))))))))))))))))))))))))))))))))))))) (by decide) (Or.inr ⟨_, rfl⟩) (fun A70 e70 => ?_)
  replace h := h A70 e70
  refine x_aload_n dX13_init_210 rfl ?_
  refine x_sipush_ (v := (500 : Int32)) dX13_init_211 (by decide) ?_
  obtain ⟨o71, h⟩ := h
  refine z_newa hG (j := 0) dX13_init_214 (by decide) rfl o71 q378 (fun A72 e72 w72 => ?_)
  replace h := h A72 e72
  refine z_putP hG hO.1 (some A70.n) dX13_init_216 f_X13_80_12 ⟨_, rfl, Or.inr ⟨rfl, rfl, rfl⟩⟩ (kN e72 w72 (kP e70 (kN e69 w69 (kP e67 (kN e66 w66 (kP e64 (kN e63 w63 (kP e61 (kN e60 w60 (kP e58 (kN e57 w57 (kP e55 (kN e54 w54 (kP e52 (kN e51 w51 (kP e49 (kN e48 w48 (kP e46 (kN e45 w45 (kP e43 (kN e42 w42 (kP e40 (kN e39 w39 (kP e37 (kN e36 w36 (kP e34 (kN e33 w33 (kP e31 (kN e30 w30 (kP e28 (kN e27 w27 (kP e25 (kN e24 w24 (kP e22 (kN e21 w21 (kP e19 (kN e18 w18 (kP e16 (kN e15 w15 (kP e13 (kN e12 w12 (kP e10 (kN e9 w9 (kP e7 (kN e6 w6 (kP e4 o3)))))))))))))))))))))))))))))))))))))))))))))) (by decide) (Or.inr ⟨_, rfl⟩) (fun A73 e73 => ?_)
  replace h := h A73 e73
  refine x_aload_n dX13_init_219 rfl ?_
  refine x_sipush_ (v := (500 : Int32)) dX13_init_220 (by decide) ?_
  obtain ⟨o74, h⟩ := h
  refine z_newa hG (j := 0) dX13_init_223 (by decide) rfl o74 q378 (fun A75 e75 w75 => ?_)
  replace h := h A75 e75
  refine z_putP hG hO.1 (some A73.n) dX13_init_225 f_X13_83_12 ⟨_, rfl, Or.inr ⟨rfl, rfl, rfl⟩⟩ (kN e75 w75 (kP e73 (kN e72 w72 (kP e70 (kN e69 w69 (kP e67 (kN e66 w66 (kP e64 (kN e63 w63 (kP e61 (kN e60 w60 (kP e58 (kN e57 w57 (kP e55 (kN e54 w54 (kP e52 (kN e51 w51 (kP e49 (kN e48 w48 (kP e46 (kN e45 w45 (kP e43 (kN e42 w42 (kP e40 (kN e39 w39 (kP e37 (kN e36 w36 (kP e34 (kN e33 w33 (kP e31 (kN e30 w30 (kP e28 (kN e27 w27 (kP e25 (kN e24 w24 (kP e22 (kN e21 w21 (kP e19 (kN e18 w18 (kP e16 (kN e15 w15 (kP e13 (kN e12 w12 (kP e10 (kN e9 w9 (kP e7 (kN e6 w6 (kP e4 o3)))))))))))))))))))))))))))))))))))))))))))))))) (by decide) (Or.inr ⟨_, rfl⟩) (fun A76 e76 => ?_)
  replace h := h A76 e76
  refine x_aload_n dX13_init_228 rfl ?_
  refine x_sipush_ (v := (500 : Int32)) dX13_init_229 (by decide) ?_
  obtain ⟨o77, h⟩ := h
  refine z_newa hG (j := 3) dX13_init_232 (by decide) rfl o77 q756 (fun A78 e78 w78 => ?_)
  replace h := h A78 e78
  refine z_putP hG hO.1 (some A76.n) dX13_init_234 f_X13_86_12 ⟨_, rfl, Or.inr ⟨rfl, rfl, rfl⟩⟩ (kN e78 w78 (kP e76 (kN e75 w75 (kP e73 (kN e72 w72 (kP e70 (kN e69 w69 (kP e67 (kN e66 w66 (kP e64 (kN e63 w63 (kP e61 (kN e60 w60 (kP e58 (kN e57 w57 (kP e55 (kN e54 w54 (kP e52 (kN e51 w51 (kP e49 (kN e48 w48 (kP e46 (kN e45 w45 (kP e43 (kN e42 w42 (kP e40 (kN e39 w39 (kP e37 (kN e36 w36 (kP e34 (kN e33 w33 (kP e31 (kN e30 w30 (kP e28 (kN e27 w27 (kP e25 (kN e24 w24 (kP e22 (kN e21 w21 (kP e19 (kN e18 w18 (kP e16 (kN e15 w15 (kP e13 (kN e12 w12 (kP e10 (kN e9 w9 (kP e7 (kN e6 w6 (kP e4 o3)))))))))))))))))))))))))))))))))))))))))))))))))) (by decide) (Or.inr ⟨_, rfl⟩) (fun A79 e79 => ?_)
  replace h := h A79 e79
  refine x_aload_n dX13_init_237 rfl ?_
  refine x_sipush_ (v := (900 : Int32)) dX13_init_238 (by decide) ?_
  obtain ⟨o80, h⟩ := h
  refine z_newa hG (j := 0) dX13_init_241 (by decide) rfl o80 q378 (fun A81 e81 w81 => ?_)
  replace h := h A81 e81
  refine z_putP hG hO.1 (some A79.n) dX13_init_243 f_X13_89_12 ⟨_, rfl, Or.inr ⟨rfl, rfl, rfl⟩⟩ (kN e81 w81 (kP e79 (kN e78 w78 (kP e76 (kN e75 w75 (kP e73 (kN e72 w72 (kP e70 (kN e69 w69 (kP e67 (kN e66 w66 (kP e64 (kN e63 w63 (kP e61 (kN e60 w60 (kP e58 (kN e57 w57 (kP e55 (kN e54 w54 (kP e52 (kN e51 w51 (kP e49 (kN e48 w48 (kP e46 (kN e45 w45 (kP e43 (kN e42 w42 (kP e40 (kN e39 w39 (kP e37 (kN e36 w36 (kP e34 (kN e33 w33 (kP e31 (kN e30 w30 (kP e28 (kN e27 w27 (kP e25 (kN e24 w24 (kP e22 (kN e21 w21 (kP e19 (kN e18 w18 (kP e16 (kN e15 w15 (kP e13 (kN e12 w12 (kP e10 (kN e9 w9 (kP e7 (kN e6 w6 (kP e4 o3)))))))))))))))))))))))))))))))))))))))))))))))))))) (by decide) (Or.inr ⟨_, rfl⟩) (fun A82 e82 => ?_)
  replace h := h A82 e82
  refine x_aload_n dX13_init_246 rfl ?_
  refine x_sipush_ (v := (2001 : Int32)) dX13_init_247 (by decide) ?_
  obtain ⟨o83, h⟩ := h
  refine z_newa hG (j := 0) dX13_init_250 (by decide) rfl o83 q378 (fun A84 e84 w84 => ?_)
  replace h := h A84 e84
  refine z_putP hG hO.1 (some A82.n) dX13_init_252 f_X13_92_12 ⟨_, rfl, Or.inr ⟨rfl, rfl, rfl⟩⟩ (kN e84 w84 (kP e82 (kN e81 w81 (kP e79 (kN e78 w78 (kP e76 (kN e75 w75 (kP e73 (kN e72 w72 (kP e70 (kN e69 w69 (kP e67 (kN e66 w66 (kP e64 (kN e63 w63 (kP e61 (kN e60 w60 (kP e58 (kN e57 w57 (kP e55 (kN e54 w54 (kP e52 (kN e51 w51 (kP e49 (kN e48 w48 (kP e46 (kN e45 w45 (kP e43 (kN e42 w42 (kP e40 (kN e39 w39 (kP e37 (kN e36 w36 (kP e34 (kN e33 w33 (kP e31 (kN e30 w30 (kP e28 (kN e27 w27 (kP e25 (kN e24 w24 (kP e22 (kN e21 w21 (kP e19 (kN e18 w18 (kP e16 (kN e15 w15 (kP e13 (kN e12 w12 (kP e10 (kN e9 w9 (kP e7 (kN e6 w6 (kP e4 o3)))))))))))))))))))))))))))))))))))))))))))))))))))))) (by decide) (Or.inr ⟨_, rfl⟩) (fun A85 e85 => ?_)
  replace h := h A85 e85
  refine x_aload_n dX13_init_255 rfl ?_
  refine x_sipush_ (v := (2001 : Int32)) dX13_init_256 (by decide) ?_
  obtain ⟨o86, h⟩ := h
  refine z_newa hG (j := 0) dX13_init_259 (by decide) rfl o86 q378 (fun A87 e87 w87 => ?_)
  replace h := h A87 e87
  refine z_putP hG hO.1 (some A85.n) dX13_init_261 f_X13_95_12 ⟨_, rfl, Or.inr ⟨rfl, rfl, rfl⟩⟩ (kN e87 w87 (kP e85 (kN e84 w84 (kP e82 (kN e81 w81 (kP e79 (kN e78 w78 (kP e76 (kN e75 w75 (kP e73 (kN e72 w72 (kP e70 (kN e69 w69 (kP e67 (kN e66 w66 (kP e64 (kN e63 w63 (kP e61 (kN e60 w60 (kP e58 (kN e57 w57 (kP e55 (kN e54 w54 (kP e52 (kN e51 w51 (kP e49 (kN e48 w48 (kP e46 (kN e45 w45 (kP e43 (kN e42 w42 (kP e40 (kN e39 w39 (kP e37 (kN e36 w36 (kP e34 (kN e33 w33 (kP e31 (kN e30 w30 (kP e28 (kN e27 w27 (kP e25 (kN e24 w24 (kP e22 (kN e21 w21 (kP e19 (kN e18 w18 (kP e16 (kN e15 w15 (kP e13 (kN e12 w12 (kP e10 (kN e9 w9 (kP e7 (kN e6 w6 (kP e4 o3)))))))))))))))))))))))))))))))))))))))))))))))))))))))) (by decide) (Or.inr ⟨_, rfl⟩) (fun A88 e88 => ?_)
  replace h := h A88 e88
  refine x_aload_n dX13_init_264 rfl ?_
  refine x_sipush_ (v := (2001 : Int32)) dX13_init_265 (by decide) ?_
  obtain ⟨o89, h⟩ := h
  refine z_newa hG (j := 3) dX13_init_268 (by decide) rfl o89 q756 (fun A90 e90 w90 => ?_)
  replace h := h A90 e90
  refine z_putP hG hO.1 (some A88.n) dX13_init_270 f_X13_98_12 ⟨_, rfl, Or.inr ⟨rfl, rfl, rfl⟩⟩ (kN e90 w90 (kP e88 (kN e87 w87 (kP e85 (kN e84 w84 (kP e82 (kN e81 w81 (kP e79 (kN e78 w78 (kP e76 (kN e75 w75 (kP e73 (kN e72 w72 (kP e70 (kN e69 w69 (kP e67 (kN e66 w66 (kP e64 (kN e63 w63 (kP e61 (kN e60 w60 (kP e58 (kN e57 w57 (kP e55 (kN e54 w54 (kP e52 (kN e51 w51 (kP e49 (kN e48 w48 (kP e46 (kN e45 w45 (kP e43 (kN e42 w42 (kP e40 (kN e39 w39 (kP e37 (kN e36 w36 (kP e34 (kN e33 w33 (kP e31 (kN e30 w30 (kP e28 (kN e27 w27 (kP e25 (kN e24 w24 (kP e22 (kN e21 w21 (kP e19 (kN e18 w18 (kP e16 (kN e15 w15 (kP e13 (kN e12 w12 (kP e10 (kN e9 w9 (kP e7 (kN e6 w6 (kP e4 o3)))))))))))))))))))))))))))))))))))))))))))))))))))))))))) (by decide) (Or.inr ⟨_, rfl⟩) (fun A91 e91 => ?_)
  replace h := h A91 e91
  refine x_aload_n dX13_init_273 rfl ?_
  refine x_sipush_ (v := (8008 : Int32)) dX13_init_274 (by decide) ?_
  obtain ⟨o92, h⟩ := h
  refine z_newa hG (j := 0) dX13_init_277 (by decide) rfl o92 q378 (fun A93 e93 w93 => ?_)
  replace h := h A93 e93
  refine z_putP hG hO.1 (some A91.n) dX13_init_279 f_X13_101_12 ⟨_, rfl, Or.inr ⟨rfl, rfl, rfl⟩⟩ (kN e93 w93 (kP e91 (kN e90 w90 (kP e88 (kN e87 w87 (kP e85 (kN e84 w84 (kP e82 (kN e81 w81 (kP e79 (kN e78 w78 (kP e76 (kN e75 w75 (kP e73 (kN e72 w72 (kP e70 (kN e69 w69 (kP e67 (kN e66 w66 (kP e64 (kN e63 w63 (kP e61 (kN e60 w60 (kP e58 (kN e57 w57 (kP e55 (kN e54 w54 (kP e52 (kN e51 w51 (kP e49 (kN e48 w48 (kP e46 (kN e45 w45 (kP e43 (kN e42 w42 (kP e40 (kN e39 w39 (kP e37 (kN e36 w36 (kP e34 (kN e33 w33 (kP e31 (kN e30 w30 (kP e28 (kN e27 w27 (kP e25 (kN e24 w24 (kP e22 (kN e21 w21 (kP e19 (kN e18 w18 (kP e16 (kN e15 w15 (kP e13 (kN e12 w12 (kP e10 (kN e9 w9 (kP e7 (kN e6 w6 (kP e4 o3)))))))))))))))))))))))))))))))))))))))))))))))))))))))))))) (by decide) (Or.inr ⟨_, rfl⟩) (fun A94 e94 => ?_)
  replace h := h A94 e94
  refine x_aload_n dX13_init_282 rfl ?_
  refine x_sipush_ (v := (9000 : Int32)) dX13_init_283 (by decide) ?_
  obtain ⟨o95, h⟩ := h
  refine z_newa hG (j := 0) dX13_init_286 (by decide) rfl o95 q378 (fun A96 e96 w96 => ?_)
  replace h := h A96 e96
  refine z_putP hG hO.1 (some A94.n) dX13_init_288 f_X13_104_12 ⟨_, rfl, Or.inr ⟨rfl, rfl, rfl⟩⟩ (kN e96 w96 (kP e94 (kN e93 w93 (kP e91 (kN e90 w90 (kP e88 (kN e87 w87 (kP e85 (kN e84 w84 (kP e82 (kN e81 w81 (kP e79 (kN e78 w78 (kP e76 (kN e75 w75 (kP e73 (kN e72 w72 (kP e70 (kN e69 w69 (kP e67 (kN e66 w66 (kP e64 (kN e63 w63 (kP e61 (kN e60 w60 (kP e58 (kN e57 w57 (kP e55 (kN e54 w54 (kP e52 (kN e51 w51 (kP e49 (kN e48 w48 (kP e46 (kN e45 w45 (kP e43 (kN e42 w42 (kP e40 (kN e39 w39 (kP e37 (kN e36 w36 (kP e34 (kN e33 w33 (kP e31 (kN e30 w30 (kP e28 (kN e27 w27 (kP e25 (kN e24 w24 (kP e22 (kN e21 w21 (kP e19 (kN e18 w18 (kP e16 (kN e15 w15 (kP e13 (kN e12 w12 (kP e10 (kN e9 w9 (kP e7 (kN e6 w6 (kP e4 o3)))))))))))))))))))))))))))))))))))))))))))))))))))))))))))))) (by decide) (Or.inr ⟨_, rfl⟩) (fun A97 e97 => ?_)
  replace h := h A97 e97
  refine x_aload_n dX13_init_291 rfl ?_
  refine x_sipush_ (v := (9000 : Int32)) dX13_init_292 (by decide) ?_
  obtain ⟨o98, h⟩ := h
  refine z_newa hG (j := 0) dX13_init_295 (by decide) rfl o98 q378 (fun A99 e99 w99 => ?_)
  replace h := h A99 e99
  refine z_putP hG hO.1 (some A97.n) dX13_init_297 f_X13_107_12 ⟨_, rfl, Or.inr ⟨rfl, rfl, rfl⟩⟩ (kN e99 w99 (kP e97 (kN e96 w96 (kP e94 (kN e93 w93 (kP e91 (kN e90 w90 (kP e88 (kN e87 w87 (kP e85 (kN e84 w84 (kP e82 (kN e81 w81 (kP e79 (kN e78 w78 (kP e76 (kN e75 w75 (kP e73 (kN e72 w72 (kP e70 (kN e69 w69 (kP e67 (kN e66 w66 (kP e64 (kN e63 w63 (kP e61 (kN e60 w60 (kP e58 (kN e57 w57 (kP e55 (kN e54 w54 (kP e52 (kN e51 w51 (kP e49 (kN e48 w48 (kP e46 (kN e45 w45 (kP e43 (kN e42 w42 (kP e40 (kN e39 w39 (kP e37 (kN e36 w36 (kP e34 (kN e33 w33 (kP e31 (kN e30 w30 (kP e28 (kN e27 w27 (kP e25 (kN e24 w24 (kP e22 (kN e21 w21 (kP e19 (kN e18 w18 (kP e16 (kN e15 w15 (kP e13 (kN e12 w12 (kP e10 (kN e9 w9 (kP e7 (kN e6 w6 (kP e4 o3)))))))))))))))))))))))))))))))))))))))))))))))))))))))))))))))) (by decide) (Or.inr ⟨_, rfl⟩) (fun A100 e100 => ?_)
  replace h := h A100 e100
  refine x_aload_n dX13_init_300 rfl ?_
  refine x_sipush_ (v := (9000 : Int32)) dX13_init_301 (by decide) ?_
  obtain ⟨o101, h⟩ := h
  refine z_newa hG (j := 0) dX13_init_304 (by decide) rfl o101 q378 (fun A102 e102 w102 => ?_)
  replace h := h A102 e102
  refine z_putP hG hO.1 (some A100.n) dX13_init_306 f_X13_110_12 ⟨_, rfl, Or.inr ⟨rfl, rfl, rfl⟩⟩ (kN e102 w102 (kP e100 (kN e99 w99 (kP e97 (kN e96 w96 (kP e94 (kN e93 w93 (kP e91 (kN e90 w90 (kP e88 (kN e87 w87 (kP e85 (kN e84 w84 (kP e82 (kN e81 w81 (kP e79 (kN e78 w78 (kP e76 (kN e75 w75 (kP e73 (kN e72 w72 (kP e70 (kN e69 w69 (kP e67 (kN e66 w66 (kP e64 (kN e63 w63 (kP e61 (kN e60 w60 (kP e58 (kN e57 w57 (kP e55 (kN e54 w54 (kP e52 (kN e51 w51 (kP e49 (kN e48 w48 (kP e46 (kN e45 w45 (kP e43 (kN e42 w42 (kP e40 (kN e39 w39 (kP e37 (kN e36 w36 (kP e34 (kN e33 w33 (kP e31 (kN e30 w30 (kP e28 (kN e27 w27 (kP e25 (kN e24 w24 (kP e22 (kN e21 w21 (kP e19 (kN e18 w18 (kP e16 (kN e15 w15 (kP e13 (kN e12 w12 (kP e10 (kN e9 w9 (kP e7 (kN e6 w6 (kP e4 o3)))))))))))))))))))))))))))))))))))))))))))))))))))))))))))))))))) (by decide) (Or.inr ⟨_, rfl⟩) (fun A103 e103 => ?_)
  replace h := h A103 e103
  refine x_aload_n dX13_init_309 rfl ?_
  refine x_sipush_ (v := (9000 : Int32)) dX13_init_310 (by decide) ?_
  obtain ⟨o104, h⟩ := h
  refine z_newa hG (j := 0) dX13_init_313 (by decide) rfl o104 q378 (fun A105 e105 w105 => ?_)
  replace h := h A105 e105
  refine z_putP hG hO.1 (some A103.n) dX13_init_315 f_X13_113_12 ⟨_, rfl, Or.inr ⟨rfl, rfl, rfl⟩⟩ (kN e105 w105 (kP e103 (kN e102 w102 (kP e100 (kN e99 w99 (kP e97 (kN e96 w96 (kP e94 (kN e93 w93 (kP e91 (kN e90 w90 (kP e88 (kN e87 w87 (kP e85 (kN e84 w84 (kP e82 (kN e81 w81 (kP e79 (kN e78 w78 (kP e76 (kN e75 w75 (kP e73 (kN e72 w72 (kP e70 (kN e69 w69 (kP e67 (kN e66 w66 (kP e64 (kN e63 w63 (kP e61 (kN e60 w60 (kP e58 (kN e57 w57 (kP e55 (kN e54 w54 (kP e52 (kN e51 w51 (kP e49 (kN e48 w48 (kP e46 (kN e45 w45 (kP e43 (kN e42 w42 (kP e40 (kN e39 w39 (kP e37 (kN e36 w36 (kP e34 (kN e33 w33 (kP e31 (kN e30 w30 (kP e28 (kN e27 w27 (kP e25 (kN e24 w24 (kP e22 (kN e21 w21 (kP e19 (kN e18 w18 (kP e16 (kN e15 w15 (kP e13 (kN e12 w12 (kP e10 (kN e9 w9 (kP e7 (kN e6 w6 (kP e4 o3)))))))))))))))))))))))))))))))))))))))))))))))))))))))))))))))))))) (by decide) (Or.inr ⟨_, rfl⟩) (fun A106 e106 => ?_)
  replace h := h A106 e106
  refine x_aload_n dX13_init_318 rfl ?_
  refine x_sipush_ (v := (600 : Int32)) dX13_init_319 (by decide) ?_
  obtain ⟨o107, h⟩ := h
  refine z_newa hG (j := 0) dX13_init_322 (by decide) rfl o107 q378 (fun A108 e108 w108 => ?_)
  replace h := h A108 e108
  refine z_putP hG hO.1 (some A106.n) dX13_init_324 f_X13_116_12 ⟨_, rfl, Or.inr ⟨rfl, rfl, rfl⟩⟩ (kN e108 w108 (kP e106 (kN e105 w105 (kP e103 (kN e102 w102 (kP e100 (kN e99 w99 (kP e97 (kN e96 w96 (kP e94 (kN e93 w93 (kP e91 (kN e90 w90 (kP e88 (kN e87 w87 (kP e85 (kN e84 w84 (kP e82 (kN e81 w81 (kP e79 (kN e78 w78 (kP e76 (kN e75 w75 (kP e73 (kN e72 w72 (kP e70 (kN e69 w69 (kP e67 (kN e66 w66 (kP e64 (kN e63 w63 (kP e61 (kN e60 w60 (kP e58 (kN e57 w57 (kP e55 (kN e54 w54 (kP e52 (kN e51 w51 (kP e49 (kN e48 w48 (kP e46 (kN e45 w45 (kP e43 (kN e42 w42 (kP e40 (kN e39 w39 (kP e37 (kN e36 w36 (kP e34 (kN e33 w33 (kP e31 (kN e30 w30 (kP e28 (kN e27 w27 (kP e25 (kN e24 w24 (kP e22 (kN e21 w21 (kP e19 (kN e18 w18 (kP e16 (kN e15 w15 (kP e13 (kN e12 w12 (kP e10 (kN e9 w9 (kP e7 (kN e6 w6 (kP e4 o3)))))))))))))))))))))))))))))))))))))))))))))))))))))))))))))))))))))) (by decide) (Or.inr ⟨_, rfl⟩) (fun A109 e109 => ?_)
  replace h := h A109 e109
  refine x_aload_n dX13_init_327 rfl ?_
  refine x_sipush_ (v := (600 : Int32)) dX13_init_328 (by decide) ?_
  obtain ⟨o110, h⟩ := h
  refine z_newa hG (j := 0) dX13_init_331 (by decide) rfl o110 q378 (fun A111 e111 w111 => ?_)
  replace h := h A111 e111
  refine z_putP hG hO.1 (some A109.n) dX13_init_333 f_X13_119_12 ⟨_, rfl, Or.inr ⟨rfl, rfl, rfl⟩⟩ (kN e111 w111 (kP e109 (kN e108 w108 (kP e106 (kN e105 w105 (kP e103 (kN e102 w102 (kP e100 (kN e99 w99 (kP e97 (kN e96 w96 (kP e94 (kN e93 w93 (kP e91 (kN e90 w90 (kP e88 (kN e87 w87 (kP e85 (kN e84 w84 (kP e82 (kN e81 w81 (kP e79 (kN e78 w78 (kP e76 (kN e75 w75 (kP e73 (kN e72 w72 (kP e70 (kN e69 w69 (kP e67 (kN e66 w66 (kP e64 (kN e63 w63 (kP e61 (kN e60 w60 (kP e58 (kN e57 w57 (kP e55 (kN e54 w54 (kP e52 (kN e51 w51 (kP e49 (kN e48 w48 (kP e46 (kN e45 w45 (kP e43 (kN e42 w42 (kP e40 (kN e39 w39 (kP e37 (kN e36 w36 (kP e34 (kN e33 w33 (kP e31 (kN e30 w30 (kP e28 (kN e27 w27 (kP e25 (kN e24 w24 (kP e22 (kN e21 w21 (kP e19 (kN e18 w18 (kP e16 (kN e15 w15 (kP e13 (kN e12 w12 (kP e10 (kN e9 w9 (kP e7 (kN e6 w6 (kP e4 o3)))))))))))))))))))))))))))))))))))))))))))))))))))))))))))))))))))))))) (by decide) (Or.inr ⟨_, rfl⟩) (fun A112 e112 => ?_)
  replace h := h A112 e112
  refine x_aload_n dX13_init_336 rfl ?_
  refine x_sipush_ (v := (600 : Int32)) dX13_init_337 (by decide) ?_
  obtain ⟨o113, h⟩ := h
  refine z_newa hG (j := 0) dX13_init_340 (by decide) rfl o113 q378 (fun A114 e114 w114 => ?_)
  replace h := h A114 e114
  refine z_putP hG hO.1 (some A112.n) dX13_init_342 f_X13_122_12 ⟨_, rfl, Or.inr ⟨rfl, rfl, rfl⟩⟩ (kN e114 w114 (kP e112 (kN e111 w111 (kP e109 (kN e108 w108 (kP e106 (kN e105 w105 (kP e103 (kN e102 w102 (kP e100 (kN e99 w99 (kP e97 (kN e96 w96 (kP e94 (kN e93 w93 (kP e91 (kN e90 w90 (kP e88 (kN e87 w87 (kP e85 (kN e84 w84 (kP e82 (kN e81 w81 (kP e79 (kN e78 w78 (kP e76 (kN e75 w75 (kP e73 (kN e72 w72 (kP e70 (kN e69 w69 (kP e67 (kN e66 w66 (kP e64 (kN e63 w63 (kP e61 (kN e60 w60 (kP e58 (kN e57 w57 (kP e55 (kN e54 w54 (kP e52 (kN e51 w51 (kP e49 (kN e48 w48 (kP e46 (kN e45 w45 (kP e43 (kN e42 w42 (kP e40 (kN e39 w39 (kP e37 (kN e36 w36 (kP e34 (kN e33 w33 (kP e31 (kN e30 w30 (kP e28 (kN e27 w27 (kP e25 (kN e24 w24 (kP e22 (kN e21 w21 (kP e19 (kN e18 w18 (kP e16 (kN e15 w15 (kP e13 (kN e12 w12 (kP e10 (kN e9 w9 (kP e7 (kN e6 w6 (kP e4 o3)))))))))))))))))))))))))))))))))))))))))))))))))))))))))))))))))))))))))) (by decide) (Or.inr ⟨_, rfl⟩) (fun A115 e115 => ?_)
  replace h := h A115 e115
  refine x_aload_n dX13_init_345 rfl ?_
  refine x_ldc hG dX13_init_346 q2998 ?_
  obtain ⟨o116, h⟩ := h
  refine z_newa hG (j := 0) dX13_init_348 (by decide) rfl o116 q378 (fun A117 e117 w117 => ?_)
  replace h := h A117 e117
  refine z_putP hG hO.1 (some A115.n) dX13_init_350 f_X13_126_12 ⟨_, rfl, Or.inr ⟨rfl, rfl, rfl⟩⟩ (kN e117 w117 (kP e115 (kN e114 w114 (kP e112 (kN e111 w111 (kP e109 (kN e108 w108 (kP e106 (kN e105 w105 (kP e103 (kN e102 w102 (kP e100 (kN e99 w99 (kP e97 (kN e96 w96 (kP e94 (kN e93 w93 (kP e91 (kN e90 w90 (kP e88 (kN e87 w87 (kP e85 (kN e84 w84 (kP e82 (kN e81 w81 (kP e79 (kN e78 w78 (kP e76 (kN e75 w75 (kP e73 (kN e72 w72 (kP e70 (kN e69 w69 (kP e67 (kN e66 w66 (kP e64 (kN e63 w63 (kP e61 (kN e60 w60 (kP e58 (kN e57 w57 (kP e55 (kN e54 w54 (kP e52 (kN e51 w51 (kP e49 (kN e48 w48 (kP e46 (kN e45 w45 (kP e43 (kN e42 w42 (kP e40 (kN e39 w39 (kP e37 (kN e36 w36 (kP e34 (kN e33 w33 (kP e31 (kN e30 w30 (kP e28 (kN e27 w27 (kP e25 (kN e24 w24 (kP e22 (kN e21 w21 (kP e19 (kN e18 w18 (kP e16 (kN e15 w15 (kP e13 (kN e12 w12 (kP e10 (kN e9 w9 (kP e7 (kN e6 w6 (kP e4 o3)))))))))))))))))))))))))))))))))))))))))))))))))))))))))))))))))))))))))))) (by decide) (Or.inr ⟨_, rfl⟩) (fun A118 e118 => ?_)
  replace h := h A118 e118
  refine x_aload_n dX13_init_353 rfl ?_
  refine x_sipush_ (v := (500 : Int32)) dX13_init_354 (by decide) ?_
  obtain ⟨o119, h⟩ := h
  refine z_newa hG (j := 0) dX13_init_357 (by decide) rfl o119 q378 (fun A120 e120 w120 => ?_)
  replace h := h A120 e120
  refine z_putP hG hO.1 (some A118.n) dX13_init_359 f_X13_129_12 ⟨_, rfl, Or.inr ⟨rfl, rfl, rfl⟩⟩ (kN e120 w120 (kP e118 (kN e117 w117 (kP e115 (kN e114 w114 (kP e112 (kN e111 w111 (kP e109 (kN e108 w108 (kP e106 (kN e105 w105 (kP e103 (kN e102 w102 (kP e100 (kN e99 w99 (kP e97 (kN e96 w96 (kP e94 (kN e93 w93 (kP e91 (kN e90 w90 (kP e88 (kN e87 w87 (kP e85 (kN e84 w84 (kP e82 (kN e81 w81 (kP e79 (kN e78 w78 (kP e76 (kN e75 w75 (kP e73 (kN e72 w72 (kP e70 (kN e69 w69 (kP e67 (kN e66 w66 (kP e64 (kN e63 w63 (kP e61 (kN e60 w60 (kP e58 (kN e57 w57 (kP e55 (kN e54 w54 (kP e52 (kN e51 w51 (kP e49 (kN e48 w48 (kP e46 (kN e45 w45 (kP e43 (kN e42 w42 (kP e40 (kN e39 w39 (kP e37 (kN e36 w36 (kP e34 (kN e33 w33 (kP e31 (kN e30 w30 (kP e28 (kN e27 w27 (kP e25 (kN e24 w24 (kP e22 (kN e21 w21 (kP e19 (kN e18 w18 (kP e16 (kN e15 w15 (kP e13 (kN e12 w12 (kP e10 (kN e9 w9 (kP e7 (kN e6 w6 (kP e4 o3)))))))))))))))))))))))))))))))))))))))))))))))))))))))))))))))))))))))))))))) (by decide) (Or.inr ⟨_, rfl⟩) (fun A121 e121 => ?_)
  replace h := h A121 e121
  refine x_aload_n dX13_init_362 rfl ?_
  refine x_sipush_ (v := (2000 : Int32)) dX13_init_363 (by decide) ?_
  obtain ⟨o122, h⟩ := h
  refine z_newa hG (j := 0) dX13_init_366 (by decide) rfl o122 q378 (fun A123 e123 w123 => ?_)
  replace h := h A123 e123
  refine z_putP hG hO.1 (some A121.n) dX13_init_368 f_X13_132_12 ⟨_, rfl, Or.inr ⟨rfl, rfl, rfl⟩⟩ (kN e123 w123 (kP e121 (kN e120 w120 (kP e118 (kN e117 w117 (kP e115 (kN e114 w114 (kP e112 (kN e111 w111 (kP e109 (kN e108 w108 (kP e106 (kN e105 w105 (kP e103 (kN e102 w102 (kP e100 (kN e99 w99 (kP e97 (kN e96 w96 (kP e94 (kN e93 w93 (kP e91 (kN e90 w90 (kP e88 (kN e87 w87 (kP e85 (kN e84 w84 (kP e82 (kN e81 w81 (kP e79 (kN e78 w78 (kP e76 (kN e75 w75 (kP e73 (kN e72 w72 (kP e70 (kN e69 w69 (kP e67 (kN e66 w66 (kP e64 (kN e63 w63 (kP e61 (kN e60 w60 (kP e58 (kN e57 w57 (kP e55 (kN e54 w54 (kP e52 (kN e51 w51 (kP e49 (kN e48 w48 (kP e46 (kN e45 w45 (kP e43 (kN e42 w42 (kP e40 (kN e39 w39 (kP e37 (kN e36 w36 (kP e34 (kN e33 w33 (kP e31 (kN e30 w30 (kP e28 (kN e27 w27 (kP e25 (kN e24 w24 (kP e22 (kN e21 w21 (kP e19 (kN e18 w18 (kP e16 (kN e15 w15 (kP e13 (kN e12 w12 (kP e10 (kN e9 w9 (kP e7 (kN e6 w6 (kP e4 o3)))))))))))))))))))))))))))))))))))))))))))))))))))))))))))))))))))))))))))))))) (by decide) (Or.inr ⟨_, rfl⟩) (fun A124 e124 => ?_)
  replace h := h A124 e124
  refine x_aload_n dX13_init_371 rfl ?_
  refine x_sipush_ (v := (20000 : Int32)) dX13_init_372 (by decide) ?_
  obtain ⟨o125, h⟩ := h
  refine z_newa hG (j := 0) dX13_init_375 (by decide) rfl o125 q378 (fun A126 e126 w126 => ?_)
  replace h := h A126 e126
  refine z_putP hG hO.1 (some A124.n) dX13_init_377 f_X13_135_12 ⟨_, rfl, Or.inr ⟨rfl, rfl, rfl⟩⟩ (kN e126 w126 (kP e124 (kN e123 w123 (kP e121 (kN e120 w120 (kP e118 (kN e117 w117 (kP e115 (kN e114 w114 (kP e112 (kN e111 w111 (kP e109 (kN e108 w108 (kP e106 (kN e105 w105 (kP e103 (kN e102 w102 (kP e100 (kN e99 w99 (kP e97 (kN e96 w96 (kP e94 (kN e93 w93 (kP e91 (kN e90 w90 (kP e88 (kN e87 w87 (kP e85 (kN e84 w84 (kP e82 (kN e81 w81 (kP e79 (kN e78 w78 (kP e76 (kN e75 w75 (kP e73 (kN e72 w72 (kP e70 (kN e69 w69 (kP e67 (kN e66 w66 (kP e64 (kN e63 w63 (kP e61 (kN e60 w60 (kP e58 (kN e57 w57 (kP e55 (kN e54 w54 (kP e52 (kN e51 w51 (kP e49 (kN e48 w48 (kP e46 (kN e45 w45 (kP e43 (kN e42 w42 (kP e40 (kN e39 w39 (kP e37 (kN e36 w36 (kP e34 (kN e33 w33 (kP e31 (kN e30 w30 (kP e28 (kN e27 w27 (kP e25 (kN e24 w24 (kP e22 (kN e21 w21 (kP e19 (kN e18 w18 (kP e16 (kN e15 w15 (kP e13 (kN e12 w12 (kP e10 (kN e9 w9 (kP e7 (kN e6 w6 (kP e4 o3)))))))))))))))))))))))))))))))))))))))))))))))))))))))))))))))))))))))))))))))))) (by decide) (Or.inr ⟨_, rfl⟩) (fun A127 e127 => ?_)
  replace h := h A127 e127
  refine x_aload_n dX13_init_380 rfl ?_
  refine x_sipush_ (v := (520 : Int32)) dX13_init_381 (by decide) ?_
  obtain ⟨o128, h⟩ := h
  refine z_newa hG (j := 0) dX13_init_384 (by decide) rfl o128 q378 (fun A129 e129 w129 => ?_)
  replace h := h A129 e129
  refine z_putP hG hO.1 (some A127.n) dX13_init_386 f_X13_138_12 ⟨_, rfl, Or.inr ⟨rfl, rfl, rfl⟩⟩ (kN e129 w129 (kP e127 (kN e126 w126 (kP e124 (kN e123 w123 (kP e121 (kN e120 w120 (kP e118 (kN e117 w117 (kP e115 (kN e114 w114 (kP e112 (kN e111 w111 (kP e109 (kN e108 w108 (kP e106 (kN e105 w105 (kP e103 (kN e102 w102 (kP e100 (kN e99 w99 (kP e97 (kN e96 w96 (kP e94 (kN e93 w93 (kP e91 (kN e90 w90 (kP e88 (kN e87 w87 (kP e85 (kN e84 w84 (kP e82 (kN e81 w81 (kP e79 (kN e78 w78 (kP e76 (kN e75 w75 (kP e73 (kN e72 w72 (kP e70 (kN e69 w69 (kP e67 (kN e66 w66 (kP e64 (kN e63 w63 (kP e61 (kN e60 w60 (kP e58 (kN e57 w57 (kP e55 (kN e54 w54 (kP e52 (kN e51 w51 (kP e49 (kN e48 w48 (kP e46 (kN e45 w45 (kP e43 (kN e42 w42 (kP e40 (kN e39 w39 (kP e37 (kN e36 w36 (kP e34 (kN e33 w33 (kP e31 (kN e30 w30 (kP e28 (kN e27 w27 (kP e25 (kN e24 w24 (kP e22 (kN e21 w21 (kP e19 (kN e18 w18 (kP e16 (kN e15 w15 (kP e13 (kN e12 w12 (kP e10 (kN e9 w9 (kP e7 (kN e6 w6 (kP e4 o3)))))))))))))))))))))))))))))))))))))))))))))))))))))))))))))))))))))))))))))))))))) (by decide) (Or.inr ⟨_, rfl⟩) (fun A130 e130 => ?_)
  replace h := h A130 e130
  refine x_aload_n dX13_init_389 rfl ?_
  refine x_sipush_ (v := (520 : Int32)) dX13_init_390 (by decide) ?_
  obtain ⟨o131, h⟩ := h
  refine z_newa hG (j := 0) dX13_init_393 (by decide) rfl o131 q378 (fun A132 e132 w132 => ?_)
  replace h := h A132 e132
  refine z_putP hG hO.1 (some A130.n) dX13_init_395 f_X13_141_12 ⟨_, rfl, Or.inr ⟨rfl, rfl, rfl⟩⟩ (kN e132 w132 (kP e130 (kN e129 w129 (kP e127 (kN e126 w126 (kP e124 (kN e123 w123 (kP e121 (kN e120 w120 (kP e118 (kN e117 w117 (kP e115 (kN e114 w114 (kP e112 (kN e111 w111 (kP e109 (kN e108 w108 (kP e106 (kN e105 w105 (kP e103 (kN e102 w102 (kP e100 (kN e99 w99 (kP e97 (kN e96 w96 (kP e94 (kN e93 w93 (kP e91 (kN e90 w90 (kP e88 (kN e87 w87 (kP e85 (kN e84 w84 (kP e82 (kN e81 w81 (kP e79 (kN e78 w78 (kP e76 (kN e75 w75 (kP e73 (kN e72 w72 (kP e70 (kN e69 w69 (kP e67 (kN e66 w66 (kP e64 (kN e63 w63 (kP e61 (kN e60 w60 (kP e58 (kN e57 w57 (kP e55 (kN e54 w54 (kP e52 (kN e51 w51 (kP e49 (kN e48 w48 (kP e46 (kN e45 w45 (kP e43 (kN e42 w42 (kP e40 (kN e39 w39 (kP e37 (kN e36 w36 (kP e34 (kN e33 w33 (kP e31 (kN e30 w30 (kP e28 (kN e27 w27 (kP e25 (kN e24 w24 (kP e22 (kN e21 w21 (kP e19 (kN e18 w18 (kP e16 (kN e15 w15 (kP e13 (kN e12 w12 (kP e10 (kN e9 w9 (kP e7 (kN e6 w6 (kP e4 o3)))))))))))))))))))))))))))))))))))))))))))))))))))))))))))))))))))))))))))))))))))))) (by decide) (Or.inr ⟨_, rfl⟩) (fun A133 e133 => ?_)
  replace h := h A133 e133
  refine x_aload_n dX13_init_398 rfl ?_
  refine x_sipush_ (v := (520 : Int32)) dX13_init_399 (by decide) ?_
  obtain ⟨o134, h⟩ := h
  refine z_newa hG (j := 0) dX13_init_402 (by decide) rfl o134 q378 (fun A135 e135 w135 => ?_)
  replace h := h A135 e135
  refine z_putP hG hO.1 (some A133.n) dX13_init_404 f_X13_144_12 ⟨_, rfl, Or.inr ⟨rfl, rfl, rfl⟩⟩ (kN e135 w135 (kP e133 (kN e132 w132 (kP e130 (kN e129 w129 (kP e127 (kN e126 w126 (kP e124 (kN e123 w123 (kP e121 (kN e120 w120 (kP e118 (kN e117 w117 (kP e115 (kN e114 w114 (kP e112 (kN e111 w111 (kP e109 (kN e108 w108 (kP e106 (kN e105 w105 (kP e103 (kN e102 w102 (kP e100 (kN e99 w99 (kP e97 (kN e96 w96 (kP e94 (kN e93 w93 (kP e91 (kN e90 w90 (kP e88 (kN e87 w87 (kP e85 (kN e84 w84 (kP e82 (kN e81 w81 (kP e79 (kN e78 w78 (kP e76 (kN e75 w75 (kP e73 (kN e72 w72 (kP e70 (kN e69 w69 (kP e67 (kN e66 w66 (kP e64 (kN e63 w63 (kP e61 (kN e60 w60 (kP e58 (kN e57 w57 (kP e55 (kN e54 w54 (kP e52 (kN e51 w51 (kP e49 (kN e48 w48 (kP e46 (kN e45 w45 (kP e43 (kN e42 w42 (kP e40 (kN e39 w39 (kP e37 (kN e36 w36 (kP e34 (kN e33 w33 (kP e31 (kN e30 w30 (kP e28 (kN e27 w27 (kP e25 (kN e24 w24 (kP e22 (kN e21 w21 (kP e19 (kN e18 w18 (kP e16 (kN e15 w15 (kP e13 (kN e12 w12 (kP e10 (kN e9 w9 (kP e7 (kN e6 w6 (kP e4 o3)))))))))))))))))))))))))))))))))))))))))))))))))))))))))))))))))))))))))))))))))))))))) (by decide) (Or.inr ⟨_, rfl⟩) (fun A136 e136 => ?_)
  replace h := h A136 e136
  refine x_aload_n dX13_init_407 rfl ?_
  refine x_sipush_ (v := (4096 : Int32)) dX13_init_408 (by decide) ?_
  obtain ⟨o137, h⟩ := h
  refine z_newa hG (j := 0) dX13_init_411 (by decide) rfl o137 q378 (fun A138 e138 w138 => ?_)
  replace h := h A138 e138
  refine z_putP hG hO.1 (some A136.n) dX13_init_413 f_X13_147_12 ⟨_, rfl, Or.inr ⟨rfl, rfl, rfl⟩⟩ (kN e138 w138 (kP e136 (kN e135 w135 (kP e133 (kN e132 w132 (kP e130 (kN e129 w129 (kP e127 (kN e126 w126 (kP e124 (kN e123 w123 (kP e121 (kN e120 w120 (kP e118 (kN e117 w117 (kP e115 (kN e114 w114 (kP e112 (kN e111 w111 (kP e109 (kN e108 w108 (kP e106 (kN e105 w105 (kP e103 (kN e102 w102 (kP e100 (kN e99 w99 (kP e97 (kN e96 w96 (kP e94 (kN e93 w93 (kP e91 (kN e90 w90 (kP e88 (kN e87 w87 (kP e85 (kN e84 w84 (kP e82 (kN e81 w81 (kP e79 (kN e78 w78 (kP e76 (kN e75 w75 (kP e73 (kN e72 w72 (kP e70 (kN e69 w69 (kP e67 (kN e66 w66 (kP e64 (kN e63 w63 (kP e61 (kN e60 w60 (kP e58 (kN e57 w57 (kP e55 (kN e54 w54 (kP e52 (kN e51 w51 (kP e49 (kN e48 w48 (kP e46 (kN e45 w45 (kP e43 (kN e42 w42 (kP e40 (kN e39 w39 (kP e37 (kN e36 w36 (kP e34 (kN e33 w33 (kP e31 (kN e30 w30 (kP e28 (kN e27 w27 (kP e25 (kN e24 w24 (kP e22 (kN e21 w21 (kP e19 (kN e18 w18 (kP e16 (kN e15 w15 (kP e13 (kN e12 w12 (kP e10 (kN e9 w9 (kP e7 (kN e6 w6 (kP e4 o3)))))))))))))))))))))))))))))))))))))))))))))))))))))))))))))))))))))))))))))))))))))))))) (by decide) (Or.inr ⟨_, rfl⟩) (fun A139 e139 => ?_)
  replace h := h A139 e139
  refine x_aload_n dX13_init_416 rfl ?_
  refine x_bipush_ (v := (33 : Int32)) dX13_init_417 (by decide) ?_
  obtain ⟨o140, h⟩ := h
  refine z_newa hG (j := 0) dX13_init_419 (by decide) rfl o140 q378 (fun A141 e141 w141 => ?_)
  replace h := h A141 e141
  refine z_putP hG hO.1 (some A139.n) dX13_init_421 f_X13_150_12 ⟨_, rfl, Or.inr ⟨rfl, rfl, rfl⟩⟩ (kN e141 w141 (kP e139 (kN e138 w138 (kP e136 (kN e135 w135 (kP e133 (kN e132 w132 (kP e130 (kN e129 w129 (kP e127 (kN e126 w126 (kP e124 (kN e123 w123 (kP e121 (kN e120 w120 (kP e118 (kN e117 w117 (kP e115 (kN e114 w114 (kP e112 (kN e111 w111 (kP e109 (kN e108 w108 (kP e106 (kN e105 w105 (kP e103 (kN e102 w102 (kP e100 (kN e99 w99 (kP e97 (kN e96 w96 (kP e94 (kN e93 w93 (kP e91 (kN e90 w90 (kP e88 (kN e87 w87 (kP e85 (kN e84 w84 (kP e82 (kN e81 w81 (kP e79 (kN e78 w78 (kP e76 (kN e75 w75 (kP e73 (kN e72 w72 (kP e70 (kN e69 w69 (kP e67 (kN e66 w66 (kP e64 (kN e63 w63 (kP e61 (kN e60 w60 (kP e58 (kN e57 w57 (kP e55 (kN e54 w54 (kP e52 (kN e51 w51 (kP e49 (kN e48 w48 (kP e46 (kN e45 w45 (kP e43 (kN e42 w42 (kP e40 (kN e39 w39 (kP e37 (kN e36 w36 (kP e34 (kN e33 w33 (kP e31 (kN e30 w30 (kP e28 (kN e27 w27 (kP e25 (kN e24 w24 (kP e22 (kN e21 w21 (kP e19 (kN e18 w18 (kP e16 (kN e15 w15 (kP e13 (kN e12 w12 (kP e10 (kN e9 w9 (kP e7 (kN e6 w6 (kP e4 o3)))))))))))))))))))))))))))))))))))))))))))))))))))))))))))))))))))))))))))))))))))))))))))) (by decide) (Or.inr ⟨_, rfl⟩) (fun A142 e142 => ?_)
  replace h := h A142 e142
  exact x_vret dX13_init_424 rfl ⟨rfl, h⟩
end W114
