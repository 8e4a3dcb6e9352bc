/-! ===== 109.htoken (tools/h045.py) ===== -/
set_option maxRecDepth 100000
section W109
variable {G : xG}
def w_X2_now (G : xG) (p : Nat) (k : Int32) (Q : Int32 → xA → Prop) (A : xA) : Prop := xok G A → A.tg p = 3 ∧ ((((A.I p 8) ≤ ((A.I p 9) + k) → Q (-1 : Int32) A) ∧ (¬ (A.I p 8) ≤ ((A.I p 9) + k) → ∃ b2 : Nat, (A.P p 7) = some b2 ∧ (A.tg b2 = 202 ∧ (vp_in ((A.I p 9) + k) (A.ln b2) ∧ (Q ((A.I b2 (ix ((A.I p 9) + k))) &&& (255 : Int32)) A))))))
theorem m_X2_now (hG : xOK G) (hO : xHO G) {dp : Nat} {p : Nat} {k : Int32} {Q : Int32 → xA → Prop} {A : xA} (h : w_X2_now G p k Q A) : MX G (dp + 0) kX2_now [.ref p, .int k] A (hI Q) := by
  unfold w_X2_now at h
  refine MX.of rfl (Nat.le_of_ble_eq_true rfl) ?_
  change X _ _ _ _ _ _ [some (.ref p), some (.int k)] _
  refine X.xok (fun w0 => ?_)
  replace h := h w0
  refine x_aload_n dX2_now_0 rfl ?_
  obtain ⟨o1, h⟩ := h
  refine x_get (v := .int (A.I p 9)) hG dX2_now_1 f_X2_164_2 o1 rfl ?_
  refine x_iload_n dX2_now_4 rfl ?_
  refine x_iadd dX2_now_5 ?_
  refine x_aload_n dX2_now_6 rfl ?_
  refine x_get (v := .int (A.I p 8)) hG dX2_now_7 f_X2_160_2 o1 rfl ?_
  refine x_icmp_ge (tgt := 31) dX2_now_10 (by decide) (fun c10 => ?_) (fun c10 => ?_)
  · replace h := h.1 c10
    refine x_iconst_ (v := (-1 : Int32)) dX2_now_31 (by decide) ?_
    exact x_iret dX2_now_32 rfl ⟨_, rfl, h⟩
  · replace h := h.2 c10
    refine x_aload_n dX2_now_13 rfl ?_
    refine x_get (v := va_rf (A.P p 7)) hG dX2_now_14 f_X2_156_2 o1 rfl ?_
    refine x_aload_n dX2_now_17 rfl ?_
    refine x_get (v := .int (A.I p 9)) hG dX2_now_18 f_X2_164_2 o1 rfl ?_
    refine x_iload_n dX2_now_21 rfl ?_
    refine x_iadd dX2_now_22 ?_
    obtain ⟨b2, e2, h⟩ := h
    rw [e2]
    obtain ⟨o3, h⟩ := h
    obtain ⟨o4, h⟩ := h
    refine x_bald hG dX2_now_23 o3 o4 ?_
    refine x_sipush_ (v := (255 : Int32)) dX2_now_24 (by decide) ?_
    refine x_iand dX2_now_27 ?_
    refine x_goto (tgt := 32) dX2_now_28 (by decide) ?_
    exact x_iret dX2_now_32 rfl ⟨_, rfl, h⟩
def w_X2_skip (G : xG) (p : Nat) (Q : Int32 → xA → Prop) (A : xA) : Prop := xok G A → ∃ L1 : Nat → xA → Prop, (∃ n1 : Nat, L1 n1 A) ∧ (∀ (n1 : Nat) (A1 : xA), L1 n1 A1 → A1.tg p = 3 ∧ (∃ R2 : Int32 → xA → Prop, w_X2_now G p (0 : Int32) R2 A1 ∧ (∀ (v2 : Int32) (A2 : xA), xok G A2 → R2 v2 A2 → (((v2 = (10 : Int32) → A2.tg p = 3 ∧ (∃ R4 : Int32 → xA → Prop, w_X2_now G p (0 : Int32) R4 A2 ∧ (∀ (v4 : Int32) (A4 : xA), xok G A4 → R4 v4 A4 → (((v4 = (47 : Int32) → A4.tg p = 3 ∧ (∃ R7 : Int32 → xA → Prop, w_X2_now G p (1 : Int32) R7 A4 ∧ (∀ (v7 : Int32) (A7 : xA), xok G A7 → R7 v7 A7 → (A7.tg p = 3 ∧ (∀ A9 : xA, A9 = A7.setI p 9 ((A7.I p 9) + (2 : Int32)) → (∃ L10 : Nat → xA → Prop, (∃ n10 : Nat, L10 n10 A9) ∧ (∀ (n10 : Nat) (A10 : xA), L10 n10 A10 → A10.tg p = 3 ∧ (∃ J12 : xA → Prop, (∀ (A12 : xA), J12 A12 → A12.tg p = 3 ∧ ((((A12.I p 9) = (A12.I p 8) → (((if v7 = (47 : Int32) then (1 : Int32) else (0 : Int32)) = 0 → Q (A4.I p 9) A12) ∧ (¬ (if v7 = (47 : Int32) then (1 : Int32) else (0 : Int32)) = 0 → ∃ J16 : xA → Prop, (∀ (A16 : xA), J16 A16 → (∃ q1 : Nat, q1 < n1 ∧ L1 q1 A16)) ∧ (((A12.I p 8) ≤ (A12.I p 9) → J16 A12) ∧ (¬ (A12.I p 8) ≤ (A12.I p 9) → ∀ A17 : xA, A17 = A12.setI p 9 ((A12.I p 9) + (1 : Int32)) → (J16 A17)))))) ∧ (¬ (A12.I p 9) = (A12.I p 8) → ∃ J14 : xA → Prop, (∀ (A14 : xA), J14 A14 → (∃ q1 : Nat, q1 < n1 ∧ L1 q1 A14)) ∧ (((A12.I p 8) ≤ (A12.I p 9) → J14 A12) ∧ (¬ (A12.I p 8) ≤ (A12.I p 9) → ∀ A15 : xA, A15 = A12.setI p 9 ((A12.I p 9) + (if (if v7 = (47 : Int32) then (1 : Int32) else (0 : Int32)) = 0 then (2 : Int32) else (1 : Int32))) → (J14 A15))))))) ∧ (((A10.I p 8) ≤ (A10.I p 9) → J12 A10) ∧ (¬ (A10.I p 8) ≤ (A10.I p 9) → (((if v7 = (47 : Int32) then (1 : Int32) else (0 : Int32)) = 0 → ∃ R18 : Int32 → xA → Prop, w_X2_now G p (0 : Int32) R18 A10 ∧ (∀ (v18 : Int32) (A18 : xA), xok G A18 → R18 v18 A18 → (((v18 = (42 : Int32) → A18.tg p = 3 ∧ (∃ R21 : Int32 → xA → Prop, w_X2_now G p (1 : Int32) R21 A18 ∧ (∀ (v21 : Int32) (A21 : xA), xok G A21 → R21 v21 A21 → (((v21 = (47 : Int32) → J12 A21) ∧ (¬ v21 = (47 : Int32) → A21.tg p = 3 ∧ (∀ A24 : xA, A24 = A21.setI p 9 ((A21.I p 9) + (1 : Int32)) → ((∃ q10 : Nat, q10 < n10 ∧ L10 q10 A24))))))))) ∧ (¬ v18 = (42 : Int32) → A18.tg p = 3 ∧ (∀ A20 : xA, A20 = A18.setI p 9 ((A18.I p 9) + (1 : Int32)) → ((∃ q10 : Nat, q10 < n10 ∧ L10 q10 A20)))))))) ∧ (¬ (if v7 = (47 : Int32) then (1 : Int32) else (0 : Int32)) = 0 → ∃ R25 : Int32 → xA → Prop, w_X2_now G p (0 : Int32) R25 A10 ∧ (∀ (v25 : Int32) (A25 : xA), xok G A25 → R25 v25 A25 → (((v25 = (10 : Int32) → J12 A25) ∧ (¬ v25 = (10 : Int32) → A25.tg p = 3 ∧ (∀ A27 : xA, A27 = A25.setI p 9 ((A25.I p 9) + (1 : Int32)) → ((∃ q10 : Nat, q10 < n10 ∧ L10 q10 A27))))))))))))))))))) ∧ (¬ v4 = (47 : Int32) → A4.tg p = 3 ∧ (∀ A29 : xA, A29 = A4.setI p 9 ((A4.I p 9) + (1 : Int32)) → ((∃ q1 : Nat, q1 < n1 ∧ L1 q1 A29))))))))) ∧ (¬ v2 = (10 : Int32) → A2.tg p = 3 ∧ (∃ R30 : Int32 → xA → Prop, w_X2_now G p (0 : Int32) R30 A2 ∧ (∀ (v30 : Int32) (A30 : xA), xok G A30 → R30 v30 A30 → (((v30 = (32 : Int32) → A30.tg p = 3 ∧ (∃ R32 : Int32 → xA → Prop, w_X2_now G p (0 : Int32) R32 A30 ∧ (∀ (v32 : Int32) (A32 : xA), xok G A32 → R32 v32 A32 → (((v32 = (47 : Int32) → A32.tg p = 3 ∧ (∃ R35 : Int32 → xA → Prop, w_X2_now G p (1 : Int32) R35 A32 ∧ (∀ (v35 : Int32) (A35 : xA), xok G A35 → R35 v35 A35 → (A35.tg p = 3 ∧ (∀ A37 : xA, A37 = A35.setI p 9 ((A35.I p 9) + (2 : Int32)) → (∃ L38 : Nat → xA → Prop, (∃ n38 : Nat, L38 n38 A37) ∧ (∀ (n38 : Nat) (A38 : xA), L38 n38 A38 → A38.tg p = 3 ∧ (∃ J40 : xA → Prop, (∀ (A40 : xA), J40 A40 → A40.tg p = 3 ∧ ((((A40.I p 9) = (A40.I p 8) → (((if v35 = (47 : Int32) then (1 : Int32) else (0 : Int32)) = 0 → Q (A32.I p 9) A40) ∧ (¬ (if v35 = (47 : Int32) then (1 : Int32) else (0 : Int32)) = 0 → ∃ J44 : xA → Prop, (∀ (A44 : xA), J44 A44 → (∃ q1 : Nat, q1 < n1 ∧ L1 q1 A44)) ∧ (((A40.I p 8) ≤ (A40.I p 9) → J44 A40) ∧ (¬ (A40.I p 8) ≤ (A40.I p 9) → ∀ A45 : xA, A45 = A40.setI p 9 ((A40.I p 9) + (1 : Int32)) → (J44 A45)))))) ∧ (¬ (A40.I p 9) = (A40.I p 8) → ∃ J42 : xA → Prop, (∀ (A42 : xA), J42 A42 → (∃ q1 : Nat, q1 < n1 ∧ L1 q1 A42)) ∧ (((A40.I p 8) ≤ (A40.I p 9) → J42 A40) ∧ (¬ (A40.I p 8) ≤ (A40.I p 9) → ∀ A43 : xA, A43 = A40.setI p 9 ((A40.I p 9) + (if (if v35 = (47 : Int32) then (1 : Int32) else (0 : Int32)) = 0 then (2 : Int32) else (1 : Int32))) → (J42 A43))))))) ∧ (((A38.I p 8) ≤ (A38.I p 9) → J40 A38) ∧ (¬ (A38.I p 8) ≤ (A38.I p 9) → (((if v35 = (47 : Int32) then (1 : Int32) else (0 : Int32)) = 0 → ∃ R46 : Int32 → xA → Prop, w_X2_now G p (0 : Int32) R46 A38 ∧ (∀ (v46 : Int32) (A46 : xA), xok G A46 → R46 v46 A46 → (((v46 = (42 : Int32) → A46.tg p = 3 ∧ (∃ R49 : Int32 → xA → Prop, w_X2_now G p (1 : Int32) R49 A46 ∧ (∀ (v49 : Int32) (A49 : xA), xok G A49 → R49 v49 A49 → (((v49 = (47 : Int32) → J40 A49) ∧ (¬ v49 = (47 : Int32) → A49.tg p = 3 ∧ (∀ A52 : xA, A52 = A49.setI p 9 ((A49.I p 9) + (1 : Int32)) → ((∃ q38 : Nat, q38 < n38 ∧ L38 q38 A52))))))))) ∧ (¬ v46 = (42 : Int32) → A46.tg p = 3 ∧ (∀ A48 : xA, A48 = A46.setI p 9 ((A46.I p 9) + (1 : Int32)) → ((∃ q38 : Nat, q38 < n38 ∧ L38 q38 A48)))))))) ∧ (¬ (if v35 = (47 : Int32) then (1 : Int32) else (0 : Int32)) = 0 → ∃ R53 : Int32 → xA → Prop, w_X2_now G p (0 : Int32) R53 A38 ∧ (∀ (v53 : Int32) (A53 : xA), xok G A53 → R53 v53 A53 → (((v53 = (10 : Int32) → J40 A53) ∧ (¬ v53 = (10 : Int32) → A53.tg p = 3 ∧ (∀ A55 : xA, A55 = A53.setI p 9 ((A53.I p 9) + (1 : Int32)) → ((∃ q38 : Nat, q38 < n38 ∧ L38 q38 A55))))))))))))))))))) ∧ (¬ v32 = (47 : Int32) → A32.tg p = 3 ∧ (∀ A57 : xA, A57 = A32.setI p 9 ((A32.I p 9) + (1 : Int32)) → ((∃ q1 : Nat, q1 < n1 ∧ L1 q1 A57))))))))) ∧ (¬ v30 = (32 : Int32) → A30.tg p = 3 ∧ (∃ R58 : Int32 → xA → Prop, w_X2_now G p (0 : Int32) R58 A30 ∧ (∀ (v58 : Int32) (A58 : xA), xok G A58 → R58 v58 A58 → (((v58 = (47 : Int32) → A58.tg p = 3 ∧ (∃ R60 : Int32 → xA → Prop, w_X2_now G p (1 : Int32) R60 A58 ∧ (∀ (v60 : Int32) (A60 : xA), xok G A60 → R60 v60 A60 → (((v60 = (47 : Int32) → A60.tg p = 3 ∧ (∃ R62 : Int32 → xA → Prop, w_X2_now G p (0 : Int32) R62 A60 ∧ (∀ (v62 : Int32) (A62 : xA), xok G A62 → R62 v62 A62 → (((v62 = (47 : Int32) → A62.tg p = 3 ∧ (∃ R65 : Int32 → xA → Prop, w_X2_now G p (1 : Int32) R65 A62 ∧ (∀ (v65 : Int32) (A65 : xA), xok G A65 → R65 v65 A65 → (A65.tg p = 3 ∧ (∀ A67 : xA, A67 = A65.setI p 9 ((A65.I p 9) + (2 : Int32)) → (∃ L68 : Nat → xA → Prop, (∃ n68 : Nat, L68 n68 A67) ∧ (∀ (n68 : Nat) (A68 : xA), L68 n68 A68 → A68.tg p = 3 ∧ (∃ J70 : xA → Prop, (∀ (A70 : xA), J70 A70 → A70.tg p = 3 ∧ ((((A70.I p 9) = (A70.I p 8) → (((if v65 = (47 : Int32) then (1 : Int32) else (0 : Int32)) = 0 → Q (A62.I p 9) A70) ∧ (¬ (if v65 = (47 : Int32) then (1 : Int32) else (0 : Int32)) = 0 → ∃ J74 : xA → Prop, (∀ (A74 : xA), J74 A74 → (∃ q1 : Nat, q1 < n1 ∧ L1 q1 A74)) ∧ (((A70.I p 8) ≤ (A70.I p 9) → J74 A70) ∧ (¬ (A70.I p 8) ≤ (A70.I p 9) → ∀ A75 : xA, A75 = A70.setI p 9 ((A70.I p 9) + (1 : Int32)) → (J74 A75)))))) ∧ (¬ (A70.I p 9) = (A70.I p 8) → ∃ J72 : xA → Prop, (∀ (A72 : xA), J72 A72 → (∃ q1 : Nat, q1 < n1 ∧ L1 q1 A72)) ∧ (((A70.I p 8) ≤ (A70.I p 9) → J72 A70) ∧ (¬ (A70.I p 8) ≤ (A70.I p 9) → ∀ A73 : xA, A73 = A70.setI p 9 ((A70.I p 9) + (if (if v65 = (47 : Int32) then (1 : Int32) else (0 : Int32)) = 0 then (2 : Int32) else (1 : Int32))) → (J72 A73))))))) ∧ (((A68.I p 8) ≤ (A68.I p 9) → J70 A68) ∧ (¬ (A68.I p 8) ≤ (A68.I p 9) → (((if v65 = (47 : Int32) then (1 : Int32) else (0 : Int32)) = 0 → ∃ R76 : Int32 → xA → Prop, w_X2_now G p (0 : Int32) R76 A68 ∧ (∀ (v76 : Int32) (A76 : xA), xok G A76 → R76 v76 A76 → (((v76 = (42 : Int32) → A76.tg p = 3 ∧ (∃ R79 : Int32 → xA → Prop, w_X2_now G p (1 : Int32) R79 A76 ∧ (∀ (v79 : Int32) (A79 : xA), xok G A79 → R79 v79 A79 → (((v79 = (47 : Int32) → J70 A79) ∧ (¬ v79 = (47 : Int32) → A79.tg p = 3 ∧ (∀ A82 : xA, A82 = A79.setI p 9 ((A79.I p 9) + (1 : Int32)) → ((∃ q68 : Nat, q68 < n68 ∧ L68 q68 A82))))))))) ∧ (¬ v76 = (42 : Int32) → A76.tg p = 3 ∧ (∀ A78 : xA, A78 = A76.setI p 9 ((A76.I p 9) + (1 : Int32)) → ((∃ q68 : Nat, q68 < n68 ∧ L68 q68 A78)))))))) ∧ (¬ (if v65 = (47 : Int32) then (1 : Int32) else (0 : Int32)) = 0 → ∃ R83 : Int32 → xA → Prop, w_X2_now G p (0 : Int32) R83 A68 ∧ (∀ (v83 : Int32) (A83 : xA), xok G A83 → R83 v83 A83 → (((v83 = (10 : Int32) → J70 A83) ∧ (¬ v83 = (10 : Int32) → A83.tg p = 3 ∧ (∀ A85 : xA, A85 = A83.setI p 9 ((A83.I p 9) + (1 : Int32)) → ((∃ q68 : Nat, q68 < n68 ∧ L68 q68 A85))))))))))))))))))) ∧ (¬ v62 = (47 : Int32) → A62.tg p = 3 ∧ (∀ A87 : xA, A87 = A62.setI p 9 ((A62.I p 9) + (1 : Int32)) → ((∃ q1 : Nat, q1 < n1 ∧ L1 q1 A87))))))))) ∧ (¬ v60 = (47 : Int32) → A60.tg p = 3 ∧ (∃ R88 : Int32 → xA → Prop, w_X2_now G p (1 : Int32) R88 A60 ∧ (∀ (v88 : Int32) (A88 : xA), xok G A88 → R88 v88 A88 → (((v88 = (42 : Int32) → A88.tg p = 3 ∧ (∃ R90 : Int32 → xA → Prop, w_X2_now G p (0 : Int32) R90 A88 ∧ (∀ (v90 : Int32) (A90 : xA), xok G A90 → R90 v90 A90 → (((v90 = (47 : Int32) → A90.tg p = 3 ∧ (∃ R93 : Int32 → xA → Prop, w_X2_now G p (1 : Int32) R93 A90 ∧ (∀ (v93 : Int32) (A93 : xA), xok G A93 → R93 v93 A93 → (A93.tg p = 3 ∧ (∀ A95 : xA, A95 = A93.setI p 9 ((A93.I p 9) + (2 : Int32)) → (∃ L96 : Nat → xA → Prop, (∃ n96 : Nat, L96 n96 A95) ∧ (∀ (n96 : Nat) (A96 : xA), L96 n96 A96 → A96.tg p = 3 ∧ (∃ J98 : xA → Prop, (∀ (A98 : xA), J98 A98 → A98.tg p = 3 ∧ ((((A98.I p 9) = (A98.I p 8) → (((if v93 = (47 : Int32) then (1 : Int32) else (0 : Int32)) = 0 → Q (A90.I p 9) A98) ∧ (¬ (if v93 = (47 : Int32) then (1 : Int32) else (0 : Int32)) = 0 → ∃ J102 : xA → Prop, (∀ (A102 : xA), J102 A102 → (∃ q1 : Nat, q1 < n1 ∧ L1 q1 A102)) ∧ (((A98.I p 8) ≤ (A98.I p 9) → J102 A98) ∧ (¬ (A98.I p 8) ≤ (A98.I p 9) → ∀ A103 : xA, A103 = A98.setI p 9 ((A98.I p 9) + (1 : Int32)) → (J102 A103)))))) ∧ (¬ (A98.I p 9) = (A98.I p 8) → ∃ J100 : xA → Prop, (∀ (A100 : xA), J100 A100 → (∃ q1 : Nat, q1 < n1 ∧ L1 q1 A100)) ∧ (((A98.I p 8) ≤ (A98.I p 9) → J100 A98) ∧ (¬ (A98.I p 8) ≤ (A98.I p 9) → ∀ A101 : xA, A101 = A98.setI p 9 ((A98.I p 9) + (if (if v93 = (47 : Int32) then (1 : Int32) else (0 : Int32)) = 0 then (2 : Int32) else (1 : Int32))) → (J100 A101))))))) ∧ (((A96.I p 8) ≤ (A96.I p 9) → J98 A96) ∧ (¬ (A96.I p 8) ≤ (A96.I p 9) → (((if v93 = (47 : Int32) then (1 : Int32) else (0 : Int32)) = 0 → ∃ R104 : Int32 → xA → Prop, w_X2_now G p (0 : Int32) R104 A96 ∧ (∀ (v104 : Int32) (A104 : xA), xok G A104 → R104 v104 A104 → (((v104 = (42 : Int32) → A104.tg p = 3 ∧ (∃ R107 : Int32 → xA → Prop, w_X2_now G p (1 : Int32) R107 A104 ∧ (∀ (v107 : Int32) (A107 : xA), xok G A107 → R107 v107 A107 → (((v107 = (47 : Int32) → J98 A107) ∧ (¬ v107 = (47 : Int32) → A107.tg p = 3 ∧ (∀ A110 : xA, A110 = A107.setI p 9 ((A107.I p 9) + (1 : Int32)) → ((∃ q96 : Nat, q96 < n96 ∧ L96 q96 A110))))))))) ∧ (¬ v104 = (42 : Int32) → A104.tg p = 3 ∧ (∀ A106 : xA, A106 = A104.setI p 9 ((A104.I p 9) + (1 : Int32)) → ((∃ q96 : Nat, q96 < n96 ∧ L96 q96 A106)))))))) ∧ (¬ (if v93 = (47 : Int32) then (1 : Int32) else (0 : Int32)) = 0 → ∃ R111 : Int32 → xA → Prop, w_X2_now G p (0 : Int32) R111 A96 ∧ (∀ (v111 : Int32) (A111 : xA), xok G A111 → R111 v111 A111 → (((v111 = (10 : Int32) → J98 A111) ∧ (¬ v111 = (10 : Int32) → A111.tg p = 3 ∧ (∀ A113 : xA, A113 = A111.setI p 9 ((A111.I p 9) + (1 : Int32)) → ((∃ q96 : Nat, q96 < n96 ∧ L96 q96 A113))))))))))))))))))) ∧ (¬ v90 = (47 : Int32) → A90.tg p = 3 ∧ (∀ A115 : xA, A115 = A90.setI p 9 ((A90.I p 9) + (1 : Int32)) → ((∃ q1 : Nat, q1 < n1 ∧ L1 q1 A115))))))))) ∧ (¬ v88 = (42 : Int32) → Q (-1 : Int32) A88))))))))))) ∧ (¬ v58 = (47 : Int32) → Q (-1 : Int32) A58))))))))))))))))
theorem m_X2_skip (hG : xOK G) (hO : xHO G) {dp : Nat} {p : Nat} {Q : Int32 → xA → Prop} {A : xA} (h : w_X2_skip G p Q A) : MX G (dp + 1) kX2_skip [.ref p] A (hI Q) := by
  unfold w_X2_skip at h
  refine MX.of rfl (Nat.le_of_ble_eq_true rfl) ?_
  change X _ _ _ _ _ _ [some (.ref p), none, none] _
  refine X.xok (fun w0 => ?_)
  replace h := h w0
  obtain ⟨L1, ⟨n1, i1⟩, g1⟩ := h
  have kl1 : ∀ n1 : Nat, ∀ (A1 : xA), L1 n1 A1 → X G (dp + 1) kX2_skip (hI Q) A1 0 [some (.ref p), none, none] [] := by
    intro n1
    induction n1 using Nat.strongRecOn with
    | ind n1 ih1 =>
      intro A1 h
      replace h := g1 n1 A1 h
      refine x_aload_n dX2_skip_0 rfl ?_
      refine x_iconst_ (v := (0 : Int32)) dX2_skip_1 (by decide) ?_
      obtain ⟨o3, h⟩ := h
      obtain ⟨R2, g2, h⟩ := h
      refine x_callV hG (Ky := kX2_now) (As := [.int (0 : Int32)]) dX2_skip_2 o3 rfl lk_X2_177 me_X2_now is_X2_now se_X2_now rfl rfl (Nat.le_of_ble_eq_true rfl) (MX.post (m_X2_now hG hO g2) ?_)
      rintro _ A2 ⟨v2, rfl, h1⟩
      refine X.xok (fun w2 => ?_)
      replace h := h v2 A2 w2 h1
      change X _ _ _ _ A2 _ _ [.int v2]
      refine x_bipush_ (v := (10 : Int32)) dX2_skip_5 (by decide) ?_
      refine x_icmp_eq (tgt := 50) dX2_skip_7 (by decide) (fun c7 => ?_) (fun c7 => ?_)
      · replace h := h.1 c7
        refine x_aload_n dX2_skip_50 rfl ?_
        refine x_iconst_ (v := (0 : Int32)) dX2_skip_51 (by decide) ?_
        obtain ⟨o5, h⟩ := h
        obtain ⟨R4, g4, h⟩ := h
        refine x_callV hG (Ky := kX2_now) (As := [.int (0 : Int32)]) dX2_skip_52 o5 rfl lk_X2_177 me_X2_now is_X2_now se_X2_now rfl rfl (Nat.le_of_ble_eq_true rfl) (MX.post (m_X2_now hG hO g4) ?_)
        rintro _ A4 ⟨v4, rfl, h1⟩
        refine X.xok (fun w4 => ?_)
        replace h := h v4 A4 w4 h1
        change X _ _ _ _ A4 _ _ [.int v4]
        refine x_bipush_ (v := (47 : Int32)) dX2_skip_55 (by decide) ?_
        refine x_icmp_eq (tgt := 73) dX2_skip_57 (by decide) (fun c57 => ?_) (fun c57 => ?_)
        · replace h := h.1 c57
          refine x_aload_n dX2_skip_73 rfl ?_
          obtain ⟨o6, h⟩ := h
          refine x_get (v := .int (A4.I p 9)) hG dX2_skip_74 f_X2_164_2 o6 rfl ?_
          refine x_istore_n dX2_skip_77 (by decide) ?_
          refine x_aload_n dX2_skip_78 rfl ?_
          refine x_iconst_ (v := (1 : Int32)) dX2_skip_79 (by decide) ?_
          obtain ⟨R7, g7, h⟩ := h
          refine x_callV hG (Ky := kX2_now) (As := [.int (1 : Int32)]) dX2_skip_80 o6 rfl lk_X2_177 me_X2_now is_X2_now se_X2_now rfl rfl (Nat.le_of_ble_eq_true rfl) (MX.post (m_X2_now hG hO g7) ?_)
          rintro _ A7 ⟨v7, rfl, h1⟩
          refine X.xok (fun w7 => ?_)
          replace h := h v7 A7 w7 h1
          change X _ _ _ _ A7 _ _ [.int v7]
          refine x_bipush_ (v := (47 : Int32)) dX2_skip_83 (by decide) ?_
          refine x_via 93 (A' := A7) (lv' := [some (.ref p), some (.int (A4.I p 9)), none]) (st' := [.int (if v7 = (47 : Int32) then (1 : Int32) else (0 : Int32))]) ?_ (fun k93 => ?_)
          rotate_left
          · refine x_icmp_ne (tgt := 92) dX2_skip_85 (by decide) (fun c85 => ?_) (fun c85 => ?_)
            · refine x_iconst_ (v := (0 : Int32)) dX2_skip_92 (by decide) ?_
              change X _ _ _ _ _ _ [some (.ref p), some (.int (A4.I p 9)), none] [.int (0 : Int32)]
              simp only [if_neg c85] at k93 ⊢
              exact X.weak (xle_c rfl (xle_c rfl (xle_n xle_nil))) k93
            · refine x_iconst_ (v := (1 : Int32)) dX2_skip_88 (by decide) ?_
              refine x_goto (tgt := 93) dX2_skip_89 (by decide) ?_
              change X _ _ _ _ _ _ [some (.ref p), some (.int (A4.I p 9)), none] [.int (1 : Int32)]
              simp only [if_pos c85] at k93 ⊢
              exact X.weak (xle_c rfl (xle_c rfl (xle_n xle_nil))) k93
          refine x_istore_n dX2_skip_93 (by decide) ?_
          refine x_aload_n dX2_skip_94 rfl ?_
          refine x_dup dX2_skip_95 rfl ?_
          obtain ⟨o8, h⟩ := h
          refine x_get (v := .int (A7.I p 9)) hG dX2_skip_96 f_X2_164_2 o8 rfl ?_
          refine x_iconst_ (v := (2 : Int32)) dX2_skip_99 (by decide) ?_
          refine x_iadd dX2_skip_100 ?_
          refine z_putI hG hO.1 dX2_skip_101 f_X2_164_2 ⟨_, rfl, Or.inl rfl⟩ o8 (by decide) rfl rfl ⟨_, rfl⟩ (fun A9 e9 => ?_)
          replace h := h A9 e9
          obtain ⟨L10, ⟨n10, i10⟩, g10⟩ := h
          have kl10 : ∀ n10 : Nat, ∀ (A10 : xA), L10 n10 A10 → X G (dp + 1) kX2_skip (hI Q) A10 104 [some (.ref p), some (.int (A4.I p 9)), some (.int (if v7 = (47 : Int32) then (1 : Int32) else (0 : Int32)))] [] := by
            intro n10
            induction n10 using Nat.strongRecOn with
            | ind n10 ih10 =>
              intro A10 h
              replace h := g10 n10 A10 h
              refine x_aload_n dX2_skip_104 rfl ?_
              obtain ⟨o11, h⟩ := h
              refine x_get (v := .int (A10.I p 9)) hG dX2_skip_105 f_X2_164_2 o11 rfl ?_
              refine x_aload_n dX2_skip_108 rfl ?_
              refine x_get (v := .int (A10.I p 8)) hG dX2_skip_109 f_X2_160_2 o11 rfl ?_
              obtain ⟨J12, g12, h⟩ := h
              have kj12 : ∀ (A12 : xA), J12 A12 → X G (dp + 1) kX2_skip (hI Q) A12 165 [some (.ref p), some (.int (A4.I p 9)), some (.int (if v7 = (47 : Int32) then (1 : Int32) else (0 : Int32)))] [] := by
                intro A12 h
                replace h := g12 A12 h
                refine x_aload_n dX2_skip_165 rfl ?_
                obtain ⟨o13, h⟩ := h
                refine x_get (v := .int (A12.I p 9)) hG dX2_skip_166 f_X2_164_2 o13 rfl ?_
                refine x_aload_n dX2_skip_169 rfl ?_
                refine x_get (v := .int (A12.I p 8)) hG dX2_skip_170 f_X2_160_2 o13 rfl ?_
                refine x_icmp_ne (tgt := 182) dX2_skip_173 (by decide) (fun c173 => ?_) (fun c173 => ?_)
                · replace h := h.2 c173
                  refine x_aload_n dX2_skip_182 rfl ?_
                  refine x_get (v := .int (A12.I p 9)) hG dX2_skip_183 f_X2_164_2 o13 rfl ?_
                  refine x_aload_n dX2_skip_186 rfl ?_
                  refine x_get (v := .int (A12.I p 8)) hG dX2_skip_187 f_X2_160_2 o13 rfl ?_
                  obtain ⟨J14, g14, h⟩ := h
                  have kj14 : ∀ (A14 : xA), J14 A14 → X G (dp + 1) kX2_skip (hI Q) A14 211 [some (.ref p), none, none] [] := by
                    intro A14 h
                    replace h := g14 A14 h
                    refine x_goto (tgt := 0) dX2_skip_211 (by decide) ?_
                    obtain ⟨q1, l1, h⟩ := h
                    change X _ _ _ _ _ _ [some (.ref p), none, none] []
                    exact X.weak (xle_c rfl (xle_n (xle_n xle_nil))) (ih1 q1 l1 A14 h)
                  refine x_icmp_ge (tgt := 211) dX2_skip_190 (by decide) (fun c190 => ?_) (fun c190 => ?_)
                  · replace h := h.1 c190
                    change X _ _ _ _ _ _ [some (.ref p), some (.int (A4.I p 9)), some (.int (if v7 = (47 : Int32) then (1 : Int32) else (0 : Int32)))] []
                    exact X.weak (xle_c rfl (xle_n (xle_n xle_nil))) (kj14 A12 h)
                  · replace h := h.2 c190
                    refine x_aload_n dX2_skip_193 rfl ?_
                    refine x_dup dX2_skip_194 rfl ?_
                    refine x_get (v := .int (A12.I p 9)) hG dX2_skip_195 f_X2_164_2 o13 rfl ?_
                    refine x_iload_n dX2_skip_198 rfl ?_
                    refine x_via 207 (A' := A12) (lv' := [some (.ref p), none, none]) (st' := [.int (if (if v7 = (47 : Int32) then (1 : Int32) else (0 : Int32)) = 0 then (2 : Int32) else (1 : Int32)), .int (A12.I p 9), .ref p]) ?_ (fun k207 => ?_)
                    rotate_left
                    · refine x_if_eq (tgt := 206) dX2_skip_199 (by decide) (fun c199 => ?_) (fun c199 => ?_)
                      · refine x_iconst_ (v := (2 : Int32)) dX2_skip_206 (by decide) ?_
                        change X _ _ _ _ _ _ [some (.ref p), some (.int (A4.I p 9)), some (.int (if v7 = (47 : Int32) then (1 : Int32) else (0 : Int32)))] [.int (2 : Int32), .int (A12.I p 9), .ref p]
                        simp only [if_pos c199] at k207 ⊢
                        exact X.weak (xle_c rfl (xle_n (xle_n xle_nil))) k207
                      · refine x_iconst_ (v := (1 : Int32)) dX2_skip_202 (by decide) ?_
                        refine x_goto (tgt := 207) dX2_skip_203 (by decide) ?_
                        change X _ _ _ _ _ _ [some (.ref p), some (.int (A4.I p 9)), some (.int (if v7 = (47 : Int32) then (1 : Int32) else (0 : Int32)))] [.int (1 : Int32), .int (A12.I p 9), .ref p]
                        simp only [if_neg c199] at k207 ⊢
                        exact X.weak (xle_c rfl (xle_n (xle_n xle_nil))) k207
                    refine x_iadd dX2_skip_207 ?_
                    refine z_putI hG hO.1 dX2_skip_208 f_X2_164_2 ⟨_, rfl, Or.inl rfl⟩ o13 (by decide) rfl rfl ⟨_, rfl⟩ (fun A15 e15 => ?_)
                    replace h := h A15 e15
                    change X _ _ _ _ _ _ [some (.ref p), none, none] []
                    exact X.weak (xle_c rfl (xle_n (xle_n xle_nil))) (kj14 A15 h)
                · replace h := h.1 c173
                  refine x_iload_n dX2_skip_176 rfl ?_
                  refine x_if_ne (tgt := 182) dX2_skip_177 (by decide) (fun c177 => ?_) (fun c177 => ?_)
                  · replace h := h.2 c177
                    refine x_aload_n dX2_skip_182 rfl ?_
                    refine x_get (v := .int (A12.I p 9)) hG dX2_skip_183 f_X2_164_2 o13 rfl ?_
                    refine x_aload_n dX2_skip_186 rfl ?_
                    refine x_get (v := .int (A12.I p 8)) hG dX2_skip_187 f_X2_160_2 o13 rfl ?_
                    obtain ⟨J16, g16, h⟩ := h
                    have kj16 : ∀ (A16 : xA), J16 A16 → X G (dp + 1) kX2_skip (hI Q) A16 211 [some (.ref p), none, none] [] := by
                      intro A16 h
                      replace h := g16 A16 h
                      refine x_goto (tgt := 0) dX2_skip_211 (by decide) ?_
                      obtain ⟨q1, l1, h⟩ := h
                      change X _ _ _ _ _ _ [some (.ref p), none, none] []
                      exact X.weak (xle_c rfl (xle_n (xle_n xle_nil))) (ih1 q1 l1 A16 h)
                    refine x_icmp_ge (tgt := 211) dX2_skip_190 (by decide) (fun c190 => ?_) (fun c190 => ?_)
                    · replace h := h.1 c190
                      change X _ _ _ _ _ _ [some (.ref p), some (.int (A4.I p 9)), some (.int (if v7 = (47 : Int32) then (1 : Int32) else (0 : Int32)))] []
                      exact X.weak (xle_c rfl (xle_n (xle_n xle_nil))) (kj16 A12 h)
                    · replace h := h.2 c190
                      refine x_aload_n dX2_skip_193 rfl ?_
                      refine x_dup dX2_skip_194 rfl ?_
                      refine x_get (v := .int (A12.I p 9)) hG dX2_skip_195 f_X2_164_2 o13 rfl ?_
                      refine x_iload_n dX2_skip_198 rfl ?_
                      refine x_if_eq (tgt := 206) dX2_skip_199 (by decide) (fun h => absurd h c177) (fun _ => ?_)
                      refine x_iconst_ (v := (1 : Int32)) dX2_skip_202 (by decide) ?_
                      refine x_goto (tgt := 207) dX2_skip_203 (by decide) ?_
                      refine x_iadd dX2_skip_207 ?_
                      refine z_putI hG hO.1 dX2_skip_208 f_X2_164_2 ⟨_, rfl, Or.inl rfl⟩ o13 (by decide) rfl rfl ⟨_, rfl⟩ (fun A17 e17 => ?_)
                      replace h := h A17 e17
                      change X _ _ _ _ _ _ [some (.ref p), some (.int (A4.I p 9)), some (.int (if v7 = (47 : Int32) then (1 : Int32) else (0 : Int32)))] []
                      exact X.weak (xle_c rfl (xle_n (xle_n xle_nil))) (kj16 A17 h)
                  · replace h := h.1 c177
                    refine x_iload_n dX2_skip_180 rfl ?_
                    exact x_iret dX2_skip_181 rfl ⟨_, rfl, h⟩
              refine x_icmp_ge (tgt := 165) dX2_skip_112 (by decide) (fun c112 => ?_) (fun c112 => ?_)
              · replace h := h.1 c112
                change X _ _ _ _ _ _ [some (.ref p), some (.int (A4.I p 9)), some (.int (if v7 = (47 : Int32) then (1 : Int32) else (0 : Int32)))] []
                exact X.weak (xle_c rfl (xle_c rfl (xle_c rfl xle_nil))) (kj12 A10 h)
              · replace h := h.2 c112
                refine x_iload_n dX2_skip_115 rfl ?_
                refine x_if_eq (tgt := 132) dX2_skip_116 (by decide) (fun c116 => ?_) (fun c116 => ?_)
                · replace h := h.1 c116
                  refine x_aload_n dX2_skip_132 rfl ?_
                  refine x_iconst_ (v := (0 : Int32)) dX2_skip_133 (by decide) ?_
                  obtain ⟨R18, g18, h⟩ := h
                  refine x_callV hG (Ky := kX2_now) (As := [.int (0 : Int32)]) dX2_skip_134 o11 rfl lk_X2_177 me_X2_now is_X2_now se_X2_now rfl rfl (Nat.le_of_ble_eq_true rfl) (MX.post (m_X2_now hG hO g18) ?_)
                  rintro _ A18 ⟨v18, rfl, h1⟩
                  refine X.xok (fun w18 => ?_)
                  replace h := h v18 A18 w18 h1
                  change X _ _ _ _ A18 _ _ [.int v18]
                  refine x_bipush_ (v := (42 : Int32)) dX2_skip_137 (by decide) ?_
                  refine x_icmp_ne (tgt := 152) dX2_skip_139 (by decide) (fun c139 => ?_) (fun c139 => ?_)
                  · replace h := h.2 c139
                    refine x_aload_n dX2_skip_152 rfl ?_
                    refine x_dup dX2_skip_153 rfl ?_
                    obtain ⟨o19, h⟩ := h
                    refine x_get (v := .int (A18.I p 9)) hG dX2_skip_154 f_X2_164_2 o19 rfl ?_
                    refine x_iconst_ (v := (1 : Int32)) dX2_skip_157 (by decide) ?_
                    refine x_iadd dX2_skip_158 ?_
                    refine z_putI hG hO.1 dX2_skip_159 f_X2_164_2 ⟨_, rfl, Or.inl rfl⟩ o19 (by decide) rfl rfl ⟨_, rfl⟩ (fun A20 e20 => ?_)
                    replace h := h A20 e20
                    refine x_goto (tgt := 104) dX2_skip_162 (by decide) ?_
                    obtain ⟨q10, l10, h⟩ := h
                    change X _ _ _ _ _ _ [some (.ref p), some (.int (A4.I p 9)), some (.int (if v7 = (47 : Int32) then (1 : Int32) else (0 : Int32)))] []
                    exact X.weak (xle_c rfl (xle_c rfl (xle_c rfl xle_nil))) (ih10 q10 l10 A20 h)
                  · replace h := h.1 c139
                    refine x_aload_n dX2_skip_142 rfl ?_
                    refine x_iconst_ (v := (1 : Int32)) dX2_skip_143 (by decide) ?_
                    obtain ⟨o22, h⟩ := h
                    obtain ⟨R21, g21, h⟩ := h
                    refine x_callV hG (Ky := kX2_now) (As := [.int (1 : Int32)]) dX2_skip_144 o22 rfl lk_X2_177 me_X2_now is_X2_now se_X2_now rfl rfl (Nat.le_of_ble_eq_true rfl) (MX.post (m_X2_now hG hO g21) ?_)
                    rintro _ A21 ⟨v21, rfl, h1⟩
                    refine X.xok (fun w21 => ?_)
                    replace h := h v21 A21 w21 h1
                    change X _ _ _ _ A21 _ _ [.int v21]
                    refine x_bipush_ (v := (47 : Int32)) dX2_skip_147 (by decide) ?_
                    refine x_icmp_eq (tgt := 165) dX2_skip_149 (by decide) (fun c149 => ?_) (fun c149 => ?_)
                    · replace h := h.1 c149
                      change X _ _ _ _ _ _ [some (.ref p), some (.int (A4.I p 9)), some (.int (if v7 = (47 : Int32) then (1 : Int32) else (0 : Int32)))] []
                      exact X.weak (xle_c rfl (xle_c rfl (xle_c rfl xle_nil))) (kj12 A21 h)
                    · replace h := h.2 c149
                      refine x_aload_n dX2_skip_152 rfl ?_
                      refine x_dup dX2_skip_153 rfl ?_
                      obtain ⟨o23, h⟩ := h
                      refine x_get (v := .int (A21.I p 9)) hG dX2_skip_154 f_X2_164_2 o23 rfl ?_
                      refine x_iconst_ (v := (1 : Int32)) dX2_skip_157 (by decide) ?_
                      refine x_iadd dX2_skip_158 ?_
                      refine z_putI hG hO.1 dX2_skip_159 f_X2_164_2 ⟨_, rfl, Or.inl rfl⟩ o23 (by decide) rfl rfl ⟨_, rfl⟩ (fun A24 e24 => ?_)
                      replace h := h A24 e24
                      refine x_goto (tgt := 104) dX2_skip_162 (by decide) ?_
                      obtain ⟨q10, l10, h⟩ := h
                      change X _ _ _ _ _ _ [some (.ref p), some (.int (A4.I p 9)), some (.int (if v7 = (47 : Int32) then (1 : Int32) else (0 : Int32)))] []
                      exact X.weak (xle_c rfl (xle_c rfl (xle_c rfl xle_nil))) (ih10 q10 l10 A24 h)
                · replace h := h.2 c116
                  refine x_aload_n dX2_skip_119 rfl ?_
                  refine x_iconst_ (v := (0 : Int32)) dX2_skip_120 (by decide) ?_
                  obtain ⟨R25, g25, h⟩ := h
                  refine x_callV hG (Ky := kX2_now) (As := [.int (0 : Int32)]) dX2_skip_121 o11 rfl lk_X2_177 me_X2_now is_X2_now se_X2_now rfl rfl (Nat.le_of_ble_eq_true rfl) (MX.post (m_X2_now hG hO g25) ?_)
                  rintro _ A25 ⟨v25, rfl, h1⟩
                  refine X.xok (fun w25 => ?_)
                  replace h := h v25 A25 w25 h1
                  change X _ _ _ _ A25 _ _ [.int v25]
                  refine x_bipush_ (v := (10 : Int32)) dX2_skip_124 (by decide) ?_
                  refine x_icmp_ne (tgt := 152) dX2_skip_126 (by decide) (fun c126 => ?_) (fun c126 => ?_)
                  · replace h := h.2 c126
                    refine x_aload_n dX2_skip_152 rfl ?_
                    refine x_dup dX2_skip_153 rfl ?_
                    obtain ⟨o26, h⟩ := h
                    refine x_get (v := .int (A25.I p 9)) hG dX2_skip_154 f_X2_164_2 o26 rfl ?_
                    refine x_iconst_ (v := (1 : Int32)) dX2_skip_157 (by decide) ?_
                    refine x_iadd dX2_skip_158 ?_
                    refine z_putI hG hO.1 dX2_skip_159 f_X2_164_2 ⟨_, rfl, Or.inl rfl⟩ o26 (by decide) rfl rfl ⟨_, rfl⟩ (fun A27 e27 => ?_)
                    replace h := h A27 e27
                    refine x_goto (tgt := 104) dX2_skip_162 (by decide) ?_
                    obtain ⟨q10, l10, h⟩ := h
                    change X _ _ _ _ _ _ [some (.ref p), some (.int (A4.I p 9)), some (.int (if v7 = (47 : Int32) then (1 : Int32) else (0 : Int32)))] []
                    exact X.weak (xle_c rfl (xle_c rfl (xle_c rfl xle_nil))) (ih10 q10 l10 A27 h)
                  · replace h := h.1 c126
                    refine x_goto (tgt := 165) dX2_skip_129 (by decide) ?_
                    change X _ _ _ _ _ _ [some (.ref p), some (.int (A4.I p 9)), some (.int (if v7 = (47 : Int32) then (1 : Int32) else (0 : Int32)))] []
                    exact X.weak (xle_c rfl (xle_c rfl (xle_c rfl xle_nil))) (kj12 A25 h)
          change X _ _ _ _ _ _ [some (.ref p), some (.int (A4.I p 9)), some (.int (if v7 = (47 : Int32) then (1 : Int32) else (0 : Int32)))] []
          exact X.weak (xle_c rfl (xle_c rfl (xle_c rfl xle_nil))) (kl10 n10 A9 i10)
        · replace h := h.2 c57
          refine x_aload_n dX2_skip_60 rfl ?_
          refine x_dup dX2_skip_61 rfl ?_
          obtain ⟨o28, h⟩ := h
          refine x_get (v := .int (A4.I p 9)) hG dX2_skip_62 f_X2_164_2 o28 rfl ?_
          refine x_iconst_ (v := (1 : Int32)) dX2_skip_65 (by decide) ?_
          refine x_iadd dX2_skip_66 ?_
          refine z_putI hG hO.1 dX2_skip_67 f_X2_164_2 ⟨_, rfl, Or.inl rfl⟩ o28 (by decide) rfl rfl ⟨_, rfl⟩ (fun A29 e29 => ?_)
          replace h := h A29 e29
          refine x_goto (tgt := 0) dX2_skip_70 (by decide) ?_
          obtain ⟨q1, l1, h⟩ := h
          change X _ _ _ _ _ _ [some (.ref p), none, none] []
          exact X.weak (xle_c rfl (xle_n (xle_n xle_nil))) (ih1 q1 l1 A29 h)
      · replace h := h.2 c7
        refine x_aload_n dX2_skip_10 rfl ?_
        refine x_iconst_ (v := (0 : Int32)) dX2_skip_11 (by decide) ?_
        obtain ⟨o31, h⟩ := h
        obtain ⟨R30, g30, h⟩ := h
        refine x_callV hG (Ky := kX2_now) (As := [.int (0 : Int32)]) dX2_skip_12 o31 rfl lk_X2_177 me_X2_now is_X2_now se_X2_now rfl rfl (Nat.le_of_ble_eq_true rfl) (MX.post (m_X2_now hG hO g30) ?_)
        rintro _ A30 ⟨v30, rfl, h1⟩
        refine X.xok (fun w30 => ?_)
        replace h := h v30 A30 w30 h1
        change X _ _ _ _ A30 _ _ [.int v30]
        refine x_bipush_ (v := (32 : Int32)) dX2_skip_15 (by decide) ?_
        refine x_icmp_eq (tgt := 50) dX2_skip_17 (by decide) (fun c17 => ?_) (fun c17 => ?_)
        · replace h := h.1 c17
          refine x_aload_n dX2_skip_50 rfl ?_
          refine x_iconst_ (v := (0 : Int32)) dX2_skip_51 (by decide) ?_
          obtain ⟨o33, h⟩ := h
          obtain ⟨R32, g32, h⟩ := h
          refine x_callV hG (Ky := kX2_now) (As := [.int (0 : Int32)]) dX2_skip_52 o33 rfl lk_X2_177 me_X2_now is_X2_now se_X2_now rfl rfl (Nat.le_of_ble_eq_true rfl) (MX.post (m_X2_now hG hO g32) ?_)
          rintro _ A32 ⟨v32, rfl, h1⟩
          refine X.xok (fun w32 => ?_)
          replace h := h v32 A32 w32 h1
          change X _ _ _ _ A32 _ _ [.int v32]
          refine x_bipush_ (v := (47 : Int32)) dX2_skip_55 (by decide) ?_
          refine x_icmp_eq (tgt := 73) dX2_skip_57 (by decide) (fun c57 => ?_) (fun c57 => ?_)
          · replace h := h.1 c57
            refine x_aload_n dX2_skip_73 rfl ?_
            obtain ⟨o34, h⟩ := h
            refine x_get (v := .int (A32.I p 9)) hG dX2_skip_74 f_X2_164_2 o34 rfl ?_
            refine x_istore_n dX2_skip_77 (by decide) ?_
            refine x_aload_n dX2_skip_78 rfl ?_
            refine x_iconst_ (v := (1 : Int32)) dX2_skip_79 (by decide) ?_
            obtain ⟨R35, g35, h⟩ := h
            refine x_callV hG (Ky := kX2_now) (As := [.int (1 : Int32)]) dX2_skip_80 o34 rfl lk_X2_177 me_X2_now is_X2_now se_X2_now rfl rfl (Nat.le_of_ble_eq_true rfl) (MX.post (m_X2_now hG hO g35) ?_)
            rintro _ A35 ⟨v35, rfl, h1⟩
            refine X.xok (fun w35 => ?_)
            replace h := h v35 A35 w35 h1
            change X _ _ _ _ A35 _ _ [.int v35]
            refine x_bipush_ (v := (47 : Int32)) dX2_skip_83 (by decide) ?_
            refine x_via 93 (A' := A35) (lv' := [some (.ref p), some (.int (A32.I p 9)), none]) (st' := [.int (if v35 = (47 : Int32) then (1 : Int32) else (0 : Int32))]) ?_ (fun k93 => ?_)
            rotate_left
            · refine x_icmp_ne (tgt := 92) dX2_skip_85 (by decide) (fun c85 => ?_) (fun c85 => ?_)
              · refine x_iconst_ (v := (0 : Int32)) dX2_skip_92 (by decide) ?_
                change X _ _ _ _ _ _ [some (.ref p), some (.int (A32.I p 9)), none] [.int (0 : Int32)]
                simp only [if_neg c85] at k93 ⊢
                exact X.weak (xle_c rfl (xle_c rfl (xle_n xle_nil))) k93
              · refine x_iconst_ (v := (1 : Int32)) dX2_skip_88 (by decide) ?_
                refine x_goto (tgt := 93) dX2_skip_89 (by decide) ?_
                change X _ _ _ _ _ _ [some (.ref p), some (.int (A32.I p 9)), none] [.int (1 : Int32)]
                simp only [if_pos c85] at k93 ⊢
                exact X.weak (xle_c rfl (xle_c rfl (xle_n xle_nil))) k93
            refine x_istore_n dX2_skip_93 (by decide) ?_
            refine x_aload_n dX2_skip_94 rfl ?_
            refine x_dup dX2_skip_95 rfl ?_
            obtain ⟨o36, h⟩ := h
            refine x_get (v := .int (A35.I p 9)) hG dX2_skip_96 f_X2_164_2 o36 rfl ?_
            refine x_iconst_ (v := (2 : Int32)) dX2_skip_99 (by decide) ?_
            refine x_iadd dX2_skip_100 ?_
            refine z_putI hG hO.1 dX2_skip_101 f_X2_164_2 ⟨_, rfl, Or.inl rfl⟩ o36 (by decide) rfl rfl ⟨_, rfl⟩ (fun A37 e37 => ?_)
            replace h := h A37 e37
            obtain ⟨L38, ⟨n38, i38⟩, g38⟩ := h
            have kl38 : ∀ n38 : Nat, ∀ (A38 : xA), L38 n38 A38 → X G (dp + 1) kX2_skip (hI Q) A38 104 [some (.ref p), some (.int (A32.I p 9)), some (.int (if v35 = (47 : Int32) then (1 : Int32) else (0 : Int32)))] [] := by
              intro n38
              induction n38 using Nat.strongRecOn with
              | ind n38 ih38 =>
                intro A38 h
                replace h := g38 n38 A38 h
                refine x_aload_n dX2_skip_104 rfl ?_
                obtain ⟨o39, h⟩ := h
                refine x_get (v := .int (A38.I p 9)) hG dX2_skip_105 f_X2_164_2 o39 rfl ?_
                refine x_aload_n dX2_skip_108 rfl ?_
                refine x_get (v := .int (A38.I p 8)) hG dX2_skip_109 f_X2_160_2 o39 rfl ?_
                obtain ⟨J40, g40, h⟩ := h
                have kj40 : ∀ (A40 : xA), J40 A40 → X G (dp + 1) kX2_skip (hI Q) A40 165 [some (.ref p), some (.int (A32.I p 9)), some (.int (if v35 = (47 : Int32) then (1 : Int32) else (0 : Int32)))] [] := by
                  intro A40 h
                  replace h := g40 A40 h
                  refine x_aload_n dX2_skip_165 rfl ?_
                  obtain ⟨o41, h⟩ := h
                  refine x_get (v := .int (A40.I p 9)) hG dX2_skip_166 f_X2_164_2 o41 rfl ?_
                  refine x_aload_n dX2_skip_169 rfl ?_
                  refine x_get (v := .int (A40.I p 8)) hG dX2_skip_170 f_X2_160_2 o41 rfl ?_
                  refine x_icmp_ne (tgt := 182) dX2_skip_173 (by decide) (fun c173 => ?_) (fun c173 => ?_)
                  · replace h := h.2 c173
                    refine x_aload_n dX2_skip_182 rfl ?_
                    refine x_get (v := .int (A40.I p 9)) hG dX2_skip_183 f_X2_164_2 o41 rfl ?_
                    refine x_aload_n dX2_skip_186 rfl ?_
                    refine x_get (v := .int (A40.I p 8)) hG dX2_skip_187 f_X2_160_2 o41 rfl ?_
                    obtain ⟨J42, g42, h⟩ := h
                    have kj42 : ∀ (A42 : xA), J42 A42 → X G (dp + 1) kX2_skip (hI Q) A42 211 [some (.ref p), none, none] [] := by
                      intro A42 h
                      replace h := g42 A42 h
                      refine x_goto (tgt := 0) dX2_skip_211 (by decide) ?_
                      obtain ⟨q1, l1, h⟩ := h
                      change X _ _ _ _ _ _ [some (.ref p), none, none] []
                      exact X.weak (xle_c rfl (xle_n (xle_n xle_nil))) (ih1 q1 l1 A42 h)
                    refine x_icmp_ge (tgt := 211) dX2_skip_190 (by decide) (fun c190 => ?_) (fun c190 => ?_)
                    · replace h := h.1 c190
                      change X _ _ _ _ _ _ [some (.ref p), some (.int (A32.I p 9)), some (.int (if v35 = (47 : Int32) then (1 : Int32) else (0 : Int32)))] []
                      exact X.weak (xle_c rfl (xle_n (xle_n xle_nil))) (kj42 A40 h)
                    · replace h := h.2 c190
                      refine x_aload_n dX2_skip_193 rfl ?_
                      refine x_dup dX2_skip_194 rfl ?_
                      refine x_get (v := .int (A40.I p 9)) hG dX2_skip_195 f_X2_164_2 o41 rfl ?_
                      refine x_iload_n dX2_skip_198 rfl ?_
                      refine x_via 207 (A' := A40) (lv' := [some (.ref p), none, none]) (st' := [.int (if (if v35 = (47 : Int32) then (1 : Int32) else (0 : Int32)) = 0 then (2 : Int32) else (1 : Int32)), .int (A40.I p 9), .ref p]) ?_ (fun k207 => ?_)
                      rotate_left
                      · refine x_if_eq (tgt := 206) dX2_skip_199 (by decide) (fun c199 => ?_) (fun c199 => ?_)
                        · refine x_iconst_ (v := (2 : Int32)) dX2_skip_206 (by decide) ?_
                          change X _ _ _ _ _ _ [some (.ref p), some (.int (A32.I p 9)), some (.int (if v35 = (47 : Int32) then (1 : Int32) else (0 : Int32)))] [.int (2 : Int32), .int (A40.I p 9), .ref p]
                          simp only [if_pos c199] at k207 ⊢
                          exact X.weak (xle_c rfl (xle_n (xle_n xle_nil))) k207
                        · refine x_iconst_ (v := (1 : Int32)) dX2_skip_202 (by decide) ?_
                          refine x_goto (tgt := 207) dX2_skip_203 (by decide) ?_
                          change X _ _ _ _ _ _ [some (.ref p), some (.int (A32.I p 9)), some (.int (if v35 = (47 : Int32) then (1 : Int32) else (0 : Int32)))] [.int (1 : Int32), .int (A40.I p 9), .ref p]
                          simp only [if_neg c199] at k207 ⊢
                          exact X.weak (xle_c rfl (xle_n (xle_n xle_nil))) k207
                      refine x_iadd dX2_skip_207 ?_
                      refine z_putI hG hO.1 dX2_skip_208 f_X2_164_2 ⟨_, rfl, Or.inl rfl⟩ o41 (by decide) rfl rfl ⟨_, rfl⟩ (fun A43 e43 => ?_)
                      replace h := h A43 e43
                      change X _ _ _ _ _ _ [some (.ref p), none, none] []
                      exact X.weak (xle_c rfl (xle_n (xle_n xle_nil))) (kj42 A43 h)
                  · replace h := h.1 c173
                    refine x_iload_n dX2_skip_176 rfl ?_
                    refine x_if_ne (tgt := 182) dX2_skip_177 (by decide) (fun c177 => ?_) (fun c177 => ?_)
                    · replace h := h.2 c177
                      refine x_aload_n dX2_skip_182 rfl ?_
                      refine x_get (v := .int (A40.I p 9)) hG dX2_skip_183 f_X2_164_2 o41 rfl ?_
                      refine x_aload_n dX2_skip_186 rfl ?_
                      refine x_get (v := .int (A40.I p 8)) hG dX2_skip_187 f_X2_160_2 o41 rfl ?_
                      obtain ⟨J44, g44, h⟩ := h
                      have kj44 : ∀ (A44 : xA), J44 A44 → X G (dp + 1) kX2_skip (hI Q) A44 211 [some (.ref p), none, none] [] := by
                        intro A44 h
                        replace h := g44 A44 h
                        refine x_goto (tgt := 0) dX2_skip_211 (by decide) ?_
                        obtain ⟨q1, l1, h⟩ := h
                        change X _ _ _ _ _ _ [some (.ref p), none, none] []
                        exact X.weak (xle_c rfl (xle_n (xle_n xle_nil))) (ih1 q1 l1 A44 h)
                      refine x_icmp_ge (tgt := 211) dX2_skip_190 (by decide) (fun c190 => ?_) (fun c190 => ?_)
                      · replace h := h.1 c190
                        change X _ _ _ _ _ _ [some (.ref p), some (.int (A32.I p 9)), some (.int (if v35 = (47 : Int32) then (1 : Int32) else (0 : Int32)))] []
                        exact X.weak (xle_c rfl (xle_n (xle_n xle_nil))) (kj44 A40 h)
                      · replace h := h.2 c190
                        refine x_aload_n dX2_skip_193 rfl ?_
                        refine x_dup dX2_skip_194 rfl ?_
                        refine x_get (v := .int (A40.I p 9)) hG dX2_skip_195 f_X2_164_2 o41 rfl ?_
                        refine x_iload_n dX2_skip_198 rfl ?_
                        refine x_if_eq (tgt := 206) dX2_skip_199 (by decide) (fun h => absurd h c177) (fun _ => ?_)
                        refine x_iconst_ (v := (1 : Int32)) dX2_skip_202 (by decide) ?_
                        refine x_goto (tgt := 207) dX2_skip_203 (by decide) ?_
                        refine x_iadd dX2_skip_207 ?_
                        refine z_putI hG hO.1 dX2_skip_208 f_X2_164_2 ⟨_, rfl, Or.inl rfl⟩ o41 (by decide) rfl rfl ⟨_, rfl⟩ (fun A45 e45 => ?_)
                        replace h := h A45 e45
                        change X _ _ _ _ _ _ [some (.ref p), some (.int (A32.I p 9)), some (.int (if v35 = (47 : Int32) then (1 : Int32) else (0 : Int32)))] []
                        exact X.weak (xle_c rfl (xle_n (xle_n xle_nil))) (kj44 A45 h)
                    · replace h := h.1 c177
                      refine x_iload_n dX2_skip_180 rfl ?_
                      exact x_iret dX2_skip_181 rfl ⟨_, rfl, h⟩
                refine x_icmp_ge (tgt := 165) dX2_skip_112 (by decide) (fun c112 => ?_) (fun c112 => ?_)
                · replace h := h.1 c112
                  change X _ _ _ _ _ _ [some (.ref p), some (.int (A32.I p 9)), some (.int (if v35 = (47 : Int32) then (1 : Int32) else (0 : Int32)))] []
                  exact X.weak (xle_c rfl (xle_c rfl (xle_c rfl xle_nil))) (kj40 A38 h)
                · replace h := h.2 c112
                  refine x_iload_n dX2_skip_115 rfl ?_
                  refine x_if_eq (tgt := 132) dX2_skip_116 (by decide) (fun c116 => ?_) (fun c116 => ?_)
                  · replace h := h.1 c116
                    refine x_aload_n dX2_skip_132 rfl ?_
                    refine x_iconst_ (v := (0 : Int32)) dX2_skip_133 (by decide) ?_
                    obtain ⟨R46, g46, h⟩ := h
                    refine x_callV hG (Ky := kX2_now) (As := [.int (0 : Int32)]) dX2_skip_134 o39 rfl lk_X2_177 me_X2_now is_X2_now se_X2_now rfl rfl (Nat.le_of_ble_eq_true rfl) (MX.post (m_X2_now hG hO g46) ?_)
                    rintro _ A46 ⟨v46, rfl, h1⟩
                    refine X.xok (fun w46 => ?_)
                    replace h := h v46 A46 w46 h1
                    change X _ _ _ _ A46 _ _ [.int v46]
                    refine x_bipush_ (v := (42 : Int32)) dX2_skip_137 (by decide) ?_
                    refine x_icmp_ne (tgt := 152) dX2_skip_139 (by decide) (fun c139 => ?_) (fun c139 => ?_)
                    · replace h := h.2 c139
                      refine x_aload_n dX2_skip_152 rfl ?_
                      refine x_dup dX2_skip_153 rfl ?_
                      obtain ⟨o47, h⟩ := h
                      refine x_get (v := .int (A46.I p 9)) hG dX2_skip_154 f_X2_164_2 o47 rfl ?_
                      refine x_iconst_ (v := (1 : Int32)) dX2_skip_157 (by decide) ?_
                      refine x_iadd dX2_skip_158 ?_
                      refine z_putI hG hO.1 dX2_skip_159 f_X2_164_2 ⟨_, rfl, Or.inl rfl⟩ o47 (by decide) rfl rfl ⟨_, rfl⟩ (fun A48 e48 => ?_)
                      replace h := h A48 e48
                      refine x_goto (tgt := 104) dX2_skip_162 (by decide) ?_
                      obtain ⟨q38, l38, h⟩ := h
                      change X _ _ _ _ _ _ [some (.ref p), some (.int (A32.I p 9)), some (.int (if v35 = (47 : Int32) then (1 : Int32) else (0 : Int32)))] []
                      exact X.weak (xle_c rfl (xle_c rfl (xle_c rfl xle_nil))) (ih38 q38 l38 A48 h)
                    · replace h := h.1 c139
                      refine x_aload_n dX2_skip_142 rfl ?_
                      refine x_iconst_ (v := (1 : Int32)) dX2_skip_143 (by decide) ?_
                      obtain ⟨o50, h⟩ := h
                      obtain ⟨R49, g49, h⟩ := h
                      refine x_callV hG (Ky := kX2_now) (As := [.int (1 : Int32)]) dX2_skip_144 o50 rfl lk_X2_177 me_X2_now is_X2_now se_X2_now rfl rfl (Nat.le_of_ble_eq_true rfl) (MX.post (m_X2_now hG hO g49) ?_)
                      rintro _ A49 ⟨v49, rfl, h1⟩
                      refine X.xok (fun w49 => ?_)
                      replace h := h v49 A49 w49 h1
                      change X _ _ _ _ A49 _ _ [.int v49]
                      refine x_bipush_ (v := (47 : Int32)) dX2_skip_147 (by decide) ?_
                      refine x_icmp_eq (tgt := 165) dX2_skip_149 (by decide) (fun c149 => ?_) (fun c149 => ?_)
                      · replace h := h.1 c149
                        change X _ _ _ _ _ _ [some (.ref p), some (.int (A32.I p 9)), some (.int (if v35 = (47 : Int32) then (1 : Int32) else (0 : Int32)))] []
                        exact X.weak (xle_c rfl (xle_c rfl (xle_c rfl xle_nil))) (kj40 A49 h)
                      · replace h := h.2 c149
                        refine x_aload_n dX2_skip_152 rfl ?_
                        refine x_dup dX2_skip_153 rfl ?_
                        obtain ⟨o51, h⟩ := h
                        refine x_get (v := .int (A49.I p 9)) hG dX2_skip_154 f_X2_164_2 o51 rfl ?_
                        refine x_iconst_ (v := (1 : Int32)) dX2_skip_157 (by decide) ?_
                        refine x_iadd dX2_skip_158 ?_
                        refine z_putI hG hO.1 dX2_skip_159 f_X2_164_2 ⟨_, rfl, Or.inl rfl⟩ o51 (by decide) rfl rfl ⟨_, rfl⟩ (fun A52 e52 => ?_)
                        replace h := h A52 e52
                        refine x_goto (tgt := 104) dX2_skip_162 (by decide) ?_
                        obtain ⟨q38, l38, h⟩ := h
                        change X _ _ _ _ _ _ [some (.ref p), some (.int (A32.I p 9)), some (.int (if v35 = (47 : Int32) then (1 : Int32) else (0 : Int32)))] []
                        exact X.weak (xle_c rfl (xle_c rfl (xle_c rfl xle_nil))) (ih38 q38 l38 A52 h)
                  · replace h := h.2 c116
                    refine x_aload_n dX2_skip_119 rfl ?_
                    refine x_iconst_ (v := (0 : Int32)) dX2_skip_120 (by decide) ?_
                    obtain ⟨R53, g53, h⟩ := h
                    refine x_callV hG (Ky := kX2_now) (As := [.int (0 : Int32)]) dX2_skip_121 o39 rfl lk_X2_177 me_X2_now is_X2_now se_X2_now rfl rfl (Nat.le_of_ble_eq_true rfl) (MX.post (m_X2_now hG hO g53) ?_)
                    rintro _ A53 ⟨v53, rfl, h1⟩
                    refine X.xok (fun w53 => ?_)
                    replace h := h v53 A53 w53 h1
                    change X _ _ _ _ A53 _ _ [.int v53]
                    refine x_bipush_ (v := (10 : Int32)) dX2_skip_124 (by decide) ?_
                    refine x_icmp_ne (tgt := 152) dX2_skip_126 (by decide) (fun c126 => ?_) (fun c126 => ?_)
                    · replace h := h.2 c126
                      refine x_aload_n dX2_skip_152 rfl ?_
                      refine x_dup dX2_skip_153 rfl ?_
                      obtain ⟨o54, h⟩ := h
                      refine x_get (v := .int (A53.I p 9)) hG dX2_skip_154 f_X2_164_2 o54 rfl ?_
                      refine x_iconst_ (v := (1 : Int32)) dX2_skip_157 (by decide) ?_
                      refine x_iadd dX2_skip_158 ?_
                      refine z_putI hG hO.1 dX2_skip_159 f_X2_164_2 ⟨_, rfl, Or.inl rfl⟩ o54 (by decide) rfl rfl ⟨_, rfl⟩ (fun A55 e55 => ?_)
                      replace h := h A55 e55
                      refine x_goto (tgt := 104) dX2_skip_162 (by decide) ?_
                      obtain ⟨q38, l38, h⟩ := h
                      change X _ _ _ _ _ _ [some (.ref p), some (.int (A32.I p 9)), some (.int (if v35 = (47 : Int32) then (1 : Int32) else (0 : Int32)))] []
                      exact X.weak (xle_c rfl (xle_c rfl (xle_c rfl xle_nil))) (ih38 q38 l38 A55 h)
                    · replace h := h.1 c126
                      refine x_goto (tgt := 165) dX2_skip_129 (by decide) ?_
                      change X _ _ _ _ _ _ [some (.ref p), some (.int (A32.I p 9)), some (.int (if v35 = (47 : Int32) then (1 : Int32) else (0 : Int32)))] []
                      exact X.weak (xle_c rfl (xle_c rfl (xle_c rfl xle_nil))) (kj40 A53 h)
            change X _ _ _ _ _ _ [some (.ref p), some (.int (A32.I p 9)), some (.int (if v35 = (47 : Int32) then (1 : Int32) else (0 : Int32)))] []
            exact X.weak (xle_c rfl (xle_c rfl (xle_c rfl xle_nil))) (kl38 n38 A37 i38)
          · replace h := h.2 c57
            refine x_aload_n dX2_skip_60 rfl ?_
            refine x_dup dX2_skip_61 rfl ?_
            obtain ⟨o56, h⟩ := h
            refine x_get (v := .int (A32.I p 9)) hG dX2_skip_62 f_X2_164_2 o56 rfl ?_
            refine x_iconst_ (v := (1 : Int32)) dX2_skip_65 (by decide) ?_
            refine x_iadd dX2_skip_66 ?_
            refine z_putI hG hO.1 dX2_skip_67 f_X2_164_2 ⟨_, rfl, Or.inl rfl⟩ o56 (by decide) rfl rfl ⟨_, rfl⟩ (fun A57 e57 => ?_)
            replace h := h A57 e57
            refine x_goto (tgt := 0) dX2_skip_70 (by decide) ?_
            obtain ⟨q1, l1, h⟩ := h
            change X _ _ _ _ _ _ [some (.ref p), none, none] []
            exact X.weak (xle_c rfl (xle_n (xle_n xle_nil))) (ih1 q1 l1 A57 h)
        · replace h := h.2 c17
          refine x_aload_n dX2_skip_20 rfl ?_
          refine x_iconst_ (v := (0 : Int32)) dX2_skip_21 (by decide) ?_
          obtain ⟨o59, h⟩ := h
          obtain ⟨R58, g58, h⟩ := h
          refine x_callV hG (Ky := kX2_now) (As := [.int (0 : Int32)]) dX2_skip_22 o59 rfl lk_X2_177 me_X2_now is_X2_now se_X2_now rfl rfl (Nat.le_of_ble_eq_true rfl) (MX.post (m_X2_now hG hO g58) ?_)
          rintro _ A58 ⟨v58, rfl, h1⟩
          refine X.xok (fun w58 => ?_)
          replace h := h v58 A58 w58 h1
          change X _ _ _ _ A58 _ _ [.int v58]
          refine x_bipush_ (v := (47 : Int32)) dX2_skip_25 (by decide) ?_
          refine x_icmp_ne (tgt := 214) dX2_skip_27 (by decide) (fun c27 => ?_) (fun c27 => ?_)
          · replace h := h.2 c27
            refine x_iconst_ (v := (-1 : Int32)) dX2_skip_214 (by decide) ?_
            exact x_iret dX2_skip_215 rfl ⟨_, rfl, h⟩
          · replace h := h.1 c27
            refine x_aload_n dX2_skip_30 rfl ?_
            refine x_iconst_ (v := (1 : Int32)) dX2_skip_31 (by decide) ?_
            obtain ⟨o61, h⟩ := h
            obtain ⟨R60, g60, h⟩ := h
            refine x_callV hG (Ky := kX2_now) (As := [.int (1 : Int32)]) dX2_skip_32 o61 rfl lk_X2_177 me_X2_now is_X2_now se_X2_now rfl rfl (Nat.le_of_ble_eq_true rfl) (MX.post (m_X2_now hG hO g60) ?_)
            rintro _ A60 ⟨v60, rfl, h1⟩
            refine X.xok (fun w60 => ?_)
            replace h := h v60 A60 w60 h1
            change X _ _ _ _ A60 _ _ [.int v60]
            refine x_bipush_ (v := (47 : Int32)) dX2_skip_35 (by decide) ?_
            refine x_icmp_eq (tgt := 50) dX2_skip_37 (by decide) (fun c37 => ?_) (fun c37 => ?_)
            · replace h := h.1 c37
              refine x_aload_n dX2_skip_50 rfl ?_
              refine x_iconst_ (v := (0 : Int32)) dX2_skip_51 (by decide) ?_
              obtain ⟨o63, h⟩ := h
              obtain ⟨R62, g62, h⟩ := h
              refine x_callV hG (Ky := kX2_now) (As := [.int (0 : Int32)]) dX2_skip_52 o63 rfl lk_X2_177 me_X2_now is_X2_now se_X2_now rfl rfl (Nat.le_of_ble_eq_true rfl) (MX.post (m_X2_now hG hO g62) ?_)
              rintro _ A62 ⟨v62, rfl, h1⟩
              refine X.xok (fun w62 => ?_)
              replace h := h v62 A62 w62 h1
              change X _ _ _ _ A62 _ _ [.int v62]
              refine x_bipush_ (v := (47 : Int32)) dX2_skip_55 (by decide) ?_
              refine x_icmp_eq (tgt := 73) dX2_skip_57 (by decide) (fun c57 => ?_) (fun c57 => ?_)
              · replace h := h.1 c57
                refine x_aload_n dX2_skip_73 rfl ?_
                obtain ⟨o64, h⟩ := h
                refine x_get (v := .int (A62.I p 9)) hG dX2_skip_74 f_X2_164_2 o64 rfl ?_
                refine x_istore_n dX2_skip_77 (by decide) ?_
                refine x_aload_n dX2_skip_78 rfl ?_
                refine x_iconst_ (v := (1 : Int32)) dX2_skip_79 (by decide) ?_
                obtain ⟨R65, g65, h⟩ := h
                refine x_callV hG (Ky := kX2_now) (As := [.int (1 : Int32)]) dX2_skip_80 o64 rfl lk_X2_177 me_X2_now is_X2_now se_X2_now rfl rfl (Nat.le_of_ble_eq_true rfl) (MX.post (m_X2_now hG hO g65) ?_)
                rintro _ A65 ⟨v65, rfl, h1⟩
                refine X.xok (fun w65 => ?_)
                replace h := h v65 A65 w65 h1
                change X _ _ _ _ A65 _ _ [.int v65]
                refine x_bipush_ (v := (47 : Int32)) dX2_skip_83 (by decide) ?_
                refine x_via 93 (A' := A65) (lv' := [some (.ref p), some (.int (A62.I p 9)), none]) (st' := [.int (if v65 = (47 : Int32) then (1 : Int32) else (0 : Int32))]) ?_ (fun k93 => ?_)
                rotate_left
                · refine x_icmp_ne (tgt := 92) dX2_skip_85 (by decide) (fun c85 => ?_) (fun c85 => ?_)
                  · refine x_iconst_ (v := (0 : Int32)) dX2_skip_92 (by decide) ?_
                    change X _ _ _ _ _ _ [some (.ref p), some (.int (A62.I p 9)), none] [.int (0 : Int32)]
                    simp only [if_neg c85] at k93 ⊢
                    exact X.weak (xle_c rfl (xle_c rfl (xle_n xle_nil))) k93
                  · refine x_iconst_ (v := (1 : Int32)) dX2_skip_88 (by decide) ?_
                    refine x_goto (tgt := 93) dX2_skip_89 (by decide) ?_
                    change X _ _ _ _ _ _ [some (.ref p), some (.int (A62.I p 9)), none] [.int (1 : Int32)]
                    simp only [if_pos c85] at k93 ⊢
                    exact X.weak (xle_c rfl (xle_c rfl (xle_n xle_nil))) k93
                refine x_istore_n dX2_skip_93 (by decide) ?_
                refine x_aload_n dX2_skip_94 rfl ?_
                refine x_dup dX2_skip_95 rfl ?_
                obtain ⟨o66, h⟩ := h
                refine x_get (v := .int (A65.I p 9)) hG dX2_skip_96 f_X2_164_2 o66 rfl ?_
                refine x_iconst_ (v := (2 : Int32)) dX2_skip_99 (by decide) ?_
                refine x_iadd dX2_skip_100 ?_
                refine z_putI hG hO.1 dX2_skip_101 f_X2_164_2 ⟨_, rfl, Or.inl rfl⟩ o66 (by decide) rfl rfl ⟨_, rfl⟩ (fun A67 e67 => ?_)
                replace h := h A67 e67
                obtain ⟨L68, ⟨n68, i68⟩, g68⟩ := h
                have kl68 : ∀ n68 : Nat, ∀ (A68 : xA), L68 n68 A68 → X G (dp + 1) kX2_skip (hI Q) A68 104 [some (.ref p), some (.int (A62.I p 9)), some (.int (if v65 = (47 : Int32) then (1 : Int32) else (0 : Int32)))] [] := by
                  intro n68
                  induction n68 using Nat.strongRecOn with
                  | ind n68 ih68 =>
                    intro A68 h
                    replace h := g68 n68 A68 h
                    refine x_aload_n dX2_skip_104 rfl ?_
                    obtain ⟨o69, h⟩ := h
                    refine x_get (v := .int (A68.I p 9)) hG dX2_skip_105 f_X2_164_2 o69 rfl ?_
                    refine x_aload_n dX2_skip_108 rfl ?_
                    refine x_get (v := .int (A68.I p 8)) hG dX2_skip_109 f_X2_160_2 o69 rfl ?_
                    obtain ⟨J70, g70, h⟩ := h
                    have kj70 : ∀ (A70 : xA), J70 A70 → X G (dp + 1) kX2_skip (hI Q) A70 165 [some (.ref p), some (.int (A62.I p 9)), some (.int (if v65 = (47 : Int32) then (1 : Int32) else (0 : Int32)))] [] := by
                      intro A70 h
                      replace h := g70 A70 h
                      refine x_aload_n dX2_skip_165 rfl ?_
                      obtain ⟨o71, h⟩ := h
                      refine x_get (v := .int (A70.I p 9)) hG dX2_skip_166 f_X2_164_2 o71 rfl ?_
                      refine x_aload_n dX2_skip_169 rfl ?_
                      refine x_get (v := .int (A70.I p 8)) hG dX2_skip_170 f_X2_160_2 o71 rfl ?_
                      refine x_icmp_ne (tgt := 182) dX2_skip_173 (by decide) (fun c173 => ?_) (fun c173 => ?_)
                      · replace h := h.2 c173
                        refine x_aload_n dX2_skip_182 rfl ?_
                        refine x_get (v := .int (A70.I p 9)) hG dX2_skip_183 f_X2_164_2 o71 rfl ?_
                        refine x_aload_n dX2_skip_186 rfl ?_
                        refine x_get (v := .int (A70.I p 8)) hG dX2_skip_187 f_X2_160_2 o71 rfl ?_
                        obtain ⟨J72, g72, h⟩ := h
                        have kj72 : ∀ (A72 : xA), J72 A72 → X G (dp + 1) kX2_skip (hI Q) A72 211 [some (.ref p), none, none] [] := by
                          intro A72 h
                          replace h := g72 A72 h
                          refine x_goto (tgt := 0) dX2_skip_211 (by decide) ?_
                          obtain ⟨q1, l1, h⟩ := h
                          change X _ _ _ _ _ _ [some (.ref p), none, none] []
                          exact X.weak (xle_c rfl (xle_n (xle_n xle_nil))) (ih1 q1 l1 A72 h)
                        refine x_icmp_ge (tgt := 211) dX2_skip_190 (by decide) (fun c190 => ?_) (fun c190 => ?_)
                        · replace h := h.1 c190
                          change X _ _ _ _ _ _ [some (.ref p), some (.int (A62.I p 9)), some (.int (if v65 = (47 : Int32) then (1 : Int32) else (0 : Int32)))] []
                          exact X.weak (xle_c rfl (xle_n (xle_n xle_nil))) (kj72 A70 h)
                        · replace h := h.2 c190
                          refine x_aload_n dX2_skip_193 rfl ?_
                          refine x_dup dX2_skip_194 rfl ?_
                          refine x_get (v := .int (A70.I p 9)) hG dX2_skip_195 f_X2_164_2 o71 rfl ?_
                          refine x_iload_n dX2_skip_198 rfl ?_
                          refine x_via 207 (A' := A70) (lv' := [some (.ref p), none, none]) (st' := [.int (if (if v65 = (47 : Int32) then (1 : Int32) else (0 : Int32)) = 0 then (2 : Int32) else (1 : Int32)), .int (A70.I p 9), .ref p]) ?_ (fun k207 => ?_)
                          rotate_left
                          · refine x_if_eq (tgt := 206) dX2_skip_199 (by decide) (fun c199 => ?_) (fun c199 => ?_)
                            · refine x_iconst_ (v := (2 : Int32)) dX2_skip_206 (by decide) ?_
                              change X _ _ _ _ _ _ [some (.ref p), some (.int (A62.I p 9)), some (.int (if v65 = (47 : Int32) then (1 : Int32) else (0 : Int32)))] [.int (2 : Int32), .int (A70.I p 9), .ref p]
                              simp only [if_pos c199] at k207 ⊢
                              exact X.weak (xle_c rfl (xle_n (xle_n xle_nil))) k207
                            · refine x_iconst_ (v := (1 : Int32)) dX2_skip_202 (by decide) ?_
                              refine x_goto (tgt := 207) dX2_skip_203 (by decide) ?_
                              change X _ _ _ _ _ _ [some (.ref p), some (.int (A62.I p 9)), some (.int (if v65 = (47 : Int32) then (1 : Int32) else (0 : Int32)))] [.int (1 : Int32), .int (A70.I p 9), .ref p]
                              simp only [if_neg c199] at k207 ⊢
                              exact X.weak (xle_c rfl (xle_n (xle_n xle_nil))) k207
                          refine x_iadd dX2_skip_207 ?_
                          refine z_putI hG hO.1 dX2_skip_208 f_X2_164_2 ⟨_, rfl, Or.inl rfl⟩ o71 (by decide) rfl rfl ⟨_, rfl⟩ (fun A73 e73 => ?_)
                          replace h := h A73 e73
                          change X _ _ _ _ _ _ [some (.ref p), none, none] []
                          exact X.weak (xle_c rfl (xle_n (xle_n xle_nil))) (kj72 A73 h)
                      · replace h := h.1 c173
                        refine x_iload_n dX2_skip_176 rfl ?_
                        refine x_if_ne (tgt := 182) dX2_skip_177 (by decide) (fun c177 => ?_) (fun c177 => ?_)
                        · replace h := h.2 c177
                          refine x_aload_n dX2_skip_182 rfl ?_
                          refine x_get (v := .int (A70.I p 9)) hG dX2_skip_183 f_X2_164_2 o71 rfl ?_
                          refine x_aload_n dX2_skip_186 rfl ?_
                          refine x_get (v := .int (A70.I p 8)) hG dX2_skip_187 f_X2_160_2 o71 rfl ?_
                          obtain ⟨J74, g74, h⟩ := h
                          have kj74 : ∀ (A74 : xA), J74 A74 → X G (dp + 1) kX2_skip (hI Q) A74 211 [some (.ref p), none, none] [] := by
                            intro A74 h
                            replace h := g74 A74 h
                            refine x_goto (tgt := 0) dX2_skip_211 (by decide) ?_
                            obtain ⟨q1, l1, h⟩ := h
                            change X _ _ _ _ _ _ [some (.ref p), none, none] []
                            exact X.weak (xle_c rfl (xle_n (xle_n xle_nil))) (ih1 q1 l1 A74 h)
                          refine x_icmp_ge (tgt := 211) dX2_skip_190 (by decide) (fun c190 => ?_) (fun c190 => ?_)
                          · replace h := h.1 c190
                            change X _ _ _ _ _ _ [some (.ref p), some (.int (A62.I p 9)), some (.int (if v65 = (47 : Int32) then (1 : Int32) else (0 : Int32)))] []
                            exact X.weak (xle_c rfl (xle_n (xle_n xle_nil))) (kj74 A70 h)
                          · replace h := h.2 c190
                            refine x_aload_n dX2_skip_193 rfl ?_
                            refine x_dup dX2_skip_194 rfl ?_
                            refine x_get (v := .int (A70.I p 9)) hG dX2_skip_195 f_X2_164_2 o71 rfl ?_
                            refine x_iload_n dX2_skip_198 rfl ?_
                            refine x_if_eq (tgt := 206) dX2_skip_199 (by decide) (fun h => absurd h c177) (fun _ => ?_)
                            refine x_iconst_ (v := (1 : Int32)) dX2_skip_202 (by decide) ?_
                            refine x_goto (tgt := 207) dX2_skip_203 (by decide) ?_
                            refine x_iadd dX2_skip_207 ?_
                            refine z_putI hG hO.1 dX2_skip_208 f_X2_164_2 ⟨_, rfl, Or.inl rfl⟩ o71 (by decide) rfl rfl ⟨_, rfl⟩ (fun A75 e75 => ?_)
                            replace h := h A75 e75
                            change X _ _ _ _ _ _ [some (.ref p), some (.int (A62.I p 9)), some (.int (if v65 = (47 : Int32) then (1 : Int32) else (0 : Int32)))] []
                            exact X.weak (xle_c rfl (xle_n (xle_n xle_nil))) (kj74 A75 h)
                        · replace h := h.1 c177
                          refine x_iload_n dX2_skip_180 rfl ?_
                          exact x_iret dX2_skip_181 rfl ⟨_, rfl, h⟩
                    refine x_icmp_ge (tgt := 165) dX2_skip_112 (by decide) (fun c112 => ?_) (fun c112 => ?_)
                    · replace h := h.1 c112
                      change X _ _ _ _ _ _ [some (.ref p), some (.int (A62.I p 9)), some (.int (if v65 = (47 : Int32) then (1 : Int32) else (0 : Int32)))] []
                      exact X.weak (xle_c rfl (xle_c rfl (xle_c rfl xle_nil))) (kj70 A68 h)
                    · replace h := h.2 c112
                      refine x_iload_n dX2_skip_115 rfl ?_
                      refine x_if_eq (tgt := 132) dX2_skip_116 (by decide) (fun c116 => ?_) (fun c116 => ?_)
                      · replace h := h.1 c116
                        refine x_aload_n dX2_skip_132 rfl ?_
                        refine x_iconst_ (v := (0 : Int32)) dX2_skip_133 (by decide) ?_
                        obtain ⟨R76, g76, h⟩ := h
                        refine x_callV hG (Ky := kX2_now) (As := [.int (0 : Int32)]) dX2_skip_134 o69 rfl lk_X2_177 me_X2_now is_X2_now se_X2_now rfl rfl (Nat.le_of_ble_eq_true rfl) (MX.post (m_X2_now hG hO g76) ?_)
                        rintro _ A76 ⟨v76, rfl, h1⟩
                        refine X.xok (fun w76 => ?_)
                        replace h := h v76 A76 w76 h1
                        change X _ _ _ _ A76 _ _ [.int v76]
                        refine x_bipush_ (v := (42 : Int32)) dX2_skip_137 (by decide) ?_
                        refine x_icmp_ne (tgt := 152) dX2_skip_139 (by decide) (fun c139 => ?_) (fun c139 => ?_)
                        · replace h := h.2 c139
                          refine x_aload_n dX2_skip_152 rfl ?_
                          refine x_dup dX2_skip_153 rfl ?_
                          obtain ⟨o77, h⟩ := h
                          refine x_get (v := .int (A76.I p 9)) hG dX2_skip_154 f_X2_164_2 o77 rfl ?_
                          refine x_iconst_ (v := (1 : Int32)) dX2_skip_157 (by decide) ?_
                          refine x_iadd dX2_skip_158 ?_
                          refine z_putI hG hO.1 dX2_skip_159 f_X2_164_2 ⟨_, rfl, Or.inl rfl⟩ o77 (by decide) rfl rfl ⟨_, rfl⟩ (fun A78 e78 => ?_)
                          replace h := h A78 e78
                          refine x_goto (tgt := 104) dX2_skip_162 (by decide) ?_
                          obtain ⟨q68, l68, h⟩ := h
                          change X _ _ _ _ _ _ [some (.ref p), some (.int (A62.I p 9)), some (.int (if v65 = (47 : Int32) then (1 : Int32) else (0 : Int32)))] []
                          exact X.weak (xle_c rfl (xle_c rfl (xle_c rfl xle_nil))) (ih68 q68 l68 A78 h)
                        · replace h := h.1 c139
                          refine x_aload_n dX2_skip_142 rfl ?_
                          refine x_iconst_ (v := (1 : Int32)) dX2_skip_143 (by decide) ?_
                          obtain ⟨o80, h⟩ := h
                          obtain ⟨R79, g79, h⟩ := h
                          refine x_callV hG (Ky := kX2_now) (As := [.int (1 : Int32)]) dX2_skip_144 o80 rfl lk_X2_177 me_X2_now is_X2_now se_X2_now rfl rfl (Nat.le_of_ble_eq_true rfl) (MX.post (m_X2_now hG hO g79) ?_)
                          rintro _ A79 ⟨v79, rfl, h1⟩
                          refine X.xok (fun w79 => ?_)
                          replace h := h v79 A79 w79 h1
                          change X _ _ _ _ A79 _ _ [.int v79]
                          refine x_bipush_ (v := (47 : Int32)) dX2_skip_147 (by decide) ?_
                          refine x_icmp_eq (tgt := 165) dX2_skip_149 (by decide) (fun c149 => ?_) (fun c149 => ?_)
                          · replace h := h.1 c149
                            change X _ _ _ _ _ _ [some (.ref p), some (.int (A62.I p 9)), some (.int (if v65 = (47 : Int32) then (1 : Int32) else (0 : Int32)))] []
                            exact X.weak (xle_c rfl (xle_c rfl (xle_c rfl xle_nil))) (kj70 A79 h)
                          · replace h := h.2 c149
                            refine x_aload_n dX2_skip_152 rfl ?_
                            refine x_dup dX2_skip_153 rfl ?_
                            obtain ⟨o81, h⟩ := h
                            refine x_get (v := .int (A79.I p 9)) hG dX2_skip_154 f_X2_164_2 o81 rfl ?_
                            refine x_iconst_ (v := (1 : Int32)) dX2_skip_157 (by decide) ?_
                            refine x_iadd dX2_skip_158 ?_
                            refine z_putI hG hO.1 dX2_skip_159 f_X2_164_2 ⟨_, rfl, Or.inl rfl⟩ o81 (by decide) rfl rfl ⟨_, rfl⟩ (fun A82 e82 => ?_)
                            replace h := h A82 e82
                            refine x_goto (tgt := 104) dX2_skip_162 (by decide) ?_
                            obtain ⟨q68, l68, h⟩ := h
                            change X _ _ _ _ _ _ [some (.ref p), some (.int (A62.I p 9)), some (.int (if v65 = (47 : Int32) then (1 : Int32) else (0 : Int32)))] []
                            exact X.weak (xle_c rfl (xle_c rfl (xle_c rfl xle_nil))) (ih68 q68 l68 A82 h)
                      · replace h := h.2 c116
                        refine x_aload_n dX2_skip_119 rfl ?_
                        refine x_iconst_ (v := (0 : Int32)) dX2_skip_120 (by decide) ?_
                        obtain ⟨R83, g83, h⟩ := h
                        refine x_callV hG (Ky := kX2_now) (As := [.int (0 : Int32)]) dX2_skip_121 o69 rfl lk_X2_177 me_X2_now is_X2_now se_X2_now rfl rfl (Nat.le_of_ble_eq_true rfl) (MX.post (m_X2_now hG hO g83) ?_)
                        rintro _ A83 ⟨v83, rfl, h1⟩
                        refine X.xok (fun w83 => ?_)
                        replace h := h v83 A83 w83 h1
                        change X _ _ _ _ A83 _ _ [.int v83]
                        refine x_bipush_ (v := (10 : Int32)) dX2_skip_124 (by decide) ?_
                        refine x_icmp_ne (tgt := 152) dX2_skip_126 (by decide) (fun c126 => ?_) (fun c126 => ?_)
                        · replace h := h.2 c126
                          refine x_aload_n dX2_skip_152 rfl ?_
                          refine x_dup dX2_skip_153 rfl ?_
                          obtain ⟨o84, h⟩ := h
                          refine x_get (v := .int (A83.I p 9)) hG dX2_skip_154 f_X2_164_2 o84 rfl ?_
                          refine x_iconst_ (v := (1 : Int32)) dX2_skip_157 (by decide) ?_
                          refine x_iadd dX2_skip_158 ?_
                          refine z_putI hG hO.1 dX2_skip_159 f_X2_164_2 ⟨_, rfl, Or.inl rfl⟩ o84 (by decide) rfl rfl ⟨_, rfl⟩ (fun A85 e85 => ?_)
                          replace h := h A85 e85
                          refine x_goto (tgt := 104) dX2_skip_162 (by decide) ?_
                          obtain ⟨q68, l68, h⟩ := h
                          change X _ _ _ _ _ _ [some (.ref p), some (.int (A62.I p 9)), some (.int (if v65 = (47 : Int32) then (1 : Int32) else (0 : Int32)))] []
                          exact X.weak (xle_c rfl (xle_c rfl (xle_c rfl xle_nil))) (ih68 q68 l68 A85 h)
                        · replace h := h.1 c126
                          refine x_goto (tgt := 165) dX2_skip_129 (by decide) ?_
                          change X _ _ _ _ _ _ [some (.ref p), some (.int (A62.I p 9)), some (.int (if v65 = (47 : Int32) then (1 : Int32) else (0 : Int32)))] []
                          exact X.weak (xle_c rfl (xle_c rfl (xle_c rfl xle_nil))) (kj70 A83 h)
                change X _ _ _ _ _ _ [some (.ref p), some (.int (A62.I p 9)), some (.int (if v65 = (47 : Int32) then (1 : Int32) else (0 : Int32)))] []
                exact X.weak (xle_c rfl (xle_c rfl (xle_c rfl xle_nil))) (kl68 n68 A67 i68)
              · replace h := h.2 c57
                refine x_aload_n dX2_skip_60 rfl ?_
                refine x_dup dX2_skip_61 rfl ?_
                obtain ⟨o86, h⟩ := h
                refine x_get (v := .int (A62.I p 9)) hG dX2_skip_62 f_X2_164_2 o86 rfl ?_
                refine x_iconst_ (v := (1 : Int32)) dX2_skip_65 (by decide) ?_
                refine x_iadd dX2_skip_66 ?_
                refine z_putI hG hO.1 dX2_skip_67 f_X2_164_2 ⟨_, rfl, Or.inl rfl⟩ o86 (by decide) rfl rfl ⟨_, rfl⟩ (fun A87 e87 => ?_)
                replace h := h A87 e87
                refine x_goto (tgt := 0) dX2_skip_70 (by decide) ?_
                obtain ⟨q1, l1, h⟩ := h
                change X _ _ _ _ _ _ [some (.ref p), none, none] []
                exact X.weak (xle_c rfl (xle_n (xle_n xle_nil))) (ih1 q1 l1 A87 h)
            · replace h := h.2 c37
              refine x_aload_n dX2_skip_40 rfl ?_
              refine x_iconst_ (v := (1 : Int32)) dX2_skip_41 (by decide) ?_
              obtain ⟨o89, h⟩ := h
              obtain ⟨R88, g88, h⟩ := h
              refine x_callV hG (Ky := kX2_now) (As := [.int (1 : Int32)]) dX2_skip_42 o89 rfl lk_X2_177 me_X2_now is_X2_now se_X2_now rfl rfl (Nat.le_of_ble_eq_true rfl) (MX.post (m_X2_now hG hO g88) ?_)
              rintro _ A88 ⟨v88, rfl, h1⟩
              refine X.xok (fun w88 => ?_)
              replace h := h v88 A88 w88 h1
              change X _ _ _ _ A88 _ _ [.int v88]
              refine x_bipush_ (v := (42 : Int32)) dX2_skip_45 (by decide) ?_
              refine x_icmp_ne (tgt := 214) dX2_skip_47 (by decide) (fun c47 => ?_) (fun c47 => ?_)
              · replace h := h.2 c47
                refine x_iconst_ (v := (-1 : Int32)) dX2_skip_214 (by decide) ?_
                exact x_iret dX2_skip_215 rfl ⟨_, rfl, h⟩
              · replace h := h.1 c47
                refine x_aload_n dX2_skip_50 rfl ?_
                refine x_iconst_ (v := (0 : Int32)) dX2_skip_51 (by decide) ?_
                obtain ⟨o91, h⟩ := h
                obtain ⟨R90, g90, h⟩ := h
                refine x_callV hG (Ky := kX2_now) (As := [.int (0 : Int32)]) dX2_skip_52 o91 rfl lk_X2_177 me_X2_now is_X2_now se_X2_now rfl rfl (Nat.le_of_ble_eq_true rfl) (MX.post (m_X2_now hG hO g90) ?_)
                rintro _ A90 ⟨v90, rfl, h1⟩
                refine X.xok (fun w90 => ?_)
                replace h := h v90 A90 w90 h1
                change X _ _ _ _ A90 _ _ [.int v90]
                refine x_bipush_ (v := (47 : Int32)) dX2_skip_55 (by decide) ?_
                refine x_icmp_eq (tgt := 73) dX2_skip_57 (by decide) (fun c57 => ?_) (fun c57 => ?_)
                · replace h := h.1 c57
                  refine x_aload_n dX2_skip_73 rfl ?_
                  obtain ⟨o92, h⟩ := h
                  refine x_get (v := .int (A90.I p 9)) hG dX2_skip_74 f_X2_164_2 o92 rfl ?_
                  refine x_istore_n dX2_skip_77 (by decide) ?_
                  refine x_aload_n dX2_skip_78 rfl ?_
                  refine x_iconst_ (v := (1 : Int32)) dX2_skip_79 (by decide) ?_
                  obtain ⟨R93, g93, h⟩ := h
                  refine x_callV hG (Ky := kX2_now) (As := [.int (1 : Int32)]) dX2_skip_80 o92 rfl lk_X2_177 me_X2_now is_X2_now se_X2_now rfl rfl (Nat.le_of_ble_eq_true rfl) (MX.post (m_X2_now hG hO g93) ?_)
                  rintro _ A93 ⟨v93, rfl, h1⟩
                  refine X.xok (fun w93 => ?_)
                  replace h := h v93 A93 w93 h1
                  change X _ _ _ _ A93 _ _ [.int v93]
                  refine x_bipush_ (v := (47 : Int32)) dX2_skip_83 (by decide) ?_
                  refine x_via 93 (A' := A93) (lv' := [some (.ref p), some (.int (A90.I p 9)), none]) (st' := [.int (if v93 = (47 : Int32) then (1 : Int32) else (0 : Int32))]) ?_ (fun k93 => ?_)
                  rotate_left
                  · refine x_icmp_ne (tgt := 92) dX2_skip_85 (by decide) (fun c85 => ?_) (fun c85 => ?_)
                    · refine x_iconst_ (v := (0 : Int32)) dX2_skip_92 (by decide) ?_
                      change X _ _ _ _ _ _ [some (.ref p), some (.int (A90.I p 9)), none] [.int (0 : Int32)]
                      simp only [if_neg c85] at k93 ⊢
                      exact X.weak (xle_c rfl (xle_c rfl (xle_n xle_nil))) k93
                    · refine x_iconst_ (v := (1 : Int32)) dX2_skip_88 (by decide) ?_
                      refine x_goto (tgt := 93) dX2_skip_89 (by decide) ?_
                      change X _ _ _ _ _ _ [some (.ref p), some (.int (A90.I p 9)), none] [.int (1 : Int32)]
                      simp only [if_pos c85] at k93 ⊢
                      exact X.weak (xle_c rfl (xle_c rfl (xle_n xle_nil))) k93
                  refine x_istore_n dX2_skip_93 (by decide) ?_
                  refine x_aload_n dX2_skip_94 rfl ?_
                  refine x_dup dX2_skip_95 rfl ?_
                  obtain ⟨o94, h⟩ := h
                  refine x_get (v := .int (A93.I p 9)) hG dX2_skip_96 f_X2_164_2 o94 rfl ?_
                  refine x_iconst_ (v := (2 : Int32)) dX2_skip_99 (by decide) ?_
                  refine x_iadd dX2_skip_100 ?_
                  refine z_putI hG hO.1 dX2_skip_101 f_X2_164_2 ⟨_, rfl, Or.inl rfl⟩ o94 (by decide) rfl rfl ⟨_, rfl⟩ (fun A95 e95 => ?_)
                  replace h := h A95 e95
                  obtain ⟨L96, ⟨n96, i96⟩, g96⟩ := h
                  have kl96 : ∀ n96 : Nat, ∀ (A96 : xA), L96 n96 A96 → X G (dp + 1) kX2_skip (hI Q) A96 104 [some (.ref p), some (.int (A90.I p 9)), some (.int (if v93 = (47 : Int32) then (1 : Int32) else (0 : Int32)))] [] := by
                    intro n96
                    induction n96 using Nat.strongRecOn with
                    | ind n96 ih96 =>
                      intro A96 h
                      replace h := g96 n96 A96 h
                      refine x_aload_n dX2_skip_104 rfl ?_
                      obtain ⟨o97, h⟩ := h
                      refine x_get (v := .int (A96.I p 9)) hG dX2_skip_105 f_X2_164_2 o97 rfl ?_
                      refine x_aload_n dX2_skip_108 rfl ?_
                      refine x_get (v := .int (A96.I p 8)) hG dX2_skip_109 f_X2_160_2 o97 rfl ?_
                      obtain ⟨J98, g98, h⟩ := h
                      have kj98 : ∀ (A98 : xA), J98 A98 → X G (dp + 1) kX2_skip (hI Q) A98 165 [some (.ref p), some (.int (A90.I p 9)), some (.int (if v93 = (47 : Int32) then (1 : Int32) else (0 : Int32)))] [] := by
                        intro A98 h
                        replace h := g98 A98 h
                        refine x_aload_n dX2_skip_165 rfl ?_
                        obtain ⟨o99, h⟩ := h
                        refine x_get (v := .int (A98.I p 9)) hG dX2_skip_166 f_X2_164_2 o99 rfl ?_
                        refine x_aload_n dX2_skip_169 rfl ?_
                        refine x_get (v := .int (A98.I p 8)) hG dX2_skip_170 f_X2_160_2 o99 rfl ?_
                        refine x_icmp_ne (tgt := 182) dX2_skip_173 (by decide) (fun c173 => ?_) (fun c173 => ?_)
                        · replace h := h.2 c173
                          refine x_aload_n dX2_skip_182 rfl ?_
                          refine x_get (v := .int (A98.I p 9)) hG dX2_skip_183 f_X2_164_2 o99 rfl ?_
                          refine x_aload_n dX2_skip_186 rfl ?_
                          refine x_get (v := .int (A98.I p 8)) hG dX2_skip_187 f_X2_160_2 o99 rfl ?_
                          obtain ⟨J100, g100, h⟩ := h
                          have kj100 : ∀ (A100 : xA), J100 A100 → X G (dp + 1) kX2_skip (hI Q) A100 211 [some (.ref p), none, none] [] := by
                            intro A100 h
                            replace h := g100 A100 h
                            refine x_goto (tgt := 0) dX2_skip_211 (by decide) ?_
                            obtain ⟨q1, l1, h⟩ := h
                            change X _ _ _ _ _ _ [some (.ref p), none, none] []
                            exact X.weak (xle_c rfl (xle_n (xle_n xle_nil))) (ih1 q1 l1 A100 h)
                          refine x_icmp_ge (tgt := 211) dX2_skip_190 (by decide) (fun c190 => ?_) (fun c190 => ?_)
                          · replace h := h.1 c190
                            change X _ _ _ _ _ _ [some (.ref p), some (.int (A90.I p 9)), some (.int (if v93 = (47 : Int32) then (1 : Int32) else (0 : Int32)))] []
                            exact X.weak (xle_c rfl (xle_n (xle_n xle_nil))) (kj100 A98 h)
                          · replace h := h.2 c190
                            refine x_aload_n dX2_skip_193 rfl ?_
                            refine x_dup dX2_skip_194 rfl ?_
                            refine x_get (v := .int (A98.I p 9)) hG dX2_skip_195 f_X2_164_2 o99 rfl ?_
                            refine x_iload_n dX2_skip_198 rfl ?_
                            refine x_via 207 (A' := A98) (lv' := [some (.ref p), none, none]) (st' := [.int (if (if v93 = (47 : Int32) then (1 : Int32) else (0 : Int32)) = 0 then (2 : Int32) else (1 : Int32)), .int (A98.I p 9), .ref p]) ?_ (fun k207 => ?_)
                            rotate_left
                            · refine x_if_eq (tgt := 206) dX2_skip_199 (by decide) (fun c199 => ?_) (fun c199 => ?_)
                              · refine x_iconst_ (v := (2 : Int32)) dX2_skip_206 (by decide) ?_
                                change X _ _ _ _ _ _ [some (.ref p), some (.int (A90.I p 9)), some (.int (if v93 = (47 : Int32) then (1 : Int32) else (0 : Int32)))] [.int (2 : Int32), .int (A98.I p 9), .ref p]
                                simp only [if_pos c199] at k207 ⊢
                                exact X.weak (xle_c rfl (xle_n (xle_n xle_nil))) k207
                              · refine x_iconst_ (v := (1 : Int32)) dX2_skip_202 (by decide) ?_
                                refine x_goto (tgt := 207) dX2_skip_203 (by decide) ?_
                                change X _ _ _ _ _ _ [some (.ref p), some (.int (A90.I p 9)), some (.int (if v93 = (47 : Int32) then (1 : Int32) else (0 : Int32)))] [.int (1 : Int32), .int (A98.I p 9), .ref p]
                                simp only [if_neg c199] at k207 ⊢
                                exact X.weak (xle_c rfl (xle_n (xle_n xle_nil))) k207
                            refine x_iadd dX2_skip_207 ?_
                            refine z_putI hG hO.1 dX2_skip_208 f_X2_164_2 ⟨_, rfl, Or.inl rfl⟩ o99 (by decide) rfl rfl ⟨_, rfl⟩ (fun A101 e101 => ?_)
                            replace h := h A101 e101
                            change X _ _ _ _ _ _ [some (.ref p), none, none] []
                            exact X.weak (xle_c rfl (xle_n (xle_n xle_nil))) (kj100 A101 h)
                        · replace h := h.1 c173
                          refine x_iload_n dX2_skip_176 rfl ?_
                          refine x_if_ne (tgt := 182) dX2_skip_177 (by decide) (fun c177 => ?_) (fun c177 => ?_)
                          · replace h := h.2 c177
                            refine x_aload_n dX2_skip_182 rfl ?_
                            refine x_get (v := .int (A98.I p 9)) hG dX2_skip_183 f_X2_164_2 o99 rfl ?_
                            refine x_aload_n dX2_skip_186 rfl ?_
                            refine x_get (v := .int (A98.I p 8)) hG dX2_skip_187 f_X2_160_2 o99 rfl ?_
                            obtain ⟨J102, g102, h⟩ := h
                            have kj102 : ∀ (A102 : xA), J102 A102 → X G (dp + 1) kX2_skip (hI Q) A102 211 [some (.ref p), none, none] [] := by
                              intro A102 h
                              replace h := g102 A102 h
                              refine x_goto (tgt := 0) dX2_skip_211 (by decide) ?_
                              obtain ⟨q1, l1, h⟩ := h
                              change X _ _ _ _ _ _ [some (.ref p), none, none] []
                              exact X.weak (xle_c rfl (xle_n (xle_n xle_nil))) (ih1 q1 l1 A102 h)
                            refine x_icmp_ge (tgt := 211) dX2_skip_190 (by decide) (fun c190 => ?_) (fun c190 => ?_)
                            · replace h := h.1 c190
                              change X _ _ _ _ _ _ [some (.ref p), some (.int (A90.I p 9)), some (.int (if v93 = (47 : Int32) then (1 : Int32) else (0 : Int32)))] []
                              exact X.weak (xle_c rfl (xle_n (xle_n xle_nil))) (kj102 A98 h)
                            · replace h := h.2 c190
                              refine x_aload_n dX2_skip_193 rfl ?_
                              refine x_dup dX2_skip_194 rfl ?_
                              refine x_get (v := .int (A98.I p 9)) hG dX2_skip_195 f_X2_164_2 o99 rfl ?_
                              refine x_iload_n dX2_skip_198 rfl ?_
                              refine x_if_eq (tgt := 206) dX2_skip_199 (by decide) (fun h => absurd h c177) (fun _ => ?_)
                              refine x_iconst_ (v := (1 : Int32)) dX2_skip_202 (by decide) ?_
                              refine x_goto (tgt := 207) dX2_skip_203 (by decide) ?_
                              refine x_iadd dX2_skip_207 ?_
                              refine z_putI hG hO.1 dX2_skip_208 f_X2_164_2 ⟨_, rfl, Or.inl rfl⟩ o99 (by decide) rfl rfl ⟨_, rfl⟩ (fun A103 e103 => ?_)
                              replace h := h A103 e103
                              change X _ _ _ _ _ _ [some (.ref p), some (.int (A90.I p 9)), some (.int (if v93 = (47 : Int32) then (1 : Int32) else (0 : Int32)))] []
                              exact X.weak (xle_c rfl (xle_n (xle_n xle_nil))) (kj102 A103 h)
                          · replace h := h.1 c177
                            refine x_iload_n dX2_skip_180 rfl ?_
                            exact x_iret dX2_skip_181 rfl ⟨_, rfl, h⟩
                      refine x_icmp_ge (tgt := 165) dX2_skip_112 (by decide) (fun c112 => ?_) (fun c112 => ?_)
                      · replace h := h.1 c112
                        change X _ _ _ _ _ _ [some (.ref p), some (.int (A90.I p 9)), some (.int (if v93 = (47 : Int32) then (1 : Int32) else (0 : Int32)))] []
                        exact X.weak (xle_c rfl (xle_c rfl (xle_c rfl xle_nil))) (kj98 A96 h)
                      · replace h := h.2 c112
                        refine x_iload_n dX2_skip_115 rfl ?_
                        refine x_if_eq (tgt := 132) dX2_skip_116 (by decide) (fun c116 => ?_) (fun c116 => ?_)
                        · replace h := h.1 c116
                          refine x_aload_n dX2_skip_132 rfl ?_
                          refine x_iconst_ (v := (0 : Int32)) dX2_skip_133 (by decide) ?_
                          obtain ⟨R104, g104, h⟩ := h
                          refine x_callV hG (Ky := kX2_now) (As := [.int (0 : Int32)]) dX2_skip_134 o97 rfl lk_X2_177 me_X2_now is_X2_now se_X2_now rfl rfl (Nat.le_of_ble_eq_true rfl) (MX.post (m_X2_now hG hO g104) ?_)
                          rintro _ A104 ⟨v104, rfl, h1⟩
                          refine X.xok (fun w104 => ?_)
                          replace h := h v104 A104 w104 h1
                          change X _ _ _ _ A104 _ _ [.int v104]
                          refine x_bipush_ (v := (42 : Int32)) dX2_skip_137 (by decide) ?_
                          refine x_icmp_ne (tgt := 152) dX2_skip_139 (by decide) (fun c139 => ?_) (fun c139 => ?_)
                          · replace h := h.2 c139
                            refine x_aload_n dX2_skip_152 rfl ?_
                            refine x_dup dX2_skip_153 rfl ?_
                            obtain ⟨o105, h⟩ := h
                            refine x_get (v := .int (A104.I p 9)) hG dX2_skip_154 f_X2_164_2 o105 rfl ?_
                            refine x_iconst_ (v := (1 : Int32)) dX2_skip_157 (by decide) ?_
                            refine x_iadd dX2_skip_158 ?_
                            refine z_putI hG hO.1 dX2_skip_159 f_X2_164_2 ⟨_, rfl, Or.inl rfl⟩ o105 (by decide) rfl rfl ⟨_, rfl⟩ (fun A106 e106 => ?_)
                            replace h := h A106 e106
                            refine x_goto (tgt := 104) dX2_skip_162 (by decide) ?_
                            obtain ⟨q96, l96, h⟩ := h
                            change X _ _ _ _ _ _ [some (.ref p), some (.int (A90.I p 9)), some (.int (if v93 = (47 : Int32) then (1 : Int32) else (0 : Int32)))] []
                            exact X.weak (xle_c rfl (xle_c rfl (xle_c rfl xle_nil))) (ih96 q96 l96 A106 h)
                          · replace h := h.1 c139
                            refine x_aload_n dX2_skip_142 rfl ?_
                            refine x_iconst_ (v := (1 : Int32)) dX2_skip_143 (by decide) ?_
                            obtain ⟨o108, h⟩ := h
                            obtain ⟨R107, g107, h⟩ := h
                            refine x_callV hG (Ky := kX2_now) (As := [.int (1 : Int32)]) dX2_skip_144 o108 rfl lk_X2_177 me_X2_now is_X2_now se_X2_now rfl rfl (Nat.le_of_ble_eq_true rfl) (MX.post (m_X2_now hG hO g107) ?_)
                            rintro _ A107 ⟨v107, rfl, h1⟩
                            refine X.xok (fun w107 => ?_)
                            replace h := h v107 A107 w107 h1
                            change X _ _ _ _ A107 _ _ [.int v107]
                            refine x_bipush_ (v := (47 : Int32)) dX2_skip_147 (by decide) ?_
                            refine x_icmp_eq (tgt := 165) dX2_skip_149 (by decide) (fun c149 => ?_) (fun c149 => ?_)
                            · replace h := h.1 c149
                              change X _ _ _ _ _ _ [some (.ref p), some (.int (A90.I p 9)), some (.int (if v93 = (47 : Int32) then (1 : Int32) else (0 : Int32)))] []
                              exact X.weak (xle_c rfl (xle_c rfl (xle_c rfl xle_nil))) (kj98 A107 h)
                            · replace h := h.2 c149
                              refine x_aload_n dX2_skip_152 rfl ?_
                              refine x_dup dX2_skip_153 rfl ?_
                              obtain ⟨o109, h⟩ := h
                              refine x_get (v := .int (A107.I p 9)) hG dX2_skip_154 f_X2_164_2 o109 rfl ?_
                              refine x_iconst_ (v := (1 : Int32)) dX2_skip_157 (by decide) ?_
                              refine x_iadd dX2_skip_158 ?_
                              refine z_putI hG hO.1 dX2_skip_159 f_X2_164_2 ⟨_, rfl, Or.inl rfl⟩ o109 (by decide) rfl rfl ⟨_, rfl⟩ (fun A110 e110 => ?_)
                              replace h := h A110 e110
                              refine x_goto (tgt := 104) dX2_skip_162 (by decide) ?_
                              obtain ⟨q96, l96, h⟩ := h
                              change X _ _ _ _ _ _ [some (.ref p), some (.int (A90.I p 9)), some (.int (if v93 = (47 : Int32) then (1 : Int32) else (0 : Int32)))] []
                              exact X.weak (xle_c rfl (xle_c rfl (xle_c rfl xle_nil))) (ih96 q96 l96 A110 h)
                        · replace h := h.2 c116
                          refine x_aload_n dX2_skip_119 rfl ?_
                          refine x_iconst_ (v := (0 : Int32)) dX2_skip_120 (by decide) ?_
                          obtain ⟨R111, g111, h⟩ := h
                          refine x_callV hG (Ky := kX2_now) (As := [.int (0 : Int32)]) dX2_skip_121 o97 rfl lk_X2_177 me_X2_now is_X2_now se_X2_now rfl rfl (Nat.le_of_ble_eq_true rfl) (MX.post (m_X2_now hG hO g111) ?_)
                          rintro _ A111 ⟨v111, rfl, h1⟩
                          refine X.xok (fun w111 => ?_)
                          replace h := h v111 A111 w111 h1
                          change X _ _ _ _ A111 _ _ [.int v111]
                          refine x_bipush_ (v := (10 : Int32)) dX2_skip_124 (by decide) ?_
                          refine x_icmp_ne (tgt := 152) dX2_skip_126 (by decide) (fun c126 => ?_) (fun c126 => ?_)
                          · replace h := h.2 c126
                            refine x_aload_n dX2_skip_152 rfl ?_
                            refine x_dup dX2_skip_153 rfl ?_
                            obtain ⟨o112, h⟩ := h
                            refine x_get (v := .int (A111.I p 9)) hG dX2_skip_154 f_X2_164_2 o112 rfl ?_
                            refine x_iconst_ (v := (1 : Int32)) dX2_skip_157 (by decide) ?_
                            refine x_iadd dX2_skip_158 ?_
                            refine z_putI hG hO.1 dX2_skip_159 f_X2_164_2 ⟨_, rfl, Or.inl rfl⟩ o112 (by decide) rfl rfl ⟨_, rfl⟩ (fun A113 e113 => ?_)
                            replace h := h A113 e113
                            refine x_goto (tgt := 104) dX2_skip_162 (by decide) ?_
                            obtain ⟨q96, l96, h⟩ := h
                            change X _ _ _ _ _ _ [some (.ref p), some (.int (A90.I p 9)), some (.int (if v93 = (47 : Int32) then (1 : Int32) else (0 : Int32)))] []
                            exact X.weak (xle_c rfl (xle_c rfl (xle_c rfl xle_nil))) (ih96 q96 l96 A113 h)
                          · replace h := h.1 c126
                            refine x_goto (tgt := 165) dX2_skip_129 (by decide) ?_
                            change X _ _ _ _ _ _ [some (.ref p), some (.int (A90.I p 9)), some (.int (if v93 = (47 : Int32) then (1 : Int32) else (0 : Int32)))] []
                            exact X.weak (xle_c rfl (xle_c rfl (xle_c rfl xle_nil))) (kj98 A111 h)
                  change X _ _ _ _ _ _ [some (.ref p), some (.int (A90.I p 9)), some (.int (if v93 = (47 : Int32) then (1 : Int32) else (0 : Int32)))] []
                  exact X.weak (xle_c rfl (xle_c rfl (xle_c rfl xle_nil))) (kl96 n96 A95 i96)
                · replace h := h.2 c57
                  refine x_aload_n dX2_skip_60 rfl ?_
                  refine x_dup dX2_skip_61 rfl ?_
                  obtain ⟨o114, h⟩ := h
                  refine x_get (v := .int (A90.I p 9)) hG dX2_skip_62 f_X2_164_2 o114 rfl ?_
                  refine x_iconst_ (v := (1 : Int32)) dX2_skip_65 (by decide) ?_
                  refine x_iadd dX2_skip_66 ?_
                  refine z_putI hG hO.1 dX2_skip_67 f_X2_164_2 ⟨_, rfl, Or.inl rfl⟩ o114 (by decide) rfl rfl ⟨_, rfl⟩ (fun A115 e115 => ?_)
                  replace h := h A115 e115
                  refine x_goto (tgt := 0) dX2_skip_70 (by decide) ?_
                  obtain ⟨q1, l1, h⟩ := h
                  change X _ _ _ _ _ _ [some (.ref p), none, none] []
                  exact X.weak (xle_c rfl (xle_n (xle_n xle_nil))) (ih1 q1 l1 A115 h)
  change X _ _ _ _ _ _ [some (.ref p), none, none] []
  exact X.weak (xle_c rfl (xle_n (xle_n xle_nil))) (kl1 n1 A i1)
def w_X2_run (G : xG) (p : Nat) (Q : Int32 → xA → Prop) (A : xA) : Prop := xok G A → ∃ L1 : Nat → Int32 → xA → Prop, (∃ n1 : Nat, L1 n1 (0 : Int32) A) ∧ (∀ (n1 : Nat) (y1_1 : Int32) (A1 : xA), L1 n1 y1_1 A1 → A1.tg p = 3 ∧ (∃ R2 : Int32 → xA → Prop, w_X2_now G p y1_1 R2 A1 ∧ (∀ (v2 : Int32) (A2 : xA), xok G A2 → R2 v2 A2 → ((((f_X2_isLetter v2) = 0 → A2.tg p = 3 ∧ (∃ R4 : Int32 → xA → Prop, w_X2_now G p y1_1 R4 A2 ∧ (∀ (v4 : Int32) (A4 : xA), xok G A4 → R4 v4 A4 → ((((f_X2_isDigit v4) = 0 → Q y1_1 A4) ∧ (¬ (f_X2_isDigit v4) = 0 → (∃ q1 : Nat, q1 < n1 ∧ L1 q1 (y1_1 + (1 : Int32)) A4))))))) ∧ (¬ (f_X2_isLetter v2) = 0 → (∃ q1 : Nat, q1 < n1 ∧ L1 q1 (y1_1 + (1 : Int32)) A2)))))))
theorem m_X2_run (hG : xOK G) (hO : xHO G) {dp : Nat} {p : Nat} {Q : Int32 → xA → Prop} {A : xA} (h : w_X2_run G p Q A) : MX G (dp + 1) kX2_run [.ref p] A (hI Q) := by
  unfold w_X2_run at h
  refine MX.of rfl (Nat.le_of_ble_eq_true rfl) ?_
  change X _ _ _ _ _ _ [some (.ref p), none] _
  refine X.xok (fun w0 => ?_)
  replace h := h w0
  refine x_iconst_ (v := (0 : Int32)) dX2_run_0 (by decide) ?_
  refine x_istore_n dX2_run_1 (by decide) ?_
  obtain ⟨L1, ⟨n1, i1⟩, g1⟩ := h
  have kl1 : ∀ n1 : Nat, ∀ (y1_1 : Int32) (A1 : xA), L1 n1 y1_1 A1 → X G (dp + 1) kX2_run (hI Q) A1 2 [some (.ref p), some (.int y1_1)] [] := by
    intro n1
    induction n1 using Nat.strongRecOn with
    | ind n1 ih1 =>
      intro y1_1 A1 h
      replace h := g1 n1 y1_1 A1 h
      refine x_aload_n dX2_run_2 rfl ?_
      refine x_iload_n dX2_run_3 rfl ?_
      obtain ⟨o3, h⟩ := h
      obtain ⟨R2, g2, h⟩ := h
      refine x_callV hG (Ky := kX2_now) (As := [.int y1_1]) dX2_run_4 o3 rfl lk_X2_177 me_X2_now is_X2_now se_X2_now rfl rfl (Nat.le_of_ble_eq_true rfl) (MX.post (m_X2_now hG hO g2) ?_)
      rintro _ A2 ⟨v2, rfl, h1⟩
      refine X.xok (fun w2 => ?_)
      replace h := h v2 A2 w2 h1
      change X _ _ _ _ A2 _ _ [.int v2]
      refine x_callS hG (Ky := kX2_isLetter) (As := [.int v2]) dX2_run_7 lk_X2_188 me_X2_isLetter st_X2_isLetter rfl rfl (Nat.le_of_ble_eq_true rfl) (MX.post (m_X2_isLetter hG) ?_)
      rintro _ _ ⟨rfl, rfl⟩
      change X _ _ _ _ _ _ _ (.int (f_X2_isLetter v2) :: _)
      refine x_if_ne (tgt := 24) dX2_run_10 (by decide) (fun c10 => ?_) (fun c10 => ?_)
      · replace h := h.2 c10
        refine x_iinc (v := (y1_1 + (1 : Int32))) dX2_run_24 rfl rfl (by decide) ?_
        refine x_goto (tgt := 2) dX2_run_27 (by decide) ?_
        obtain ⟨q1, l1, h⟩ := h
        change X _ _ _ _ _ _ [some (.ref p), some (.int (y1_1 + (1 : Int32)))] []
        exact X.weak (xle_c rfl (xle_c rfl xle_nil)) (ih1 q1 l1 (y1_1 + (1 : Int32)) A2 h)
      · replace h := h.1 c10
        refine x_aload_n dX2_run_13 rfl ?_
        refine x_iload_n dX2_run_14 rfl ?_
        obtain ⟨o5, h⟩ := h
        obtain ⟨R4, g4, h⟩ := h
        refine x_callV hG (Ky := kX2_now) (As := [.int y1_1]) dX2_run_15 o5 rfl lk_X2_177 me_X2_now is_X2_now se_X2_now rfl rfl (Nat.le_of_ble_eq_true rfl) (MX.post (m_X2_now hG hO g4) ?_)
        rintro _ A4 ⟨v4, rfl, h1⟩
        refine X.xok (fun w4 => ?_)
        replace h := h v4 A4 w4 h1
        change X _ _ _ _ A4 _ _ [.int v4]
        refine x_callS hG (Ky := kX2_isDigit) (As := [.int v4]) dX2_run_18 lk_X2_181 me_X2_isDigit st_X2_isDigit rfl rfl (Nat.le_of_ble_eq_true rfl) (MX.post (m_X2_isDigit hG) ?_)
        rintro _ _ ⟨rfl, rfl⟩
        change X _ _ _ _ _ _ _ (.int (f_X2_isDigit v4) :: _)
        refine x_if_eq (tgt := 30) dX2_run_21 (by decide) (fun c21 => ?_) (fun c21 => ?_)
        · replace h := h.1 c21
          refine x_iload_n dX2_run_30 rfl ?_
          exact x_iret dX2_run_31 rfl ⟨_, rfl, h⟩
        · replace h := h.2 c21
          refine x_iinc (v := (y1_1 + (1 : Int32))) dX2_run_24 rfl rfl (by decide) ?_
          refine x_goto (tgt := 2) dX2_run_27 (by decide) ?_
          obtain ⟨q1, l1, h⟩ := h
          change X _ _ _ _ _ _ [some (.ref p), some (.int (y1_1 + (1 : Int32)))] []
          exact X.weak (xle_c rfl (xle_c rfl xle_nil)) (ih1 q1 l1 (y1_1 + (1 : Int32)) A4 h)
  change X _ _ _ _ _ _ [some (.ref p), some (.int (0 : Int32))] []
  exact X.weak (xle_c rfl (xle_c rfl xle_nil)) (kl1 n1 (0 : Int32) A i1)
def w_X2_isWord (G : xG) (p : Nat) (f : Int32) (n : Int32) (w : Option Nat) (Q : Int32 → xA → Prop) (A : xA) : Prop := xok G A → ∃ b2 : Nat, w = some b2 ∧ (xOO G b2 "java/lang/String" ∧ (∃ R1 : Int32 → xA → Prop, w_J6_length G b2 R1 A ∧ (∀ (v1 : Int32) (A1 : xA), xok G A1 → R1 v1 A1 → (∃ L4 : Nat → Int32 → Int32 → xA → Prop, (∃ n4 : Nat, L4 n4 (if v1 = n then (1 : Int32) else (0 : Int32)) (0 : Int32) A1) ∧ (∀ (n4 : Nat) (y4_4 : Int32) (y4_5 : Int32) (A4 : xA), L4 n4 y4_4 y4_5 A4 → ((n ≤ y4_5 → (y4_4 = 0 ∨ y4_4 = 1) ∧ (Q y4_4 A4)) ∧ (¬ n ≤ y4_5 → ((y4_4 = 0 → (y4_4 = 0 ∨ y4_4 = 1) ∧ (Q y4_4 A4)) ∧ (¬ y4_4 = 0 → A4.tg p = 3 ∧ (∃ b8 : Nat, (A4.P p 7) = some b8 ∧ (A4.tg b8 = 202 ∧ (vp_in (f + y4_5) (A4.ln b8) ∧ (∃ R11 : Int32 → xA → Prop, w_J6_charAt G b2 y4_5 R11 A4 ∧ (∀ (v11 : Int32) (A11 : xA), xok G A11 → R11 v11 A11 → ((∃ q4 : Nat, q4 < n4 ∧ L4 q4 (if (A4.I b8 (ix (f + y4_5))) = v11 then (1 : Int32) else (0 : Int32)) (y4_5 + (1 : Int32)) A11))))))))))))))))
theorem m_X2_isWord (hG : xOK G) (hO : xHO G) {dp : Nat} {p : Nat} {f : Int32} {n : Int32} {w : Option Nat} {Q : Int32 → xA → Prop} {A : xA} (h : w_X2_isWord G p f n w Q A) : MX G (dp + 4) kX2_isWord [.ref p, .int f, .int n, va_rf w] A (hZ Q) := by
  unfold w_X2_isWord at h
  refine MX.of rfl (by cases w <;> exact Nat.le_of_ble_eq_true rfl) ?_
  refine X.lvs (lv' := [some (.ref p), some (.int f), some (.int n), some (va_rf w), none, none]) (by cases w <;> rfl) ?_
  refine X.xok (fun w0 => ?_)
  replace h := h w0
  refine x_aloadq_n dX2_isWord_0 rfl ?_
  obtain ⟨b2, e2, h⟩ := h
  rw [e2]
  obtain ⟨o3, h⟩ := h
  obtain ⟨R1, g1, h⟩ := h
  refine x_callVO hG (Ky := kJ6_length) (As := []) dX2_isWord_1 o3 q1006 me_J6_length is_J6_length se_J6_length rfl rfl (Nat.le_of_ble_eq_true rfl) (MX.post (m_J6_length hG hO g1) ?_)
  rintro _ A1 ⟨v1, rfl, h1⟩
  refine X.xok (fun w1 => ?_)
  replace h := h v1 A1 w1 h1
  change X _ _ _ _ A1 _ _ [.int v1]
  refine x_iload_n dX2_isWord_4 rfl ?_
  refine x_via 13 (A' := A1) (lv' := [some (.ref p), some (.int f), some (.int n), some (.ref b2), none, none]) (st' := [.int (if v1 = n then (1 : Int32) else (0 : Int32))]) ?_ (fun k13 => ?_)
  rotate_left
  · refine x_icmp_ne (tgt := 12) dX2_isWord_5 (by decide) (fun c5 => ?_) (fun c5 => ?_)
    · refine x_iconst_ (v := (0 : Int32)) dX2_isWord_12 (by decide) ?_
      change X _ _ _ _ _ _ [some (.ref p), some (.int f), some (.int n), some (.ref b2), none, none] [.int (0 : Int32)]
      simp only [if_neg c5] at k13 ⊢
      exact X.weak (xle_c rfl (xle_c rfl (xle_c rfl (xle_c rfl (xle_n (xle_n xle_nil)))))) k13
    · refine x_iconst_ (v := (1 : Int32)) dX2_isWord_8 (by decide) ?_
      refine x_goto (tgt := 13) dX2_isWord_9 (by decide) ?_
      change X _ _ _ _ _ _ [some (.ref p), some (.int f), some (.int n), some (.ref b2), none, none] [.int (1 : Int32)]
      simp only [if_pos c5] at k13 ⊢
      exact X.weak (xle_c rfl (xle_c rfl (xle_c rfl (xle_c rfl (xle_n (xle_n xle_nil)))))) k13
  refine x_istore dX2_isWord_13 (by decide) ?_
  refine x_iconst_ (v := (0 : Int32)) dX2_isWord_15 (by decide) ?_
  refine x_istore dX2_isWord_16 (by decide) ?_
  obtain ⟨L4, ⟨n4, i4⟩, g4⟩ := h
  have kl4 : ∀ n4 : Nat, ∀ (y4_4 : Int32) (y4_5 : Int32) (A4 : xA), L4 n4 y4_4 y4_5 A4 → X G (dp + 4) kX2_isWord (hZ Q) A4 18 [some (.ref p), some (.int f), some (.int n), some (.ref b2), some (.int y4_4), some (.int y4_5)] [] := by
    intro n4
    induction n4 using Nat.strongRecOn with
    | ind n4 ih4 =>
      intro y4_4 y4_5 A4 h
      replace h := g4 n4 y4_4 y4_5 A4 h
      refine x_iload dX2_isWord_18 rfl ?_
      refine x_iload_n dX2_isWord_20 rfl ?_
      refine x_icmp_ge (tgt := 60) dX2_isWord_21 (by decide) (fun c21 => ?_) (fun c21 => ?_)
      · replace h := h.1 c21
        refine x_iload dX2_isWord_60 rfl ?_
        obtain ⟨o5, h⟩ := h
        exact x_zret dX2_isWord_62 rfl o5 ⟨_, rfl, o5, h⟩
      · replace h := h.2 c21
        refine x_iload dX2_isWord_24 rfl ?_
        refine x_if_eq (tgt := 60) dX2_isWord_26 (by decide) (fun c26 => ?_) (fun c26 => ?_)
        · replace h := h.1 c26
          refine x_iload dX2_isWord_60 rfl ?_
          obtain ⟨o6, h⟩ := h
          exact x_zret dX2_isWord_62 rfl o6 ⟨_, rfl, o6, h⟩
        · replace h := h.2 c26
          refine x_aload_n dX2_isWord_29 rfl ?_
          obtain ⟨o7, h⟩ := h
          refine x_get (v := va_rf (A4.P p 7)) hG dX2_isWord_30 f_X2_156_2 o7 rfl ?_
          refine x_iload_n dX2_isWord_33 rfl ?_
          refine x_iload dX2_isWord_34 rfl ?_
          refine x_iadd dX2_isWord_36 ?_
          obtain ⟨b8, e8, h⟩ := h
          rw [e8]
          obtain ⟨o9, h⟩ := h
          obtain ⟨o10, h⟩ := h
          refine x_bald hG dX2_isWord_37 o9 o10 ?_
          refine x_aload_n dX2_isWord_38 rfl ?_
          refine x_iload dX2_isWord_39 rfl ?_
          obtain ⟨R11, g11, h⟩ := h
          refine x_callVO hG (Ky := kJ6_charAt) (As := [.int y4_5]) dX2_isWord_41 o3 q1016 me_J6_charAt is_J6_charAt se_J6_charAt rfl rfl (Nat.le_of_ble_eq_true rfl) (MX.post (m_J6_charAt hG hO g11) ?_)
          rintro _ A11 ⟨v11, rfl, h1⟩
          refine X.xok (fun w11 => ?_)
          replace h := h v11 A11 w11 h1
          change X _ _ _ _ A11 _ _ [.int v11, .int (A4.I b8 (ix (f + y4_5)))]
          refine x_via 52 (A' := A11) (lv' := [some (.ref p), some (.int f), some (.int n), some (.ref b2), none, some (.int y4_5)]) (st' := [.int (if (A4.I b8 (ix (f + y4_5))) = v11 then (1 : Int32) else (0 : Int32))]) ?_ (fun k52 => ?_)
          rotate_left
          · refine x_icmp_ne (tgt := 51) dX2_isWord_44 (by decide) (fun c44 => ?_) (fun c44 => ?_)
            · refine x_iconst_ (v := (0 : Int32)) dX2_isWord_51 (by decide) ?_
              change X _ _ _ _ _ _ [some (.ref p), some (.int f), some (.int n), some (.ref b2), some (.int y4_4), some (.int y4_5)] [.int (0 : Int32)]
              simp only [if_neg c44] at k52 ⊢
              exact X.weak (xle_c rfl (xle_c rfl (xle_c rfl (xle_c rfl (xle_n (xle_c rfl xle_nil)))))) k52
            · refine x_iconst_ (v := (1 : Int32)) dX2_isWord_47 (by decide) ?_
              refine x_goto (tgt := 52) dX2_isWord_48 (by decide) ?_
              change X _ _ _ _ _ _ [some (.ref p), some (.int f), some (.int n), some (.ref b2), some (.int y4_4), some (.int y4_5)] [.int (1 : Int32)]
              simp only [if_pos c44] at k52 ⊢
              exact X.weak (xle_c rfl (xle_c rfl (xle_c rfl (xle_c rfl (xle_n (xle_c rfl xle_nil)))))) k52
          refine x_istore dX2_isWord_52 (by decide) ?_
          refine x_iinc (v := (y4_5 + (1 : Int32))) dX2_isWord_54 rfl rfl (by decide) ?_
          refine x_goto (tgt := 18) dX2_isWord_57 (by decide) ?_
          obtain ⟨q4, l4, h⟩ := h
          change X _ _ _ _ _ _ [some (.ref p), some (.int f), some (.int n), some (.ref b2), some (.int (if (A4.I b8 (ix (f + y4_5))) = v11 then (1 : Int32) else (0 : Int32))), some (.int (y4_5 + (1 : Int32)))] []
          exact X.weak (xle_c rfl (xle_c rfl (xle_c rfl (xle_c rfl (xle_c rfl (xle_c rfl xle_nil)))))) (ih4 q4 l4 (if (A4.I b8 (ix (f + y4_5))) = v11 then (1 : Int32) else (0 : Int32)) (y4_5 + (1 : Int32)) A11 h)
  change X _ _ _ _ _ _ [some (.ref p), some (.int f), some (.int n), some (.ref b2), some (.int (if v1 = n then (1 : Int32) else (0 : Int32))), some (.int (0 : Int32))] []
  exact X.weak (xle_c rfl (xle_c rfl (xle_c rfl (xle_c rfl (xle_c rfl (xle_c rfl xle_nil)))))) (kl4 n4 (if v1 = n then (1 : Int32) else (0 : Int32)) (0 : Int32) A1 i4)
def w_X2_isName (G : xG) (p : Nat) (k : Int32) (n : Int32) (Q : Int32 → xA → Prop) (A : xA) : Prop := xok G A → A.tg p = 3 ∧ (∃ b2 : Nat, (A.P p 6) = some b2 ∧ (A.tg b2 = 200 ∧ (vp_in k (A.ln b2) ∧ (∃ L5 : Nat → Int32 → Int32 → Prop, (∃ n5 : Nat, L5 n5 (if (A.I b2 (ix k)) = n then (1 : Int32) else (0 : Int32)) (0 : Int32)) ∧ (∀ (n5 : Nat) (y5_3 : Int32) (y5_4 : Int32), L5 n5 y5_3 y5_4 → ((n ≤ y5_4 → (y5_3 = 0 ∨ y5_3 = 1) ∧ (Q y5_3 A)) ∧ (¬ n ≤ y5_4 → ((y5_3 = 0 → (y5_3 = 0 ∨ y5_3 = 1) ∧ (Q y5_3 A)) ∧ (¬ y5_3 = 0 → ∃ b8 : Nat, (A.P p 5) = some b8 ∧ (A.tg b8 = 200 ∧ (vp_in k (A.ln b8) ∧ (∃ b11 : Nat, (A.P p 7) = some b11 ∧ (A.tg b11 = 202 ∧ (vp_in ((A.I b8 (ix k)) + y5_4) (A.ln b11) ∧ (vp_in ((A.I p 9) + y5_4) (A.ln b11) ∧ ((∃ q5 : Nat, q5 < n5 ∧ L5 q5 (if (A.I b11 (ix ((A.I b8 (ix k)) + y5_4))) = (A.I b11 (ix ((A.I p 9) + y5_4))) then (1 : Int32) else (0 : Int32)) (y5_4 + (1 : Int32)))))))))))))))))))
theorem m_X2_isName (hG : xOK G) (hO : xHO G) {dp : Nat} {p : Nat} {k : Int32} {n : Int32} {Q : Int32 → xA → Prop} {A : xA} (h : w_X2_isName G p k n Q A) : MX G (dp + 0) kX2_isName [.ref p, .int k, .int n] A (hZ Q) := by
  unfold w_X2_isName at h
  refine MX.of rfl (Nat.le_of_ble_eq_true rfl) ?_
  change X _ _ _ _ _ _ [some (.ref p), some (.int k), some (.int n), none, none] _
  refine X.xok (fun w0 => ?_)
  replace h := h w0
  refine x_aload_n dX2_isName_0 rfl ?_
  obtain ⟨o1, h⟩ := h
  refine x_get (v := va_rf (A.P p 6)) hG dX2_isName_1 f_X2_153_2 o1 rfl ?_
  refine x_iload_n dX2_isName_4 rfl ?_
  obtain ⟨b2, e2, h⟩ := h
  rw [e2]
  obtain ⟨o3, h⟩ := h
  obtain ⟨o4, h⟩ := h
  refine x_iald hG dX2_isName_5 o3 o4 ?_
  refine x_iload_n dX2_isName_6 rfl ?_
  refine x_via 15 (A' := A) (lv' := [some (.ref p), some (.int k), some (.int n), none, none]) (st' := [.int (if (A.I b2 (ix k)) = n then (1 : Int32) else (0 : Int32))]) ?_ (fun k15 => ?_)
  rotate_left
  · refine x_icmp_ne (tgt := 14) dX2_isName_7 (by decide) (fun c7 => ?_) (fun c7 => ?_)
    · refine x_iconst_ (v := (0 : Int32)) dX2_isName_14 (by decide) ?_
      change X _ _ _ _ _ _ [some (.ref p), some (.int k), some (.int n), none, none] [.int (0 : Int32)]
      simp only [if_neg c7] at k15 ⊢
      exact X.weak (xle_c rfl (xle_c rfl (xle_c rfl (xle_n (xle_n xle_nil))))) k15
    · refine x_iconst_ (v := (1 : Int32)) dX2_isName_10 (by decide) ?_
      refine x_goto (tgt := 15) dX2_isName_11 (by decide) ?_
      change X _ _ _ _ _ _ [some (.ref p), some (.int k), some (.int n), none, none] [.int (1 : Int32)]
      simp only [if_pos c7] at k15 ⊢
      exact X.weak (xle_c rfl (xle_c rfl (xle_c rfl (xle_n (xle_n xle_nil))))) k15
  refine x_istore_n dX2_isName_15 (by decide) ?_
  refine x_iconst_ (v := (0 : Int32)) dX2_isName_16 (by decide) ?_
  refine x_istore dX2_isName_17 (by decide) ?_
  obtain ⟨L5, ⟨n5, i5⟩, g5⟩ := h
  have kl5 : ∀ n5 : Nat, ∀ (y5_3 : Int32) (y5_4 : Int32), L5 n5 y5_3 y5_4 → X G (dp + 0) kX2_isName (hZ Q) A 19 [some (.ref p), some (.int k), some (.int n), some (.int y5_3), some (.int y5_4)] [] := by
    intro n5
    induction n5 using Nat.strongRecOn with
    | ind n5 ih5 =>
      intro y5_3 y5_4 h
      replace h := g5 n5 y5_3 y5_4 h
      refine x_iload dX2_isName_19 rfl ?_
      refine x_iload_n dX2_isName_21 rfl ?_
      refine x_icmp_ge (tgt := 70) dX2_isName_22 (by decide) (fun c22 => ?_) (fun c22 => ?_)
      · replace h := h.1 c22
        refine x_iload_n dX2_isName_70 rfl ?_
        obtain ⟨o6, h⟩ := h
        exact x_zret dX2_isName_71 rfl o6 ⟨_, rfl, o6, h⟩
      · replace h := h.2 c22
        refine x_iload_n dX2_isName_25 rfl ?_
        refine x_if_eq (tgt := 70) dX2_isName_26 (by decide) (fun c26 => ?_) (fun c26 => ?_)
        · replace h := h.1 c26
          refine x_iload_n dX2_isName_70 rfl ?_
          obtain ⟨o7, h⟩ := h
          exact x_zret dX2_isName_71 rfl o7 ⟨_, rfl, o7, h⟩
        · replace h := h.2 c26
          refine x_aload_n dX2_isName_29 rfl ?_
          refine x_get (v := va_rf (A.P p 7)) hG dX2_isName_30 f_X2_156_2 o1 rfl ?_
          refine x_aload_n dX2_isName_33 rfl ?_
          refine x_get (v := va_rf (A.P p 5)) hG dX2_isName_34 f_X2_150_2 o1 rfl ?_
          refine x_iload_n dX2_isName_37 rfl ?_
          obtain ⟨b8, e8, h⟩ := h
          rw [e8]
          obtain ⟨o9, h⟩ := h
          obtain ⟨o10, h⟩ := h
          refine x_iald hG dX2_isName_38 o9 o10 ?_
          refine x_iload dX2_isName_39 rfl ?_
          refine x_iadd dX2_isName_41 ?_
          obtain ⟨b11, e11, h⟩ := h
          rw [e11]
          obtain ⟨o12, h⟩ := h
          obtain ⟨o13, h⟩ := h
          refine x_bald hG dX2_isName_42 o12 o13 ?_
          refine x_aload_n dX2_isName_43 rfl ?_
          refine x_get (v := .ref b11) hG dX2_isName_44 f_X2_156_2 o1 (congrArg va_rf e11) ?_
          refine x_aload_n dX2_isName_47 rfl ?_
          refine x_get (v := .int (A.I p 9)) hG dX2_isName_48 f_X2_164_2 o1 rfl ?_
          refine x_iload dX2_isName_51 rfl ?_
          refine x_iadd dX2_isName_53 ?_
          obtain ⟨o14, h⟩ := h
          refine x_bald hG dX2_isName_54 o12 o14 ?_
          refine x_via 63 (A' := A) (lv' := [some (.ref p), some (.int k), some (.int n), none, some (.int y5_4)]) (st' := [.int (if (A.I b11 (ix ((A.I b8 (ix k)) + y5_4))) = (A.I b11 (ix ((A.I p 9) + y5_4))) then (1 : Int32) else (0 : Int32))]) ?_ (fun k63 => ?_)
          rotate_left
          · refine x_icmp_ne (tgt := 62) dX2_isName_55 (by decide) (fun c55 => ?_) (fun c55 => ?_)
            · refine x_iconst_ (v := (0 : Int32)) dX2_isName_62 (by decide) ?_
              change X _ _ _ _ _ _ [some (.ref p), some (.int k), some (.int n), some (.int y5_3), some (.int y5_4)] [.int (0 : Int32)]
              simp only [if_neg c55] at k63 ⊢
              exact X.weak (xle_c rfl (xle_c rfl (xle_c rfl (xle_n (xle_c rfl xle_nil))))) k63
            · refine x_iconst_ (v := (1 : Int32)) dX2_isName_58 (by decide) ?_
              refine x_goto (tgt := 63) dX2_isName_59 (by decide) ?_
              change X _ _ _ _ _ _ [some (.ref p), some (.int k), some (.int n), some (.int y5_3), some (.int y5_4)] [.int (1 : Int32)]
              simp only [if_pos c55] at k63 ⊢
              exact X.weak (xle_c rfl (xle_c rfl (xle_c rfl (xle_n (xle_c rfl xle_nil))))) k63
          refine x_istore_n dX2_isName_63 (by decide) ?_
          refine x_iinc (v := (y5_4 + (1 : Int32))) dX2_isName_64 rfl rfl (by decide) ?_
          refine x_goto (tgt := 19) dX2_isName_67 (by decide) ?_
          obtain ⟨q5, l5, h⟩ := h
          change X _ _ _ _ _ _ [some (.ref p), some (.int k), some (.int n), some (.int (if (A.I b11 (ix ((A.I b8 (ix k)) + y5_4))) = (A.I b11 (ix ((A.I p 9) + y5_4))) then (1 : Int32) else (0 : Int32))), some (.int (y5_4 + (1 : Int32)))] []
          exact X.weak (xle_c rfl (xle_c rfl (xle_c rfl (xle_c rfl (xle_c rfl xle_nil))))) (ih5 q5 l5 (if (A.I b11 (ix ((A.I b8 (ix k)) + y5_4))) = (A.I b11 (ix ((A.I p 9) + y5_4))) then (1 : Int32) else (0 : Int32)) (y5_4 + (1 : Int32)) h)
  change X _ _ _ _ _ _ [some (.ref p), some (.int k), some (.int n), some (.int (if (A.I b2 (ix k)) = n then (1 : Int32) else (0 : Int32))), some (.int (0 : Int32))] []
  exact X.weak (xle_c rfl (xle_c rfl (xle_c rfl (xle_c rfl (xle_c rfl xle_nil))))) (kl5 n5 (if (A.I b2 (ix k)) = n then (1 : Int32) else (0 : Int32)) (0 : Int32) i5)
def w_X2_isMain (G : xG) (p : Nat) (k : Int32) (Q : Int32 → xA → Prop) (A : xA) : Prop := xok G A → A.tg p = 3 ∧ (∃ b2 : Nat, (A.P p 5) = some b2 ∧ (A.tg b2 = 200 ∧ (vp_in k (A.ln b2) ∧ (∃ b5 : Nat, (A.P p 6) = some b5 ∧ (A.tg b5 = 200 ∧ (vp_in k (A.ln b5) ∧ (∃ R8 : Int32 → xA → Prop, w_X2_isWord G p (A.I b2 (ix k)) (A.I b5 (ix k)) (some (G.cs 160)) R8 A ∧ (∀ (v8 : Int32) (A8 : xA), xok G A8 → (v8 = 0 ∨ v8 = 1) → R8 v8 A8 → (Q v8 A8)))))))))
theorem m_X2_isMain (hG : xOK G) (hO : xHO G) {dp : Nat} {p : Nat} {k : Int32} {Q : Int32 → xA → Prop} {A : xA} (h : w_X2_isMain G p k Q A) : MX G (dp + 5) kX2_isMain [.ref p, .int k] A (hZ Q) := by
  unfold w_X2_isMain at h
  refine MX.of rfl (Nat.le_of_ble_eq_true rfl) ?_
  change X _ _ _ _ _ _ [some (.ref p), some (.int k)] _
  refine X.xok (fun w0 => ?_)
  replace h := h w0
  refine x_aload_n dX2_isMain_0 rfl ?_
  refine x_aload_n dX2_isMain_1 rfl ?_
  obtain ⟨o1, h⟩ := h
  refine x_get (v := va_rf (A.P p 5)) hG dX2_isMain_2 f_X2_150_2 o1 rfl ?_
  refine x_iload_n dX2_isMain_5 rfl ?_
  obtain ⟨b2, e2, h⟩ := h
  rw [e2]
  obtain ⟨o3, h⟩ := h
  obtain ⟨o4, h⟩ := h
  refine x_iald hG dX2_isMain_6 o3 o4 ?_
  refine x_aload_n dX2_isMain_7 rfl ?_
  refine x_get (v := va_rf (A.P p 6)) hG dX2_isMain_8 f_X2_153_2 o1 rfl ?_
  refine x_iload_n dX2_isMain_11 rfl ?_
  obtain ⟨b5, e5, h⟩ := h
  rw [e5]
  obtain ⟨o6, h⟩ := h
  obtain ⟨o7, h⟩ := h
  refine x_iald hG dX2_isMain_12 o6 o7 ?_
  refine x_ldcS hG dX2_isMain_13 q1471 (hO.2.2.2.2.1.2.2 _ (List.mem_of_getElem? (i := 60) rfl)).1 ?_
  obtain ⟨R8, g8, h⟩ := h
  refine x_callV hG (Ky := kX2_isWord) (As := [.int (A.I b2 (ix k)), .int (A.I b5 (ix k)), .ref (G.cs 160)]) dX2_isMain_15 o1 rfl lk_X2_200 me_X2_isWord is_X2_isWord se_X2_isWord rfl rfl (Nat.le_of_ble_eq_true rfl) (MX.post (m_X2_isWord hG hO g8) ?_)
  rintro _ A8 ⟨v8, rfl, zv8, h1⟩
  refine X.xok (fun w8 => ?_)
  replace h := h v8 A8 w8 zv8 h1
  change X _ _ _ _ A8 _ _ [.int v8]
  exact x_zret dX2_isMain_18 rfl zv8 ⟨_, rfl, zv8, h⟩
def w_X2_name (G : xG) (p : Nat) (Q : Int32 → xA → Prop) (A : xA) : Prop := xok G A → A.tg p = 3 ∧ (∃ R1 : Int32 → xA → Prop, w_X2_run G p R1 A ∧ (∀ (v1 : Int32) (A1 : xA), xok G A1 → R1 v1 A1 → (((v1 ≤ (16 : Int32) → ∃ L3 : Nat → Int32 → xA → Prop, (∃ n3 : Nat, L3 n3 (0 : Int32) A1) ∧ (∀ (n3 : Nat) (y3_2 : Int32) (A3 : xA), L3 n3 y3_2 A3 → A3.tg p = 3 ∧ (∃ b5 : Nat, (A3.P p 0) = some b5 ∧ (A3.tg b5 = 205 ∧ ((((nI (A3.ln b5)) ≤ y3_2 → ∃ L7 : Nat → Int32 → xA → Prop, (∃ n7 : Nat, L7 n7 (0 : Int32) A3) ∧ (∀ (n7 : Nat) (y7_2 : Int32) (A7 : xA), L7 n7 y7_2 A7 → A7.tg p = 3 ∧ (∃ J9 : xA → Prop, (∀ (A9 : xA), J9 A9 → A9.tg p = 3 ∧ (∃ J11 : xA → Prop, (∀ (A11 : xA), J11 A11 → A11.tg p = 3 ∧ (∃ b13 : Nat, (A11.P p 4) = some b13 ∧ (A11.tg b13 = 200 ∧ (G.N ≤ b13 ∧ (vp_in (A11.I p 10) (A11.ln b13) ∧ (∀ A17 : xA, A17 = A11.setI b13 (ix (A11.I p 10)) y7_2 → (∀ A18 : xA, A18 = A17.setI p 9 ((A11.I p 9) + v1) → (Q (2 : Int32) A18)))))))) ∧ ((y7_2 = (A9.I p 11) → ∃ b19 : Nat, (A9.P p 5) = some b19 ∧ (A9.tg b19 = 200 ∧ (G.N ≤ b19 ∧ (vp_in y7_2 (A9.ln b19) ∧ (∀ A23 : xA, A23 = A9.setI b19 (ix y7_2) (A9.I p 9) → (∃ b24 : Nat, (A9.P p 6) = some b24 ∧ (A23.tg b24 = 200 ∧ (G.N ≤ b24 ∧ (vp_in y7_2 (A23.ln b24) ∧ (∀ A28 : xA, A28 = A23.setI b24 (ix y7_2) v1 → (∀ A29 : xA, A29 = A28.setI p 11 ((A9.I p 11) + (1 : Int32)) → (J11 A29)))))))))))) ∧ (¬ y7_2 = (A9.I p 11) → J11 A9)))) ∧ (((A7.I p 11) ≤ y7_2 → J9 A7) ∧ (¬ (A7.I p 11) ≤ y7_2 → ∃ R30 : Int32 → xA → Prop, w_X2_isName G p y7_2 v1 R30 A7 ∧ (∀ (v30 : Int32) (A30 : xA), xok G A30 → (v30 = 0 ∨ v30 = 1) → R30 v30 A30 → (((v30 = 0 → (∃ q7 : Nat, q7 < n7 ∧ L7 q7 (y7_2 + (1 : Int32)) A30)) ∧ (¬ v30 = 0 → J9 A30))))))))) ∧ (¬ (nI (A3.ln b5)) ≤ y3_2 → vp_in y3_2 (A3.ln b5) ∧ (∃ R32 : Int32 → xA → Prop, w_X2_isWord G p (A3.I p 9) v1 (A3.P b5 (ix y3_2)) R32 A3 ∧ (∀ (v32 : Int32) (A32 : xA), xok G A32 → (v32 = 0 ∨ v32 = 1) → R32 v32 A32 → (((v32 = 0 → (∃ q3 : Nat, q3 < n3 ∧ L3 q3 (y3_2 + (1 : Int32)) A32)) ∧ (¬ v32 = 0 → A32.tg p = 3 ∧ (∀ A34 : xA, A34 = A32.setI p 9 ((A32.I p 9) + v1) → (Q ((10 : Int32) + y3_2) A34)))))))))))))) ∧ (¬ v1 ≤ (16 : Int32) → Q (1 : Int32) A1)))))
theorem m_X2_name (hG : xOK G) (hO : xHO G) {dp : Nat} {p : Nat} {Q : Int32 → xA → Prop} {A : xA} (h : w_X2_name G p Q A) : MX G (dp + 5) kX2_name [.ref p] A (hI Q) := by
  unfold w_X2_name at h
  refine MX.of rfl (Nat.le_of_ble_eq_true rfl) ?_
  change X _ _ _ _ _ _ [some (.ref p), none, none] _
  refine X.xok (fun w0 => ?_)
  replace h := h w0
  refine x_aload_n dX2_name_0 rfl ?_
  obtain ⟨o2, h⟩ := h
  obtain ⟨R1, g1, h⟩ := h
  refine x_callV hG (Ky := kX2_run) (As := []) dX2_name_1 o2 rfl lk_X2_197 me_X2_run is_X2_run se_X2_run rfl rfl (Nat.le_of_ble_eq_true rfl) (MX.post (m_X2_run hG hO g1) ?_)
  rintro _ A1 ⟨v1, rfl, h1⟩
  refine X.xok (fun w1 => ?_)
  replace h := h v1 A1 w1 h1
  change X _ _ _ _ A1 _ _ [.int v1]
  refine x_istore_n dX2_name_4 (by decide) ?_
  refine x_iload_n dX2_name_5 rfl ?_
  refine x_bipush_ (v := (16 : Int32)) dX2_name_6 (by decide) ?_
  refine x_icmp_le (tgt := 13) dX2_name_8 (by decide) (fun c8 => ?_) (fun c8 => ?_)
  · replace h := h.1 c8
    refine x_iconst_ (v := (0 : Int32)) dX2_name_13 (by decide) ?_
    refine x_istore_n dX2_name_14 (by decide) ?_
    obtain ⟨L3, ⟨n3, i3⟩, g3⟩ := h
    have kl3 : ∀ n3 : Nat, ∀ (y3_2 : Int32) (A3 : xA), L3 n3 y3_2 A3 → X G (dp + 5) kX2_name (hI Q) A3 15 [some (.ref p), some (.int v1), some (.int y3_2)] [] := by
      intro n3
      induction n3 using Nat.strongRecOn with
      | ind n3 ih3 =>
        intro y3_2 A3 h
        replace h := g3 n3 y3_2 A3 h
        refine x_iload_n dX2_name_15 rfl ?_
        refine x_aload_n dX2_name_16 rfl ?_
        obtain ⟨o4, h⟩ := h
        refine x_get (v := va_rf (A3.P p 0)) hG dX2_name_17 f_X2_41_2 o4 rfl ?_
        obtain ⟨b5, e5, h⟩ := h
        rw [e5]
        obtain ⟨o6, h⟩ := h
        refine x_alen hG (j := 5) dX2_name_20 o6 ?_
        refine x_icmp_ge (tgt := 66) dX2_name_21 (by decide) (fun c21 => ?_) (fun c21 => ?_)
        · replace h := h.1 c21
          refine x_iconst_ (v := (0 : Int32)) dX2_name_66 (by decide) ?_
          refine x_istore_n dX2_name_67 (by decide) ?_
          obtain ⟨L7, ⟨n7, i7⟩, g7⟩ := h
          have kl7 : ∀ n7 : Nat, ∀ (y7_2 : Int32) (A7 : xA), L7 n7 y7_2 A7 → X G (dp + 5) kX2_name (hI Q) A7 68 [some (.ref p), some (.int v1), some (.int y7_2)] [] := by
            intro n7
            induction n7 using Nat.strongRecOn with
            | ind n7 ih7 =>
              intro y7_2 A7 h
              replace h := g7 n7 y7_2 A7 h
              refine x_iload_n dX2_name_68 rfl ?_
              refine x_aload_n dX2_name_69 rfl ?_
              obtain ⟨o8, h⟩ := h
              refine x_get (v := .int (A7.I p 11)) hG dX2_name_70 f_X2_170_2 o8 rfl ?_
              obtain ⟨J9, g9, h⟩ := h
              have kj9 : ∀ (A9 : xA), J9 A9 → X G (dp + 5) kX2_name (hI Q) A9 91 [some (.ref p), some (.int v1), some (.int y7_2)] [] := by
                intro A9 h
                replace h := g9 A9 h
                refine x_iload_n dX2_name_91 rfl ?_
                refine x_aload_n dX2_name_92 rfl ?_
                obtain ⟨o10, h⟩ := h
                refine x_get (v := .int (A9.I p 11)) hG dX2_name_93 f_X2_170_2 o10 rfl ?_
                obtain ⟨J11, g11, h⟩ := h
                have kj11 : ∀ (A11 : xA), J11 A11 → X G (dp + 5) kX2_name (hI Q) A11 126 [some (.ref p), some (.int v1), some (.int y7_2)] [] := by
                  intro A11 h
                  replace h := g11 A11 h
                  refine x_aload_n dX2_name_126 rfl ?_
                  obtain ⟨o12, h⟩ := h
                  refine x_get (v := va_rf (A11.P p 4)) hG dX2_name_127 f_X2_147_2 o12 rfl ?_
                  refine x_aload_n dX2_name_130 rfl ?_
                  refine x_get (v := .int (A11.I p 10)) hG dX2_name_131 f_X2_167_2 o12 rfl ?_
                  refine x_iload_n dX2_name_134 rfl ?_
                  obtain ⟨b13, e13, h⟩ := h
                  rw [e13]
                  obtain ⟨o14, h⟩ := h
                  obtain ⟨o15, h⟩ := h
                  obtain ⟨o16, h⟩ := h
                  refine z_iast hG dX2_name_135 o14 o15 o16 (fun A17 e17 => ?_)
                  replace h := h A17 e17
                  refine x_aload_n dX2_name_136 rfl ?_
                  refine x_dup dX2_name_137 rfl ?_
                  refine x_get (v := .int (A11.I p 9)) hG dX2_name_138 f_X2_164_2 (kI e17 o12) (congrArg Value.int (sI_a e17 (tne o12 o14 (by decide)))) ?_
                  refine x_iload_n dX2_name_141 rfl ?_
                  refine x_iadd dX2_name_142 ?_
                  refine z_putI hG hO.1 dX2_name_143 f_X2_164_2 ⟨_, rfl, Or.inl rfl⟩ (kI e17 o12) (by decide) rfl rfl ⟨_, rfl⟩ (fun A18 e18 => ?_)
                  replace h := h A18 e18
                  refine x_iconst_ (v := (2 : Int32)) dX2_name_146 (by decide) ?_
                  exact x_iret dX2_name_147 rfl ⟨_, rfl, h⟩
                refine x_icmp_ne (tgt := 126) dX2_name_96 (by decide) (fun c96 => ?_) (fun c96 => ?_)
                · replace h := h.2 c96
                  change X _ _ _ _ _ _ [some (.ref p), some (.int v1), some (.int y7_2)] []
                  exact X.weak (xle_c rfl (xle_c rfl (xle_c rfl xle_nil))) (kj11 A9 h)
                · replace h := h.1 c96
                  refine x_aload_n dX2_name_99 rfl ?_
                  refine x_get (v := va_rf (A9.P p 5)) hG dX2_name_100 f_X2_150_2 o10 rfl ?_
                  refine x_iload_n dX2_name_103 rfl ?_
                  refine x_aload_n dX2_name_104 rfl ?_
                  refine x_get (v := .int (A9.I p 9)) hG dX2_name_105 f_X2_164_2 o10 rfl ?_
                  obtain ⟨b19, e19, h⟩ := h
                  rw [e19]
                  obtain ⟨o20, h⟩ := h
                  obtain ⟨o21, h⟩ := h
                  obtain ⟨o22, h⟩ := h
                  refine z_iast hG dX2_name_108 o20 o21 o22 (fun A23 e23 => ?_)
                  replace h := h A23 e23
                  refine x_aload_n dX2_name_109 rfl ?_
                  refine x_get (v := va_rf (A9.P p 6)) hG dX2_name_110 f_X2_153_2 (kI e23 o10) (congrArg va_rf (sI_P e23)) ?_
                  refine x_iload_n dX2_name_113 rfl ?_
                  refine x_iload_n dX2_name_114 rfl ?_
                  obtain ⟨b24, e24, h⟩ := h
                  rw [e24]
                  obtain ⟨o25, h⟩ := h
                  obtain ⟨o26, h⟩ := h
                  obtain ⟨o27, h⟩ := h
                  refine z_iast hG dX2_name_115 o25 o26 o27 (fun A28 e28 => ?_)
                  replace h := h A28 e28
                  refine x_aload_n dX2_name_116 rfl ?_
                  refine x_dup dX2_name_117 rfl ?_
                  refine x_get (v := .int (A9.I p 11)) hG dX2_name_118 f_X2_170_2 (kI e28 (kI e23 o10)) (congrArg Value.int ((sI_a e28 (tne (kI e23 o10) o25 (by decide))).trans (sI_a e23 (tne o10 o20 (by decide))))) ?_
                  refine x_iconst_ (v := (1 : Int32)) dX2_name_121 (by decide) ?_
                  refine x_iadd dX2_name_122 ?_
                  refine z_putI hG hO.1 dX2_name_123 f_X2_170_2 ⟨_, rfl, Or.inl rfl⟩ (kI e28 (kI e23 o10)) (by decide) rfl rfl ⟨_, rfl⟩ (fun A29 e29 => ?_)
                  replace h := h A29 e29
                  change X _ _ _ _ _ _ [some (.ref p), some (.int v1), some (.int y7_2)] []
                  exact X.weak (xle_c rfl (xle_c rfl (xle_c rfl xle_nil))) (kj11 A29 h)
              refine x_icmp_ge (tgt := 91) dX2_name_73 (by decide) (fun c73 => ?_) (fun c73 => ?_)
              · replace h := h.1 c73
                change X _ _ _ _ _ _ [some (.ref p), some (.int v1), some (.int y7_2)] []
                exact X.weak (xle_c rfl (xle_c rfl (xle_c rfl xle_nil))) (kj9 A7 h)
              · replace h := h.2 c73
                refine x_aload_n dX2_name_76 rfl ?_
                refine x_iload_n dX2_name_77 rfl ?_
                refine x_iload_n dX2_name_78 rfl ?_
                obtain ⟨R30, g30, h⟩ := h
                refine x_callV hG (Ky := kX2_isName) (As := [.int y7_2, .int v1]) dX2_name_79 o8 rfl lk_X2_204 me_X2_isName is_X2_isName se_X2_isName rfl rfl (Nat.le_of_ble_eq_true rfl) (MX.post (m_X2_isName hG hO g30) ?_)
                rintro _ A30 ⟨v30, rfl, zv30, h1⟩
                refine X.xok (fun w30 => ?_)
                replace h := h v30 A30 w30 zv30 h1
                change X _ _ _ _ A30 _ _ [.int v30]
                refine x_if_ne (tgt := 91) dX2_name_82 (by decide) (fun c82 => ?_) (fun c82 => ?_)
                · replace h := h.2 c82
                  change X _ _ _ _ _ _ [some (.ref p), some (.int v1), some (.int y7_2)] []
                  exact X.weak (xle_c rfl (xle_c rfl (xle_c rfl xle_nil))) (kj9 A30 h)
                · replace h := h.1 c82
                  refine x_iinc (v := (y7_2 + (1 : Int32))) dX2_name_85 rfl rfl (by decide) ?_
                  refine x_goto (tgt := 68) dX2_name_88 (by decide) ?_
                  obtain ⟨q7, l7, h⟩ := h
                  change X _ _ _ _ _ _ [some (.ref p), some (.int v1), some (.int (y7_2 + (1 : Int32)))] []
                  exact X.weak (xle_c rfl (xle_c rfl (xle_c rfl xle_nil))) (ih7 q7 l7 (y7_2 + (1 : Int32)) A30 h)
          change X _ _ _ _ _ _ [some (.ref p), some (.int v1), some (.int (0 : Int32))] []
          exact X.weak (xle_c rfl (xle_c rfl (xle_c rfl xle_nil))) (kl7 n7 (0 : Int32) A3 i7)
        · replace h := h.2 c21
          refine x_aload_n dX2_name_24 rfl ?_
          refine x_aload_n dX2_name_25 rfl ?_
          refine x_get (v := .int (A3.I p 9)) hG dX2_name_26 f_X2_164_2 o4 rfl ?_
          refine x_iload_n dX2_name_29 rfl ?_
          refine x_aload_n dX2_name_30 rfl ?_
          refine x_get (v := .ref b5) hG dX2_name_31 f_X2_41_2 o4 (congrArg va_rf e5) ?_
          refine x_iload_n dX2_name_34 rfl ?_
          obtain ⟨o31, h⟩ := h
          refine x_aald hG (j := 5) dX2_name_35 o6 rfl o31 ?_
          obtain ⟨R32, g32, h⟩ := h
          refine x_callV hG (Ky := kX2_isWord) (As := [.int (A3.I p 9), .int v1, va_rf (A3.P b5 (ix y3_2))]) dX2_name_36 o4 rfl lk_X2_200 me_X2_isWord is_X2_isWord se_X2_isWord rfl rfl (Nat.le_of_ble_eq_true rfl) (MX.post (m_X2_isWord hG hO g32) ?_)
          rintro _ A32 ⟨v32, rfl, zv32, h1⟩
          refine X.xok (fun w32 => ?_)
          replace h := h v32 A32 w32 zv32 h1
          change X _ _ _ _ A32 _ _ [.int v32]
          refine x_if_ne (tgt := 45) dX2_name_39 (by decide) (fun c39 => ?_) (fun c39 => ?_)
          · replace h := h.2 c39
            refine x_aload_n dX2_name_45 rfl ?_
            refine x_dup dX2_name_46 rfl ?_
            obtain ⟨o33, h⟩ := h
            refine x_get (v := .int (A32.I p 9)) hG dX2_name_47 f_X2_164_2 o33 rfl ?_
            refine x_iload_n dX2_name_50 rfl ?_
            refine x_iadd dX2_name_51 ?_
            refine z_putI hG hO.1 dX2_name_52 f_X2_164_2 ⟨_, rfl, Or.inl rfl⟩ o33 (by decide) rfl rfl ⟨_, rfl⟩ (fun A34 e34 => ?_)
            replace h := h A34 e34
            refine x_bipush_ (v := (10 : Int32)) dX2_name_55 (by decide) ?_
            refine x_iload_n dX2_name_57 rfl ?_
            refine x_iadd dX2_name_58 ?_
            exact x_iret dX2_name_59 rfl ⟨_, rfl, h⟩
          · replace h := h.1 c39
            refine x_goto (tgt := 60) dX2_name_42 (by decide) ?_
            refine x_iinc (v := (y3_2 + (1 : Int32))) dX2_name_60 rfl rfl (by decide) ?_
            refine x_goto (tgt := 15) dX2_name_63 (by decide) ?_
            obtain ⟨q3, l3, h⟩ := h
            change X _ _ _ _ _ _ [some (.ref p), some (.int v1), some (.int (y3_2 + (1 : Int32)))] []
            exact X.weak (xle_c rfl (xle_c rfl (xle_c rfl xle_nil))) (ih3 q3 l3 (y3_2 + (1 : Int32)) A32 h)
    change X _ _ _ _ _ _ [some (.ref p), some (.int v1), some (.int (0 : Int32))] []
    exact X.weak (xle_c rfl (xle_c rfl (xle_c rfl xle_nil))) (kl3 n3 (0 : Int32) A1 i3)
  · replace h := h.2 c8
    refine x_iconst_ (v := (1 : Int32)) dX2_name_11 (by decide) ?_
    exact x_iret dX2_name_12 rfl ⟨_, rfl, h⟩
def w_X2_number (G : xG) (p : Nat) (Q : Int32 → xA → Prop) (A : xA) : Prop := xok G A → A.tg p = 3 ∧ (∃ R1 : Int32 → xA → Prop, w_X2_run G p R1 A ∧ (∀ (v1 : Int32) (A1 : xA), xok G A1 → R1 v1 A1 → (A1.tg p = 3 ∧ (∃ R3 : Int32 → xA → Prop, w_X2_now G p (0 : Int32) R3 A1 ∧ (∀ (v3 : Int32) (A3 : xA), xok G A3 → R3 v3 A3 → (∃ J5 : Int32 → xA → Prop, (∀ (y5_s0 : Int32) (A5 : xA), J5 y5_s0 A5 → ((v1 = (if y5_s0 = 0 then (0 : Int32) else (2 : Int32)) → Q (1 : Int32) A5) ∧ (¬ v1 = (if y5_s0 = 0 then (0 : Int32) else (2 : Int32)) → (((v1 - (if y5_s0 = 0 then (0 : Int32) else (2 : Int32))) ≤ (if y5_s0 = 0 then (10 : Int32) else (8 : Int32)) → ∃ L6 : Nat → Int64 → Int32 → xA → Prop, (∃ n6 : Nat, L6 n6 (0 : Int64) (if y5_s0 = 0 then (0 : Int32) else (2 : Int32)) A5) ∧ (∀ (n6 : Nat) (y6_4 : Int64) (y6_6 : Int32) (A6 : xA), L6 n6 y6_4 y6_6 A6 → ((v1 ≤ y6_6 → (((lg_cmp y6_4 (4294967295 : Int64)) ≤ 0 → A6.tg p = 3 ∧ (∃ b8 : Nat, (A6.P p 4) = some b8 ∧ (A6.tg b8 = 200 ∧ (G.N ≤ b8 ∧ (vp_in (A6.I p 10) (A6.ln b8) ∧ (∀ A12 : xA, A12 = A6.setI b8 (ix (A6.I p 10)) y6_4.toInt32 → (∀ A13 : xA, A13 = A12.setI p 9 ((A6.I p 9) + v1) → (Q (3 : Int32) A13)))))))) ∧ (¬ (lg_cmp y6_4 (4294967295 : Int64)) ≤ 0 → Q (1 : Int32) A6))) ∧ (¬ v1 ≤ y6_6 → A6.tg p = 3 ∧ (∃ R14 : Int32 → xA → Prop, w_X2_now G p y6_6 R14 A6 ∧ (∀ (v14 : Int32) (A14 : xA), xok G A14 → R14 v14 A14 → ((((f_X2_digit v14) < 0 → Q (1 : Int32) A14) ∧ (¬ (f_X2_digit v14) < 0 → ((y5_s0 = 0 → (((f_X2_digit v14) ≤ (9 : Int32) → (∃ q6 : Nat, q6 < n6 ∧ L6 q6 (((10 : Int64) * y6_4) + (f_X2_digit v14).toInt64) (y6_6 + (1 : Int32)) A14)) ∧ (¬ (f_X2_digit v14) ≤ (9 : Int32) → Q (1 : Int32) A14))) ∧ (¬ y5_s0 = 0 → (∃ q6 : Nat, q6 < n6 ∧ L6 q6 (((16 : Int64) * y6_4) + (f_X2_digit v14).toInt64) (y6_6 + (1 : Int32)) A14)))))))))))) ∧ (¬ (v1 - (if y5_s0 = 0 then (0 : Int32) else (2 : Int32))) ≤ (if y5_s0 = 0 then (10 : Int32) else (8 : Int32)) → Q (1 : Int32) A5))))) ∧ ((v3 = (48 : Int32) → A3.tg p = 3 ∧ (∃ R16 : Int32 → xA → Prop, w_X2_now G p (1 : Int32) R16 A3 ∧ (∀ (v16 : Int32) (A16 : xA), xok G A16 → R16 v16 A16 → (((v16 = (120 : Int32) → J5 (1 : Int32) A16) ∧ (¬ v16 = (120 : Int32) → J5 (0 : Int32) A16)))))) ∧ (¬ v3 = (48 : Int32) → J5 (0 : Int32) A3))))))))
theorem m_X2_number (hG : xOK G) (hO : xHO G) {dp : Nat} {p : Nat} {Q : Int32 → xA → Prop} {A : xA} (h : w_X2_number G p Q A) : MX G (dp + 2) kX2_number [.ref p] A (hI Q) := by
  unfold w_X2_number at h
  refine MX.of rfl (Nat.le_of_ble_eq_true rfl) ?_
  change X _ _ _ _ _ _ [some (.ref p), none, none, none, none, none, none, none] _
  refine X.xok (fun w0 => ?_)
  replace h := h w0
  refine x_aload_n dX2_number_0 rfl ?_
  obtain ⟨o2, h⟩ := h
  obtain ⟨R1, g1, h⟩ := h
  refine x_callV hG (Ky := kX2_run) (As := []) dX2_number_1 o2 rfl lk_X2_197 me_X2_run is_X2_run se_X2_run rfl rfl (Nat.le_of_ble_eq_true rfl) (MX.post (m_X2_run hG hO g1) ?_)
  rintro _ A1 ⟨v1, rfl, h1⟩
  refine X.xok (fun w1 => ?_)
  replace h := h v1 A1 w1 h1
  change X _ _ _ _ A1 _ _ [.int v1]
  refine x_istore_n dX2_number_4 (by decide) ?_
  refine x_aload_n dX2_number_5 rfl ?_
  refine x_iconst_ (v := (0 : Int32)) dX2_number_6 (by decide) ?_
  obtain ⟨o4, h⟩ := h
  obtain ⟨R3, g3, h⟩ := h
  refine x_callV hG (Ky := kX2_now) (As := [.int (0 : Int32)]) dX2_number_7 o4 rfl lk_X2_177 me_X2_now is_X2_now se_X2_now rfl rfl (Nat.le_of_ble_eq_true rfl) (MX.post (m_X2_now hG hO g3) ?_)
  rintro _ A3 ⟨v3, rfl, h1⟩
  refine X.xok (fun w3 => ?_)
  replace h := h v3 A3 w3 h1
  change X _ _ _ _ A3 _ _ [.int v3]
  refine x_bipush_ (v := (48 : Int32)) dX2_number_10 (by decide) ?_
  obtain ⟨J5, g5, h⟩ := h
  have kj5 : ∀ (y5_s0 : Int32) (A5 : xA), J5 y5_s0 A5 → X G (dp + 2) kX2_number (hI Q) A5 30 [some (.ref p), some (.int v1), none, none, none, none, none, none] [.int y5_s0] := by
    intro y5_s0 A5 h
    replace h := g5 y5_s0 A5 h
    refine x_istore_n dX2_number_30 (by decide) ?_
    refine x_iload_n dX2_number_31 rfl ?_
    refine x_via 40 (A' := A5) (lv' := [some (.ref p), some (.int v1), some (.int y5_s0), none, none, none, none, none]) (st' := [.int (if y5_s0 = 0 then (0 : Int32) else (2 : Int32))]) ?_ (fun k40 => ?_)
    rotate_left
    · refine x_if_eq (tgt := 39) dX2_number_32 (by decide) (fun c32 => ?_) (fun c32 => ?_)
      · refine x_iconst_ (v := (0 : Int32)) dX2_number_39 (by decide) ?_
        change X _ _ _ _ _ _ [some (.ref p), some (.int v1), some (.int y5_s0), none, none, none, none, none] [.int (0 : Int32)]
        simp only [if_pos c32] at k40 ⊢
        exact X.weak (xle_c rfl (xle_c rfl (xle_c rfl (xle_n (xle_n (xle_n (xle_n (xle_n xle_nil)))))))) k40
      · refine x_iconst_ (v := (2 : Int32)) dX2_number_35 (by decide) ?_
        refine x_goto (tgt := 40) dX2_number_36 (by decide) ?_
        change X _ _ _ _ _ _ [some (.ref p), some (.int v1), some (.int y5_s0), none, none, none, none, none] [.int (2 : Int32)]
        simp only [if_neg c32] at k40 ⊢
        exact X.weak (xle_c rfl (xle_c rfl (xle_c rfl (xle_n (xle_n (xle_n (xle_n (xle_n xle_nil)))))))) k40
    refine x_istore_n dX2_number_40 (by decide) ?_
    refine x_iload_n dX2_number_41 rfl ?_
    refine x_iload_n dX2_number_42 rfl ?_
    refine x_icmp_eq (tgt := 63) dX2_number_43 (by decide) (fun c43 => ?_) (fun c43 => ?_)
    · replace h := h.1 c43
      refine x_iconst_ (v := (1 : Int32)) dX2_number_63 (by decide) ?_
      exact x_iret dX2_number_64 rfl ⟨_, rfl, h⟩
    · replace h := h.2 c43
      refine x_iload_n dX2_number_46 rfl ?_
      refine x_iload_n dX2_number_47 rfl ?_
      refine x_isub dX2_number_48 ?_
      refine x_iload_n dX2_number_49 rfl ?_
      refine x_via 60 (A' := A5) (lv' := [some (.ref p), some (.int v1), some (.int y5_s0), some (.int (if y5_s0 = 0 then (0 : Int32) else (2 : Int32))), none, none, none, none]) (st' := [.int (if y5_s0 = 0 then (10 : Int32) else (8 : Int32)), .int (v1 - (if y5_s0 = 0 then (0 : Int32) else (2 : Int32)))]) ?_ (fun k60 => ?_)
      rotate_left
      · refine x_if_eq (tgt := 58) dX2_number_50 (by decide) (fun c50 => ?_) (fun c50 => ?_)
        · refine x_bipush_ (v := (10 : Int32)) dX2_number_58 (by decide) ?_
          change X _ _ _ _ _ _ [some (.ref p), some (.int v1), some (.int y5_s0), some (.int (if y5_s0 = 0 then (0 : Int32) else (2 : Int32))), none, none, none, none] [.int (10 : Int32), .int (v1 - (if y5_s0 = 0 then (0 : Int32) else (2 : Int32)))]
          simp only [if_pos c50] at k60 ⊢
          exact X.weak (xle_c rfl (xle_c rfl (xle_c rfl (xle_c rfl (xle_n (xle_n (xle_n (xle_n xle_nil)))))))) k60
        · refine x_bipush_ (v := (8 : Int32)) dX2_number_53 (by decide) ?_
          refine x_goto (tgt := 60) dX2_number_55 (by decide) ?_
          change X _ _ _ _ _ _ [some (.ref p), some (.int v1), some (.int y5_s0), some (.int (if y5_s0 = 0 then (0 : Int32) else (2 : Int32))), none, none, none, none] [.int (8 : Int32), .int (v1 - (if y5_s0 = 0 then (0 : Int32) else (2 : Int32)))]
          simp only [if_neg c50] at k60 ⊢
          exact X.weak (xle_c rfl (xle_c rfl (xle_c rfl (xle_c rfl (xle_n (xle_n (xle_n (xle_n xle_nil)))))))) k60
      refine x_icmp_le (tgt := 65) dX2_number_60 (by decide) (fun c60 => ?_) (fun c60 => ?_)
      · replace h := h.1 c60
        refine x_lconst_ (v := (0 : Int64)) dX2_number_65 (by decide) ?_
        refine x_lstore dX2_number_66 (by decide) ?_
        refine x_iload_n dX2_number_68 rfl ?_
        refine x_istore dX2_number_69 (by decide) ?_
        obtain ⟨L6, ⟨n6, i6⟩, g6⟩ := h
        have kl6 : ∀ n6 : Nat, ∀ (y6_4 : Int64) (y6_6 : Int32) (A6 : xA), L6 n6 y6_4 y6_6 A6 → X G (dp + 2) kX2_number (hI Q) A6 71 [some (.ref p), some (.int v1), some (.int y5_s0), none, some (.long y6_4), none, some (.int y6_6), none] [] := by
          intro n6
          induction n6 using Nat.strongRecOn with
          | ind n6 ih6 =>
            intro y6_4 y6_6 A6 h
            replace h := g6 n6 y6_4 y6_6 A6 h
            refine x_iload dX2_number_71 rfl ?_
            refine x_iload_n dX2_number_73 rfl ?_
            refine x_icmp_ge (tgt := 134) dX2_number_74 (by decide) (fun c74 => ?_) (fun c74 => ?_)
            · replace h := h.1 c74
              refine x_lload dX2_number_134 rfl ?_
              refine x_ldc2 hG dX2_number_136 q997 ?_
              refine x_lcmp dX2_number_139 ?_
              refine x_if_le (tgt := 145) dX2_number_140 (by decide) (fun c140 => ?_) (fun c140 => ?_)
              · replace h := h.1 c140
                refine x_aload_n dX2_number_145 rfl ?_
                obtain ⟨o7, h⟩ := h
                refine x_get (v := va_rf (A6.P p 4)) hG dX2_number_146 f_X2_147_2 o7 rfl ?_
                refine x_aload_n dX2_number_149 rfl ?_
                refine x_get (v := .int (A6.I p 10)) hG dX2_number_150 f_X2_167_2 o7 rfl ?_
                refine x_lload dX2_number_153 rfl ?_
                refine x_l2i dX2_number_155 ?_
                obtain ⟨b8, e8, h⟩ := h
                rw [e8]
                obtain ⟨o9, h⟩ := h
                obtain ⟨o10, h⟩ := h
                obtain ⟨o11, h⟩ := h
                refine z_iast hG dX2_number_156 o9 o10 o11 (fun A12 e12 => ?_)
                replace h := h A12 e12
                refine x_aload_n dX2_number_157 rfl ?_
                refine x_dup dX2_number_158 rfl ?_
                refine x_get (v := .int (A6.I p 9)) hG dX2_number_159 f_X2_164_2 (kI e12 o7) (congrArg Value.int (sI_a e12 (tne o7 o9 (by decide)))) ?_
                refine x_iload_n dX2_number_162 rfl ?_
                refine x_iadd dX2_number_163 ?_
                refine z_putI hG hO.1 dX2_number_164 f_X2_164_2 ⟨_, rfl, Or.inl rfl⟩ (kI e12 o7) (by decide) rfl rfl ⟨_, rfl⟩ (fun A13 e13 => ?_)
                replace h := h A13 e13
                refine x_iconst_ (v := (3 : Int32)) dX2_number_167 (by decide) ?_
                exact x_iret dX2_number_168 rfl ⟨_, rfl, h⟩
              · replace h := h.2 c140
                refine x_iconst_ (v := (1 : Int32)) dX2_number_143 (by decide) ?_
                exact x_iret dX2_number_144 rfl ⟨_, rfl, h⟩
            · replace h := h.2 c74
              refine x_aload_n dX2_number_77 rfl ?_
              refine x_iload dX2_number_78 rfl ?_
              obtain ⟨o15, h⟩ := h
              obtain ⟨R14, g14, h⟩ := h
              refine x_callV hG (Ky := kX2_now) (As := [.int y6_6]) dX2_number_80 o15 rfl lk_X2_177 me_X2_now is_X2_now se_X2_now rfl rfl (Nat.le_of_ble_eq_true rfl) (MX.post (m_X2_now hG hO g14) ?_)
              rintro _ A14 ⟨v14, rfl, h1⟩
              refine X.xok (fun w14 => ?_)
              replace h := h v14 A14 w14 h1
              change X _ _ _ _ A14 _ _ [.int v14]
              refine x_callS hG (Ky := kX2_digit) (As := [.int v14]) dX2_number_83 lk_X2_217 me_X2_digit st_X2_digit rfl rfl (Nat.le_of_ble_eq_true rfl) (MX.post (m_X2_digit hG) ?_)
              rintro _ _ ⟨rfl, rfl⟩
              change X _ _ _ _ _ _ _ (.int (f_X2_digit v14) :: _)
              refine x_istore dX2_number_86 (by decide) ?_
              refine x_iload dX2_number_88 rfl ?_
              refine x_if_lt (tgt := 104) dX2_number_90 (by decide) (fun c90 => ?_) (fun c90 => ?_)
              · replace h := h.1 c90
                refine x_iconst_ (v := (1 : Int32)) dX2_number_104 (by decide) ?_
                exact x_iret dX2_number_105 rfl ⟨_, rfl, h⟩
              · replace h := h.2 c90
                refine x_iload_n dX2_number_93 rfl ?_
                refine x_if_ne (tgt := 106) dX2_number_94 (by decide) (fun c94 => ?_) (fun c94 => ?_)
                · replace h := h.2 c94
                  refine x_iload_n dX2_number_106 rfl ?_
                  refine x_if_eq (tgt := 116) dX2_number_107 (by decide) (fun h => absurd h c94) (fun _ => ?_)
                  refine x_ldc2 hG dX2_number_110 q995 ?_
                  refine x_goto (tgt := 119) dX2_number_113 (by decide) ?_
                  refine x_lload dX2_number_119 rfl ?_
                  refine x_lmul dX2_number_121 ?_
                  refine x_iload dX2_number_122 rfl ?_
                  refine x_i2l dX2_number_124 ?_
                  refine x_ladd dX2_number_125 ?_
                  refine x_lstore dX2_number_126 (by decide) ?_
                  refine x_iinc (v := (y6_6 + (1 : Int32))) dX2_number_128 rfl rfl (by decide) ?_
                  refine x_goto (tgt := 71) dX2_number_131 (by decide) ?_
                  obtain ⟨q6, l6, h⟩ := h
                  change X _ _ _ _ _ _ [some (.ref p), some (.int v1), some (.int y5_s0), none, some (.long (((16 : Int64) * y6_4) + (f_X2_digit v14).toInt64)), none, some (.int (y6_6 + (1 : Int32))), some (.int (f_X2_digit v14))] []
                  exact X.weak (xle_c rfl (xle_c rfl (xle_c rfl (xle_n (xle_c rfl (xle_n (xle_c rfl (xle_n xle_nil)))))))) (ih6 q6 l6 (((16 : Int64) * y6_4) + (f_X2_digit v14).toInt64) (y6_6 + (1 : Int32)) A14 h)
                · replace h := h.1 c94
                  refine x_iload dX2_number_97 rfl ?_
                  refine x_bipush_ (v := (9 : Int32)) dX2_number_99 (by decide) ?_
                  refine x_icmp_le (tgt := 106) dX2_number_101 (by decide) (fun c101 => ?_) (fun c101 => ?_)
                  · replace h := h.1 c101
                    refine x_iload_n dX2_number_106 rfl ?_
                    refine x_if_eq (tgt := 116) dX2_number_107 (by decide) (fun _ => ?_) (fun h => absurd c94 h)
                    refine x_ldc2 hG dX2_number_116 q996 ?_
                    refine x_lload dX2_number_119 rfl ?_
                    refine x_lmul dX2_number_121 ?_
                    refine x_iload dX2_number_122 rfl ?_
                    refine x_i2l dX2_number_124 ?_
                    refine x_ladd dX2_number_125 ?_
                    refine x_lstore dX2_number_126 (by decide) ?_
                    refine x_iinc (v := (y6_6 + (1 : Int32))) dX2_number_128 rfl rfl (by decide) ?_
                    refine x_goto (tgt := 71) dX2_number_131 (by decide) ?_
                    obtain ⟨q6, l6, h⟩ := h
                    change X _ _ _ _ _ _ [some (.ref p), some (.int v1), some (.int y5_s0), none, some (.long (((10 : Int64) * y6_4) + (f_X2_digit v14).toInt64)), none, some (.int (y6_6 + (1 : Int32))), some (.int (f_X2_digit v14))] []
                    exact X.weak (xle_c rfl (xle_c rfl (xle_c rfl (xle_n (xle_c rfl (xle_n (xle_c rfl (xle_n xle_nil)))))))) (ih6 q6 l6 (((10 : Int64) * y6_4) + (f_X2_digit v14).toInt64) (y6_6 + (1 : Int32)) A14 h)
                  · replace h := h.2 c101
                    refine x_iconst_ (v := (1 : Int32)) dX2_number_104 (by decide) ?_
                    exact x_iret dX2_number_105 rfl ⟨_, rfl, h⟩
        change X _ _ _ _ _ _ [some (.ref p), some (.int v1), some (.int y5_s0), some (.int (if y5_s0 = 0 then (0 : Int32) else (2 : Int32))), some (.long (0 : Int64)), none, some (.int (if y5_s0 = 0 then (0 : Int32) else (2 : Int32))), none] []
        exact X.weak (xle_c rfl (xle_c rfl (xle_c rfl (xle_n (xle_c rfl (xle_n (xle_c rfl (xle_n xle_nil)))))))) (kl6 n6 (0 : Int64) (if y5_s0 = 0 then (0 : Int32) else (2 : Int32)) A5 i6)
      · replace h := h.2 c60
        refine x_iconst_ (v := (1 : Int32)) dX2_number_63 (by decide) ?_
        exact x_iret dX2_number_64 rfl ⟨_, rfl, h⟩
  refine x_icmp_ne (tgt := 29) dX2_number_12 (by decide) (fun c12 => ?_) (fun c12 => ?_)
  · replace h := h.2 c12
    refine x_iconst_ (v := (0 : Int32)) dX2_number_29 (by decide) ?_
    change X _ _ _ _ _ _ [some (.ref p), some (.int v1), none, none, none, none, none, none] [.int (0 : Int32)]
    exact X.weak (xle_c rfl (xle_c rfl (xle_n (xle_n (xle_n (xle_n (xle_n (xle_n xle_nil)))))))) (kj5 (0 : Int32) A3 h)
  · replace h := h.1 c12
    refine x_aload_n dX2_number_15 rfl ?_
    refine x_iconst_ (v := (1 : Int32)) dX2_number_16 (by decide) ?_
    obtain ⟨o17, h⟩ := h
    obtain ⟨R16, g16, h⟩ := h
    refine x_callV hG (Ky := kX2_now) (As := [.int (1 : Int32)]) dX2_number_17 o17 rfl lk_X2_177 me_X2_now is_X2_now se_X2_now rfl rfl (Nat.le_of_ble_eq_true rfl) (MX.post (m_X2_now hG hO g16) ?_)
    rintro _ A16 ⟨v16, rfl, h1⟩
    refine X.xok (fun w16 => ?_)
    replace h := h v16 A16 w16 h1
    change X _ _ _ _ A16 _ _ [.int v16]
    refine x_bipush_ (v := (120 : Int32)) dX2_number_20 (by decide) ?_
    refine x_icmp_ne (tgt := 29) dX2_number_22 (by decide) (fun c22 => ?_) (fun c22 => ?_)
    · replace h := h.2 c22
      refine x_iconst_ (v := (0 : Int32)) dX2_number_29 (by decide) ?_
      change X _ _ _ _ _ _ [some (.ref p), some (.int v1), none, none, none, none, none, none] [.int (0 : Int32)]
      exact X.weak (xle_c rfl (xle_c rfl (xle_n (xle_n (xle_n (xle_n (xle_n (xle_n xle_nil)))))))) (kj5 (0 : Int32) A16 h)
    · replace h := h.1 c22
      refine x_iconst_ (v := (1 : Int32)) dX2_number_25 (by decide) ?_
      refine x_goto (tgt := 30) dX2_number_26 (by decide) ?_
      change X _ _ _ _ _ _ [some (.ref p), some (.int v1), none, none, none, none, none, none] [.int (1 : Int32)]
      exact X.weak (xle_c rfl (xle_c rfl (xle_n (xle_n (xle_n (xle_n (xle_n (xle_n xle_nil)))))))) (kj5 (1 : Int32) A16 h)
def w_X2_sign (G : xG) (p : Nat) (Q : Int32 → xA → Prop) (A : xA) : Prop := xok G A → ∃ L1 : Nat → Int32 → xA → Prop, (∃ n1 : Nat, L1 n1 (0 : Int32) A) ∧ (∀ (n1 : Nat) (y1_1 : Int32) (A1 : xA), L1 n1 y1_1 A1 → A1.tg p = 3 ∧ (∃ b3 : Nat, (A1.P p 1) = some b3 ∧ (A1.tg b3 = 205 ∧ ((((nI (A1.ln b3)) ≤ y1_1 → Q (1 : Int32) A1) ∧ (¬ (nI (A1.ln b3)) ≤ y1_1 → ∃ L5 : Nat → Int32 → Int32 → xA → Prop, (∃ n5 : Nat, L5 n5 (1 : Int32) (0 : Int32) A1) ∧ (∀ (n5 : Nat) (y5_2 : Int32) (y5_3 : Int32) (A5 : xA), L5 n5 y5_2 y5_3 A5 → A5.tg p = 3 ∧ (∃ b7 : Nat, (A5.P p 1) = some b7 ∧ (A5.tg b7 = 205 ∧ (vp_in y1_1 (A5.ln b7) ∧ (∃ b11 : Nat, (A5.P b7 (ix y1_1)) = some b11 ∧ (xOO G b11 "java/lang/String" ∧ (∃ R10 : Int32 → xA → Prop, w_J6_length G b11 R10 A5 ∧ (∀ (v10 : Int32) (A10 : xA), xok G A10 → R10 v10 A10 → (∃ J13 : Prop, (J13 → ((y5_2 = 0 → (∃ q1 : Nat, q1 < n1 ∧ L1 q1 (y1_1 + (1 : Int32)) A10)) ∧ (¬ y5_2 = 0 → A10.tg p = 3 ∧ (∃ b15 : Nat, (A10.P p 1) = some b15 ∧ (A10.tg b15 = 205 ∧ (vp_in y1_1 (A10.ln b15) ∧ (∃ b19 : Nat, (A10.P b15 (ix y1_1)) = some b19 ∧ (xOO G b19 "java/lang/String" ∧ (∃ R18 : Int32 → xA → Prop, w_J6_length G b19 R18 A10 ∧ (∀ (v18 : Int32) (A18 : xA), xok G A18 → R18 v18 A18 → (A18.tg p = 3 ∧ (∀ A22 : xA, A22 = A18.setI p 9 ((A10.I p 9) + v18) → (Q ((40 : Int32) + y1_1) A22))))))))))))) ∧ ((v10 ≤ y5_3 → J13) ∧ (¬ v10 ≤ y5_3 → ((y5_2 = 0 → J13) ∧ (¬ y5_2 = 0 → A10.tg p = 3 ∧ (∃ R23 : Int32 → xA → Prop, w_X2_now G p y5_3 R23 A10 ∧ (∀ (v23 : Int32) (A23 : xA), xok G A23 → R23 v23 A23 → (A23.tg p = 3 ∧ (∃ b26 : Nat, (A23.P p 1) = some b26 ∧ (A23.tg b26 = 205 ∧ (vp_in y1_1 (A23.ln b26) ∧ (∃ b30 : Nat, (A23.P b26 (ix y1_1)) = some b30 ∧ (xOO G b30 "java/lang/String" ∧ (∃ R29 : Int32 → xA → Prop, w_J6_charAt G b30 y5_3 R29 A23 ∧ (∀ (v29 : Int32) (A29 : xA), xok G A29 → R29 v29 A29 → ((∃ q5 : Nat, q5 < n5 ∧ L5 q5 (if v23 = v29 then (1 : Int32) else (0 : Int32)) (y5_3 + (1 : Int32)) A29)))))))))))))))))))))))))))))))
theorem m_X2_sign (hG : xOK G) (hO : xHO G) {dp : Nat} {p : Nat} {Q : Int32 → xA → Prop} {A : xA} (h : w_X2_sign G p Q A) : MX G (dp + 4) kX2_sign [.ref p] A (hI Q) := by
  unfold w_X2_sign at h
  refine MX.of rfl (Nat.le_of_ble_eq_true rfl) ?_
  change X _ _ _ _ _ _ [some (.ref p), none, none, none] _
  refine X.xok (fun w0 => ?_)
  replace h := h w0
  refine x_iconst_ (v := (0 : Int32)) dX2_sign_0 (by decide) ?_
  refine x_istore_n dX2_sign_1 (by decide) ?_
  obtain ⟨L1, ⟨n1, i1⟩, g1⟩ := h
  have kl1 : ∀ n1 : Nat, ∀ (y1_1 : Int32) (A1 : xA), L1 n1 y1_1 A1 → X G (dp + 4) kX2_sign (hI Q) A1 2 [some (.ref p), some (.int y1_1), none, none] [] := by
    intro n1
    induction n1 using Nat.strongRecOn with
    | ind n1 ih1 =>
      intro y1_1 A1 h
      replace h := g1 n1 y1_1 A1 h
      refine x_iload_n dX2_sign_2 rfl ?_
      refine x_aload_n dX2_sign_3 rfl ?_
      obtain ⟨o2, h⟩ := h
      refine x_get (v := va_rf (A1.P p 1)) hG dX2_sign_4 f_X2_137_2 o2 rfl ?_
      obtain ⟨b3, e3, h⟩ := h
      rw [e3]
      obtain ⟨o4, h⟩ := h
      refine x_alen hG (j := 5) dX2_sign_7 o4 ?_
      refine x_icmp_ge (tgt := 98) dX2_sign_8 (by decide) (fun c8 => ?_) (fun c8 => ?_)
      · replace h := h.1 c8
        refine x_iconst_ (v := (1 : Int32)) dX2_sign_98 (by decide) ?_
        exact x_iret dX2_sign_99 rfl ⟨_, rfl, h⟩
      · replace h := h.2 c8
        refine x_iconst_ (v := (1 : Int32)) dX2_sign_11 (by decide) ?_
        refine x_istore_n dX2_sign_12 (by decide) ?_
        refine x_iconst_ (v := (0 : Int32)) dX2_sign_13 (by decide) ?_
        refine x_istore_n dX2_sign_14 (by decide) ?_
        obtain ⟨L5, ⟨n5, i5⟩, g5⟩ := h
        have kl5 : ∀ n5 : Nat, ∀ (y5_2 : Int32) (y5_3 : Int32) (A5 : xA), L5 n5 y5_2 y5_3 A5 → X G (dp + 4) kX2_sign (hI Q) A5 15 [some (.ref p), some (.int y1_1), some (.int y5_2), some (.int y5_3)] [] := by
          intro n5
          induction n5 using Nat.strongRecOn with
          | ind n5 ih5 =>
            intro y5_2 y5_3 A5 h
            replace h := g5 n5 y5_2 y5_3 A5 h
            refine x_iload_n dX2_sign_15 rfl ?_
            refine x_aload_n dX2_sign_16 rfl ?_
            obtain ⟨o6, h⟩ := h
            refine x_get (v := va_rf (A5.P p 1)) hG dX2_sign_17 f_X2_137_2 o6 rfl ?_
            refine x_iload_n dX2_sign_20 rfl ?_
            obtain ⟨b7, e7, h⟩ := h
            rw [e7]
            obtain ⟨o8, h⟩ := h
            obtain ⟨o9, h⟩ := h
            refine x_aald hG (j := 5) dX2_sign_21 o8 rfl o9 ?_
            obtain ⟨b11, e11, h⟩ := h
            rw [e11]
            obtain ⟨o12, h⟩ := h
            obtain ⟨R10, g10, h⟩ := h
            refine x_callVO hG (Ky := kJ6_length) (As := []) dX2_sign_22 o12 q1006 me_J6_length is_J6_length se_J6_length rfl rfl (Nat.le_of_ble_eq_true rfl) (MX.post (m_J6_length hG hO g10) ?_)
            rintro _ A10 ⟨v10, rfl, h1⟩
            refine X.xok (fun w10 => ?_)
            replace h := h v10 A10 w10 h1
            change X _ _ _ _ A10 _ _ [.int v10, .int y5_3]
            obtain ⟨J13, g13, h⟩ := h
            have kj13 : J13 → X G (dp + 4) kX2_sign (hI Q) A10 62 [some (.ref p), some (.int y1_1), some (.int y5_2), none] [] := by
              intro h
              replace h := g13 h
              refine x_iload_n dX2_sign_62 rfl ?_
              refine x_if_ne (tgt := 69) dX2_sign_63 (by decide) (fun c63 => ?_) (fun c63 => ?_)
              · replace h := h.2 c63
                refine x_aload_n dX2_sign_69 rfl ?_
                refine x_dup dX2_sign_70 rfl ?_
                obtain ⟨o14, h⟩ := h
                refine x_get (v := .int (A10.I p 9)) hG dX2_sign_71 f_X2_164_2 o14 rfl ?_
                refine x_aload_n dX2_sign_74 rfl ?_
                refine x_get (v := va_rf (A10.P p 1)) hG dX2_sign_75 f_X2_137_2 o14 rfl ?_
                refine x_iload_n dX2_sign_78 rfl ?_
                obtain ⟨b15, e15, h⟩ := h
                rw [e15]
                obtain ⟨o16, h⟩ := h
                obtain ⟨o17, h⟩ := h
                refine x_aald hG (j := 5) dX2_sign_79 o16 rfl o17 ?_
                obtain ⟨b19, e19, h⟩ := h
                rw [e19]
                obtain ⟨o20, h⟩ := h
                obtain ⟨R18, g18, h⟩ := h
                refine x_callVO hG (Ky := kJ6_length) (As := []) dX2_sign_80 o20 q1006 me_J6_length is_J6_length se_J6_length rfl rfl (Nat.le_of_ble_eq_true rfl) (MX.post (m_J6_length hG hO g18) ?_)
                rintro _ A18 ⟨v18, rfl, h1⟩
                refine X.xok (fun w18 => ?_)
                replace h := h v18 A18 w18 h1
                change X _ _ _ _ A18 _ _ [.int v18, .int (A10.I p 9), .ref p]
                refine x_iadd dX2_sign_83 ?_
                obtain ⟨o21, h⟩ := h
                refine z_putI hG hO.1 dX2_sign_84 f_X2_164_2 ⟨_, rfl, Or.inl rfl⟩ o21 (by decide) rfl rfl ⟨_, rfl⟩ (fun A22 e22 => ?_)
                replace h := h A22 e22
                refine x_bipush_ (v := (40 : Int32)) dX2_sign_87 (by decide) ?_
                refine x_iload_n dX2_sign_89 rfl ?_
                refine x_iadd dX2_sign_90 ?_
                exact x_iret dX2_sign_91 rfl ⟨_, rfl, h⟩
              · replace h := h.1 c63
                refine x_goto (tgt := 92) dX2_sign_66 (by decide) ?_
                refine x_iinc (v := (y1_1 + (1 : Int32))) dX2_sign_92 rfl rfl (by decide) ?_
                refine x_goto (tgt := 2) dX2_sign_95 (by decide) ?_
                obtain ⟨q1, l1, h⟩ := h
                change X _ _ _ _ _ _ [some (.ref p), some (.int (y1_1 + (1 : Int32))), some (.int y5_2), none] []
                exact X.weak (xle_c rfl (xle_c rfl (xle_n (xle_n xle_nil)))) (ih1 q1 l1 (y1_1 + (1 : Int32)) A10 h)
            refine x_icmp_ge (tgt := 62) dX2_sign_25 (by decide) (fun c25 => ?_) (fun c25 => ?_)
            · replace h := h.1 c25
              change X _ _ _ _ _ _ [some (.ref p), some (.int y1_1), some (.int y5_2), some (.int y5_3)] []
              exact X.weak (xle_c rfl (xle_c rfl (xle_c rfl (xle_n xle_nil)))) (kj13 h)
            · replace h := h.2 c25
              refine x_iload_n dX2_sign_28 rfl ?_
              refine x_if_eq (tgt := 62) dX2_sign_29 (by decide) (fun c29 => ?_) (fun c29 => ?_)
              · replace h := h.1 c29
                change X _ _ _ _ _ _ [some (.ref p), some (.int y1_1), some (.int y5_2), some (.int y5_3)] []
                exact X.weak (xle_c rfl (xle_c rfl (xle_c rfl (xle_n xle_nil)))) (kj13 h)
              · replace h := h.2 c29
                refine x_aload_n dX2_sign_32 rfl ?_
                refine x_iload_n dX2_sign_33 rfl ?_
                obtain ⟨o24, h⟩ := h
                obtain ⟨R23, g23, h⟩ := h
                refine x_callV hG (Ky := kX2_now) (As := [.int y5_3]) dX2_sign_34 o24 rfl lk_X2_177 me_X2_now is_X2_now se_X2_now rfl rfl (Nat.le_of_ble_eq_true rfl) (MX.post (m_X2_now hG hO g23) ?_)
                rintro _ A23 ⟨v23, rfl, h1⟩
                refine X.xok (fun w23 => ?_)
                replace h := h v23 A23 w23 h1
                change X _ _ _ _ A23 _ _ [.int v23]
                refine x_aload_n dX2_sign_37 rfl ?_
                obtain ⟨o25, h⟩ := h
                refine x_get (v := va_rf (A23.P p 1)) hG dX2_sign_38 f_X2_137_2 o25 rfl ?_
                refine x_iload_n dX2_sign_41 rfl ?_
                obtain ⟨b26, e26, h⟩ := h
                rw [e26]
                obtain ⟨o27, h⟩ := h
                obtain ⟨o28, h⟩ := h
                refine x_aald hG (j := 5) dX2_sign_42 o27 rfl o28 ?_
                refine x_iload_n dX2_sign_43 rfl ?_
                obtain ⟨b30, e30, h⟩ := h
                rw [e30]
                obtain ⟨o31, h⟩ := h
                obtain ⟨R29, g29, h⟩ := h
                refine x_callVO hG (Ky := kJ6_charAt) (As := [.int y5_3]) dX2_sign_44 o31 q1016 me_J6_charAt is_J6_charAt se_J6_charAt rfl rfl (Nat.le_of_ble_eq_true rfl) (MX.post (m_J6_charAt hG hO g29) ?_)
                rintro _ A29 ⟨v29, rfl, h1⟩
                refine X.xok (fun w29 => ?_)
                replace h := h v29 A29 w29 h1
                change X _ _ _ _ A29 _ _ [.int v29, .int v23]
                refine x_via 55 (A' := A29) (lv' := [some (.ref p), some (.int y1_1), none, some (.int y5_3)]) (st' := [.int (if v23 = v29 then (1 : Int32) else (0 : Int32))]) ?_ (fun k55 => ?_)
                rotate_left
                · refine x_icmp_ne (tgt := 54) dX2_sign_47 (by decide) (fun c47 => ?_) (fun c47 => ?_)
                  · refine x_iconst_ (v := (0 : Int32)) dX2_sign_54 (by decide) ?_
                    change X _ _ _ _ _ _ [some (.ref p), some (.int y1_1), some (.int y5_2), some (.int y5_3)] [.int (0 : Int32)]
                    simp only [if_neg c47] at k55 ⊢
                    exact X.weak (xle_c rfl (xle_c rfl (xle_n (xle_c rfl xle_nil)))) k55
                  · refine x_iconst_ (v := (1 : Int32)) dX2_sign_50 (by decide) ?_
                    refine x_goto (tgt := 55) dX2_sign_51 (by decide) ?_
                    change X _ _ _ _ _ _ [some (.ref p), some (.int y1_1), some (.int y5_2), some (.int y5_3)] [.int (1 : Int32)]
                    simp only [if_pos c47] at k55 ⊢
                    exact X.weak (xle_c rfl (xle_c rfl (xle_n (xle_c rfl xle_nil)))) k55
                refine x_istore_n dX2_sign_55 (by decide) ?_
                refine x_iinc (v := (y5_3 + (1 : Int32))) dX2_sign_56 rfl rfl (by decide) ?_
                refine x_goto (tgt := 15) dX2_sign_59 (by decide) ?_
                obtain ⟨q5, l5, h⟩ := h
                change X _ _ _ _ _ _ [some (.ref p), some (.int y1_1), some (.int (if v23 = v29 then (1 : Int32) else (0 : Int32))), some (.int (y5_3 + (1 : Int32)))] []
                exact X.weak (xle_c rfl (xle_c rfl (xle_c rfl (xle_c rfl xle_nil)))) (ih5 q5 l5 (if v23 = v29 then (1 : Int32) else (0 : Int32)) (y5_3 + (1 : Int32)) A29 h)
        change X _ _ _ _ _ _ [some (.ref p), some (.int y1_1), some (.int (1 : Int32)), some (.int (0 : Int32))] []
        exact X.weak (xle_c rfl (xle_c rfl (xle_c rfl (xle_c rfl xle_nil)))) (kl5 n5 (1 : Int32) (0 : Int32) A1 i5)
  change X _ _ _ _ _ _ [some (.ref p), some (.int (0 : Int32)), none, none] []
  exact X.weak (xle_c rfl (xle_c rfl (xle_n (xle_n xle_nil)))) (kl1 n1 (0 : Int32) A i1)
def w_X2_scan (G : xG) (p : Nat) (b : Option Nat) (n : Int32) (Q : xA → Prop) (A : xA) : Prop := xok G A → A.tg p = 3 ∧ (∀ A2 : xA, A2 = A.setP p 7 b → (∀ A3 : xA, A3 = A2.setI p 8 n → (∀ A4 : xA, A4 = A3.setI p 9 (0 : Int32) → (∀ A5 : xA, A5 = A4.setI p 10 (0 : Int32) → (∀ A6 : xA, A6 = A5.setI p 11 (0 : Int32) → (∃ L7 : Nat → Int32 → xA → Prop, (∃ n7 : Nat, L7 n7 (2 : Int32) A6) ∧ (∀ (n7 : Nat) (y7_3 : Int32) (A7 : xA), L7 n7 y7_3 A7 → ((y7_3 = 0 → Q A7) ∧ (¬ y7_3 = 0 → ((y7_3 = (1 : Int32) → Q A7) ∧ (¬ y7_3 = (1 : Int32) → A7.tg p = 3 ∧ (∃ R8 : Int32 → xA → Prop, w_X2_skip G p R8 A7 ∧ (∀ (v8 : Int32) (A8 : xA), xok G A8 → R8 v8 A8 → (∃ J10 : xA → Prop, (∀ (A10 : xA), J10 A10 → A10.tg p = 3 ∧ (∃ b12 : Nat, (A10.P p 3) = some b12 ∧ (A10.tg b12 = 200 ∧ (G.N ≤ b12 ∧ (vp_in (A10.I p 10) (A10.ln b12) ∧ (∀ A16 : xA, A16 = A10.setI b12 (ix (A10.I p 10)) (A10.I p 9) → (∃ J17 : Int32 → xA → Prop, (∀ (y17_s0 : Int32) (A17 : xA), J17 y17_s0 A17 → A17.tg p = 3 ∧ (∃ b19 : Nat, (A17.P p 2) = some b19 ∧ (A17.tg b19 = 200 ∧ (G.N ≤ b19 ∧ (vp_in (A17.I p 10) (A17.ln b19) ∧ (∀ A23 : xA, A23 = A17.setI b19 (ix (A17.I p 10)) y17_s0 → (∀ A24 : xA, A24 = A23.setI p 10 ((A17.I p 10) + (1 : Int32)) → ((∃ q7 : Nat, q7 < n7 ∧ L7 q7 y17_s0 A24))))))))) ∧ ((v8 < 0 → (((A10.I p 9) = (A10.I p 8) → J17 (0 : Int32) A16) ∧ (¬ (A10.I p 9) = (A10.I p 8) → ∃ R25 : Int32 → xA → Prop, w_X2_now G p (0 : Int32) R25 A16 ∧ (∀ (v25 : Int32) (A25 : xA), xok G A25 → R25 v25 A25 → ((((f_X2_isDigit v25) = 0 → A25.tg p = 3 ∧ (∃ R26 : Int32 → xA → Prop, w_X2_now G p (0 : Int32) R26 A25 ∧ (∀ (v26 : Int32) (A26 : xA), xok G A26 → R26 v26 A26 → ((((f_X2_isLetter v26) = 0 → A26.tg p = 3 ∧ (∃ R28 : Int32 → xA → Prop, w_X2_sign G p R28 A26 ∧ (∀ (v28 : Int32) (A28 : xA), xok G A28 → R28 v28 A28 → (J17 v28 A28)))) ∧ (¬ (f_X2_isLetter v26) = 0 → A26.tg p = 3 ∧ (∃ R30 : Int32 → xA → Prop, w_X2_name G p R30 A26 ∧ (∀ (v30 : Int32) (A30 : xA), xok G A30 → R30 v30 A30 → (J17 v30 A30))))))))) ∧ (¬ (f_X2_isDigit v25) = 0 → A25.tg p = 3 ∧ (∃ R32 : Int32 → xA → Prop, w_X2_number G p R32 A25 ∧ (∀ (v32 : Int32) (A32 : xA), xok G A32 → R32 v32 A32 → (J17 v32 A32)))))))))) ∧ (¬ v8 < 0 → J17 (1 : Int32) A16))))))))) ∧ ((v8 < 0 → J10 A8) ∧ (¬ v8 < 0 → A8.tg p = 3 ∧ (∀ A35 : xA, A35 = A8.setI p 9 v8 → (J10 A35))))))))))))))))))
theorem m_X2_scan (hG : xOK G) (hO : xHO G) {dp : Nat} {p : Nat} {b : Option Nat} {n : Int32} {Q : xA → Prop} {A : xA} (h : w_X2_scan G p b n Q A) : MX G (dp + 6) kX2_scan [.ref p, va_rf b, .int n] A (hV Q) := by
  unfold w_X2_scan at h
  refine MX.of rfl (by cases b <;> exact Nat.le_of_ble_eq_true rfl) ?_
  refine X.lvs (lv' := [some (.ref p), some (va_rf b), some (.int n), none, none]) (by cases b <;> rfl) ?_
  refine X.xok (fun w0 => ?_)
  replace h := h w0
  refine x_aload_n dX2_scan_0 rfl ?_
  refine x_aloadq_n dX2_scan_1 rfl ?_
  obtain ⟨o1, h⟩ := h
  refine z_putP hG hO.1 b dX2_scan_2 f_X2_156_2 ⟨_, rfl, Or.inl rfl⟩ o1 (by decide) (Or.inr ⟨_, rfl⟩) (fun A2 e2 => ?_)
  replace h := h A2 e2
  refine x_aload_n dX2_scan_5 rfl ?_
  refine x_iload_n dX2_scan_6 rfl ?_
  refine z_putI hG hO.1 dX2_scan_7 f_X2_160_2 ⟨_, rfl, Or.inl rfl⟩ (kP e2 o1) (by decide) rfl rfl ⟨_, rfl⟩ (fun A3 e3 => ?_)
  replace h := h A3 e3
  refine x_aload_n dX2_scan_10 rfl ?_
  refine x_iconst_ (v := (0 : Int32)) dX2_scan_11 (by decide) ?_
  refine z_putI hG hO.1 dX2_scan_12 f_X2_164_2 ⟨_, rfl, Or.inl rfl⟩ (kI e3 (kP e2 o1)) (by decide) rfl rfl ⟨_, rfl⟩ (fun A4 e4 => ?_)
  replace h := h A4 e4
  refine x_aload_n dX2_scan_15 rfl ?_
  refine x_iconst_ (v := (0 : Int32)) dX2_scan_16 (by decide) ?_
  refine z_putI hG hO.1 dX2_scan_17 f_X2_167_2 ⟨_, rfl, Or.inl rfl⟩ (kI e4 (kI e3 (kP e2 o1))) (by decide) rfl rfl ⟨_, rfl⟩ (fun A5 e5 => ?_)
  replace h := h A5 e5
  refine x_aload_n dX2_scan_20 rfl ?_
  refine x_iconst_ (v := (0 : Int32)) dX2_scan_21 (by decide) ?_
  refine z_putI hG hO.1 dX2_scan_22 f_X2_170_2 ⟨_, rfl, Or.inl rfl⟩ (kI e5 (kI e4 (kI e3 (kP e2 o1)))) (by decide) rfl rfl ⟨_, rfl⟩ (fun A6 e6 => ?_)
  replace h := h A6 e6
  refine x_iconst_ (v := (2 : Int32)) dX2_scan_25 (by decide) ?_
  refine x_istore_n dX2_scan_26 (by decide) ?_
  obtain ⟨L7, ⟨n7, i7⟩, g7⟩ := h
  have kl7 : ∀ n7 : Nat, ∀ (y7_3 : Int32) (A7 : xA), L7 n7 y7_3 A7 → X G (dp + 6) kX2_scan (hV Q) A7 27 [some (.ref p), none, none, some (.int y7_3), none] [] := by
    intro n7
    induction n7 using Nat.strongRecOn with
    | ind n7 ih7 =>
      intro y7_3 A7 h
      replace h := g7 n7 y7_3 A7 h
      refine x_iload_n dX2_scan_27 rfl ?_
      refine x_if_eq (tgt := 154) dX2_scan_28 (by decide) (fun c28 => ?_) (fun c28 => ?_)
      · replace h := h.1 c28
        exact x_vret dX2_scan_154 rfl ⟨rfl, h⟩
      · replace h := h.2 c28
        refine x_iload_n dX2_scan_31 rfl ?_
        refine x_iconst_ (v := (1 : Int32)) dX2_scan_32 (by decide) ?_
        refine x_icmp_eq (tgt := 154) dX2_scan_33 (by decide) (fun c33 => ?_) (fun c33 => ?_)
        · replace h := h.1 c33
          exact x_vret dX2_scan_154 rfl ⟨rfl, h⟩
        · replace h := h.2 c33
          refine x_aload_n dX2_scan_36 rfl ?_
          obtain ⟨o9, h⟩ := h
          obtain ⟨R8, g8, h⟩ := h
          refine x_callV hG (Ky := kX2_skip) (As := []) dX2_scan_37 o9 rfl lk_X2_173 me_X2_skip is_X2_skip se_X2_skip rfl rfl (Nat.le_of_ble_eq_true rfl) (MX.post (m_X2_skip hG hO g8) ?_)
          rintro _ A8 ⟨v8, rfl, h1⟩
          refine X.xok (fun w8 => ?_)
          replace h := h v8 A8 w8 h1
          change X _ _ _ _ A8 _ _ [.int v8]
          refine x_istore dX2_scan_40 (by decide) ?_
          refine x_iload dX2_scan_42 rfl ?_
          obtain ⟨J10, g10, h⟩ := h
          have kj10 : ∀ (A10 : xA), J10 A10 → X G (dp + 6) kX2_scan (hV Q) A10 53 [some (.ref p), none, none, none, some (.int v8)] [] := by
            intro A10 h
            replace h := g10 A10 h
            refine x_aload_n dX2_scan_53 rfl ?_
            obtain ⟨o11, h⟩ := h
            refine x_get (v := va_rf (A10.P p 3)) hG dX2_scan_54 f_X2_144_2 o11 rfl ?_
            refine x_aload_n dX2_scan_57 rfl ?_
            refine x_get (v := .int (A10.I p 10)) hG dX2_scan_58 f_X2_167_2 o11 rfl ?_
            refine x_aload_n dX2_scan_61 rfl ?_
            refine x_get (v := .int (A10.I p 9)) hG dX2_scan_62 f_X2_164_2 o11 rfl ?_
            obtain ⟨b12, e12, h⟩ := h
            rw [e12]
            obtain ⟨o13, h⟩ := h
            obtain ⟨o14, h⟩ := h
            obtain ⟨o15, h⟩ := h
            refine z_iast hG dX2_scan_65 o13 o14 o15 (fun A16 e16 => ?_)
            replace h := h A16 e16
            refine x_iload dX2_scan_66 rfl ?_
            obtain ⟨J17, g17, h⟩ := h
            have kj17 : ∀ (y17_s0 : Int32) (A17 : xA), J17 y17_s0 A17 → X G (dp + 6) kX2_scan (hV Q) A17 130 [some (.ref p), none, none, none, none] [.int y17_s0] := by
              intro y17_s0 A17 h
              replace h := g17 y17_s0 A17 h
              refine x_istore_n dX2_scan_130 (by decide) ?_
              refine x_aload_n dX2_scan_131 rfl ?_
              obtain ⟨o18, h⟩ := h
              refine x_get (v := va_rf (A17.P p 2)) hG dX2_scan_132 f_X2_140_2 o18 rfl ?_
              refine x_aload_n dX2_scan_135 rfl ?_
              refine x_get (v := .int (A17.I p 10)) hG dX2_scan_136 f_X2_167_2 o18 rfl ?_
              refine x_iload_n dX2_scan_139 rfl ?_
              obtain ⟨b19, e19, h⟩ := h
              rw [e19]
              obtain ⟨o20, h⟩ := h
              obtain ⟨o21, h⟩ := h
              obtain ⟨o22, h⟩ := h
              refine z_iast hG dX2_scan_140 o20 o21 o22 (fun A23 e23 => ?_)
              replace h := h A23 e23
              refine x_aload_n dX2_scan_141 rfl ?_
              refine x_dup dX2_scan_142 rfl ?_
              refine x_get (v := .int (A17.I p 10)) hG dX2_scan_143 f_X2_167_2 (kI e23 o18) (congrArg Value.int (sI_a e23 (tne o18 o20 (by decide)))) ?_
              refine x_iconst_ (v := (1 : Int32)) dX2_scan_146 (by decide) ?_
              refine x_iadd dX2_scan_147 ?_
              refine z_putI hG hO.1 dX2_scan_148 f_X2_167_2 ⟨_, rfl, Or.inl rfl⟩ (kI e23 o18) (by decide) rfl rfl ⟨_, rfl⟩ (fun A24 e24 => ?_)
              replace h := h A24 e24
              refine x_goto (tgt := 27) dX2_scan_151 (by decide) ?_
              obtain ⟨q7, l7, h⟩ := h
              change X _ _ _ _ _ _ [some (.ref p), none, none, some (.int y17_s0), none] []
              exact X.weak (xle_c rfl (xle_n (xle_n (xle_c rfl (xle_n xle_nil))))) (ih7 q7 l7 y17_s0 A24 h)
            refine x_if_lt (tgt := 75) dX2_scan_68 (by decide) (fun c68 => ?_) (fun c68 => ?_)
            · replace h := h.1 c68
              refine x_aload_n dX2_scan_75 rfl ?_
              refine x_get (v := .int (A10.I p 9)) hG dX2_scan_76 f_X2_164_2 (kI e16 o11) (congrArg Value.int (sI_a e16 (tne o11 o13 (by decide)))) ?_
              refine x_aload_n dX2_scan_79 rfl ?_
              refine x_get (v := .int (A10.I p 8)) hG dX2_scan_80 f_X2_160_2 (kI e16 o11) (congrArg Value.int (sI_a e16 (tne o11 o13 (by decide)))) ?_
              refine x_icmp_ne (tgt := 90) dX2_scan_83 (by decide) (fun c83 => ?_) (fun c83 => ?_)
              · replace h := h.2 c83
                refine x_aload_n dX2_scan_90 rfl ?_
                refine x_iconst_ (v := (0 : Int32)) dX2_scan_91 (by decide) ?_
                obtain ⟨R25, g25, h⟩ := h
                refine x_callV hG (Ky := kX2_now) (As := [.int (0 : Int32)]) dX2_scan_92 (kI e16 o11) rfl lk_X2_177 me_X2_now is_X2_now se_X2_now rfl rfl (Nat.le_of_ble_eq_true rfl) (MX.post (m_X2_now hG hO g25) ?_)
                rintro _ A25 ⟨v25, rfl, h1⟩
                refine X.xok (fun w25 => ?_)
                replace h := h v25 A25 w25 h1
                change X _ _ _ _ A25 _ _ [.int v25]
                refine x_callS hG (Ky := kX2_isDigit) (As := [.int v25]) dX2_scan_95 lk_X2_181 me_X2_isDigit st_X2_isDigit rfl rfl (Nat.le_of_ble_eq_true rfl) (MX.post (m_X2_isDigit hG) ?_)
                rintro _ _ ⟨rfl, rfl⟩
                change X _ _ _ _ _ _ _ (.int (f_X2_isDigit v25) :: _)
                refine x_if_eq (tgt := 108) dX2_scan_98 (by decide) (fun c98 => ?_) (fun c98 => ?_)
                · replace h := h.1 c98
                  refine x_aload_n dX2_scan_108 rfl ?_
                  refine x_iconst_ (v := (0 : Int32)) dX2_scan_109 (by decide) ?_
                  obtain ⟨o27, h⟩ := h
                  obtain ⟨R26, g26, h⟩ := h
                  refine x_callV hG (Ky := kX2_now) (As := [.int (0 : Int32)]) dX2_scan_110 o27 rfl lk_X2_177 me_X2_now is_X2_now se_X2_now rfl rfl (Nat.le_of_ble_eq_true rfl) (MX.post (m_X2_now hG hO g26) ?_)
                  rintro _ A26 ⟨v26, rfl, h1⟩
                  refine X.xok (fun w26 => ?_)
                  replace h := h v26 A26 w26 h1
                  change X _ _ _ _ A26 _ _ [.int v26]
                  refine x_callS hG (Ky := kX2_isLetter) (As := [.int v26]) dX2_scan_113 lk_X2_188 me_X2_isLetter st_X2_isLetter rfl rfl (Nat.le_of_ble_eq_true rfl) (MX.post (m_X2_isLetter hG) ?_)
                  rintro _ _ ⟨rfl, rfl⟩
                  change X _ _ _ _ _ _ _ (.int (f_X2_isLetter v26) :: _)
                  refine x_if_eq (tgt := 126) dX2_scan_116 (by decide) (fun c116 => ?_) (fun c116 => ?_)
                  · replace h := h.1 c116
                    refine x_aload_n dX2_scan_126 rfl ?_
                    obtain ⟨o29, h⟩ := h
                    obtain ⟨R28, g28, h⟩ := h
                    refine x_callV hG (Ky := kX2_sign) (As := []) dX2_scan_127 o29 rfl lk_X2_194 me_X2_sign is_X2_sign se_X2_sign rfl rfl (Nat.le_of_ble_eq_true rfl) (MX.post (m_X2_sign hG hO g28) ?_)
                    rintro _ A28 ⟨v28, rfl, h1⟩
                    refine X.xok (fun w28 => ?_)
                    replace h := h v28 A28 w28 h1
                    change X _ _ _ _ A28 _ _ [.int v28]
                    change X _ _ _ _ _ _ [some (.ref p), none, none, none, some (.int v8)] [.int v28]
                    exact X.weak (xle_c rfl (xle_n (xle_n (xle_n (xle_n xle_nil))))) (kj17 v28 A28 h)
                  · replace h := h.2 c116
                    refine x_aload_n dX2_scan_119 rfl ?_
                    obtain ⟨o31, h⟩ := h
                    obtain ⟨R30, g30, h⟩ := h
                    refine x_callV hG (Ky := kX2_name) (As := []) dX2_scan_120 o31 rfl lk_X2_191 me_X2_name is_X2_name se_X2_name rfl rfl (Nat.le_of_ble_eq_true rfl) (MX.post (m_X2_name hG hO g30) ?_)
                    rintro _ A30 ⟨v30, rfl, h1⟩
                    refine X.xok (fun w30 => ?_)
                    replace h := h v30 A30 w30 h1
                    change X _ _ _ _ A30 _ _ [.int v30]
                    refine x_goto (tgt := 130) dX2_scan_123 (by decide) ?_
                    change X _ _ _ _ _ _ [some (.ref p), none, none, none, some (.int v8)] [.int v30]
                    exact X.weak (xle_c rfl (xle_n (xle_n (xle_n (xle_n xle_nil))))) (kj17 v30 A30 h)
                · replace h := h.2 c98
                  refine x_aload_n dX2_scan_101 rfl ?_
                  obtain ⟨o33, h⟩ := h
                  obtain ⟨R32, g32, h⟩ := h
                  refine x_callV hG (Ky := kX2_number) (As := []) dX2_scan_102 o33 rfl lk_X2_185 me_X2_number is_X2_number se_X2_number rfl rfl (Nat.le_of_ble_eq_true rfl) (MX.post (m_X2_number hG hO g32) ?_)
                  rintro _ A32 ⟨v32, rfl, h1⟩
                  refine X.xok (fun w32 => ?_)
                  replace h := h v32 A32 w32 h1
                  change X _ _ _ _ A32 _ _ [.int v32]
                  refine x_goto (tgt := 130) dX2_scan_105 (by decide) ?_
                  change X _ _ _ _ _ _ [some (.ref p), none, none, none, some (.int v8)] [.int v32]
                  exact X.weak (xle_c rfl (xle_n (xle_n (xle_n (xle_n xle_nil))))) (kj17 v32 A32 h)
              · replace h := h.1 c83
                refine x_iconst_ (v := (0 : Int32)) dX2_scan_86 (by decide) ?_
                refine x_goto (tgt := 130) dX2_scan_87 (by decide) ?_
                change X _ _ _ _ _ _ [some (.ref p), none, none, none, some (.int v8)] [.int (0 : Int32)]
                exact X.weak (xle_c rfl (xle_n (xle_n (xle_n (xle_n xle_nil))))) (kj17 (0 : Int32) A16 h)
            · replace h := h.2 c68
              refine x_iconst_ (v := (1 : Int32)) dX2_scan_71 (by decide) ?_
              refine x_goto (tgt := 130) dX2_scan_72 (by decide) ?_
              change X _ _ _ _ _ _ [some (.ref p), none, none, none, some (.int v8)] [.int (1 : Int32)]
              exact X.weak (xle_c rfl (xle_n (xle_n (xle_n (xle_n xle_nil))))) (kj17 (1 : Int32) A16 h)
          refine x_if_lt (tgt := 53) dX2_scan_44 (by decide) (fun c44 => ?_) (fun c44 => ?_)
          · replace h := h.1 c44
            change X _ _ _ _ _ _ [some (.ref p), none, none, some (.int y7_3), some (.int v8)] []
            exact X.weak (xle_c rfl (xle_n (xle_n (xle_n (xle_c rfl xle_nil))))) (kj10 A8 h)
          · replace h := h.2 c44
            refine x_aload_n dX2_scan_47 rfl ?_
            refine x_iload dX2_scan_48 rfl ?_
            obtain ⟨o34, h⟩ := h
            refine z_putI hG hO.1 dX2_scan_50 f_X2_164_2 ⟨_, rfl, Or.inl rfl⟩ o34 (by decide) rfl rfl ⟨_, rfl⟩ (fun A35 e35 => ?_)
            replace h := h A35 e35
            change X _ _ _ _ _ _ [some (.ref p), none, none, some (.int y7_3), some (.int v8)] []
            exact X.weak (xle_c rfl (xle_n (xle_n (xle_n (xle_c rfl xle_nil))))) (kj10 A35 h)
  change X _ _ _ _ _ _ [some (.ref p), some (va_rf b), some (.int n), some (.int (2 : Int32)), none] []
  exact X.weak (xle_c rfl (xle_n (xle_n (xle_c rfl (xle_n xle_nil))))) (kl7 n7 (2 : Int32) A6 i7)
def w_X2_init (G : xG) (p : Nat) (Q : xA → Prop) (A : xA) : Prop := xok G A → rmA G A (15 : Int32) ∧ (∀ A2 : xA, A2 = A.new 205 (ix (15 : Int32)) (ix (15 : Int32)) 0 → (G.N ≤ A.n ∧ (vp_in (0 : Int32) (A2.ln A.n) ∧ (xOO G (G.cs 100) "java/lang/String" ∧ (∀ A6 : xA, A6 = A2.setP A.n 0 (some (G.cs 100)) → (vp_in (1 : Int32) (A6.ln A.n) ∧ (xOO G (G.cs 101) "java/lang/String" ∧ (∀ A9 : xA, A9 = A6.setP A.n 1 (some (G.cs 101)) → (vp_in (2 : Int32) (A9.ln A.n) ∧ (xOO G (G.cs 102) "java/lang/String" ∧ (∀ A12 : xA, A12 = A9.setP A.n 2 (some (G.cs 102)) → (vp_in (3 : Int32) (A12.ln A.n) ∧ (xOO G (G.cs 103) "java/lang/String" ∧ (∀ A15 : xA, A15 = A12.setP A.n 3 (some (G.cs 103)) → (vp_in (4 : Int32) (A15.ln A.n) ∧ (xOO G (G.cs 104) "java/lang/String" ∧ (∀ A18 : xA, A18 = A15.setP A.n 4 (some (G.cs 104)) → (vp_in (5 : Int32) (A18.ln A.n) ∧ (xOO G (G.cs 105) "java/lang/String" ∧ (∀ A21 : xA, A21 = A18.setP A.n 5 (some (G.cs 105)) → (vp_in (6 : Int32) (A21.ln A.n) ∧ (xOO G (G.cs 106) "java/lang/String" ∧ (∀ A24 : xA, A24 = A21.setP A.n 6 (some (G.cs 106)) → (vp_in (7 : Int32) (A24.ln A.n) ∧ (xOO G (G.cs 107) "java/lang/String" ∧ (∀ A27 : xA, A27 = A24.setP A.n 7 (some (G.cs 107)) → (vp_in (8 : Int32) (A27.ln A.n) ∧ (xOO G (G.cs 108) "java/lang/String" ∧ (∀ A30 : xA, A30 = A27.setP A.n 8 (some (G.cs 108)) → (vp_in (9 : Int32) (A30.ln A.n) ∧ (xOO G (G.cs 109) "java/lang/String" ∧ (∀ A33 : xA, A33 = A30.setP A.n 9 (some (G.cs 109)) → (vp_in (10 : Int32) (A33.ln A.n) ∧ (xOO G (G.cs 110) "java/lang/String" ∧ (∀ A36 : xA, A36 = A33.setP A.n 10 (some (G.cs 110)) → (vp_in (11 : Int32) (A36.ln A.n) ∧ (xOO G (G.cs 111) "java/lang/String" ∧ (∀ A39 : xA, A39 = A36.setP A.n 11 (some (G.cs 111)) → (vp_in (12 : Int32) (A39.ln A.n) ∧ (xOO G (G.cs 112) "java/lang/String" ∧ (∀ A42 : xA, A42 = A39.setP A.n 12 (some (G.cs 112)) → (vp_in (13 : Int32) (A42.ln A.n) ∧ (xOO G (G.cs 113) "java/lang/String" ∧ (∀ A45 : xA, A45 = A42.setP A.n 13 (some (G.cs 113)) → (vp_in (14 : Int32) (A45.ln A.n) ∧ (xOO G (G.cs 114) "java/lang/String" ∧ (∀ A48 : xA, A48 = A45.setP A.n 14 (some (G.cs 114)) → (A48.tg p = 3 ∧ (∀ A50 : xA, A50 = A48.setP p 0 (some A.n) → (rmA G A50 (45 : Int32) ∧ (∀ A52 : xA, A52 = A50.new 205 (ix (45 : Int32)) (ix (45 : Int32)) 0 → (G.N ≤ A50.n ∧ (vp_in (0 : Int32) (A52.ln A50.n) ∧ (xOO G (G.cs 115) "java/lang/String" ∧ (∀ A56 : xA, A56 = A52.setP A50.n 0 (some (G.cs 115)) → (vp_in (1 : Int32) (A56.ln A50.n) ∧ (xOO G (G.cs 116) "java/lang/String" ∧ (∀ A59 : xA, A59 = A56.setP A50.n 1 (some (G.cs 116)) → (vp_in (2 : Int32) (A59.ln A50.n) ∧ (xOO G (G.cs 117) "java/lang/String" ∧ (∀ A62 : xA, A62 = A59.setP A50.n 2 (some (G.cs 117)) → (vp_in (3 : Int32) (A62.ln A50.n) ∧ (xOO G (G.cs 118) "java/lang/String" ∧ (∀ A65 : xA, A65 = A62.setP A50.n 3 (some (G.cs 118)) → (vp_in (4 : Int32) (A65.ln A50.n) ∧ (xOO G (G.cs 119) "java/lang/String" ∧ (∀ A68 : xA, A68 = A65.setP A50.n 4 (some (G.cs 119)) → (vp_in (5 : Int32) (A68.ln A50.n) ∧ (xOO G (G.cs 120) "java/lang/String" ∧ (∀ A71 : xA, A71 = A68.setP A50.n 5 (some (G.cs 120)) → (vp_in (6 : Int32) (A71.ln A50.n) ∧ (xOO G (G.cs 121) "java/lang/String" ∧ (∀ A74 : xA, A74 = A71.setP A50.n 6 (some (G.cs 121)) → (vp_in (7 : Int32) (A74.ln A50.n) ∧ (xOO G (G.cs 122) "java/lang/String" ∧ (∀ A77 : xA, A77 = A74.setP A50.n 7 (some (G.cs 122)) → (vp_in (8 : Int32) (A77.ln A50.n) ∧ (xOO G (G.cs 123) "java/lang/String" ∧ (∀ A80 : xA, A80 = A77.setP A50.n 8 (some (G.cs 123)) → (vp_in (9 : Int32) (A80.ln A50.n) ∧ (xOO G (G.cs 124) "java/lang/String" ∧ (∀ A83 : xA, A83 = A80.setP A50.n 9 (some (G.cs 124)) → (vp_in (10 : Int32) (A83.ln A50.n) ∧ (xOO G (G.cs 125) "java/lang/String" ∧ (∀ A86 : xA, A86 = A83.setP A50.n 10 (some (G.cs 125)) → (vp_in (11 : Int32) (A86.ln A50.n) ∧ (xOO G (G.cs 126) "java/lang/String" ∧ (∀ A89 : xA, A89 = A86.setP A50.n 11 (some (G.cs 126)) → (vp_in (12 : Int32) (A89.ln A50.n) ∧ (xOO G (G.cs 127) "java/lang/String" ∧ (∀ A92 : xA, A92 = A89.setP A50.n 12 (some (G.cs 127)) → (vp_in (13 : Int32) (A92.ln A50.n) ∧ (xOO G (G.cs 128) "java/lang/String" ∧ (∀ A95 : xA, A95 = A92.setP A50.n 13 (some (G.cs 128)) → (vp_in (14 : Int32) (A95.ln A50.n) ∧ (xOO G (G.cs 129) "java/lang/String" ∧ (∀ A98 : xA, A98 = A95.setP A50.n 14 (some (G.cs 129)) → (vp_in (15 : Int32) (A98.ln A50.n) ∧ (xOO G (G.cs 130) "java/lang/String" ∧ (∀ A101 : xA, A101 = A98.setP A50.n 15 (some (G.cs 130)) → (vp_in (16 : Int32) (A101.ln A50.n) ∧ (xOO G (G.cs 131) "java/lang/String" ∧ (∀ A104 : xA, A104 = A101.setP A50.n 16 (some (G.cs 131)) → (vp_in (17 : Int32) (A104.ln A50.n) ∧ (xOO G (G.cs 132) "java/lang/String" ∧ (∀ A107 : xA, A107 = A104.setP A50.n 17 (some (G.cs 132)) → (vp_in (18 : Int32) (A107.ln A50.n) ∧ (xOO G (G.cs 133) "java/lang/String" ∧ (∀ A110 : xA, A110 = A107.setP A50.n 18 (some (G.cs 133)) → (vp_in (19 : Int32) (A110.ln A50.n) ∧ (xOO G (G.cs 134) "java/lang/String" ∧ (∀ A113 : xA, A113 = A110.setP A50.n 19 (some (G.cs 134)) → (vp_in (20 : Int32) (A113.ln A50.n) ∧ (xOO G (G.cs 135) "java/lang/String" ∧ (∀ A116 : xA, A116 = A113.setP A50.n 20 (some (G.cs 135)) → (vp_in (21 : Int32) (A116.ln A50.n) ∧ (xOO G (G.cs 136) "java/lang/String" ∧ (∀ A119 : xA, A119 = A116.setP A50.n 21 (some (G.cs 136)) → (vp_in (22 : Int32) (A119.ln A50.n) ∧ (xOO G (G.cs 137) "java/lang/String" ∧ (∀ A122 : xA, A122 = A119.setP A50.n 22 (some (G.cs 137)) → (vp_in (23 : Int32) (A122.ln A50.n) ∧ (xOO G (G.cs 138) "java/lang/String" ∧ (∀ A125 : xA, A125 = A122.setP A50.n 23 (some (G.cs 138)) → (vp_in (24 : Int32) (A125.ln A50.n) ∧ (xOO G (G.cs 139) "java/lang/String" ∧ (∀ A128 : xA, A128 = A125.setP A50.n 24 (some (G.cs 139)) → (vp_in (25 : Int32) (A128.ln A50.n) ∧ (xOO G (G.cs 140) "java/lang/String" ∧ (∀ A131 : xA, A131 = A128.setP A50.n 25 (some (G.cs 140)) → (vp_in (26 : Int32) (A131.ln A50.n) ∧ (xOO G (G.cs 141) "java/lang/String" ∧ (∀ A134 : xA, A134 = A131.setP A50.n 26 (some (G.cs 141)) → (vp_in (27 : Int32) (A134.ln A50.n) ∧ (xOO G (G.cs 142) "java/lang/String" ∧ (∀ A137 : xA, A137 = A134.setP A50.n 27 (some (G.cs 142)) → (vp_in (28 : Int32) (A137.ln A50.n) ∧ (xOO G (G.cs 143) "java/lang/String" ∧ (∀ A140 : xA, A140 = A137.setP A50.n 28 (some (G.cs 143)) → (vp_in (29 : Int32) (A140.ln A50.n) ∧ (xOO G (G.cs 144) "java/lang/String" ∧ (∀ A143 : xA, A143 = A140.setP A50.n 29 (some (G.cs 144)) → (vp_in (30 : Int32) (A143.ln A50.n) ∧ (xOO G (G.cs 145) "java/lang/String" ∧ (∀ A146 : xA, A146 = A143.setP A50.n 30 (some (G.cs 145)) → (vp_in (31 : Int32) (A146.ln A50.n) ∧ (xOO G (G.cs 146) "java/lang/String" ∧ (∀ A149 : xA, A149 = A146.setP A50.n 31 (some (G.cs 146)) → (vp_in (32 : Int32) (A149.ln A50.n) ∧ (xOO G (G.cs 147) "java/lang/String" ∧ (∀ A152 : xA, A152 = A149.setP A50.n 32 (some (G.cs 147)) → (vp_in (33 : Int32) (A152.ln A50.n) ∧ (xOO G (G.cs 148) "java/lang/String" ∧ (∀ A155 : xA, A155 = A152.setP A50.n 33 (some (G.cs 148)) → (vp_in (34 : Int32) (A155.ln A50.n) ∧ (xOO G (G.cs 149) "java/lang/String" ∧ (∀ A158 : xA, A158 = A155.setP A50.n 34 (some (G.cs 149)) → (vp_in (35 : Int32) (A158.ln A50.n) ∧ (xOO G (G.cs 150) "java/lang/String" ∧ (∀ A161 : xA, A161 = A158.setP A50.n 35 (some (G.cs 150)) → (vp_in (36 : Int32) (A161.ln A50.n) ∧ (xOO G (G.cs 151) "java/lang/String" ∧ (∀ A164 : xA, A164 = A161.setP A50.n 36 (some (G.cs 151)) → (vp_in (37 : Int32) (A164.ln A50.n) ∧ (xOO G (G.cs 152) "java/lang/String" ∧ (∀ A167 : xA, A167 = A164.setP A50.n 37 (some (G.cs 152)) → (vp_in (38 : Int32) (A167.ln A50.n) ∧ (xOO G (G.cs 153) "java/lang/String" ∧ (∀ A170 : xA, A170 = A167.setP A50.n 38 (some (G.cs 153)) → (vp_in (39 : Int32) (A170.ln A50.n) ∧ (xOO G (G.cs 154) "java/lang/String" ∧ (∀ A173 : xA, A173 = A170.setP A50.n 39 (some (G.cs 154)) → (vp_in (40 : Int32) (A173.ln A50.n) ∧ (xOO G (G.cs 155) "java/lang/String" ∧ (∀ A176 : xA, A176 = A173.setP A50.n 40 (some (G.cs 155)) → (vp_in (41 : Int32) (A176.ln A50.n) ∧ (xOO G (G.cs 156) "java/lang/String" ∧ (∀ A179 : xA, A179 = A176.setP A50.n 41 (some (G.cs 156)) → (vp_in (42 : Int32) (A179.ln A50.n) ∧ (xOO G (G.cs 157) "java/lang/String" ∧ (∀ A182 : xA, A182 = A179.setP A50.n 42 (some (G.cs 157)) → (vp_in (43 : Int32) (A182.ln A50.n) ∧ (xOO G (G.cs 158) "java/lang/String" ∧ (∀ A185 : xA, A185 = A182.setP A50.n 43 (some (G.cs 158)) → (vp_in (44 : Int32) (A185.ln A50.n) ∧ (xOO G (G.cs 159) "java/lang/String" ∧ (∀ A188 : xA, A188 = A185.setP A50.n 44 (some (G.cs 159)) → (∀ A189 : xA, A189 = A188.setP p 1 (some A50.n) → (rmA G A189 (4002 : Int32) ∧ (∀ A191 : xA, A191 = A189.new 200 (ix (4002 : Int32)) (ix (4002 : Int32)) 0 → (∀ A192 : xA, A192 = A191.setP p 2 (some A189.n) → (rmA G A192 (4002 : Int32) ∧ (∀ A194 : xA, A194 = A192.new 200 (ix (4002 : Int32)) (ix (4002 : Int32)) 0 → (∀ A195 : xA, A195 = A194.setP p 3 (some A192.n) → (rmA G A195 (4002 : Int32) ∧ (∀ A197 : xA, A197 = A195.new 200 (ix (4002 : Int32)) (ix (4002 : Int32)) 0 → (∀ A198 : xA, A198 = A197.setP p 4 (some A195.n) → (rmA G A198 (4000 : Int32) ∧ (∀ A200 : xA, A200 = A198.new 200 (ix (4000 : Int32)) (ix (4000 : Int32)) 0 → (∀ A201 : xA, A201 = A200.setP p 5 (some A198.n) → (rmA G A201 (4000 : Int32) ∧ (∀ A203 : xA, A203 = A201.new 200 (ix (4000 : Int32)) (ix (4000 : Int32)) 0 → (∀ A204 : xA, A204 = A203.setP p 6 (some A201.n) → (Q A204))))))))))))))))))))))))))))))))))))))))))))))))))))))))))))))))))))))))))))))))))))))))))))))))))))))))))))))))))))))))))))))))))))))))))))))))))))))))))))))))))))))))))))))))))))))))))))))))))))))))))))
theorem m_X2_init (hG : xOK G) (hO : xHO G) {dp : Nat} {p : Nat} {Q : xA → Prop} {A : xA} (h : w_X2_init G p Q A) : MX G (dp + 1) kX2_init [.ref p] A (hV Q) := by
  unfold w_X2_init at h
  refine MX.of rfl (Nat.le_of_ble_eq_true rfl) ?_
  change X _ _ _ _ _ _ [some (.ref p)] _
  refine X.xok (fun w0 => ?_)
  replace h := h w0
  refine x_aload_n dX2_init_0 rfl ?_
  refine x_objInit hG dX2_init_1 q274 q261 q262 (Nat.le_of_ble_eq_true rfl) ?_
  refine x_aload_n dX2_init_4 rfl ?_
  refine x_bipush_ (v := (15 : Int32)) dX2_init_5 (by decide) ?_
  obtain ⟨o1, h⟩ := h
  refine z_anew hG (j := 5) dX2_init_7 (by decide) rfl o1 q275 q276 (fun A2 e2 w2 => ?_)
  replace h := h A2 e2
  refine x_dup dX2_init_10 rfl ?_
  refine x_iconst_ (v := (0 : Int32)) dX2_init_11 (by decide) ?_
  refine x_ldcS hG dX2_init_12 q277 (hO.2.2.2.2.1.2.2 _ (List.mem_of_getElem? (i := 0) rfl)).1 ?_
  obtain ⟨o3, h⟩ := h
  obtain ⟨o4, h⟩ := h
  obtain ⟨o5, h⟩ := h
  refine z_aastO hG (j := 5) dX2_init_14 (kNn e2) rfl o3 o4 o5 (fun A6 e6 => ?_)
  replace h := h A6 e6
  refine x_dup dX2_init_15 rfl ?_
  refine x_iconst_ (v := (1 : Int32)) dX2_init_16 (by decide) ?_
  refine x_ldcS hG dX2_init_17 q278 (hO.2.2.2.2.1.2.2 _ (List.mem_of_getElem? (i := 1) rfl)).1 ?_
  obtain ⟨o7, h⟩ := h
  obtain ⟨o8, h⟩ := h
  refine z_aastO hG (j := 5) dX2_init_19 (kP e6 (kNn e2)) rfl o3 o7 o8 (fun A9 e9 => ?_)
  replace h := h A9 e9
  refine x_dup dX2_init_20 rfl ?_
  refine x_iconst_ (v := (2 : Int32)) dX2_init_21 (by decide) ?_
  refine x_ldcS hG dX2_init_22 q279 (hO.2.2.2.2.1.2.2 _ (List.mem_of_getElem? (i := 2) rfl)).1 ?_
  obtain ⟨o10, h⟩ := h
  obtain ⟨o11, h⟩ := h
  refine z_aastO hG (j := 5) dX2_init_24 (kP e9 (kP e6 (kNn e2))) rfl o3 o10 o11 (fun A12 e12 => ?_)
  replace h := h A12 e12
  refine x_dup dX2_init_25 rfl ?_
  refine x_iconst_ (v := (3 : Int32)) dX2_init_26 (by decide) ?_
  refine x_ldcS hG dX2_init_27 q280 (hO.2.2.2.2.1.2.2 _ (List.mem_of_getElem? (i := 3) rfl)).1 ?_
  obtain ⟨o13, h⟩ := h
  obtain ⟨o14, h⟩ := h
  refine z_aastO hG (j := 5) dX2_init_29 (kP e12 (kP e9 (kP e6 (kNn e2)))) rfl o3 o13 o14 (fun A15 e15 => ?_)
  replace h := h A15 e15
  refine x_dup dX2_init_30 rfl ?_
  refine x_iconst_ (v := (4 : Int32)) dX2_init_31 (by decide) ?_
  refine x_ldcS hG dX2_init_32 q281 (hO.2.2.2.2.1.2.2 _ (List.mem_of_getElem? (i := 4) rfl)).1 ?_
  obtain ⟨o16, h⟩ := h
  obtain ⟨o17, h⟩ := h
  refine z_aastO hG (j := 5) dX2_init_34 (kP e15 (kP e12 (kP e9 (kP e6 (kNn e2))))) rfl o3 o16 o17 (fun A18 e18 => ?_)
  replace h := h A18 e18
  refine x_dup dX2_init_35 rfl ?_
  refine x_iconst_ (v := (5 : Int32)) dX2_init_36 (by decide) ?_
  refine x_ldcS hG dX2_init_37 q282 (hO.2.2.2.2.1.2.2 _ (List.mem_of_getElem? (i := 5) rfl)).1 ?_
  obtain ⟨o19, h⟩ := h
  obtain ⟨o20, h⟩ := h
  refine z_aastO hG (j := 5) dX2_init_39 (kP e18 (kP e15 (kP e12 (kP e9 (kP e6 (kNn e2)))))) rfl o3 o19 o20 (fun A21 e21 => ?_)
  replace h := h A21 e21
  refine x_dup dX2_init_40 rfl ?_
  refine x_bipush_ (v := (6 : Int32)) dX2_init_41 (by decide) ?_
  refine x_ldcS hG dX2_init_43 q283 (hO.2.2.2.2.1.2.2 _ (List.mem_of_getElem? (i := 6) rfl)).1 ?_
  obtain ⟨o22, h⟩ := h
  obtain ⟨o23, h⟩ := h
  refine z_aastO hG (j := 5) dX2_init_45 (kP e21 (kP e18 (kP e15 (kP e12 (kP e9 (kP e6 (kNn e2))))))) rfl o3 o22 o23 (fun A24 e24 => ?_)
  replace h := h A24 e24
  refine x_dup dX2_init_46 rfl ?_
  refine x_bipush_ (v := (7 : Int32)) dX2_init_47 (by decide) ?_
  refine x_ldcS hG dX2_init_49 q284 (hO.2.2.2.2.1.2.2 _ (List.mem_of_getElem? (i := 7) rfl)).1 ?_
  obtain ⟨o25, h⟩ := h
  obtain ⟨o26, h⟩ := h
  refine z_aastO hG (j := 5) dX2_init_51 (kP e24 (kP e21 (kP e18 (kP e15 (kP e12 (kP e9 (kP e6 (kNn e2)))))))) rfl o3 o25 o26 (fun A27 e27 => ?_)
  replace h := h A27 e27
  refine x_dup dX2_init_52 rfl ?_
  refine x_bipush_ (v := (8 : Int32)) dX2_init_53 (by decide) ?_
  refine x_ldcS hG dX2_init_55 q285 (hO.2.2.2.2.1.2.2 _ (List.mem_of_getElem? (i := 8) rfl)).1 ?_
  obtain ⟨o28, h⟩ := h
  obtain ⟨o29, h⟩ := h
  refine z_aastO hG (j := 5) dX2_init_57 (kP e27 (kP e24 (kP e21 (kP e18 (kP e15 (kP e12 (kP e9 (kP e6 (kNn e2))))))))) rfl o3 o28 o29 (fun A30 e30 => ?_)
  replace h := h A30 e30
  refine x_dup dX2_init_58 rfl ?_
  refine x_bipush_ (v := (9 : Int32)) dX2_init_59 (by decide) ?_
  refine x_ldcS hG dX2_init_61 q286 (hO.2.2.2.2.1.2.2 _ (List.mem_of_getElem? (i := 9) rfl)).1 ?_
  obtain ⟨o31, h⟩ := h
  obtain ⟨o32, h⟩ := h
  refine z_aastO hG (j := 5) dX2_init_63 (kP e30 (kP e27 (kP e24 (kP e21 (kP e18 (kP e15 (kP e12 (kP e9 (kP e6 (kNn e2)))))))))) rfl o3 o31 o32 (fun A33 e33 => ?_)
  replace h := h A33 e33
  refine x_dup dX2_init_64 rfl ?_
  refine x_bipush_ (v := (10 : Int32)) dX2_init_65 (by decide) ?_
  refine x_ldcS hG dX2_init_67 q287 (hO.2.2.2.2.1.2.2 _ (List.mem_of_getElem? (i := 10) rfl)).1 ?_
  obtain ⟨o34, h⟩ := h
  obtain ⟨o35, h⟩ := h
  refine z_aastO hG (j := 5) dX2_init_69 (kP e33 (kP e30 (kP e27 (kP e24 (kP e21 (kP e18 (kP e15 (kP e12 (kP e9 (kP e6 (kNn e2))))))))))) rfl o3 o34 o35 (fun A36 e36 => ?_)
  replace h := h A36 e36
  refine x_dup dX2_init_70 rfl ?_
  refine x_bipush_ (v := (11 : Int32)) dX2_init_71 (by decide) ?_
  refine x_ldcS hG dX2_init_73 q288 (hO.2.2.2.2.1.2.2 _ (List.mem_of_getElem? (i := 11) rfl)).1 ?_
  obtain ⟨o37, h⟩ := h
  obtain ⟨o38, h⟩ := h
  refine z_aastO hG (j := 5) dX2_init_75 (kP e36 (kP e33 (kP e30 (kP e27 (kP e24 (kP e21 (kP e18 (kP e15 (kP e12 (kP e9 (kP e6 (kNn e2)))))))))))) rfl o3 o37 o38 (fun A39 e39 => ?_)
  replace h := h A39 e39
  refine x_dup dX2_init_76 rfl ?_
  refine x_bipush_ (v := (12 : Int32)) dX2_init_77 (by decide) ?_
  refine x_ldcS hG dX2_init_79 q289 (hO.2.2.2.2.1.2.2 _ (List.mem_of_getElem? (i := 12) rfl)).1 ?_
  obtain ⟨o40, h⟩ := h
  obtain ⟨o41, h⟩ := h
  refine z_aastO hG (j := 5) dX2_init_81 (kP e39 (kP e36 (kP e33 (kP e30 (kP e27 (kP e24 (kP e21 (kP e18 (kP e15 (kP e12 (kP e9 (kP e6 (kNn e2))))))))))))) rfl o3 o40 o41 (fun A42 e42 => ?_)
  replace h := h A42 e42
  refine x_dup dX2_init_82 rfl ?_
  refine x_bipush_ (v := (13 : Int32)) dX2_init_83 (by decide) ?_
  refine x_ldcS hG dX2_init_85 q290 (hO.2.2.2.2.1.2.2 _ (List.mem_of_getElem? (i := 13) rfl)).1 ?_
  obtain ⟨o43, h⟩ := h
  obtain ⟨o44, h⟩ := h
  refine z_aastO hG (j := 5) dX2_init_87 (kP e42 (kP e39 (kP e36 (kP e33 (kP e30 (kP e27 (kP e24 (kP e21 (kP e18 (kP e15 (kP e12 (kP e9 (kP e6 (kNn e2)))))))))))))) rfl o3 o43 o44 (fun A45 e45 => ?_)
  replace h := h A45 e45
  refine x_dup dX2_init_88 rfl ?_
  refine x_bipush_ (v := (14 : Int32)) dX2_init_89 (by decide) ?_
  refine x_ldcS hG dX2_init_91 q291 (hO.2.2.2.2.1.2.2 _ (List.mem_of_getElem? (i := 14) rfl)).1 ?_
  obtain ⟨o46, h⟩ := h
  obtain ⟨o47, h⟩ := h
  refine z_aastO hG (j := 5) dX2_init_93 (kP e45 (kP e42 (kP e39 (kP e36 (kP e33 (kP e30 (kP e27 (kP e24 (kP e21 (kP e18 (kP e15 (kP e12 (kP e9 (kP e6 (kNn e2))))))))))))))) rfl o3 o46 o47 (fun A48 e48 => ?_)
  replace h := h A48 e48
  obtain ⟨o49, h⟩ := h
  refine z_putP hG hO.1 (some A.n) dX2_init_94 f_X2_41_2 ⟨_, rfl, Or.inr ⟨rfl, rfl, rfl⟩⟩ o49 (by decide) (Or.inr ⟨_, rfl⟩) (fun A50 e50 => ?_)
  replace h := h A50 e50
  refine x_aload_n dX2_init_97 rfl ?_
  refine x_bipush_ (v := (45 : Int32)) dX2_init_98 (by decide) ?_
  obtain ⟨o51, h⟩ := h
  refine z_anew hG (j := 5) dX2_init_100 (by decide) rfl o51 q275 q276 (fun A52 e52 w52 => ?_)
  replace h := h A52 e52
  refine x_dup dX2_init_103 rfl ?_
  refine x_iconst_ (v := (0 : Int32)) dX2_init_104 (by decide) ?_
  refine x_ldcS hG dX2_init_105 q292 (hO.2.2.2.2.1.2.2 _ (List.mem_of_getElem? (i := 15) rfl)).1 ?_
  obtain ⟨o53, h⟩ := h
  obtain ⟨o54, h⟩ := h
  obtain ⟨o55, h⟩ := h
  refine z_aastO hG (j := 5) dX2_init_107 (kNn e52) rfl o53 o54 o55 (fun A56 e56 => ?_)
  replace h := h A56 e56
  refine x_dup dX2_init_108 rfl ?_
  refine x_iconst_ (v := (1 : Int32)) dX2_init_109 (by decide) ?_
  refine x_ldcS hG dX2_init_110 q293 (hO.2.2.2.2.1.2.2 _ (List.mem_of_getElem? (i := 16) rfl)).1 ?_
  obtain ⟨o57, h⟩ := h
  obtain ⟨o58, h⟩ := h
  refine z_aastO hG (j := 5) dX2_init_112 (kP e56 (kNn e52)) rfl o53 o57 o58 (fun A59 e59 => ?_)
  replace h := h A59 e59
  refine x_dup dX2_init_113 rfl ?_
  refine x_iconst_ (v := (2 : Int32)) dX2_init_114 (by decide) ?_
  refine x_ldcS hG dX2_init_115 q294 (hO.2.2.2.2.1.2.2 _ (List.mem_of_getElem? (i := 17) rfl)).1 ?_
  obtain ⟨o60, h⟩ := h
  obtain ⟨o61, h⟩ := h
  refine z_aastO hG (j := 5) dX2_init_117 (kP e59 (kP e56 (kNn e52))) rfl o53 o60 o61 (fun A62 e62 => ?_)
  replace h := h A62 e62
  refine x_dup dX2_init_118 rfl ?_
  refine x_iconst_ (v := (3 : Int32)) dX2_init_119 (by decide) ?_
  refine x_ldcS hG dX2_init_120 q295 (hO.2.2.2.2.1.2.2 _ (List.mem_of_getElem? (i := 18) rfl)).1 ?_
  obtain ⟨o63, h⟩ := h
  obtain ⟨o64, h⟩ := h
  refine z_aastO hG (j := 5) dX2_init_122 (kP e62 (kP e59 (kP e56 (kNn e52)))) rfl o53 o63 o64 (fun A65 e65 => ?_)
  replace h := h A65 e65
  refine x_dup dX2_init_123 rfl ?_
  refine x_iconst_ (v := (4 : Int32)) dX2_init_124 (by decide) ?_
  refine x_ldcS hG dX2_init_125 q296 (hO.2.2.2.2.1.2.2 _ (List.mem_of_getElem? (i := 19) rfl)).1 ?_
  obtain ⟨o66, h⟩ := h
  obtain ⟨o67, h⟩ := h
  refine z_aastO hG (j := 5) dX2_init_127 (kP e65 (kP e62 (kP e59 (kP e56 (kNn e52))))) rfl o53 o66 o67 (fun A68 e68 => ?_)
  replace h := h A68 e68
  refine x_dup dX2_init_128 rfl ?_
  refine x_iconst_ (v := (5 : Int32)) dX2_init_129 (by decide) ?_
  refine x_ldcS hG dX2_init_130 q297 (hO.2.2.2.2.1.2.2 _ (List.mem_of_getElem? (i := 20) rfl)).1 ?_
  obtain ⟨o69, h⟩ := h
  obtain ⟨o70, h⟩ := h
  refine z_aastO hG (j := 5) dX2_init_132 (kP e68 (kP e65 (kP e62 (kP e59 (kP e56 (kNn e52)))))) rfl o53 o69 o70 (fun A71 e71 => ?_)
  replace h := h A71 e71
  refine x_dup dX2_init_133 rfl ?_
  refine x_bipush_ (v := (6 : Int32)) dX2_init_134 (by decide) ?_
  refine x_ldcS hG dX2_init_136 q298 (hO.2.2.2.2.1.2.2 _ (List.mem_of_getElem? (i := 21) rfl)).1 ?_
  obtain ⟨o72, h⟩ := h
  obtain ⟨o73, h⟩ := h
  refine z_aastO hG (j := 5) dX2_init_138 (kP e71 (kP e68 (kP e65 (kP e62 (kP e59 (kP e56 (kNn e52))))))) rfl o53 o72 o73 (fun A74 e74 => ?_)
  replace h := h A74 e74
  refine x_dup dX2_init_139 rfl ?_
  refine x_bipush_ (v := (7 : Int32)) dX2_init_140 (by decide) ?_
  refine x_ldcS hG dX2_init_142 q299 (hO.2.2.2.2.1.2.2 _ (List.mem_of_getElem? (i := 22) rfl)).1 ?_
  obtain ⟨o75, h⟩ := h
  obtain ⟨o76, h⟩ := h
  refine z_aastO hG (j := 5) dX2_init_144 (kP e74 (kP e71 (kP e68 (kP e65 (kP e62 (kP e59 (kP e56 (kNn e52)))))))) rfl o53 o75 o76 (fun A77 e77 => ?_)
  replace h := h A77 e77
  refine x_dup dX2_init_145 rfl ?_
  refine x_bipush_ (v := (8 : Int32)) dX2_init_146 (by decide) ?_
  refine x_ldcS hG dX2_init_148 q300 (hO.2.2.2.2.1.2.2 _ (List.mem_of_getElem? (i := 23) rfl)).1 ?_
  obtain ⟨o78, h⟩ := h
  obtain ⟨o79, h⟩ := h
  refine z_aastO hG (j := 5) dX2_init_150 (kP e77 (kP e74 (kP e71 (kP e68 (kP e65 (kP e62 (kP e59 (kP e56 (kNn e52))))))))) rfl o53 o78 o79 (fun A80 e80 => ?_)
  replace h := h A80 e80
  refine x_dup dX2_init_151 rfl ?_
  refine x_bipush_ (v := (9 : Int32)) dX2_init_152 (by decide) ?_
  refine x_ldcS hG dX2_init_154 q301 (hO.2.2.2.2.1.2.2 _ (List.mem_of_getElem? (i := 24) rfl)).1 ?_
  obtain ⟨o81, h⟩ := h
  obtain ⟨o82, h⟩ := h
  refine z_aastO hG (j := 5) dX2_init_156 (kP e80 (kP e77 (kP e74 (kP e71 (kP e68 (kP e65 (kP e62 (kP e59 (kP e56 (kNn e52)))))))))) rfl o53 o81 o82 (fun A83 e83 => ?_)
  replace h := h A83 e83
  refine x_dup dX2_init_157 rfl ?_
  refine x_bipush_ (v := (10 : Int32)) dX2_init_158 (by decide) ?_
  refine x_ldcS hG dX2_init_160 q302 (hO.2.2.2.2.1.2.2 _ (List.mem_of_getElem? (i := 25) rfl)).1 ?_
  obtain ⟨o84, h⟩ := h
  obtain ⟨o85, h⟩ := h
  refine z_aastO hG (j := 5) dX2_init_162 (kP e83 (kP e80 (kP e77 (kP e74 (kP e71 (kP e68 (kP e65 (kP e62 (kP e59 (kP e56 (kNn e52))))))))))) rfl o53 o84 o85 (fun A86 e86 => ?_)
  replace h := h A86 e86
  refine x_dup dX2_init_163 rfl ?_
  refine x_bipush_ (v := (11 : Int32)) dX2_init_164 (by decide) ?_
  refine x_ldcS hG dX2_init_166 q303 (hO.2.2.2.2.1.2.2 _ (List.mem_of_getElem? (i := 26) rfl)).1 ?_
  obtain ⟨o87, h⟩ := h
  obtain ⟨o88, h⟩ := h
  refine z_aastO hG (j := 5) dX2_init_168 (kP e86 (kP e83 (kP e80 (kP e77 (kP e74 (kP e71 (kP e68 (kP e65 (kP e62 (kP e59 (kP e56 (kNn e52)))))))))))) rfl o53 o87 o88 (fun A89 e89 => ?_)
  replace h := h A89 e89
  refine x_dup dX2_init_169 rfl ?_
  refine x_bipush_ (v := (12 : Int32)) dX2_init_170 (by decide) ?_
  refine x_ldcS hG dX2_init_172 q304 (hO.2.2.2.2.1.2.2 _ (List.mem_of_getElem? (i := 27) rfl)).1 ?_
  obtain ⟨o90, h⟩ := h
  obtain ⟨o91, h⟩ := h
  refine z_aastO hG (j := 5) dX2_init_174 (kP e89 (kP e86 (kP e83 (kP e80 (kP e77 (kP e74 (kP e71 (kP e68 (kP e65 (kP e62 (kP e59 (kP e56 (kNn e52))))))))))))) rfl o53 o90 o91 (fun A92 e92 => ?_)
  replace h := h A92 e92
  refine x_dup dX2_init_175 rfl ?_
  refine x_bipush_ (v := (13 : Int32)) dX2_init_176 (by decide) ?_
  refine x_ldcS hG dX2_init_178 q305 (hO.2.2.2.2.1.2.2 _ (List.mem_of_getElem? (i := 28) rfl)).1 ?_
  obtain ⟨o93, h⟩ := h
  obtain ⟨o94, h⟩ := h
  refine z_aastO hG (j := 5) dX2_init_180 (kP e92 (kP e89 (kP e86 (kP e83 (kP e80 (kP e77 (kP e74 (kP e71 (kP e68 (kP e65 (kP e62 (kP e59 (kP e56 (kNn e52)))))))))))))) rfl o53 o93 o94 (fun A95 e95 => ?_)
  replace h := h A95 e95
  refine x_dup dX2_init_181 rfl ?_
  refine x_bipush_ (v := (14 : Int32)) dX2_init_182 (by decide) ?_
  refine x_ldcS hG dX2_init_184 q306 (hO.2.2.2.2.1.2.2 _ (List.mem_of_getElem? (i := 29) rfl)).1 ?_
  obtain ⟨o96, h⟩ := h
  obtain ⟨o97, h⟩ := h
  refine z_aastO hG (j := 5) dX2_init_186 (kP e95 (kP e92 (kP e89 (kP e86 (kP e83 (kP e80 (kP e77 (kP e74 (kP e71 (kP e68 (kP e65 (kP e62 (kP e59 (kP e56 (kNn e52))))))))))))))) rfl o53 o96 o97 (fun A98 e98 => ?_)
  replace h := h A98 e98
  refine x_dup dX2_init_187 rfl ?_
  refine x_bipush_ (v := (15 : Int32)) dX2_init_188 (by decide) ?_
  refine x_ldcS hG dX2_init_190 q307 (hO.2.2.2.2.1.2.2 _ (List.mem_of_getElem? (i := 30) rfl)).1 ?_
  obtain ⟨o99, h⟩ := h
  obtain ⟨o100, h⟩ := h
  refine z_aastO hG (j := 5) dX2_init_192 (kP e98 (kP e95 (kP e92 (kP e89 (kP e86 (kP e83 (kP e80 (kP e77 (kP e74 (kP e71 (kP e68 (kP e65 (kP e62 (kP e59 (kP e56 (kNn e52)))))))))))))))) rfl o53 o99 o100 (fun A101 e101 => ?_)
  replace h := h A101 e101
  refine x_dup dX2_init_193 rfl ?_
  refine x_bipush_ (v := (16 : Int32)) dX2_init_194 (by decide) ?_
  refine x_ldcS hG dX2_init_196 q308 (hO.2.2.2.2.1.2.2 _ (List.mem_of_getElem? (i := 31) rfl)).1 ?_
  obtain ⟨o102, h⟩ := h
  obtain ⟨o103, h⟩ := h
  refine z_aastO hG (j := 5) dX2_init_198 (kP e101 (kP e98 (kP e95 (kP e92 (kP e89 (kP e86 (kP e83 (kP e80 (kP e77 (kP e74 (kP e71 (kP e68 (kP e65 (kP e62 (kP e59 (kP e56 (kNn e52))))))))))))))))) rfl o53 o102 o103 (fun A104 e104 => ?_)
  replace h := h A104 e104
  refine x_dup dX2_init_199 rfl ?_
  refine x_bipush_ (v := (17 : Int32)) dX2_init_200 (by decide) ?_
  refine x_ldcS hG dX2_init_202 q309 (hO.2.2.2.2.1.2.2 _ (List.mem_of_getElem? (i := 32) rfl)).1 ?_
  obtain ⟨o105, h⟩ := h
  obtain ⟨o106, h⟩ := h
  refine z_aastO hG (j := 5) dX2_init_204 (kP e104 (kP e101 (kP e98 (kP e95 (kP e92 (kP e89 (kP e86 (kP e83 (kP e80 (kP e77 (kP e74 (kP e71 (kP e68 (kP e65 (kP e62 (kP e59 (kP e56 (kNn e52)))))))))))))))))) rfl o53 o105 o106 (fun A107 e107 => ?_)
  replace h := h A107 e107
  refine x_dup dX2_init_205 rfl ?_
  refine x_bipush_ (v := (18 : Int32)) dX2_init_206 (by decide) ?_
  refine x_ldcS hG dX2_init_208 q310 (hO.2.2.2.2.1.2.2 _ (List.mem_of_getElem? (i := 33) rfl)).1 ?_
  obtain ⟨o108, h⟩ := h
  obtain ⟨o109, h⟩ := h
  refine z_aastO hG (j := 5) dX2_init_210 (kP e107 (kP e104 (kP e101 (kP e98 (kP e95 (kP e92 (kP e89 (kP e86 (kP e83 (kP e80 (kP e77 (kP e74 (kP e71 (kP e68 (kP e65 (kP e62 (kP e59 (kP e56 (kNn e52))))))))))))))))))) rfl o53 o108 o109 (fun A110 e110 => ?_)
  replace h := h A110 e110
  refine x_dup dX2_init_211 rfl ?_
  refine x_bipush_ (v := (19 : Int32)) dX2_init_212 (by decide) ?_
  refine x_ldcS hG dX2_init_214 q311 (hO.2.2.2.2.1.2.2 _ (List.mem_of_getElem? (i := 34) rfl)).1 ?_
  obtain ⟨o111, h⟩ := h
  obtain ⟨o112, h⟩ := h
  refine z_aastO hG (j := 5) dX2_init_216 (kP e110 (kP e107 (kP e104 (kP e101 (kP e98 (kP e95 (kP e92 (kP e89 (kP e86 (kP e83 (kP e80 (kP e77 (kP e74 (kP e71 (kP e68 (kP e65 (kP e62 (kP e59 (kP e56 (kNn e52)))))))))))))))))))) rfl o53 o111 o112 (fun A113 e113 => ?_)
  replace h := h A113 e113
  refine x_dup dX2_init_217 rfl ?_
  refine x_bipush_ (v := (20 : Int32)) dX2_init_218 (by decide) ?_
  refine x_ldcS hG dX2_init_220 q312 (hO.2.2.2.2.1.2.2 _ (List.mem_of_getElem? (i := 35) rfl)).1 ?_
  obtain ⟨o114, h⟩ := h
  obtain ⟨o115, h⟩ := h
  refine z_aastO hG (j := 5) dX2_init_222 (kP e113 (kP e110 (kP e107 (kP e104 (kP e101 (kP e98 (kP e95 (kP e92 (kP e89 (kP e86 (kP e83 (kP e80 (kP e77 (kP e74 (kP e71 (kP e68 (kP e65 (kP e62 (kP e59 (kP e56 (kNn e52))))))))))))))))))))) rfl o53 o114 o115 (fun A116 e116 => ?_)
  replace h := h A116 e116
  refine x_dup dX2_init_223 rfl ?_
  refine x_bipush_ (v := (21 : Int32)) dX2_init_224 (by decide) ?_
  refine x_ldcS hG dX2_init_226 q313 (hO.2.2.2.2.1.2.2 _ (List.mem_of_getElem? (i := 36) rfl)).1 ?_
  obtain ⟨o117, h⟩ := h
  obtain ⟨o118, h⟩ := h
  refine z_aastO hG (j := 5) dX2_init_228 (kP e116 (kP e113 (kP e110 (kP e107 (kP e104 (kP e101 (kP e98 (kP e95 (kP e92 (kP e89 (kP e86 (kP e83 (kP e80 (kP e77 (kP e74 (kP e71 (kP e68 (kP e65 (kP e62 (kP e59 (kP e56 (kNn e52)))))))))))))))))))))) rfl o53 o117 o118 (fun A119 e119 => ?_)
  replace h := h A119 e119
  refine x_dup dX2_init_229 rfl ?_
  refine x_bipush_ (v := (22 : Int32)) dX2_init_230 (by decide) ?_
  refine x_ldcS hG dX2_init_232 q314 (hO.2.2.2.2.1.2.2 _ (List.mem_of_getElem? (i := 37) rfl)).1 ?_
  obtain ⟨o120, h⟩ := h
  obtain ⟨o121, h⟩ := h
  refine z_aastO hG (j := 5) dX2_init_234 (kP e119 (kP e116 (kP e113 (kP e110 (kP e107 (kP e104 (kP e101 (kP e98 (kP e95 (kP e92 (kP e89 (kP e86 (kP e83 (kP e80 (kP e77 (kP e74 (kP e71 (kP e68 (kP e65 (kP e62 (kP e59 (kP e56 (kNn e52))))))))))))))))))))))) rfl o53 o120 o121 (fun A122 e122 => ?_)
  replace h := h A122 e122
  refine x_dup dX2_init_235 rfl ?_
  refine x_bipush_ (v := (23 : Int32)) dX2_init_236 (by decide) ?_
  refine x_ldcS hG dX2_init_238 q315 (hO.2.2.2.2.1.2.2 _ (List.mem_of_getElem? (i := 38) rfl)).1 ?_
  obtain ⟨o123, h⟩ := h
  obtain ⟨o124, h⟩ := h
  refine z_aastO hG (j := 5) dX2_init_240 (kP e122 (kP e119 (kP e116 (kP e113 (kP e110 (kP e107 (kP e104 (kP e101 (kP e98 (kP e95 (kP e92 (kP e89 (kP e86 (kP e83 (kP e80 (kP e77 (kP e74 (kP e71 (kP e68 (kP e65 (kP e62 (kP e59 (kP e56 (kNn e52)))))))))))))))))))))))) rfl o53 o123 o124 (fun A125 e125 => ?_)
  replace h := h A125 e125
  refine x_dup dX2_init_241 rfl ?_
  refine x_bipush_ (v := (24 : Int32)) dX2_init_242 (by decide) ?_
  refine x_ldcS hG dX2_init_244 q316 (hO.2.2.2.2.1.2.2 _ (List.mem_of_getElem? (i := 39) rfl)).1 ?_
  obtain ⟨o126, h⟩ := h
  obtain ⟨o127, h⟩ := h
  refine z_aastO hG (j := 5) dX2_init_246 (kP e125 (kP e122 (kP e119 (kP e116 (kP e113 (kP e110 (kP e107 (kP e104 (kP e101 (kP e98 (kP e95 (kP e92 (kP e89 (kP e86 (kP e83 (kP e80 (kP e77 (kP e74 (kP e71 (kP e68 (kP e65 (kP e62 (kP e59 (kP e56 (kNn e52))))))))))))))))))))))))) rfl o53 o126 o127 (fun A128 e128 => ?_)
  replace h := h A128 e128
  refine x_dup dX2_init_247 rfl ?_
  refine x_bipush_ (v := (25 : Int32)) dX2_init_248 (by decide) ?_
  refine x_ldcS hG dX2_init_250 q317 (hO.2.2.2.2.1.2.2 _ (List.mem_of_getElem? (i := 40) rfl)).1 ?_
  obtain ⟨o129, h⟩ := h
  obtain ⟨o130, h⟩ := h
  refine z_aastO hG (j := 5) dX2_init_252 (kP e128 (kP e125 (kP e122 (kP e119 (kP e116 (kP e113 (kP e110 (kP e107 (kP e104 (kP e101 (kP e98 (kP e95 (kP e92 (kP e89 (kP e86 (kP e83 (kP e80 (kP e77 (kP e74 (kP e71 (kP e68 (kP e65 (kP e62 (kP e59 (kP e56 (kNn e52)))))))))))))))))))))))))) rfl o53 o129 o130 (fun A131 e131 => ?_)
  replace h := h A131 e131
  refine x_dup dX2_init_253 rfl ?_
  refine x_bipush_ (v := (26 : Int32)) dX2_init_254 (by decide) ?_
  refine x_ldcS hG dX2_init_256 q318 (hO.2.2.2.2.1.2.2 _ (List.mem_of_getElem? (i := 41) rfl)).1 ?_
  obtain ⟨o132, h⟩ := h
  obtain ⟨o133, h⟩ := h
  refine z_aastO hG (j := 5) dX2_init_258 (kP e131 (kP e128 (kP e125 (kP e122 (kP e119 (kP e116 (kP e113 (kP e110 (kP e107 (kP e104 (kP e101 (kP e98 (kP e95 (kP e92 (kP e89 (kP e86 (kP e83 (kP e80 (kP e77 (kP e74 (kP e71 (kP e68 (kP e65 (kP e62 (kP e59 (kP e56 (kNn e52))))))))))))))))))))))))))) rfl o53 o132 o133 (fun A134 e134 => ?_)
  replace h := h A134 e134
  refine x_dup dX2_init_259 rfl ?_
  refine x_bipush_ (v := (27 : Int32)) dX2_init_260 (by decide) ?_
  refine x_ldcS hG dX2_init_262 q319 (hO.2.2.2.2.1.2.2 _ (List.mem_of_getElem? (i := 42) rfl)).1 ?_
  obtain ⟨o135, h⟩ := h
  obtain ⟨o136, h⟩ := h
  refine z_aastO hG (j := 5) dX2_init_264 (kP e134 (kP e131 (kP e128 (kP e125 (kP e122 (kP e119 (kP e116 (kP e113 (kP e110 (kP e107 (kP e104 (kP e101 (kP e98 (kP e95 (kP e92 (kP e89 (kP e86 (kP e83 (kP e80 (kP e77 (kP e74 (kP e71 (kP e68 (kP e65 (kP e62 (kP e59 (kP e56 (kNn e52)))))))))))))))))))))))))))) rfl o53 o135 o136 (fun A137 e137 => ?_)
  replace h := h A137 e137
  refine x_dup dX2_init_265 rfl ?_
  refine x_bipush_ (v := (28 : Int32)) dX2_init_266 (by decide) ?_
  refine x_ldcS hG dX2_init_268 q320 (hO.2.2.2.2.1.2.2 _ (List.mem_of_getElem? (i := 43) rfl)).1 ?_
  obtain ⟨o138, h⟩ := h
  obtain ⟨o139, h⟩ := h
  refine z_aastO hG (j := 5) dX2_init_270 (kP e137 (kP e134 (kP e131 (kP e128 (kP e125 (kP e122 (kP e119 (kP e116 (kP e113 (kP e110 (kP e107 (kP e104 (kP e101 (kP e98 (kP e95 (kP e92 (kP e89 (kP e86 (kP e83 (kP e80 (kP e77 (kP e74 (kP e71 (kP e68 (kP e65 (kP e62 (kP e59 (kP e56 (kNn e52))))))))))))))))))))))))))))) rfl o53 o138 o139 (fun A140 e140 => ?_)
  replace h := h A140 e140
  refine x_dup dX2_init_271 rfl ?_
  refine x_bipush_ (v := (29 : Int32)) dX2_init_272 (by decide) ?_
  refine x_ldcS hG dX2_init_274 q321 (hO.2.2.2.2.1.2.2 _ (List.mem_of_getElem? (i := 44) rfl)).1 ?_
  obtain ⟨o141, h⟩ := h
  obtain ⟨o142, h⟩ := h
  refine z_aastO hG (j := 5) dX2_init_276 (kP e140 (kP e137 (kP e134 (kP e131 (kP e128 (kP e125 (kP e122 (kP e119 (kP e116 (kP e113 (kP e110 (kP e107 (kP e104 (kP e101 (kP e98 (kP e95 (kP e92 (kP e89 (kP e86 (kP e83 (kP e80 (kP e77 (kP e74 (kP e71 (kP e68 (kP e65 (kP e62 (kP e59 (kP e56 (kNn e52)))))))))))))))))))))))))))))) rfl o53 o141 o142 (fun A143 e143 => ?_)
  replace h := h A143 e143
  refine x_dup dX2_init_277 rfl ?_
  refine x_bipush_ (v := (30 : Int32)) dX2_init_278 (by decide) ?_
  refine x_ldcS hG dX2_init_280 q322 (hO.2.2.2.2.1.2.2 _ (List.mem_of_getElem? (i := 45) rfl)).1 ?_
  obtain ⟨o144, h⟩ := h
  obtain ⟨o145, h⟩ := h
  refine z_aastO hG (j := 5) dX2_init_282 (kP e143 (kP e140 (kP e137 (kP e134 (kP e131 (kP e128 (kP e125 (kP e122 (kP e119 (kP e116 (kP e113 (kP e110 (kP e107 (kP e104 (kP e101 (kP e98 (kP e95 (kP e92 (kP e89 (kP e86 (kP e83 (kP e80 (kP e77 (kP e74 (kP e71 (kP e68 (kP e65 (kP e62 (kP e59 (kP e56 (kNn e52))))))))))))))))))))))))))))))) rfl o53 o144 o145 (fun A146 e146 => ?_)
  replace h := h A146 e146
  refine x_dup dX2_init_283 rfl ?_
  refine x_bipush_ (v := (31 : Int32)) dX2_init_284 (by decide) ?_
  refine x_ldcS hG dX2_init_286 q323 (hO.2.2.2.2.1.2.2 _ (List.mem_of_getElem? (i := 46) rfl)).1 ?_
  obtain ⟨o147, h⟩ := h
  obtain ⟨o148, h⟩ := h
  refine z_aastO hG (j := 5) dX2_init_288 (kP e146 (kP e143 (kP e140 (kP e137 (kP e134 (kP e131 (kP e128 (kP e125 (kP e122 (kP e119 (kP e116 (kP e113 (kP e110 (kP e107 (kP e104 (kP e101 (kP e98 (kP e95 (kP e92 (kP e89 (kP e86 (kP e83 (kP e80 (kP e77 (kP e74 (kP e71 (kP e68 (kP e65 (kP e62 (kP e59 (kP e56 (kNn e52)))))))))))))))))))))))))))))))) rfl o53 o147 o148 (fun A149 e149 => ?_)
  replace h := h A149 e149
  refine x_dup dX2_init_289 rfl ?_
  refine x_bipush_ (v := (32 : Int32)) dX2_init_290 (by decide) ?_
  refine x_ldcS hG dX2_init_292 q324 (hO.2.2.2.2.1.2.2 _ (List.mem_of_getElem? (i := 47) rfl)).1 ?_
  obtain ⟨o150, h⟩ := h
  obtain ⟨o151, h⟩ := h
  refine z_aastO hG (j := 5) dX2_init_294 (kP e149 (kP e146 (kP e143 (kP e140 (kP e137 (kP e134 (kP e131 (kP e128 (kP e125 (kP e122 (kP e119 (kP e116 (kP e113 (kP e110 (kP e107 (kP e104 (kP e101 (kP e98 (kP e95 (kP e92 (kP e89 (kP e86 (kP e83 (kP e80 (kP e77 (kP e74 (kP e71 (kP e68 (kP e65 (kP e62 (kP e59 (kP e56 (kNn e52))))))))))))))))))))))))))))))))) rfl o53 o150 o151 (fun A152 e152 => ?_)
  replace h := h A152 e152
  refine x_dup dX2_init_295 rfl ?_
  refine x_bipush_ (v := (33 : Int32)) dX2_init_296 (by decide) ?_
  refine x_ldcS hG dX2_init_298 q325 (hO.2.2.2.2.1.2.2 _ (List.mem_of_getElem? (i := 48) rfl)).1 ?_
  obtain ⟨o153, h⟩ := h
  obtain ⟨o154, h⟩ := h
  refine z_aastO hG (j := 5) dX2_init_300 (kP e152 (kP e149 (kP e146 (kP e143 (kP e140 (kP e137 (kP e134 (kP e131 (kP e128 (kP e125 (kP e122 (kP e119 (kP e116 (kP e113 (kP e110 (kP e107 (kP e104 (kP e101 (kP e98 (kP e95 (kP e92 (kP e89 (kP e86 (kP e83 (kP e80 (kP e77 (kP e74 (kP e71 (kP e68 (kP e65 (kP e62 (kP e59 (kP e56 (kNn e52)))))))))))))))))))))))))))))))))) rfl o53 o153 o154 (fun A155 e155 => ?_)
  replace h := h A155 e155
  refine x_dup dX2_init_301 rfl ?_
  refine x_bipush_ (v := (34 : Int32)) dX2_init_302 (by decide) ?_
  refine x_ldcS hG dX2_init_304 q326 (hO.2.2.2.2.1.2.2 _ (List.mem_of_getElem? (i := 49) rfl)).1 ?_
  obtain ⟨o156, h⟩ := h
  obtain ⟨o157, h⟩ := h
  refine z_aastO hG (j := 5) dX2_init_306 (kP e155 (kP e152 (kP e149 (kP e146 (kP e143 (kP e140 (kP e137 (kP e134 (kP e131 (kP e128 (kP e125 (kP e122 (kP e119 (kP e116 (kP e113 (kP e110 (kP e107 (kP e104 (kP e101 (kP e98 (kP e95 (kP e92 (kP e89 (kP e86 (kP e83 (kP e80 (kP e77 (kP e74 (kP e71 (kP e68 (kP e65 (kP e62 (kP e59 (kP e56 (kNn e52))))))))))))))))))))))))))))))))))) rfl o53 o156 o157 (fun A158 e158 => ?_)
  replace h := h A158 e158
  refine x_dup dX2_init_307 rfl ?_
  refine x_bipush_ (v := (35 : Int32)) dX2_init_308 (by decide) ?_
  refine x_ldcS hG dX2_init_310 q327 (hO.2.2.2.2.1.2.2 _ (List.mem_of_getElem? (i := 50) rfl)).1 ?_
  obtain ⟨o159, h⟩ := h
  obtain ⟨o160, h⟩ := h
  refine z_aastO hG (j := 5) dX2_init_312 (kP e158 (kP e155 (kP e152 (kP e149 (kP e146 (kP e143 (kP e140 (kP e137 (kP e134 (kP e131 (kP e128 (kP e125 (kP e122 (kP e119 (kP e116 (kP e113 (kP e110 (kP e107 (kP e104 (kP e101 (kP e98 (kP e95 (kP e92 (kP e89 (kP e86 (kP e83 (kP e80 (kP e77 (kP e74 (kP e71 (kP e68 (kP e65 (kP e62 (kP e59 (kP e56 (kNn e52)))))))))))))))))))))))))))))))))))) rfl o53 o159 o160 (fun A161 e161 => ?_)
  replace h := h A161 e161
  refine x_dup dX2_init_313 rfl ?_
  refine x_bipush_ (v := (36 : Int32)) dX2_init_314 (by decide) ?_
  refine x_ldcS hG dX2_init_316 q328 (hO.2.2.2.2.1.2.2 _ (List.mem_of_getElem? (i := 51) rfl)).1 ?_
  obtain ⟨o162, h⟩ := h
  obtain ⟨o163, h⟩ := h
  refine z_aastO hG (j := 5) dX2_init_318 (kP e161 (kP e158 (kP e155 (kP e152 (kP e149 (kP e146 (kP e143 (kP e140 (kP e137 (kP e134 (kP e131 (kP e128 (kP e125 (kP e122 (kP e119 (kP e116 (kP e113 (kP e110 (kP e107 (kP e104 (kP e101 (kP e98 (kP e95 (kP e92 (kP e89 (kP e86 (kP e83 (kP e80 (kP e77 (kP e74 (kP e71 (kP e68 (kP e65 (kP e62 (kP e59 (kP e56 (kNn e52))))))))))))))))))))))))))))))))))))) rfl o53 o162 o163 (fun A164 e164 => ?_)
  replace h := h A164 e164
  refine x_dup dX2_init_319 rfl ?_
  refine x_bipush_ (v := (37 : Int32)) dX2_init_320 (by decide) ?_
  refine x_ldcS hG dX2_init_322 q329 (hO.2.2.2.2.1.2.2 _ (List.mem_of_getElem? (i := 52) rfl)).1 ?_
  obtain ⟨o165, h⟩ := h
  obtain ⟨o166, h⟩ := h
  refine z_aastO hG (j := 5) dX2_init_324 (kP e164 (kP e161 (kP e158 (kP e155 (kP e152 (kP e149 (kP e146 (kP e143 (kP e140 (kP e137 (kP e134 (kP e131 (kP e128 (kP e125 (kP e122 (kP e119 (kP e116 (kP e113 (kP e110 (kP e107 (kP e104 (kP e101 (kP e98 (kP e95 (kP e92 (kP e89 (kP e86 (kP e83 (kP e80 (kP e77 (kP e74 (kP e71 (kP e68 (kP e65 (kP e62 (kP e59 (kP e56 (kNn e52)))))))))))))))))))))))))))))))))))))) rfl o53 o165 o166 (fun A167 e167 => ?_)
  replace h := h A167 e167
  refine x_dup dX2_init_325 rfl ?_
  refine x_bipush_ (v := (38 : Int32)) dX2_init_326 (by decide) ?_
  refine x_ldcS hG dX2_init_328 q330 (hO.2.2.2.2.1.2.2 _ (List.mem_of_getElem? (i := 53) rfl)).1 ?_
  obtain ⟨o168, h⟩ := h
  obtain ⟨o169, h⟩ := h
  refine z_aastO hG (j := 5) dX2_init_330 (kP e167 (kP e164 (kP e161 (kP e158 (kP e155 (kP e152 (kP e149 (kP e146 (kP e143 (kP e140 (kP e137 (kP e134 (kP e131 (kP e128 (kP e125 (kP e122 (kP e119 (kP e116 (kP e113 (kP e110 (kP e107 (kP e104 (kP e101 (kP e98 (kP e95 (kP e92 (kP e89 (kP e86 (kP e83 (kP e80 (kP e77 (kP e74 (kP e71 (kP e68 (kP e65 (kP e62 (kP e59 (kP e56 (kNn e52))))))))))))))))))))))))))))))))))))))) rfl o53 o168 o169 (fun A170 e170 => ?_)
  replace h := h A170 e170
  refine x_dup dX2_init_331 rfl ?_
  refine x_bipush_ (v := (39 : Int32)) dX2_init_332 (by decide) ?_
  refine x_ldcS hG dX2_init_334 q331 (hO.2.2.2.2.1.2.2 _ (List.mem_of_getElem? (i := 54) rfl)).1 ?_
  obtain ⟨o171, h⟩ := h
  obtain ⟨o172, h⟩ := h
  refine z_aastO hG (j := 5) dX2_init_336 (kP e170 (kP e167 (kP e164 (kP e161 (kP e158 (kP e155 (kP e152 (kP e149 (kP e146 (kP e143 (kP e140 (kP e137 (kP e134 (kP e131 (kP e128 (kP e125 (kP e122 (kP e119 (kP e116 (kP e113 (kP e110 (kP e107 (kP e104 (kP e101 (kP e98 (kP e95 (kP e92 (kP e89 (kP e86 (kP e83 (kP e80 (kP e77 (kP e74 (kP e71 (kP e68 (kP e65 (kP e62 (kP e59 (kP e56 (kNn e52)))))))))))))))))))))))))))))))))))))))) rfl o53 o171 o172 (fun A173 e173 => ?_)
  replace h := h A173 e173
  refine x_dup dX2_init_337 rfl ?_
  refine x_bipush_ (v := (40 : Int32)) dX2_init_338 (by decide) ?_
  refine x_ldcS hG dX2_init_340 q332 (hO.2.2.2.2.1.2.2 _ (List.mem_of_getElem? (i := 55) rfl)).1 ?_
  obtain ⟨o174, h⟩ := h
  obtain ⟨o175, h⟩ := h
  refine z_aastO hG (j := 5) dX2_init_342 (kP e173 (kP e170 (kP e167 (kP e164 (kP e161 (kP e158 (kP e155 (kP e152 (kP e149 (kP e146 (kP e143 (kP e140 (kP e137 (kP e134 (kP e131 (kP e128 (kP e125 (kP e122 (kP e119 (kP e116 (kP e113 (kP e110 (kP e107 (kP e104 (kP e101 (kP e98 (kP e95 (kP e92 (kP e89 (kP e86 (kP e83 (kP e80 (kP e77 (kP e74 (kP e71 (kP e68 (kP e65 (kP e62 (kP e59 (kP e56 (kNn e52))))))))))))))))))))))))))))))))))))))))) rfl o53 o174 o175 (fun A176 e176 => ?_)
  replace h := h A176 e176
  refine x_dup dX2_init_343 rfl ?_
  refine x_bipush_ (v := (41 : Int32)) dX2_init_344 (by decide) ?_
  refine x_ldcS hG dX2_init_346 q333 (hO.2.2.2.2.1.2.2 _ (List.mem_of_getElem? (i := 56) rfl)).1 ?_
  obtain ⟨o177, h⟩ := h
  obtain ⟨o178, h⟩ := h
  refine z_aastO hG (j := 5) dX2_init_348 (kP e176 (kP e173 (kP e170 (kP e167 (kP e164 (kP e161 (kP e158 (kP e155 (kP e152 (kP e149 (kP e146 (kP e143 (kP e140 (kP e137 (kP e134 (kP e131 (kP e128 (kP e125 (kP e122 (kP e119 (kP e116 (kP e113 (kP e110 (kP e107 (kP e104 (kP e101 (kP e98 (kP e95 (kP e92 (kP e89 (kP e86 (kP e83 (kP e80 (kP e77 (kP e74 (kP e71 (kP e68 (kP e65 (kP e62 (kP e59 (kP e56 (kNn e52)))))))))))))))))))))))))))))))))))))))))) rfl o53 o177 o178 (fun A179 e179 => ?_)
  replace h := h A179 e179
  refine x_dup dX2_init_349 rfl ?_
  refine x_bipush_ (v := (42 : Int32)) dX2_init_350 (by decide) ?_
  refine x_ldcS hG dX2_init_352 q334 (hO.2.2.2.2.1.2.2 _ (List.mem_of_getElem? (i := 57) rfl)).1 ?_
  obtain ⟨o180, h⟩ := h
  obtain ⟨o181, h⟩ := h
  refine z_aastO hG (j := 5) dX2_init_354 (kP e179 (kP e176 (kP e173 (kP e170 (kP e167 (kP e164 (kP e161 (kP e158 (kP e155 (kP e152 (kP e149 (kP e146 (kP e143 (kP e140 (kP e137 (kP e134 (kP e131 (kP e128 (kP e125 (kP e122 (kP e119 (kP e116 (kP e113 (kP e110 (kP e107 (kP e104 (kP e101 (kP e98 (kP e95 (kP e92 (kP e89 (kP e86 (kP e83 (kP e80 (kP e77 (kP e74 (kP e71 (kP e68 (kP e65 (kP e62 (kP e59 (kP e56 (kNn e52))))))))))))))))))))))))))))))))))))))))))) rfl o53 o180 o181 (fun A182 e182 => ?_)
  replace h := h A182 e182
  refine x_dup dX2_init_355 rfl ?_
  refine x_bipush_ (v := (43 : Int32)) dX2_init_356 (by decide) ?_
  refine x_ldcS hG dX2_init_358 q335 (hO.2.2.2.2.1.2.2 _ (List.mem_of_getElem? (i := 58) rfl)).1 ?_
  obtain ⟨o183, h⟩ := h
  obtain ⟨o184, h⟩ := h
  refine z_aastO hG (j := 5) dX2_init_360 (kP e182 (kP e179 (kP e176 (kP e173 (kP e170 (kP e167 (kP e164 (kP e161 (kP e158 (kP e155 (kP e152 (kP e149 (kP e146 (kP e143 (kP e140 (kP e137 (kP e134 (kP e131 (kP e128 (kP e125 (kP e122 (kP e119 (kP e116 (kP e113 (kP e110 (kP e107 (kP e104 (kP e101 (kP e98 (kP e95 (kP e92 (kP e89 (kP e86 (kP e83 (kP e80 (kP e77 (kP e74 (kP e71 (kP e68 (kP e65 (kP e62 (kP e59 (kP e56 (kNn e52)))))))))))))))))))))))))))))))))))))))))))) rfl o53 o183 o184 (fun A185 e185 => ?_)
  replace h := h A185 e185
  refine x_dup dX2_init_361 rfl ?_
  refine x_bipush_ (v := (44 : Int32)) dX2_init_362 (by decide) ?_
  refine x_ldcS hG dX2_init_364 q336 (hO.2.2.2.2.1.2.2 _ (List.mem_of_getElem? (i := 59) rfl)).1 ?_
  obtain ⟨o186, h⟩ := h
  obtain ⟨o187, h⟩ := h
  refine z_aastO hG (j := 5) dX2_init_366 (kP e185 (kP e182 (kP e179 (kP e176 (kP e173 (kP e170 (kP e167 (kP e164 (kP e161 (kP e158 (kP e155 (kP e152 (kP e149 (kP e146 (kP e143 (kP e140 (kP e137 (kP e134 (kP e131 (kP e128 (kP e125 (kP e122 (kP e119 (kP e116 (kP e113 (kP e110 (kP e107 (kP e104 (kP e101 (kP e98 (kP e95 (kP e92 (kP e89 (kP e86 (kP e83 (kP e80 (kP e77 (kP e74 (kP e71 (kP e68 (kP e65 (kP e62 (kP e59 (kP e56 (kNn e52))))))))))))))))))))))))))))))))))))))))))))) rfl o53 o186 o187 (fun A188 e188 => ?_)
  replace h := h A188 e188
  refine z_putP hG hO.1 (some A50.n) dX2_init_367 f_X2_137_2 ⟨_, rfl, Or.inr ⟨rfl, rfl, rfl⟩⟩ (kP e188 (kP e185 (kP e182 (kP e179 (kP e176 (kP e173 (kP e170 (kP e167 (kP e164 (kP e161 (kP e158 (kP e155 (kP e152 (kP e149 (kP e146 (kP e143 (kP e140 (kP e137 (kP e134 (kP e131 (kP e128 (kP e125 (kP e122 (kP e119 (kP e116 (kP e113 (kP e110 (kP e107 (kP e104 (kP e101 (kP e98 (kP e95 (kP e92 (kP e89 (kP e86 (kP e83 (kP e80 (kP e77 (kP e74 (kP e71 (kP e68 (kP e65 (kP e62 (kP e59 (kP e56 (kN e52 w52 (kP e50 o49))))))))))))))))))))))))))))))))))))))))))))))) (by decide) (Or.inr ⟨_, rfl⟩) (fun A189 e189 => ?_)
  replace h := h A189 e189
  refine x_aload_n dX2_init_370 rfl ?_
  refine x_sipush_ (v := (4002 : Int32)) dX2_init_371 (by decide) ?_
  obtain ⟨o190, h⟩ := h
  refine z_newa hG (j := 0) dX2_init_374 (by decide) rfl o190 q378 (fun A191 e191 w191 => ?_)
  replace h := h A191 e191
  refine z_putP hG hO.1 (some A189.n) dX2_init_376 f_X2_140_2 ⟨_, rfl, Or.inr ⟨rfl, rfl, rfl⟩⟩ (kN e191 w191 (kP e189 (kP e188 (kP e185 (kP e182 (kP e179 (kP e176 (kP e173 (kP e170 (kP e167 (kP e164 (kP e161 (kP e158 (kP e155 (kP e152 (kP e149 (kP e146 (kP e143 (kP e140 (kP e137 (kP e134 (kP e131 (kP e128 (kP e125 (kP e122 (kP e119 (kP e116 (kP e113 (kP e110 (kP e107 (kP e104 (kP e101 (kP e98 (kP e95 (kP e92 (kP e89 (kP e86 (kP e83 (kP e80 (kP e77 (kP e74 (kP e71 (kP e68 (kP e65 (kP e62 (kP e59 (kP e56 (kN e52 w52 (kP e50 o49))))))))))))))))))))))))))))))))))))))))))))))))) (by decide) (Or.inr ⟨_, rfl⟩) (fun A192 e192 => ?_)
  replace h := h A192 e192
  refine x_aload_n dX2_init_379 rfl ?_
  refine x_sipush_ (v := (4002 : Int32)) dX2_init_380 (by decide) ?_
  obtain ⟨o193, h⟩ := h
  refine z_newa hG (j := 0) dX2_init_383 (by decide) rfl o193 q378 (fun A194 e194 w194 => ?_)
  replace h := h A194 e194
  refine z_putP hG hO.1 (some A192.n) dX2_init_385 f_X2_144_2 ⟨_, rfl, Or.inr ⟨rfl, rfl, rfl⟩⟩ (kN e194 w194 (kP e192 (kN e191 w191 (kP e189 (kP e188 (kP e185 (kP e182 (kP e179 (kP e176 (kP e173 (kP e170 (kP e167 (kP e164 (kP e161 (kP e158 (kP e155 (kP e152 (kP e149 (kP e146 (kP e143 (kP e140 (kP e137 (kP e134 (kP e131 (kP e128 (kP e125 (kP e122 (kP e119 (kP e116 (kP e113 (kP e110 (kP e107 (kP e104 (kP e101 (kP e98 (kP e95 (kP e92 (kP e89 (kP e86 (kP e83 (kP e80 (kP e77 (kP e74 (kP e71 (kP e68 (kP e65 (kP e62 (kP e59 (kP e56 (kN e52 w52 (kP e50 o49))))))))))))))))))))))))))))))))))))))))))))))))))) (by decide) (Or.inr ⟨_, rfl⟩) (fun A195 e195 => ?_)
  replace h := h A195 e195
  refine x_aload_n dX2_init_388 rfl ?_
  refine x_sipush_ (v := (4002 : Int32)) dX2_init_389 (by decide) ?_
  obtain ⟨o196, h⟩ := h
  refine z_newa hG (j := 0) dX2_init_392 (by decide) rfl o196 q378 (fun A197 e197 w197 => ?_)
  replace h := h A197 e197
  refine z_putP hG hO.1 (some A195.n) dX2_init_394 f_X2_147_2 ⟨_, rfl, Or.inr ⟨rfl, rfl, rfl⟩⟩ (kN e197 w197 (kP e195 (kN e194 w194 (kP e192 (kN e191 w191 (kP e189 (kP e188 (kP e185 (kP e182 (kP e179 (kP e176 (kP e173 (kP e170 (kP e167 (kP e164 (kP e161 (kP e158 (kP e155 (kP e152 (kP e149 (kP e146 (kP e143 (kP e140 (kP e137 (kP e134 (kP e131 (kP e128 (kP e125 (kP e122 (kP e119 (kP e116 (kP e113 (kP e110 (kP e107 (kP e104 (kP e101 (kP e98 (kP e95 (kP e92 (kP e89 (kP e86 (kP e83 (kP e80 (kP e77 (kP e74 (kP e71 (kP e68 (kP e65 (kP e62 (kP e59 (kP e56 (kN e52 w52 (kP e50 o49))))))))))))))))))))))))))))))))))))))))))))))))))))) (by decide) (Or.inr ⟨_, rfl⟩) (fun A198 e198 => ?_)
  replace h := h A198 e198
  refine x_aload_n dX2_init_397 rfl ?_
  refine x_sipush_ (v := (4000 : Int32)) dX2_init_398 (by decide) ?_
  obtain ⟨o199, h⟩ := h
  refine z_newa hG (j := 0) dX2_init_401 (by decide) rfl o199 q378 (fun A200 e200 w200 => ?_)
  replace h := h A200 e200
  refine z_putP hG hO.1 (some A198.n) dX2_init_403 f_X2_150_2 ⟨_, rfl, Or.inr ⟨rfl, rfl, rfl⟩⟩ (kN e200 w200 (kP e198 (kN e197 w197 (kP e195 (kN e194 w194 (kP e192 (kN e191 w191 (kP e189 (kP e188 (kP e185 (kP e182 (kP e179 (kP e176 (kP e173 (kP e170 (kP e167 (kP e164 (kP e161 (kP e158 (kP e155 (kP e152 (kP e149 (kP e146 (kP e143 (kP e140 (kP e137 (kP e134 (kP e131 (kP e128 (kP e125 (kP e122 (kP e119 (kP e116 (kP e113 (kP e110 (kP e107 (kP e104 (kP e101 (kP e98 (kP e95 (kP e92 (kP e89 (kP e86 (kP e83 (kP e80 (kP e77 (kP e74 (kP e71 (kP e68 (kP e65 (kP e62 (kP e59 (kP e56 (kN e52 w52 (kP e50 o49))))))))))))))))))))))))))))))))))))))))))))))))))))))) (by decide) (Or.inr ⟨_, rfl⟩) (fun A201 e201 => ?_)
  replace h := h A201 e201
  refine x_aload_n dX2_init_406 rfl ?_
  refine x_sipush_ (v := (4000 : Int32)) dX2_init_407 (by decide) ?_
  obtain ⟨o202, h⟩ := h
  refine z_newa hG (j := 0) dX2_init_410 (by decide) rfl o202 q378 (fun A203 e203 w203 => ?_)
  replace h := h A203 e203
  refine z_putP hG hO.1 (some A201.n) dX2_init_412 f_X2_153_2 ⟨_, rfl, Or.inr ⟨rfl, rfl, rfl⟩⟩ (kN e203 w203 (kP e201 (kN e200 w200 (kP e198 (kN e197 w197 (kP e195 (kN e194 w194 (kP e192 (kN e191 w191 (kP e189 (kP e188 (kP e185 (kP e182 (kP e179 (kP e176 (kP e173 (kP e170 (kP e167 (kP e164 (kP e161 (kP e158 (kP e155 (kP e152 (kP e149 (kP e146 (kP e143 (kP e140 (kP e137 (kP e134 (kP e131 (kP e128 (kP e125 (kP e122 (kP e119 (kP e116 (kP e113 (kP e110 (kP e107 (kP e104 (kP e101 (kP e98 (kP e95 (kP e92 (kP e89 (kP e86 (kP e83 (kP e80 (kP e77 (kP e74 (kP e71 (kP e68 (kP e65 (kP e62 (kP e59 (kP e56 (kN e52 w52 (kP e50 o49))))))))))))))))))))))))))))))))))))))))))))))))))))))))) (by decide) (Or.inr ⟨_, rfl⟩) (fun A204 e204 => ?_)
  replace h := h A204 e204
  exact x_vret dX2_init_415 rfl ⟨rfl, h⟩
end W109
