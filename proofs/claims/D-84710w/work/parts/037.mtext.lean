/-! ===== 037.mtext (tools/w030.py) ===== -/
set_option maxRecDepth 100000
section W037
variable {G : xG}
def w_X13_function (m : Nat) (f : Int32) (n : Int32) (v : Int32) (Q : Int32 → xII → Prop) (I : xII) : Prop := ∀ I1 : xII, I1 = xup I m 61 (1 : Int32) → (∃ R2 : xII → Prop, w_X13_twice m n R2 I1 ∧ (∀ I2 : xII, R2 I2 → (∃ J3 : xII → Prop, (∀ (I3 : xII), J3 I3 → ∃ J4 : xII → Prop, (∀ (I4 : xII), J4 I4 → ∀ I5 : xII, I5 = xup I4 m 50 f → (∀ I6 : xII, I6 = xup I5 m 63 (-1 : Int32) → (∀ I7 : xII, I7 = xup I6 m 64 (-1 : Int32) → (∀ I8 : xII, I8 = xup I7 m 52 (0 : Int32) → (∀ I9 : xII, I9 = xup I8 m 53 (0 : Int32) → (∀ I10 : xII, I10 = xup I9 m 51 (0 : Int32) → (∃ R11 : xII → Prop, w_X13_begins m R11 I10 ∧ (∀ I11 : xII, R11 I11 → (∃ R12 : Int32 → xII → Prop, w_X13_openSign m (22 : Int32) R12 I11 ∧ (∀ (v12 : Int32) (I12 : xII), (v12 = 0 ∨ v12 = 1) → R12 v12 I12 → (((v12 = 0 → Q (0 : Int32) I12) ∧ (¬ v12 = 0 → ∃ R13 : Int32 → xII → Prop, w_X13_isSign m (23 : Int32) R13 I12 ∧ (∀ (v13 : Int32) (I13 : xII), (v13 = 0 ∨ v13 = 1) → R13 v13 I13 → (((v13 = 0 → ∃ J27 : xII → Prop, (∀ (I27 : xII), J27 I27 → ∃ L28 : Nat → Int32 → Int32 → Int32 → xII → Prop, (∃ n28 : Nat, L28 n28 (4 : Int32) (0 : Int32) (1 : Int32) I27) ∧ (∀ (n28 : Nat) (y28_4 : Int32) (y28_5 : Int32) (y28_6 : Int32) (I28 : xII), L28 n28 y28_4 y28_5 y28_6 I28 → ((y28_6 = 0 → ∃ R29 : Int32 → xII → Prop, w_X13_closeSign m (23 : Int32) R29 I28 ∧ (∀ (v29 : Int32) (I29 : xII), (v29 = 0 ∨ v29 = 1) → R29 v29 I29 → (((v29 = 0 → Q (0 : Int32) I29) ∧ (¬ v29 = 0 → vp_in f 500 ∧ (∀ I31 : xII, I31 = xup I29 (m + 20) (ix f) y28_5 → (∀ I32 : xII, I32 = xup I31 (m + 23) (ix f) (I29 m 60) → (∃ R33 : Int32 → xII → Prop, w_X13_isSign m (26 : Int32) R33 I32 ∧ (∀ (v33 : Int32) (I33 : xII), (v33 = 0 ∨ v33 = 1) → R33 v33 I33 → (((v33 = 0 → ∃ R41 : Int32 → xII → Prop, w_X13_fails m (2 : Int32) R41 I33 ∧ (∀ (v41 : Int32) (I41 : xII), (v41 = 0 ∨ v41 = 1) → R41 v41 I41 → (Q v41 I41))) ∧ (¬ v33 = 0 → ∃ R34 : Int32 → xII → Prop, g_X13_block m R34 I33 ∧ (∀ (v34 : Int32) (I34 : xII), (v34 = 0 ∨ v34 = 1) → R34 v34 I34 → (((v34 = 0 → Q (0 : Int32) I34) ∧ (¬ v34 = 0 → ∃ R35 : Int32 → xII → Prop, w_X13_step m (0 : Int32) (0 : Int32) (0 : Int32) R35 I34 ∧ (∀ (v35 : Int32) (I35 : xII), R35 v35 I35 → (∃ R36 : Int32 → xII → Prop, w_X13_step m (17 : Int32) (0 : Int32) (0 : Int32) R36 I35 ∧ (∀ (v36 : Int32) (I36 : xII), R36 v36 I36 → (∀ I37 : xII, I37 = xup I36 (m + 21) (ix f) (y28_4 + (I36 m 52)) → (∀ I38 : xII, I38 = xup I37 (m + 22) (ix f) (I36 m 53) → (∃ R39 : xII → Prop, w_X13_ends m (0 : Int32) R39 I38 ∧ (∀ I39 : xII, R39 I39 → (∀ I40 : xII, I40 = xup I39 m 50 (-1 : Int32) → (Q (1 : Int32) I40))))))))))))))))))))))))) ∧ (¬ y28_6 = 0 → (((I28 m 44) = 0 → ∃ R55 : Int32 → xII → Prop, w_X13_formalHere m y28_5 R55 I28 ∧ (∀ (v55 : Int32) (I55 : xII), R55 v55 I55 → ((((I55 m 44) ≤ 0 → ∃ J56 : xII → Prop, (∀ (I56 : xII), J56 I56 → ∃ R57 : Int32 → xII → Prop, w_X13_isSign m (28 : Int32) R57 I56 ∧ (∀ (v57 : Int32) (I57 : xII), (v57 = 0 ∨ v57 = 1) → R57 v57 I57 → (∀ I58 : xII, I58 = xup I57 m 42 ((I57 m 42) + (if v57 = 0 then (0 : Int32) else (1 : Int32))) → ((∃ q28 : Nat, q28 < n28 ∧ L28 q28 (y28_4 + (if v55 = 0 then (1 : Int32) else (2 : Int32))) (y28_5 + (1 : Int32)) v57 I58))))) ∧ (((I55 m 46) = 0 → vp_in (I55 m 35) 900 ∧ (∀ I60 : xII, I60 = xup I55 (m + 27) (ix (I55 m 35)) v55 → (∀ I61 : xII, I61 = xup I60 m 35 ((I55 m 35) + (1 : Int32)) → (J56 I61)))) ∧ (¬ (I55 m 46) = 0 → J56 I55))) ∧ (¬ (I55 m 44) ≤ 0 → Q (0 : Int32) I55))))) ∧ (¬ (I28 m 44) = 0 → ∃ R42 : Int32 → xII → Prop, w_X13_closeSign m (23 : Int32) R42 I28 ∧ (∀ (v42 : Int32) (I42 : xII), (v42 = 0 ∨ v42 = 1) → R42 v42 I42 → (((v42 = 0 → Q (0 : Int32) I42) ∧ (¬ v42 = 0 → vp_in f 500 ∧ (∀ I44 : xII, I44 = xup I42 (m + 20) (ix f) y28_5 → (∀ I45 : xII, I45 = xup I44 (m + 23) (ix f) (I42 m 60) → (∃ R46 : Int32 → xII → Prop, w_X13_isSign m (26 : Int32) R46 I45 ∧ (∀ (v46 : Int32) (I46 : xII), (v46 = 0 ∨ v46 = 1) → R46 v46 I46 → (((v46 = 0 → ∃ R54 : Int32 → xII → Prop, w_X13_fails m (2 : Int32) R54 I46 ∧ (∀ (v54 : Int32) (I54 : xII), (v54 = 0 ∨ v54 = 1) → R54 v54 I54 → (Q v54 I54))) ∧ (¬ v46 = 0 → ∃ R47 : Int32 → xII → Prop, g_X13_block m R47 I46 ∧ (∀ (v47 : Int32) (I47 : xII), (v47 = 0 ∨ v47 = 1) → R47 v47 I47 → (((v47 = 0 → Q (0 : Int32) I47) ∧ (¬ v47 = 0 → ∃ R48 : Int32 → xII → Prop, w_X13_step m (0 : Int32) (0 : Int32) (0 : Int32) R48 I47 ∧ (∀ (v48 : Int32) (I48 : xII), R48 v48 I48 → (∃ R49 : Int32 → xII → Prop, w_X13_step m (17 : Int32) (0 : Int32) (0 : Int32) R49 I48 ∧ (∀ (v49 : Int32) (I49 : xII), R49 v49 I49 → (∀ I50 : xII, I50 = xup I49 (m + 21) (ix f) (y28_4 + (I49 m 52)) → (∀ I51 : xII, I51 = xup I50 (m + 22) (ix f) (I49 m 53) → (∃ R52 : xII → Prop, w_X13_ends m (0 : Int32) R52 I51 ∧ (∀ I52 : xII, R52 I52 → (∀ I53 : xII, I53 = xup I52 m 50 (-1 : Int32) → (Q (1 : Int32) I53)))))))))))))))))))))))))))))) ∧ (((I13 m 46) = 0 → vp_in f 500 ∧ (∀ I63 : xII, I63 = xup I13 (m + 25) (ix f) (I13 m 42) → (J27 I63))) ∧ (¬ (I13 m 46) = 0 → J27 I13))) ∧ (¬ v13 = 0 → ∃ R14 : Int32 → xII → Prop, w_X13_closeSign m (23 : Int32) R14 I13 ∧ (∀ (v14 : Int32) (I14 : xII), (v14 = 0 ∨ v14 = 1) → R14 v14 I14 → (((v14 = 0 → Q (0 : Int32) I14) ∧ (¬ v14 = 0 → vp_in f 500 ∧ (∀ I16 : xII, I16 = xup I14 (m + 20) (ix f) (0 : Int32) → (∀ I17 : xII, I17 = xup I16 (m + 23) (ix f) (I14 m 60) → (∃ R18 : Int32 → xII → Prop, w_X13_isSign m (26 : Int32) R18 I17 ∧ (∀ (v18 : Int32) (I18 : xII), (v18 = 0 ∨ v18 = 1) → R18 v18 I18 → (((v18 = 0 → ∃ R26 : Int32 → xII → Prop, w_X13_fails m (2 : Int32) R26 I18 ∧ (∀ (v26 : Int32) (I26 : xII), (v26 = 0 ∨ v26 = 1) → R26 v26 I26 → (Q v26 I26))) ∧ (¬ v18 = 0 → ∃ R19 : Int32 → xII → Prop, g_X13_block m R19 I18 ∧ (∀ (v19 : Int32) (I19 : xII), (v19 = 0 ∨ v19 = 1) → R19 v19 I19 → (((v19 = 0 → Q (0 : Int32) I19) ∧ (¬ v19 = 0 → ∃ R20 : Int32 → xII → Prop, w_X13_step m (0 : Int32) (0 : Int32) (0 : Int32) R20 I19 ∧ (∀ (v20 : Int32) (I20 : xII), R20 v20 I20 → (∃ R21 : Int32 → xII → Prop, w_X13_step m (17 : Int32) (0 : Int32) (0 : Int32) R21 I20 ∧ (∀ (v21 : Int32) (I21 : xII), R21 v21 I21 → (∀ I22 : xII, I22 = xup I21 (m + 21) (ix f) ((4 : Int32) + (I21 m 52)) → (∀ I23 : xII, I23 = xup I22 (m + 22) (ix f) (I21 m 53) → (∃ R24 : xII → Prop, w_X13_ends m (0 : Int32) R24 I23 ∧ (∀ I24 : xII, R24 I24 → (∀ I25 : xII, I25 = xup I24 m 50 (-1 : Int32) → (Q (1 : Int32) I25))))))))))))))))))))))))))))))))))))))))) ∧ (((I3 m 46) = 0 → vp_in n 4002 ∧ (vp_in f 500 ∧ (∀ I66 : xII, I66 = xup I3 (m + 18) (ix f) (I3 (m + 4) (ix n)) → (∀ I67 : xII, I67 = xup I66 (m + 19) (ix f) (I3 (m + 5) (ix n)) → ((v = 0 ∨ v = 1) ∧ (∀ I69 : xII, I69 = xup I67 (m + 26) (ix f) v → (∀ I70 : xII, I70 = xup I69 (m + 24) (ix f) (I3 m 35) → (∀ I71 : xII, I71 = xup I70 (m + 20) (ix f) (0 : Int32) → (∀ I72 : xII, I72 = xup I71 (m + 25) (ix f) (-1 : Int32) → (∀ I73 : xII, I73 = xup I72 m 24 (f + (1 : Int32)) → (J4 I73))))))))))) ∧ (¬ (I3 m 46) = 0 → J4 I3))) ∧ ((f < (40 : Int32) → J3 I2) ∧ (¬ f < (40 : Int32) → vp_in n 4002 ∧ (∃ R75 : xII → Prop, w_X13_note m (11 : Int32) (I2 (m + 5) (ix n)) R75 I2 ∧ (∀ I75 : xII, R75 I75 → (J3 I75))))))))
theorem m_X13_function (hG : xOK G) {dp : Nat} {A : xA} {m : Nat} (hM : xMo G A m) {f : Int32} {n : Int32} {v : Int32} {Q : Int32 → xII → Prop} {I : xII} (h : w_X13_function m f n v Q I) : MX G (dp + 917) kX13_function [.ref m, .int f, .int n, .int v] (A.wI I) (oZ A Q) := by
  unfold w_X13_function at h
  refine MX.of rfl (Nat.le_of_ble_eq_true rfl) ?_
  change X _ _ _ _ _ _ [some (.ref m), some (.int f), some (.int n), some (.int v), none, none, none, none] _
  refine x_aload_n dX13_function_0 rfl ?_
  refine x_iconst_ (v := (1 : Int32)) dX13_function_1 (by decide) ?_
  refine y_put hG hM dX13_function_2 f_X13_306_12 ⟨_, rfl, Or.inl rfl⟩ (narrow01 (by decide)) (fits01 (by decide)) ⟨_, rfl⟩ (fun I1 e1 => ?_)
  replace h := h I1 e1
  refine x_aload_n dX13_function_5 rfl ?_
  refine x_iload_n dX13_function_6 rfl ?_
  obtain ⟨R2, g2, h⟩ := h
  refine x_callV hG (Ky := kX13_twice) (As := [.int n]) dX13_function_7 (mo_t hM) rfl lk_X13_348 me_X13_twice is_X13_twice se_X13_twice rfl rfl (Nat.le_of_ble_eq_true rfl) (MX.post (m_X13_twice hG hM g2) ?_)
  rintro _ _ ⟨I2, rfl, rfl, h1⟩
  replace h := h I2 h1
  change X _ _ _ _ (A.wI I2) _ _ _
  refine x_iload_n dX13_function_10 rfl ?_
  refine x_bipush_ (v := (40 : Int32)) dX13_function_11 (by decide) ?_
  obtain ⟨J3, g3, h⟩ := h
  have kj3 : ∀ (I3 : xII), J3 I3 → X G (dp + 917) kX13_function (oZ A Q) (A.wI I3) 28 [some (.ref m), some (.int f), some (.int n), some (.int v), none, none, none, none] [] := by
    intro I3 h
    replace h := g3 I3 h
    refine x_aload_n dX13_function_28 rfl ?_
    refine x_get (v := .int (I3 m 46)) hG dX13_function_29 f_X13_245_12 (mo_t hM) rfl ?_
    obtain ⟨J4, g4, h⟩ := h
    have kj4 : ∀ (I4 : xII), J4 I4 → X G (dp + 917) kX13_function (oZ A Q) (A.wI I4) 97 [some (.ref m), some (.int f), none, none, none, none, none, none] [] := by
      intro I4 h
      replace h := g4 I4 h
      refine x_aload_n dX13_function_97 rfl ?_
      refine x_iload_n dX13_function_98 rfl ?_
      refine y_put hG hM dX13_function_99 f_X13_294_12 ⟨_, rfl, Or.inl rfl⟩ rfl rfl ⟨_, rfl⟩ (fun I5 e5 => ?_)
      replace h := h I5 e5
      refine x_aload_n dX13_function_102 rfl ?_
      refine x_iconst_ (v := (-1 : Int32)) dX13_function_103 (by decide) ?_
      refine y_put hG hM dX13_function_104 f_X13_377_12 ⟨_, rfl, Or.inl rfl⟩ rfl rfl ⟨_, rfl⟩ (fun I6 e6 => ?_)
      replace h := h I6 e6
      refine x_aload_n dX13_function_107 rfl ?_
      refine x_iconst_ (v := (-1 : Int32)) dX13_function_108 (by decide) ?_
      refine y_put hG hM dX13_function_109 f_X13_380_12 ⟨_, rfl, Or.inl rfl⟩ rfl rfl ⟨_, rfl⟩ (fun I7 e7 => ?_)
      replace h := h I7 e7
      refine x_aload_n dX13_function_112 rfl ?_
      refine x_iconst_ (v := (0 : Int32)) dX13_function_113 (by decide) ?_
      refine y_put hG hM dX13_function_114 f_X13_383_12 ⟨_, rfl, Or.inl rfl⟩ rfl rfl ⟨_, rfl⟩ (fun I8 e8 => ?_)
      replace h := h I8 e8
      refine x_aload_n dX13_function_117 rfl ?_
      refine x_iconst_ (v := (0 : Int32)) dX13_function_118 (by decide) ?_
      refine y_put hG hM dX13_function_119 f_X13_386_12 ⟨_, rfl, Or.inl rfl⟩ rfl rfl ⟨_, rfl⟩ (fun I9 e9 => ?_)
      replace h := h I9 e9
      refine x_aload_n dX13_function_122 rfl ?_
      refine x_iconst_ (v := (0 : Int32)) dX13_function_123 (by decide) ?_
      refine y_put hG hM dX13_function_124 f_X13_389_12 ⟨_, rfl, Or.inl rfl⟩ rfl rfl ⟨_, rfl⟩ (fun I10 e10 => ?_)
      replace h := h I10 e10
      refine x_aload_n dX13_function_127 rfl ?_
      obtain ⟨R11, g11, h⟩ := h
      refine x_callV hG (Ky := kX13_begins) (As := []) dX13_function_128 (mo_t hM) rfl lk_X13_392 me_X13_begins is_X13_begins se_X13_begins rfl rfl (Nat.le_of_ble_eq_true rfl) (MX.post (m_X13_begins hG hM g11) ?_)
      rintro _ _ ⟨I11, rfl, rfl, h1⟩
      replace h := h I11 h1
      change X _ _ _ _ (A.wI I11) _ _ _
      refine x_aload_n dX13_function_131 rfl ?_
      refine x_bipush_ (v := (22 : Int32)) dX13_function_132 (by decide) ?_
      obtain ⟨R12, g12, h⟩ := h
      refine x_callV hG (Ky := kX13_openSign) (As := [.int (22 : Int32)]) dX13_function_134 (mo_t hM) rfl lk_X13_356 me_X13_openSign is_X13_openSign se_X13_openSign rfl rfl (Nat.le_of_ble_eq_true rfl) (MX.post (m_X13_openSign hG hM g12) ?_)
      rintro _ _ ⟨v12, I12, rfl, rfl, zv12, h1⟩
      replace h := h v12 I12 zv12 h1
      change X _ _ _ _ (A.wI I12) _ _ (.int v12 :: _)
      refine x_if_ne (tgt := 142) dX13_function_137 (by decide) (fun c137 => ?_) (fun c137 => ?_)
      · replace h := h.2 c137
        refine x_iconst_ (v := (4 : Int32)) dX13_function_142 (by decide) ?_
        refine x_istore dX13_function_143 (by decide) ?_
        refine x_iconst_ (v := (0 : Int32)) dX13_function_145 (by decide) ?_
        refine x_istore dX13_function_146 (by decide) ?_
        refine x_aload_n dX13_function_148 rfl ?_
        refine x_bipush_ (v := (23 : Int32)) dX13_function_149 (by decide) ?_
        obtain ⟨R13, g13, h⟩ := h
        refine x_callV hG (Ky := kX13_isSign) (As := [.int (23 : Int32)]) dX13_function_151 (mo_t hM) rfl lk_X13_257 me_X13_isSign is_X13_isSign se_X13_isSign rfl rfl (Nat.le_of_ble_eq_true rfl) (MX.post (m_X13_isSign hG hM g13) ?_)
        rintro _ _ ⟨v13, I13, rfl, rfl, zv13, h1⟩
        replace h := h v13 I13 zv13 h1
        change X _ _ _ _ (A.wI I13) _ _ (.int v13 :: _)
        refine x_if_ne (tgt := 282) dX13_function_154 (by decide) (fun c154 => ?_) (fun c154 => ?_)
        · replace h := h.2 c154
          refine x_aload_n dX13_function_282 rfl ?_
          refine x_bipush_ (v := (23 : Int32)) dX13_function_283 (by decide) ?_
          obtain ⟨R14, g14, h⟩ := h
          refine x_callV hG (Ky := kX13_closeSign) (As := [.int (23 : Int32)]) dX13_function_285 (mo_t hM) rfl lk_X13_362 me_X13_closeSign is_X13_closeSign se_X13_closeSign rfl rfl (Nat.le_of_ble_eq_true rfl) (MX.post (m_X13_closeSign hG hM g14) ?_)
          rintro _ _ ⟨v14, I14, rfl, rfl, zv14, h1⟩
          replace h := h v14 I14 zv14 h1
          change X _ _ _ _ (A.wI I14) _ _ (.int v14 :: _)
          refine x_if_ne (tgt := 293) dX13_function_288 (by decide) (fun c288 => ?_) (fun c288 => ?_)
          · replace h := h.2 c288
            refine x_aload_n dX13_function_293 rfl ?_
            refine x_get (v := .ref (m + 20)) hG dX13_function_294 f_X13_68_12 (mo_t hM) (congrArg va_rf (mo_P27 hM)) ?_
            refine x_iload_n dX13_function_297 rfl ?_
            refine x_iload dX13_function_298 rfl ?_
            obtain ⟨o15, h⟩ := h
            refine y_iast hG dX13_function_300 (mo_t27 hM) (mo_aN hM) (mo_n27 hM) o15 (fun I16 e16 => ?_)
            replace h := h I16 e16
            refine x_aload_n dX13_function_301 rfl ?_
            refine x_get (v := .ref (m + 23)) hG dX13_function_302 f_X13_77_12 (mo_t hM) (congrArg va_rf (mo_P30 hM)) ?_
            refine x_iload_n dX13_function_305 rfl ?_
            refine x_aload_n dX13_function_306 rfl ?_
            refine x_get (v := .int (I16 m 60)) hG dX13_function_307 f_X13_276_12 (mo_t hM) rfl ?_
            refine x_eqi (v := (I14 m 60)) (xup_ra e16 (by omega)) ?_
            refine y_iast hG dX13_function_310 (mo_t30 hM) (mo_aN hM) (mo_n30 hM) o15 (fun I17 e17 => ?_)
            replace h := h I17 e17
            refine x_aload_n dX13_function_311 rfl ?_
            refine x_bipush_ (v := (26 : Int32)) dX13_function_312 (by decide) ?_
            obtain ⟨R18, g18, h⟩ := h
            refine x_callV hG (Ky := kX13_isSign) (As := [.int (26 : Int32)]) dX13_function_314 (mo_t hM) rfl lk_X13_257 me_X13_isSign is_X13_isSign se_X13_isSign rfl rfl (Nat.le_of_ble_eq_true rfl) (MX.post (m_X13_isSign hG hM g18) ?_)
            rintro _ _ ⟨v18, I18, rfl, rfl, zv18, h1⟩
            replace h := h v18 I18 zv18 h1
            change X _ _ _ _ (A.wI I18) _ _ (.int v18 :: _)
            refine x_if_ne (tgt := 326) dX13_function_317 (by decide) (fun c317 => ?_) (fun c317 => ?_)
            · replace h := h.2 c317
              refine x_aload_n dX13_function_326 rfl ?_
              obtain ⟨R19, g19, h⟩ := h
              refine x_callV hG (Ky := kX13_block) (As := []) dX13_function_327 (mo_t hM) rfl lk_X13_398 me_X13_block is_X13_block se_X13_block rfl rfl (Nat.le_of_ble_eq_true rfl) (MX.post ((rc_S hG hM 200).2.1 g19) ?_)
              rintro _ _ ⟨v19, I19, rfl, rfl, zv19, h1⟩
              replace h := h v19 I19 zv19 h1
              change X _ _ _ _ (A.wI I19) _ _ (.int v19 :: _)
              refine x_if_ne (tgt := 335) dX13_function_330 (by decide) (fun c330 => ?_) (fun c330 => ?_)
              · replace h := h.2 c330
                refine x_aload_n dX13_function_335 rfl ?_
                refine x_iconst_ (v := (0 : Int32)) dX13_function_336 (by decide) ?_
                refine x_iconst_ (v := (0 : Int32)) dX13_function_337 (by decide) ?_
                refine x_iconst_ (v := (0 : Int32)) dX13_function_338 (by decide) ?_
                obtain ⟨R20, g20, h⟩ := h
                refine x_callV hG (Ky := kX13_step) (As := [.int (0 : Int32), .int (0 : Int32), .int (0 : Int32)]) dX13_function_339 (mo_t hM) rfl lk_X13_401 me_X13_step is_X13_step se_X13_step rfl rfl (Nat.le_of_ble_eq_true rfl) (MX.post (m_X13_step hG hM g20) ?_)
                rintro _ _ ⟨v20, I20, rfl, rfl, h1⟩
                replace h := h v20 I20 h1
                change X _ _ _ _ (A.wI I20) _ _ (.int v20 :: _)
                refine x_pop dX13_function_342 rfl ?_
                refine x_aload_n dX13_function_343 rfl ?_
                refine x_bipush_ (v := (17 : Int32)) dX13_function_344 (by decide) ?_
                refine x_iconst_ (v := (0 : Int32)) dX13_function_346 (by decide) ?_
                refine x_iconst_ (v := (0 : Int32)) dX13_function_347 (by decide) ?_
                obtain ⟨R21, g21, h⟩ := h
                refine x_callV hG (Ky := kX13_step) (As := [.int (17 : Int32), .int (0 : Int32), .int (0 : Int32)]) dX13_function_348 (mo_t hM) rfl lk_X13_401 me_X13_step is_X13_step se_X13_step rfl rfl (Nat.le_of_ble_eq_true rfl) (MX.post (m_X13_step hG hM g21) ?_)
                rintro _ _ ⟨v21, I21, rfl, rfl, h1⟩
                replace h := h v21 I21 h1
                change X _ _ _ _ (A.wI I21) _ _ (.int v21 :: _)
                refine x_pop dX13_function_351 rfl ?_
                refine x_aload_n dX13_function_352 rfl ?_
                refine x_get (v := .ref (m + 21)) hG dX13_function_353 f_X13_71_12 (mo_t hM) (congrArg va_rf (mo_P28 hM)) ?_
                refine x_iload_n dX13_function_356 rfl ?_
                refine x_iload dX13_function_357 rfl ?_
                refine x_aload_n dX13_function_359 rfl ?_
                refine x_get (v := .int (I21 m 52)) hG dX13_function_360 f_X13_383_12 (mo_t hM) rfl ?_
                refine x_iadd dX13_function_363 ?_
                refine y_iast hG dX13_function_364 (mo_t28 hM) (mo_aN hM) (mo_n28 hM) o15 (fun I22 e22 => ?_)
                replace h := h I22 e22
                refine x_aload_n dX13_function_365 rfl ?_
                refine x_get (v := .ref (m + 22)) hG dX13_function_366 f_X13_74_12 (mo_t hM) (congrArg va_rf (mo_P29 hM)) ?_
                refine x_iload_n dX13_function_369 rfl ?_
                refine x_aload_n dX13_function_370 rfl ?_
                refine x_get (v := .int (I22 m 53)) hG dX13_function_371 f_X13_386_12 (mo_t hM) rfl ?_
                refine x_eqi (v := (I21 m 53)) (xup_ra e22 (by omega)) ?_
                refine y_iast hG dX13_function_374 (mo_t29 hM) (mo_aN hM) (mo_n29 hM) o15 (fun I23 e23 => ?_)
                replace h := h I23 e23
                refine x_aload_n dX13_function_375 rfl ?_
                refine x_iconst_ (v := (0 : Int32)) dX13_function_376 (by decide) ?_
                obtain ⟨R24, g24, h⟩ := h
                refine x_callV hG (Ky := kX13_ends) (As := [.int (0 : Int32)]) dX13_function_377 (mo_t hM) rfl lk_X13_405 me_X13_ends is_X13_ends se_X13_ends rfl rfl (Nat.le_of_ble_eq_true rfl) (MX.post (m_X13_ends hG hM g24) ?_)
                rintro _ _ ⟨I24, rfl, rfl, h1⟩
                replace h := h I24 h1
                change X _ _ _ _ (A.wI I24) _ _ _
                refine x_aload_n dX13_function_380 rfl ?_
                refine x_iconst_ (v := (-1 : Int32)) dX13_function_381 (by decide) ?_
                refine y_put hG hM dX13_function_382 f_X13_294_12 ⟨_, rfl, Or.inl rfl⟩ rfl rfl ⟨_, rfl⟩ (fun I25 e25 => ?_)
                replace h := h I25 e25
                refine x_iconst_ (v := (1 : Int32)) dX13_function_385 (by decide) ?_
                exact x_zret dX13_function_386 rfl (by decide) ⟨_, _, rfl, rfl, (by decide), h⟩
              · replace h := h.1 c330
                refine x_iconst_ (v := (0 : Int32)) dX13_function_333 (by decide) ?_
                exact x_zret dX13_function_334 rfl (by decide) ⟨_, _, rfl, rfl, (by decide), h⟩
            · replace h := h.1 c317
              refine x_aload_n dX13_function_320 rfl ?_
              refine x_iconst_ (v := (2 : Int32)) dX13_function_321 (by decide) ?_
              obtain ⟨R26, g26, h⟩ := h
              refine x_callV hG (Ky := kX13_fails) (As := [.int (2 : Int32)]) dX13_function_322 (mo_t hM) rfl lk_X13_260 me_X13_fails is_X13_fails se_X13_fails rfl rfl (Nat.le_of_ble_eq_true rfl) (MX.post (m_X13_fails hG hM g26) ?_)
              rintro _ _ ⟨v26, I26, rfl, rfl, zv26, h1⟩
              replace h := h v26 I26 zv26 h1
              change X _ _ _ _ (A.wI I26) _ _ (.int v26 :: _)
              exact x_zret dX13_function_325 rfl zv26 ⟨_, _, rfl, rfl, zv26, h⟩
          · replace h := h.1 c288
            refine x_iconst_ (v := (0 : Int32)) dX13_function_291 (by decide) ?_
            exact x_zret dX13_function_292 rfl (by decide) ⟨_, _, rfl, rfl, (by decide), h⟩
        · replace h := h.1 c154
          refine x_aload_n dX13_function_157 rfl ?_
          refine x_get (v := .int (I13 m 46)) hG dX13_function_158 f_X13_245_12 (mo_t hM) rfl ?_
          obtain ⟨J27, g27, h⟩ := h
          have kj27 : ∀ (I27 : xII), J27 I27 → X G (dp + 917) kX13_function (oZ A Q) (A.wI I27) 174 [some (.ref m), some (.int f), none, none, some (.int (4 : Int32)), some (.int (0 : Int32)), none, none] [] := by
            intro I27 h
            replace h := g27 I27 h
            refine x_iconst_ (v := (1 : Int32)) dX13_function_174 (by decide) ?_
            refine x_istore dX13_function_175 (by decide) ?_
            obtain ⟨L28, ⟨n28, i28⟩, g28⟩ := h
            have kl28 : ∀ n28 : Nat, ∀ (y28_4 : Int32) (y28_5 : Int32) (y28_6 : Int32) (I28 : xII), L28 n28 y28_4 y28_5 y28_6 I28 → X G (dp + 917) kX13_function (oZ A Q) (A.wI I28) 177 [some (.ref m), some (.int f), none, none, some (.int y28_4), some (.int y28_5), some (.int y28_6), none] [] := by
              intro n28
              induction n28 using Nat.strongRecOn with
              | ind n28 ih28 =>
                intro y28_4 y28_5 y28_6 I28 h
                replace h := g28 n28 y28_4 y28_5 y28_6 I28 h
                refine x_iload dX13_function_177 rfl ?_
                refine x_if_eq (tgt := 282) dX13_function_179 (by decide) (fun c179 => ?_) (fun c179 => ?_)
                · replace h := h.1 c179
                  refine x_aload_n dX13_function_282 rfl ?_
                  refine x_bipush_ (v := (23 : Int32)) dX13_function_283 (by decide) ?_
                  obtain ⟨R29, g29, h⟩ := h
                  refine x_callV hG (Ky := kX13_closeSign) (As := [.int (23 : Int32)]) dX13_function_285 (mo_t hM) rfl lk_X13_362 me_X13_closeSign is_X13_closeSign se_X13_closeSign rfl rfl (Nat.le_of_ble_eq_true rfl) (MX.post (m_X13_closeSign hG hM g29) ?_)
                  rintro _ _ ⟨v29, I29, rfl, rfl, zv29, h1⟩
                  replace h := h v29 I29 zv29 h1
                  change X _ _ _ _ (A.wI I29) _ _ (.int v29 :: _)
                  refine x_if_ne (tgt := 293) dX13_function_288 (by decide) (fun c288 => ?_) (fun c288 => ?_)
                  · replace h := h.2 c288
                    refine x_aload_n dX13_function_293 rfl ?_
                    refine x_get (v := .ref (m + 20)) hG dX13_function_294 f_X13_68_12 (mo_t hM) (congrArg va_rf (mo_P27 hM)) ?_
                    refine x_iload_n dX13_function_297 rfl ?_
                    refine x_iload dX13_function_298 rfl ?_
                    obtain ⟨o30, h⟩ := h
                    refine y_iast hG dX13_function_300 (mo_t27 hM) (mo_aN hM) (mo_n27 hM) o30 (fun I31 e31 => ?_)
                    replace h := h I31 e31
                    refine x_aload_n dX13_function_301 rfl ?_
                    refine x_get (v := .ref (m + 23)) hG dX13_function_302 f_X13_77_12 (mo_t hM) (congrArg va_rf (mo_P30 hM)) ?_
                    refine x_iload_n dX13_function_305 rfl ?_
                    refine x_aload_n dX13_function_306 rfl ?_
                    refine x_get (v := .int (I31 m 60)) hG dX13_function_307 f_X13_276_12 (mo_t hM) rfl ?_
                    refine x_eqi (v := (I29 m 60)) (xup_ra e31 (by omega)) ?_
                    refine y_iast hG dX13_function_310 (mo_t30 hM) (mo_aN hM) (mo_n30 hM) o30 (fun I32 e32 => ?_)
                    replace h := h I32 e32
                    refine x_aload_n dX13_function_311 rfl ?_
                    refine x_bipush_ (v := (26 : Int32)) dX13_function_312 (by decide) ?_
                    obtain ⟨R33, g33, h⟩ := h
                    refine x_callV hG (Ky := kX13_isSign) (As := [.int (26 : Int32)]) dX13_function_314 (mo_t hM) rfl lk_X13_257 me_X13_isSign is_X13_isSign se_X13_isSign rfl rfl (Nat.le_of_ble_eq_true rfl) (MX.post (m_X13_isSign hG hM g33) ?_)
                    rintro _ _ ⟨v33, I33, rfl, rfl, zv33, h1⟩
                    replace h := h v33 I33 zv33 h1
                    change X _ _ _ _ (A.wI I33) _ _ (.int v33 :: _)
                    refine x_if_ne (tgt := 326) dX13_function_317 (by decide) (fun c317 => ?_) (fun c317 => ?_)
                    · replace h := h.2 c317
                      refine x_aload_n dX13_function_326 rfl ?_
                      obtain ⟨R34, g34, h⟩ := h
                      refine x_callV hG (Ky := kX13_block) (As := []) dX13_function_327 (mo_t hM) rfl lk_X13_398 me_X13_block is_X13_block se_X13_block rfl rfl (Nat.le_of_ble_eq_true rfl) (MX.post ((rc_S hG hM 200).2.1 g34) ?_)
                      rintro _ _ ⟨v34, I34, rfl, rfl, zv34, h1⟩
                      replace h := h v34 I34 zv34 h1
                      change X _ _ _ _ (A.wI I34) _ _ (.int v34 :: _)
                      refine x_if_ne (tgt := 335) dX13_function_330 (by decide) (fun c330 => ?_) (fun c330 => ?_)
                      · replace h := h.2 c330
                        refine x_aload_n dX13_function_335 rfl ?_
                        refine x_iconst_ (v := (0 : Int32)) dX13_function_336 (by decide) ?_
                        refine x_iconst_ (v := (0 : Int32)) dX13_function_337 (by decide) ?_
                        refine x_iconst_ (v := (0 : Int32)) dX13_function_338 (by decide) ?_
                        obtain ⟨R35, g35, h⟩ := h
                        refine x_callV hG (Ky := kX13_step) (As := [.int (0 : Int32), .int (0 : Int32), .int (0 : Int32)]) dX13_function_339 (mo_t hM) rfl lk_X13_401 me_X13_step is_X13_step se_X13_step rfl rfl (Nat.le_of_ble_eq_true rfl) (MX.post (m_X13_step hG hM g35) ?_)
                        rintro _ _ ⟨v35, I35, rfl, rfl, h1⟩
                        replace h := h v35 I35 h1
                        change X _ _ _ _ (A.wI I35) _ _ (.int v35 :: _)
                        refine x_pop dX13_function_342 rfl ?_
                        refine x_aload_n dX13_function_343 rfl ?_
                        refine x_bipush_ (v := (17 : Int32)) dX13_function_344 (by decide) ?_
                        refine x_iconst_ (v := (0 : Int32)) dX13_function_346 (by decide) ?_
                        refine x_iconst_ (v := (0 : Int32)) dX13_function_347 (by decide) ?_
                        obtain ⟨R36, g36, h⟩ := h
                        refine x_callV hG (Ky := kX13_step) (As := [.int (17 : Int32), .int (0 : Int32), .int (0 : Int32)]) dX13_function_348 (mo_t hM) rfl lk_X13_401 me_X13_step is_X13_step se_X13_step rfl rfl (Nat.le_of_ble_eq_true rfl) (MX.post (m_X13_step hG hM g36) ?_)
                        rintro _ _ ⟨v36, I36, rfl, rfl, h1⟩
                        replace h := h v36 I36 h1
                        change X _ _ _ _ (A.wI I36) _ _ (.int v36 :: _)
                        refine x_pop dX13_function_351 rfl ?_
                        refine x_aload_n dX13_function_352 rfl ?_
                        refine x_get (v := .ref (m + 21)) hG dX13_function_353 f_X13_71_12 (mo_t hM) (congrArg va_rf (mo_P28 hM)) ?_
                        refine x_iload_n dX13_function_356 rfl ?_
                        refine x_iload dX13_function_357 rfl ?_
                        refine x_aload_n dX13_function_359 rfl ?_
                        refine x_get (v := .int (I36 m 52)) hG dX13_function_360 f_X13_383_12 (mo_t hM) rfl ?_
                        refine x_iadd dX13_function_363 ?_
                        refine y_iast hG dX13_function_364 (mo_t28 hM) (mo_aN hM) (mo_n28 hM) o30 (fun I37 e37 => ?_)
                        replace h := h I37 e37
                        refine x_aload_n dX13_function_365 rfl ?_
                        refine x_get (v := .ref (m + 22)) hG dX13_function_366 f_X13_74_12 (mo_t hM) (congrArg va_rf (mo_P29 hM)) ?_
                        refine x_iload_n dX13_function_369 rfl ?_
                        refine x_aload_n dX13_function_370 rfl ?_
                        refine x_get (v := .int (I37 m 53)) hG dX13_function_371 f_X13_386_12 (mo_t hM) rfl ?_
                        refine x_eqi (v := (I36 m 53)) (xup_ra e37 (by omega)) ?_
                        refine y_iast hG dX13_function_374 (mo_t29 hM) (mo_aN hM) (mo_n29 hM) o30 (fun I38 e38 => ?_)
                        replace h := h I38 e38
                        refine x_aload_n dX13_function_375 rfl ?_
                        refine x_iconst_ (v := (0 : Int32)) dX13_function_376 (by decide) ?_
                        obtain ⟨R39, g39, h⟩ := h
                        refine x_callV hG (Ky := kX13_ends) (As := [.int (0 : Int32)]) dX13_function_377 (mo_t hM) rfl lk_X13_405 me_X13_ends is_X13_ends se_X13_ends rfl rfl (Nat.le_of_ble_eq_true rfl) (MX.post (m_X13_ends hG hM g39) ?_)
                        rintro _ _ ⟨I39, rfl, rfl, h1⟩
                        replace h := h I39 h1
                        change X _ _ _ _ (A.wI I39) _ _ _
                        refine x_aload_n dX13_function_380 rfl ?_
                        refine x_iconst_ (v := (-1 : Int32)) dX13_function_381 (by decide) ?_
                        refine y_put hG hM dX13_function_382 f_X13_294_12 ⟨_, rfl, Or.inl rfl⟩ rfl rfl ⟨_, rfl⟩ (fun I40 e40 => ?_)
                        replace h := h I40 e40
                        refine x_iconst_ (v := (1 : Int32)) dX13_function_385 (by decide) ?_
                        exact x_zret dX13_function_386 rfl (by decide) ⟨_, _, rfl, rfl, (by decide), h⟩
                      · replace h := h.1 c330
                        refine x_iconst_ (v := (0 : Int32)) dX13_function_333 (by decide) ?_
                        exact x_zret dX13_function_334 rfl (by decide) ⟨_, _, rfl, rfl, (by decide), h⟩
                    · replace h := h.1 c317
                      refine x_aload_n dX13_function_320 rfl ?_
                      refine x_iconst_ (v := (2 : Int32)) dX13_function_321 (by decide) ?_
                      obtain ⟨R41, g41, h⟩ := h
                      refine x_callV hG (Ky := kX13_fails) (As := [.int (2 : Int32)]) dX13_function_322 (mo_t hM) rfl lk_X13_260 me_X13_fails is_X13_fails se_X13_fails rfl rfl (Nat.le_of_ble_eq_true rfl) (MX.post (m_X13_fails hG hM g41) ?_)
                      rintro _ _ ⟨v41, I41, rfl, rfl, zv41, h1⟩
                      replace h := h v41 I41 zv41 h1
                      change X _ _ _ _ (A.wI I41) _ _ (.int v41 :: _)
                      exact x_zret dX13_function_325 rfl zv41 ⟨_, _, rfl, rfl, zv41, h⟩
                  · replace h := h.1 c288
                    refine x_iconst_ (v := (0 : Int32)) dX13_function_291 (by decide) ?_
                    exact x_zret dX13_function_292 rfl (by decide) ⟨_, _, rfl, rfl, (by decide), h⟩
                · replace h := h.2 c179
                  refine x_aload_n dX13_function_182 rfl ?_
                  refine x_get (v := .int (I28 m 44)) hG dX13_function_183 f_X13_230_12 (mo_t hM) rfl ?_
                  refine x_if_ne (tgt := 282) dX13_function_186 (by decide) (fun c186 => ?_) (fun c186 => ?_)
                  · replace h := h.2 c186
                    refine x_aload_n dX13_function_282 rfl ?_
                    refine x_bipush_ (v := (23 : Int32)) dX13_function_283 (by decide) ?_
                    obtain ⟨R42, g42, h⟩ := h
                    refine x_callV hG (Ky := kX13_closeSign) (As := [.int (23 : Int32)]) dX13_function_285 (mo_t hM) rfl lk_X13_362 me_X13_closeSign is_X13_closeSign se_X13_closeSign rfl rfl (Nat.le_of_ble_eq_true rfl) (MX.post (m_X13_closeSign hG hM g42) ?_)
                    rintro _ _ ⟨v42, I42, rfl, rfl, zv42, h1⟩
                    replace h := h v42 I42 zv42 h1
                    change X _ _ _ _ (A.wI I42) _ _ (.int v42 :: _)
                    refine x_if_ne (tgt := 293) dX13_function_288 (by decide) (fun c288 => ?_) (fun c288 => ?_)
                    · replace h := h.2 c288
                      refine x_aload_n dX13_function_293 rfl ?_
                      refine x_get (v := .ref (m + 20)) hG dX13_function_294 f_X13_68_12 (mo_t hM) (congrArg va_rf (mo_P27 hM)) ?_
                      refine x_iload_n dX13_function_297 rfl ?_
                      refine x_iload dX13_function_298 rfl ?_
                      obtain ⟨o43, h⟩ := h
                      refine y_iast hG dX13_function_300 (mo_t27 hM) (mo_aN hM) (mo_n27 hM) o43 (fun I44 e44 => ?_)
                      replace h := h I44 e44
                      refine x_aload_n dX13_function_301 rfl ?_
                      refine x_get (v := .ref (m + 23)) hG dX13_function_302 f_X13_77_12 (mo_t hM) (congrArg va_rf (mo_P30 hM)) ?_
                      refine x_iload_n dX13_function_305 rfl ?_
                      refine x_aload_n dX13_function_306 rfl ?_
                      refine x_get (v := .int (I44 m 60)) hG dX13_function_307 f_X13_276_12 (mo_t hM) rfl ?_
                      refine x_eqi (v := (I42 m 60)) (xup_ra e44 (by omega)) ?_
                      refine y_iast hG dX13_function_310 (mo_t30 hM) (mo_aN hM) (mo_n30 hM) o43 (fun I45 e45 => ?_)
                      replace h := h I45 e45
                      refine x_aload_n dX13_function_311 rfl ?_
                      refine x_bipush_ (v := (26 : Int32)) dX13_function_312 (by decide) ?_
                      obtain ⟨R46, g46, h⟩ := h
                      refine x_callV hG (Ky := kX13_isSign) (As := [.int (26 : Int32)]) dX13_function_314 (mo_t hM) rfl lk_X13_257 me_X13_isSign is_X13_isSign se_X13_isSign rfl rfl (Nat.le_of_ble_eq_true rfl) (MX.post (m_X13_isSign hG hM g46) ?_)
                      rintro _ _ ⟨v46, I46, rfl, rfl, zv46, h1⟩
                      replace h := h v46 I46 zv46 h1
                      change X _ _ _ _ (A.wI I46) _ _ (.int v46 :: _)
                      refine x_if_ne (tgt := 326) dX13_function_317 (by decide) (fun c317 => ?_) (fun c317 => ?_)
                      · replace h := h.2 c317
                        refine x_aload_n dX13_function_326 rfl ?_
                        obtain ⟨R47, g47, h⟩ := h
                        refine x_callV hG (Ky := kX13_block) (As := []) dX13_function_327 (mo_t hM) rfl lk_X13_398 me_X13_block is_X13_block se_X13_block rfl rfl (Nat.le_of_ble_eq_true rfl) (MX.post ((rc_S hG hM 200).2.1 g47) ?_)
                        rintro _ _ ⟨v47, I47, rfl, rfl, zv47, h1⟩
                        replace h := h v47 I47 zv47 h1
                        change X _ _ _ _ (A.wI I47) _ _ (.int v47 :: _)
                        refine x_if_ne (tgt := 335) dX13_function_330 (by decide) (fun c330 => ?_) (fun c330 => ?_)
                        · replace h := h.2 c330
                          refine x_aload_n dX13_function_335 rfl ?_
                          refine x_iconst_ (v := (0 : Int32)) dX13_function_336 (by decide) ?_
                          refine x_iconst_ (v := (0 : Int32)) dX13_function_337 (by decide) ?_
                          refine x_iconst_ (v := (0 : Int32)) dX13_function_338 (by decide) ?_
                          obtain ⟨R48, g48, h⟩ := h
                          refine x_callV hG (Ky := kX13_step) (As := [.int (0 : Int32), .int (0 : Int32), .int (0 : Int32)]) dX13_function_339 (mo_t hM) rfl lk_X13_401 me_X13_step is_X13_step se_X13_step rfl rfl (Nat.le_of_ble_eq_true rfl) (MX.post (m_X13_step hG hM g48) ?_)
                          rintro _ _ ⟨v48, I48, rfl, rfl, h1⟩
                          replace h := h v48 I48 h1
                          change X _ _ _ _ (A.wI I48) _ _ (.int v48 :: _)
                          refine x_pop dX13_function_342 rfl ?_
                          refine x_aload_n dX13_function_343 rfl ?_
                          refine x_bipush_ (v := (17 : Int32)) dX13_function_344 (by decide) ?_
                          refine x_iconst_ (v := (0 : Int32)) dX13_function_346 (by decide) ?_
                          refine x_iconst_ (v := (0 : Int32)) dX13_function_347 (by decide) ?_
                          obtain ⟨R49, g49, h⟩ := h
                          refine x_callV hG (Ky := kX13_step) (As := [.int (17 : Int32), .int (0 : Int32), .int (0 : Int32)]) dX13_function_348 (mo_t hM) rfl lk_X13_401 me_X13_step is_X13_step se_X13_step rfl rfl (Nat.le_of_ble_eq_true rfl) (MX.post (m_X13_step hG hM g49) ?_)
                          rintro _ _ ⟨v49, I49, rfl, rfl, h1⟩
                          replace h := h v49 I49 h1
                          change X _ _ _ _ (A.wI I49) _ _ (.int v49 :: _)
                          refine x_pop dX13_function_351 rfl ?_
                          refine x_aload_n dX13_function_352 rfl ?_
                          refine x_get (v := .ref (m + 21)) hG dX13_function_353 f_X13_71_12 (mo_t hM) (congrArg va_rf (mo_P28 hM)) ?_
                          refine x_iload_n dX13_function_356 rfl ?_
                          refine x_iload dX13_function_357 rfl ?_
                          refine x_aload_n dX13_function_359 rfl ?_
                          refine x_get (v := .int (I49 m 52)) hG dX13_function_360 f_X13_383_12 (mo_t hM) rfl ?_
                          refine x_iadd dX13_function_363 ?_
                          refine y_iast hG dX13_function_364 (mo_t28 hM) (mo_aN hM) (mo_n28 hM) o43 (fun I50 e50 => ?_)
                          replace h := h I50 e50
                          refine x_aload_n dX13_function_365 rfl ?_
                          refine x_get (v := .ref (m + 22)) hG dX13_function_366 f_X13_74_12 (mo_t hM) (congrArg va_rf (mo_P29 hM)) ?_
                          refine x_iload_n dX13_function_369 rfl ?_
                          refine x_aload_n dX13_function_370 rfl ?_
                          refine x_get (v := .int (I50 m 53)) hG dX13_function_371 f_X13_386_12 (mo_t hM) rfl ?_
                          refine x_eqi (v := (I49 m 53)) (xup_ra e50 (by omega)) ?_
                          refine y_iast hG dX13_function_374 (mo_t29 hM) (mo_aN hM) (mo_n29 hM) o43 (fun I51 e51 => ?_)
                          replace h := h I51 e51
                          refine x_aload_n dX13_function_375 rfl ?_
                          refine x_iconst_ (v := (0 : Int32)) dX13_function_376 (by decide) ?_
                          obtain ⟨R52, g52, h⟩ := h
                          refine x_callV hG (Ky := kX13_ends) (As := [.int (0 : Int32)]) dX13_function_377 (mo_t hM) rfl lk_X13_405 me_X13_ends is_X13_ends se_X13_ends rfl rfl (Nat.le_of_ble_eq_true rfl) (MX.post (m_X13_ends hG hM g52) ?_)
                          rintro _ _ ⟨I52, rfl, rfl, h1⟩
                          replace h := h I52 h1
                          change X _ _ _ _ (A.wI I52) _ _ _
                          refine x_aload_n dX13_function_380 rfl ?_
                          refine x_iconst_ (v := (-1 : Int32)) dX13_function_381 (by decide) ?_
                          refine y_put hG hM dX13_function_382 f_X13_294_12 ⟨_, rfl, Or.inl rfl⟩ rfl rfl ⟨_, rfl⟩ (fun I53 e53 => ?_)
                          replace h := h I53 e53
                          refine x_iconst_ (v := (1 : Int32)) dX13_function_385 (by decide) ?_
                          exact x_zret dX13_function_386 rfl (by decide) ⟨_, _, rfl, rfl, (by decide), h⟩
                        · replace h := h.1 c330
                          refine x_iconst_ (v := (0 : Int32)) dX13_function_333 (by decide) ?_
                          exact x_zret dX13_function_334 rfl (by decide) ⟨_, _, rfl, rfl, (by decide), h⟩
                      · replace h := h.1 c317
                        refine x_aload_n dX13_function_320 rfl ?_
                        refine x_iconst_ (v := (2 : Int32)) dX13_function_321 (by decide) ?_
                        obtain ⟨R54, g54, h⟩ := h
                        refine x_callV hG (Ky := kX13_fails) (As := [.int (2 : Int32)]) dX13_function_322 (mo_t hM) rfl lk_X13_260 me_X13_fails is_X13_fails se_X13_fails rfl rfl (Nat.le_of_ble_eq_true rfl) (MX.post (m_X13_fails hG hM g54) ?_)
                        rintro _ _ ⟨v54, I54, rfl, rfl, zv54, h1⟩
                        replace h := h v54 I54 zv54 h1
                        change X _ _ _ _ (A.wI I54) _ _ (.int v54 :: _)
                        exact x_zret dX13_function_325 rfl zv54 ⟨_, _, rfl, rfl, zv54, h⟩
                    · replace h := h.1 c288
                      refine x_iconst_ (v := (0 : Int32)) dX13_function_291 (by decide) ?_
                      exact x_zret dX13_function_292 rfl (by decide) ⟨_, _, rfl, rfl, (by decide), h⟩
                  · replace h := h.1 c186
                    refine x_aload_n dX13_function_189 rfl ?_
                    refine x_iload dX13_function_190 rfl ?_
                    obtain ⟨R55, g55, h⟩ := h
                    refine x_callV hG (Ky := kX13_formalHere) (As := [.int y28_5]) dX13_function_192 (mo_t hM) rfl lk_X13_395 me_X13_formalHere is_X13_formalHere se_X13_formalHere rfl rfl (Nat.le_of_ble_eq_true rfl) (MX.post (m_X13_formalHere hG hM g55) ?_)
                    rintro _ _ ⟨v55, I55, rfl, rfl, h1⟩
                    replace h := h v55 I55 h1
                    change X _ _ _ _ (A.wI I55) _ _ (.int v55 :: _)
                    refine x_istore dX13_function_195 (by decide) ?_
                    refine x_aload_n dX13_function_197 rfl ?_
                    refine x_get (v := .int (I55 m 44)) hG dX13_function_198 f_X13_230_12 (mo_t hM) rfl ?_
                    refine x_if_le (tgt := 206) dX13_function_201 (by decide) (fun c201 => ?_) (fun c201 => ?_)
                    · replace h := h.1 c201
                      refine x_aload_n dX13_function_206 rfl ?_
                      refine x_get (v := .int (I55 m 46)) hG dX13_function_207 f_X13_245_12 (mo_t hM) rfl ?_
                      obtain ⟨J56, g56, h⟩ := h
                      have kj56 : ∀ (I56 : xII), J56 I56 → X G (dp + 917) kX13_function (oZ A Q) (A.wI I56) 234 [some (.ref m), some (.int f), none, none, some (.int y28_4), some (.int y28_5), none, some (.int v55)] [] := by
                        intro I56 h
                        replace h := g56 I56 h
                        refine x_iload dX13_function_234 rfl ?_
                        refine x_iload dX13_function_236 rfl ?_
                        refine x_via 246 (A' := (A.wI I56)) (lv' := [some (.ref m), some (.int f), none, none, none, some (.int y28_5), none, none]) (st' := [.int (if v55 = 0 then (1 : Int32) else (2 : Int32)), .int y28_4]) ?_ (fun k246 => ?_)
                        rotate_left
                        · refine x_if_ne (tgt := 245) dX13_function_238 (by decide) (fun c238 => ?_) (fun c238 => ?_)
                          · refine x_iconst_ (v := (2 : Int32)) dX13_function_245 (by decide) ?_
                            change X _ _ _ _ _ _ [some (.ref m), some (.int f), none, none, some (.int y28_4), some (.int y28_5), none, some (.int v55)] [.int (2 : Int32), .int y28_4]
                            simp only [if_neg c238] at k246 ⊢
                            exact X.weak (xle_c rfl (xle_c rfl (xle_n (xle_n (xle_n (xle_c rfl (xle_n (xle_n xle_nil)))))))) k246
                          · refine x_iconst_ (v := (1 : Int32)) dX13_function_241 (by decide) ?_
                            refine x_goto (tgt := 246) dX13_function_242 (by decide) ?_
                            change X _ _ _ _ _ _ [some (.ref m), some (.int f), none, none, some (.int y28_4), some (.int y28_5), none, some (.int v55)] [.int (1 : Int32), .int y28_4]
                            simp only [if_pos c238] at k246 ⊢
                            exact X.weak (xle_c rfl (xle_c rfl (xle_n (xle_n (xle_n (xle_c rfl (xle_n (xle_n xle_nil)))))))) k246
                        refine x_iadd dX13_function_246 ?_
                        refine x_istore dX13_function_247 (by decide) ?_
                        refine x_iinc (v := (y28_5 + (1 : Int32))) dX13_function_249 rfl rfl (by decide) ?_
                        refine x_aload_n dX13_function_252 rfl ?_
                        refine x_bipush_ (v := (28 : Int32)) dX13_function_253 (by decide) ?_
                        obtain ⟨R57, g57, h⟩ := h
                        refine x_callV hG (Ky := kX13_isSign) (As := [.int (28 : Int32)]) dX13_function_255 (mo_t hM) rfl lk_X13_257 me_X13_isSign is_X13_isSign se_X13_isSign rfl rfl (Nat.le_of_ble_eq_true rfl) (MX.post (m_X13_isSign hG hM g57) ?_)
                        rintro _ _ ⟨v57, I57, rfl, rfl, zv57, h1⟩
                        replace h := h v57 I57 zv57 h1
                        change X _ _ _ _ (A.wI I57) _ _ (.int v57 :: _)
                        refine x_istore dX13_function_258 (by decide) ?_
                        refine x_aload_n dX13_function_260 rfl ?_
                        refine x_dup dX13_function_261 rfl ?_
                        refine x_get (v := .int (I57 m 42)) hG dX13_function_262 f_X13_233_12 (mo_t hM) rfl ?_
                        refine x_iload dX13_function_265 rfl ?_
                        refine x_via 275 (A' := (A.wI I57)) (lv' := [some (.ref m), some (.int f), none, none, some (.int (y28_4 + (if v55 = 0 then (1 : Int32) else (2 : Int32)))), some (.int (y28_5 + (1 : Int32))), some (.int v57), none]) (st' := [.int (if v57 = 0 then (0 : Int32) else (1 : Int32)), .int (I57 m 42), .ref m]) ?_ (fun k275 => ?_)
                        rotate_left
                        · refine x_if_eq (tgt := 274) dX13_function_267 (by decide) (fun c267 => ?_) (fun c267 => ?_)
                          · refine x_iconst_ (v := (0 : Int32)) dX13_function_274 (by decide) ?_
                            change X _ _ _ _ _ _ [some (.ref m), some (.int f), none, none, some (.int (y28_4 + (if v55 = 0 then (1 : Int32) else (2 : Int32)))), some (.int (y28_5 + (1 : Int32))), some (.int v57), none] [.int (0 : Int32), .int (I57 m 42), .ref m]
                            simp only [if_pos c267] at k275 ⊢
                            exact X.weak (xle_c rfl (xle_c rfl (xle_n (xle_n (xle_c rfl (xle_c rfl (xle_c rfl (xle_n xle_nil)))))))) k275
                          · refine x_iconst_ (v := (1 : Int32)) dX13_function_270 (by decide) ?_
                            refine x_goto (tgt := 275) dX13_function_271 (by decide) ?_
                            change X _ _ _ _ _ _ [some (.ref m), some (.int f), none, none, some (.int (y28_4 + (if v55 = 0 then (1 : Int32) else (2 : Int32)))), some (.int (y28_5 + (1 : Int32))), some (.int v57), none] [.int (1 : Int32), .int (I57 m 42), .ref m]
                            simp only [if_neg c267] at k275 ⊢
                            exact X.weak (xle_c rfl (xle_c rfl (xle_n (xle_n (xle_c rfl (xle_c rfl (xle_c rfl (xle_n xle_nil)))))))) k275
                        refine x_iadd dX13_function_275 ?_
                        refine y_put hG hM dX13_function_276 f_X13_233_12 ⟨_, rfl, Or.inl rfl⟩ rfl rfl ⟨_, rfl⟩ (fun I58 e58 => ?_)
                        replace h := h I58 e58
                        refine x_goto (tgt := 177) dX13_function_279 (by decide) ?_
                        obtain ⟨q28, l28, h⟩ := h
                        change X _ _ _ _ _ _ [some (.ref m), some (.int f), none, none, some (.int (y28_4 + (if v55 = 0 then (1 : Int32) else (2 : Int32)))), some (.int (y28_5 + (1 : Int32))), some (.int v57), none] []
                        exact X.weak (xle_c rfl (xle_c rfl (xle_n (xle_n (xle_c rfl (xle_c rfl (xle_c rfl (xle_n xle_nil)))))))) (ih28 q28 l28 (y28_4 + (if v55 = 0 then (1 : Int32) else (2 : Int32))) (y28_5 + (1 : Int32)) v57 I58 h)
                      refine x_if_ne (tgt := 234) dX13_function_210 (by decide) (fun c210 => ?_) (fun c210 => ?_)
                      · replace h := h.2 c210
                        change X _ _ _ _ _ _ [some (.ref m), some (.int f), none, none, some (.int y28_4), some (.int y28_5), some (.int y28_6), some (.int v55)] []
                        exact X.weak (xle_c rfl (xle_c rfl (xle_n (xle_n (xle_c rfl (xle_c rfl (xle_n (xle_c rfl xle_nil)))))))) (kj56 I55 h)
                      · replace h := h.1 c210
                        refine x_aload_n dX13_function_213 rfl ?_
                        refine x_get (v := .ref (m + 27)) hG dX13_function_214 f_X13_89_12 (mo_t hM) (congrArg va_rf (mo_P34 hM)) ?_
                        refine x_aload_n dX13_function_217 rfl ?_
                        refine x_get (v := .int (I55 m 35)) hG dX13_function_218 f_X13_300_12 (mo_t hM) rfl ?_
                        refine x_iload dX13_function_221 rfl ?_
                        obtain ⟨o59, h⟩ := h
                        refine y_iast hG dX13_function_223 (mo_t34 hM) (mo_aN hM) (mo_n34 hM) o59 (fun I60 e60 => ?_)
                        replace h := h I60 e60
                        refine x_aload_n dX13_function_224 rfl ?_
                        refine x_dup dX13_function_225 rfl ?_
                        refine x_get (v := .int (I60 m 35)) hG dX13_function_226 f_X13_300_12 (mo_t hM) rfl ?_
                        refine x_eqi (v := (I55 m 35)) (xup_ra e60 (by omega)) ?_
                        refine x_iconst_ (v := (1 : Int32)) dX13_function_229 (by decide) ?_
                        refine x_iadd dX13_function_230 ?_
                        refine y_put hG hM dX13_function_231 f_X13_300_12 ⟨_, rfl, Or.inl rfl⟩ rfl rfl ⟨_, rfl⟩ (fun I61 e61 => ?_)
                        replace h := h I61 e61
                        change X _ _ _ _ _ _ [some (.ref m), some (.int f), none, none, some (.int y28_4), some (.int y28_5), some (.int y28_6), some (.int v55)] []
                        exact X.weak (xle_c rfl (xle_c rfl (xle_n (xle_n (xle_c rfl (xle_c rfl (xle_n (xle_c rfl xle_nil)))))))) (kj56 I61 h)
                    · replace h := h.2 c201
                      refine x_iconst_ (v := (0 : Int32)) dX13_function_204 (by decide) ?_
                      exact x_zret dX13_function_205 rfl (by decide) ⟨_, _, rfl, rfl, (by decide), h⟩
            change X _ _ _ _ _ _ [some (.ref m), some (.int f), none, none, some (.int (4 : Int32)), some (.int (0 : Int32)), some (.int (1 : Int32)), none] []
            exact X.weak (xle_c rfl (xle_c rfl (xle_n (xle_n (xle_c rfl (xle_c rfl (xle_c rfl (xle_n xle_nil)))))))) (kl28 n28 (4 : Int32) (0 : Int32) (1 : Int32) I27 i28)
          refine x_if_ne (tgt := 174) dX13_function_161 (by decide) (fun c161 => ?_) (fun c161 => ?_)
          · replace h := h.2 c161
            change X _ _ _ _ _ _ [some (.ref m), some (.int f), none, none, some (.int (4 : Int32)), some (.int (0 : Int32)), none, none] []
            exact X.weak (xle_c rfl (xle_c rfl (xle_n (xle_n (xle_c rfl (xle_c rfl (xle_n (xle_n xle_nil)))))))) (kj27 I13 h)
          · replace h := h.1 c161
            refine x_aload_n dX13_function_164 rfl ?_
            refine x_get (v := .ref (m + 25)) hG dX13_function_165 f_X13_83_12 (mo_t hM) (congrArg va_rf (mo_P32 hM)) ?_
            refine x_iload_n dX13_function_168 rfl ?_
            refine x_aload_n dX13_function_169 rfl ?_
            refine x_get (v := .int (I13 m 42)) hG dX13_function_170 f_X13_233_12 (mo_t hM) rfl ?_
            obtain ⟨o62, h⟩ := h
            refine y_iast hG dX13_function_173 (mo_t32 hM) (mo_aN hM) (mo_n32 hM) o62 (fun I63 e63 => ?_)
            replace h := h I63 e63
            change X _ _ _ _ _ _ [some (.ref m), some (.int f), none, none, some (.int (4 : Int32)), some (.int (0 : Int32)), none, none] []
            exact X.weak (xle_c rfl (xle_c rfl (xle_n (xle_n (xle_c rfl (xle_c rfl (xle_n (xle_n xle_nil)))))))) (kj27 I63 h)
      · replace h := h.1 c137
        refine x_iconst_ (v := (0 : Int32)) dX13_function_140 (by decide) ?_
        exact x_zret dX13_function_141 rfl (by decide) ⟨_, _, rfl, rfl, (by decide), h⟩
    refine x_if_ne (tgt := 97) dX13_function_32 (by decide) (fun c32 => ?_) (fun c32 => ?_)
    · replace h := h.2 c32
      change X _ _ _ _ _ _ [some (.ref m), some (.int f), some (.int n), some (.int v), none, none, none, none] []
      exact X.weak (xle_c rfl (xle_c rfl (xle_n (xle_n (xle_n (xle_n (xle_n (xle_n xle_nil)))))))) (kj4 I3 h)
    · replace h := h.1 c32
      refine x_aload_n dX13_function_35 rfl ?_
      refine x_get (v := .ref (m + 18)) hG dX13_function_36 f_X13_62_12 (mo_t hM) (congrArg va_rf (mo_P25 hM)) ?_
      refine x_iload_n dX13_function_39 rfl ?_
      refine x_aload_n dX13_function_40 rfl ?_
      refine x_get (v := .ref (m + 4)) hG dX13_function_41 f_X13_19_12 (mo_t hM) (congrArg va_rf (mo_P5 hM)) ?_
      refine x_iload_n dX13_function_44 rfl ?_
      obtain ⟨o64, h⟩ := h
      refine y_iald hG dX13_function_45 (mo_t5 hM) (mo_n5 hM) o64 ?_
      obtain ⟨o65, h⟩ := h
      refine y_iast hG dX13_function_46 (mo_t25 hM) (mo_aN hM) (mo_n25 hM) o65 (fun I66 e66 => ?_)
      replace h := h I66 e66
      refine x_aload_n dX13_function_47 rfl ?_
      refine x_get (v := .ref (m + 19)) hG dX13_function_48 f_X13_65_12 (mo_t hM) (congrArg va_rf (mo_P26 hM)) ?_
      refine x_iload_n dX13_function_51 rfl ?_
      refine x_aload_n dX13_function_52 rfl ?_
      refine x_get (v := .ref (m + 5)) hG dX13_function_53 f_X13_22_12 (mo_t hM) (congrArg va_rf (mo_P6 hM)) ?_
      refine x_iload_n dX13_function_56 rfl ?_
      refine y_iald hG dX13_function_57 (mo_t6 hM) (mo_n6 hM) o64 ?_
      refine x_eqi (v := (I3 (m + 5) (ix n))) (xup_ra e66 (by omega)) ?_
      refine y_iast hG dX13_function_58 (mo_t26 hM) (mo_aN hM) (mo_n26 hM) o65 (fun I67 e67 => ?_)
      replace h := h I67 e67
      refine x_aload_n dX13_function_59 rfl ?_
      refine x_get (v := .ref (m + 26)) hG dX13_function_60 f_X13_86_12 (mo_t hM) (congrArg va_rf (mo_P33 hM)) ?_
      refine x_iload_n dX13_function_63 rfl ?_
      refine x_iload_n dX13_function_64 rfl ?_
      obtain ⟨o68, h⟩ := h
      refine y_zast hG dX13_function_65 (mo_t33 hM) (mo_aN hM) (mo_n33 hM) o65 o68 (fun I69 e69 => ?_)
      replace h := h I69 e69
      refine x_aload_n dX13_function_66 rfl ?_
      refine x_get (v := .ref (m + 24)) hG dX13_function_67 f_X13_80_12 (mo_t hM) (congrArg va_rf (mo_P31 hM)) ?_
      refine x_iload_n dX13_function_70 rfl ?_
      refine x_aload_n dX13_function_71 rfl ?_
      refine x_get (v := .int (I69 m 35)) hG dX13_function_72 f_X13_300_12 (mo_t hM) rfl ?_
      refine x_eqi (v := (I3 m 35)) ((xup_ra e69 (by omega)).trans ((xup_ra e67 (by omega)).trans (xup_ra e66 (by omega)))) ?_
      refine y_iast hG dX13_function_75 (mo_t31 hM) (mo_aN hM) (mo_n31 hM) o65 (fun I70 e70 => ?_)
      replace h := h I70 e70
      refine x_aload_n dX13_function_76 rfl ?_
      refine x_get (v := .ref (m + 20)) hG dX13_function_77 f_X13_68_12 (mo_t hM) (congrArg va_rf (mo_P27 hM)) ?_
      refine x_iload_n dX13_function_80 rfl ?_
      refine x_iconst_ (v := (0 : Int32)) dX13_function_81 (by decide) ?_
      refine y_iast hG dX13_function_82 (mo_t27 hM) (mo_aN hM) (mo_n27 hM) o65 (fun I71 e71 => ?_)
      replace h := h I71 e71
      refine x_aload_n dX13_function_83 rfl ?_
      refine x_get (v := .ref (m + 25)) hG dX13_function_84 f_X13_83_12 (mo_t hM) (congrArg va_rf (mo_P32 hM)) ?_
      refine x_iload_n dX13_function_87 rfl ?_
      refine x_iconst_ (v := (-1 : Int32)) dX13_function_88 (by decide) ?_
      refine y_iast hG dX13_function_89 (mo_t32 hM) (mo_aN hM) (mo_n32 hM) o65 (fun I72 e72 => ?_)
      replace h := h I72 e72
      refine x_aload_n dX13_function_90 rfl ?_
      refine x_iload_n dX13_function_91 rfl ?_
      refine x_iconst_ (v := (1 : Int32)) dX13_function_92 (by decide) ?_
      refine x_iadd dX13_function_93 ?_
      refine y_put hG hM dX13_function_94 f_X13_297_12 ⟨_, rfl, Or.inl rfl⟩ rfl rfl ⟨_, rfl⟩ (fun I73 e73 => ?_)
      replace h := h I73 e73
      change X _ _ _ _ _ _ [some (.ref m), some (.int f), some (.int n), some (.int v), none, none, none, none] []
      exact X.weak (xle_c rfl (xle_c rfl (xle_n (xle_n (xle_n (xle_n (xle_n (xle_n xle_nil)))))))) (kj4 I73 h)
  refine x_icmp_lt (tgt := 28) dX13_function_13 (by decide) (fun c13 => ?_) (fun c13 => ?_)
  · replace h := h.1 c13
    change X _ _ _ _ _ _ [some (.ref m), some (.int f), some (.int n), some (.int v), none, none, none, none] []
    exact X.weak (xle_c rfl (xle_c rfl (xle_c rfl (xle_c rfl (xle_n (xle_n (xle_n (xle_n xle_nil)))))))) (kj3 I2 h)
  · replace h := h.2 c13
    refine x_aload_n dX13_function_16 rfl ?_
    refine x_bipush_ (v := (11 : Int32)) dX13_function_17 (by decide) ?_
    refine x_aload_n dX13_function_19 rfl ?_
    refine x_get (v := .ref (m + 5)) hG dX13_function_20 f_X13_22_12 (mo_t hM) (congrArg va_rf (mo_P6 hM)) ?_
    refine x_iload_n dX13_function_23 rfl ?_
    obtain ⟨o74, h⟩ := h
    refine y_iald hG dX13_function_24 (mo_t6 hM) (mo_n6 hM) o74 ?_
    obtain ⟨R75, g75, h⟩ := h
    refine x_callV hG (Ky := kX13_note) (As := [.int (11 : Int32), .int (I2 (m + 5) (ix n))]) dX13_function_25 (mo_t hM) rfl lk_X13_352 me_X13_note is_X13_note se_X13_note rfl rfl (Nat.le_of_ble_eq_true rfl) (MX.post (m_X13_note hG hM g75) ?_)
    rintro _ _ ⟨I75, rfl, rfl, h1⟩
    replace h := h I75 h1
    change X _ _ _ _ (A.wI I75) _ _ _
    change X _ _ _ _ _ _ [some (.ref m), some (.int f), some (.int n), some (.int v), none, none, none, none] []
    exact X.weak (xle_c rfl (xle_c rfl (xle_c rfl (xle_c rfl (xle_n (xle_n (xle_n (xle_n xle_nil)))))))) (kj3 I75 h)
def w_X13_tells (m : Nat) (f : Int32) (Q : Int32 → xII → Prop) (I : xII) : Prop := ∀ I1 : xII, I1 = xup I m 61 (0 : Int32) → (∃ R2 : Int32 → xII → Prop, w_X13_word m (3 : Int32) (0 : Int32) R2 I1 ∧ (∀ (v2 : Int32) (I2 : xII), (v2 = 0 ∨ v2 = 1) → R2 v2 I2 → (((v2 = 0 → ∃ R3 : Int32 → xII → Prop, w_X13_isWord m (2 : Int32) R3 I2 ∧ (∀ (v3 : Int32) (I3 : xII), (v3 = 0 ∨ v3 = 1) → R3 v3 I3 → (∃ R4 : Int32 → xII → Prop, w_X13_isWord m (1 : Int32) R4 I3 ∧ (∀ (v4 : Int32) (I4 : xII), (v4 = 0 ∨ v4 = 1) → R4 v4 I4 → (((v3 = 0 → ((v4 = 0 → ∃ R15 : Int32 → xII → Prop, w_X13_isWord m (0 : Int32) R15 I4 ∧ (∀ (v15 : Int32) (I15 : xII), (v15 = 0 ∨ v15 = 1) → R15 v15 I15 → (((v15 = 0 → ∃ R36 : Int32 → xII → Prop, w_X13_fails m (2 : Int32) R36 I15 ∧ (∀ (v36 : Int32) (I36 : xII), (v36 = 0 ∨ v36 = 1) → R36 v36 I36 → (Q v36 I36))) ∧ (¬ v15 = 0 → ∀ I16 : xII, I16 = xup I15 m 42 ((I15 m 42) + (1 : Int32)) → (∃ R17 : Int32 → xII → Prop, w_X13_name m R17 I16 ∧ (∀ (v17 : Int32) (I17 : xII), R17 v17 I17 → ((((I17 m 44) ≤ 0 → ∃ R18 : Int32 → xII → Prop, w_X13_isSign m (22 : Int32) R18 I17 ∧ (∀ (v18 : Int32) (I18 : xII), (v18 = 0 ∨ v18 = 1) → R18 v18 I18 → (((v18 = 0 → ∃ R19 : Int32 → xII → Prop, w_X13_isSign m (29 : Int32) R19 I18 ∧ (∀ (v19 : Int32) (I19 : xII), (v19 = 0 ∨ v19 = 1) → R19 v19 I19 → (((v19 = 0 → ∃ R20 : Int32 → xII → Prop, w_X13_isSign m (32 : Int32) R20 I19 ∧ (∀ (v20 : Int32) (I20 : xII), (v20 = 0 ∨ v20 = 1) → R20 v20 I20 → (((v20 = 0 → ∃ R21 : Int32 → xII → Prop, w_X13_array m v17 v4 R21 I20 ∧ (∀ (v21 : Int32) (I21 : xII), (v21 = 0 ∨ v21 = 1) → R21 v21 I21 → (((v21 = 0 → Q (0 : Int32) I21) ∧ (¬ v21 = 0 → ∃ R22 : Int32 → xII → Prop, w_X13_sign m (29 : Int32) R22 I21 ∧ (∀ (v22 : Int32) (I22 : xII), (v22 = 0 ∨ v22 = 1) → R22 v22 I22 → (Q (if v22 = 0 then (0 : Int32) else (1 : Int32)) I22))))))) ∧ (¬ v20 = 0 → ∃ R23 : Int32 → xII → Prop, w_X13_globalAt m v17 R23 I20 ∧ (∀ (v23 : Int32) (I23 : xII), R23 v23 I23 → (∀ I24 : xII, I24 = xup I23 m 42 ((I23 m 42) + (1 : Int32)) → (∃ R25 : Int32 → xII → Prop, w_X13_value m R25 I24 ∧ (∀ (v25 : Int32) (I25 : xII), R25 v25 I25 → ((((I25 m 44) ≤ 0 → ∃ J26 : xII → Prop, (∀ (I26 : xII), J26 I26 → vp_in (f_J11_min v23 (2000 : Int32)) 2001 ∧ (∃ R28 : xII → Prop, w_X13_declare m v17 (1 : Int32) (0 : Int32) (I26 (m + 29) (ix (f_J11_min v23 (2000 : Int32)))) (1 : Int32) (0 : Int32) R28 I26 ∧ (∀ I28 : xII, R28 I28 → (∃ R29 : Int32 → xII → Prop, w_X13_sign m (29 : Int32) R29 I28 ∧ (∀ (v29 : Int32) (I29 : xII), (v29 = 0 ∨ v29 = 1) → R29 v29 I29 → (Q v29 I29)))))) ∧ (((I25 m 46) ≤ 0 → J26 I25) ∧ (¬ (I25 m 46) ≤ 0 → (((2000 : Int32) ≤ v23 → J26 I25) ∧ (¬ (2000 : Int32) ≤ v23 → vp_in v23 2001 ∧ (vp_in (I25 (m + 29) (ix v23)) 8008 ∧ (∀ I32 : xII, I32 = xup I25 (m + 31) (ix (I25 (m + 29) (ix v23))) v25 → (J26 I32)))))))) ∧ (¬ (I25 m 44) ≤ 0 → Q (0 : Int32) I25)))))))))))) ∧ (¬ v19 = 0 → ∃ R33 : Int32 → xII → Prop, w_X13_globalInt m v17 R33 I19 ∧ (∀ (v33 : Int32) (I33 : xII), (v33 = 0 ∨ v33 = 1) → R33 v33 I33 → (((v33 = 0 → Q (0 : Int32) I33) ∧ (¬ v33 = 0 → ∃ R34 : Int32 → xII → Prop, w_X13_sign m (29 : Int32) R34 I33 ∧ (∀ (v34 : Int32) (I34 : xII), (v34 = 0 ∨ v34 = 1) → R34 v34 I34 → (Q (if v34 = 0 then (0 : Int32) else (1 : Int32)) I34))))))))))) ∧ (¬ v18 = 0 → ∃ R35 : Int32 → xII → Prop, w_X13_function m f v17 v3 R35 I18 ∧ (∀ (v35 : Int32) (I35 : xII), (v35 = 0 ∨ v35 = 1) → R35 v35 I35 → (Q v35 I35))))))) ∧ (¬ (I17 m 44) ≤ 0 → Q (0 : Int32) I17)))))))))) ∧ (¬ v4 = 0 → ∀ I11 : xII, I11 = xup I4 m 42 ((I4 m 42) + (1 : Int32)) → (∃ R12 : Int32 → xII → Prop, w_X13_name m R12 I11 ∧ (∀ (v12 : Int32) (I12 : xII), R12 v12 I12 → ((((I12 m 44) ≤ 0 → ∃ R13 : Int32 → xII → Prop, w_X13_array m v12 v4 R13 I12 ∧ (∀ (v13 : Int32) (I13 : xII), (v13 = 0 ∨ v13 = 1) → R13 v13 I13 → (((v13 = 0 → Q (0 : Int32) I13) ∧ (¬ v13 = 0 → ∃ R14 : Int32 → xII → Prop, w_X13_sign m (29 : Int32) R14 I13 ∧ (∀ (v14 : Int32) (I14 : xII), (v14 = 0 ∨ v14 = 1) → R14 v14 I14 → (Q (if v14 = 0 then (0 : Int32) else (1 : Int32)) I14))))))) ∧ (¬ (I12 m 44) ≤ 0 → Q (0 : Int32) I12)))))))) ∧ (¬ v3 = 0 → ∀ I5 : xII, I5 = xup I4 m 42 ((I4 m 42) + (1 : Int32)) → (∃ R6 : Int32 → xII → Prop, w_X13_name m R6 I5 ∧ (∀ (v6 : Int32) (I6 : xII), R6 v6 I6 → ((((I6 m 44) ≤ 0 → ((v4 = 0 → ∃ R8 : Int32 → xII → Prop, w_X13_isSign m (22 : Int32) R8 I6 ∧ (∀ (v8 : Int32) (I8 : xII), (v8 = 0 ∨ v8 = 1) → R8 v8 I8 → (((v8 = 0 → ∃ R9 : Int32 → xII → Prop, w_X13_fails m (2 : Int32) R9 I8 ∧ (∀ (v9 : Int32) (I9 : xII), (v9 = 0 ∨ v9 = 1) → R9 v9 I9 → (Q v9 I9))) ∧ (¬ v8 = 0 → ∃ R10 : Int32 → xII → Prop, w_X13_function m f v6 v3 R10 I8 ∧ (∀ (v10 : Int32) (I10 : xII), (v10 = 0 ∨ v10 = 1) → R10 v10 I10 → (Q v10 I10))))))) ∧ (¬ v4 = 0 → ∃ R7 : Int32 → xII → Prop, w_X13_fails m (2 : Int32) R7 I6 ∧ (∀ (v7 : Int32) (I7 : xII), (v7 = 0 ∨ v7 = 1) → R7 v7 I7 → (Q v7 I7))))) ∧ (¬ (I6 m 44) ≤ 0 → Q (0 : Int32) I6)))))))))))) ∧ (¬ v2 = 0 → ∃ R37 : Int32 → xII → Prop, w_X13_word m (0 : Int32) (1 : Int32) R37 I2 ∧ (∀ (v37 : Int32) (I37 : xII), (v37 = 0 ∨ v37 = 1) → R37 v37 I37 → (((v37 = 0 → Q (0 : Int32) I37) ∧ (¬ v37 = 0 → ∃ R38 : Int32 → xII → Prop, w_X13_constantTold m R38 I37 ∧ (∀ (v38 : Int32) (I38 : xII), (v38 = 0 ∨ v38 = 1) → R38 v38 I38 → (Q (if v38 = 0 then (0 : Int32) else (1 : Int32)) I38)))))))))))
theorem m_X13_tells (hG : xOK G) {dp : Nat} {A : xA} {m : Nat} (hM : xMo G A m) {f : Int32} {Q : Int32 → xII → Prop} {I : xII} (h : w_X13_tells m f Q I) : MX G (dp + 918) kX13_tells [.ref m, .int f] (A.wI I) (oZ A Q) := by
  unfold w_X13_tells at h
  refine MX.of rfl (Nat.le_of_ble_eq_true rfl) ?_
  change X _ _ _ _ _ _ [some (.ref m), some (.int f), none, none, none, none, none] _
  refine x_aload_n dX13_tells_0 rfl ?_
  refine x_iconst_ (v := (0 : Int32)) dX13_tells_1 (by decide) ?_
  refine y_put hG hM dX13_tells_2 f_X13_306_12 ⟨_, rfl, Or.inl rfl⟩ (narrow01 (by decide)) (fits01 (by decide)) ⟨_, rfl⟩ (fun I1 e1 => ?_)
  replace h := h I1 e1
  refine x_aload_n dX13_tells_5 rfl ?_
  refine x_iconst_ (v := (3 : Int32)) dX13_tells_6 (by decide) ?_
  refine x_iconst_ (v := (0 : Int32)) dX13_tells_7 (by decide) ?_
  obtain ⟨R2, g2, h⟩ := h
  refine x_callV hG (Ky := kX13_word) (As := [.int (3 : Int32), .int (0 : Int32)]) dX13_tells_8 (mo_t hM) rfl lk_X13_310 me_X13_word is_X13_word se_X13_word rfl rfl (Nat.le_of_ble_eq_true rfl) (MX.post (m_X13_word hG hM g2) ?_)
  rintro _ _ ⟨v2, I2, rfl, rfl, zv2, h1⟩
  replace h := h v2 I2 zv2 h1
  change X _ _ _ _ (A.wI I2) _ _ (.int v2 :: _)
  refine x_if_eq (tgt := 36) dX13_tells_11 (by decide) (fun c11 => ?_) (fun c11 => ?_)
  · replace h := h.1 c11
    refine x_aload_n dX13_tells_36 rfl ?_
    refine x_iconst_ (v := (2 : Int32)) dX13_tells_37 (by decide) ?_
    obtain ⟨R3, g3, h⟩ := h
    refine x_callV hG (Ky := kX13_isWord) (As := [.int (2 : Int32)]) dX13_tells_38 (mo_t hM) rfl lk_X13_263 me_X13_isWord is_X13_isWord se_X13_isWord rfl rfl (Nat.le_of_ble_eq_true rfl) (MX.post (m_X13_isWord hG hM g3) ?_)
    rintro _ _ ⟨v3, I3, rfl, rfl, zv3, h1⟩
    replace h := h v3 I3 zv3 h1
    change X _ _ _ _ (A.wI I3) _ _ (.int v3 :: _)
    refine x_istore_n dX13_tells_41 (by decide) ?_
    refine x_aload_n dX13_tells_42 rfl ?_
    refine x_iconst_ (v := (1 : Int32)) dX13_tells_43 (by decide) ?_
    obtain ⟨R4, g4, h⟩ := h
    refine x_callV hG (Ky := kX13_isWord) (As := [.int (1 : Int32)]) dX13_tells_44 (mo_t hM) rfl lk_X13_263 me_X13_isWord is_X13_isWord se_X13_isWord rfl rfl (Nat.le_of_ble_eq_true rfl) (MX.post (m_X13_isWord hG hM g4) ?_)
    rintro _ _ ⟨v4, I4, rfl, rfl, zv4, h1⟩
    replace h := h v4 I4 zv4 h1
    change X _ _ _ _ (A.wI I4) _ _ (.int v4 :: _)
    refine x_istore_n dX13_tells_47 (by decide) ?_
    refine x_iload_n dX13_tells_48 rfl ?_
    refine x_if_ne (tgt := 70) dX13_tells_49 (by decide) (fun c49 => ?_) (fun c49 => ?_)
    · replace h := h.2 c49
      refine x_aload_n dX13_tells_70 rfl ?_
      refine x_dup dX13_tells_71 rfl ?_
      refine x_get (v := .int (I4 m 42)) hG dX13_tells_72 f_X13_233_12 (mo_t hM) rfl ?_
      refine x_iconst_ (v := (1 : Int32)) dX13_tells_75 (by decide) ?_
      refine x_iadd dX13_tells_76 ?_
      refine y_put hG hM dX13_tells_77 f_X13_233_12 ⟨_, rfl, Or.inl rfl⟩ rfl rfl ⟨_, rfl⟩ (fun I5 e5 => ?_)
      replace h := h I5 e5
      refine x_aload_n dX13_tells_80 rfl ?_
      obtain ⟨R6, g6, h⟩ := h
      refine x_callV hG (Ky := kX13_name) (As := []) dX13_tells_81 (mo_t hM) rfl lk_X13_317 me_X13_name is_X13_name se_X13_name rfl rfl (Nat.le_of_ble_eq_true rfl) (MX.post (m_X13_name hG hM g6) ?_)
      rintro _ _ ⟨v6, I6, rfl, rfl, h1⟩
      replace h := h v6 I6 h1
      change X _ _ _ _ (A.wI I6) _ _ (.int v6 :: _)
      refine x_istore dX13_tells_84 (by decide) ?_
      refine x_aload_n dX13_tells_86 rfl ?_
      refine x_get (v := .int (I6 m 44)) hG dX13_tells_87 f_X13_230_12 (mo_t hM) rfl ?_
      refine x_if_le (tgt := 95) dX13_tells_90 (by decide) (fun c90 => ?_) (fun c90 => ?_)
      · replace h := h.1 c90
        refine x_iload_n dX13_tells_95 rfl ?_
        refine x_if_ne (tgt := 117) dX13_tells_96 (by decide) (fun c96 => ?_) (fun c96 => ?_)
        · replace h := h.2 c96
          refine x_iload_n dX13_tells_117 rfl ?_
          refine x_if_eq (tgt := 127) dX13_tells_118 (by decide) (fun h => absurd h c49) (fun _ => ?_)
          refine x_aload_n dX13_tells_121 rfl ?_
          refine x_iconst_ (v := (2 : Int32)) dX13_tells_122 (by decide) ?_
          obtain ⟨R7, g7, h⟩ := h
          refine x_callV hG (Ky := kX13_fails) (As := [.int (2 : Int32)]) dX13_tells_123 (mo_t hM) rfl lk_X13_260 me_X13_fails is_X13_fails se_X13_fails rfl rfl (Nat.le_of_ble_eq_true rfl) (MX.post (m_X13_fails hG hM g7) ?_)
          rintro _ _ ⟨v7, I7, rfl, rfl, zv7, h1⟩
          replace h := h v7 I7 zv7 h1
          change X _ _ _ _ (A.wI I7) _ _ (.int v7 :: _)
          exact x_zret dX13_tells_126 rfl zv7 ⟨_, _, rfl, rfl, zv7, h⟩
        · replace h := h.1 c96
          refine x_aload_n dX13_tells_99 rfl ?_
          refine x_bipush_ (v := (22 : Int32)) dX13_tells_100 (by decide) ?_
          obtain ⟨R8, g8, h⟩ := h
          refine x_callV hG (Ky := kX13_isSign) (As := [.int (22 : Int32)]) dX13_tells_102 (mo_t hM) rfl lk_X13_257 me_X13_isSign is_X13_isSign se_X13_isSign rfl rfl (Nat.le_of_ble_eq_true rfl) (MX.post (m_X13_isSign hG hM g8) ?_)
          rintro _ _ ⟨v8, I8, rfl, rfl, zv8, h1⟩
          replace h := h v8 I8 zv8 h1
          change X _ _ _ _ (A.wI I8) _ _ (.int v8 :: _)
          refine x_if_eq (tgt := 117) dX13_tells_105 (by decide) (fun c105 => ?_) (fun c105 => ?_)
          · replace h := h.1 c105
            refine x_iload_n dX13_tells_117 rfl ?_
            refine x_if_eq (tgt := 127) dX13_tells_118 (by decide) (fun h => absurd h c49) (fun _ => ?_)
            refine x_aload_n dX13_tells_121 rfl ?_
            refine x_iconst_ (v := (2 : Int32)) dX13_tells_122 (by decide) ?_
            obtain ⟨R9, g9, h⟩ := h
            refine x_callV hG (Ky := kX13_fails) (As := [.int (2 : Int32)]) dX13_tells_123 (mo_t hM) rfl lk_X13_260 me_X13_fails is_X13_fails se_X13_fails rfl rfl (Nat.le_of_ble_eq_true rfl) (MX.post (m_X13_fails hG hM g9) ?_)
            rintro _ _ ⟨v9, I9, rfl, rfl, zv9, h1⟩
            replace h := h v9 I9 zv9 h1
            change X _ _ _ _ (A.wI I9) _ _ (.int v9 :: _)
            exact x_zret dX13_tells_126 rfl zv9 ⟨_, _, rfl, rfl, zv9, h⟩
          · replace h := h.2 c105
            refine x_aload_n dX13_tells_108 rfl ?_
            refine x_iload_n dX13_tells_109 rfl ?_
            refine x_iload dX13_tells_110 rfl ?_
            refine x_iload_n dX13_tells_112 rfl ?_
            obtain ⟨R10, g10, h⟩ := h
            refine x_callV hG (Ky := kX13_function) (As := [.int f, .int v6, .int v3]) dX13_tells_113 (mo_t hM) rfl lk_X13_320 me_X13_function is_X13_function se_X13_function rfl rfl (Nat.le_of_ble_eq_true rfl) (MX.post (m_X13_function hG hM g10) ?_)
            rintro _ _ ⟨v10, I10, rfl, rfl, zv10, h1⟩
            replace h := h v10 I10 zv10 h1
            change X _ _ _ _ (A.wI I10) _ _ (.int v10 :: _)
            exact x_zret dX13_tells_116 rfl zv10 ⟨_, _, rfl, rfl, zv10, h⟩
      · replace h := h.2 c90
        refine x_iconst_ (v := (0 : Int32)) dX13_tells_93 (by decide) ?_
        exact x_zret dX13_tells_94 rfl (by decide) ⟨_, _, rfl, rfl, (by decide), h⟩
    · replace h := h.1 c49
      refine x_iload_n dX13_tells_52 rfl ?_
      refine x_if_ne (tgt := 70) dX13_tells_53 (by decide) (fun c53 => ?_) (fun c53 => ?_)
      · replace h := h.2 c53
        refine x_aload_n dX13_tells_70 rfl ?_
        refine x_dup dX13_tells_71 rfl ?_
        refine x_get (v := .int (I4 m 42)) hG dX13_tells_72 f_X13_233_12 (mo_t hM) rfl ?_
        refine x_iconst_ (v := (1 : Int32)) dX13_tells_75 (by decide) ?_
        refine x_iadd dX13_tells_76 ?_
        refine y_put hG hM dX13_tells_77 f_X13_233_12 ⟨_, rfl, Or.inl rfl⟩ rfl rfl ⟨_, rfl⟩ (fun I11 e11 => ?_)
        replace h := h I11 e11
        refine x_aload_n dX13_tells_80 rfl ?_
        obtain ⟨R12, g12, h⟩ := h
        refine x_callV hG (Ky := kX13_name) (As := []) dX13_tells_81 (mo_t hM) rfl lk_X13_317 me_X13_name is_X13_name se_X13_name rfl rfl (Nat.le_of_ble_eq_true rfl) (MX.post (m_X13_name hG hM g12) ?_)
        rintro _ _ ⟨v12, I12, rfl, rfl, h1⟩
        replace h := h v12 I12 h1
        change X _ _ _ _ (A.wI I12) _ _ (.int v12 :: _)
        refine x_istore dX13_tells_84 (by decide) ?_
        refine x_aload_n dX13_tells_86 rfl ?_
        refine x_get (v := .int (I12 m 44)) hG dX13_tells_87 f_X13_230_12 (mo_t hM) rfl ?_
        refine x_if_le (tgt := 95) dX13_tells_90 (by decide) (fun c90 => ?_) (fun c90 => ?_)
        · replace h := h.1 c90
          refine x_iload_n dX13_tells_95 rfl ?_
          refine x_if_ne (tgt := 117) dX13_tells_96 (by decide) (fun _ => ?_) (fun h => absurd h c53)
          refine x_iload_n dX13_tells_117 rfl ?_
          refine x_if_eq (tgt := 127) dX13_tells_118 (by decide) (fun _ => ?_) (fun h => absurd c49 h)
          refine x_iload_n dX13_tells_127 rfl ?_
          refine x_if_ne (tgt := 164) dX13_tells_128 (by decide) (fun _ => ?_) (fun h => absurd h c53)
          refine x_iload_n dX13_tells_164 rfl ?_
          refine x_if_ne (tgt := 269) dX13_tells_165 (by decide) (fun _ => ?_) (fun h => absurd h c53)
          refine x_aload_n dX13_tells_269 rfl ?_
          refine x_iload dX13_tells_270 rfl ?_
          refine x_iload_n dX13_tells_272 rfl ?_
          obtain ⟨R13, g13, h⟩ := h
          refine x_callV hG (Ky := kX13_array) (As := [.int v12, .int v4]) dX13_tells_273 (mo_t hM) rfl lk_X13_342 me_X13_array is_X13_array se_X13_array rfl rfl (Nat.le_of_ble_eq_true rfl) (MX.post (m_X13_array hG hM g13) ?_)
          rintro _ _ ⟨v13, I13, rfl, rfl, zv13, h1⟩
          replace h := h v13 I13 zv13 h1
          change X _ _ _ _ (A.wI I13) _ _ (.int v13 :: _)
          refine x_if_eq (tgt := 292) dX13_tells_276 (by decide) (fun c276 => ?_) (fun c276 => ?_)
          · replace h := h.1 c276
            refine x_iconst_ (v := (0 : Int32)) dX13_tells_292 (by decide) ?_
            exact x_zret dX13_tells_293 rfl (by decide) ⟨_, _, rfl, rfl, (by decide), h⟩
          · replace h := h.2 c276
            refine x_aload_n dX13_tells_279 rfl ?_
            refine x_bipush_ (v := (29 : Int32)) dX13_tells_280 (by decide) ?_
            obtain ⟨R14, g14, h⟩ := h
            refine x_callV hG (Ky := kX13_sign) (As := [.int (29 : Int32)]) dX13_tells_282 (mo_t hM) rfl lk_X13_273 me_X13_sign is_X13_sign se_X13_sign rfl rfl (Nat.le_of_ble_eq_true rfl) (MX.post (m_X13_sign hG hM g14) ?_)
            rintro _ _ ⟨v14, I14, rfl, rfl, zv14, h1⟩
            replace h := h v14 I14 zv14 h1
            change X _ _ _ _ (A.wI I14) _ _ (.int v14 :: _)
            refine x_via 293 (A' := (A.wI I14)) (lv' := [none, none, none, none, none, none, none]) (st' := [.int (if v14 = 0 then (0 : Int32) else (1 : Int32))]) ?_ (fun k293 => ?_)
            rotate_left
            · refine x_if_eq (tgt := 292) dX13_tells_285 (by decide) (fun c285 => ?_) (fun c285 => ?_)
              · refine x_iconst_ (v := (0 : Int32)) dX13_tells_292 (by decide) ?_
                change X _ _ _ _ _ _ [some (.ref m), some (.int f), some (.int v3), some (.int v4), some (.int v12), none, none] [.int (0 : Int32)]
                simp only [if_pos c285] at k293 ⊢
                exact X.weak (xle_n (xle_n (xle_n (xle_n (xle_n (xle_n (xle_n xle_nil))))))) k293
              · refine x_iconst_ (v := (1 : Int32)) dX13_tells_288 (by decide) ?_
                refine x_goto (tgt := 293) dX13_tells_289 (by decide) ?_
                change X _ _ _ _ _ _ [some (.ref m), some (.int f), some (.int v3), some (.int v4), some (.int v12), none, none] [.int (1 : Int32)]
                simp only [if_neg c285] at k293 ⊢
                exact X.weak (xle_n (xle_n (xle_n (xle_n (xle_n (xle_n (xle_n xle_nil))))))) k293
            exact x_zret dX13_tells_293 rfl ite01 ⟨_, _, rfl, rfl, ite01, h⟩
        · replace h := h.2 c90
          refine x_iconst_ (v := (0 : Int32)) dX13_tells_93 (by decide) ?_
          exact x_zret dX13_tells_94 rfl (by decide) ⟨_, _, rfl, rfl, (by decide), h⟩
      · replace h := h.1 c53
        refine x_aload_n dX13_tells_56 rfl ?_
        refine x_iconst_ (v := (0 : Int32)) dX13_tells_57 (by decide) ?_
        obtain ⟨R15, g15, h⟩ := h
        refine x_callV hG (Ky := kX13_isWord) (As := [.int (0 : Int32)]) dX13_tells_58 (mo_t hM) rfl lk_X13_263 me_X13_isWord is_X13_isWord se_X13_isWord rfl rfl (Nat.le_of_ble_eq_true rfl) (MX.post (m_X13_isWord hG hM g15) ?_)
        rintro _ _ ⟨v15, I15, rfl, rfl, zv15, h1⟩
        replace h := h v15 I15 zv15 h1
        change X _ _ _ _ (A.wI I15) _ _ (.int v15 :: _)
        refine x_if_ne (tgt := 70) dX13_tells_61 (by decide) (fun c61 => ?_) (fun c61 => ?_)
        · replace h := h.2 c61
          refine x_aload_n dX13_tells_70 rfl ?_
          refine x_dup dX13_tells_71 rfl ?_
          refine x_get (v := .int (I15 m 42)) hG dX13_tells_72 f_X13_233_12 (mo_t hM) rfl ?_
          refine x_iconst_ (v := (1 : Int32)) dX13_tells_75 (by decide) ?_
          refine x_iadd dX13_tells_76 ?_
          refine y_put hG hM dX13_tells_77 f_X13_233_12 ⟨_, rfl, Or.inl rfl⟩ rfl rfl ⟨_, rfl⟩ (fun I16 e16 => ?_)
          replace h := h I16 e16
          refine x_aload_n dX13_tells_80 rfl ?_
          obtain ⟨R17, g17, h⟩ := h
          refine x_callV hG (Ky := kX13_name) (As := []) dX13_tells_81 (mo_t hM) rfl lk_X13_317 me_X13_name is_X13_name se_X13_name rfl rfl (Nat.le_of_ble_eq_true rfl) (MX.post (m_X13_name hG hM g17) ?_)
          rintro _ _ ⟨v17, I17, rfl, rfl, h1⟩
          replace h := h v17 I17 h1
          change X _ _ _ _ (A.wI I17) _ _ (.int v17 :: _)
          refine x_istore dX13_tells_84 (by decide) ?_
          refine x_aload_n dX13_tells_86 rfl ?_
          refine x_get (v := .int (I17 m 44)) hG dX13_tells_87 f_X13_230_12 (mo_t hM) rfl ?_
          refine x_if_le (tgt := 95) dX13_tells_90 (by decide) (fun c90 => ?_) (fun c90 => ?_)
          · replace h := h.1 c90
            refine x_iload_n dX13_tells_95 rfl ?_
            refine x_if_ne (tgt := 117) dX13_tells_96 (by decide) (fun h => absurd c53 h) (fun _ => ?_)
            refine x_aload_n dX13_tells_99 rfl ?_
            refine x_bipush_ (v := (22 : Int32)) dX13_tells_100 (by decide) ?_
            obtain ⟨R18, g18, h⟩ := h
            refine x_callV hG (Ky := kX13_isSign) (As := [.int (22 : Int32)]) dX13_tells_102 (mo_t hM) rfl lk_X13_257 me_X13_isSign is_X13_isSign se_X13_isSign rfl rfl (Nat.le_of_ble_eq_true rfl) (MX.post (m_X13_isSign hG hM g18) ?_)
            rintro _ _ ⟨v18, I18, rfl, rfl, zv18, h1⟩
            replace h := h v18 I18 zv18 h1
            change X _ _ _ _ (A.wI I18) _ _ (.int v18 :: _)
            refine x_if_eq (tgt := 117) dX13_tells_105 (by decide) (fun c105 => ?_) (fun c105 => ?_)
            · replace h := h.1 c105
              refine x_iload_n dX13_tells_117 rfl ?_
              refine x_if_eq (tgt := 127) dX13_tells_118 (by decide) (fun _ => ?_) (fun h => absurd c49 h)
              refine x_iload_n dX13_tells_127 rfl ?_
              refine x_if_ne (tgt := 164) dX13_tells_128 (by decide) (fun h => absurd c53 h) (fun _ => ?_)
              refine x_aload_n dX13_tells_131 rfl ?_
              refine x_bipush_ (v := (29 : Int32)) dX13_tells_132 (by decide) ?_
              obtain ⟨R19, g19, h⟩ := h
              refine x_callV hG (Ky := kX13_isSign) (As := [.int (29 : Int32)]) dX13_tells_134 (mo_t hM) rfl lk_X13_257 me_X13_isSign is_X13_isSign se_X13_isSign rfl rfl (Nat.le_of_ble_eq_true rfl) (MX.post (m_X13_isSign hG hM g19) ?_)
              rintro _ _ ⟨v19, I19, rfl, rfl, zv19, h1⟩
              replace h := h v19 I19 zv19 h1
              change X _ _ _ _ (A.wI I19) _ _ (.int v19 :: _)
              refine x_if_eq (tgt := 164) dX13_tells_137 (by decide) (fun c137 => ?_) (fun c137 => ?_)
              · replace h := h.1 c137
                refine x_iload_n dX13_tells_164 rfl ?_
                refine x_if_ne (tgt := 269) dX13_tells_165 (by decide) (fun h => absurd c53 h) (fun _ => ?_)
                refine x_aload_n dX13_tells_168 rfl ?_
                refine x_bipush_ (v := (32 : Int32)) dX13_tells_169 (by decide) ?_
                obtain ⟨R20, g20, h⟩ := h
                refine x_callV hG (Ky := kX13_isSign) (As := [.int (32 : Int32)]) dX13_tells_171 (mo_t hM) rfl lk_X13_257 me_X13_isSign is_X13_isSign se_X13_isSign rfl rfl (Nat.le_of_ble_eq_true rfl) (MX.post (m_X13_isSign hG hM g20) ?_)
                rintro _ _ ⟨v20, I20, rfl, rfl, zv20, h1⟩
                replace h := h v20 I20 zv20 h1
                change X _ _ _ _ (A.wI I20) _ _ (.int v20 :: _)
                refine x_if_eq (tgt := 269) dX13_tells_174 (by decide) (fun c174 => ?_) (fun c174 => ?_)
                · replace h := h.1 c174
                  refine x_aload_n dX13_tells_269 rfl ?_
                  refine x_iload dX13_tells_270 rfl ?_
                  refine x_iload_n dX13_tells_272 rfl ?_
                  obtain ⟨R21, g21, h⟩ := h
                  refine x_callV hG (Ky := kX13_array) (As := [.int v17, .int v4]) dX13_tells_273 (mo_t hM) rfl lk_X13_342 me_X13_array is_X13_array se_X13_array rfl rfl (Nat.le_of_ble_eq_true rfl) (MX.post (m_X13_array hG hM g21) ?_)
                  rintro _ _ ⟨v21, I21, rfl, rfl, zv21, h1⟩
                  replace h := h v21 I21 zv21 h1
                  change X _ _ _ _ (A.wI I21) _ _ (.int v21 :: _)
                  refine x_if_eq (tgt := 292) dX13_tells_276 (by decide) (fun c276 => ?_) (fun c276 => ?_)
                  · replace h := h.1 c276
                    refine x_iconst_ (v := (0 : Int32)) dX13_tells_292 (by decide) ?_
                    exact x_zret dX13_tells_293 rfl (by decide) ⟨_, _, rfl, rfl, (by decide), h⟩
                  · replace h := h.2 c276
                    refine x_aload_n dX13_tells_279 rfl ?_
                    refine x_bipush_ (v := (29 : Int32)) dX13_tells_280 (by decide) ?_
                    obtain ⟨R22, g22, h⟩ := h
                    refine x_callV hG (Ky := kX13_sign) (As := [.int (29 : Int32)]) dX13_tells_282 (mo_t hM) rfl lk_X13_273 me_X13_sign is_X13_sign se_X13_sign rfl rfl (Nat.le_of_ble_eq_true rfl) (MX.post (m_X13_sign hG hM g22) ?_)
                    rintro _ _ ⟨v22, I22, rfl, rfl, zv22, h1⟩
                    replace h := h v22 I22 zv22 h1
                    change X _ _ _ _ (A.wI I22) _ _ (.int v22 :: _)
                    refine x_via 293 (A' := (A.wI I22)) (lv' := [none, none, none, none, none, none, none]) (st' := [.int (if v22 = 0 then (0 : Int32) else (1 : Int32))]) ?_ (fun k293 => ?_)
                    rotate_left
                    · refine x_if_eq (tgt := 292) dX13_tells_285 (by decide) (fun c285 => ?_) (fun c285 => ?_)
                      · refine x_iconst_ (v := (0 : Int32)) dX13_tells_292 (by decide) ?_
                        change X _ _ _ _ _ _ [some (.ref m), some (.int f), some (.int v3), some (.int v4), some (.int v17), none, none] [.int (0 : Int32)]
                        simp only [if_pos c285] at k293 ⊢
                        exact X.weak (xle_n (xle_n (xle_n (xle_n (xle_n (xle_n (xle_n xle_nil))))))) k293
                      · refine x_iconst_ (v := (1 : Int32)) dX13_tells_288 (by decide) ?_
                        refine x_goto (tgt := 293) dX13_tells_289 (by decide) ?_
                        change X _ _ _ _ _ _ [some (.ref m), some (.int f), some (.int v3), some (.int v4), some (.int v17), none, none] [.int (1 : Int32)]
                        simp only [if_neg c285] at k293 ⊢
                        exact X.weak (xle_n (xle_n (xle_n (xle_n (xle_n (xle_n (xle_n xle_nil))))))) k293
                    exact x_zret dX13_tells_293 rfl ite01 ⟨_, _, rfl, rfl, ite01, h⟩
                · replace h := h.2 c174
                  refine x_aload_n dX13_tells_177 rfl ?_
                  refine x_iload dX13_tells_178 rfl ?_
                  obtain ⟨R23, g23, h⟩ := h
                  refine x_callV hG (Ky := kX13_globalAt) (As := [.int v17]) dX13_tells_180 (mo_t hM) rfl lk_X13_327 me_X13_globalAt is_X13_globalAt se_X13_globalAt rfl rfl (Nat.le_of_ble_eq_true rfl) (MX.post (m_X13_globalAt hG hM g23) ?_)
                  rintro _ _ ⟨v23, I23, rfl, rfl, h1⟩
                  replace h := h v23 I23 h1
                  change X _ _ _ _ (A.wI I23) _ _ (.int v23 :: _)
                  refine x_istore dX13_tells_183 (by decide) ?_
                  refine x_aload_n dX13_tells_185 rfl ?_
                  refine x_dup dX13_tells_186 rfl ?_
                  refine x_get (v := .int (I23 m 42)) hG dX13_tells_187 f_X13_233_12 (mo_t hM) rfl ?_
                  refine x_iconst_ (v := (1 : Int32)) dX13_tells_190 (by decide) ?_
                  refine x_iadd dX13_tells_191 ?_
                  refine y_put hG hM dX13_tells_192 f_X13_233_12 ⟨_, rfl, Or.inl rfl⟩ rfl rfl ⟨_, rfl⟩ (fun I24 e24 => ?_)
                  replace h := h I24 e24
                  refine x_aload_n dX13_tells_195 rfl ?_
                  obtain ⟨R25, g25, h⟩ := h
                  refine x_callV hG (Ky := kX13_value) (As := []) dX13_tells_196 (mo_t hM) rfl lk_X13_330 me_X13_value is_X13_value se_X13_value rfl rfl (Nat.le_of_ble_eq_true rfl) (MX.post (m_X13_value hG hM g25) ?_)
                  rintro _ _ ⟨v25, I25, rfl, rfl, h1⟩
                  replace h := h v25 I25 h1
                  change X _ _ _ _ (A.wI I25) _ _ (.int v25 :: _)
                  refine x_istore dX13_tells_199 (by decide) ?_
                  refine x_aload_n dX13_tells_201 rfl ?_
                  refine x_get (v := .int (I25 m 44)) hG dX13_tells_202 f_X13_230_12 (mo_t hM) rfl ?_
                  refine x_if_le (tgt := 210) dX13_tells_205 (by decide) (fun c205 => ?_) (fun c205 => ?_)
                  · replace h := h.1 c205
                    refine x_aload_n dX13_tells_210 rfl ?_
                    refine x_get (v := .int (I25 m 46)) hG dX13_tells_211 f_X13_245_12 (mo_t hM) rfl ?_
                    obtain ⟨J26, g26, h⟩ := h
                    have kj26 : ∀ (I26 : xII), J26 I26 → X G (dp + 918) kX13_tells (oZ A Q) (A.wI I26) 239 [some (.ref m), none, none, none, some (.int v17), some (.int v23), none] [] := by
                      intro I26 h
                      replace h := g26 I26 h
                      refine x_aload_n dX13_tells_239 rfl ?_
                      refine x_iload dX13_tells_240 rfl ?_
                      refine x_iconst_ (v := (1 : Int32)) dX13_tells_242 (by decide) ?_
                      refine x_iconst_ (v := (0 : Int32)) dX13_tells_243 (by decide) ?_
                      refine x_aload_n dX13_tells_244 rfl ?_
                      refine x_get (v := .ref (m + 29)) hG dX13_tells_245 f_X13_95_12 (mo_t hM) (congrArg va_rf (mo_P39 hM)) ?_
                      refine x_iload dX13_tells_248 rfl ?_
                      refine x_sipush_ (v := (2000 : Int32)) dX13_tells_250 (by decide) ?_
                      refine x_callS hG (Ky := kJ11_min) (As := [.int v23, .int (2000 : Int32)]) dX13_tells_253 lk_X13_333 me_J11_min st_J11_min rfl rfl (Nat.le_of_ble_eq_true rfl) (MX.post (m_J11_min hG) ?_)
                      rintro _ _ ⟨rfl, rfl⟩
                      change X _ _ _ _ _ _ _ (.int (f_J11_min v23 (2000 : Int32)) :: _)
                      obtain ⟨o27, h⟩ := h
                      refine y_iald hG dX13_tells_256 (mo_t39 hM) (mo_n39 hM) o27 ?_
                      refine x_iconst_ (v := (1 : Int32)) dX13_tells_257 (by decide) ?_
                      refine x_iconst_ (v := (0 : Int32)) dX13_tells_258 (by decide) ?_
                      obtain ⟨R28, g28, h⟩ := h
                      refine x_callV hG (Ky := kX13_declare) (As := [.int v17, .int (1 : Int32), .int (0 : Int32), .int (I26 (m + 29) (ix (f_J11_min v23 (2000 : Int32)))), .int (1 : Int32), .int (0 : Int32)]) dX13_tells_259 (mo_t hM) rfl lk_X13_338 me_X13_declare is_X13_declare se_X13_declare rfl rfl (Nat.le_of_ble_eq_true rfl) (MX.post (m_X13_declare hG hM g28) ?_)
                      rintro _ _ ⟨I28, rfl, rfl, h1⟩
                      replace h := h I28 h1
                      change X _ _ _ _ (A.wI I28) _ _ _
                      refine x_aload_n dX13_tells_262 rfl ?_
                      refine x_bipush_ (v := (29 : Int32)) dX13_tells_263 (by decide) ?_
                      obtain ⟨R29, g29, h⟩ := h
                      refine x_callV hG (Ky := kX13_sign) (As := [.int (29 : Int32)]) dX13_tells_265 (mo_t hM) rfl lk_X13_273 me_X13_sign is_X13_sign se_X13_sign rfl rfl (Nat.le_of_ble_eq_true rfl) (MX.post (m_X13_sign hG hM g29) ?_)
                      rintro _ _ ⟨v29, I29, rfl, rfl, zv29, h1⟩
                      replace h := h v29 I29 zv29 h1
                      change X _ _ _ _ (A.wI I29) _ _ (.int v29 :: _)
                      exact x_zret dX13_tells_268 rfl zv29 ⟨_, _, rfl, rfl, zv29, h⟩
                    refine x_if_le (tgt := 239) dX13_tells_214 (by decide) (fun c214 => ?_) (fun c214 => ?_)
                    · replace h := h.1 c214
                      change X _ _ _ _ _ _ [some (.ref m), some (.int f), some (.int v3), some (.int v4), some (.int v17), some (.int v23), some (.int v25)] []
                      exact X.weak (xle_c rfl (xle_n (xle_n (xle_n (xle_c rfl (xle_c rfl (xle_n xle_nil))))))) (kj26 I25 h)
                    · replace h := h.2 c214
                      refine x_iload dX13_tells_217 rfl ?_
                      refine x_sipush_ (v := (2000 : Int32)) dX13_tells_219 (by decide) ?_
                      refine x_icmp_ge (tgt := 239) dX13_tells_222 (by decide) (fun c222 => ?_) (fun c222 => ?_)
                      · replace h := h.1 c222
                        change X _ _ _ _ _ _ [some (.ref m), some (.int f), some (.int v3), some (.int v4), some (.int v17), some (.int v23), some (.int v25)] []
                        exact X.weak (xle_c rfl (xle_n (xle_n (xle_n (xle_c rfl (xle_c rfl (xle_n xle_nil))))))) (kj26 I25 h)
                      · replace h := h.2 c222
                        refine x_aload_n dX13_tells_225 rfl ?_
                        refine x_get (v := .ref (m + 31)) hG dX13_tells_226 f_X13_101_12 (mo_t hM) (congrArg va_rf (mo_P41 hM)) ?_
                        refine x_aload_n dX13_tells_229 rfl ?_
                        refine x_get (v := .ref (m + 29)) hG dX13_tells_230 f_X13_95_12 (mo_t hM) (congrArg va_rf (mo_P39 hM)) ?_
                        refine x_iload dX13_tells_233 rfl ?_
                        obtain ⟨o30, h⟩ := h
                        refine y_iald hG dX13_tells_235 (mo_t39 hM) (mo_n39 hM) o30 ?_
                        refine x_iload dX13_tells_236 rfl ?_
                        obtain ⟨o31, h⟩ := h
                        refine y_iast hG dX13_tells_238 (mo_t41 hM) (mo_aN hM) (mo_n41 hM) o31 (fun I32 e32 => ?_)
                        replace h := h I32 e32
                        change X _ _ _ _ _ _ [some (.ref m), some (.int f), some (.int v3), some (.int v4), some (.int v17), some (.int v23), some (.int v25)] []
                        exact X.weak (xle_c rfl (xle_n (xle_n (xle_n (xle_c rfl (xle_c rfl (xle_n xle_nil))))))) (kj26 I32 h)
                  · replace h := h.2 c205
                    refine x_iconst_ (v := (0 : Int32)) dX13_tells_208 (by decide) ?_
                    exact x_zret dX13_tells_209 rfl (by decide) ⟨_, _, rfl, rfl, (by decide), h⟩
              · replace h := h.2 c137
                refine x_aload_n dX13_tells_140 rfl ?_
                refine x_iload dX13_tells_141 rfl ?_
                obtain ⟨R33, g33, h⟩ := h
                refine x_callV hG (Ky := kX13_globalInt) (As := [.int v17]) dX13_tells_143 (mo_t hM) rfl lk_X13_324 me_X13_globalInt is_X13_globalInt se_X13_globalInt rfl rfl (Nat.le_of_ble_eq_true rfl) (MX.post (m_X13_globalInt hG hM g33) ?_)
                rintro _ _ ⟨v33, I33, rfl, rfl, zv33, h1⟩
                replace h := h v33 I33 zv33 h1
                change X _ _ _ _ (A.wI I33) _ _ (.int v33 :: _)
                refine x_if_eq (tgt := 162) dX13_tells_146 (by decide) (fun c146 => ?_) (fun c146 => ?_)
                · replace h := h.1 c146
                  refine x_iconst_ (v := (0 : Int32)) dX13_tells_162 (by decide) ?_
                  exact x_zret dX13_tells_163 rfl (by decide) ⟨_, _, rfl, rfl, (by decide), h⟩
                · replace h := h.2 c146
                  refine x_aload_n dX13_tells_149 rfl ?_
                  refine x_bipush_ (v := (29 : Int32)) dX13_tells_150 (by decide) ?_
                  obtain ⟨R34, g34, h⟩ := h
                  refine x_callV hG (Ky := kX13_sign) (As := [.int (29 : Int32)]) dX13_tells_152 (mo_t hM) rfl lk_X13_273 me_X13_sign is_X13_sign se_X13_sign rfl rfl (Nat.le_of_ble_eq_true rfl) (MX.post (m_X13_sign hG hM g34) ?_)
                  rintro _ _ ⟨v34, I34, rfl, rfl, zv34, h1⟩
                  replace h := h v34 I34 zv34 h1
                  change X _ _ _ _ (A.wI I34) _ _ (.int v34 :: _)
                  refine x_via 163 (A' := (A.wI I34)) (lv' := [none, none, none, none, none, none, none]) (st' := [.int (if v34 = 0 then (0 : Int32) else (1 : Int32))]) ?_ (fun k163 => ?_)
                  rotate_left
                  · refine x_if_eq (tgt := 162) dX13_tells_155 (by decide) (fun c155 => ?_) (fun c155 => ?_)
                    · refine x_iconst_ (v := (0 : Int32)) dX13_tells_162 (by decide) ?_
                      change X _ _ _ _ _ _ [some (.ref m), some (.int f), some (.int v3), some (.int v4), some (.int v17), none, none] [.int (0 : Int32)]
                      simp only [if_pos c155] at k163 ⊢
                      exact X.weak (xle_n (xle_n (xle_n (xle_n (xle_n (xle_n (xle_n xle_nil))))))) k163
                    · refine x_iconst_ (v := (1 : Int32)) dX13_tells_158 (by decide) ?_
                      refine x_goto (tgt := 163) dX13_tells_159 (by decide) ?_
                      change X _ _ _ _ _ _ [some (.ref m), some (.int f), some (.int v3), some (.int v4), some (.int v17), none, none] [.int (1 : Int32)]
                      simp only [if_neg c155] at k163 ⊢
                      exact X.weak (xle_n (xle_n (xle_n (xle_n (xle_n (xle_n (xle_n xle_nil))))))) k163
                  exact x_zret dX13_tells_163 rfl ite01 ⟨_, _, rfl, rfl, ite01, h⟩
            · replace h := h.2 c105
              refine x_aload_n dX13_tells_108 rfl ?_
              refine x_iload_n dX13_tells_109 rfl ?_
              refine x_iload dX13_tells_110 rfl ?_
              refine x_iload_n dX13_tells_112 rfl ?_
              obtain ⟨R35, g35, h⟩ := h
              refine x_callV hG (Ky := kX13_function) (As := [.int f, .int v17, .int v3]) dX13_tells_113 (mo_t hM) rfl lk_X13_320 me_X13_function is_X13_function se_X13_function rfl rfl (Nat.le_of_ble_eq_true rfl) (MX.post (m_X13_function hG hM g35) ?_)
              rintro _ _ ⟨v35, I35, rfl, rfl, zv35, h1⟩
              replace h := h v35 I35 zv35 h1
              change X _ _ _ _ (A.wI I35) _ _ (.int v35 :: _)
              exact x_zret dX13_tells_116 rfl zv35 ⟨_, _, rfl, rfl, zv35, h⟩
          · replace h := h.2 c90
            refine x_iconst_ (v := (0 : Int32)) dX13_tells_93 (by decide) ?_
            exact x_zret dX13_tells_94 rfl (by decide) ⟨_, _, rfl, rfl, (by decide), h⟩
        · replace h := h.1 c61
          refine x_aload_n dX13_tells_64 rfl ?_
          refine x_iconst_ (v := (2 : Int32)) dX13_tells_65 (by decide) ?_
          obtain ⟨R36, g36, h⟩ := h
          refine x_callV hG (Ky := kX13_fails) (As := [.int (2 : Int32)]) dX13_tells_66 (mo_t hM) rfl lk_X13_260 me_X13_fails is_X13_fails se_X13_fails rfl rfl (Nat.le_of_ble_eq_true rfl) (MX.post (m_X13_fails hG hM g36) ?_)
          rintro _ _ ⟨v36, I36, rfl, rfl, zv36, h1⟩
          replace h := h v36 I36 zv36 h1
          change X _ _ _ _ (A.wI I36) _ _ (.int v36 :: _)
          exact x_zret dX13_tells_69 rfl zv36 ⟨_, _, rfl, rfl, zv36, h⟩
  · replace h := h.2 c11
    refine x_aload_n dX13_tells_14 rfl ?_
    refine x_iconst_ (v := (0 : Int32)) dX13_tells_15 (by decide) ?_
    refine x_iconst_ (v := (1 : Int32)) dX13_tells_16 (by decide) ?_
    obtain ⟨R37, g37, h⟩ := h
    refine x_callV hG (Ky := kX13_word) (As := [.int (0 : Int32), .int (1 : Int32)]) dX13_tells_17 (mo_t hM) rfl lk_X13_310 me_X13_word is_X13_word se_X13_word rfl rfl (Nat.le_of_ble_eq_true rfl) (MX.post (m_X13_word hG hM g37) ?_)
    rintro _ _ ⟨v37, I37, rfl, rfl, zv37, h1⟩
    replace h := h v37 I37 zv37 h1
    change X _ _ _ _ (A.wI I37) _ _ (.int v37 :: _)
    refine x_if_eq (tgt := 34) dX13_tells_20 (by decide) (fun c20 => ?_) (fun c20 => ?_)
    · replace h := h.1 c20
      refine x_iconst_ (v := (0 : Int32)) dX13_tells_34 (by decide) ?_
      exact x_zret dX13_tells_35 rfl (by decide) ⟨_, _, rfl, rfl, (by decide), h⟩
    · replace h := h.2 c20
      refine x_aload_n dX13_tells_23 rfl ?_
      obtain ⟨R38, g38, h⟩ := h
      refine x_callV hG (Ky := kX13_constantTold) (As := []) dX13_tells_24 (mo_t hM) rfl lk_X13_314 me_X13_constantTold is_X13_constantTold se_X13_constantTold rfl rfl (Nat.le_of_ble_eq_true rfl) (MX.post (m_X13_constantTold hG hM g38) ?_)
      rintro _ _ ⟨v38, I38, rfl, rfl, zv38, h1⟩
      replace h := h v38 I38 zv38 h1
      change X _ _ _ _ (A.wI I38) _ _ (.int v38 :: _)
      refine x_via 35 (A' := (A.wI I38)) (lv' := [none, none, none, none, none, none, none]) (st' := [.int (if v38 = 0 then (0 : Int32) else (1 : Int32))]) ?_ (fun k35 => ?_)
      rotate_left
      · refine x_if_eq (tgt := 34) dX13_tells_27 (by decide) (fun c27 => ?_) (fun c27 => ?_)
        · refine x_iconst_ (v := (0 : Int32)) dX13_tells_34 (by decide) ?_
          change X _ _ _ _ _ _ [some (.ref m), some (.int f), none, none, none, none, none] [.int (0 : Int32)]
          simp only [if_pos c27] at k35 ⊢
          exact X.weak (xle_n (xle_n (xle_n (xle_n (xle_n (xle_n (xle_n xle_nil))))))) k35
        · refine x_iconst_ (v := (1 : Int32)) dX13_tells_30 (by decide) ?_
          refine x_goto (tgt := 35) dX13_tells_31 (by decide) ?_
          change X _ _ _ _ _ _ [some (.ref m), some (.int f), none, none, none, none, none] [.int (1 : Int32)]
          simp only [if_neg c27] at k35 ⊢
          exact X.weak (xle_n (xle_n (xle_n (xle_n (xle_n (xle_n (xle_n xle_nil))))))) k35
      exact x_zret dX13_tells_35 rfl ite01 ⟨_, _, rfl, rfl, ite01, h⟩
def w_X13_texts (m : Nat) (Q : Int32 → xII → Prop) (I : xII) : Prop := ∀ I1 : xII, I1 = xup I m 42 (0 : Int32) → (∀ I2 : xII, I2 = xup I1 m 43 (0 : Int32) → (∀ I3 : xII, I3 = xup I2 m 14 (0 : Int32) → (∀ I4 : xII, I4 = xup I3 m 15 (0 : Int32) → (∀ I5 : xII, I5 = xup I4 m 60 (0 : Int32) → (∀ I6 : xII, I6 = xup I5 m 70 (0 : Int32) → (∀ I7 : xII, I7 = xup I6 m 36 (0 : Int32) → (∀ I8 : xII, I8 = xup I7 m 37 (0 : Int32) → (∀ I9 : xII, I9 = xup I8 m 50 (-1 : Int32) → (∀ I10 : xII, I10 = xup I9 m 24 (if (I m 46) = 0 then (0 : Int32) else (I m 24)) → (∀ I11 : xII, I11 = xup I10 m 35 (if (I m 46) = 0 then (0 : Int32) else (I m 35)) → (∃ L12 : Nat → Int32 → Int32 → xII → Prop, (∃ n12 : Nat, L12 n12 (0 : Int32) (1 : Int32) I11) ∧ (∀ (n12 : Nat) (y12_1 : Int32) (y12_2 : Int32) (I12 : xII), L12 n12 y12_1 y12_2 I12 → ∃ J13 : Prop, (J13 → (((I12 m 44) = 0 → (((I12 m 8) = (-1 : Int32) → Q (1 : Int32) I12) ∧ (¬ (I12 m 8) = (-1 : Int32) → ∃ R14 : Int32 → xII → Prop, w_X13_fails m (1 : Int32) R14 I12 ∧ (∀ (v14 : Int32) (I14 : xII), (v14 = 0 ∨ v14 = 1) → R14 v14 I14 → (Q (if v14 = 0 then (0 : Int32) else (1 : Int32)) I14))))) ∧ (¬ (I12 m 44) = 0 → Q (0 : Int32) I12))) ∧ ((y12_2 = 0 → J13) ∧ (¬ y12_2 = 0 → vp_in (I12 m 42) 4002 ∧ ((((I12 (m + 3) (ix (I12 m 42))) = 0 → J13) ∧ (¬ (I12 (m + 3) (ix (I12 m 42))) = 0 → ∃ R16 : Int32 → xII → Prop, w_X13_tells m y12_1 R16 I12 ∧ (∀ (v16 : Int32) (I16 : xII), (v16 = 0 ∨ v16 = 1) → R16 v16 I16 → ((∃ q12 : Nat, q12 < n12 ∧ L12 q12 (y12_1 + (if (I16 m 61) = 0 then (0 : Int32) else (1 : Int32))) v16 I16))))))))))))))))))))
theorem m_X13_texts (hG : xOK G) {dp : Nat} {A : xA} {m : Nat} (hM : xMo G A m) {Q : Int32 → xII → Prop} {I : xII} (h : w_X13_texts m Q I) : MX G (dp + 919) kX13_texts [.ref m] (A.wI I) (oZ A Q) := by
  unfold w_X13_texts at h
  refine MX.of rfl (Nat.le_of_ble_eq_true rfl) ?_
  change X _ _ _ _ _ _ [some (.ref m), none, none] _
  refine x_aload_n dX13_texts_0 rfl ?_
  refine x_iconst_ (v := (0 : Int32)) dX13_texts_1 (by decide) ?_
  refine y_put hG hM dX13_texts_2 f_X13_233_12 ⟨_, rfl, Or.inl rfl⟩ rfl rfl ⟨_, rfl⟩ (fun I1 e1 => ?_)
  replace h := h I1 e1
  refine x_aload_n dX13_texts_5 rfl ?_
  refine x_iconst_ (v := (0 : Int32)) dX13_texts_6 (by decide) ?_
  refine y_put hG hM dX13_texts_7 f_X13_266_12 ⟨_, rfl, Or.inl rfl⟩ rfl rfl ⟨_, rfl⟩ (fun I2 e2 => ?_)
  replace h := h I2 e2
  refine x_aload_n dX13_texts_10 rfl ?_
  refine x_iconst_ (v := (0 : Int32)) dX13_texts_11 (by decide) ?_
  refine y_put hG hM dX13_texts_12 f_X13_279_12 ⟨_, rfl, Or.inl rfl⟩ rfl rfl ⟨_, rfl⟩ (fun I3 e3 => ?_)
  replace h := h I3 e3
  refine x_aload_n dX13_texts_15 rfl ?_
  refine x_iconst_ (v := (0 : Int32)) dX13_texts_16 (by decide) ?_
  refine y_put hG hM dX13_texts_17 f_X13_282_12 ⟨_, rfl, Or.inl rfl⟩ rfl rfl ⟨_, rfl⟩ (fun I4 e4 => ?_)
  replace h := h I4 e4
  refine x_aload_n dX13_texts_20 rfl ?_
  refine x_iconst_ (v := (0 : Int32)) dX13_texts_21 (by decide) ?_
  refine y_put hG hM dX13_texts_22 f_X13_276_12 ⟨_, rfl, Or.inl rfl⟩ rfl rfl ⟨_, rfl⟩ (fun I5 e5 => ?_)
  replace h := h I5 e5
  refine x_aload_n dX13_texts_25 rfl ?_
  refine x_iconst_ (v := (0 : Int32)) dX13_texts_26 (by decide) ?_
  refine y_put hG hM dX13_texts_27 f_X13_285_12 ⟨_, rfl, Or.inl rfl⟩ rfl rfl ⟨_, rfl⟩ (fun I6 e6 => ?_)
  replace h := h I6 e6
  refine x_aload_n dX13_texts_30 rfl ?_
  refine x_iconst_ (v := (0 : Int32)) dX13_texts_31 (by decide) ?_
  refine y_put hG hM dX13_texts_32 f_X13_288_12 ⟨_, rfl, Or.inl rfl⟩ rfl rfl ⟨_, rfl⟩ (fun I7 e7 => ?_)
  replace h := h I7 e7
  refine x_aload_n dX13_texts_35 rfl ?_
  refine x_iconst_ (v := (0 : Int32)) dX13_texts_36 (by decide) ?_
  refine y_put hG hM dX13_texts_37 f_X13_291_12 ⟨_, rfl, Or.inl rfl⟩ rfl rfl ⟨_, rfl⟩ (fun I8 e8 => ?_)
  replace h := h I8 e8
  refine x_aload_n dX13_texts_40 rfl ?_
  refine x_iconst_ (v := (-1 : Int32)) dX13_texts_41 (by decide) ?_
  refine y_put hG hM dX13_texts_42 f_X13_294_12 ⟨_, rfl, Or.inl rfl⟩ rfl rfl ⟨_, rfl⟩ (fun I9 e9 => ?_)
  replace h := h I9 e9
  refine x_aload_n dX13_texts_45 rfl ?_
  refine x_aload_n dX13_texts_46 rfl ?_
  refine x_get (v := .int (I9 m 46)) hG dX13_texts_47 f_X13_245_12 (mo_t hM) rfl ?_
  refine x_eqi (v := (I m 46)) ((xup_rk e9 (by decide)).trans ((xup_rk e8 (by decide)).trans ((xup_rk e7 (by decide)).trans ((xup_rk e6 (by decide)).trans ((xup_rk e5 (by decide)).trans ((xup_rk e4 (by decide)).trans ((xup_rk e3 (by decide)).trans ((xup_rk e2 (by decide)).trans (xup_rk e1 (by decide)))))))))) ?_
  refine x_via 61 (A' := (A.wI I9)) (lv' := [some (.ref m), none, none]) (st' := [.int (if (I m 46) = 0 then (0 : Int32) else (I m 24)), .ref m]) ?_ (fun k61 => ?_)
  rotate_left
  · refine x_if_ne (tgt := 57) dX13_texts_50 (by decide) (fun c50 => ?_) (fun c50 => ?_)
    · refine x_aload_n dX13_texts_57 rfl ?_
      refine x_get (v := .int (I9 m 24)) hG dX13_texts_58 f_X13_297_12 (mo_t hM) rfl ?_
      refine x_eqi (v := (I m 24)) ((xup_rk e9 (by decide)).trans ((xup_rk e8 (by decide)).trans ((xup_rk e7 (by decide)).trans ((xup_rk e6 (by decide)).trans ((xup_rk e5 (by decide)).trans ((xup_rk e4 (by decide)).trans ((xup_rk e3 (by decide)).trans ((xup_rk e2 (by decide)).trans (xup_rk e1 (by decide)))))))))) ?_
      change X _ _ _ _ _ _ [some (.ref m), none, none] [.int (I m 24), .ref m]
      simp only [if_neg c50] at k61 ⊢
      exact X.weak (xle_c rfl (xle_n (xle_n xle_nil))) k61
    · refine x_iconst_ (v := (0 : Int32)) dX13_texts_53 (by decide) ?_
      refine x_goto (tgt := 61) dX13_texts_54 (by decide) ?_
      change X _ _ _ _ _ _ [some (.ref m), none, none] [.int (0 : Int32), .ref m]
      simp only [if_pos c50] at k61 ⊢
      exact X.weak (xle_c rfl (xle_n (xle_n xle_nil))) k61
  refine y_put hG hM dX13_texts_61 f_X13_297_12 ⟨_, rfl, Or.inl rfl⟩ rfl rfl ⟨_, rfl⟩ (fun I10 e10 => ?_)
  replace h := h I10 e10
  refine x_iconst_ (v := (0 : Int32)) dX13_texts_64 (by decide) ?_
  refine x_istore_n dX13_texts_65 (by decide) ?_
  refine x_aload_n dX13_texts_66 rfl ?_
  refine x_aload_n dX13_texts_67 rfl ?_
  refine x_get (v := .int (I10 m 46)) hG dX13_texts_68 f_X13_245_12 (mo_t hM) rfl ?_
  refine x_eqi (v := (I m 46)) ((xup_rk e10 (by decide)).trans ((xup_rk e9 (by decide)).trans ((xup_rk e8 (by decide)).trans ((xup_rk e7 (by decide)).trans ((xup_rk e6 (by decide)).trans ((xup_rk e5 (by decide)).trans ((xup_rk e4 (by decide)).trans ((xup_rk e3 (by decide)).trans ((xup_rk e2 (by decide)).trans (xup_rk e1 (by decide))))))))))) ?_
  refine x_via 82 (A' := (A.wI I10)) (lv' := [some (.ref m), some (.int (0 : Int32)), none]) (st' := [.int (if (I m 46) = 0 then (0 : Int32) else (I m 35)), .ref m]) ?_ (fun k82 => ?_)
  rotate_left
  · refine x_if_ne (tgt := 78) dX13_texts_71 (by decide) (fun c71 => ?_) (fun c71 => ?_)
    · refine x_aload_n dX13_texts_78 rfl ?_
      refine x_get (v := .int (I10 m 35)) hG dX13_texts_79 f_X13_300_12 (mo_t hM) rfl ?_
      refine x_eqi (v := (I m 35)) ((xup_rk e10 (by decide)).trans ((xup_rk e9 (by decide)).trans ((xup_rk e8 (by decide)).trans ((xup_rk e7 (by decide)).trans ((xup_rk e6 (by decide)).trans ((xup_rk e5 (by decide)).trans ((xup_rk e4 (by decide)).trans ((xup_rk e3 (by decide)).trans ((xup_rk e2 (by decide)).trans (xup_rk e1 (by decide))))))))))) ?_
      change X _ _ _ _ _ _ [some (.ref m), some (.int (0 : Int32)), none] [.int (I m 35), .ref m]
      simp only [if_neg c71] at k82 ⊢
      exact X.weak (xle_c rfl (xle_c rfl (xle_n xle_nil))) k82
    · refine x_iconst_ (v := (0 : Int32)) dX13_texts_74 (by decide) ?_
      refine x_goto (tgt := 82) dX13_texts_75 (by decide) ?_
      change X _ _ _ _ _ _ [some (.ref m), some (.int (0 : Int32)), none] [.int (0 : Int32), .ref m]
      simp only [if_pos c71] at k82 ⊢
      exact X.weak (xle_c rfl (xle_c rfl (xle_n xle_nil))) k82
  refine y_put hG hM dX13_texts_82 f_X13_300_12 ⟨_, rfl, Or.inl rfl⟩ rfl rfl ⟨_, rfl⟩ (fun I11 e11 => ?_)
  replace h := h I11 e11
  refine x_iconst_ (v := (1 : Int32)) dX13_texts_85 (by decide) ?_
  refine x_istore_n dX13_texts_86 (by decide) ?_
  obtain ⟨L12, ⟨n12, i12⟩, g12⟩ := h
  have kl12 : ∀ n12 : Nat, ∀ (y12_1 : Int32) (y12_2 : Int32) (I12 : xII), L12 n12 y12_1 y12_2 I12 → X G (dp + 919) kX13_texts (oZ A Q) (A.wI I12) 87 [some (.ref m), some (.int y12_1), some (.int y12_2)] [] := by
    intro n12
    induction n12 using Nat.strongRecOn with
    | ind n12 ih12 =>
      intro y12_1 y12_2 I12 h
      replace h := g12 n12 y12_1 y12_2 I12 h
      refine x_iload_n dX13_texts_87 rfl ?_
      obtain ⟨J13, g13, h⟩ := h
      have kj13 : J13 → X G (dp + 919) kX13_texts (oZ A Q) (A.wI I12) 127 [some (.ref m), none, none] [] := by
        intro h
        replace h := g13 h
        refine x_aload_n dX13_texts_127 rfl ?_
        refine x_get (v := .int (I12 m 44)) hG dX13_texts_128 f_X13_230_12 (mo_t hM) rfl ?_
        refine x_if_ne (tgt := 154) dX13_texts_131 (by decide) (fun c131 => ?_) (fun c131 => ?_)
        · replace h := h.2 c131
          refine x_iconst_ (v := (0 : Int32)) dX13_texts_154 (by decide) ?_
          exact x_zret dX13_texts_155 rfl (by decide) ⟨_, _, rfl, rfl, (by decide), h⟩
        · replace h := h.1 c131
          refine x_aload_n dX13_texts_134 rfl ?_
          refine x_get (v := .int (I12 m 8)) hG dX13_texts_135 f_X13_184_12 (mo_t hM) rfl ?_
          refine x_iconst_ (v := (-1 : Int32)) dX13_texts_138 (by decide) ?_
          refine x_icmp_eq (tgt := 150) dX13_texts_139 (by decide) (fun c139 => ?_) (fun c139 => ?_)
          · replace h := h.1 c139
            refine x_iconst_ (v := (1 : Int32)) dX13_texts_150 (by decide) ?_
            refine x_goto (tgt := 155) dX13_texts_151 (by decide) ?_
            exact x_zret dX13_texts_155 rfl (by decide) ⟨_, _, rfl, rfl, (by decide), h⟩
          · replace h := h.2 c139
            refine x_aload_n dX13_texts_142 rfl ?_
            refine x_iconst_ (v := (1 : Int32)) dX13_texts_143 (by decide) ?_
            obtain ⟨R14, g14, h⟩ := h
            refine x_callV hG (Ky := kX13_fails) (As := [.int (1 : Int32)]) dX13_texts_144 (mo_t hM) rfl lk_X13_260 me_X13_fails is_X13_fails se_X13_fails rfl rfl (Nat.le_of_ble_eq_true rfl) (MX.post (m_X13_fails hG hM g14) ?_)
            rintro _ _ ⟨v14, I14, rfl, rfl, zv14, h1⟩
            replace h := h v14 I14 zv14 h1
            change X _ _ _ _ (A.wI I14) _ _ (.int v14 :: _)
            refine x_via 155 (A' := (A.wI I14)) (lv' := [none, none, none]) (st' := [.int (if v14 = 0 then (0 : Int32) else (1 : Int32))]) ?_ (fun k155 => ?_)
            rotate_left
            · refine x_if_eq (tgt := 154) dX13_texts_147 (by decide) (fun c147 => ?_) (fun c147 => ?_)
              · refine x_iconst_ (v := (0 : Int32)) dX13_texts_154 (by decide) ?_
                change X _ _ _ _ _ _ [some (.ref m), none, none] [.int (0 : Int32)]
                simp only [if_pos c147] at k155 ⊢
                exact X.weak (xle_n (xle_n (xle_n xle_nil))) k155
              · refine x_iconst_ (v := (1 : Int32)) dX13_texts_150 (by decide) ?_
                refine x_goto (tgt := 155) dX13_texts_151 (by decide) ?_
                change X _ _ _ _ _ _ [some (.ref m), none, none] [.int (1 : Int32)]
                simp only [if_neg c147] at k155 ⊢
                exact X.weak (xle_n (xle_n (xle_n xle_nil))) k155
            exact x_zret dX13_texts_155 rfl ite01 ⟨_, _, rfl, rfl, ite01, h⟩
      refine x_if_eq (tgt := 127) dX13_texts_88 (by decide) (fun c88 => ?_) (fun c88 => ?_)
      · replace h := h.1 c88
        change X _ _ _ _ _ _ [some (.ref m), some (.int y12_1), some (.int y12_2)] []
        exact X.weak (xle_c rfl (xle_n (xle_n xle_nil))) (kj13 h)
      · replace h := h.2 c88
        refine x_aload_n dX13_texts_91 rfl ?_
        refine x_get (v := .ref (m + 3)) hG dX13_texts_92 f_X13_16_12 (mo_t hM) (congrArg va_rf (mo_P4 hM)) ?_
        refine x_aload_n dX13_texts_95 rfl ?_
        refine x_get (v := .int (I12 m 42)) hG dX13_texts_96 f_X13_233_12 (mo_t hM) rfl ?_
        obtain ⟨o15, h⟩ := h
        refine y_iald hG dX13_texts_99 (mo_t4 hM) (mo_n4 hM) o15 ?_
        refine x_if_eq (tgt := 127) dX13_texts_100 (by decide) (fun c100 => ?_) (fun c100 => ?_)
        · replace h := h.1 c100
          change X _ _ _ _ _ _ [some (.ref m), some (.int y12_1), some (.int y12_2)] []
          exact X.weak (xle_c rfl (xle_n (xle_n xle_nil))) (kj13 h)
        · replace h := h.2 c100
          refine x_aload_n dX13_texts_103 rfl ?_
          refine x_iload_n dX13_texts_104 rfl ?_
          obtain ⟨R16, g16, h⟩ := h
          refine x_callV hG (Ky := kX13_tells) (As := [.int y12_1]) dX13_texts_105 (mo_t hM) rfl lk_X13_303 me_X13_tells is_X13_tells se_X13_tells rfl rfl (Nat.le_of_ble_eq_true rfl) (MX.post (m_X13_tells hG hM g16) ?_)
          rintro _ _ ⟨v16, I16, rfl, rfl, zv16, h1⟩
          replace h := h v16 I16 zv16 h1
          change X _ _ _ _ (A.wI I16) _ _ (.int v16 :: _)
          refine x_istore_n dX13_texts_108 (by decide) ?_
          refine x_iload_n dX13_texts_109 rfl ?_
          refine x_aload_n dX13_texts_110 rfl ?_
          refine x_get (v := .int (I16 m 61)) hG dX13_texts_111 f_X13_306_12 (mo_t hM) rfl ?_
          refine x_via 122 (A' := (A.wI I16)) (lv' := [some (.ref m), none, some (.int v16)]) (st' := [.int (if (I16 m 61) = 0 then (0 : Int32) else (1 : Int32)), .int y12_1]) ?_ (fun k122 => ?_)
          rotate_left
          · refine x_if_eq (tgt := 121) dX13_texts_114 (by decide) (fun c114 => ?_) (fun c114 => ?_)
            · refine x_iconst_ (v := (0 : Int32)) dX13_texts_121 (by decide) ?_
              change X _ _ _ _ _ _ [some (.ref m), some (.int y12_1), some (.int v16)] [.int (0 : Int32), .int y12_1]
              simp only [if_pos c114] at k122 ⊢
              exact X.weak (xle_c rfl (xle_n (xle_c rfl xle_nil))) k122
            · refine x_iconst_ (v := (1 : Int32)) dX13_texts_117 (by decide) ?_
              refine x_goto (tgt := 122) dX13_texts_118 (by decide) ?_
              change X _ _ _ _ _ _ [some (.ref m), some (.int y12_1), some (.int v16)] [.int (1 : Int32), .int y12_1]
              simp only [if_neg c114] at k122 ⊢
              exact X.weak (xle_c rfl (xle_n (xle_c rfl xle_nil))) k122
          refine x_iadd dX13_texts_122 ?_
          refine x_istore_n dX13_texts_123 (by decide) ?_
          refine x_goto (tgt := 87) dX13_texts_124 (by decide) ?_
          obtain ⟨q12, l12, h⟩ := h
          change X _ _ _ _ _ _ [some (.ref m), some (.int (y12_1 + (if (I16 m 61) = 0 then (0 : Int32) else (1 : Int32)))), some (.int v16)] []
          exact X.weak (xle_c rfl (xle_c rfl (xle_c rfl xle_nil))) (ih12 q12 l12 (y12_1 + (if (I16 m 61) = 0 then (0 : Int32) else (1 : Int32))) v16 I16 h)
  change X _ _ _ _ _ _ [some (.ref m), some (.int (0 : Int32)), some (.int (1 : Int32))] []
  exact X.weak (xle_c rfl (xle_c rfl (xle_c rfl xle_nil))) (kl12 n12 (0 : Int32) (1 : Int32) I11 i12)
end W037
