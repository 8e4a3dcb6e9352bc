/-! ===== 102.hmake (tools/h045.py) ===== -/
set_option maxRecDepth 100000
section W102
variable {G : xG}
def w_X6_make (G : xG) (p : Nat) (t : Option Nat) (n : Int32) (Q : Int32 → xA → Prop) (A : xA) : Prop := xok G A → A.tg p = 6 ∧ (∀ A2 : xA, A2 = A.setP p 7 t → (∀ A3 : xA, A3 = A2.setI p 13 (0 : Int32) → (∀ A4 : xA, A4 = A3.setI p 5 (0 : Int32) → (∀ A5 : xA, A5 = A4.setI p 6 (0 : Int32) → (∀ A6 : xA, A6 = A5.setI p 2 (0 : Int32) → (∃ b8 : Nat, (A.P p 1) = some b8 ∧ (A6.tg b8 = 37 ∧ (∃ R7 : xA → Prop, w_J5_clear G b8 R7 A6 ∧ (∀ A7 : xA, xok G A7 → R7 A7 → (∃ L10 : Nat → Int32 → xA → Prop, (∃ n10 : Nat, L10 n10 (0 : Int32) A7) ∧ (∀ (n10 : Nat) (y10_3 : Int32) (A10 : xA), L10 n10 y10_3 A10 → A10.tg p = 6 ∧ (∃ b12 : Nat, (A10.P p 15) = some b12 ∧ (A10.tg b12 = 200 ∧ ((((nI (A10.ln b12)) ≤ y10_3 → ∃ L14 : Nat → Int32 → xA → Prop, (∃ n14 : Nat, L14 n14 (0 : Int32) A10) ∧ (∀ (n14 : Nat) (y14_3 : Int32) (A14 : xA), L14 n14 y14_3 A14 → A14.tg p = 6 ∧ (∃ b17 : Nat, (A14.P p 7) = some b17 ∧ (A14.tg b17 = 37 ∧ (∃ R16 : Int32 → xA → Prop, w_J5_size G b17 R16 A14 ∧ (∀ (v16 : Int32) (A16 : xA), xok G A16 → R16 v16 A16 → (((v16 ≤ y14_3 → A16.tg p = 6 ∧ (∀ A20 : xA, A20 = A16.setI p 3 (0 : Int32) → (∃ L21 : Nat → xA → Prop, (∃ n21 : Nat, L21 n21 A20) ∧ (∀ (n21 : Nat) (A21 : xA), L21 n21 A21 → A21.tg p = 6 ∧ (∃ b24 : Nat, (A21.P p 7) = some b24 ∧ (A21.tg b24 = 37 ∧ (∃ R23 : Int32 → xA → Prop, w_J5_size G b24 R23 A21 ∧ (∀ (v23 : Int32) (A23 : xA), xok G A23 → R23 v23 A23 → (((v23 ≤ (A21.I p 3) → A23.tg p = 6 ∧ (∃ R26 : Option Nat → xA → Prop, w_X6_main G p R26 A23 ∧ (∀ (v26 : Option Nat) (A26 : xA), xok G A26 → R26 v26 A26 → (((v26 = none → A26.tg p = 6 ∧ (∃ R29 : Option Nat → xA → Prop, w_X6_fault G p (12 : Int32) n R29 A26 ∧ (∀ (v29 : Option Nat) (A29 : xA), xok G A29 → R29 v29 A29 → (∃ b31 : Nat, v29 = some b31 ∧ (A29.tg b31 = 4 ∧ (Q (0 : Int32) A29)))))) ∧ (∀ b28 : Nat, v26 = some b28 → Q (1 : Int32) A26)))))) ∧ (¬ v23 ≤ (A21.I p 3) → A23.tg p = 6 ∧ (∃ b35 : Nat, (A23.P p 7) = some b35 ∧ (A23.tg b35 = 37 ∧ (∃ R34 : Option Nat → xA → Prop, w_J5_get G b35 (A23.I p 3) R34 A23 ∧ (∀ (v34 : Option Nat) (A34 : xA), xok G A34 → R34 v34 A34 → (∃ b37 : Nat, v34 = some b37 ∧ (A34.tg b37 = 14 ∧ (A34.tg p = 6 ∧ (∃ (R39 : xA → Prop) (S39 : Nat → xA → Prop), w_X6_tell G p (some b37) R39 S39 A34 ∧ (∀ (x39 : Nat) (A39 : xA), S39 x39 A39 → A39.tg x39 = 4 ∧ (xok G A39 → Q (0 : Int32) A39)) ∧ (∀ A39 : xA, xok G A39 → R39 A39 → (A39.tg p = 6 ∧ (∀ A42 : xA, A42 = A39.setI p 3 ((A39.I p 3) + (1 : Int32)) → ((∃ q21 : Nat, q21 < n21 ∧ L21 q21 A42)))))))))))))))))))))))) ∧ (¬ v16 ≤ y14_3 → A16.tg p = 6 ∧ (∃ b45 : Nat, (A16.P p 7) = some b45 ∧ (A16.tg b45 = 37 ∧ (∃ R44 : Option Nat → xA → Prop, w_J5_get G b45 y14_3 R44 A16 ∧ (∀ (v44 : Option Nat) (A44 : xA), xok G A44 → R44 v44 A44 → (∃ b47 : Nat, v44 = some b47 ∧ (A44.tg b47 = 14 ∧ (∃ J49 : xA → Prop, (∀ (A49 : xA), J49 A49 → (∃ q14 : Nat, q14 < n14 ∧ L14 q14 (y14_3 + (1 : Int32)) A49)) ∧ (((A44.I b47 0) = (6 : Int32) → rmO G A44 6 ∧ (∀ A51 : xA, A51 = A44.new 33 0 6 0 → (∃ R52 : xA → Prop, w_X34_init G A44.n (A51.I b47 1) (6 : Int32) (0 : Int32) R52 A51 ∧ (∀ A52 : xA, xok G A52 → R52 A52 → (A52.tg b47 = 14 ∧ (∀ A54 : xA, A54 = A52.setP b47 10 (some A44.n) → (A54.tg A44.n = 33 ∧ (∀ A56 : xA, A56 = A54.setP A44.n 5 (some b47) → (J49 A56))))))))) ∧ (¬ (A44.I b47 0) = (6 : Int32) → J49 A44)))))))))))))))))) ∧ (¬ (nI (A10.ln b12)) ≤ y10_3 → G.N ≤ b12 ∧ (vp_in y10_3 (A10.ln b12) ∧ (∀ A59 : xA, A59 = A10.setI b12 (ix y10_3) (0 : Int32) → ((∃ q10 : Nat, q10 < n10 ∧ L10 q10 (y10_3 + (1 : Int32)) A59))))))))))))))))))))
theorem m_X6_make (hG : xOK G) (hO : xHO G) {dp : Nat} {p : Nat} {t : Option Nat} {n : Int32} {Q : Int32 → xA → Prop} {A : xA} (h : w_X6_make G p t n Q A) : MX G (dp + 1918) kX6_make [.ref p, va_rf t, .int n] A (hZ Q) := by
  unfold w_X6_make at h
  refine MX.of rfl (by cases t <;> exact Nat.le_of_ble_eq_true rfl) ?_
  refine X.lvs (lv' := [some (.ref p), some (va_rf t), some (.int n), none, none]) (by cases t <;> rfl) ?_
  refine X.xok (fun w0 => ?_)
  replace h := h w0
  refine x_aload_n dX6_make_0 rfl ?_
  refine x_aloadq_n dX6_make_1 rfl ?_
  obtain ⟨o1, h⟩ := h
  refine z_putP hG hO.1 t dX6_make_2 f_X6_40_5 ⟨_, rfl, Or.inl rfl⟩ o1 (by decide) (Or.inl ⟨_, rfl⟩) (fun A2 e2 => ?_)
  replace h := h A2 e2
  refine x_aload_n dX6_make_5 rfl ?_
  refine x_iconst_ (v := (0 : Int32)) dX6_make_6 (by decide) ?_
  refine z_putI hG hO.1 dX6_make_7 f_X6_33_5 ⟨_, rfl, Or.inl rfl⟩ (kP e2 o1) (by decide) rfl rfl ⟨_, rfl⟩ (fun A3 e3 => ?_)
  replace h := h A3 e3
  refine x_aload_n dX6_make_10 rfl ?_
  refine x_iconst_ (v := (0 : Int32)) dX6_make_11 (by decide) ?_
  refine z_putI hG hO.1 dX6_make_12 f_X6_43_5 ⟨_, rfl, Or.inl rfl⟩ (kI e3 (kP e2 o1)) (by decide) rfl rfl ⟨_, rfl⟩ (fun A4 e4 => ?_)
  replace h := h A4 e4
  refine x_aload_n dX6_make_15 rfl ?_
  refine x_iconst_ (v := (0 : Int32)) dX6_make_16 (by decide) ?_
  refine z_putI hG hO.1 dX6_make_17 f_X6_46_5 ⟨_, rfl, Or.inl rfl⟩ (kI e4 (kI e3 (kP e2 o1))) (by decide) rfl rfl ⟨_, rfl⟩ (fun A5 e5 => ?_)
  replace h := h A5 e5
  refine x_aload_n dX6_make_20 rfl ?_
  refine x_iconst_ (v := (0 : Int32)) dX6_make_21 (by decide) ?_
  refine z_putI hG hO.1 dX6_make_22 f_X6_49_5 ⟨_, rfl, Or.inl rfl⟩ (kI e5 (kI e4 (kI e3 (kP e2 o1)))) (by decide) rfl rfl ⟨_, rfl⟩ (fun A6 e6 => ?_)
  replace h := h A6 e6
  refine x_aload_n dX6_make_25 rfl ?_
  refine x_get (v := va_rf (A.P p 1)) hG dX6_make_26 f_X6_21_5 (kI e6 (kI e5 (kI e4 (kI e3 (kP e2 o1))))) (congrArg va_rf ((sI_P e6).trans ((sI_P e5).trans ((sI_P e4).trans ((sI_P e3).trans (sP_k e2 (by decide))))))) ?_
  obtain ⟨b8, e8, h⟩ := h
  rw [e8]
  obtain ⟨o9, h⟩ := h
  obtain ⟨R7, g7, h⟩ := h
  refine x_callV hG (Ky := kJ5_clear) (As := []) dX6_make_29 o9 rfl lk_X6_52 me_J5_clear is_J5_clear se_J5_clear rfl rfl (Nat.le_of_ble_eq_true rfl) (MX.post (m_w_J5_clear hG hO g7) ?_)
  rintro _ A7 ⟨rfl, h1⟩
  refine X.xok (fun w7 => ?_)
  replace h := h A7 w7 h1
  change X _ _ _ _ A7 _ _ []
  refine x_iconst_ (v := (0 : Int32)) dX6_make_32 (by decide) ?_
  refine x_istore_n dX6_make_33 (by decide) ?_
  obtain ⟨L10, ⟨n10, i10⟩, g10⟩ := h
  have kl10 : ∀ n10 : Nat, ∀ (y10_3 : Int32) (A10 : xA), L10 n10 y10_3 A10 → X G (dp + 1918) kX6_make (hZ Q) A10 34 [some (.ref p), none, some (.int n), some (.int y10_3), none] [] := by
    intro n10
    induction n10 using Nat.strongRecOn with
    | ind n10 ih10 =>
      intro y10_3 A10 h
      replace h := g10 n10 y10_3 A10 h
      refine x_iload_n dX6_make_34 rfl ?_
      refine x_aload_n dX6_make_35 rfl ?_
      obtain ⟨o11, h⟩ := h
      refine x_get (v := va_rf (A10.P p 15)) hG dX6_make_36 f_X6_25_5 o11 rfl ?_
      obtain ⟨b12, e12, h⟩ := h
      rw [e12]
      obtain ⟨o13, h⟩ := h
      refine x_alen hG (j := 0) dX6_make_39 o13 ?_
      refine x_icmp_ge (tgt := 56) dX6_make_40 (by decide) (fun c40 => ?_) (fun c40 => ?_)
      · replace h := h.1 c40
        refine x_iconst_ (v := (0 : Int32)) dX6_make_56 (by decide) ?_
        refine x_istore_n dX6_make_57 (by decide) ?_
        obtain ⟨L14, ⟨n14, i14⟩, g14⟩ := h
        have kl14 : ∀ n14 : Nat, ∀ (y14_3 : Int32) (A14 : xA), L14 n14 y14_3 A14 → X G (dp + 1918) kX6_make (hZ Q) A14 58 [some (.ref p), none, some (.int n), some (.int y14_3), none] [] := by
          intro n14
          induction n14 using Nat.strongRecOn with
          | ind n14 ih14 =>
            intro y14_3 A14 h
            replace h := g14 n14 y14_3 A14 h
            refine x_iload_n dX6_make_58 rfl ?_
            refine x_aload_n dX6_make_59 rfl ?_
            obtain ⟨o15, h⟩ := h
            refine x_get (v := va_rf (A14.P p 7)) hG dX6_make_60 f_X6_40_5 o15 rfl ?_
            obtain ⟨b17, e17, h⟩ := h
            rw [e17]
            obtain ⟨o18, h⟩ := h
            obtain ⟨R16, g16, h⟩ := h
            refine x_callV hG (Ky := kJ5_size) (As := []) dX6_make_63 o18 rfl lk_X6_55 me_J5_size is_J5_size se_J5_size rfl rfl (Nat.le_of_ble_eq_true rfl) (MX.post (m_w_J5_size hG hO g16) ?_)
            rintro _ A16 ⟨v16, rfl, h1⟩
            refine X.xok (fun w16 => ?_)
            replace h := h v16 A16 w16 h1
            change X _ _ _ _ A16 _ _ [.int v16, .int y14_3]
            refine x_icmp_ge (tgt := 131) dX6_make_66 (by decide) (fun c66 => ?_) (fun c66 => ?_)
            · replace h := h.1 c66
              refine x_aload_n dX6_make_131 rfl ?_
              refine x_iconst_ (v := (0 : Int32)) dX6_make_132 (by decide) ?_
              obtain ⟨o19, h⟩ := h
              refine z_putI hG hO.1 dX6_make_133 f_X6_84_5 ⟨_, rfl, Or.inl rfl⟩ o19 (by decide) rfl rfl ⟨_, rfl⟩ (fun A20 e20 => ?_)
              replace h := h A20 e20
              obtain ⟨L21, ⟨n21, i21⟩, g21⟩ := h
              have kl21 : ∀ n21 : Nat, ∀ (A21 : xA), L21 n21 A21 → X G (dp + 1918) kX6_make (hZ Q) A21 136 [some (.ref p), none, some (.int n), none, none] [] := by
                intro n21
                induction n21 using Nat.strongRecOn with
                | ind n21 ih21 =>
                  intro A21 h
                  replace h := g21 n21 A21 h
                  refine x_aload_n dX6_make_136 rfl ?_
                  obtain ⟨o22, h⟩ := h
                  refine x_get (v := .int (A21.I p 3)) hG dX6_make_137 f_X6_84_5 o22 rfl ?_
                  refine x_aload_n dX6_make_140 rfl ?_
                  refine x_get (v := va_rf (A21.P p 7)) hG dX6_make_141 f_X6_40_5 o22 rfl ?_
                  obtain ⟨b24, e24, h⟩ := h
                  rw [e24]
                  obtain ⟨o25, h⟩ := h
                  obtain ⟨R23, g23, h⟩ := h
                  refine x_callV hG (Ky := kJ5_size) (As := []) dX6_make_144 o25 rfl lk_X6_55 me_J5_size is_J5_size se_J5_size rfl rfl (Nat.le_of_ble_eq_true rfl) (MX.post (m_w_J5_size hG hO g23) ?_)
                  rintro _ A23 ⟨v23, rfl, h1⟩
                  refine X.xok (fun w23 => ?_)
                  replace h := h v23 A23 w23 h1
                  change X _ _ _ _ A23 _ _ [.int v23, .int (A21.I p 3)]
                  refine x_icmp_ge (tgt := 181) dX6_make_147 (by decide) (fun c147 => ?_) (fun c147 => ?_)
                  · replace h := h.1 c147
                    refine x_aload_n dX6_make_181 rfl ?_
                    obtain ⟨o27, h⟩ := h
                    obtain ⟨R26, g26, h⟩ := h
                    refine x_callV hG (Ky := kX6_main) (As := []) dX6_make_182 o27 rfl lk_X6_91 me_X6_main is_X6_main se_X6_main rfl rfl (Nat.le_of_ble_eq_true rfl) (MX.post (m_X6_main hG hO g26) ?_)
                    rintro _ A26 ⟨v26, rfl, h1⟩
                    refine X.xok (fun w26 => ?_)
                    replace h := h v26 A26 w26 h1
                    change X _ _ _ _ A26 _ _ [va_rf v26]
                    refine x_ifnonnull (tgt := 196) dX6_make_185 (by decide) (fun b28 c185 => ?_) (fun c185 => ?_)
                    · replace h := h.2 b28 c185
                      refine x_goto (tgt := 202) dX6_make_196 (by decide) ?_
                      refine x_iconst_ (v := (1 : Int32)) dX6_make_202 (by decide) ?_
                      exact x_zret dX6_make_203 rfl (by decide) ⟨_, rfl, (by decide), h⟩
                    · replace h := h.1 c185
                      refine x_aload_n dX6_make_188 rfl ?_
                      refine x_bipush_ (v := (12 : Int32)) dX6_make_189 (by decide) ?_
                      refine x_iload_n dX6_make_191 rfl ?_
                      obtain ⟨o30, h⟩ := h
                      obtain ⟨R29, g29, h⟩ := h
                      refine x_callV hG (Ky := kX6_fault) (As := [.int (12 : Int32), .int n]) dX6_make_192 o30 rfl lk_X6_95 me_X6_fault is_X6_fault se_X6_fault rfl rfl (Nat.le_of_ble_eq_true rfl) (MX.post (m_X6_fault hG hO g29) ?_)
                      rintro _ A29 ⟨v29, rfl, h1⟩
                      refine X.xok (fun w29 => ?_)
                      replace h := h v29 A29 w29 h1
                      change X _ _ _ _ A29 _ _ [va_rf v29]
                      obtain ⟨b31, e31, h⟩ := h
                      rw [e31]
                      obtain ⟨o32, h⟩ := h
                      refine x_athrowH hG dX6_make_195 rfl (by decide) (by decide) (by decide) q517 o32 ?_
                      refine x_astore_n dX6_make_199 (by decide) ?_
                      refine x_iconst_ (v := (0 : Int32)) dX6_make_200 (by decide) ?_
                      exact x_zret dX6_make_201 rfl (by decide) ⟨_, rfl, (by decide), h⟩
                  · replace h := h.2 c147
                    refine x_aload_n dX6_make_150 rfl ?_
                    refine x_aload_n dX6_make_151 rfl ?_
                    obtain ⟨o33, h⟩ := h
                    refine x_get (v := va_rf (A23.P p 7)) hG dX6_make_152 f_X6_40_5 o33 rfl ?_
                    refine x_aload_n dX6_make_155 rfl ?_
                    refine x_get (v := .int (A23.I p 3)) hG dX6_make_156 f_X6_84_5 o33 rfl ?_
                    obtain ⟨b35, e35, h⟩ := h
                    rw [e35]
                    obtain ⟨o36, h⟩ := h
                    obtain ⟨R34, g34, h⟩ := h
                    refine x_callV hG (Ky := kJ5_get) (As := [.int (A23.I p 3)]) dX6_make_159 o36 rfl lk_X6_59 me_J5_get is_J5_get se_J5_get rfl rfl (Nat.le_of_ble_eq_true rfl) (MX.post (m_w_J5_get hG hO g34) ?_)
                    rintro _ A34 ⟨v34, rfl, h1⟩
                    refine X.xok (fun w34 => ?_)
                    replace h := h v34 A34 w34 h1
                    change X _ _ _ _ A34 _ _ [va_rf v34, .ref p]
                    obtain ⟨b37, e37, h⟩ := h
                    rw [e37]
                    obtain ⟨o38, h⟩ := h
                    refine x_cast hG dX6_make_162 q1688 o38 rfl (Or.inl rfl) ?_
                    obtain ⟨o40, h⟩ := h
                    obtain ⟨R39, S39, g39, hs39, h⟩ := h
                    refine x_callVH hG (Ky := kX6_tell) (As := [.ref b37]) rfl (by decide) (by decide) (by decide) q517 dX6_make_165 o40 rfl lk_X6_87 me_X6_tell is_X6_tell se_X6_tell rfl rfl (Nat.le_of_ble_eq_true rfl) (MX.post (m_X6_tell hG hO g39) ?_)
                    rintro _ A39 (⟨rfl, h1⟩ | ⟨x39, rfl, h1⟩)
                    rotate_left
                    · obtain ⟨tt, h⟩ := hs39 x39 A39 h1
                      refine ⟨tt, X.xok (fun w39 => ?_)⟩
                      replace h := h w39
                      change X _ _ _ _ A39 _ _ [.ref x39]
                      refine x_astore_n dX6_make_199 (by decide) ?_
                      refine x_iconst_ (v := (0 : Int32)) dX6_make_200 (by decide) ?_
                      exact x_zret dX6_make_201 rfl (by decide) ⟨_, rfl, (by decide), h⟩
                    refine X.xok (fun w39 => ?_)
                    replace h := h A39 w39 h1
                    change X _ _ _ _ A39 _ _ []
                    refine x_aload_n dX6_make_168 rfl ?_
                    refine x_dup dX6_make_169 rfl ?_
                    obtain ⟨o41, h⟩ := h
                    refine x_get (v := .int (A39.I p 3)) hG dX6_make_170 f_X6_84_5 o41 rfl ?_
                    refine x_iconst_ (v := (1 : Int32)) dX6_make_173 (by decide) ?_
                    refine x_iadd dX6_make_174 ?_
                    refine z_putI hG hO.1 dX6_make_175 f_X6_84_5 ⟨_, rfl, Or.inl rfl⟩ o41 (by decide) rfl rfl ⟨_, rfl⟩ (fun A42 e42 => ?_)
                    replace h := h A42 e42
                    refine x_goto (tgt := 136) dX6_make_178 (by decide) ?_
                    obtain ⟨q21, l21, h⟩ := h
                    change X _ _ _ _ _ _ [some (.ref p), none, some (.int n), none, none] []
                    exact X.weak (xle_c rfl (xle_n (xle_c rfl (xle_n (xle_n xle_nil))))) (ih21 q21 l21 A42 h)
              change X _ _ _ _ _ _ [some (.ref p), none, some (.int n), some (.int y14_3), none] []
              exact X.weak (xle_c rfl (xle_n (xle_c rfl (xle_n (xle_n xle_nil))))) (kl21 n21 A20 i21)
            · replace h := h.2 c66
              refine x_aload_n dX6_make_69 rfl ?_
              obtain ⟨o43, h⟩ := h
              refine x_get (v := va_rf (A16.P p 7)) hG dX6_make_70 f_X6_40_5 o43 rfl ?_
              refine x_iload_n dX6_make_73 rfl ?_
              obtain ⟨b45, e45, h⟩ := h
              rw [e45]
              obtain ⟨o46, h⟩ := h
              obtain ⟨R44, g44, h⟩ := h
              refine x_callV hG (Ky := kJ5_get) (As := [.int y14_3]) dX6_make_74 o46 rfl lk_X6_59 me_J5_get is_J5_get se_J5_get rfl rfl (Nat.le_of_ble_eq_true rfl) (MX.post (m_w_J5_get hG hO g44) ?_)
              rintro _ A44 ⟨v44, rfl, h1⟩
              refine X.xok (fun w44 => ?_)
              replace h := h v44 A44 w44 h1
              change X _ _ _ _ A44 _ _ [va_rf v44]
              obtain ⟨b47, e47, h⟩ := h
              rw [e47]
              obtain ⟨o48, h⟩ := h
              refine x_cast hG dX6_make_77 q1688 o48 rfl (Or.inl rfl) ?_
              refine x_astore dX6_make_80 (by decide) ?_
              refine x_aload dX6_make_82 rfl ?_
              refine x_get (v := .int (A44.I b47 0)) hG dX6_make_84 f_X6_65_13 o48 rfl ?_
              refine x_bipush_ (v := (6 : Int32)) dX6_make_87 (by decide) ?_
              obtain ⟨J49, g49, h⟩ := h
              have kj49 : ∀ (A49 : xA), J49 A49 → X G (dp + 1918) kX6_make (hZ Q) A49 125 [some (.ref p), none, some (.int n), some (.int y14_3), none] [] := by
                intro A49 h
                replace h := g49 A49 h
                refine x_iinc (v := (y14_3 + (1 : Int32))) dX6_make_125 rfl rfl (by decide) ?_
                refine x_goto (tgt := 58) dX6_make_128 (by decide) ?_
                obtain ⟨q14, l14, h⟩ := h
                change X _ _ _ _ _ _ [some (.ref p), none, some (.int n), some (.int (y14_3 + (1 : Int32))), none] []
                exact X.weak (xle_c rfl (xle_n (xle_c rfl (xle_c rfl (xle_n xle_nil))))) (ih14 q14 l14 (y14_3 + (1 : Int32)) A49 h)
              refine x_icmp_eq (tgt := 95) dX6_make_89 (by decide) (fun c89 => ?_) (fun c89 => ?_)
              · replace h := h.1 c89
                refine x_aload dX6_make_95 rfl ?_
                obtain ⟨o50, h⟩ := h
                refine z_new hG (c := 32) dX6_make_97 rfl q1689 (by decide) rfl o50 (fun A51 e51 w51 => ?_)
                replace h := h A51 e51
                refine x_dup dX6_make_100 rfl ?_
                refine x_aload dX6_make_101 rfl ?_
                refine x_get (v := .int (A51.I b47 1)) hG dX6_make_103 f_X6_70_13 (kN e51 w51 o48) rfl ?_
                refine x_bipush_ (v := (6 : Int32)) dX6_make_106 (by decide) ?_
                refine x_iconst_ (v := (0 : Int32)) dX6_make_108 (by decide) ?_
                obtain ⟨R52, g52, h⟩ := h
                refine x_callI hG (Ky := kX34_init) (As := [.int (A51.I b47 1), .int (6 : Int32), .int (0 : Int32)]) dX6_make_109 lk_X6_73 me_X34_init is_X34_init rfl rfl rfl rfl rfl (Nat.le_of_ble_eq_true rfl) (MX.post (m_X34_init hG hO g52) ?_)
                rintro _ A52 ⟨rfl, h1⟩
                refine X.xok (fun w52 => ?_)
                replace h := h A52 w52 h1
                change X _ _ _ _ A52 _ _ [.ref A44.n, .ref b47]
                obtain ⟨o53, h⟩ := h
                refine z_putP hG hO.1 (some A44.n) dX6_make_112 f_X6_76_13 ⟨_, rfl, Or.inl rfl⟩ o53 (by decide) (Or.inl ⟨_, rfl⟩) (fun A54 e54 => ?_)
                replace h := h A54 e54
                refine x_aload dX6_make_115 rfl ?_
                refine x_get (v := .ref A44.n) hG dX6_make_117 f_X6_76_13 (kP e54 o53) (congrArg va_rf (sP_s e54)) ?_
                refine x_aload dX6_make_120 rfl ?_
                obtain ⟨o55, h⟩ := h
                refine z_putP hG hO.1 (some b47) dX6_make_122 f_X6_80_32 ⟨_, rfl, Or.inl rfl⟩ o55 (by decide) (Or.inl ⟨_, rfl⟩) (fun A56 e56 => ?_)
                replace h := h A56 e56
                change X _ _ _ _ _ _ [some (.ref p), none, some (.int n), some (.int y14_3), some (.ref b47)] []
                exact X.weak (xle_c rfl (xle_n (xle_c rfl (xle_c rfl (xle_n xle_nil))))) (kj49 A56 h)
              · replace h := h.2 c89
                refine x_goto (tgt := 125) dX6_make_92 (by decide) ?_
                change X _ _ _ _ _ _ [some (.ref p), none, some (.int n), some (.int y14_3), some (.ref b47)] []
                exact X.weak (xle_c rfl (xle_n (xle_c rfl (xle_c rfl (xle_n xle_nil))))) (kj49 A44 h)
        change X _ _ _ _ _ _ [some (.ref p), none, some (.int n), some (.int (0 : Int32)), none] []
        exact X.weak (xle_c rfl (xle_n (xle_c rfl (xle_c rfl (xle_n xle_nil))))) (kl14 n14 (0 : Int32) A10 i14)
      · replace h := h.2 c40
        refine x_aload_n dX6_make_43 rfl ?_
        refine x_get (v := .ref b12) hG dX6_make_44 f_X6_25_5 o11 (congrArg va_rf e12) ?_
        refine x_iload_n dX6_make_47 rfl ?_
        refine x_iconst_ (v := (0 : Int32)) dX6_make_48 (by decide) ?_
        obtain ⟨o57, h⟩ := h
        obtain ⟨o58, h⟩ := h
        refine z_iast hG dX6_make_49 o13 o57 o58 (fun A59 e59 => ?_)
        replace h := h A59 e59
        refine x_iinc (v := (y10_3 + (1 : Int32))) dX6_make_50 rfl rfl (by decide) ?_
        refine x_goto (tgt := 34) dX6_make_53 (by decide) ?_
        obtain ⟨q10, l10, h⟩ := h
        change X _ _ _ _ _ _ [some (.ref p), none, some (.int n), some (.int (y10_3 + (1 : Int32))), none] []
        exact X.weak (xle_c rfl (xle_n (xle_c rfl (xle_c rfl (xle_n xle_nil))))) (ih10 q10 l10 (y10_3 + (1 : Int32)) A59 h)
  change X _ _ _ _ _ _ [some (.ref p), some (va_rf t), some (.int n), some (.int (0 : Int32)), none] []
  exact X.weak (xle_c rfl (xle_n (xle_c rfl (xle_c rfl (xle_n xle_nil))))) (kl10 n10 (0 : Int32) A7 i10)
end W102
