/-! ===== 089.hmake (tools/h045.py) ===== -/
set_option maxRecDepth 100000
section W089
variable {G : xG}
def w_X6_fault (G : xG) (p : Nat) (k : Int32) (w : Int32) (Q : Option Nat → xA → Prop) (A : xA) : Prop := xok G A → A.tg p = 6 ∧ (∀ A2 : xA, A2 = A.setI p 13 k → (∀ A3 : xA, A3 = A2.setI p 14 w → (Q (A.P p 0) A3)))
theorem m_X6_fault (hG : xOK G) (hO : xHO G) {dp : Nat} {p : Nat} {k : Int32} {w : Int32} {Q : Option Nat → xA → Prop} {A : xA} (h : w_X6_fault G p k w Q A) : MX G (dp + 0) kX6_fault [.ref p, .int k, .int w] A (hR Q) := by
  unfold w_X6_fault at h
  refine MX.of rfl (Nat.le_of_ble_eq_true rfl) ?_
  change X _ _ _ _ _ _ [some (.ref p), some (.int k), some (.int w)] _
  refine X.xok (fun w0 => ?_)
  replace h := h w0
  refine x_aload_n dX6_fault_0 rfl ?_
  refine x_iload_n dX6_fault_1 rfl ?_
  obtain ⟨o1, h⟩ := h
  refine z_putI hG hO.1 dX6_fault_2 f_X6_33_5 ⟨_, rfl, Or.inl rfl⟩ o1 (by decide) rfl rfl ⟨_, rfl⟩ (fun A2 e2 => ?_)
  replace h := h A2 e2
  refine x_aload_n dX6_fault_5 rfl ?_
  refine x_iload_n dX6_fault_6 rfl ?_
  refine z_putI hG hO.1 dX6_fault_7 f_X6_37_5 ⟨_, rfl, Or.inl rfl⟩ (kI e2 o1) (by decide) rfl rfl ⟨_, rfl⟩ (fun A3 e3 => ?_)
  replace h := h A3 e3
  refine x_aload_n dX6_fault_10 rfl ?_
  refine x_get (v := va_rf (A.P p 0)) hG dX6_fault_11 f_X6_12_5 (kI e3 (kI e2 o1)) (congrArg va_rf ((sI_P e3).trans (sI_P e2))) ?_
  exact x_aret (r := (A.P p 0)) dX6_fault_14 rfl (Or.inl ⟨_, rfl⟩) ⟨_, rfl, h⟩
def w_X6_find (G : xG) (p : Nat) (n : Int32) (Q : Option Nat → xA → Prop) (A : xA) : Prop := xok G A → A.tg p = 6 ∧ (∃ b3 : Nat, (A.P p 1) = some b3 ∧ (A.tg b3 = 37 ∧ (∃ R2 : Int32 → xA → Prop, w_J5_size G b3 R2 A ∧ (∀ (v2 : Int32) (A2 : xA), xok G A2 → R2 v2 A2 → (∃ L5 : Nat → Int32 → xA → Prop, (∃ n5 : Nat, L5 n5 (v2 - (1 : Int32)) A2) ∧ (∀ (n5 : Nat) (y5_2 : Int32) (A5 : xA), L5 n5 y5_2 A5 → ((y5_2 < 0 → ∃ L6 : Nat → Int32 → xA → Prop, (∃ n6 : Nat, L6 n6 (0 : Int32) A5) ∧ (∀ (n6 : Nat) (y6_2 : Int32) (A6 : xA), L6 n6 y6_2 A6 → A6.tg p = 6 ∧ (∃ b9 : Nat, (A6.P p 7) = some b9 ∧ (A6.tg b9 = 37 ∧ (∃ R8 : Int32 → xA → Prop, w_J5_size G b9 R8 A6 ∧ (∀ (v8 : Int32) (A8 : xA), xok G A8 → R8 v8 A8 → (((v8 ≤ y6_2 → Q (none : Option Nat) A8) ∧ (¬ v8 ≤ y6_2 → A8.tg p = 6 ∧ (∃ b13 : Nat, (A8.P p 7) = some b13 ∧ (A8.tg b13 = 37 ∧ (∃ R12 : Option Nat → xA → Prop, w_J5_get G b13 y6_2 R12 A8 ∧ (∀ (v12 : Option Nat) (A12 : xA), xok G A12 → R12 v12 A12 → (∃ b15 : Nat, v12 = some b15 ∧ (A12.tg b15 = 14 ∧ ((((A12.I b15 1) = n → (((A12.I b15 0) = (6 : Int32) → Q (A12.P b15 10) A12) ∧ (¬ (A12.I b15 0) = (6 : Int32) → A12.tg p = 6 ∧ ((((A12.I p 3) ≤ y6_2 → (∃ q6 : Nat, q6 < n6 ∧ L6 q6 (y6_2 + (1 : Int32)) A12)) ∧ (¬ (A12.I p 3) ≤ y6_2 → Q (A12.P b15 10) A12)))))) ∧ (¬ (A12.I b15 1) = n → (∃ q6 : Nat, q6 < n6 ∧ L6 q6 (y6_2 + (1 : Int32)) A12))))))))))))))))))) ∧ (¬ y5_2 < 0 → A5.tg p = 6 ∧ (∃ b20 : Nat, (A5.P p 1) = some b20 ∧ (A5.tg b20 = 37 ∧ (∃ R19 : Option Nat → xA → Prop, w_J5_get G b20 y5_2 R19 A5 ∧ (∀ (v19 : Option Nat) (A19 : xA), xok G A19 → R19 v19 A19 → (∃ b22 : Nat, v19 = some b22 ∧ (A19.tg b22 = 33 ∧ ((((A19.I b22 0) = n → A19.tg p = 6 ∧ (∃ b26 : Nat, (A19.P p 1) = some b26 ∧ (A19.tg b26 = 37 ∧ (∃ R25 : Option Nat → xA → Prop, w_J5_get G b26 y5_2 R25 A19 ∧ (∀ (v25 : Option Nat) (A25 : xA), xok G A25 → R25 v25 A25 → (∃ b28 : Nat, v25 = some b28 ∧ (A25.tg b28 = 33 ∧ (Q (some b28) A25)))))))) ∧ (¬ (A19.I b22 0) = n → (∃ q5 : Nat, q5 < n5 ∧ L5 q5 (y5_2 + (-1 : Int32)) A19))))))))))))))))))
theorem m_X6_find (hG : xOK G) (hO : xHO G) {dp : Nat} {p : Nat} {n : Int32} {Q : Option Nat → xA → Prop} {A : xA} (h : w_X6_find G p n Q A) : MX G (dp + 3) kX6_find [.ref p, .int n] A (hR Q) := by
  unfold w_X6_find at h
  refine MX.of rfl (Nat.le_of_ble_eq_true rfl) ?_
  change X _ _ _ _ _ _ [some (.ref p), some (.int n), none, none] _
  refine X.xok (fun w0 => ?_)
  replace h := h w0
  refine x_aload_n dX6_find_0 rfl ?_
  obtain ⟨o1, h⟩ := h
  refine x_get (v := va_rf (A.P p 1)) hG dX6_find_1 f_X6_21_5 o1 rfl ?_
  obtain ⟨b3, e3, h⟩ := h
  rw [e3]
  obtain ⟨o4, h⟩ := h
  obtain ⟨R2, g2, h⟩ := h
  refine x_callV hG (Ky := kJ5_size) (As := []) dX6_find_4 o4 rfl lk_X6_55 me_J5_size is_J5_size se_J5_size rfl rfl (Nat.le_of_ble_eq_true rfl) (MX.post (m_w_J5_size hG hO g2) ?_)
  rintro _ A2 ⟨v2, rfl, h1⟩
  refine X.xok (fun w2 => ?_)
  replace h := h v2 A2 w2 h1
  change X _ _ _ _ A2 _ _ [.int v2]
  refine x_iconst_ (v := (1 : Int32)) dX6_find_7 (by decide) ?_
  refine x_isub dX6_find_8 ?_
  refine x_istore_n dX6_find_9 (by decide) ?_
  obtain ⟨L5, ⟨n5, i5⟩, g5⟩ := h
  have kl5 : ∀ n5 : Nat, ∀ (y5_2 : Int32) (A5 : xA), L5 n5 y5_2 A5 → X G (dp + 3) kX6_find (hR Q) A5 10 [some (.ref p), some (.int n), some (.int y5_2), none] [] := by
    intro n5
    induction n5 using Nat.strongRecOn with
    | ind n5 ih5 =>
      intro y5_2 A5 h
      replace h := g5 n5 y5_2 A5 h
      refine x_iload_n dX6_find_10 rfl ?_
      refine x_if_lt (tgt := 50) dX6_find_11 (by decide) (fun c11 => ?_) (fun c11 => ?_)
      · replace h := h.1 c11
        refine x_iconst_ (v := (0 : Int32)) dX6_find_50 (by decide) ?_
        refine x_istore_n dX6_find_51 (by decide) ?_
        obtain ⟨L6, ⟨n6, i6⟩, g6⟩ := h
        have kl6 : ∀ n6 : Nat, ∀ (y6_2 : Int32) (A6 : xA), L6 n6 y6_2 A6 → X G (dp + 3) kX6_find (hR Q) A6 52 [some (.ref p), some (.int n), some (.int y6_2), none] [] := by
          intro n6
          induction n6 using Nat.strongRecOn with
          | ind n6 ih6 =>
            intro y6_2 A6 h
            replace h := g6 n6 y6_2 A6 h
            refine x_iload_n dX6_find_52 rfl ?_
            refine x_aload_n dX6_find_53 rfl ?_
            obtain ⟨o7, h⟩ := h
            refine x_get (v := va_rf (A6.P p 7)) hG dX6_find_54 f_X6_40_5 o7 rfl ?_
            obtain ⟨b9, e9, h⟩ := h
            rw [e9]
            obtain ⟨o10, h⟩ := h
            obtain ⟨R8, g8, h⟩ := h
            refine x_callV hG (Ky := kJ5_size) (As := []) dX6_find_57 o10 rfl lk_X6_55 me_J5_size is_J5_size se_J5_size rfl rfl (Nat.le_of_ble_eq_true rfl) (MX.post (m_w_J5_size hG hO g8) ?_)
            rintro _ A8 ⟨v8, rfl, h1⟩
            refine X.xok (fun w8 => ?_)
            replace h := h v8 A8 w8 h1
            change X _ _ _ _ A8 _ _ [.int v8, .int y6_2]
            refine x_icmp_ge (tgt := 111) dX6_find_60 (by decide) (fun c60 => ?_) (fun c60 => ?_)
            · replace h := h.1 c60
              refine x_null dX6_find_111 ?_
              exact x_aret (r := (none : Option Nat)) dX6_find_112 rfl (Or.inl ⟨_, rfl⟩) ⟨_, rfl, h⟩
            · replace h := h.2 c60
              refine x_aload_n dX6_find_63 rfl ?_
              obtain ⟨o11, h⟩ := h
              refine x_get (v := va_rf (A8.P p 7)) hG dX6_find_64 f_X6_40_5 o11 rfl ?_
              refine x_iload_n dX6_find_67 rfl ?_
              obtain ⟨b13, e13, h⟩ := h
              rw [e13]
              obtain ⟨o14, h⟩ := h
              obtain ⟨R12, g12, h⟩ := h
              refine x_callV hG (Ky := kJ5_get) (As := [.int y6_2]) dX6_find_68 o14 rfl lk_X6_59 me_J5_get is_J5_get se_J5_get rfl rfl (Nat.le_of_ble_eq_true rfl) (MX.post (m_w_J5_get hG hO g12) ?_)
              rintro _ A12 ⟨v12, rfl, h1⟩
              refine X.xok (fun w12 => ?_)
              replace h := h v12 A12 w12 h1
              change X _ _ _ _ A12 _ _ [va_rf v12]
              obtain ⟨b15, e15, h⟩ := h
              rw [e15]
              obtain ⟨o16, h⟩ := h
              refine x_cast hG dX6_find_71 q1688 o16 rfl (Or.inl rfl) ?_
              refine x_astore_n dX6_find_74 (by decide) ?_
              refine x_aload_n dX6_find_75 rfl ?_
              refine x_get (v := .int (A12.I b15 1)) hG dX6_find_76 f_X6_70_13 o16 rfl ?_
              refine x_iload_n dX6_find_79 rfl ?_
              refine x_icmp_ne (tgt := 105) dX6_find_80 (by decide) (fun c80 => ?_) (fun c80 => ?_)
              · replace h := h.2 c80
                refine x_iinc (v := (y6_2 + (1 : Int32))) dX6_find_105 rfl rfl (by decide) ?_
                refine x_goto (tgt := 52) dX6_find_108 (by decide) ?_
                obtain ⟨q6, l6, h⟩ := h
                change X _ _ _ _ _ _ [some (.ref p), some (.int n), some (.int (y6_2 + (1 : Int32))), some (.ref b15)] []
                exact X.weak (xle_c rfl (xle_c rfl (xle_c rfl (xle_n xle_nil)))) (ih6 q6 l6 (y6_2 + (1 : Int32)) A12 h)
              · replace h := h.1 c80
                refine x_aload_n dX6_find_83 rfl ?_
                refine x_get (v := .int (A12.I b15 0)) hG dX6_find_84 f_X6_65_13 o16 rfl ?_
                refine x_bipush_ (v := (6 : Int32)) dX6_find_87 (by decide) ?_
                refine x_icmp_eq (tgt := 100) dX6_find_89 (by decide) (fun c89 => ?_) (fun c89 => ?_)
                · replace h := h.1 c89
                  refine x_aload_n dX6_find_100 rfl ?_
                  refine x_get (v := va_rf (A12.P b15 10)) hG dX6_find_101 f_X6_76_13 o16 rfl ?_
                  exact x_aret (r := (A12.P b15 10)) dX6_find_104 rfl (Or.inl ⟨_, rfl⟩) ⟨_, rfl, h⟩
                · replace h := h.2 c89
                  refine x_iload_n dX6_find_92 rfl ?_
                  refine x_aload_n dX6_find_93 rfl ?_
                  obtain ⟨o17, h⟩ := h
                  refine x_get (v := .int (A12.I p 3)) hG dX6_find_94 f_X6_84_5 o17 rfl ?_
                  refine x_icmp_ge (tgt := 105) dX6_find_97 (by decide) (fun c97 => ?_) (fun c97 => ?_)
                  · replace h := h.1 c97
                    refine x_iinc (v := (y6_2 + (1 : Int32))) dX6_find_105 rfl rfl (by decide) ?_
                    refine x_goto (tgt := 52) dX6_find_108 (by decide) ?_
                    obtain ⟨q6, l6, h⟩ := h
                    change X _ _ _ _ _ _ [some (.ref p), some (.int n), some (.int (y6_2 + (1 : Int32))), some (.ref b15)] []
                    exact X.weak (xle_c rfl (xle_c rfl (xle_c rfl (xle_n xle_nil)))) (ih6 q6 l6 (y6_2 + (1 : Int32)) A12 h)
                  · replace h := h.2 c97
                    refine x_aload_n dX6_find_100 rfl ?_
                    refine x_get (v := va_rf (A12.P b15 10)) hG dX6_find_101 f_X6_76_13 o16 rfl ?_
                    exact x_aret (r := (A12.P b15 10)) dX6_find_104 rfl (Or.inl ⟨_, rfl⟩) ⟨_, rfl, h⟩
        change X _ _ _ _ _ _ [some (.ref p), some (.int n), some (.int (0 : Int32)), none] []
        exact X.weak (xle_c rfl (xle_c rfl (xle_c rfl (xle_n xle_nil)))) (kl6 n6 (0 : Int32) A5 i6)
      · replace h := h.2 c11
        refine x_aload_n dX6_find_14 rfl ?_
        obtain ⟨o18, h⟩ := h
        refine x_get (v := va_rf (A5.P p 1)) hG dX6_find_15 f_X6_21_5 o18 rfl ?_
        refine x_iload_n dX6_find_18 rfl ?_
        obtain ⟨b20, e20, h⟩ := h
        rw [e20]
        obtain ⟨o21, h⟩ := h
        obtain ⟨R19, g19, h⟩ := h
        refine x_callV hG (Ky := kJ5_get) (As := [.int y5_2]) dX6_find_19 o21 rfl lk_X6_59 me_J5_get is_J5_get se_J5_get rfl rfl (Nat.le_of_ble_eq_true rfl) (MX.post (m_w_J5_get hG hO g19) ?_)
        rintro _ A19 ⟨v19, rfl, h1⟩
        refine X.xok (fun w19 => ?_)
        replace h := h v19 A19 w19 h1
        change X _ _ _ _ A19 _ _ [va_rf v19]
        obtain ⟨b22, e22, h⟩ := h
        rw [e22]
        obtain ⟨o23, h⟩ := h
        refine x_cast hG dX6_find_22 q1689 o23 rfl (Or.inl rfl) ?_
        refine x_get (v := .int (A19.I b22 0)) hG dX6_find_25 f_X6_105_32 o23 rfl ?_
        refine x_iload_n dX6_find_28 rfl ?_
        refine x_icmp_ne (tgt := 44) dX6_find_29 (by decide) (fun c29 => ?_) (fun c29 => ?_)
        · replace h := h.2 c29
          refine x_iinc (v := (y5_2 + (-1 : Int32))) dX6_find_44 rfl rfl (by decide) ?_
          refine x_goto (tgt := 10) dX6_find_47 (by decide) ?_
          obtain ⟨q5, l5, h⟩ := h
          change X _ _ _ _ _ _ [some (.ref p), some (.int n), some (.int (y5_2 + (-1 : Int32))), none] []
          exact X.weak (xle_c rfl (xle_c rfl (xle_c rfl (xle_n xle_nil)))) (ih5 q5 l5 (y5_2 + (-1 : Int32)) A19 h)
        · replace h := h.1 c29
          refine x_aload_n dX6_find_32 rfl ?_
          obtain ⟨o24, h⟩ := h
          refine x_get (v := va_rf (A19.P p 1)) hG dX6_find_33 f_X6_21_5 o24 rfl ?_
          refine x_iload_n dX6_find_36 rfl ?_
          obtain ⟨b26, e26, h⟩ := h
          rw [e26]
          obtain ⟨o27, h⟩ := h
          obtain ⟨R25, g25, h⟩ := h
          refine x_callV hG (Ky := kJ5_get) (As := [.int y5_2]) dX6_find_37 o27 rfl lk_X6_59 me_J5_get is_J5_get se_J5_get rfl rfl (Nat.le_of_ble_eq_true rfl) (MX.post (m_w_J5_get hG hO g25) ?_)
          rintro _ A25 ⟨v25, rfl, h1⟩
          refine X.xok (fun w25 => ?_)
          replace h := h v25 A25 w25 h1
          change X _ _ _ _ A25 _ _ [va_rf v25]
          obtain ⟨b28, e28, h⟩ := h
          rw [e28]
          obtain ⟨o29, h⟩ := h
          refine x_cast hG dX6_find_40 q1689 o29 rfl (Or.inl rfl) ?_
          exact x_aret (r := (some b28)) dX6_find_43 rfl (Or.inl ⟨_, rfl⟩) ⟨_, rfl, h⟩
  change X _ _ _ _ _ _ [some (.ref p), some (.int n), some (.int (v2 - (1 : Int32))), none] []
  exact X.weak (xle_c rfl (xle_c rfl (xle_c rfl (xle_n xle_nil)))) (kl5 n5 (v2 - (1 : Int32)) A2 i5)
def w_X6_known (G : xG) (p : Nat) (n : Int32) (w : Int32) (Q : Option Nat → xA → Prop) (E : Nat → xA → Prop) (A : xA) : Prop := xok G A → A.tg p = 6 ∧ (∃ R1 : Option Nat → xA → Prop, w_X6_find G p n R1 A ∧ (∀ (v1 : Option Nat) (A1 : xA), xok G A1 → R1 v1 A1 → (((v1 = none → A1.tg p = 6 ∧ (∃ R4 : Option Nat → xA → Prop, w_X6_fault G p (4 : Int32) w R4 A1 ∧ (∀ (v4 : Option Nat) (A4 : xA), xok G A4 → R4 v4 A4 → (∃ b6 : Nat, v4 = some b6 ∧ (E b6 A4))))) ∧ (∀ b3 : Nat, v1 = some b3 → Q (some b3) A1)))))
theorem m_X6_known (hG : xOK G) (hO : xHO G) {dp : Nat} {p : Nat} {n : Int32} {w : Int32} {Q : Option Nat → xA → Prop} {E : Nat → xA → Prop} {A : xA} (h : w_X6_known G p n w Q E A) : MX G (dp + 4) kX6_known [.ref p, .int n, .int w] A (hX (hR Q) E) := by
  unfold w_X6_known at h
  refine MX.of rfl (Nat.le_of_ble_eq_true rfl) ?_
  change X _ _ _ _ _ _ [some (.ref p), some (.int n), some (.int w), none] _
  refine X.xok (fun w0 => ?_)
  replace h := h w0
  refine x_aload_n dX6_known_0 rfl ?_
  refine x_iload_n dX6_known_1 rfl ?_
  obtain ⟨o2, h⟩ := h
  obtain ⟨R1, g1, h⟩ := h
  refine x_callV hG (Ky := kX6_find) (As := [.int n]) dX6_known_2 o2 rfl lk_X6_106 me_X6_find is_X6_find se_X6_find rfl rfl (Nat.le_of_ble_eq_true rfl) (MX.post (m_X6_find hG hO g1) ?_)
  rintro _ A1 ⟨v1, rfl, h1⟩
  refine X.xok (fun w1 => ?_)
  replace h := h v1 A1 w1 h1
  change X _ _ _ _ A1 _ _ [va_rf v1]
  refine x_astoreq_n dX6_known_5 (by decide) ?_
  refine x_aloadq_n dX6_known_6 rfl ?_
  refine x_ifnonnull (tgt := 17) dX6_known_7 (by decide) (fun b3 c7 => ?_) (fun c7 => ?_)
  · replace h := h.2 b3 c7
    rw [c7]
    refine x_aload_n dX6_known_17 rfl ?_
    exact x_aret (r := (some b3)) dX6_known_18 rfl (Or.inl ⟨_, rfl⟩) (Or.inl ⟨_, rfl, h⟩)
  · replace h := h.1 c7
    refine x_aload_n dX6_known_10 rfl ?_
    refine x_iconst_ (v := (4 : Int32)) dX6_known_11 (by decide) ?_
    refine x_iload_n dX6_known_12 rfl ?_
    obtain ⟨o5, h⟩ := h
    obtain ⟨R4, g4, h⟩ := h
    refine x_callV hG (Ky := kX6_fault) (As := [.int (4 : Int32), .int w]) dX6_known_13 o5 rfl lk_X6_95 me_X6_fault is_X6_fault se_X6_fault rfl rfl (Nat.le_of_ble_eq_true rfl) (MX.post (m_X6_fault hG hO g4) ?_)
    rintro _ A4 ⟨v4, rfl, h1⟩
    refine X.xok (fun w4 => ?_)
    replace h := h v4 A4 w4 h1
    change X _ _ _ _ A4 _ _ [va_rf v4]
    obtain ⟨b6, e6, h⟩ := h
    rw [e6]
    exact x_athrow dX6_known_16 rfl (Or.inr ⟨_, rfl, h⟩)
def w_X6_unused (G : xG) (p : Nat) (n : Int32) (w : Int32) (Q : xA → Prop) (E : Nat → xA → Prop) (A : xA) : Prop := xok G A → A.tg p = 6 ∧ (∃ L2 : Nat → Int32 → xA → Prop, (∃ n2 : Nat, L2 n2 (A.I p 2) A) ∧ (∀ (n2 : Nat) (y2_3 : Int32) (A2 : xA), L2 n2 y2_3 A2 → A2.tg p = 6 ∧ (∃ b5 : Nat, (A2.P p 1) = some b5 ∧ (A2.tg b5 = 37 ∧ (∃ R4 : Int32 → xA → Prop, w_J5_size G b5 R4 A2 ∧ (∀ (v4 : Int32) (A4 : xA), xok G A4 → R4 v4 A4 → (((v4 ≤ y2_3 → Q A4) ∧ (¬ v4 ≤ y2_3 → A4.tg p = 6 ∧ (∃ b9 : Nat, (A4.P p 1) = some b9 ∧ (A4.tg b9 = 37 ∧ (∃ R8 : Option Nat → xA → Prop, w_J5_get G b9 y2_3 R8 A4 ∧ (∀ (v8 : Option Nat) (A8 : xA), xok G A8 → R8 v8 A8 → (∃ b11 : Nat, v8 = some b11 ∧ (A8.tg b11 = 33 ∧ ((((A8.I b11 0) = n → A8.tg p = 6 ∧ (∃ R13 : Option Nat → xA → Prop, w_X6_fault G p (5 : Int32) w R13 A8 ∧ (∀ (v13 : Option Nat) (A13 : xA), xok G A13 → R13 v13 A13 → (∃ b15 : Nat, v13 = some b15 ∧ (E b15 A13))))) ∧ (¬ (A8.I b11 0) = n → (∃ q2 : Nat, q2 < n2 ∧ L2 q2 (y2_3 + (1 : Int32)) A8)))))))))))))))))))
theorem m_X6_unused (hG : xOK G) (hO : xHO G) {dp : Nat} {p : Nat} {n : Int32} {w : Int32} {Q : xA → Prop} {E : Nat → xA → Prop} {A : xA} (h : w_X6_unused G p n w Q E A) : MX G (dp + 3) kX6_unused [.ref p, .int n, .int w] A (hX (hV Q) E) := by
  unfold w_X6_unused at h
  refine MX.of rfl (Nat.le_of_ble_eq_true rfl) ?_
  change X _ _ _ _ _ _ [some (.ref p), some (.int n), some (.int w), none] _
  refine X.xok (fun w0 => ?_)
  replace h := h w0
  refine x_aload_n dX6_unused_0 rfl ?_
  obtain ⟨o1, h⟩ := h
  refine x_get (v := .int (A.I p 2)) hG dX6_unused_1 f_X6_49_5 o1 rfl ?_
  refine x_istore_n dX6_unused_4 (by decide) ?_
  obtain ⟨L2, ⟨n2, i2⟩, g2⟩ := h
  have kl2 : ∀ n2 : Nat, ∀ (y2_3 : Int32) (A2 : xA), L2 n2 y2_3 A2 → X G (dp + 3) kX6_unused (hX (hV Q) E) A2 5 [some (.ref p), some (.int n), some (.int w), some (.int y2_3)] [] := by
    intro n2
    induction n2 using Nat.strongRecOn with
    | ind n2 ih2 =>
      intro y2_3 A2 h
      replace h := g2 n2 y2_3 A2 h
      refine x_iload_n dX6_unused_5 rfl ?_
      refine x_aload_n dX6_unused_6 rfl ?_
      obtain ⟨o3, h⟩ := h
      refine x_get (v := va_rf (A2.P p 1)) hG dX6_unused_7 f_X6_21_5 o3 rfl ?_
      obtain ⟨b5, e5, h⟩ := h
      rw [e5]
      obtain ⟨o6, h⟩ := h
      obtain ⟨R4, g4, h⟩ := h
      refine x_callV hG (Ky := kJ5_size) (As := []) dX6_unused_10 o6 rfl lk_X6_55 me_J5_size is_J5_size se_J5_size rfl rfl (Nat.le_of_ble_eq_true rfl) (MX.post (m_w_J5_size hG hO g4) ?_)
      rintro _ A4 ⟨v4, rfl, h1⟩
      refine X.xok (fun w4 => ?_)
      replace h := h v4 A4 w4 h1
      change X _ _ _ _ A4 _ _ [.int v4, .int y2_3]
      refine x_icmp_ge (tgt := 47) dX6_unused_13 (by decide) (fun c13 => ?_) (fun c13 => ?_)
      · replace h := h.1 c13
        exact x_vret dX6_unused_47 rfl (Or.inl ⟨rfl, h⟩)
      · replace h := h.2 c13
        refine x_aload_n dX6_unused_16 rfl ?_
        obtain ⟨o7, h⟩ := h
        refine x_get (v := va_rf (A4.P p 1)) hG dX6_unused_17 f_X6_21_5 o7 rfl ?_
        refine x_iload_n dX6_unused_20 rfl ?_
        obtain ⟨b9, e9, h⟩ := h
        rw [e9]
        obtain ⟨o10, h⟩ := h
        obtain ⟨R8, g8, h⟩ := h
        refine x_callV hG (Ky := kJ5_get) (As := [.int y2_3]) dX6_unused_21 o10 rfl lk_X6_59 me_J5_get is_J5_get se_J5_get rfl rfl (Nat.le_of_ble_eq_true rfl) (MX.post (m_w_J5_get hG hO g8) ?_)
        rintro _ A8 ⟨v8, rfl, h1⟩
        refine X.xok (fun w8 => ?_)
        replace h := h v8 A8 w8 h1
        change X _ _ _ _ A8 _ _ [va_rf v8]
        obtain ⟨b11, e11, h⟩ := h
        rw [e11]
        obtain ⟨o12, h⟩ := h
        refine x_cast hG dX6_unused_24 q1689 o12 rfl (Or.inl rfl) ?_
        refine x_get (v := .int (A8.I b11 0)) hG dX6_unused_27 f_X6_105_32 o12 rfl ?_
        refine x_iload_n dX6_unused_30 rfl ?_
        refine x_icmp_ne (tgt := 41) dX6_unused_31 (by decide) (fun c31 => ?_) (fun c31 => ?_)
        · replace h := h.2 c31
          refine x_iinc (v := (y2_3 + (1 : Int32))) dX6_unused_41 rfl rfl (by decide) ?_
          refine x_goto (tgt := 5) dX6_unused_44 (by decide) ?_
          obtain ⟨q2, l2, h⟩ := h
          change X _ _ _ _ _ _ [some (.ref p), some (.int n), some (.int w), some (.int (y2_3 + (1 : Int32)))] []
          exact X.weak (xle_c rfl (xle_c rfl (xle_c rfl (xle_c rfl xle_nil)))) (ih2 q2 l2 (y2_3 + (1 : Int32)) A8 h)
        · replace h := h.1 c31
          refine x_aload_n dX6_unused_34 rfl ?_
          refine x_iconst_ (v := (5 : Int32)) dX6_unused_35 (by decide) ?_
          refine x_iload_n dX6_unused_36 rfl ?_
          obtain ⟨o14, h⟩ := h
          obtain ⟨R13, g13, h⟩ := h
          refine x_callV hG (Ky := kX6_fault) (As := [.int (5 : Int32), .int w]) dX6_unused_37 o14 rfl lk_X6_95 me_X6_fault is_X6_fault se_X6_fault rfl rfl (Nat.le_of_ble_eq_true rfl) (MX.post (m_X6_fault hG hO g13) ?_)
          rintro _ A13 ⟨v13, rfl, h1⟩
          refine X.xok (fun w13 => ?_)
          replace h := h v13 A13 w13 h1
          change X _ _ _ _ A13 _ _ [va_rf v13]
          obtain ⟨b15, e15, h⟩ := h
          rw [e15]
          exact x_athrow dX6_unused_40 rfl (Or.inr ⟨_, rfl, h⟩)
  change X _ _ _ _ _ _ [some (.ref p), some (.int n), some (.int w), some (.int (A.I p 2))] []
  exact X.weak (xle_c rfl (xle_c rfl (xle_c rfl (xle_c rfl xle_nil)))) (kl2 n2 (A.I p 2) A i2)
def w_X6_know (G : xG) (p : Nat) (s : Option Nat) (Q : xA → Prop) (A : xA) : Prop := xok G A → A.tg p = 6 ∧ (∃ b3 : Nat, (A.P p 1) = some b3 ∧ (A.tg b3 = 37 ∧ (∃ R2 : Int32 → xA → Prop, w_J5_add G b3 s R2 A ∧ (∀ (v2 : Int32) (A2 : xA), xok G A2 → (v2 = 0 ∨ v2 = 1) → R2 v2 A2 → (Q A2)))))
theorem m_X6_know (hG : xOK G) (hO : xHO G) {dp : Nat} {p : Nat} {s : Option Nat} {Q : xA → Prop} {A : xA} (h : w_X6_know G p s Q A) : MX G (dp + 7) kX6_know [.ref p, va_rf s] A (hV Q) := by
  unfold w_X6_know at h
  refine MX.of rfl (by cases s <;> exact Nat.le_of_ble_eq_true rfl) ?_
  refine X.lvs (lv' := [some (.ref p), some (va_rf s)]) (by cases s <;> rfl) ?_
  refine X.xok (fun w0 => ?_)
  replace h := h w0
  refine x_aload_n dX6_know_0 rfl ?_
  obtain ⟨o1, h⟩ := h
  refine x_get (v := va_rf (A.P p 1)) hG dX6_know_1 f_X6_21_5 o1 rfl ?_
  refine x_aloadq_n dX6_know_4 rfl ?_
  obtain ⟨b3, e3, h⟩ := h
  rw [e3]
  obtain ⟨o4, h⟩ := h
  obtain ⟨R2, g2, h⟩ := h
  refine x_callV hG (Ky := kJ5_add) (As := [va_rf s]) dX6_know_5 o4 rfl lk_X6_110 me_J5_add is_J5_add se_J5_add rfl rfl (Nat.le_of_ble_eq_true rfl) (MX.post (m_w_J5_add hG hO g2) ?_)
  rintro _ A2 ⟨v2, rfl, zv2, h1⟩
  refine X.xok (fun w2 => ?_)
  replace h := h v2 A2 w2 zv2 h1
  change X _ _ _ _ A2 _ _ [.int v2]
  refine x_pop dX6_know_8 rfl ?_
  exact x_vret dX6_know_9 rfl ⟨rfl, h⟩
def w_X6_open (G : xG) (p : Nat) (Q : Int32 → xA → Prop) (A : xA) : Prop := xok G A → A.tg p = 6 ∧ (∃ b3 : Nat, (A.P p 1) = some b3 ∧ (A.tg b3 = 37 ∧ (∃ R2 : Int32 → xA → Prop, w_J5_size G b3 R2 A ∧ (∀ (v2 : Int32) (A2 : xA), xok G A2 → R2 v2 A2 → (A2.tg p = 6 ∧ (∀ A6 : xA, A6 = A2.setI p 2 v2 → (Q (A.I p 2) A6)))))))
theorem m_X6_open (hG : xOK G) (hO : xHO G) {dp : Nat} {p : Nat} {Q : Int32 → xA → Prop} {A : xA} (h : w_X6_open G p Q A) : MX G (dp + 1) kX6_open [.ref p] A (hI Q) := by
  unfold w_X6_open at h
  refine MX.of rfl (Nat.le_of_ble_eq_true rfl) ?_
  change X _ _ _ _ _ _ [some (.ref p), none] _
  refine X.xok (fun w0 => ?_)
  replace h := h w0
  refine x_aload_n dX6_open_0 rfl ?_
  obtain ⟨o1, h⟩ := h
  refine x_get (v := .int (A.I p 2)) hG dX6_open_1 f_X6_49_5 o1 rfl ?_
  refine x_istore_n dX6_open_4 (by decide) ?_
  refine x_aload_n dX6_open_5 rfl ?_
  refine x_aload_n dX6_open_6 rfl ?_
  refine x_get (v := va_rf (A.P p 1)) hG dX6_open_7 f_X6_21_5 o1 rfl ?_
  obtain ⟨b3, e3, h⟩ := h
  rw [e3]
  obtain ⟨o4, h⟩ := h
  obtain ⟨R2, g2, h⟩ := h
  refine x_callV hG (Ky := kJ5_size) (As := []) dX6_open_10 o4 rfl lk_X6_55 me_J5_size is_J5_size se_J5_size rfl rfl (Nat.le_of_ble_eq_true rfl) (MX.post (m_w_J5_size hG hO g2) ?_)
  rintro _ A2 ⟨v2, rfl, h1⟩
  refine X.xok (fun w2 => ?_)
  replace h := h v2 A2 w2 h1
  change X _ _ _ _ A2 _ _ [.int v2, .ref p]
  obtain ⟨o5, h⟩ := h
  refine z_putI hG hO.1 dX6_open_13 f_X6_49_5 ⟨_, rfl, Or.inl rfl⟩ o5 (by decide) rfl rfl ⟨_, rfl⟩ (fun A6 e6 => ?_)
  replace h := h A6 e6
  refine x_iload_n dX6_open_16 rfl ?_
  exact x_iret dX6_open_17 rfl ⟨_, rfl, h⟩
def w_X6_close (G : xG) (p : Nat) (o : Int32) (Q : xA → Prop) (A : xA) : Prop := xok G A → ∃ L1 : Nat → xA → Prop, (∃ n1 : Nat, L1 n1 A) ∧ (∀ (n1 : Nat) (A1 : xA), L1 n1 A1 → A1.tg p = 6 ∧ (∃ b4 : Nat, (A1.P p 1) = some b4 ∧ (A1.tg b4 = 37 ∧ (∃ R3 : Int32 → xA → Prop, w_J5_size G b4 R3 A1 ∧ (∀ (v3 : Int32) (A3 : xA), xok G A3 → R3 v3 A3 → (A3.tg p = 6 ∧ (((v3 ≤ (A3.I p 2) → ∀ A7 : xA, A7 = A3.setI p 2 o → (Q A7)) ∧ (¬ v3 ≤ (A3.I p 2) → ∃ b9 : Nat, (A3.P p 1) = some b9 ∧ (A3.tg b9 = 37 ∧ (∃ R8 : Int32 → xA → Prop, w_J5_size G b9 R8 A3 ∧ (∀ (v8 : Int32) (A8 : xA), xok G A8 → R8 v8 A8 → (A8.tg b9 = 37 ∧ (∃ R11 : Option Nat → xA → Prop, w_J5_remove G b9 (v8 - (1 : Int32)) R11 A8 ∧ (∀ (v11 : Option Nat) (A11 : xA), xok G A11 → R11 v11 A11 → ((∃ q1 : Nat, q1 < n1 ∧ L1 q1 A11)))))))))))))))))
theorem m_X6_close (hG : xOK G) (hO : xHO G) {dp : Nat} {p : Nat} {o : Int32} {Q : xA → Prop} {A : xA} (h : w_X6_close G p o Q A) : MX G (dp + 3) kX6_close [.ref p, .int o] A (hV Q) := by
  unfold w_X6_close at h
  refine MX.of rfl (Nat.le_of_ble_eq_true rfl) ?_
  change X _ _ _ _ _ _ [some (.ref p), some (.int o)] _
  refine X.xok (fun w0 => ?_)
  replace h := h w0
  obtain ⟨L1, ⟨n1, i1⟩, g1⟩ := h
  have kl1 : ∀ n1 : Nat, ∀ (A1 : xA), L1 n1 A1 → X G (dp + 3) kX6_close (hV Q) A1 0 [some (.ref p), some (.int o)] [] := by
    intro n1
    induction n1 using Nat.strongRecOn with
    | ind n1 ih1 =>
      intro A1 h
      replace h := g1 n1 A1 h
      refine x_aload_n dX6_close_0 rfl ?_
      obtain ⟨o2, h⟩ := h
      refine x_get (v := va_rf (A1.P p 1)) hG dX6_close_1 f_X6_21_5 o2 rfl ?_
      obtain ⟨b4, e4, h⟩ := h
      rw [e4]
      obtain ⟨o5, h⟩ := h
      obtain ⟨R3, g3, h⟩ := h
      refine x_callV hG (Ky := kJ5_size) (As := []) dX6_close_4 o5 rfl lk_X6_55 me_J5_size is_J5_size se_J5_size rfl rfl (Nat.le_of_ble_eq_true rfl) (MX.post (m_w_J5_size hG hO g3) ?_)
      rintro _ A3 ⟨v3, rfl, h1⟩
      refine X.xok (fun w3 => ?_)
      replace h := h v3 A3 w3 h1
      change X _ _ _ _ A3 _ _ [.int v3]
      refine x_aload_n dX6_close_7 rfl ?_
      obtain ⟨o6, h⟩ := h
      refine x_get (v := .int (A3.I p 2)) hG dX6_close_8 f_X6_49_5 o6 rfl ?_
      refine x_icmp_le (tgt := 34) dX6_close_11 (by decide) (fun c11 => ?_) (fun c11 => ?_)
      · replace h := h.1 c11
        refine x_aload_n dX6_close_34 rfl ?_
        refine x_iload_n dX6_close_35 rfl ?_
        refine z_putI hG hO.1 dX6_close_36 f_X6_49_5 ⟨_, rfl, Or.inl rfl⟩ o6 (by decide) rfl rfl ⟨_, rfl⟩ (fun A7 e7 => ?_)
        replace h := h A7 e7
        exact x_vret dX6_close_39 rfl ⟨rfl, h⟩
      · replace h := h.2 c11
        refine x_aload_n dX6_close_14 rfl ?_
        refine x_get (v := va_rf (A3.P p 1)) hG dX6_close_15 f_X6_21_5 o6 rfl ?_
        refine x_aload_n dX6_close_18 rfl ?_
        refine x_get (v := va_rf (A3.P p 1)) hG dX6_close_19 f_X6_21_5 o6 rfl ?_
        obtain ⟨b9, e9, h⟩ := h
        rw [e9]
        obtain ⟨o10, h⟩ := h
        obtain ⟨R8, g8, h⟩ := h
        refine x_callV hG (Ky := kJ5_size) (As := []) dX6_close_22 o10 rfl lk_X6_55 me_J5_size is_J5_size se_J5_size rfl rfl (Nat.le_of_ble_eq_true rfl) (MX.post (m_w_J5_size hG hO g8) ?_)
        rintro _ A8 ⟨v8, rfl, h1⟩
        refine X.xok (fun w8 => ?_)
        replace h := h v8 A8 w8 h1
        change X _ _ _ _ A8 _ _ [.int v8, .ref b9]
        refine x_iconst_ (v := (1 : Int32)) dX6_close_25 (by decide) ?_
        refine x_isub dX6_close_26 ?_
        obtain ⟨o12, h⟩ := h
        obtain ⟨R11, g11, h⟩ := h
        refine x_callV hG (Ky := kJ5_remove) (As := [.int (v8 - (1 : Int32))]) dX6_close_27 o12 rfl lk_X6_114 me_J5_remove is_J5_remove se_J5_remove rfl rfl (Nat.le_of_ble_eq_true rfl) (MX.post (m_w_J5_remove hG hO g11) ?_)
        rintro _ A11 ⟨v11, rfl, h1⟩
        refine X.xok (fun w11 => ?_)
        replace h := h v11 A11 w11 h1
        change X _ _ _ _ A11 _ _ [va_rf v11]
        refine x_pop dX6_close_30 (va_rf_cat _) ?_
        refine x_goto (tgt := 0) dX6_close_31 (by decide) ?_
        obtain ⟨q1, l1, h⟩ := h
        change X _ _ _ _ _ _ [some (.ref p), some (.int o)] []
        exact X.weak (xle_c rfl (xle_c rfl xle_nil)) (ih1 q1 l1 A11 h)
  change X _ _ _ _ _ _ [some (.ref p), some (.int o)] []
  exact X.weak (xle_c rfl (xle_c rfl xle_nil)) (kl1 n1 A i1)
def w_X6_words (G : xG) (p : Nat) (n : Int32) (w : Int32) (Q : xA → Prop) (E : Nat → xA → Prop) (A : xA) : Prop := xok G A → A.tg p = 6 ∧ (((((A.I p 4) + n) ≤ (200 : Int32) → ∀ A2 : xA, A2 = A.setI p 4 ((A.I p 4) + n) → (Q A2)) ∧ (¬ ((A.I p 4) + n) ≤ (200 : Int32) → ∃ R3 : Option Nat → xA → Prop, w_X6_fault G p (11 : Int32) w R3 A ∧ (∀ (v3 : Option Nat) (A3 : xA), xok G A3 → R3 v3 A3 → (∃ b4 : Nat, v3 = some b4 ∧ (E b4 A3))))))
theorem m_X6_words (hG : xOK G) (hO : xHO G) {dp : Nat} {p : Nat} {n : Int32} {w : Int32} {Q : xA → Prop} {E : Nat → xA → Prop} {A : xA} (h : w_X6_words G p n w Q E A) : MX G (dp + 1) kX6_words [.ref p, .int n, .int w] A (hX (hV Q) E) := by
  unfold w_X6_words at h
  refine MX.of rfl (Nat.le_of_ble_eq_true rfl) ?_
  change X _ _ _ _ _ _ [some (.ref p), some (.int n), some (.int w)] _
  refine X.xok (fun w0 => ?_)
  replace h := h w0
  refine x_aload_n dX6_words_0 rfl ?_
  obtain ⟨o1, h⟩ := h
  refine x_get (v := .int (A.I p 4)) hG dX6_words_1 f_X6_188_5 o1 rfl ?_
  refine x_iload_n dX6_words_4 rfl ?_
  refine x_iadd dX6_words_5 ?_
  refine x_sipush_ (v := (200 : Int32)) dX6_words_6 (by decide) ?_
  refine x_icmp_le (tgt := 20) dX6_words_9 (by decide) (fun c9 => ?_) (fun c9 => ?_)
  · replace h := h.1 c9
    refine x_aload_n dX6_words_20 rfl ?_
    refine x_dup dX6_words_21 rfl ?_
    refine x_get (v := .int (A.I p 4)) hG dX6_words_22 f_X6_188_5 o1 rfl ?_
    refine x_iload_n dX6_words_25 rfl ?_
    refine x_iadd dX6_words_26 ?_
    refine z_putI hG hO.1 dX6_words_27 f_X6_188_5 ⟨_, rfl, Or.inl rfl⟩ o1 (by decide) rfl rfl ⟨_, rfl⟩ (fun A2 e2 => ?_)
    replace h := h A2 e2
    exact x_vret dX6_words_30 rfl (Or.inl ⟨rfl, h⟩)
  · replace h := h.2 c9
    refine x_aload_n dX6_words_12 rfl ?_
    refine x_bipush_ (v := (11 : Int32)) dX6_words_13 (by decide) ?_
    refine x_iload_n dX6_words_15 rfl ?_
    obtain ⟨R3, g3, h⟩ := h
    refine x_callV hG (Ky := kX6_fault) (As := [.int (11 : Int32), .int w]) dX6_words_16 o1 rfl lk_X6_95 me_X6_fault is_X6_fault se_X6_fault rfl rfl (Nat.le_of_ble_eq_true rfl) (MX.post (m_X6_fault hG hO g3) ?_)
    rintro _ A3 ⟨v3, rfl, h1⟩
    refine X.xok (fun w3 => ?_)
    replace h := h v3 A3 w3 h1
    change X _ _ _ _ A3 _ _ [va_rf v3]
    obtain ⟨b4, e4, h⟩ := h
    rw [e4]
    exact x_athrow dX6_words_19 rfl (Or.inr ⟨_, rfl, h⟩)
def w_X6_own (G : xG) (p : Nat) (n : Int32) (Q : Int32 → xA → Prop) (A : xA) : Prop := xok G A → A.tg p = 6 ∧ (∃ b2 : Nat, (A.P p 9) = some b2 ∧ (A.tg b2 = 34 ∧ (∀ A4 : xA, A4 = A.setI b2 3 ((A.I b2 3) + n) → (Q (((A.I b2 3) + n) - n) A4))))
theorem m_X6_own (hG : xOK G) (hO : xHO G) {dp : Nat} {p : Nat} {n : Int32} {Q : Int32 → xA → Prop} {A : xA} (h : w_X6_own G p n Q A) : MX G (dp + 0) kX6_own [.ref p, .int n] A (hI Q) := by
  unfold w_X6_own at h
  refine MX.of rfl (Nat.le_of_ble_eq_true rfl) ?_
  change X _ _ _ _ _ _ [some (.ref p), some (.int n)] _
  refine X.xok (fun w0 => ?_)
  replace h := h w0
  refine x_aload_n dX6_own_0 rfl ?_
  obtain ⟨o1, h⟩ := h
  refine x_get (v := va_rf (A.P p 9)) hG dX6_own_1 f_X6_183_5 o1 rfl ?_
  refine x_dup dX6_own_4 (va_rf_cat _) ?_
  obtain ⟨b2, e2, h⟩ := h
  rw [e2]
  obtain ⟨o3, h⟩ := h
  refine x_get (v := .int (A.I b2 3)) hG dX6_own_5 f_X6_274_33 o3 rfl ?_
  refine x_iload_n dX6_own_8 rfl ?_
  refine x_iadd dX6_own_9 ?_
  refine z_putI hG hO.1 dX6_own_10 f_X6_274_33 ⟨_, rfl, Or.inl rfl⟩ o3 (by decide) rfl rfl ⟨_, rfl⟩ (fun A4 e4 => ?_)
  replace h := h A4 e4
  refine x_aload_n dX6_own_13 rfl ?_
  refine x_get (v := .ref b2) hG dX6_own_14 f_X6_183_5 (kI e4 o1) (congrArg va_rf ((sI_P e4).trans e2)) ?_
  refine x_get (v := .int ((A.I b2 3) + n)) hG dX6_own_17 f_X6_274_33 (kI e4 o3) (congrArg Value.int (sI_s e4)) ?_
  refine x_iload_n dX6_own_20 rfl ?_
  refine x_isub dX6_own_21 ?_
  exact x_iret dX6_own_22 rfl ⟨_, rfl, h⟩
def w_X6_register (G : xG) (p : Nat) (Q : Int32 → xA → Prop) (A : xA) : Prop := xok G A → A.tg p = 6 ∧ (∃ b2 : Nat, (A.P p 9) = some b2 ∧ (A.tg b2 = 34 ∧ (∀ A4 : xA, A4 = A.setI b2 2 ((A.I b2 2) + (1 : Int32)) → (Q (((A.I b2 2) + (1 : Int32)) - (1 : Int32)) A4))))
theorem m_X6_register (hG : xOK G) (hO : xHO G) {dp : Nat} {p : Nat} {Q : Int32 → xA → Prop} {A : xA} (h : w_X6_register G p Q A) : MX G (dp + 0) kX6_register [.ref p] A (hI Q) := by
  unfold w_X6_register at h
  refine MX.of rfl (Nat.le_of_ble_eq_true rfl) ?_
  change X _ _ _ _ _ _ [some (.ref p)] _
  refine X.xok (fun w0 => ?_)
  replace h := h w0
  refine x_aload_n dX6_register_0 rfl ?_
  obtain ⟨o1, h⟩ := h
  refine x_get (v := va_rf (A.P p 9)) hG dX6_register_1 f_X6_183_5 o1 rfl ?_
  refine x_dup dX6_register_4 (va_rf_cat _) ?_
  obtain ⟨b2, e2, h⟩ := h
  rw [e2]
  obtain ⟨o3, h⟩ := h
  refine x_get (v := .int (A.I b2 2)) hG dX6_register_5 f_X6_277_33 o3 rfl ?_
  refine x_iconst_ (v := (1 : Int32)) dX6_register_8 (by decide) ?_
  refine x_iadd dX6_register_9 ?_
  refine z_putI hG hO.1 dX6_register_10 f_X6_277_33 ⟨_, rfl, Or.inl rfl⟩ o3 (by decide) rfl rfl ⟨_, rfl⟩ (fun A4 e4 => ?_)
  replace h := h A4 e4
  refine x_aload_n dX6_register_13 rfl ?_
  refine x_get (v := .ref b2) hG dX6_register_14 f_X6_183_5 (kI e4 o1) (congrArg va_rf ((sI_P e4).trans e2)) ?_
  refine x_get (v := .int ((A.I b2 2) + (1 : Int32))) hG dX6_register_17 f_X6_277_33 (kI e4 o3) (congrArg Value.int (sI_s e4)) ?_
  refine x_iconst_ (v := (1 : Int32)) dX6_register_20 (by decide) ?_
  refine x_isub dX6_register_21 ?_
  exact x_iret dX6_register_22 rfl ⟨_, rfl, h⟩
def w_X6_block (G : xG) (p : Nat) (Q : Option Nat → xA → Prop) (A : xA) : Prop := xok G A → rmO G A 12 ∧ (∀ A2 : xA, A2 = A.new 35 0 12 0 → (∃ R3 : xA → Prop, w_X36_init G A.n R3 A2 ∧ (∀ A3 : xA, xok G A3 → R3 A3 → (Q (some A.n) A3))))
theorem m_X6_block (hG : xOK G) (hO : xHO G) {dp : Nat} {p : Nat} {Q : Option Nat → xA → Prop} {A : xA} (h : w_X6_block G p Q A) : MX G (dp + 5) kX6_block [.ref p] A (hR Q) := by
  unfold w_X6_block at h
  refine MX.of rfl (Nat.le_of_ble_eq_true rfl) ?_
  change X _ _ _ _ _ _ [some (.ref p)] _
  refine X.xok (fun w0 => ?_)
  replace h := h w0
  obtain ⟨o1, h⟩ := h
  refine z_new hG (c := 34) dX6_block_0 rfl q1784 (by decide) rfl o1 (fun A2 e2 w2 => ?_)
  replace h := h A2 e2
  refine x_dup dX6_block_3 rfl ?_
  obtain ⟨R3, g3, h⟩ := h
  refine x_callI hG (Ky := kX36_init) (As := []) dX6_block_4 lk_X6_289 me_X36_init is_X36_init rfl rfl rfl rfl rfl (Nat.le_of_ble_eq_true rfl) (MX.post (m_X36_init hG hO g3) ?_)
  rintro _ A3 ⟨rfl, h1⟩
  refine X.xok (fun w3 => ?_)
  replace h := h A3 w3 h1
  change X _ _ _ _ A3 _ _ [.ref A.n]
  exact x_aret (r := (some A.n)) dX6_block_7 rfl (Or.inl ⟨_, rfl⟩) ⟨_, rfl, h⟩
def w_X6_at (G : xG) (p : Nat) (b : Option Nat) (Q : xA → Prop) (A : xA) : Prop := xok G A → A.tg p = 6 ∧ (∀ A2 : xA, A2 = A.setP p 10 b → (∃ b3 : Nat, (A.P p 9) = some b3 ∧ (A2.tg b3 = 34 ∧ (∃ b6 : Nat, (A2.P b3 1) = some b6 ∧ (A2.tg b6 = 37 ∧ (∃ R5 : Int32 → xA → Prop, w_J5_add G b6 b R5 A2 ∧ (∀ (v5 : Int32) (A5 : xA), xok G A5 → (v5 = 0 ∨ v5 = 1) → R5 v5 A5 → (Q A5))))))))
theorem m_X6_at (hG : xOK G) (hO : xHO G) {dp : Nat} {p : Nat} {b : Option Nat} {Q : xA → Prop} {A : xA} (h : w_X6_at G p b Q A) : MX G (dp + 7) kX6_at [.ref p, va_rf b] A (hV Q) := by
  unfold w_X6_at at h
  refine MX.of rfl (by cases b <;> exact Nat.le_of_ble_eq_true rfl) ?_
  refine X.lvs (lv' := [some (.ref p), some (va_rf b)]) (by cases b <;> rfl) ?_
  refine X.xok (fun w0 => ?_)
  replace h := h w0
  refine x_aload_n dX6_at_0 rfl ?_
  refine x_aloadq_n dX6_at_1 rfl ?_
  obtain ⟨o1, h⟩ := h
  refine z_putP hG hO.1 b dX6_at_2 f_X6_224_5 ⟨_, rfl, Or.inl rfl⟩ o1 (by decide) (Or.inl ⟨_, rfl⟩) (fun A2 e2 => ?_)
  replace h := h A2 e2
  refine x_aload_n dX6_at_5 rfl ?_
  refine x_get (v := va_rf (A.P p 9)) hG dX6_at_6 f_X6_183_5 (kP e2 o1) (congrArg va_rf (sP_k e2 (by decide))) ?_
  obtain ⟨b3, e3, h⟩ := h
  rw [e3]
  obtain ⟨o4, h⟩ := h
  refine x_get (v := va_rf (A2.P b3 1)) hG dX6_at_9 f_X6_290_33 o4 rfl ?_
  refine x_aloadq_n dX6_at_12 rfl ?_
  obtain ⟨b6, e6, h⟩ := h
  rw [e6]
  obtain ⟨o7, h⟩ := h
  obtain ⟨R5, g5, h⟩ := h
  refine x_callV hG (Ky := kJ5_add) (As := [va_rf b]) dX6_at_13 o7 rfl lk_X6_110 me_J5_add is_J5_add se_J5_add rfl rfl (Nat.le_of_ble_eq_true rfl) (MX.post (m_w_J5_add hG hO g5) ?_)
  rintro _ A5 ⟨v5, rfl, zv5, h1⟩
  refine X.xok (fun w5 => ?_)
  replace h := h v5 A5 w5 zv5 h1
  change X _ _ _ _ A5 _ _ [.int v5]
  refine x_pop dX6_at_16 rfl ?_
  exact x_vret dX6_at_17 rfl ⟨rfl, h⟩
def w_X6_emit (G : xG) (p : Nat) (t : Int32) (r : Int32) (a : Int64) (b : Int64) (Q : Option Nat → xA → Prop) (A : xA) : Prop := xok G A → rmO G A 10 ∧ (∀ A2 : xA, A2 = A.new 36 0 10 0 → (∃ R3 : xA → Prop, w_X37_init G A.n t r a b R3 A2 ∧ (∀ A3 : xA, xok G A3 → R3 A3 → (A3.tg p = 6 ∧ (∃ b5 : Nat, (A3.P p 10) = some b5 ∧ (A3.tg b5 = 35 ∧ (∃ b8 : Nat, (A3.P b5 0) = some b8 ∧ (A3.tg b8 = 37 ∧ (∃ R7 : Int32 → xA → Prop, w_J5_add G b8 (some A.n) R7 A3 ∧ (∀ (v7 : Int32) (A7 : xA), xok G A7 → (v7 = 0 ∨ v7 = 1) → R7 v7 A7 → (Q (some A.n) A7)))))))))))
theorem m_X6_emit (hG : xOK G) (hO : xHO G) {dp : Nat} {p : Nat} {t : Int32} {r : Int32} {a : Int64} {b : Int64} {Q : Option Nat → xA → Prop} {A : xA} (h : w_X6_emit G p t r a b Q A) : MX G (dp + 7) kX6_emit [.ref p, .int t, .int r, .long a, .long b] A (hR Q) := by
  unfold w_X6_emit at h
  refine MX.of rfl (Nat.le_of_ble_eq_true rfl) ?_
  change X _ _ _ _ _ _ [some (.ref p), some (.int t), some (.int r), some (.long a), none, some (.long b), none, none] _
  refine X.xok (fun w0 => ?_)
  replace h := h w0
  obtain ⟨o1, h⟩ := h
  refine z_new hG (c := 35) dX6_emit_0 rfl q1904 (by decide) rfl o1 (fun A2 e2 w2 => ?_)
  replace h := h A2 e2
  refine x_dup dX6_emit_3 rfl ?_
  refine x_iload_n dX6_emit_4 rfl ?_
  refine x_iload_n dX6_emit_5 rfl ?_
  refine x_lload_n dX6_emit_6 rfl ?_
  refine x_lload dX6_emit_7 rfl ?_
  obtain ⟨R3, g3, h⟩ := h
  refine x_callI hG (Ky := kX37_init) (As := [.int t, .int r, .long a, .long b]) dX6_emit_9 lk_X6_293 me_X37_init is_X37_init rfl rfl rfl rfl rfl (Nat.le_of_ble_eq_true rfl) (MX.post (m_X37_init hG hO g3) ?_)
  rintro _ A3 ⟨rfl, h1⟩
  refine X.xok (fun w3 => ?_)
  replace h := h A3 w3 h1
  change X _ _ _ _ A3 _ _ [.ref A.n]
  refine x_astore dX6_emit_12 (by decide) ?_
  refine x_aload_n dX6_emit_14 rfl ?_
  obtain ⟨o4, h⟩ := h
  refine x_get (v := va_rf (A3.P p 10)) hG dX6_emit_15 f_X6_224_5 o4 rfl ?_
  obtain ⟨b5, e5, h⟩ := h
  rw [e5]
  obtain ⟨o6, h⟩ := h
  refine x_get (v := va_rf (A3.P b5 0)) hG dX6_emit_18 f_X6_296_34 o6 rfl ?_
  refine x_aload dX6_emit_21 rfl ?_
  obtain ⟨b8, e8, h⟩ := h
  rw [e8]
  obtain ⟨o9, h⟩ := h
  obtain ⟨R7, g7, h⟩ := h
  refine x_callV hG (Ky := kJ5_add) (As := [.ref A.n]) dX6_emit_23 o9 rfl lk_X6_110 me_J5_add is_J5_add se_J5_add rfl rfl (Nat.le_of_ble_eq_true rfl) (MX.post (m_w_J5_add hG hO g7) ?_)
  rintro _ A7 ⟨v7, rfl, zv7, h1⟩
  refine X.xok (fun w7 => ?_)
  replace h := h v7 A7 w7 zv7 h1
  change X _ _ _ _ A7 _ _ [.int v7]
  refine x_pop dX6_emit_26 rfl ?_
  refine x_aload dX6_emit_27 rfl ?_
  exact x_aret (r := (some A.n)) dX6_emit_29 rfl (Or.inl ⟨_, rfl⟩) ⟨_, rfl, h⟩
def w_X6_move (G : xG) (p : Nat) (r : Int32) (v : Int64) (Q : xA → Prop) (A : xA) : Prop := xok G A → A.tg p = 6 ∧ (∃ b2 : Nat, (A.P p 10) = some b2 ∧ (A.tg b2 = 35 ∧ (rmO G A 10 ∧ (∀ A5 : xA, A5 = A.new 36 0 10 0 → (∃ R6 : xA → Prop, w_X37_init G A.n (20 : Int32) r v (0 : Int64) R6 A5 ∧ (∀ A6 : xA, xok G A6 → R6 A6 → (∃ b8 : Nat, (A.P b2 0) = some b8 ∧ (A6.tg b8 = 37 ∧ (∃ R7 : Int32 → xA → Prop, w_J5_add G b8 (some A.n) R7 A6 ∧ (∀ (v7 : Int32) (A7 : xA), xok G A7 → (v7 = 0 ∨ v7 = 1) → R7 v7 A7 → (Q A7)))))))))))
theorem m_X6_move (hG : xOK G) (hO : xHO G) {dp : Nat} {p : Nat} {r : Int32} {v : Int64} {Q : xA → Prop} {A : xA} (h : w_X6_move G p r v Q A) : MX G (dp + 7) kX6_move [.ref p, .int r, .long v] A (hV Q) := by
  unfold w_X6_move at h
  refine MX.of rfl (Nat.le_of_ble_eq_true rfl) ?_
  change X _ _ _ _ _ _ [some (.ref p), some (.int r), some (.long v), none] _
  refine X.xok (fun w0 => ?_)
  replace h := h w0
  refine x_aload_n dX6_move_0 rfl ?_
  obtain ⟨o1, h⟩ := h
  refine x_get (v := va_rf (A.P p 10)) hG dX6_move_1 f_X6_224_5 o1 rfl ?_
  obtain ⟨b2, e2, h⟩ := h
  rw [e2]
  obtain ⟨o3, h⟩ := h
  refine x_get (v := va_rf (A.P b2 0)) hG dX6_move_4 f_X6_296_34 o3 rfl ?_
  obtain ⟨o4, h⟩ := h
  refine z_new hG (c := 35) dX6_move_7 rfl q1904 (by decide) rfl o4 (fun A5 e5 w5 => ?_)
  replace h := h A5 e5
  refine x_dup dX6_move_10 rfl ?_
  refine x_bipush_ (v := (20 : Int32)) dX6_move_11 (by decide) ?_
  refine x_iload_n dX6_move_13 rfl ?_
  refine x_lload_n dX6_move_14 rfl ?_
  refine x_lconst_ (v := (0 : Int64)) dX6_move_15 (by decide) ?_
  obtain ⟨R6, g6, h⟩ := h
  refine x_callI hG (Ky := kX37_init) (As := [.int (20 : Int32), .int r, .long v, .long (0 : Int64)]) dX6_move_16 lk_X6_293 me_X37_init is_X37_init rfl rfl rfl rfl rfl (by simp only [List.append_eq, List.nil_append, List.map_cons, va_rf_cat]; exact Nat.le_of_ble_eq_true rfl) (MX.post (m_X37_init hG hO g6) ?_)
  rintro _ A6 ⟨rfl, h1⟩
  refine X.xok (fun w6 => ?_)
  replace h := h A6 w6 h1
  change X _ _ _ _ A6 _ _ [.ref A.n, va_rf (A.P b2 0)]
  obtain ⟨b8, e8, h⟩ := h
  rw [e8]
  obtain ⟨o9, h⟩ := h
  obtain ⟨R7, g7, h⟩ := h
  refine x_callV hG (Ky := kJ5_add) (As := [.ref A.n]) dX6_move_19 o9 rfl lk_X6_110 me_J5_add is_J5_add se_J5_add rfl rfl (Nat.le_of_ble_eq_true rfl) (MX.post (m_w_J5_add hG hO g7) ?_)
  rintro _ A7 ⟨v7, rfl, zv7, h1⟩
  refine X.xok (fun w7 => ?_)
  replace h := h v7 A7 w7 zv7 h1
  change X _ _ _ _ A7 _ _ [.int v7]
  refine x_pop dX6_move_22 rfl ?_
  exact x_vret dX6_move_23 rfl ⟨rfl, h⟩
def w_X6_base (G : xG) (s : Option Nat) (Q : Int64 → xA → Prop) (A : xA) : Prop := xok G A → ∃ b1 : Nat, s = some b1 ∧ (A.tg b1 = 33 ∧ (Q (if (A.I b1 1) = (5 : Int32) then (A.I b1 2).toInt64 else (f_X6_constant (0 : Int32))) A))
theorem m_X6_base (hG : xOK G) (hO : xHO G) {dp : Nat} {s : Option Nat} {Q : Int64 → xA → Prop} {A : xA} (h : w_X6_base G s Q A) : MX G (dp + 1) kX6_base [va_rf s] A (hL Q) := by
  unfold w_X6_base at h
  refine MX.of rfl (by cases s <;> exact Nat.le_of_ble_eq_true rfl) ?_
  refine X.lvs (lv' := [some (va_rf s)]) (by cases s <;> rfl) ?_
  refine X.xok (fun w0 => ?_)
  replace h := h w0
  refine x_aloadq_n dX6_base_0 rfl ?_
  obtain ⟨b1, e1, h⟩ := h
  rw [e1]
  obtain ⟨o2, h⟩ := h
  refine x_get (v := .int (A.I b1 1)) hG dX6_base_1 f_X6_314_32 o2 rfl ?_
  refine x_iconst_ (v := (5 : Int32)) dX6_base_4 (by decide) ?_
  refine x_via 20 (A' := A) (lv' := [none]) (st' := [.long (if (A.I b1 1) = (5 : Int32) then (A.I b1 2).toInt64 else (f_X6_constant (0 : Int32)))]) ?_ (fun k20 => ?_)
  rotate_left
  · refine x_icmp_ne (tgt := 16) dX6_base_5 (by decide) (fun c5 => ?_) (fun c5 => ?_)
    · refine x_iconst_ (v := (0 : Int32)) dX6_base_16 (by decide) ?_
      refine x_callS hG (Ky := kX6_constant) (As := [.int (0 : Int32)]) dX6_base_17 lk_X6_232 me_X6_constant st_X6_constant rfl rfl (Nat.le_of_ble_eq_true rfl) (MX.post (m_X6_constant hG) ?_)
      rintro _ _ ⟨rfl, rfl⟩
      change X _ _ _ _ _ _ _ (.long (f_X6_constant (0 : Int32)) :: _)
      change X _ _ _ _ _ _ [some (.ref b1)] [.long (f_X6_constant (0 : Int32))]
      simp only [if_neg c5] at k20 ⊢
      exact X.weak (xle_n xle_nil) k20
    · refine x_aload_n dX6_base_8 rfl ?_
      refine x_get (v := .int (A.I b1 2)) hG dX6_base_9 f_X6_161_32 o2 rfl ?_
      refine x_i2l dX6_base_12 ?_
      refine x_goto (tgt := 20) dX6_base_13 (by decide) ?_
      change X _ _ _ _ _ _ [some (.ref b1)] [.long (A.I b1 2).toInt64]
      simp only [if_pos c5] at k20 ⊢
      exact X.weak (xle_n xle_nil) k20
  exact x_lret dX6_base_20 rfl ⟨_, rfl, h⟩
def w_X6_element (G : xG) (p : Nat) (s : Option Nat) (i : Int64) (Q : Int64 → xA → Prop) (A : xA) : Prop := xok G A → ∃ b1 : Nat, s = some b1 ∧ (A.tg b1 = 33 ∧ (A.tg p = 6 ∧ (∃ R3 : Int32 → xA → Prop, w_X6_register G p R3 A ∧ (∀ (v3 : Int32) (A3 : xA), xok G A3 → R3 v3 A3 → (∃ R5 : Int64 → xA → Prop, w_X6_base G (some b1) R5 A3 ∧ (∀ (v5 : Int64) (A5 : xA), xok G A5 → R5 v5 A5 → (A5.tg p = 6 ∧ (∃ R6 : Option Nat → xA → Prop, w_X6_emit G p (if (A.I b1 3) = 0 then (21 : Int32) else (22 : Int32)) v3 v5 i R6 A5 ∧ (∀ (v6 : Option Nat) (A6 : xA), xok G A6 → R6 v6 A6 → (∃ b8 : Nat, v6 = some b8 ∧ (A6.tg b8 = 36 ∧ (∀ A10 : xA, A10 = A6.setP b8 7 (some b1) → (Q (A6.I b8 1).toInt64 A10)))))))))))))
theorem m_X6_element (hG : xOK G) (hO : xHO G) {dp : Nat} {p : Nat} {s : Option Nat} {i : Int64} {Q : Int64 → xA → Prop} {A : xA} (h : w_X6_element G p s i Q A) : MX G (dp + 8) kX6_element [.ref p, va_rf s, .long i] A (hL Q) := by
  unfold w_X6_element at h
  refine MX.of rfl (by cases s <;> exact Nat.le_of_ble_eq_true rfl) ?_
  refine X.lvs (lv' := [some (.ref p), some (va_rf s), some (.long i), none, none]) (by cases s <;> rfl) ?_
  refine X.xok (fun w0 => ?_)
  replace h := h w0
  refine x_aload_n dX6_element_0 rfl ?_
  refine x_aloadq_n dX6_element_1 rfl ?_
  obtain ⟨b1, e1, h⟩ := h
  rw [e1]
  obtain ⟨o2, h⟩ := h
  refine x_get (v := .int (A.I b1 3)) hG dX6_element_2 f_X6_154_32 o2 rfl ?_
  refine x_via 15 (A' := A) (lv' := [some (.ref p), some (.ref b1), some (.long i), none, none]) (st' := [.int (if (A.I b1 3) = 0 then (21 : Int32) else (22 : Int32)), .ref p]) ?_ (fun k15 => ?_)
  rotate_left
  · refine x_if_eq (tgt := 13) dX6_element_5 (by decide) (fun c5 => ?_) (fun c5 => ?_)
    · refine x_bipush_ (v := (21 : Int32)) dX6_element_13 (by decide) ?_
      change X _ _ _ _ _ _ [some (.ref p), some (.ref b1), some (.long i), none, none] [.int (21 : Int32), .ref p]
      simp only [if_pos c5] at k15 ⊢
      exact X.weak (xle_c rfl (xle_c rfl (xle_c rfl (xle_n (xle_n xle_nil))))) k15
    · refine x_bipush_ (v := (22 : Int32)) dX6_element_8 (by decide) ?_
      refine x_goto (tgt := 15) dX6_element_10 (by decide) ?_
      change X _ _ _ _ _ _ [some (.ref p), some (.ref b1), some (.long i), none, none] [.int (22 : Int32), .ref p]
      simp only [if_neg c5] at k15 ⊢
      exact X.weak (xle_c rfl (xle_c rfl (xle_c rfl (xle_n (xle_n xle_nil))))) k15
  refine x_aload_n dX6_element_15 rfl ?_
  obtain ⟨o4, h⟩ := h
  obtain ⟨R3, g3, h⟩ := h
  refine x_callV hG (Ky := kX6_register) (As := []) dX6_element_16 o4 rfl lk_X6_254 me_X6_register is_X6_register se_X6_register rfl rfl (Nat.le_of_ble_eq_true rfl) (MX.post (m_X6_register hG hO g3) ?_)
  rintro _ A3 ⟨v3, rfl, h1⟩
  refine X.xok (fun w3 => ?_)
  replace h := h v3 A3 w3 h1
  change X _ _ _ _ A3 _ _ [.int v3, .int (if (A.I b1 3) = 0 then (21 : Int32) else (22 : Int32)), .ref p]
  refine x_aload_n dX6_element_19 rfl ?_
  obtain ⟨R5, g5, h⟩ := h
  refine x_callS hG (Ky := kX6_base) (As := [.ref b1]) dX6_element_20 lk_X6_319 me_X6_base st_X6_base rfl rfl (Nat.le_of_ble_eq_true rfl) (MX.post (m_X6_base hG hO g5) ?_)
  rintro _ A5 ⟨v5, rfl, h1⟩
  refine X.xok (fun w5 => ?_)
  replace h := h v5 A5 w5 h1
  change X _ _ _ _ A5 _ _ [.long v5, .int v3, .int (if (A.I b1 3) = 0 then (21 : Int32) else (22 : Int32)), .ref p]
  refine x_lload_n dX6_element_23 rfl ?_
  obtain ⟨o7, h⟩ := h
  obtain ⟨R6, g6, h⟩ := h
  refine x_callV hG (Ky := kX6_emit) (As := [.int (if (A.I b1 3) = 0 then (21 : Int32) else (22 : Int32)), .int v3, .long v5, .long i]) dX6_element_24 o7 rfl lk_X6_260 me_X6_emit is_X6_emit se_X6_emit rfl rfl (Nat.le_of_ble_eq_true rfl) (MX.post (m_X6_emit hG hO g6) ?_)
  rintro _ A6 ⟨v6, rfl, h1⟩
  refine X.xok (fun w6 => ?_)
  replace h := h v6 A6 w6 h1
  change X _ _ _ _ A6 _ _ [va_rf v6]
  refine x_astoreq dX6_element_27 (by decide) ?_
  refine x_aloadq dX6_element_29 rfl ?_
  refine x_aload_n dX6_element_31 rfl ?_
  obtain ⟨b8, e8, h⟩ := h
  rw [e8]
  obtain ⟨o9, h⟩ := h
  refine z_putP hG hO.1 (some b1) dX6_element_32 f_X6_323_35 ⟨_, rfl, Or.inl rfl⟩ o9 (by decide) (Or.inl ⟨_, rfl⟩) (fun A10 e10 => ?_)
  replace h := h A10 e10
  refine x_aload dX6_element_35 rfl ?_
  refine x_get (v := .int (A6.I b8 1)) hG dX6_element_37 f_X6_311_35 (kP e10 o9) (congrArg Value.int (sP_I e10)) ?_
  refine x_i2l dX6_element_40 ?_
  exact x_lret dX6_element_41 rfl ⟨_, rfl, h⟩
def w_X6_load (G : xG) (p : Nat) (s : Option Nat) (Q : Int64 → xA → Prop) (A : xA) : Prop := xok G A → ∃ b1 : Nat, s = some b1 ∧ (A.tg b1 = 33 ∧ ((((A.I b1 1) = 0 → Q (f_X6_constant (A.I b1 2)) A) ∧ (¬ (A.I b1 1) = 0 → (((A.I b1 1) = (3 : Int32) → Q (A.I b1 2).toInt64 A) ∧ (¬ (A.I b1 1) = (3 : Int32) → A.tg p = 6 ∧ (∃ R3 : Int64 → xA → Prop, w_X6_element G p (some b1) (f_X6_constant (0 : Int32)) R3 A ∧ (∀ (v3 : Int64) (A3 : xA), xok G A3 → R3 v3 A3 → (Q v3 A3)))))))))
theorem m_X6_load (hG : xOK G) (hO : xHO G) {dp : Nat} {p : Nat} {s : Option Nat} {Q : Int64 → xA → Prop} {A : xA} (h : w_X6_load G p s Q A) : MX G (dp + 9) kX6_load [.ref p, va_rf s] A (hL Q) := by
  unfold w_X6_load at h
  refine MX.of rfl (by cases s <;> exact Nat.le_of_ble_eq_true rfl) ?_
  refine X.lvs (lv' := [some (.ref p), some (va_rf s)]) (by cases s <;> rfl) ?_
  refine X.xok (fun w0 => ?_)
  replace h := h w0
  refine x_aloadq_n dX6_load_0 rfl ?_
  obtain ⟨b1, e1, h⟩ := h
  rw [e1]
  obtain ⟨o2, h⟩ := h
  refine x_get (v := .int (A.I b1 1)) hG dX6_load_1 f_X6_314_32 o2 rfl ?_
  refine x_if_ne (tgt := 17) dX6_load_4 (by decide) (fun c4 => ?_) (fun c4 => ?_)
  · replace h := h.2 c4
    refine x_aload_n dX6_load_17 rfl ?_
    refine x_get (v := .int (A.I b1 1)) hG dX6_load_18 f_X6_314_32 o2 rfl ?_
    refine x_iconst_ (v := (3 : Int32)) dX6_load_21 (by decide) ?_
    refine x_icmp_ne (tgt := 33) dX6_load_22 (by decide) (fun c22 => ?_) (fun c22 => ?_)
    · replace h := h.2 c22
      refine x_aload_n dX6_load_33 rfl ?_
      refine x_aload_n dX6_load_34 rfl ?_
      refine x_iconst_ (v := (0 : Int32)) dX6_load_35 (by decide) ?_
      refine x_callS hG (Ky := kX6_constant) (As := [.int (0 : Int32)]) dX6_load_36 lk_X6_232 me_X6_constant st_X6_constant rfl rfl (Nat.le_of_ble_eq_true rfl) (MX.post (m_X6_constant hG) ?_)
      rintro _ _ ⟨rfl, rfl⟩
      change X _ _ _ _ _ _ _ (.long (f_X6_constant (0 : Int32)) :: _)
      obtain ⟨o4, h⟩ := h
      obtain ⟨R3, g3, h⟩ := h
      refine x_callV hG (Ky := kX6_element) (As := [.ref b1, .long (f_X6_constant (0 : Int32))]) dX6_load_39 o4 rfl lk_X6_315 me_X6_element is_X6_element se_X6_element rfl rfl (Nat.le_of_ble_eq_true rfl) (MX.post (m_X6_element hG hO g3) ?_)
      rintro _ A3 ⟨v3, rfl, h1⟩
      refine X.xok (fun w3 => ?_)
      replace h := h v3 A3 w3 h1
      change X _ _ _ _ A3 _ _ [.long v3]
      exact x_lret dX6_load_42 rfl ⟨_, rfl, h⟩
    · replace h := h.1 c22
      refine x_aload_n dX6_load_25 rfl ?_
      refine x_get (v := .int (A.I b1 2)) hG dX6_load_26 f_X6_161_32 o2 rfl ?_
      refine x_i2l dX6_load_29 ?_
      refine x_goto (tgt := 42) dX6_load_30 (by decide) ?_
      exact x_lret dX6_load_42 rfl ⟨_, rfl, h⟩
  · replace h := h.1 c4
    refine x_aload_n dX6_load_7 rfl ?_
    refine x_get (v := .int (A.I b1 2)) hG dX6_load_8 f_X6_161_32 o2 rfl ?_
    refine x_callS hG (Ky := kX6_constant) (As := [.int (A.I b1 2)]) dX6_load_11 lk_X6_232 me_X6_constant st_X6_constant rfl rfl (Nat.le_of_ble_eq_true rfl) (MX.post (m_X6_constant hG) ?_)
    rintro _ _ ⟨rfl, rfl⟩
    change X _ _ _ _ _ _ _ (.long (f_X6_constant (A.I b1 2)) :: _)
    refine x_goto (tgt := 42) dX6_load_14 (by decide) ?_
    exact x_lret dX6_load_42 rfl ⟨_, rfl, h⟩
def w_X6_length (G : xG) (p : Nat) (s : Option Nat) (Q : Int64 → xA → Prop) (A : xA) : Prop := xok G A → ∃ b1 : Nat, s = some b1 ∧ (A.tg b1 = 33 ∧ (Q (if (A.I b1 1) = (5 : Int32) then ((A.I b1 2).toInt64 + (1 : Int64)) else (f_X6_constant (A.I b1 4))) A))
theorem m_X6_length (hG : xOK G) (hO : xHO G) {dp : Nat} {p : Nat} {s : Option Nat} {Q : Int64 → xA → Prop} {A : xA} (h : w_X6_length G p s Q A) : MX G (dp + 1) kX6_length [.ref p, va_rf s] A (hL Q) := by
  unfold w_X6_length at h
  refine MX.of rfl (by cases s <;> exact Nat.le_of_ble_eq_true rfl) ?_
  refine X.lvs (lv' := [some (.ref p), some (va_rf s)]) (by cases s <;> rfl) ?_
  refine X.xok (fun w0 => ?_)
  replace h := h w0
  refine x_aloadq_n dX6_length_0 rfl ?_
  obtain ⟨b1, e1, h⟩ := h
  rw [e1]
  obtain ⟨o2, h⟩ := h
  refine x_get (v := .int (A.I b1 1)) hG dX6_length_1 f_X6_314_32 o2 rfl ?_
  refine x_iconst_ (v := (5 : Int32)) dX6_length_4 (by decide) ?_
  refine x_via 25 (A' := A) (lv' := [none, none]) (st' := [.long (if (A.I b1 1) = (5 : Int32) then ((A.I b1 2).toInt64 + (1 : Int64)) else (f_X6_constant (A.I b1 4)))]) ?_ (fun k25 => ?_)
  rotate_left
  · refine x_icmp_ne (tgt := 18) dX6_length_5 (by decide) (fun c5 => ?_) (fun c5 => ?_)
    · refine x_aload_n dX6_length_18 rfl ?_
      refine x_get (v := .int (A.I b1 4)) hG dX6_length_19 f_X6_155_32 o2 rfl ?_
      refine x_callS hG (Ky := kX6_constant) (As := [.int (A.I b1 4)]) dX6_length_22 lk_X6_232 me_X6_constant st_X6_constant rfl rfl (Nat.le_of_ble_eq_true rfl) (MX.post (m_X6_constant hG) ?_)
      rintro _ _ ⟨rfl, rfl⟩
      change X _ _ _ _ _ _ _ (.long (f_X6_constant (A.I b1 4)) :: _)
      change X _ _ _ _ _ _ [some (.ref p), some (.ref b1)] [.long (f_X6_constant (A.I b1 4))]
      simp only [if_neg c5] at k25 ⊢
      exact X.weak (xle_n (xle_n xle_nil)) k25
    · refine x_aload_n dX6_length_8 rfl ?_
      refine x_get (v := .int (A.I b1 2)) hG dX6_length_9 f_X6_161_32 o2 rfl ?_
      refine x_i2l dX6_length_12 ?_
      refine x_lconst_ (v := (1 : Int64)) dX6_length_13 (by decide) ?_
      refine x_ladd dX6_length_14 ?_
      refine x_goto (tgt := 25) dX6_length_15 (by decide) ?_
      change X _ _ _ _ _ _ [some (.ref p), some (.ref b1)] [.long ((A.I b1 2).toInt64 + (1 : Int64))]
      simp only [if_pos c5] at k25 ⊢
      exact X.weak (xle_n (xle_n xle_nil)) k25
  exact x_lret dX6_length_25 rfl ⟨_, rfl, h⟩
def w_X6_address (G : xG) (p : Nat) (s : Option Nat) (Q : Int64 → xA → Prop) (A : xA) : Prop := xok G A → ∃ b1 : Nat, s = some b1 ∧ (A.tg b1 = 33 ∧ ((((A.I b1 1) = (2 : Int32) → Q (f_X6_constant ((4 : Int32) * (A.I b1 2))) A) ∧ (¬ (A.I b1 1) = (2 : Int32) → (((A.I b1 1) = (5 : Int32) → Q (A.I b1 2).toInt64 A) ∧ (¬ (A.I b1 1) = (5 : Int32) → A.tg p = 6 ∧ (∃ R3 : Int32 → xA → Prop, w_X6_register G p R3 A ∧ (∀ (v3 : Int32) (A3 : xA), xok G A3 → R3 v3 A3 → (A3.tg p = 6 ∧ (∃ R5 : Option Nat → xA → Prop, w_X6_emit G p (32 : Int32) v3 (0 : Int64) (0 : Int64) R5 A3 ∧ (∀ (v5 : Option Nat) (A5 : xA), xok G A5 → R5 v5 A5 → (A5.tg b1 = 33 ∧ (∃ b8 : Nat, v5 = some b8 ∧ (A5.tg b8 = 36 ∧ (∀ A10 : xA, A10 = A5.setI b8 5 ((4 : Int32) * (A5.I b1 2)) → (Q (A5.I b8 1).toInt64 A10))))))))))))))))
theorem m_X6_address (hG : xOK G) (hO : xHO G) {dp : Nat} {p : Nat} {s : Option Nat} {Q : Int64 → xA → Prop} {A : xA} (h : w_X6_address G p s Q A) : MX G (dp + 8) kX6_address [.ref p, va_rf s] A (hL Q) := by
  unfold w_X6_address at h
  refine MX.of rfl (by cases s <;> exact Nat.le_of_ble_eq_true rfl) ?_
  refine X.lvs (lv' := [some (.ref p), some (va_rf s), none]) (by cases s <;> rfl) ?_
  refine X.xok (fun w0 => ?_)
  replace h := h w0
  refine x_aloadq_n dX6_address_0 rfl ?_
  obtain ⟨b1, e1, h⟩ := h
  rw [e1]
  obtain ⟨o2, h⟩ := h
  refine x_get (v := .int (A.I b1 1)) hG dX6_address_1 f_X6_314_32 o2 rfl ?_
  refine x_iconst_ (v := (2 : Int32)) dX6_address_4 (by decide) ?_
  refine x_icmp_ne (tgt := 18) dX6_address_5 (by decide) (fun c5 => ?_) (fun c5 => ?_)
  · replace h := h.2 c5
    refine x_aload_n dX6_address_18 rfl ?_
    refine x_get (v := .int (A.I b1 1)) hG dX6_address_19 f_X6_314_32 o2 rfl ?_
    refine x_iconst_ (v := (5 : Int32)) dX6_address_22 (by decide) ?_
    refine x_icmp_ne (tgt := 32) dX6_address_23 (by decide) (fun c23 => ?_) (fun c23 => ?_)
    · replace h := h.2 c23
      refine x_aload_n dX6_address_32 rfl ?_
      refine x_bipush_ (v := (32 : Int32)) dX6_address_33 (by decide) ?_
      refine x_aload_n dX6_address_35 rfl ?_
      obtain ⟨o4, h⟩ := h
      obtain ⟨R3, g3, h⟩ := h
      refine x_callV hG (Ky := kX6_register) (As := []) dX6_address_36 o4 rfl lk_X6_254 me_X6_register is_X6_register se_X6_register rfl rfl (Nat.le_of_ble_eq_true rfl) (MX.post (m_X6_register hG hO g3) ?_)
      rintro _ A3 ⟨v3, rfl, h1⟩
      refine X.xok (fun w3 => ?_)
      replace h := h v3 A3 w3 h1
      change X _ _ _ _ A3 _ _ [.int v3, .int (32 : Int32), .ref p]
      refine x_lconst_ (v := (0 : Int64)) dX6_address_39 (by decide) ?_
      refine x_lconst_ (v := (0 : Int64)) dX6_address_40 (by decide) ?_
      obtain ⟨o6, h⟩ := h
      obtain ⟨R5, g5, h⟩ := h
      refine x_callV hG (Ky := kX6_emit) (As := [.int (32 : Int32), .int v3, .long (0 : Int64), .long (0 : Int64)]) dX6_address_41 o6 rfl lk_X6_260 me_X6_emit is_X6_emit se_X6_emit rfl rfl (Nat.le_of_ble_eq_true rfl) (MX.post (m_X6_emit hG hO g5) ?_)
      rintro _ A5 ⟨v5, rfl, h1⟩
      refine X.xok (fun w5 => ?_)
      replace h := h v5 A5 w5 h1
      change X _ _ _ _ A5 _ _ [va_rf v5]
      refine x_astoreq_n dX6_address_44 (by decide) ?_
      refine x_aloadq_n dX6_address_45 rfl ?_
      refine x_iconst_ (v := (4 : Int32)) dX6_address_46 (by decide) ?_
      refine x_aload_n dX6_address_47 rfl ?_
      obtain ⟨o7, h⟩ := h
      refine x_get (v := .int (A5.I b1 2)) hG dX6_address_48 f_X6_161_32 o7 rfl ?_
      refine x_imul dX6_address_51 ?_
      obtain ⟨b8, e8, h⟩ := h
      rw [e8]
      obtain ⟨o9, h⟩ := h
      refine z_putI hG hO.1 dX6_address_52 f_X6_264_35 ⟨_, rfl, Or.inl rfl⟩ o9 (by decide) rfl rfl ⟨_, rfl⟩ (fun A10 e10 => ?_)
      replace h := h A10 e10
      refine x_aload_n dX6_address_55 rfl ?_
      refine x_get (v := .int (A5.I b8 1)) hG dX6_address_56 f_X6_311_35 (kI e10 o9) (congrArg Value.int (sI_k e10 (by decide))) ?_
      refine x_i2l dX6_address_59 ?_
      exact x_lret dX6_address_60 rfl ⟨_, rfl, h⟩
    · replace h := h.1 c23
      refine x_aload_n dX6_address_26 rfl ?_
      refine x_get (v := .int (A.I b1 2)) hG dX6_address_27 f_X6_161_32 o2 rfl ?_
      refine x_i2l dX6_address_30 ?_
      exact x_lret dX6_address_31 rfl ⟨_, rfl, h⟩
  · replace h := h.1 c5
    refine x_iconst_ (v := (4 : Int32)) dX6_address_8 (by decide) ?_
    refine x_aload_n dX6_address_9 rfl ?_
    refine x_get (v := .int (A.I b1 2)) hG dX6_address_10 f_X6_161_32 o2 rfl ?_
    refine x_imul dX6_address_13 ?_
    refine x_callS hG (Ky := kX6_constant) (As := [.int ((4 : Int32) * (A.I b1 2))]) dX6_address_14 lk_X6_232 me_X6_constant st_X6_constant rfl rfl (Nat.le_of_ble_eq_true rfl) (MX.post (m_X6_constant hG) ?_)
    rintro _ _ ⟨rfl, rfl⟩
    change X _ _ _ _ _ _ _ (.long (f_X6_constant ((4 : Int32) * (A.I b1 2))) :: _)
    exact x_lret dX6_address_17 rfl ⟨_, rfl, h⟩
def w_X6_storeElement (G : xG) (p : Nat) (s : Option Nat) (i : Int64) (v : Int64) (Q : xA → Prop) (A : xA) : Prop := xok G A → ∃ b1 : Nat, s = some b1 ∧ (A.tg b1 = 33 ∧ (∃ R3 : Int64 → xA → Prop, w_X6_base G (some b1) R3 A ∧ (∀ (v3 : Int64) (A3 : xA), xok G A3 → R3 v3 A3 → (A3.tg p = 6 ∧ (∃ R4 : Option Nat → xA → Prop, w_X6_emit G p (if (A.I b1 3) = 0 then (23 : Int32) else (24 : Int32)) (-1 : Int32) v3 i R4 A3 ∧ (∀ (v4 : Option Nat) (A4 : xA), xok G A4 → R4 v4 A4 → (∃ b6 : Nat, v4 = some b6 ∧ (A4.tg b6 = 36 ∧ (∀ A8 : xA, A8 = A4.setP b6 7 (some b1) → (∀ A9 : xA, A9 = A8.setL b6 4 v → (Q A9)))))))))))
theorem m_X6_storeElement (hG : xOK G) (hO : xHO G) {dp : Nat} {p : Nat} {s : Option Nat} {i : Int64} {v : Int64} {Q : xA → Prop} {A : xA} (h : w_X6_storeElement G p s i v Q A) : MX G (dp + 8) kX6_storeElement [.ref p, va_rf s, .long i, .long v] A (hV Q) := by
  unfold w_X6_storeElement at h
  refine MX.of rfl (by cases s <;> exact Nat.le_of_ble_eq_true rfl) ?_
  refine X.lvs (lv' := [some (.ref p), some (va_rf s), some (.long i), none, some (.long v), none, none]) (by cases s <;> rfl) ?_
  refine X.xok (fun w0 => ?_)
  replace h := h w0
  refine x_aload_n dX6_storeElement_0 rfl ?_
  refine x_aloadq_n dX6_storeElement_1 rfl ?_
  obtain ⟨b1, e1, h⟩ := h
  rw [e1]
  obtain ⟨o2, h⟩ := h
  refine x_get (v := .int (A.I b1 3)) hG dX6_storeElement_2 f_X6_154_32 o2 rfl ?_
  refine x_via 15 (A' := A) (lv' := [none, some (.ref b1), some (.long i), none, some (.long v), none, none]) (st' := [.int (if (A.I b1 3) = 0 then (23 : Int32) else (24 : Int32)), .ref p]) ?_ (fun k15 => ?_)
  rotate_left
  · refine x_if_eq (tgt := 13) dX6_storeElement_5 (by decide) (fun c5 => ?_) (fun c5 => ?_)
    · refine x_bipush_ (v := (23 : Int32)) dX6_storeElement_13 (by decide) ?_
      change X _ _ _ _ _ _ [some (.ref p), some (.ref b1), some (.long i), none, some (.long v), none, none] [.int (23 : Int32), .ref p]
      simp only [if_pos c5] at k15 ⊢
      exact X.weak (xle_n (xle_c rfl (xle_c rfl (xle_n (xle_c rfl (xle_n (xle_n xle_nil))))))) k15
    · refine x_bipush_ (v := (24 : Int32)) dX6_storeElement_8 (by decide) ?_
      refine x_goto (tgt := 15) dX6_storeElement_10 (by decide) ?_
      change X _ _ _ _ _ _ [some (.ref p), some (.ref b1), some (.long i), none, some (.long v), none, none] [.int (24 : Int32), .ref p]
      simp only [if_neg c5] at k15 ⊢
      exact X.weak (xle_n (xle_c rfl (xle_c rfl (xle_n (xle_c rfl (xle_n (xle_n xle_nil))))))) k15
  refine x_iconst_ (v := (-1 : Int32)) dX6_storeElement_15 (by decide) ?_
  refine x_aload_n dX6_storeElement_16 rfl ?_
  obtain ⟨R3, g3, h⟩ := h
  refine x_callS hG (Ky := kX6_base) (As := [.ref b1]) dX6_storeElement_17 lk_X6_319 me_X6_base st_X6_base rfl rfl (Nat.le_of_ble_eq_true rfl) (MX.post (m_X6_base hG hO g3) ?_)
  rintro _ A3 ⟨v3, rfl, h1⟩
  refine X.xok (fun w3 => ?_)
  replace h := h v3 A3 w3 h1
  change X _ _ _ _ A3 _ _ [.long v3, .int (-1 : Int32), .int (if (A.I b1 3) = 0 then (23 : Int32) else (24 : Int32)), .ref p]
  refine x_lload_n dX6_storeElement_20 rfl ?_
  obtain ⟨o5, h⟩ := h
  obtain ⟨R4, g4, h⟩ := h
  refine x_callV hG (Ky := kX6_emit) (As := [.int (if (A.I b1 3) = 0 then (23 : Int32) else (24 : Int32)), .int (-1 : Int32), .long v3, .long i]) dX6_storeElement_21 o5 rfl lk_X6_260 me_X6_emit is_X6_emit se_X6_emit rfl rfl (Nat.le_of_ble_eq_true rfl) (MX.post (m_X6_emit hG hO g4) ?_)
  rintro _ A4 ⟨v4, rfl, h1⟩
  refine X.xok (fun w4 => ?_)
  replace h := h v4 A4 w4 h1
  change X _ _ _ _ A4 _ _ [va_rf v4]
  refine x_astoreq dX6_storeElement_24 (by decide) ?_
  refine x_aloadq dX6_storeElement_26 rfl ?_
  refine x_aload_n dX6_storeElement_28 rfl ?_
  obtain ⟨b6, e6, h⟩ := h
  rw [e6]
  obtain ⟨o7, h⟩ := h
  refine z_putP hG hO.1 (some b1) dX6_storeElement_29 f_X6_323_35 ⟨_, rfl, Or.inl rfl⟩ o7 (by decide) (Or.inl ⟨_, rfl⟩) (fun A8 e8 => ?_)
  replace h := h A8 e8
  refine x_aload dX6_storeElement_32 rfl ?_
  refine x_lload dX6_storeElement_34 rfl ?_
  refine z_putL hG hO.1 dX6_storeElement_36 f_X6_340_35 ⟨_, rfl, Or.inl rfl⟩ (kP e8 o7) (by decide) rfl rfl ⟨_, rfl⟩ (fun A9 e9 => ?_)
  replace h := h A9 e9
  exact x_vret dX6_storeElement_39 rfl ⟨rfl, h⟩
def w_X6_store (G : xG) (p : Nat) (s : Option Nat) (v : Int64) (Q : xA → Prop) (A : xA) : Prop := xok G A → ∃ b1 : Nat, s = some b1 ∧ (A.tg b1 = 33 ∧ ((((A.I b1 1) = (3 : Int32) → A.tg p = 6 ∧ (∃ R5 : xA → Prop, w_X6_move G p (A.I b1 2) v R5 A ∧ (∀ A5 : xA, xok G A5 → R5 A5 → (Q A5)))) ∧ (¬ (A.I b1 1) = (3 : Int32) → A.tg p = 6 ∧ (∃ R3 : xA → Prop, w_X6_storeElement G p (some b1) (f_X6_constant (0 : Int32)) v R3 A ∧ (∀ A3 : xA, xok G A3 → R3 A3 → (Q A3)))))))
theorem m_X6_store (hG : xOK G) (hO : xHO G) {dp : Nat} {p : Nat} {s : Option Nat} {v : Int64} {Q : xA → Prop} {A : xA} (h : w_X6_store G p s v Q A) : MX G (dp + 9) kX6_store [.ref p, va_rf s, .long v] A (hV Q) := by
  unfold w_X6_store at h
  refine MX.of rfl (by cases s <;> exact Nat.le_of_ble_eq_true rfl) ?_
  refine X.lvs (lv' := [some (.ref p), some (va_rf s), some (.long v), none]) (by cases s <;> rfl) ?_
  refine X.xok (fun w0 => ?_)
  replace h := h w0
  refine x_aloadq_n dX6_store_0 rfl ?_
  obtain ⟨b1, e1, h⟩ := h
  rw [e1]
  obtain ⟨o2, h⟩ := h
  refine x_get (v := .int (A.I b1 1)) hG dX6_store_1 f_X6_314_32 o2 rfl ?_
  refine x_iconst_ (v := (3 : Int32)) dX6_store_4 (by decide) ?_
  refine x_icmp_ne (tgt := 20) dX6_store_5 (by decide) (fun c5 => ?_) (fun c5 => ?_)
  · replace h := h.2 c5
    refine x_aload_n dX6_store_20 rfl ?_
    refine x_aload_n dX6_store_21 rfl ?_
    refine x_iconst_ (v := (0 : Int32)) dX6_store_22 (by decide) ?_
    refine x_callS hG (Ky := kX6_constant) (As := [.int (0 : Int32)]) dX6_store_23 lk_X6_232 me_X6_constant st_X6_constant rfl rfl (Nat.le_of_ble_eq_true rfl) (MX.post (m_X6_constant hG) ?_)
    rintro _ _ ⟨rfl, rfl⟩
    change X _ _ _ _ _ _ _ (.long (f_X6_constant (0 : Int32)) :: _)
    refine x_lload_n dX6_store_26 rfl ?_
    obtain ⟨o4, h⟩ := h
    obtain ⟨R3, g3, h⟩ := h
    refine x_callV hG (Ky := kX6_storeElement) (As := [.ref b1, .long (f_X6_constant (0 : Int32)), .long v]) dX6_store_27 o4 rfl lk_X6_336 me_X6_storeElement is_X6_storeElement se_X6_storeElement rfl rfl (Nat.le_of_ble_eq_true rfl) (MX.post (m_X6_storeElement hG hO g3) ?_)
    rintro _ A3 ⟨rfl, h1⟩
    refine X.xok (fun w3 => ?_)
    replace h := h A3 w3 h1
    change X _ _ _ _ A3 _ _ []
    exact x_vret dX6_store_30 rfl ⟨rfl, h⟩
  · replace h := h.1 c5
    refine x_aload_n dX6_store_8 rfl ?_
    refine x_aload_n dX6_store_9 rfl ?_
    refine x_get (v := .int (A.I b1 2)) hG dX6_store_10 f_X6_161_32 o2 rfl ?_
    refine x_lload_n dX6_store_13 rfl ?_
    obtain ⟨o6, h⟩ := h
    obtain ⟨R5, g5, h⟩ := h
    refine x_callV hG (Ky := kX6_move) (As := [.int (A.I b1 2), .long v]) dX6_store_14 o6 rfl lk_X6_332 me_X6_move is_X6_move se_X6_move rfl rfl (Nat.le_of_ble_eq_true rfl) (MX.post (m_X6_move hG hO g5) ?_)
    rintro _ A5 ⟨rfl, h1⟩
    refine X.xok (fun w5 => ?_)
    replace h := h A5 w5 h1
    change X _ _ _ _ A5 _ _ []
    refine x_goto (tgt := 30) dX6_store_17 (by decide) ?_
    exact x_vret dX6_store_30 rfl ⟨rfl, h⟩
def w_X6_zero (G : xG) (p : Nat) (s : Option Nat) (Q : xA → Prop) (A : xA) : Prop := xok G A → A.tg p = 6 ∧ (∃ R1 : Option Nat → xA → Prop, w_X6_emit G p (31 : Int32) (-1 : Int32) (0 : Int64) (0 : Int64) R1 A ∧ (∀ (v1 : Option Nat) (A1 : xA), xok G A1 → R1 v1 A1 → (∃ b3 : Nat, v1 = some b3 ∧ (A1.tg b3 = 36 ∧ (∀ A5 : xA, A5 = A1.setP b3 7 s → (Q A5))))))
theorem m_X6_zero (hG : xOK G) (hO : xHO G) {dp : Nat} {p : Nat} {s : Option Nat} {Q : xA → Prop} {A : xA} (h : w_X6_zero G p s Q A) : MX G (dp + 8) kX6_zero [.ref p, va_rf s] A (hV Q) := by
  unfold w_X6_zero at h
  refine MX.of rfl (by cases s <;> exact Nat.le_of_ble_eq_true rfl) ?_
  refine X.lvs (lv' := [some (.ref p), some (va_rf s)]) (by cases s <;> rfl) ?_
  refine X.xok (fun w0 => ?_)
  replace h := h w0
  refine x_aload_n dX6_zero_0 rfl ?_
  refine x_bipush_ (v := (31 : Int32)) dX6_zero_1 (by decide) ?_
  refine x_iconst_ (v := (-1 : Int32)) dX6_zero_3 (by decide) ?_
  refine x_lconst_ (v := (0 : Int64)) dX6_zero_4 (by decide) ?_
  refine x_lconst_ (v := (0 : Int64)) dX6_zero_5 (by decide) ?_
  obtain ⟨o2, h⟩ := h
  obtain ⟨R1, g1, h⟩ := h
  refine x_callV hG (Ky := kX6_emit) (As := [.int (31 : Int32), .int (-1 : Int32), .long (0 : Int64), .long (0 : Int64)]) dX6_zero_6 o2 rfl lk_X6_260 me_X6_emit is_X6_emit se_X6_emit rfl rfl (Nat.le_of_ble_eq_true rfl) (MX.post (m_X6_emit hG hO g1) ?_)
  rintro _ A1 ⟨v1, rfl, h1⟩
  refine X.xok (fun w1 => ?_)
  replace h := h v1 A1 w1 h1
  change X _ _ _ _ A1 _ _ [va_rf v1]
  refine x_aloadq_n dX6_zero_9 rfl ?_
  obtain ⟨b3, e3, h⟩ := h
  rw [e3]
  obtain ⟨o4, h⟩ := h
  refine z_putP hG hO.1 s dX6_zero_10 f_X6_323_35 ⟨_, rfl, Or.inl rfl⟩ o4 (by decide) (Or.inl ⟨_, rfl⟩) (fun A5 e5 => ?_)
  replace h := h A5 e5
  exact x_vret dX6_zero_13 rfl ⟨rfl, h⟩
def w_X6_call (G : xG) (p : Nat) (t : Option Nat) (r : Option Nat) (w : Int32) (Q : Int64 → xA → Prop) (A : xA) : Prop := xok G A → A.tg p = 6 ∧ (∃ R1 : Int32 → xA → Prop, w_X6_register G p R1 A ∧ (∀ (v1 : Int32) (A1 : xA), xok G A1 → R1 v1 A1 → (A1.tg p = 6 ∧ (∃ R3 : Option Nat → xA → Prop, w_X6_emit G p (26 : Int32) v1 (0 : Int64) (0 : Int64) R3 A1 ∧ (∀ (v3 : Option Nat) (A3 : xA), xok G A3 → R3 v3 A3 → (∃ b5 : Nat, v3 = some b5 ∧ (A3.tg b5 = 36 ∧ (∀ A7 : xA, A7 = A3.setP b5 8 t → (∀ A8 : xA, A8 = A7.setP b5 9 r → (∀ A9 : xA, A9 = A8.setI b5 5 w → (Q (A3.I b5 1).toInt64 A9)))))))))))
theorem m_X6_call (hG : xOK G) (hO : xHO G) {dp : Nat} {p : Nat} {t : Option Nat} {r : Option Nat} {w : Int32} {Q : Int64 → xA → Prop} {A : xA} (h : w_X6_call G p t r w Q A) : MX G (dp + 8) kX6_call [.ref p, va_rf t, va_rf r, .int w] A (hL Q) := by
  unfold w_X6_call at h
  refine MX.of rfl (by cases t <;> cases r <;> exact Nat.le_of_ble_eq_true rfl) ?_
  refine X.lvs (lv' := [some (.ref p), some (va_rf t), some (va_rf r), some (.int w), none]) (by cases t <;> cases r <;> rfl) ?_
  refine X.xok (fun w0 => ?_)
  replace h := h w0
  refine x_aload_n dX6_call_0 rfl ?_
  refine x_bipush_ (v := (26 : Int32)) dX6_call_1 (by decide) ?_
  refine x_aload_n dX6_call_3 rfl ?_
  obtain ⟨o2, h⟩ := h
  obtain ⟨R1, g1, h⟩ := h
  refine x_callV hG (Ky := kX6_register) (As := []) dX6_call_4 o2 rfl lk_X6_254 me_X6_register is_X6_register se_X6_register rfl rfl (Nat.le_of_ble_eq_true rfl) (MX.post (m_X6_register hG hO g1) ?_)
  rintro _ A1 ⟨v1, rfl, h1⟩
  refine X.xok (fun w1 => ?_)
  replace h := h v1 A1 w1 h1
  change X _ _ _ _ A1 _ _ [.int v1, .int (26 : Int32), .ref p]
  refine x_lconst_ (v := (0 : Int64)) dX6_call_7 (by decide) ?_
  refine x_lconst_ (v := (0 : Int64)) dX6_call_8 (by decide) ?_
  obtain ⟨o4, h⟩ := h
  obtain ⟨R3, g3, h⟩ := h
  refine x_callV hG (Ky := kX6_emit) (As := [.int (26 : Int32), .int v1, .long (0 : Int64), .long (0 : Int64)]) dX6_call_9 o4 rfl lk_X6_260 me_X6_emit is_X6_emit se_X6_emit rfl rfl (Nat.le_of_ble_eq_true rfl) (MX.post (m_X6_emit hG hO g3) ?_)
  rintro _ A3 ⟨v3, rfl, h1⟩
  refine X.xok (fun w3 => ?_)
  replace h := h v3 A3 w3 h1
  change X _ _ _ _ A3 _ _ [va_rf v3]
  refine x_astoreq dX6_call_12 (by decide) ?_
  refine x_aloadq dX6_call_14 rfl ?_
  refine x_aloadq_n dX6_call_16 rfl ?_
  obtain ⟨b5, e5, h⟩ := h
  rw [e5]
  obtain ⟨o6, h⟩ := h
  refine z_putP hG hO.1 t dX6_call_17 f_X6_344_35 ⟨_, rfl, Or.inl rfl⟩ o6 (by decide) (Or.inl ⟨_, rfl⟩) (fun A7 e7 => ?_)
  replace h := h A7 e7
  refine x_aload dX6_call_20 rfl ?_
  refine x_aloadq_n dX6_call_22 rfl ?_
  refine z_putP hG hO.1 r dX6_call_23 f_X6_345_35 ⟨_, rfl, Or.inl rfl⟩ (kP e7 o6) (by decide) (Or.inr ⟨_, rfl⟩) (fun A8 e8 => ?_)
  replace h := h A8 e8
  refine x_aload dX6_call_26 rfl ?_
  refine x_iload_n dX6_call_28 rfl ?_
  refine z_putI hG hO.1 dX6_call_29 f_X6_264_35 ⟨_, rfl, Or.inl rfl⟩ (kP e8 (kP e7 o6)) (by decide) rfl rfl ⟨_, rfl⟩ (fun A9 e9 => ?_)
  replace h := h A9 e9
  refine x_aload dX6_call_32 rfl ?_
  refine x_get (v := .int (A3.I b5 1)) hG dX6_call_34 f_X6_311_35 (kI e9 (kP e8 (kP e7 o6))) (congrArg Value.int ((sI_k e9 (by decide)).trans ((sP_I e8).trans (sP_I e7)))) ?_
  refine x_i2l dX6_call_37 ?_
  exact x_lret dX6_call_38 rfl ⟨_, rfl, h⟩
def w_X6_turn (G : xG) (p : Nat) (Q : xA → Prop) (A : xA) : Prop := xok G A → A.tg p = 6 ∧ (∃ b2 : Nat, (A.P p 10) = some b2 ∧ (A.tg b2 = 35 ∧ (rmO G A 10 ∧ (∀ A5 : xA, A5 = A.new 36 0 10 0 → (∃ R6 : xA → Prop, w_X37_init G A.n (27 : Int32) (-1 : Int32) (0 : Int64) (0 : Int64) R6 A5 ∧ (∀ A6 : xA, xok G A6 → R6 A6 → (∃ b8 : Nat, (A.P b2 0) = some b8 ∧ (A6.tg b8 = 37 ∧ (∃ R7 : Int32 → xA → Prop, w_J5_add G b8 (some A.n) R7 A6 ∧ (∀ (v7 : Int32) (A7 : xA), xok G A7 → (v7 = 0 ∨ v7 = 1) → R7 v7 A7 → (Q A7)))))))))))
theorem m_X6_turn (hG : xOK G) (hO : xHO G) {dp : Nat} {p : Nat} {Q : xA → Prop} {A : xA} (h : w_X6_turn G p Q A) : MX G (dp + 7) kX6_turn [.ref p] A (hV Q) := by
  unfold w_X6_turn at h
  refine MX.of rfl (Nat.le_of_ble_eq_true rfl) ?_
  change X _ _ _ _ _ _ [some (.ref p)] _
  refine X.xok (fun w0 => ?_)
  replace h := h w0
  refine x_aload_n dX6_turn_0 rfl ?_
  obtain ⟨o1, h⟩ := h
  refine x_get (v := va_rf (A.P p 10)) hG dX6_turn_1 f_X6_224_5 o1 rfl ?_
  obtain ⟨b2, e2, h⟩ := h
  rw [e2]
  obtain ⟨o3, h⟩ := h
  refine x_get (v := va_rf (A.P b2 0)) hG dX6_turn_4 f_X6_296_34 o3 rfl ?_
  obtain ⟨o4, h⟩ := h
  refine z_new hG (c := 35) dX6_turn_7 rfl q1904 (by decide) rfl o4 (fun A5 e5 w5 => ?_)
  replace h := h A5 e5
  refine x_dup dX6_turn_10 rfl ?_
  refine x_bipush_ (v := (27 : Int32)) dX6_turn_11 (by decide) ?_
  refine x_iconst_ (v := (-1 : Int32)) dX6_turn_13 (by decide) ?_
  refine x_lconst_ (v := (0 : Int64)) dX6_turn_14 (by decide) ?_
  refine x_lconst_ (v := (0 : Int64)) dX6_turn_15 (by decide) ?_
  obtain ⟨R6, g6, h⟩ := h
  refine x_callI hG (Ky := kX37_init) (As := [.int (27 : Int32), .int (-1 : Int32), .long (0 : Int64), .long (0 : Int64)]) dX6_turn_16 lk_X6_293 me_X37_init is_X37_init rfl rfl rfl rfl rfl (by simp only [List.append_eq, List.nil_append, List.map_cons, va_rf_cat]; exact Nat.le_of_ble_eq_true rfl) (MX.post (m_X37_init hG hO g6) ?_)
  rintro _ A6 ⟨rfl, h1⟩
  refine X.xok (fun w6 => ?_)
  replace h := h A6 w6 h1
  change X _ _ _ _ A6 _ _ [.ref A.n, va_rf (A.P b2 0)]
  obtain ⟨b8, e8, h⟩ := h
  rw [e8]
  obtain ⟨o9, h⟩ := h
  obtain ⟨R7, g7, h⟩ := h
  refine x_callV hG (Ky := kJ5_add) (As := [.ref A.n]) dX6_turn_19 o9 rfl lk_X6_110 me_J5_add is_J5_add se_J5_add rfl rfl (Nat.le_of_ble_eq_true rfl) (MX.post (m_w_J5_add hG hO g7) ?_)
  rintro _ A7 ⟨v7, rfl, zv7, h1⟩
  refine X.xok (fun w7 => ?_)
  replace h := h v7 A7 w7 zv7 h1
  change X _ _ _ _ A7 _ _ [.int v7]
  refine x_pop dX6_turn_22 rfl ?_
  exact x_vret dX6_turn_23 rfl ⟨rfl, h⟩
def w_X6_put (G : xG) (p : Nat) (v : Int64) (Q : xA → Prop) (A : xA) : Prop := xok G A → A.tg p = 6 ∧ (∃ b2 : Nat, (A.P p 10) = some b2 ∧ (A.tg b2 = 35 ∧ (rmO G A 10 ∧ (∀ A5 : xA, A5 = A.new 36 0 10 0 → (∃ R6 : xA → Prop, w_X37_init G A.n (28 : Int32) (-1 : Int32) v (0 : Int64) R6 A5 ∧ (∀ A6 : xA, xok G A6 → R6 A6 → (∃ b8 : Nat, (A.P b2 0) = some b8 ∧ (A6.tg b8 = 37 ∧ (∃ R7 : Int32 → xA → Prop, w_J5_add G b8 (some A.n) R7 A6 ∧ (∀ (v7 : Int32) (A7 : xA), xok G A7 → (v7 = 0 ∨ v7 = 1) → R7 v7 A7 → (Q A7)))))))))))
theorem m_X6_put (hG : xOK G) (hO : xHO G) {dp : Nat} {p : Nat} {v : Int64} {Q : xA → Prop} {A : xA} (h : w_X6_put G p v Q A) : MX G (dp + 7) kX6_put [.ref p, .long v] A (hV Q) := by
  unfold w_X6_put at h
  refine MX.of rfl (Nat.le_of_ble_eq_true rfl) ?_
  change X _ _ _ _ _ _ [some (.ref p), some (.long v), none] _
  refine X.xok (fun w0 => ?_)
  replace h := h w0
  refine x_aload_n dX6_put_0 rfl ?_
  obtain ⟨o1, h⟩ := h
  refine x_get (v := va_rf (A.P p 10)) hG dX6_put_1 f_X6_224_5 o1 rfl ?_
  obtain ⟨b2, e2, h⟩ := h
  rw [e2]
  obtain ⟨o3, h⟩ := h
  refine x_get (v := va_rf (A.P b2 0)) hG dX6_put_4 f_X6_296_34 o3 rfl ?_
  obtain ⟨o4, h⟩ := h
  refine z_new hG (c := 35) dX6_put_7 rfl q1904 (by decide) rfl o4 (fun A5 e5 w5 => ?_)
  replace h := h A5 e5
  refine x_dup dX6_put_10 rfl ?_
  refine x_bipush_ (v := (28 : Int32)) dX6_put_11 (by decide) ?_
  refine x_iconst_ (v := (-1 : Int32)) dX6_put_13 (by decide) ?_
  refine x_lload_n dX6_put_14 rfl ?_
  refine x_lconst_ (v := (0 : Int64)) dX6_put_15 (by decide) ?_
  obtain ⟨R6, g6, h⟩ := h
  refine x_callI hG (Ky := kX37_init) (As := [.int (28 : Int32), .int (-1 : Int32), .long v, .long (0 : Int64)]) dX6_put_16 lk_X6_293 me_X37_init is_X37_init rfl rfl rfl rfl rfl (by simp only [List.append_eq, List.nil_append, List.map_cons, va_rf_cat]; exact Nat.le_of_ble_eq_true rfl) (MX.post (m_X37_init hG hO g6) ?_)
  rintro _ A6 ⟨rfl, h1⟩
  refine X.xok (fun w6 => ?_)
  replace h := h A6 w6 h1
  change X _ _ _ _ A6 _ _ [.ref A.n, va_rf (A.P b2 0)]
  obtain ⟨b8, e8, h⟩ := h
  rw [e8]
  obtain ⟨o9, h⟩ := h
  obtain ⟨R7, g7, h⟩ := h
  refine x_callV hG (Ky := kJ5_add) (As := [.ref A.n]) dX6_put_19 o9 rfl lk_X6_110 me_J5_add is_J5_add se_J5_add rfl rfl (Nat.le_of_ble_eq_true rfl) (MX.post (m_w_J5_add hG hO g7) ?_)
  rintro _ A7 ⟨v7, rfl, zv7, h1⟩
  refine X.xok (fun w7 => ?_)
  replace h := h v7 A7 w7 zv7 h1
  change X _ _ _ _ A7 _ _ [.int v7]
  refine x_pop dX6_put_22 rfl ?_
  exact x_vret dX6_put_23 rfl ⟨rfl, h⟩
def w_X6_get (G : xG) (p : Nat) (Q : Int64 → xA → Prop) (A : xA) : Prop := xok G A → A.tg p = 6 ∧ (∃ R1 : Int32 → xA → Prop, w_X6_register G p R1 A ∧ (∀ (v1 : Int32) (A1 : xA), xok G A1 → R1 v1 A1 → (A1.tg p = 6 ∧ (∃ R3 : Option Nat → xA → Prop, w_X6_emit G p (29 : Int32) v1 (0 : Int64) (0 : Int64) R3 A1 ∧ (∀ (v3 : Option Nat) (A3 : xA), xok G A3 → R3 v3 A3 → (∃ b5 : Nat, v3 = some b5 ∧ (A3.tg b5 = 36 ∧ (Q (A3.I b5 1).toInt64 A3))))))))
theorem m_X6_get (hG : xOK G) (hO : xHO G) {dp : Nat} {p : Nat} {Q : Int64 → xA → Prop} {A : xA} (h : w_X6_get G p Q A) : MX G (dp + 8) kX6_get [.ref p] A (hL Q) := by
  unfold w_X6_get at h
  refine MX.of rfl (Nat.le_of_ble_eq_true rfl) ?_
  change X _ _ _ _ _ _ [some (.ref p)] _
  refine X.xok (fun w0 => ?_)
  replace h := h w0
  refine x_aload_n dX6_get_0 rfl ?_
  refine x_bipush_ (v := (29 : Int32)) dX6_get_1 (by decide) ?_
  refine x_aload_n dX6_get_3 rfl ?_
  obtain ⟨o2, h⟩ := h
  obtain ⟨R1, g1, h⟩ := h
  refine x_callV hG (Ky := kX6_register) (As := []) dX6_get_4 o2 rfl lk_X6_254 me_X6_register is_X6_register se_X6_register rfl rfl (Nat.le_of_ble_eq_true rfl) (MX.post (m_X6_register hG hO g1) ?_)
  rintro _ A1 ⟨v1, rfl, h1⟩
  refine X.xok (fun w1 => ?_)
  replace h := h v1 A1 w1 h1
  change X _ _ _ _ A1 _ _ [.int v1, .int (29 : Int32), .ref p]
  refine x_lconst_ (v := (0 : Int64)) dX6_get_7 (by decide) ?_
  refine x_lconst_ (v := (0 : Int64)) dX6_get_8 (by decide) ?_
  obtain ⟨o4, h⟩ := h
  obtain ⟨R3, g3, h⟩ := h
  refine x_callV hG (Ky := kX6_emit) (As := [.int (29 : Int32), .int v1, .long (0 : Int64), .long (0 : Int64)]) dX6_get_9 o4 rfl lk_X6_260 me_X6_emit is_X6_emit se_X6_emit rfl rfl (Nat.le_of_ble_eq_true rfl) (MX.post (m_X6_emit hG hO g3) ?_)
  rintro _ A3 ⟨v3, rfl, h1⟩
  refine X.xok (fun w3 => ?_)
  replace h := h v3 A3 w3 h1
  change X _ _ _ _ A3 _ _ [va_rf v3]
  obtain ⟨b5, e5, h⟩ := h
  rw [e5]
  obtain ⟨o6, h⟩ := h
  refine x_get (v := .int (A3.I b5 1)) hG dX6_get_12 f_X6_311_35 o6 rfl ?_
  refine x_i2l dX6_get_15 ?_
  exact x_lret dX6_get_16 rfl ⟨_, rfl, h⟩
def w_X6_halt (G : xG) (p : Nat) (v : Int64) (Q : xA → Prop) (A : xA) : Prop := xok G A → A.tg p = 6 ∧ (∃ b2 : Nat, (A.P p 10) = some b2 ∧ (A.tg b2 = 35 ∧ (rmO G A 10 ∧ (∀ A5 : xA, A5 = A.new 36 0 10 0 → (∃ R6 : xA → Prop, w_X37_init G A.n (30 : Int32) (-1 : Int32) v (0 : Int64) R6 A5 ∧ (∀ A6 : xA, xok G A6 → R6 A6 → (∃ b8 : Nat, (A.P b2 0) = some b8 ∧ (A6.tg b8 = 37 ∧ (∃ R7 : Int32 → xA → Prop, w_J5_add G b8 (some A.n) R7 A6 ∧ (∀ (v7 : Int32) (A7 : xA), xok G A7 → (v7 = 0 ∨ v7 = 1) → R7 v7 A7 → (A7.tg p = 6 ∧ (∃ b12 : Nat, (A7.P p 10) = some b12 ∧ (A7.tg b12 = 35 ∧ (∃ R11 : xA → Prop, w_X36_ends G b12 (4 : Int32) (0 : Int64) (none : Option Nat) R11 A7 ∧ (∀ A11 : xA, xok G A11 → R11 A11 → (Q A11))))))))))))))))
theorem m_X6_halt (hG : xOK G) (hO : xHO G) {dp : Nat} {p : Nat} {v : Int64} {Q : xA → Prop} {A : xA} (h : w_X6_halt G p v Q A) : MX G (dp + 7) kX6_halt [.ref p, .long v] A (hV Q) := by
  unfold w_X6_halt at h
  refine MX.of rfl (Nat.le_of_ble_eq_true rfl) ?_
  change X _ _ _ _ _ _ [some (.ref p), some (.long v), none] _
  refine X.xok (fun w0 => ?_)
  replace h := h w0
  refine x_aload_n dX6_halt_0 rfl ?_
  obtain ⟨o1, h⟩ := h
  refine x_get (v := va_rf (A.P p 10)) hG dX6_halt_1 f_X6_224_5 o1 rfl ?_
  obtain ⟨b2, e2, h⟩ := h
  rw [e2]
  obtain ⟨o3, h⟩ := h
  refine x_get (v := va_rf (A.P b2 0)) hG dX6_halt_4 f_X6_296_34 o3 rfl ?_
  obtain ⟨o4, h⟩ := h
  refine z_new hG (c := 35) dX6_halt_7 rfl q1904 (by decide) rfl o4 (fun A5 e5 w5 => ?_)
  replace h := h A5 e5
  refine x_dup dX6_halt_10 rfl ?_
  refine x_bipush_ (v := (30 : Int32)) dX6_halt_11 (by decide) ?_
  refine x_iconst_ (v := (-1 : Int32)) dX6_halt_13 (by decide) ?_
  refine x_lload_n dX6_halt_14 rfl ?_
  refine x_lconst_ (v := (0 : Int64)) dX6_halt_15 (by decide) ?_
  obtain ⟨R6, g6, h⟩ := h
  refine x_callI hG (Ky := kX37_init) (As := [.int (30 : Int32), .int (-1 : Int32), .long v, .long (0 : Int64)]) dX6_halt_16 lk_X6_293 me_X37_init is_X37_init rfl rfl rfl rfl rfl (by simp only [List.append_eq, List.nil_append, List.map_cons, va_rf_cat]; exact Nat.le_of_ble_eq_true rfl) (MX.post (m_X37_init hG hO g6) ?_)
  rintro _ A6 ⟨rfl, h1⟩
  refine X.xok (fun w6 => ?_)
  replace h := h A6 w6 h1
  change X _ _ _ _ A6 _ _ [.ref A.n, va_rf (A.P b2 0)]
  obtain ⟨b8, e8, h⟩ := h
  rw [e8]
  obtain ⟨o9, h⟩ := h
  obtain ⟨R7, g7, h⟩ := h
  refine x_callV hG (Ky := kJ5_add) (As := [.ref A.n]) dX6_halt_19 o9 rfl lk_X6_110 me_J5_add is_J5_add se_J5_add rfl rfl (Nat.le_of_ble_eq_true rfl) (MX.post (m_w_J5_add hG hO g7) ?_)
  rintro _ A7 ⟨v7, rfl, zv7, h1⟩
  refine X.xok (fun w7 => ?_)
  replace h := h v7 A7 w7 zv7 h1
  change X _ _ _ _ A7 _ _ [.int v7]
  refine x_pop dX6_halt_22 rfl ?_
  refine x_aload_n dX6_halt_23 rfl ?_
  obtain ⟨o10, h⟩ := h
  refine x_get (v := va_rf (A7.P p 10)) hG dX6_halt_24 f_X6_224_5 o10 rfl ?_
  refine x_iconst_ (v := (4 : Int32)) dX6_halt_27 (by decide) ?_
  refine x_lconst_ (v := (0 : Int64)) dX6_halt_28 (by decide) ?_
  refine x_null dX6_halt_29 ?_
  obtain ⟨b12, e12, h⟩ := h
  rw [e12]
  obtain ⟨o13, h⟩ := h
  obtain ⟨R11, g11, h⟩ := h
  refine x_callV hG (Ky := kX36_ends) (As := [.int (4 : Int32), .long (0 : Int64), .null]) dX6_halt_30 o13 rfl lk_X6_235 me_X36_ends is_X36_ends se_X36_ends rfl rfl (Nat.le_of_ble_eq_true rfl) (MX.post (m_X36_ends hG hO g11) ?_)
  rintro _ A11 ⟨rfl, h1⟩
  refine X.xok (fun w11 => ?_)
  replace h := h A11 w11 h1
  change X _ _ _ _ A11 _ _ []
  exact x_vret dX6_halt_33 rfl ⟨rfl, h⟩
def w_X6_result (G : xG) (p : Nat) (v : Int64) (Q : xA → Prop) (A : xA) : Prop := xok G A → A.tg p = 6 ∧ (∃ b3 : Nat, (A.P p 10) = some b3 ∧ (A.tg b3 = 35 ∧ (∃ R2 : xA → Prop, w_X36_ends G b3 (3 : Int32) v (none : Option Nat) R2 A ∧ (∀ A2 : xA, xok G A2 → R2 A2 → (Q A2)))))
theorem m_X6_result (hG : xOK G) (hO : xHO G) {dp : Nat} {p : Nat} {v : Int64} {Q : xA → Prop} {A : xA} (h : w_X6_result G p v Q A) : MX G (dp + 1) kX6_result [.ref p, .long v] A (hV Q) := by
  unfold w_X6_result at h
  refine MX.of rfl (Nat.le_of_ble_eq_true rfl) ?_
  change X _ _ _ _ _ _ [some (.ref p), some (.long v), none] _
  refine X.xok (fun w0 => ?_)
  replace h := h w0
  refine x_aload_n dX6_result_0 rfl ?_
  obtain ⟨o1, h⟩ := h
  refine x_get (v := va_rf (A.P p 10)) hG dX6_result_1 f_X6_224_5 o1 rfl ?_
  refine x_iconst_ (v := (3 : Int32)) dX6_result_4 (by decide) ?_
  refine x_lload_n dX6_result_5 rfl ?_
  refine x_null dX6_result_6 ?_
  obtain ⟨b3, e3, h⟩ := h
  rw [e3]
  obtain ⟨o4, h⟩ := h
  obtain ⟨R2, g2, h⟩ := h
  refine x_callV hG (Ky := kX36_ends) (As := [.int (3 : Int32), .long v, .null]) dX6_result_7 o4 rfl lk_X6_235 me_X36_ends is_X36_ends se_X36_ends rfl rfl (Nat.le_of_ble_eq_true rfl) (MX.post (m_X36_ends hG hO g2) ?_)
  rintro _ A2 ⟨rfl, h1⟩
  refine X.xok (fun w2 => ?_)
  replace h := h A2 w2 h1
  change X _ _ _ _ A2 _ _ []
  exact x_vret dX6_result_10 rfl ⟨rfl, h⟩
def w_X6_jump (G : xG) (p : Nat) (b : Option Nat) (Q : xA → Prop) (A : xA) : Prop := xok G A → A.tg p = 6 ∧ (∃ b2 : Nat, (A.P p 10) = some b2 ∧ (A.tg b2 = 35 ∧ ((((A.I b2 1) = 0 → ∃ R4 : xA → Prop, w_X36_ends G b2 (1 : Int32) (0 : Int64) b R4 A ∧ (∀ A4 : xA, xok G A4 → R4 A4 → (Q A4))) ∧ (¬ (A.I b2 1) = 0 → Q A)))))
theorem m_X6_jump (hG : xOK G) (hO : xHO G) {dp : Nat} {p : Nat} {b : Option Nat} {Q : xA → Prop} {A : xA} (h : w_X6_jump G p b Q A) : MX G (dp + 1) kX6_jump [.ref p, va_rf b] A (hV Q) := by
  unfold w_X6_jump at h
  refine MX.of rfl (by cases b <;> exact Nat.le_of_ble_eq_true rfl) ?_
  refine X.lvs (lv' := [some (.ref p), some (va_rf b)]) (by cases b <;> rfl) ?_
  refine X.xok (fun w0 => ?_)
  replace h := h w0
  refine x_aload_n dX6_jump_0 rfl ?_
  obtain ⟨o1, h⟩ := h
  refine x_get (v := va_rf (A.P p 10)) hG dX6_jump_1 f_X6_224_5 o1 rfl ?_
  obtain ⟨b2, e2, h⟩ := h
  rw [e2]
  obtain ⟨o3, h⟩ := h
  refine x_get (v := .int (A.I b2 1)) hG dX6_jump_4 f_X6_227_34 o3 rfl ?_
  refine x_if_ne (tgt := 20) dX6_jump_7 (by decide) (fun c7 => ?_) (fun c7 => ?_)
  · replace h := h.2 c7
    exact x_vret dX6_jump_20 rfl ⟨rfl, h⟩
  · replace h := h.1 c7
    refine x_aload_n dX6_jump_10 rfl ?_
    refine x_get (v := .ref b2) hG dX6_jump_11 f_X6_224_5 o1 (congrArg va_rf e2) ?_
    refine x_iconst_ (v := (1 : Int32)) dX6_jump_14 (by decide) ?_
    refine x_lconst_ (v := (0 : Int64)) dX6_jump_15 (by decide) ?_
    refine x_aloadq_n dX6_jump_16 rfl ?_
    obtain ⟨R4, g4, h⟩ := h
    refine x_callV hG (Ky := kX36_ends) (As := [.int (1 : Int32), .long (0 : Int64), va_rf b]) dX6_jump_17 o3 rfl lk_X6_235 me_X36_ends is_X36_ends se_X36_ends rfl rfl (Nat.le_of_ble_eq_true rfl) (MX.post (m_X36_ends hG hO g4) ?_)
    rintro _ A4 ⟨rfl, h1⟩
    refine X.xok (fun w4 => ?_)
    replace h := h A4 w4 h1
    change X _ _ _ _ A4 _ _ []
    exact x_vret dX6_jump_20 rfl ⟨rfl, h⟩
def w_X6_isMain (G : xG) (p : Nat) (t : Option Nat) (Q : Int32 → xA → Prop) (A : xA) : Prop := xok G A → ∃ b1 : Nat, t = some b1 ∧ (A.tg b1 = 14 ∧ (Q (if (A.I b1 0) = (6 : Int32) then (if (A.I b1 5) = 0 then (0 : Int32) else (1 : Int32)) else (0 : Int32)) A))
theorem m_X6_isMain (hG : xOK G) (hO : xHO G) {dp : Nat} {p : Nat} {t : Option Nat} {Q : Int32 → xA → Prop} {A : xA} (h : w_X6_isMain G p t Q A) : MX G (dp + 0) kX6_isMain [.ref p, va_rf t] A (hZ Q) := by
  unfold w_X6_isMain at h
  refine MX.of rfl (by cases t <;> exact Nat.le_of_ble_eq_true rfl) ?_
  refine X.lvs (lv' := [some (.ref p), some (va_rf t)]) (by cases t <;> rfl) ?_
  refine X.xok (fun w0 => ?_)
  replace h := h w0
  refine x_aloadq_n dX6_isMain_0 rfl ?_
  obtain ⟨b1, e1, h⟩ := h
  rw [e1]
  obtain ⟨o2, h⟩ := h
  refine x_get (v := .int (A.I b1 0)) hG dX6_isMain_1 f_X6_65_13 o2 rfl ?_
  refine x_bipush_ (v := (6 : Int32)) dX6_isMain_4 (by decide) ?_
  refine x_via 21 (A' := A) (lv' := [none, none]) (st' := [.int (if (A.I b1 0) = (6 : Int32) then (if (A.I b1 5) = 0 then (0 : Int32) else (1 : Int32)) else (0 : Int32))]) ?_ (fun k21 => ?_)
  rotate_left
  · refine x_icmp_ne (tgt := 20) dX6_isMain_6 (by decide) (fun c6 => ?_) (fun c6 => ?_)
    · refine x_iconst_ (v := (0 : Int32)) dX6_isMain_20 (by decide) ?_
      change X _ _ _ _ _ _ [some (.ref p), some (.ref b1)] [.int (0 : Int32)]
      simp only [if_neg c6] at k21 ⊢
      exact X.weak (xle_n (xle_n xle_nil)) k21
    · refine x_aload_n dX6_isMain_9 rfl ?_
      refine x_get (v := .int (A.I b1 5)) hG dX6_isMain_10 f_X6_98_13 o2 rfl ?_
      refine x_if_eq (tgt := 20) dX6_isMain_13 (by decide) (fun c13 => ?_) (fun c13 => ?_)
      · refine x_iconst_ (v := (0 : Int32)) dX6_isMain_20 (by decide) ?_
        change X _ _ _ _ _ _ [some (.ref p), some (.ref b1)] [.int (0 : Int32)]
        try simp only [if_pos c6] at c13 k21 ⊢
        try simp only [if_pos c13] at k21 ⊢
        exact X.weak (xle_n (xle_n xle_nil)) k21
      · refine x_iconst_ (v := (1 : Int32)) dX6_isMain_16 (by decide) ?_
        refine x_goto (tgt := 21) dX6_isMain_17 (by decide) ?_
        change X _ _ _ _ _ _ [some (.ref p), some (.ref b1)] [.int (1 : Int32)]
        try simp only [if_pos c6] at c13 k21 ⊢
        try simp only [if_neg c13] at k21 ⊢
        exact X.weak (xle_n (xle_n xle_nil)) k21
  exact x_zret dX6_isMain_21 rfl (by (repeat' split) <;> decide) ⟨_, rfl, (by (repeat' split) <;> decide), h⟩
def w_X6_main (G : xG) (p : Nat) (Q : Option Nat → xA → Prop) (A : xA) : Prop := xok G A → ∃ L1 : Nat → Int32 → xA → Prop, (∃ n1 : Nat, L1 n1 (0 : Int32) A) ∧ (∀ (n1 : Nat) (y1_1 : Int32) (A1 : xA), L1 n1 y1_1 A1 → A1.tg p = 6 ∧ (∃ b4 : Nat, (A1.P p 7) = some b4 ∧ (A1.tg b4 = 37 ∧ (∃ R3 : Int32 → xA → Prop, w_J5_size G b4 R3 A1 ∧ (∀ (v3 : Int32) (A3 : xA), xok G A3 → R3 v3 A3 → (((v3 ≤ y1_1 → Q (none : Option Nat) A3) ∧ (¬ v3 ≤ y1_1 → A3.tg p = 6 ∧ (∃ b8 : Nat, (A3.P p 7) = some b8 ∧ (A3.tg b8 = 37 ∧ (∃ R7 : Option Nat → xA → Prop, w_J5_get G b8 y1_1 R7 A3 ∧ (∀ (v7 : Option Nat) (A7 : xA), xok G A7 → R7 v7 A7 → (∃ b10 : Nat, v7 = some b10 ∧ (A7.tg b10 = 14 ∧ (A7.tg p = 6 ∧ (∃ R12 : Int32 → xA → Prop, w_X6_isMain G p (some b10) R12 A7 ∧ (∀ (v12 : Int32) (A12 : xA), xok G A12 → (v12 = 0 ∨ v12 = 1) → R12 v12 A12 → (((v12 = 0 → (∃ q1 : Nat, q1 < n1 ∧ L1 q1 (y1_1 + (1 : Int32)) A12)) ∧ (¬ v12 = 0 → A12.tg p = 6 ∧ (∃ b16 : Nat, (A12.P p 7) = some b16 ∧ (A12.tg b16 = 37 ∧ (∃ R15 : Option Nat → xA → Prop, w_J5_get G b16 y1_1 R15 A12 ∧ (∀ (v15 : Option Nat) (A15 : xA), xok G A15 → R15 v15 A15 → (∃ b18 : Nat, v15 = some b18 ∧ (A15.tg b18 = 14 ∧ (Q (some b18) A15)))))))))))))))))))))))))))
theorem m_X6_main (hG : xOK G) (hO : xHO G) {dp : Nat} {p : Nat} {Q : Option Nat → xA → Prop} {A : xA} (h : w_X6_main G p Q A) : MX G (dp + 3) kX6_main [.ref p] A (hR Q) := by
  unfold w_X6_main at h
  refine MX.of rfl (Nat.le_of_ble_eq_true rfl) ?_
  change X _ _ _ _ _ _ [some (.ref p), none] _
  refine X.xok (fun w0 => ?_)
  replace h := h w0
  refine x_iconst_ (v := (0 : Int32)) dX6_main_0 (by decide) ?_
  refine x_istore_n dX6_main_1 (by decide) ?_
  obtain ⟨L1, ⟨n1, i1⟩, g1⟩ := h
  have kl1 : ∀ n1 : Nat, ∀ (y1_1 : Int32) (A1 : xA), L1 n1 y1_1 A1 → X G (dp + 3) kX6_main (hR Q) A1 2 [some (.ref p), some (.int y1_1)] [] := by
    intro n1
    induction n1 using Nat.strongRecOn with
    | ind n1 ih1 =>
      intro y1_1 A1 h
      replace h := g1 n1 y1_1 A1 h
      refine x_iload_n dX6_main_2 rfl ?_
      refine x_aload_n dX6_main_3 rfl ?_
      obtain ⟨o2, h⟩ := h
      refine x_get (v := va_rf (A1.P p 7)) hG dX6_main_4 f_X6_40_5 o2 rfl ?_
      obtain ⟨b4, e4, h⟩ := h
      rw [e4]
      obtain ⟨o5, h⟩ := h
      obtain ⟨R3, g3, h⟩ := h
      refine x_callV hG (Ky := kJ5_size) (As := []) dX6_main_7 o5 rfl lk_X6_55 me_J5_size is_J5_size se_J5_size rfl rfl (Nat.le_of_ble_eq_true rfl) (MX.post (m_w_J5_size hG hO g3) ?_)
      rintro _ A3 ⟨v3, rfl, h1⟩
      refine X.xok (fun w3 => ?_)
      replace h := h v3 A3 w3 h1
      change X _ _ _ _ A3 _ _ [.int v3, .int y1_1]
      refine x_icmp_ge (tgt := 49) dX6_main_10 (by decide) (fun c10 => ?_) (fun c10 => ?_)
      · replace h := h.1 c10
        refine x_null dX6_main_49 ?_
        exact x_aret (r := (none : Option Nat)) dX6_main_50 rfl (Or.inl ⟨_, rfl⟩) ⟨_, rfl, h⟩
      · replace h := h.2 c10
        refine x_aload_n dX6_main_13 rfl ?_
        refine x_aload_n dX6_main_14 rfl ?_
        obtain ⟨o6, h⟩ := h
        refine x_get (v := va_rf (A3.P p 7)) hG dX6_main_15 f_X6_40_5 o6 rfl ?_
        refine x_iload_n dX6_main_18 rfl ?_
        obtain ⟨b8, e8, h⟩ := h
        rw [e8]
        obtain ⟨o9, h⟩ := h
        obtain ⟨R7, g7, h⟩ := h
        refine x_callV hG (Ky := kJ5_get) (As := [.int y1_1]) dX6_main_19 o9 rfl lk_X6_59 me_J5_get is_J5_get se_J5_get rfl rfl (Nat.le_of_ble_eq_true rfl) (MX.post (m_w_J5_get hG hO g7) ?_)
        rintro _ A7 ⟨v7, rfl, h1⟩
        refine X.xok (fun w7 => ?_)
        replace h := h v7 A7 w7 h1
        change X _ _ _ _ A7 _ _ [va_rf v7, .ref p]
        obtain ⟨b10, e10, h⟩ := h
        rw [e10]
        obtain ⟨o11, h⟩ := h
        refine x_cast hG dX6_main_22 q1688 o11 rfl (Or.inl rfl) ?_
        obtain ⟨o13, h⟩ := h
        obtain ⟨R12, g12, h⟩ := h
        refine x_callV hG (Ky := kX6_isMain) (As := [.ref b10]) dX6_main_25 o13 rfl lk_X6_102 me_X6_isMain is_X6_isMain se_X6_isMain rfl rfl (Nat.le_of_ble_eq_true rfl) (MX.post (m_X6_isMain hG hO g12) ?_)
        rintro _ A12 ⟨v12, rfl, zv12, h1⟩
        refine X.xok (fun w12 => ?_)
        replace h := h v12 A12 w12 zv12 h1
        change X _ _ _ _ A12 _ _ [.int v12]
        refine x_if_eq (tgt := 43) dX6_main_28 (by decide) (fun c28 => ?_) (fun c28 => ?_)
        · replace h := h.1 c28
          refine x_iinc (v := (y1_1 + (1 : Int32))) dX6_main_43 rfl rfl (by decide) ?_
          refine x_goto (tgt := 2) dX6_main_46 (by decide) ?_
          obtain ⟨q1, l1, h⟩ := h
          change X _ _ _ _ _ _ [some (.ref p), some (.int (y1_1 + (1 : Int32)))] []
          exact X.weak (xle_c rfl (xle_c rfl xle_nil)) (ih1 q1 l1 (y1_1 + (1 : Int32)) A12 h)
        · replace h := h.2 c28
          refine x_aload_n dX6_main_31 rfl ?_
          obtain ⟨o14, h⟩ := h
          refine x_get (v := va_rf (A12.P p 7)) hG dX6_main_32 f_X6_40_5 o14 rfl ?_
          refine x_iload_n dX6_main_35 rfl ?_
          obtain ⟨b16, e16, h⟩ := h
          rw [e16]
          obtain ⟨o17, h⟩ := h
          obtain ⟨R15, g15, h⟩ := h
          refine x_callV hG (Ky := kJ5_get) (As := [.int y1_1]) dX6_main_36 o17 rfl lk_X6_59 me_J5_get is_J5_get se_J5_get rfl rfl (Nat.le_of_ble_eq_true rfl) (MX.post (m_w_J5_get hG hO g15) ?_)
          rintro _ A15 ⟨v15, rfl, h1⟩
          refine X.xok (fun w15 => ?_)
          replace h := h v15 A15 w15 h1
          change X _ _ _ _ A15 _ _ [va_rf v15]
          obtain ⟨b18, e18, h⟩ := h
          rw [e18]
          obtain ⟨o19, h⟩ := h
          refine x_cast hG dX6_main_39 q1688 o19 rfl (Or.inl rfl) ?_
          exact x_aret (r := (some b18)) dX6_main_42 rfl (Or.inl ⟨_, rfl⟩) ⟨_, rfl, h⟩
  change X _ _ _ _ _ _ [some (.ref p), some (.int (0 : Int32))] []
  exact X.weak (xle_c rfl (xle_c rfl xle_nil)) (kl1 n1 (0 : Int32) A i1)
end W089
