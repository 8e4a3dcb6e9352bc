/-! ===== 100.hmakeF (tools/h045.py) ===== -/
set_option maxRecDepth 100000
section W100
variable {G : xG}
def w_X6_formal (G : xG) (p : Nat) (t : Option Nat) (f : Option Nat) (k : Int32) (Q : xA → Prop) (E : Nat → xA → Prop) (A : xA) : Prop := xok G A → ∃ b1 : Nat, t = some b1 ∧ (A.tg b1 = 14 ∧ ((((A.I b1 5) = 0 → ∃ b3 : Nat, f = some b3 ∧ (A.tg b3 = 23 ∧ (A.tg p = 6 ∧ (∃ R5 : xA → Prop, w_X6_unused G p (A.I b3 0) (A.I b3 1) R5 E A ∧ (∀ A5 : xA, xok G A5 → R5 A5 → (((k = (4 : Int32) → A5.tg b3 = 23 ∧ (A5.tg p = 6 ∧ (∃ R37 : Option Nat → xA → Prop, w_X6_fault G p (11 : Int32) (A5.I b3 1) R37 A5 ∧ (∀ (v37 : Option Nat) (A37 : xA), xok G A37 → R37 v37 A37 → (∃ b39 : Nat, v37 = some b39 ∧ (E b39 A37)))))) ∧ (¬ k = (4 : Int32) → A5.tg b3 = 23 ∧ (∃ J8 : Int32 → xA → Prop, (∀ (y8_s0 : Int32) (A8 : xA), J8 y8_s0 A8 → A8.tg p = 6 ∧ (∃ R9 : Option Nat → xA → Prop, w_X6_emit G p (33 : Int32) y8_s0 (0 : Int64) (0 : Int64) R9 A8 ∧ (∀ (v9 : Option Nat) (A9 : xA), xok G A9 → R9 v9 A9 → (∃ b11 : Nat, v9 = some b11 ∧ (A9.tg b11 = 36 ∧ (∀ A13 : xA, A13 = A9.setI b11 5 y8_s0 → (rmO G A13 6 ∧ (∀ A15 : xA, A15 = A13.new 33 0 6 0 → (A15.tg b3 = 23 ∧ (∃ R17 : xA → Prop, w_X34_init G A13.n (A15.I b3 0) (if (A15.I b3 3) = 0 then (3 : Int32) else (5 : Int32)) y8_s0 R17 A15 ∧ (∀ A17 : xA, xok G A17 → R17 A17 → (A17.tg b3 = 23 ∧ (A17.tg A13.n = 33 ∧ (((A17.I b3 4) = 0 ∨ (A17.I b3 4) = 1) ∧ (∀ A21 : xA, A21 = A17.setI A13.n 3 (A17.I b3 4) → (∃ J22 : xA → Prop, (∀ (A22 : xA), J22 A22 → A22.tg p = 6 ∧ (∃ R23 : xA → Prop, w_X6_know G p (some A13.n) R23 A22 ∧ (∀ A23 : xA, xok G A23 → R23 A23 → (Q A23)))) ∧ (((A17.I b3 3) = 0 → J22 A21) ∧ (¬ (A17.I b3 3) = 0 → A21.tg p = 6 ∧ (∃ R25 : Int32 → xA → Prop, w_X6_register G p R25 A21 ∧ (∀ (v25 : Int32) (A25 : xA), xok G A25 → R25 v25 A25 → (A25.tg p = 6 ∧ (∃ R27 : Option Nat → xA → Prop, w_X6_emit G p (33 : Int32) v25 (0 : Int64) (0 : Int64) R27 A25 ∧ (∀ (v27 : Option Nat) (A27 : xA), xok G A27 → R27 v27 A27 → (∃ b29 : Nat, v27 = some b29 ∧ (A27.tg b29 = 36 ∧ (∀ A31 : xA, A31 = A27.setI b29 5 v25 → (J22 A31))))))))))))))))))))))))))) ∧ (((A5.I b3 3) = 0 → A5.tg p = 6 ∧ (∃ R32 : Int32 → xA → Prop, w_X6_variable G p R32 A5 ∧ (∀ (v32 : Int32) (A32 : xA), xok G A32 → R32 v32 A32 → (J8 v32 A32)))) ∧ (¬ (A5.I b3 3) = 0 → A5.tg p = 6 ∧ (∃ R34 : Int32 → xA → Prop, w_X6_register G p R34 A5 ∧ (∀ (v34 : Int32) (A34 : xA), xok G A34 → R34 v34 A34 → (J8 v34 A34)))))))))))))) ∧ (¬ (A.I b1 5) = 0 → ∃ b40 : Nat, f = some b40 ∧ (A.tg b40 = 23 ∧ (A.tg p = 6 ∧ (∃ R42 : Option Nat → xA → Prop, w_X6_fault G p (12 : Int32) (A.I b40 2) R42 A ∧ (∀ (v42 : Option Nat) (A42 : xA), xok G A42 → R42 v42 A42 → (∃ b44 : Nat, v42 = some b44 ∧ (E b44 A42))))))))))
theorem m_X6_formal (hG : xOK G) (hO : xHO G) {dp : Nat} {p : Nat} {t : Option Nat} {f : Option Nat} {k : Int32} {Q : xA → Prop} {E : Nat → xA → Prop} {A : xA} (h : w_X6_formal G p t f k Q E A) : MX G (dp + 8) kX6_formal [.ref p, va_rf t, va_rf f, .int k] A (hX (hV Q) E) := by
  unfold w_X6_formal at h
  refine MX.of rfl (by cases t <;> cases f <;> exact Nat.le_of_ble_eq_true rfl) ?_
  refine X.lvs (lv' := [some (.ref p), some (va_rf t), some (va_rf f), some (.int k), none, none, none]) (by cases t <;> cases f <;> rfl) ?_
  refine X.xok (fun w0 => ?_)
  replace h := h w0
  refine x_aloadq_n dX6_formal_0 rfl ?_
  obtain ⟨b1, e1, h⟩ := h
  rw [e1]
  obtain ⟨o2, h⟩ := h
  refine x_get (v := .int (A.I b1 5)) hG dX6_formal_1 f_X6_98_13 o2 rfl ?_
  refine x_if_eq (tgt := 18) dX6_formal_4 (by decide) (fun c4 => ?_) (fun c4 => ?_)
  · replace h := h.1 c4
    refine x_aload_n dX6_formal_18 rfl ?_
    refine x_aloadq_n dX6_formal_19 rfl ?_
    obtain ⟨b3, e3, h⟩ := h
    rw [e3]
    obtain ⟨o4, h⟩ := h
    refine x_get (v := .int (A.I b3 0)) hG dX6_formal_20 f_X6_245_22 o4 rfl ?_
    refine x_aload_n dX6_formal_23 rfl ?_
    refine x_get (v := .int (A.I b3 1)) hG dX6_formal_24 f_X6_246_22 o4 rfl ?_
    obtain ⟨o6, h⟩ := h
    obtain ⟨R5, g5, h⟩ := h
    refine x_callV hG (Ky := kX6_unused) (As := [.int (A.I b3 0), .int (A.I b3 1)]) dX6_formal_27 o6 rfl lk_X6_247 me_X6_unused is_X6_unused se_X6_unused rfl rfl (Nat.le_of_ble_eq_true rfl) (MX.post (m_X6_unused hG hO g5) ?_)
    rintro _ A5 (⟨rfl, h1⟩ | ⟨x5, rfl, h1⟩)
    rotate_left
    · exact ⟨rfl, Or.inr ⟨_, rfl, h1⟩⟩
    refine X.xok (fun w5 => ?_)
    replace h := h A5 w5 h1
    change X _ _ _ _ A5 _ _ []
    refine x_iload_n dX6_formal_30 rfl ?_
    refine x_iconst_ (v := (4 : Int32)) dX6_formal_31 (by decide) ?_
    refine x_icmp_ne (tgt := 46) dX6_formal_32 (by decide) (fun c32 => ?_) (fun c32 => ?_)
    · replace h := h.2 c32
      refine x_aload_n dX6_formal_46 rfl ?_
      obtain ⟨o7, h⟩ := h
      refine x_get (v := .int (A5.I b3 3)) hG dX6_formal_47 f_X6_251_22 o7 rfl ?_
      obtain ⟨J8, g8, h⟩ := h
      have kj8 : ∀ (y8_s0 : Int32) (A8 : xA), J8 y8_s0 A8 → X G (dp + 8) kX6_formal (hX (hV Q) E) A8 64 [some (.ref p), none, some (.ref b3), none, none, none, none] [.int y8_s0] := by
        intro y8_s0 A8 h
        replace h := g8 y8_s0 A8 h
        refine x_istore dX6_formal_64 (by decide) ?_
        refine x_aload_n dX6_formal_66 rfl ?_
        refine x_bipush_ (v := (33 : Int32)) dX6_formal_67 (by decide) ?_
        refine x_iload dX6_formal_69 rfl ?_
        refine x_lconst_ (v := (0 : Int64)) dX6_formal_71 (by decide) ?_
        refine x_lconst_ (v := (0 : Int64)) dX6_formal_72 (by decide) ?_
        obtain ⟨o10, h⟩ := h
        obtain ⟨R9, g9, h⟩ := h
        refine x_callV hG (Ky := kX6_emit) (As := [.int (33 : Int32), .int y8_s0, .long (0 : Int64), .long (0 : Int64)]) dX6_formal_73 o10 rfl lk_X6_260 me_X6_emit is_X6_emit se_X6_emit rfl rfl (Nat.le_of_ble_eq_true rfl) (MX.post (m_X6_emit hG hO g9) ?_)
        rintro _ A9 ⟨v9, rfl, h1⟩
        refine X.xok (fun w9 => ?_)
        replace h := h v9 A9 w9 h1
        change X _ _ _ _ A9 _ _ [va_rf v9]
        refine x_iload dX6_formal_76 rfl ?_
        obtain ⟨b11, e11, h⟩ := h
        rw [e11]
        obtain ⟨o12, h⟩ := h
        refine z_putI hG hO.1 dX6_formal_78 f_X6_264_35 ⟨_, rfl, Or.inl rfl⟩ o12 (by decide) rfl rfl ⟨_, rfl⟩ (fun A13 e13 => ?_)
        replace h := h A13 e13
        obtain ⟨o14, h⟩ := h
        refine z_new hG (c := 32) dX6_formal_81 rfl q1689 (by decide) rfl o14 (fun A15 e15 w15 => ?_)
        replace h := h A15 e15
        refine x_dup dX6_formal_84 rfl ?_
        refine x_aload_n dX6_formal_85 rfl ?_
        obtain ⟨o16, h⟩ := h
        refine x_get (v := .int (A15.I b3 0)) hG dX6_formal_86 f_X6_245_22 o16 rfl ?_
        refine x_aload_n dX6_formal_89 rfl ?_
        refine x_get (v := .int (A15.I b3 3)) hG dX6_formal_90 f_X6_251_22 o16 rfl ?_
        refine x_via 101 (A' := A15) (lv' := [some (.ref p), none, some (.ref b3), none, some (.int y8_s0), none, none]) (st' := [.int (if (A15.I b3 3) = 0 then (3 : Int32) else (5 : Int32)), .int (A15.I b3 0), .ref A13.n, .ref A13.n]) ?_ (fun k101 => ?_)
        rotate_left
        · refine x_if_eq (tgt := 100) dX6_formal_93 (by decide) (fun c93 => ?_) (fun c93 => ?_)
          · refine x_iconst_ (v := (3 : Int32)) dX6_formal_100 (by decide) ?_
            change X _ _ _ _ _ _ [some (.ref p), none, some (.ref b3), none, some (.int y8_s0), none, none] [.int (3 : Int32), .int (A15.I b3 0), .ref A13.n, .ref A13.n]
            simp only [if_pos c93] at k101 ⊢
            exact X.weak (xle_c rfl (xle_n (xle_c rfl (xle_n (xle_c rfl (xle_n (xle_n xle_nil))))))) k101
          · refine x_iconst_ (v := (5 : Int32)) dX6_formal_96 (by decide) ?_
            refine x_goto (tgt := 101) dX6_formal_97 (by decide) ?_
            change X _ _ _ _ _ _ [some (.ref p), none, some (.ref b3), none, some (.int y8_s0), none, none] [.int (5 : Int32), .int (A15.I b3 0), .ref A13.n, .ref A13.n]
            simp only [if_neg c93] at k101 ⊢
            exact X.weak (xle_c rfl (xle_n (xle_c rfl (xle_n (xle_c rfl (xle_n (xle_n xle_nil))))))) k101
        refine x_iload dX6_formal_101 rfl ?_
        obtain ⟨R17, g17, h⟩ := h
        refine x_callI hG (Ky := kX34_init) (As := [.int (A15.I b3 0), .int (if (A15.I b3 3) = 0 then (3 : Int32) else (5 : Int32)), .int y8_s0]) dX6_formal_103 lk_X6_73 me_X34_init is_X34_init rfl rfl rfl rfl rfl (Nat.le_of_ble_eq_true rfl) (MX.post (m_X34_init hG hO g17) ?_)
        rintro _ A17 ⟨rfl, h1⟩
        refine X.xok (fun w17 => ?_)
        replace h := h A17 w17 h1
        change X _ _ _ _ A17 _ _ [.ref A13.n]
        refine x_astore dX6_formal_106 (by decide) ?_
        refine x_aload dX6_formal_108 rfl ?_
        refine x_aload_n dX6_formal_110 rfl ?_
        obtain ⟨o18, h⟩ := h
        refine x_get (v := .int (A17.I b3 4)) hG dX6_formal_111 f_X6_269_22 o18 rfl ?_
        obtain ⟨o19, h⟩ := h
        obtain ⟨o20, h⟩ := h
        refine z_putI hG hO.1 dX6_formal_114 f_X6_154_32 ⟨_, rfl, Or.inl rfl⟩ o19 (by decide) (narrow01 o20) (fits01 o20) ⟨_, rfl⟩ (fun A21 e21 => ?_)
        replace h := h A21 e21
        refine x_aload_n dX6_formal_117 rfl ?_
        refine x_get (v := .int (A17.I b3 3)) hG dX6_formal_118 f_X6_251_22 (kI e21 o18) (congrArg Value.int (sI_a e21 (tne o18 o19 (by decide)))) ?_
        obtain ⟨J22, g22, h⟩ := h
        have kj22 : ∀ (A22 : xA), J22 A22 → X G (dp + 8) kX6_formal (hX (hV Q) E) A22 145 [some (.ref p), none, none, none, none, some (.ref A13.n), none] [] := by
          intro A22 h
          replace h := g22 A22 h
          refine x_aload_n dX6_formal_145 rfl ?_
          refine x_aload dX6_formal_146 rfl ?_
          obtain ⟨o24, h⟩ := h
          obtain ⟨R23, g23, h⟩ := h
          refine x_callV hG (Ky := kX6_know) (As := [.ref A13.n]) dX6_formal_148 o24 rfl lk_X6_270 me_X6_know is_X6_know se_X6_know rfl rfl (Nat.le_of_ble_eq_true rfl) (MX.post (m_X6_know hG hO g23) ?_)
          rintro _ A23 ⟨rfl, h1⟩
          refine X.xok (fun w23 => ?_)
          replace h := h A23 w23 h1
          change X _ _ _ _ A23 _ _ []
          exact x_vret dX6_formal_151 rfl (Or.inl ⟨rfl, h⟩)
        refine x_if_eq (tgt := 145) dX6_formal_121 (by decide) (fun c121 => ?_) (fun c121 => ?_)
        · replace h := h.1 c121
          change X _ _ _ _ _ _ [some (.ref p), none, some (.ref b3), none, some (.int y8_s0), some (.ref A13.n), none] []
          exact X.weak (xle_c rfl (xle_n (xle_n (xle_n (xle_n (xle_c rfl (xle_n xle_nil))))))) (kj22 A21 h)
        · replace h := h.2 c121
          refine x_aload_n dX6_formal_124 rfl ?_
          obtain ⟨o26, h⟩ := h
          obtain ⟨R25, g25, h⟩ := h
          refine x_callV hG (Ky := kX6_register) (As := []) dX6_formal_125 o26 rfl lk_X6_254 me_X6_register is_X6_register se_X6_register rfl rfl (Nat.le_of_ble_eq_true rfl) (MX.post (m_X6_register hG hO g25) ?_)
          rintro _ A25 ⟨v25, rfl, h1⟩
          refine X.xok (fun w25 => ?_)
          replace h := h v25 A25 w25 h1
          change X _ _ _ _ A25 _ _ [.int v25]
          refine x_istore dX6_formal_128 (by decide) ?_
          refine x_aload_n dX6_formal_130 rfl ?_
          refine x_bipush_ (v := (33 : Int32)) dX6_formal_131 (by decide) ?_
          refine x_iload dX6_formal_133 rfl ?_
          refine x_lconst_ (v := (0 : Int64)) dX6_formal_135 (by decide) ?_
          refine x_lconst_ (v := (0 : Int64)) dX6_formal_136 (by decide) ?_
          obtain ⟨o28, h⟩ := h
          obtain ⟨R27, g27, h⟩ := h
          refine x_callV hG (Ky := kX6_emit) (As := [.int (33 : Int32), .int v25, .long (0 : Int64), .long (0 : Int64)]) dX6_formal_137 o28 rfl lk_X6_260 me_X6_emit is_X6_emit se_X6_emit rfl rfl (Nat.le_of_ble_eq_true rfl) (MX.post (m_X6_emit hG hO g27) ?_)
          rintro _ A27 ⟨v27, rfl, h1⟩
          refine X.xok (fun w27 => ?_)
          replace h := h v27 A27 w27 h1
          change X _ _ _ _ A27 _ _ [va_rf v27]
          refine x_iload dX6_formal_140 rfl ?_
          obtain ⟨b29, e29, h⟩ := h
          rw [e29]
          obtain ⟨o30, h⟩ := h
          refine z_putI hG hO.1 dX6_formal_142 f_X6_264_35 ⟨_, rfl, Or.inl rfl⟩ o30 (by decide) rfl rfl ⟨_, rfl⟩ (fun A31 e31 => ?_)
          replace h := h A31 e31
          change X _ _ _ _ _ _ [some (.ref p), none, some (.ref b3), none, some (.int y8_s0), some (.ref A13.n), some (.int v25)] []
          exact X.weak (xle_c rfl (xle_n (xle_n (xle_n (xle_n (xle_c rfl (xle_n xle_nil))))))) (kj22 A31 h)
      refine x_if_eq (tgt := 60) dX6_formal_50 (by decide) (fun c50 => ?_) (fun c50 => ?_)
      · replace h := h.1 c50
        refine x_aload_n dX6_formal_60 rfl ?_
        obtain ⟨o33, h⟩ := h
        obtain ⟨R32, g32, h⟩ := h
        refine x_callV hG (Ky := kX6_variable) (As := []) dX6_formal_61 o33 rfl lk_X6_257 me_X6_variable is_X6_variable se_X6_variable rfl rfl (Nat.le_of_ble_eq_true rfl) (MX.post (m_X6_variable hG hO g32) ?_)
        rintro _ A32 ⟨v32, rfl, h1⟩
        refine X.xok (fun w32 => ?_)
        replace h := h v32 A32 w32 h1
        change X _ _ _ _ A32 _ _ [.int v32]
        change X _ _ _ _ _ _ [some (.ref p), some (.ref b1), some (.ref b3), some (.int k), none, none, none] [.int v32]
        exact X.weak (xle_c rfl (xle_n (xle_c rfl (xle_n (xle_n (xle_n (xle_n xle_nil))))))) (kj8 v32 A32 h)
      · replace h := h.2 c50
        refine x_aload_n dX6_formal_53 rfl ?_
        obtain ⟨o35, h⟩ := h
        obtain ⟨R34, g34, h⟩ := h
        refine x_callV hG (Ky := kX6_register) (As := []) dX6_formal_54 o35 rfl lk_X6_254 me_X6_register is_X6_register se_X6_register rfl rfl (Nat.le_of_ble_eq_true rfl) (MX.post (m_X6_register hG hO g34) ?_)
        rintro _ A34 ⟨v34, rfl, h1⟩
        refine X.xok (fun w34 => ?_)
        replace h := h v34 A34 w34 h1
        change X _ _ _ _ A34 _ _ [.int v34]
        refine x_goto (tgt := 64) dX6_formal_57 (by decide) ?_
        change X _ _ _ _ _ _ [some (.ref p), some (.ref b1), some (.ref b3), some (.int k), none, none, none] [.int v34]
        exact X.weak (xle_c rfl (xle_n (xle_c rfl (xle_n (xle_n (xle_n (xle_n xle_nil))))))) (kj8 v34 A34 h)
    · replace h := h.1 c32
      refine x_aload_n dX6_formal_35 rfl ?_
      refine x_bipush_ (v := (11 : Int32)) dX6_formal_36 (by decide) ?_
      refine x_aload_n dX6_formal_38 rfl ?_
      obtain ⟨o36, h⟩ := h
      refine x_get (v := .int (A5.I b3 1)) hG dX6_formal_39 f_X6_246_22 o36 rfl ?_
      obtain ⟨o38, h⟩ := h
      obtain ⟨R37, g37, h⟩ := h
      refine x_callV hG (Ky := kX6_fault) (As := [.int (11 : Int32), .int (A5.I b3 1)]) dX6_formal_42 o38 rfl lk_X6_95 me_X6_fault is_X6_fault se_X6_fault rfl rfl (Nat.le_of_ble_eq_true rfl) (MX.post (m_X6_fault hG hO g37) ?_)
      rintro _ A37 ⟨v37, rfl, h1⟩
      refine X.xok (fun w37 => ?_)
      replace h := h v37 A37 w37 h1
      change X _ _ _ _ A37 _ _ [va_rf v37]
      obtain ⟨b39, e39, h⟩ := h
      rw [e39]
      exact x_athrow dX6_formal_45 rfl (Or.inr ⟨_, rfl, h⟩)
  · replace h := h.2 c4
    refine x_aload_n dX6_formal_7 rfl ?_
    refine x_bipush_ (v := (12 : Int32)) dX6_formal_8 (by decide) ?_
    refine x_aloadq_n dX6_formal_10 rfl ?_
    obtain ⟨b40, e40, h⟩ := h
    rw [e40]
    obtain ⟨o41, h⟩ := h
    refine x_get (v := .int (A.I b40 2)) hG dX6_formal_11 f_X6_244_22 o41 rfl ?_
    obtain ⟨o43, h⟩ := h
    obtain ⟨R42, g42, h⟩ := h
    refine x_callV hG (Ky := kX6_fault) (As := [.int (12 : Int32), .int (A.I b40 2)]) dX6_formal_14 o43 rfl lk_X6_95 me_X6_fault is_X6_fault se_X6_fault rfl rfl (Nat.le_of_ble_eq_true rfl) (MX.post (m_X6_fault hG hO g42) ?_)
    rintro _ A42 ⟨v42, rfl, h1⟩
    refine X.xok (fun w42 => ?_)
    replace h := h v42 A42 w42 h1
    change X _ _ _ _ A42 _ _ [va_rf v42]
    obtain ⟨b44, e44, h⟩ := h
    rw [e44]
    exact x_athrow dX6_formal_17 rfl (Or.inr ⟨_, rfl, h⟩)
def w_X6_function (G : xG) (p : Nat) (t : Option Nat) (Q : xA → Prop) (E : Nat → xA → Prop) (A : xA) : Prop := xok G A → A.tg p = 6 ∧ ((((A.I p 6) = (40 : Int32) → ∃ b51 : Nat, t = some b51 ∧ (A.tg b51 = 14 ∧ (∃ R53 : Option Nat → xA → Prop, w_X6_fault G p (11 : Int32) (A.I b51 2) R53 A ∧ (∀ (v53 : Option Nat) (A53 : xA), xok G A53 → R53 v53 A53 → (∃ b54 : Nat, v53 = some b54 ∧ (E b54 A53)))))) ∧ (¬ (A.I p 6) = (40 : Int32) → ∃ b2 : Nat, t = some b2 ∧ (A.tg b2 = 14 ∧ (∀ A4 : xA, A4 = A.setI b2 11 (A.I p 6) → (∀ A5 : xA, A5 = A4.setI p 6 ((A.I p 6) + (1 : Int32)) → (∀ A6 : xA, A6 = A5.setP p 8 (some b2) → (rmO G A6 5 ∧ (∀ A8 : xA, A8 = A6.new 34 0 5 0 → (∃ R9 : xA → Prop, w_X35_init G A6.n (some b2) R9 A8 ∧ (∀ A9 : xA, xok G A9 → R9 A9 → (A9.tg p = 6 ∧ (∀ A11 : xA, A11 = A9.setP p 9 (some A6.n) → (A11.tg b2 = 14 ∧ (∀ A13 : xA, A13 = A11.setP b2 13 (some A6.n) → (∀ A14 : xA, A14 = A13.setI p 4 (0 : Int32) → (∀ A15 : xA, A15 = A14.setP p 11 (none : Option Nat) → (∀ A16 : xA, A16 = A15.setP p 12 (none : Option Nat) → (∃ R17 : Option Nat → xA → Prop, w_X6_block G p R17 A16 ∧ (∀ (v17 : Option Nat) (A17 : xA), xok G A17 → R17 v17 A17 → (A17.tg p = 6 ∧ (∃ R18 : xA → Prop, w_X6_at G p v17 R18 A17 ∧ (∀ A18 : xA, xok G A18 → R18 A18 → (A18.tg p = 6 ∧ (∃ R20 : Int32 → xA → Prop, w_X6_open G p R20 A18 ∧ (∀ (v20 : Int32) (A20 : xA), xok G A20 → R20 v20 A20 → (∃ L22 : Nat → Int32 → xA → Prop, (∃ n22 : Nat, L22 n22 (0 : Int32) A20) ∧ (∀ (n22 : Nat) (y22_3 : Int32) (A22 : xA), L22 n22 y22_3 A22 → A22.tg b2 = 14 ∧ (∃ b25 : Nat, (A22.P b2 8) = some b25 ∧ (A22.tg b25 = 37 ∧ (∃ R24 : Int32 → xA → Prop, w_J5_size G b25 R24 A22 ∧ (∀ (v24 : Int32) (A24 : xA), xok G A24 → R24 v24 A24 → (((v24 ≤ y22_3 → A24.tg b2 = 14 ∧ (∃ b29 : Nat, (A24.P b2 9) = some b29 ∧ (A24.tg b29 = 5 ∧ (∃ R28 : xA → Prop, g_D_1 G b29 (some p) R28 E A24 ∧ (∀ A28 : xA, xok G A28 → R28 A28 → (A28.tg p = 6 ∧ (∃ R31 : xA → Prop, w_X6_close G p v20 R31 A28 ∧ (∀ A31 : xA, xok G A31 → R31 A31 → (A31.tg p = 6 ∧ (∃ b34 : Nat, (A31.P p 10) = some b34 ∧ (A31.tg b34 = 35 ∧ (∃ J36 : xA → Prop, (∀ (A36 : xA), J36 A36 → A36.tg b2 = 14 ∧ (∃ R37 : Int32 → xA → Prop, w_X14_words G b2 R37 A36 ∧ (∀ (v37 : Int32) (A37 : xA), xok G A37 → R37 v37 A37 → (A37.tg p = 6 ∧ (A37.tg b2 = 14 ∧ (∀ A41 : xA, A41 = A37.setI b2 12 (((4 : Int32) + v37) + (A37.I p 4)) → (Q A41))))))) ∧ (((A31.I b34 1) = 0 → ∃ R42 : xA → Prop, w_X36_ends G b34 (3 : Int32) (f_X6_constant (0 : Int32)) (none : Option Nat) R42 A31 ∧ (∀ A42 : xA, xok G A42 → R42 A42 → (J36 A42))) ∧ (¬ (A31.I b34 1) = 0 → J36 A31)))))))))))))) ∧ (¬ v24 ≤ y22_3 → A24.tg b2 = 14 ∧ (∃ b45 : Nat, (A24.P b2 8) = some b45 ∧ (A24.tg b45 = 37 ∧ (∃ R44 : Option Nat → xA → Prop, w_J5_get G b45 y22_3 R44 A24 ∧ (∀ (v44 : Option Nat) (A44 : xA), xok G A44 → R44 v44 A44 → (∃ b47 : Nat, v44 = some b47 ∧ (A44.tg b47 = 23 ∧ (A44.tg p = 6 ∧ (∃ R49 : xA → Prop, w_X6_formal G p (some b2) (some b47) y22_3 R49 E A44 ∧ (∀ A49 : xA, xok G A49 → R49 A49 → ((∃ q22 : Nat, q22 < n22 ∧ L22 q22 (y22_3 + (1 : Int32)) A49))))))))))))))))))))))))))))))))))))))))))))))
theorem m_X6_function (hG : xOK G) (hO : xHO G) {dp : Nat} {p : Nat} {t : Option Nat} {Q : xA → Prop} {E : Nat → xA → Prop} {A : xA} (h : w_X6_function G p t Q E A) : MX G (dp + 1916) kX6_function [.ref p, va_rf t] A (hX (hV Q) E) := by
  unfold w_X6_function at h
  refine MX.of rfl (by cases t <;> exact Nat.le_of_ble_eq_true rfl) ?_
  refine X.lvs (lv' := [some (.ref p), some (va_rf t), none, none]) (by cases t <;> rfl) ?_
  refine X.xok (fun w0 => ?_)
  replace h := h w0
  refine x_aload_n dX6_function_0 rfl ?_
  obtain ⟨o1, h⟩ := h
  refine x_get (v := .int (A.I p 6)) hG dX6_function_1 f_X6_46_5 o1 rfl ?_
  refine x_bipush_ (v := (40 : Int32)) dX6_function_4 (by decide) ?_
  refine x_icmp_ne (tgt := 20) dX6_function_6 (by decide) (fun c6 => ?_) (fun c6 => ?_)
  · replace h := h.2 c6
    refine x_aloadq_n dX6_function_20 rfl ?_
    refine x_aload_n dX6_function_21 rfl ?_
    refine x_get (v := .int (A.I p 6)) hG dX6_function_22 f_X6_46_5 o1 rfl ?_
    obtain ⟨b2, e2, h⟩ := h
    rw [e2]
    obtain ⟨o3, h⟩ := h
    refine z_putI hG hO.1 dX6_function_25 f_X6_175_13 ⟨_, rfl, Or.inl rfl⟩ o3 (by decide) rfl rfl ⟨_, rfl⟩ (fun A4 e4 => ?_)
    replace h := h A4 e4
    refine x_aload_n dX6_function_28 rfl ?_
    refine x_dup dX6_function_29 rfl ?_
    refine x_get (v := .int (A.I p 6)) hG dX6_function_30 f_X6_46_5 (kI e4 o1) (congrArg Value.int (sI_a e4 (tne o1 o3 (by decide)))) ?_
    refine x_iconst_ (v := (1 : Int32)) dX6_function_33 (by decide) ?_
    refine x_iadd dX6_function_34 ?_
    refine z_putI hG hO.1 dX6_function_35 f_X6_46_5 ⟨_, rfl, Or.inl rfl⟩ (kI e4 o1) (by decide) rfl rfl ⟨_, rfl⟩ (fun A5 e5 => ?_)
    replace h := h A5 e5
    refine x_aload_n dX6_function_38 rfl ?_
    refine x_aload_n dX6_function_39 rfl ?_
    refine z_putP hG hO.1 (some b2) dX6_function_40 f_X6_178_5 ⟨_, rfl, Or.inl rfl⟩ (kI e5 (kI e4 o1)) (by decide) (Or.inl ⟨_, rfl⟩) (fun A6 e6 => ?_)
    replace h := h A6 e6
    refine x_aload_n dX6_function_43 rfl ?_
    obtain ⟨o7, h⟩ := h
    refine z_new hG (c := 33) dX6_function_44 rfl q1742 (by decide) rfl o7 (fun A8 e8 w8 => ?_)
    replace h := h A8 e8
    refine x_dup dX6_function_47 rfl ?_
    refine x_aload_n dX6_function_48 rfl ?_
    obtain ⟨R9, g9, h⟩ := h
    refine x_callI hG (Ky := kX35_init) (As := [.ref b2]) dX6_function_49 lk_X6_181 me_X35_init is_X35_init rfl rfl rfl rfl rfl (Nat.le_of_ble_eq_true rfl) (MX.post (m_X35_init hG hO g9) ?_)
    rintro _ A9 ⟨rfl, h1⟩
    refine X.xok (fun w9 => ?_)
    replace h := h A9 w9 h1
    change X _ _ _ _ A9 _ _ [.ref A6.n, .ref p]
    obtain ⟨o10, h⟩ := h
    refine z_putP hG hO.1 (some A6.n) dX6_function_52 f_X6_183_5 ⟨_, rfl, Or.inl rfl⟩ o10 (by decide) (Or.inl ⟨_, rfl⟩) (fun A11 e11 => ?_)
    replace h := h A11 e11
    refine x_aload_n dX6_function_55 rfl ?_
    refine x_aload_n dX6_function_56 rfl ?_
    refine x_get (v := .ref A6.n) hG dX6_function_57 f_X6_183_5 (kP e11 o10) (congrArg va_rf (sP_s e11)) ?_
    obtain ⟨o12, h⟩ := h
    refine z_putP hG hO.1 (some A6.n) dX6_function_60 f_X6_187_13 ⟨_, rfl, Or.inl rfl⟩ o12 (by decide) (Or.inl ⟨_, rfl⟩) (fun A13 e13 => ?_)
    replace h := h A13 e13
    refine x_aload_n dX6_function_63 rfl ?_
    refine x_iconst_ (v := (0 : Int32)) dX6_function_64 (by decide) ?_
    refine z_putI hG hO.1 dX6_function_65 f_X6_188_5 ⟨_, rfl, Or.inl rfl⟩ (kP e13 (kP e11 o10)) (by decide) rfl rfl ⟨_, rfl⟩ (fun A14 e14 => ?_)
    replace h := h A14 e14
    refine x_aload_n dX6_function_68 rfl ?_
    refine x_null dX6_function_69 ?_
    refine z_putP hG hO.1 (none : Option Nat) dX6_function_70 f_X6_191_5 ⟨_, rfl, Or.inl rfl⟩ (kI e14 (kP e13 (kP e11 o10))) (by decide) (Or.inl ⟨_, rfl⟩) (fun A15 e15 => ?_)
    replace h := h A15 e15
    refine x_aload_n dX6_function_73 rfl ?_
    refine x_null dX6_function_74 ?_
    refine z_putP hG hO.1 (none : Option Nat) dX6_function_75 f_X6_195_5 ⟨_, rfl, Or.inl rfl⟩ (kP e15 (kI e14 (kP e13 (kP e11 o10)))) (by decide) (Or.inl ⟨_, rfl⟩) (fun A16 e16 => ?_)
    replace h := h A16 e16
    refine x_aload_n dX6_function_78 rfl ?_
    refine x_aload_n dX6_function_79 rfl ?_
    obtain ⟨R17, g17, h⟩ := h
    refine x_callV hG (Ky := kX6_block) (As := []) dX6_function_80 (kP e16 (kP e15 (kI e14 (kP e13 (kP e11 o10))))) rfl lk_X6_198 me_X6_block is_X6_block se_X6_block rfl rfl (Nat.le_of_ble_eq_true rfl) (MX.post (m_X6_block hG hO g17) ?_)
    rintro _ A17 ⟨v17, rfl, h1⟩
    refine X.xok (fun w17 => ?_)
    replace h := h v17 A17 w17 h1
    change X _ _ _ _ A17 _ _ [va_rf v17, .ref p]
    obtain ⟨o19, h⟩ := h
    obtain ⟨R18, g18, h⟩ := h
    refine x_callV hG (Ky := kX6_at) (As := [va_rf v17]) dX6_function_83 o19 rfl lk_X6_202 me_X6_at is_X6_at se_X6_at rfl rfl (Nat.le_of_ble_eq_true rfl) (MX.post (m_X6_at hG hO g18) ?_)
    rintro _ A18 ⟨rfl, h1⟩
    refine X.xok (fun w18 => ?_)
    replace h := h A18 w18 h1
    change X _ _ _ _ A18 _ _ []
    refine x_aload_n dX6_function_86 rfl ?_
    obtain ⟨o21, h⟩ := h
    obtain ⟨R20, g20, h⟩ := h
    refine x_callV hG (Ky := kX6_open) (As := []) dX6_function_87 o21 rfl lk_X6_117 me_X6_open is_X6_open se_X6_open rfl rfl (Nat.le_of_ble_eq_true rfl) (MX.post (m_X6_open hG hO g20) ?_)
    rintro _ A20 ⟨v20, rfl, h1⟩
    refine X.xok (fun w20 => ?_)
    replace h := h v20 A20 w20 h1
    change X _ _ _ _ A20 _ _ [.int v20]
    refine x_istore_n dX6_function_90 (by decide) ?_
    refine x_iconst_ (v := (0 : Int32)) dX6_function_91 (by decide) ?_
    refine x_istore_n dX6_function_92 (by decide) ?_
    obtain ⟨L22, ⟨n22, i22⟩, g22⟩ := h
    have kl22 : ∀ n22 : Nat, ∀ (y22_3 : Int32) (A22 : xA), L22 n22 y22_3 A22 → X G (dp + 1916) kX6_function (hX (hV Q) E) A22 93 [some (.ref p), some (.ref b2), some (.int v20), some (.int y22_3)] [] := by
      intro n22
      induction n22 using Nat.strongRecOn with
      | ind n22 ih22 =>
        intro y22_3 A22 h
        replace h := g22 n22 y22_3 A22 h
        refine x_iload_n dX6_function_93 rfl ?_
        refine x_aload_n dX6_function_94 rfl ?_
        obtain ⟨o23, h⟩ := h
        refine x_get (v := va_rf (A22.P b2 8)) hG dX6_function_95 f_X6_206_13 o23 rfl ?_
        obtain ⟨b25, e25, h⟩ := h
        rw [e25]
        obtain ⟨o26, h⟩ := h
        obtain ⟨R24, g24, h⟩ := h
        refine x_callV hG (Ky := kJ5_size) (As := []) dX6_function_98 o26 rfl lk_X6_55 me_J5_size is_J5_size se_J5_size rfl rfl (Nat.le_of_ble_eq_true rfl) (MX.post (m_w_J5_size hG hO g24) ?_)
        rintro _ A24 ⟨v24, rfl, h1⟩
        refine X.xok (fun w24 => ?_)
        replace h := h v24 A24 w24 h1
        change X _ _ _ _ A24 _ _ [.int v24, .int y22_3]
        refine x_icmp_ge (tgt := 127) dX6_function_101 (by decide) (fun c101 => ?_) (fun c101 => ?_)
        · replace h := h.1 c101
          refine x_aload_n dX6_function_127 rfl ?_
          obtain ⟨o27, h⟩ := h
          refine x_get (v := va_rf (A24.P b2 9)) hG dX6_function_128 f_X6_215_13 o27 rfl ?_
          refine x_aload_n dX6_function_131 rfl ?_
          obtain ⟨b29, e29, h⟩ := h
          rw [e29]
          obtain ⟨o30, h⟩ := h
          obtain ⟨R28, g28, h⟩ := h
          refine x_callV hG (Ky := kX5_lowerAll) (As := [.ref p]) dX6_function_132 o30 rfl lk_X6_219 me_X5_lowerAll is_X5_lowerAll se_X5_lowerAll rfl rfl (Nat.le_of_ble_eq_true rfl) (MX.post ((rc_D hG hO 200).2.1 g28) ?_)
          rintro _ A28 (⟨rfl, h1⟩ | ⟨x28, rfl, h1⟩)
          rotate_left
          · exact ⟨rfl, Or.inr ⟨_, rfl, h1⟩⟩
          refine X.xok (fun w28 => ?_)
          replace h := h A28 w28 h1
          change X _ _ _ _ A28 _ _ []
          refine x_aload_n dX6_function_135 rfl ?_
          refine x_iload_n dX6_function_136 rfl ?_
          obtain ⟨o32, h⟩ := h
          obtain ⟨R31, g31, h⟩ := h
          refine x_callV hG (Ky := kX6_close) (As := [.int v20]) dX6_function_137 o32 rfl lk_X6_126 me_X6_close is_X6_close se_X6_close rfl rfl (Nat.le_of_ble_eq_true rfl) (MX.post (m_X6_close hG hO g31) ?_)
          rintro _ A31 ⟨rfl, h1⟩
          refine X.xok (fun w31 => ?_)
          replace h := h A31 w31 h1
          change X _ _ _ _ A31 _ _ []
          refine x_aload_n dX6_function_140 rfl ?_
          obtain ⟨o33, h⟩ := h
          refine x_get (v := va_rf (A31.P p 10)) hG dX6_function_141 f_X6_224_5 o33 rfl ?_
          obtain ⟨b34, e34, h⟩ := h
          rw [e34]
          obtain ⟨o35, h⟩ := h
          refine x_get (v := .int (A31.I b34 1)) hG dX6_function_144 f_X6_227_34 o35 rfl ?_
          obtain ⟨J36, g36, h⟩ := h
          have kj36 : ∀ (A36 : xA), J36 A36 → X G (dp + 1916) kX6_function (hX (hV Q) E) A36 163 [some (.ref p), some (.ref b2), none, none] [] := by
            intro A36 h
            replace h := g36 A36 h
            refine x_aload_n dX6_function_163 rfl ?_
            refine x_iconst_ (v := (4 : Int32)) dX6_function_164 (by decide) ?_
            refine x_aload_n dX6_function_165 rfl ?_
            obtain ⟨o38, h⟩ := h
            obtain ⟨R37, g37, h⟩ := h
            refine x_callV hG (Ky := kX14_words) (As := []) dX6_function_166 o38 rfl lk_X6_239 me_X14_words is_X14_words se_X14_words rfl rfl (Nat.le_of_ble_eq_true rfl) (MX.post (m_X14_words hG hO g37) ?_)
            rintro _ A37 ⟨v37, rfl, h1⟩
            refine X.xok (fun w37 => ?_)
            replace h := h v37 A37 w37 h1
            change X _ _ _ _ A37 _ _ [.int v37, .int (4 : Int32), .ref b2]
            refine x_iadd dX6_function_169 ?_
            refine x_aload_n dX6_function_170 rfl ?_
            obtain ⟨o39, h⟩ := h
            refine x_get (v := .int (A37.I p 4)) hG dX6_function_171 f_X6_188_5 o39 rfl ?_
            refine x_iadd dX6_function_174 ?_
            obtain ⟨o40, h⟩ := h
            refine z_putI hG hO.1 dX6_function_175 f_X6_241_13 ⟨_, rfl, Or.inl rfl⟩ o40 (by decide) rfl rfl ⟨_, rfl⟩ (fun A41 e41 => ?_)
            replace h := h A41 e41
            exact x_vret dX6_function_178 rfl (Or.inl ⟨rfl, h⟩)
          refine x_if_ne (tgt := 163) dX6_function_147 (by decide) (fun c147 => ?_) (fun c147 => ?_)
          · replace h := h.2 c147
            change X _ _ _ _ _ _ [some (.ref p), some (.ref b2), some (.int v20), some (.int y22_3)] []
            exact X.weak (xle_c rfl (xle_c rfl (xle_n (xle_n xle_nil)))) (kj36 A31 h)
          · replace h := h.1 c147
            refine x_aload_n dX6_function_150 rfl ?_
            refine x_get (v := .ref b34) hG dX6_function_151 f_X6_224_5 o33 (congrArg va_rf e34) ?_
            refine x_iconst_ (v := (3 : Int32)) dX6_function_154 (by decide) ?_
            refine x_iconst_ (v := (0 : Int32)) dX6_function_155 (by decide) ?_
            refine x_callS hG (Ky := kX6_constant) (As := [.int (0 : Int32)]) dX6_function_156 lk_X6_232 me_X6_constant st_X6_constant rfl rfl (Nat.le_of_ble_eq_true rfl) (MX.post (m_X6_constant hG) ?_)
            rintro _ _ ⟨rfl, rfl⟩
            change X _ _ _ _ _ _ _ (.long (f_X6_constant (0 : Int32)) :: _)
            refine x_null dX6_function_159 ?_
            obtain ⟨R42, g42, h⟩ := h
            refine x_callV hG (Ky := kX36_ends) (As := [.int (3 : Int32), .long (f_X6_constant (0 : Int32)), .null]) dX6_function_160 o35 rfl lk_X6_235 me_X36_ends is_X36_ends se_X36_ends rfl rfl (Nat.le_of_ble_eq_true rfl) (MX.post (m_X36_ends hG hO g42) ?_)
            rintro _ A42 ⟨rfl, h1⟩
            refine X.xok (fun w42 => ?_)
            replace h := h A42 w42 h1
            change X _ _ _ _ A42 _ _ []
            change X _ _ _ _ _ _ [some (.ref p), some (.ref b2), some (.int v20), some (.int y22_3)] []
            exact X.weak (xle_c rfl (xle_c rfl (xle_n (xle_n xle_nil)))) (kj36 A42 h)
        · replace h := h.2 c101
          refine x_aload_n dX6_function_104 rfl ?_
          refine x_aload_n dX6_function_105 rfl ?_
          refine x_aload_n dX6_function_106 rfl ?_
          obtain ⟨o43, h⟩ := h
          refine x_get (v := va_rf (A24.P b2 8)) hG dX6_function_107 f_X6_206_13 o43 rfl ?_
          refine x_iload_n dX6_function_110 rfl ?_
          obtain ⟨b45, e45, h⟩ := h
          rw [e45]
          obtain ⟨o46, h⟩ := h
          obtain ⟨R44, g44, h⟩ := h
          refine x_callV hG (Ky := kJ5_get) (As := [.int y22_3]) dX6_function_111 o46 rfl lk_X6_59 me_J5_get is_J5_get se_J5_get rfl rfl (Nat.le_of_ble_eq_true rfl) (MX.post (m_w_J5_get hG hO g44) ?_)
          rintro _ A44 ⟨v44, rfl, h1⟩
          refine X.xok (fun w44 => ?_)
          replace h := h v44 A44 w44 h1
          change X _ _ _ _ A44 _ _ [va_rf v44, .ref b2, .ref p]
          obtain ⟨b47, e47, h⟩ := h
          rw [e47]
          obtain ⟨o48, h⟩ := h
          refine x_cast hG dX6_function_114 q1863 o48 rfl (Or.inl rfl) ?_
          refine x_iload_n dX6_function_117 rfl ?_
          obtain ⟨o50, h⟩ := h
          obtain ⟨R49, g49, h⟩ := h
          refine x_callV hG (Ky := kX6_formal) (As := [.ref b2, .ref b47, .int y22_3]) dX6_function_118 o50 rfl lk_X6_211 me_X6_formal is_X6_formal se_X6_formal rfl rfl (Nat.le_of_ble_eq_true rfl) (MX.post (m_X6_formal hG hO g49) ?_)
          rintro _ A49 (⟨rfl, h1⟩ | ⟨x49, rfl, h1⟩)
          rotate_left
          · exact ⟨rfl, Or.inr ⟨_, rfl, h1⟩⟩
          refine X.xok (fun w49 => ?_)
          replace h := h A49 w49 h1
          change X _ _ _ _ A49 _ _ []
          refine x_iinc (v := (y22_3 + (1 : Int32))) dX6_function_121 rfl rfl (by decide) ?_
          refine x_goto (tgt := 93) dX6_function_124 (by decide) ?_
          obtain ⟨q22, l22, h⟩ := h
          change X _ _ _ _ _ _ [some (.ref p), some (.ref b2), some (.int v20), some (.int (y22_3 + (1 : Int32)))] []
          exact X.weak (xle_c rfl (xle_c rfl (xle_c rfl (xle_c rfl xle_nil)))) (ih22 q22 l22 (y22_3 + (1 : Int32)) A49 h)
    change X _ _ _ _ _ _ [some (.ref p), some (.ref b2), some (.int v20), some (.int (0 : Int32))] []
    exact X.weak (xle_c rfl (xle_c rfl (xle_c rfl (xle_c rfl xle_nil)))) (kl22 n22 (0 : Int32) A20 i22)
  · replace h := h.1 c6
    refine x_aload_n dX6_function_9 rfl ?_
    refine x_bipush_ (v := (11 : Int32)) dX6_function_10 (by decide) ?_
    refine x_aloadq_n dX6_function_12 rfl ?_
    obtain ⟨b51, e51, h⟩ := h
    rw [e51]
    obtain ⟨o52, h⟩ := h
    refine x_get (v := .int (A.I b51 2)) hG dX6_function_13 f_X6_130_13 o52 rfl ?_
    obtain ⟨R53, g53, h⟩ := h
    refine x_callV hG (Ky := kX6_fault) (As := [.int (11 : Int32), .int (A.I b51 2)]) dX6_function_16 o1 rfl lk_X6_95 me_X6_fault is_X6_fault se_X6_fault rfl rfl (Nat.le_of_ble_eq_true rfl) (MX.post (m_X6_fault hG hO g53) ?_)
    rintro _ A53 ⟨v53, rfl, h1⟩
    refine X.xok (fun w53 => ?_)
    replace h := h v53 A53 w53 h1
    change X _ _ _ _ A53 _ _ [va_rf v53]
    obtain ⟨b54, e54, h⟩ := h
    rw [e54]
    exact x_athrow dX6_function_19 rfl (Or.inr ⟨_, rfl, h⟩)
def w_X6_tell (G : xG) (p : Nat) (t : Option Nat) (Q : xA → Prop) (E : Nat → xA → Prop) (A : xA) : Prop := xok G A → ∃ L1 : Nat → Int32 → xA → Prop, (∃ n1 : Nat, L1 n1 (0 : Int32) A) ∧ (∀ (n1 : Nat) (y1_2 : Int32) (A1 : xA), L1 n1 y1_2 A1 → A1.tg p = 6 ∧ ((((A1.I p 3) ≤ y1_2 → ∃ b3 : Nat, t = some b3 ∧ (A1.tg b3 = 14 ∧ ((((A1.I b3 0) = (6 : Int32) → ∃ R43 : xA → Prop, w_X6_function G p (some b3) R43 E A1 ∧ (∀ A43 : xA, xok G A43 → R43 A43 → (Q A43))) ∧ (¬ (A1.I b3 0) = (6 : Int32) → (((A1.I b3 0) = 0 → rmO G A1 6 ∧ (∀ A36 : xA, A36 = A1.new 33 0 6 0 → (∃ b37 : Nat, (A36.P b3 6) = some b37 ∧ (xE A36 b37 ∧ (∃ R39 : Int32 → xA → Prop, g_C_0 G b37 (some p) R39 E A36 ∧ (∀ (v39 : Int32) (A39 : xA), xok G A39 → R39 v39 A39 → (∃ R40 : xA → Prop, w_X34_init G A1.n (A36.I b3 1) (0 : Int32) v39 R40 A39 ∧ (∀ A40 : xA, xok G A40 → R40 A40 → (A40.tg b3 = 14 ∧ (∀ A42 : xA, A42 = A40.setP b3 10 (some A1.n) → (Q A42))))))))))) ∧ (¬ (A1.I b3 0) = 0 → ∃ J5 : Int32 → xA → Prop, (∀ (y5_s0 : Int32) (A5 : xA), J5 y5_s0 A5 → A5.tg b3 = 14 ∧ (A5.tg p = 6 ∧ (((((A5.I p 5) + (if (A5.I b3 0) = (2 : Int32) then (f_X0_wordsOf (A5.I b3 3) y5_s0) else (1 : Int32))) ≤ (2000 : Int32) → rmO G A5 6 ∧ (∀ A9 : xA, A9 = A5.new 33 0 6 0 → (∃ R10 : xA → Prop, w_X34_init G A5.n (A9.I b3 1) (A9.I b3 0) (A9.I p 5) R10 A9 ∧ (∀ A10 : xA, xok G A10 → R10 A10 → (A10.tg p = 6 ∧ (∀ A12 : xA, A12 = A10.setI p 5 ((A10.I p 5) + (if (A5.I b3 0) = (2 : Int32) then (f_X0_wordsOf (A5.I b3 3) y5_s0) else (1 : Int32))) → (A12.tg b3 = 14 ∧ (A12.tg A5.n = 33 ∧ (((A12.I b3 3) = 0 ∨ (A12.I b3 3) = 1) ∧ (∀ A16 : xA, A16 = A12.setI A5.n 3 (A12.I b3 3) → (∀ A17 : xA, A17 = A16.setI A5.n 4 y5_s0 → ((((A12.I b3 0) = (2 : Int32) → ∃ R29 : xA → Prop, w_X6_list G p (some b3) (some A5.n) R29 E A17 ∧ (∀ A29 : xA, xok G A29 → R29 A29 → (A29.tg b3 = 14 ∧ (∀ A31 : xA, A31 = A29.setP b3 10 (some A5.n) → (Q A31))))) ∧ (¬ (A12.I b3 0) = (2 : Int32) → (((A10.P b3 6) = none → ∀ A19 : xA, A19 = A17.setP b3 10 (some A5.n) → (Q A19)) ∧ (∀ b18 : Nat, (A10.P b3 6) = some b18 → xE A17 b18 ∧ (∃ R21 : Int32 → xA → Prop, g_C_0 G b18 (some p) R21 E A17 ∧ (∀ (v21 : Int32) (A21 : xA), xok G A21 → R21 v21 A21 → (∃ b22 : Nat, (A10.P p 15) = some b22 ∧ (A21.tg b22 = 200 ∧ (G.N ≤ b22 ∧ (vp_in (A12.I A5.n 2) (A21.ln b22) ∧ (∀ A26 : xA, A26 = A21.setI b22 (ix (A12.I A5.n 2)) v21 → (A26.tg b3 = 14 ∧ (∀ A28 : xA, A28 = A26.setP b3 10 (some A5.n) → (Q A28)))))))))))))))))))))))))) ∧ (¬ ((A5.I p 5) + (if (A5.I b3 0) = (2 : Int32) then (f_X0_wordsOf (A5.I b3 3) y5_s0) else (1 : Int32))) ≤ (2000 : Int32) → ∃ R32 : Option Nat → xA → Prop, w_X6_fault G p (11 : Int32) (A5.I b3 2) R32 A5 ∧ (∀ (v32 : Option Nat) (A32 : xA), xok G A32 → R32 v32 A32 → (∃ b33 : Nat, v32 = some b33 ∧ (E b33 A32)))))))) ∧ (((A1.I b3 0) = (2 : Int32) → ∃ R34 : Int32 → xA → Prop, w_X6_size G p (A1.P b3 6) R34 E A1 ∧ (∀ (v34 : Int32) (A34 : xA), xok G A34 → R34 v34 A34 → (J5 v34 A34))) ∧ (¬ (A1.I b3 0) = (2 : Int32) → J5 (1 : Int32) A1))))))))) ∧ (¬ (A1.I p 3) ≤ y1_2 → ∃ b45 : Nat, (A1.P p 7) = some b45 ∧ (A1.tg b45 = 37 ∧ (∃ R44 : Option Nat → xA → Prop, w_J5_get G b45 y1_2 R44 A1 ∧ (∀ (v44 : Option Nat) (A44 : xA), xok G A44 → R44 v44 A44 → (∃ b47 : Nat, v44 = some b47 ∧ (A44.tg b47 = 14 ∧ (∃ b49 : Nat, t = some b49 ∧ (A44.tg b49 = 14 ∧ ((((A44.I b47 1) = (A44.I b49 1) → A44.tg p = 6 ∧ (∃ R51 : Option Nat → xA → Prop, w_X6_fault G p (5 : Int32) (A44.I b49 2) R51 A44 ∧ (∀ (v51 : Option Nat) (A51 : xA), xok G A51 → R51 v51 A51 → (∃ b53 : Nat, v51 = some b53 ∧ (E b53 A51))))) ∧ (¬ (A44.I b47 1) = (A44.I b49 1) → (∃ q1 : Nat, q1 < n1 ∧ L1 q1 (y1_2 + (1 : Int32)) A44)))))))))))))))
theorem m_X6_tell (hG : xOK G) (hO : xHO G) {dp : Nat} {p : Nat} {t : Option Nat} {Q : xA → Prop} {E : Nat → xA → Prop} {A : xA} (h : w_X6_tell G p t Q E A) : MX G (dp + 1917) kX6_tell [.ref p, va_rf t] A (hX (hV Q) E) := by
  unfold w_X6_tell at h
  refine MX.of rfl (by cases t <;> exact Nat.le_of_ble_eq_true rfl) ?_
  refine X.lvs (lv' := [some (.ref p), some (va_rf t), none, none, none]) (by cases t <;> rfl) ?_
  refine X.xok (fun w0 => ?_)
  replace h := h w0
  refine x_iconst_ (v := (0 : Int32)) dX6_tell_0 (by decide) ?_
  refine x_istore_n dX6_tell_1 (by decide) ?_
  refine X.lvs (lv' := [some (.ref p), some (va_rf t), some (.int (0 : Int32)), none, none]) (by generalize t = z; cases z <;> rfl) ?_
  obtain ⟨L1, ⟨n1, i1⟩, g1⟩ := h
  have kl1 : ∀ n1 : Nat, ∀ (y1_2 : Int32) (A1 : xA), L1 n1 y1_2 A1 → X G (dp + 1917) kX6_tell (hX (hV Q) E) A1 2 [some (.ref p), some (va_rf t), some (.int y1_2), none, none] [] := by
    intro n1
    induction n1 using Nat.strongRecOn with
    | ind n1 ih1 =>
      intro y1_2 A1 h
      replace h := g1 n1 y1_2 A1 h
      refine x_iload_n dX6_tell_2 rfl ?_
      refine x_aload_n dX6_tell_3 rfl ?_
      obtain ⟨o2, h⟩ := h
      refine x_get (v := .int (A1.I p 3)) hG dX6_tell_4 f_X6_84_5 o2 rfl ?_
      refine x_icmp_ge (tgt := 47) dX6_tell_7 (by decide) (fun c7 => ?_) (fun c7 => ?_)
      · replace h := h.1 c7
        refine x_aloadq_n dX6_tell_47 rfl ?_
        obtain ⟨b3, e3, h⟩ := h
        rw [e3]
        obtain ⟨o4, h⟩ := h
        refine x_get (v := .int (A1.I b3 0)) hG dX6_tell_48 f_X6_65_13 o4 rfl ?_
        refine x_bipush_ (v := (6 : Int32)) dX6_tell_51 (by decide) ?_
        refine x_icmp_ne (tgt := 62) dX6_tell_53 (by decide) (fun c53 => ?_) (fun c53 => ?_)
        · replace h := h.2 c53
          refine x_aload_n dX6_tell_62 rfl ?_
          refine x_get (v := .int (A1.I b3 0)) hG dX6_tell_63 f_X6_65_13 o4 rfl ?_
          refine x_if_ne (tgt := 94) dX6_tell_66 (by decide) (fun c66 => ?_) (fun c66 => ?_)
          · replace h := h.2 c66
            refine x_aload_n dX6_tell_94 rfl ?_
            refine x_get (v := .int (A1.I b3 0)) hG dX6_tell_95 f_X6_65_13 o4 rfl ?_
            refine x_iconst_ (v := (2 : Int32)) dX6_tell_98 (by decide) ?_
            obtain ⟨J5, g5, h⟩ := h
            have kj5 : ∀ (y5_s0 : Int32) (A5 : xA), J5 y5_s0 A5 → X G (dp + 1917) kX6_tell (hX (hV Q) E) A5 114 [some (.ref p), some (.ref b3), none, none, none] [.int y5_s0] := by
              intro y5_s0 A5 h
              replace h := g5 y5_s0 A5 h
              refine x_istore_n dX6_tell_114 (by decide) ?_
              refine x_aload_n dX6_tell_115 rfl ?_
              obtain ⟨o6, h⟩ := h
              refine x_get (v := .int (A5.I b3 0)) hG dX6_tell_116 f_X6_65_13 o6 rfl ?_
              refine x_iconst_ (v := (2 : Int32)) dX6_tell_119 (by decide) ?_
              refine x_via 135 (A' := A5) (lv' := [some (.ref p), some (.ref b3), some (.int y5_s0), none, none]) (st' := [.int (if (A5.I b3 0) = (2 : Int32) then (f_X0_wordsOf (A5.I b3 3) y5_s0) else (1 : Int32))]) ?_ (fun k135 => ?_)
              rotate_left
              · refine x_icmp_ne (tgt := 134) dX6_tell_120 (by decide) (fun c120 => ?_) (fun c120 => ?_)
                · refine x_iconst_ (v := (1 : Int32)) dX6_tell_134 (by decide) ?_
                  change X _ _ _ _ _ _ [some (.ref p), some (.ref b3), some (.int y5_s0), none, none] [.int (1 : Int32)]
                  simp only [if_neg c120] at k135 ⊢
                  exact X.weak (xle_c rfl (xle_c rfl (xle_c rfl (xle_n (xle_n xle_nil))))) k135
                · refine x_aload_n dX6_tell_123 rfl ?_
                  refine x_get (v := .int (A5.I b3 3)) hG dX6_tell_124 f_X6_147_13 o6 rfl ?_
                  refine x_iload_n dX6_tell_127 rfl ?_
                  refine x_callS hG (Ky := kX0_wordsOf) (As := [.int (A5.I b3 3), .int y5_s0]) dX6_tell_128 lk_X6_150 me_X0_wordsOf st_X0_wordsOf rfl rfl (Nat.le_of_ble_eq_true rfl) (MX.post (m_X0_wordsOf hG pp_X0_wordsOf) ?_)
                  rintro _ _ ⟨rfl, rfl⟩
                  change X _ _ _ _ _ _ _ (.int (f_X0_wordsOf (A5.I b3 3) y5_s0) :: _)
                  refine x_goto (tgt := 135) dX6_tell_131 (by decide) ?_
                  change X _ _ _ _ _ _ [some (.ref p), some (.ref b3), some (.int y5_s0), none, none] [.int (f_X0_wordsOf (A5.I b3 3) y5_s0)]
                  simp only [if_pos c120] at k135 ⊢
                  exact X.weak (xle_c rfl (xle_c rfl (xle_c rfl (xle_n (xle_n xle_nil))))) k135
              refine x_istore_n dX6_tell_135 (by decide) ?_
              refine x_aload_n dX6_tell_136 rfl ?_
              obtain ⟨o7, h⟩ := h
              refine x_get (v := .int (A5.I p 5)) hG dX6_tell_137 f_X6_43_5 o7 rfl ?_
              refine x_iload_n dX6_tell_140 rfl ?_
              refine x_iadd dX6_tell_141 ?_
              refine x_sipush_ (v := (2000 : Int32)) dX6_tell_142 (by decide) ?_
              refine x_icmp_le (tgt := 159) dX6_tell_145 (by decide) (fun c145 => ?_) (fun c145 => ?_)
              · replace h := h.1 c145
                obtain ⟨o8, h⟩ := h
                refine z_new hG (c := 32) dX6_tell_159 rfl q1689 (by decide) rfl o8 (fun A9 e9 w9 => ?_)
                replace h := h A9 e9
                refine x_dup dX6_tell_162 rfl ?_
                refine x_aload_n dX6_tell_163 rfl ?_
                refine x_get (v := .int (A9.I b3 1)) hG dX6_tell_164 f_X6_70_13 (kN e9 w9 o6) rfl ?_
                refine x_aload_n dX6_tell_167 rfl ?_
                refine x_get (v := .int (A9.I b3 0)) hG dX6_tell_168 f_X6_65_13 (kN e9 w9 o6) rfl ?_
                refine x_aload_n dX6_tell_171 rfl ?_
                refine x_get (v := .int (A9.I p 5)) hG dX6_tell_172 f_X6_43_5 (kN e9 w9 o7) rfl ?_
                obtain ⟨R10, g10, h⟩ := h
                refine x_callI hG (Ky := kX34_init) (As := [.int (A9.I b3 1), .int (A9.I b3 0), .int (A9.I p 5)]) dX6_tell_175 lk_X6_73 me_X34_init is_X34_init rfl rfl rfl rfl rfl (Nat.le_of_ble_eq_true rfl) (MX.post (m_X34_init hG hO g10) ?_)
                rintro _ A10 ⟨rfl, h1⟩
                refine X.xok (fun w10 => ?_)
                replace h := h A10 w10 h1
                change X _ _ _ _ A10 _ _ [.ref A5.n]
                refine x_astore dX6_tell_178 (by decide) ?_
                refine x_aload_n dX6_tell_180 rfl ?_
                refine x_dup dX6_tell_181 rfl ?_
                obtain ⟨o11, h⟩ := h
                refine x_get (v := .int (A10.I p 5)) hG dX6_tell_182 f_X6_43_5 o11 rfl ?_
                refine x_iload_n dX6_tell_185 rfl ?_
                refine x_iadd dX6_tell_186 ?_
                refine z_putI hG hO.1 dX6_tell_187 f_X6_43_5 ⟨_, rfl, Or.inl rfl⟩ o11 (by decide) rfl rfl ⟨_, rfl⟩ (fun A12 e12 => ?_)
                replace h := h A12 e12
                refine x_aload dX6_tell_190 rfl ?_
                refine x_aload_n dX6_tell_192 rfl ?_
                obtain ⟨o13, h⟩ := h
                refine x_get (v := .int (A12.I b3 3)) hG dX6_tell_193 f_X6_147_13 o13 rfl ?_
                obtain ⟨o14, h⟩ := h
                obtain ⟨o15, h⟩ := h
                refine z_putI hG hO.1 dX6_tell_196 f_X6_154_32 ⟨_, rfl, Or.inl rfl⟩ o14 (by decide) (narrow01 o15) (fits01 o15) ⟨_, rfl⟩ (fun A16 e16 => ?_)
                replace h := h A16 e16
                refine x_aload dX6_tell_199 rfl ?_
                refine x_iload_n dX6_tell_201 rfl ?_
                refine z_putI hG hO.1 dX6_tell_202 f_X6_155_32 ⟨_, rfl, Or.inl rfl⟩ (kI e16 o14) (by decide) rfl rfl ⟨_, rfl⟩ (fun A17 e17 => ?_)
                replace h := h A17 e17
                refine x_aload_n dX6_tell_205 rfl ?_
                refine x_get (v := .int (A12.I b3 0)) hG dX6_tell_206 f_X6_65_13 (kI e17 (kI e16 o13)) (congrArg Value.int ((sI_a e17 (tne (kI e16 o13) (kI e16 o14) (by decide))).trans (sI_a e16 (tne o13 o14 (by decide))))) ?_
                refine x_iconst_ (v := (2 : Int32)) dX6_tell_209 (by decide) ?_
                refine x_icmp_ne (tgt := 223) dX6_tell_210 (by decide) (fun c210 => ?_) (fun c210 => ?_)
                · replace h := h.2 c210
                  refine x_aload_n dX6_tell_223 rfl ?_
                  refine x_get (v := va_rf (A10.P b3 6)) hG dX6_tell_224 f_X6_134_13 (kI e17 (kI e16 o13)) (congrArg va_rf ((sI_P e17).trans ((sI_P e16).trans (sI_P e12)))) ?_
                  refine x_ifnull (tgt := 248) dX6_tell_227 (by decide) (fun c227 => ?_) (fun b18 c227 => ?_)
                  · replace h := h.1 c227
                    refine x_aload_n dX6_tell_248 rfl ?_
                    refine x_aload dX6_tell_249 rfl ?_
                    refine z_putP hG hO.1 (some A5.n) dX6_tell_251 f_X6_76_13 ⟨_, rfl, Or.inl rfl⟩ (kI e17 (kI e16 o13)) (by decide) (Or.inl ⟨_, rfl⟩) (fun A19 e19 => ?_)
                    replace h := h A19 e19
                    exact x_vret dX6_tell_254 rfl (Or.inl ⟨rfl, h⟩)
                  · replace h := h.2 b18 c227
                    refine x_aload_n dX6_tell_230 rfl ?_
                    refine x_get (v := va_rf (A10.P p 15)) hG dX6_tell_231 f_X6_25_5 (kI e17 (kI e16 (kI e12 o11))) (congrArg va_rf ((sI_P e17).trans ((sI_P e16).trans (sI_P e12)))) ?_
                    refine x_aload dX6_tell_234 rfl ?_
                    refine x_get (v := .int (A12.I A5.n 2)) hG dX6_tell_236 f_X6_161_32 (kI e17 (kI e16 o14)) (congrArg Value.int ((sI_k e17 (by decide)).trans (sI_k e16 (by decide)))) ?_
                    refine x_aload_n dX6_tell_239 rfl ?_
                    refine x_get (v := .ref b18) hG dX6_tell_240 f_X6_134_13 (kI e17 (kI e16 o13)) (congrArg va_rf (((sI_P e17).trans ((sI_P e16).trans (sI_P e12))).trans c227)) ?_
                    refine x_aload_n dX6_tell_243 rfl ?_
                    obtain ⟨o20, h⟩ := h
                    obtain ⟨R21, g21, h⟩ := h
                    refine z_disp (pc' := 244) (lv' := [some (.ref p), some (.ref b3), some (.int y5_s0), some (.int (if (A5.I b3 0) = (2 : Int32) then (f_X0_wordsOf (A5.I b3 3) y5_s0) else (1 : Int32))), some (.ref A5.n)]) (st' := [.int (A12.I A5.n 2), va_rf (A10.P p 15)]) (P := hX (hI R21) E) (kr := ?_) (kc := ?_)
                    rotate_left
                    · obtain ⟨c, tc, hc⟩ := o20
                      simp only [eCl, List.mem_cons, List.not_mem_nil, or_false] at hc
                      intro kr
                      rcases hc with rfl | rfl | rfl | rfl | rfl | rfl | rfl | rfl
                      · exact x_callU hG (Ky := kX16_constant) (As := [.ref p]) dX6_tell_244 tc rfl q2306 q2308 (Or.inl q2307) xm_X15_constant me_X16_constant is_X16_constant q2338 rfl rfl (by simp only [List.append_eq, List.nil_append, List.map_cons, va_rf_cat]; exact Nat.le_of_ble_eq_true rfl) (MX.post ((rc_C hG hO 900).1 tc g21) kr)
                      · exact x_callU hG (Ky := kX17_constant) (As := [.ref p]) dX6_tell_244 tc rfl q2306 q2308 (Or.inl q2307) xm_X15_constant me_X17_constant is_X17_constant q2332 rfl rfl (by simp only [List.append_eq, List.nil_append, List.map_cons, va_rf_cat]; exact Nat.le_of_ble_eq_true rfl) (MX.post ((rc_C hG hO 900).2.1 tc g21) kr)
                      · exact x_callU hG (Ky := kX18_constant) (As := [.ref p]) dX6_tell_244 tc rfl q2306 q2308 (Or.inl q2307) xm_X15_constant me_X18_constant is_X18_constant q2337 rfl rfl (by simp only [List.append_eq, List.nil_append, List.map_cons, va_rf_cat]; exact Nat.le_of_ble_eq_true rfl) (MX.post ((rc_C hG hO 900).2.2.1 tc g21) kr)
                      · exact x_callU hG (Ky := kX19_constant) (As := [.ref p]) dX6_tell_244 tc rfl q2306 q2308 (Or.inl q2307) xm_X15_constant me_X19_constant is_X19_constant q2335 rfl rfl (by simp only [List.append_eq, List.nil_append, List.map_cons, va_rf_cat]; exact Nat.le_of_ble_eq_true rfl) (MX.post ((rc_C hG hO 900).2.2.2.1 tc g21) kr)
                      · exact x_callU hG (Ky := kX20_constant) (As := [.ref p]) dX6_tell_244 tc rfl q2306 q2308 (Or.inl q2307) xm_X15_constant me_X20_constant is_X20_constant q2309 rfl rfl (by simp only [List.append_eq, List.nil_append, List.map_cons, va_rf_cat]; exact Nat.le_of_ble_eq_true rfl) (MX.post ((rc_C hG hO 900).2.2.2.2.1 tc g21) kr)
                      · exact x_callU hG (Ky := kX21_constant) (As := [.ref p]) dX6_tell_244 tc rfl q2306 q2308 (Or.inl q2307) xm_X15_constant me_X21_constant is_X21_constant q2336 rfl rfl (by simp only [List.append_eq, List.nil_append, List.map_cons, va_rf_cat]; exact Nat.le_of_ble_eq_true rfl) (MX.post ((rc_C hG hO 900).2.2.2.2.2.1 tc g21) kr)
                      · exact x_callU hG (Ky := kX22_constant) (As := [.ref p]) dX6_tell_244 tc rfl q2306 q2308 (Or.inl q2307) xm_X15_constant me_X22_constant is_X22_constant q2333 rfl rfl (by simp only [List.append_eq, List.nil_append, List.map_cons, va_rf_cat]; exact Nat.le_of_ble_eq_true rfl) (MX.post ((rc_C hG hO 900).2.2.2.2.2.2.1 tc g21) kr)
                      · exact x_callU hG (Ky := kX23_constant) (As := [.ref p]) dX6_tell_244 tc rfl q2306 q2308 (Or.inl q2307) xm_X15_constant me_X23_constant is_X23_constant q2334 rfl rfl (by simp only [List.append_eq, List.nil_append, List.map_cons, va_rf_cat]; exact Nat.le_of_ble_eq_true rfl) (MX.post ((rc_C hG hO 900).2.2.2.2.2.2.2 tc g21) kr)
                    rintro _ A21 (⟨v21, rfl, h1⟩ | ⟨x21, rfl, h1⟩)
                    rotate_left
                    · exact ⟨rfl, Or.inr ⟨_, rfl, h1⟩⟩
                    refine X.xok (fun w21 => ?_)
                    replace h := h v21 A21 w21 h1
                    change X _ _ _ _ A21 _ _ [.int v21, .int (A12.I A5.n 2), va_rf (A10.P p 15)]
                    obtain ⟨b22, e22, h⟩ := h
                    rw [e22]
                    obtain ⟨o23, h⟩ := h
                    obtain ⟨o24, h⟩ := h
                    obtain ⟨o25, h⟩ := h
                    refine z_iast hG dX6_tell_247 o23 o24 o25 (fun A26 e26 => ?_)
                    replace h := h A26 e26
                    refine x_aload_n dX6_tell_248 rfl ?_
                    refine x_aload dX6_tell_249 rfl ?_
                    obtain ⟨o27, h⟩ := h
                    refine z_putP hG hO.1 (some A5.n) dX6_tell_251 f_X6_76_13 ⟨_, rfl, Or.inl rfl⟩ o27 (by decide) (Or.inl ⟨_, rfl⟩) (fun A28 e28 => ?_)
                    replace h := h A28 e28
                    exact x_vret dX6_tell_254 rfl (Or.inl ⟨rfl, h⟩)
                · replace h := h.1 c210
                  refine x_aload_n dX6_tell_213 rfl ?_
                  refine x_aload_n dX6_tell_214 rfl ?_
                  refine x_aload dX6_tell_215 rfl ?_
                  obtain ⟨R29, g29, h⟩ := h
                  refine x_callV hG (Ky := kX6_list) (As := [.ref b3, .ref A5.n]) dX6_tell_217 (kI e17 (kI e16 (kI e12 o11))) rfl lk_X6_157 me_X6_list is_X6_list se_X6_list rfl rfl (Nat.le_of_ble_eq_true rfl) (MX.post (m_X6_list hG hO g29) ?_)
                  rintro _ A29 (⟨rfl, h1⟩ | ⟨x29, rfl, h1⟩)
                  rotate_left
                  · exact ⟨rfl, Or.inr ⟨_, rfl, h1⟩⟩
                  refine X.xok (fun w29 => ?_)
                  replace h := h A29 w29 h1
                  change X _ _ _ _ A29 _ _ []
                  refine x_goto (tgt := 248) dX6_tell_220 (by decide) ?_
                  refine x_aload_n dX6_tell_248 rfl ?_
                  refine x_aload dX6_tell_249 rfl ?_
                  obtain ⟨o30, h⟩ := h
                  refine z_putP hG hO.1 (some A5.n) dX6_tell_251 f_X6_76_13 ⟨_, rfl, Or.inl rfl⟩ o30 (by decide) (Or.inl ⟨_, rfl⟩) (fun A31 e31 => ?_)
                  replace h := h A31 e31
                  exact x_vret dX6_tell_254 rfl (Or.inl ⟨rfl, h⟩)
              · replace h := h.2 c145
                refine x_aload_n dX6_tell_148 rfl ?_
                refine x_bipush_ (v := (11 : Int32)) dX6_tell_149 (by decide) ?_
                refine x_aload_n dX6_tell_151 rfl ?_
                refine x_get (v := .int (A5.I b3 2)) hG dX6_tell_152 f_X6_130_13 o6 rfl ?_
                obtain ⟨R32, g32, h⟩ := h
                refine x_callV hG (Ky := kX6_fault) (As := [.int (11 : Int32), .int (A5.I b3 2)]) dX6_tell_155 o7 rfl lk_X6_95 me_X6_fault is_X6_fault se_X6_fault rfl rfl (Nat.le_of_ble_eq_true rfl) (MX.post (m_X6_fault hG hO g32) ?_)
                rintro _ A32 ⟨v32, rfl, h1⟩
                refine X.xok (fun w32 => ?_)
                replace h := h v32 A32 w32 h1
                change X _ _ _ _ A32 _ _ [va_rf v32]
                obtain ⟨b33, e33, h⟩ := h
                rw [e33]
                exact x_athrow dX6_tell_158 rfl (Or.inr ⟨_, rfl, h⟩)
            refine x_icmp_ne (tgt := 113) dX6_tell_99 (by decide) (fun c99 => ?_) (fun c99 => ?_)
            · replace h := h.2 c99
              refine x_iconst_ (v := (1 : Int32)) dX6_tell_113 (by decide) ?_
              change X _ _ _ _ _ _ [some (.ref p), some (.ref b3), some (.int y1_2), none, none] [.int (1 : Int32)]
              exact X.weak (xle_c rfl (xle_c rfl (xle_n (xle_n (xle_n xle_nil))))) (kj5 (1 : Int32) A1 h)
            · replace h := h.1 c99
              refine x_aload_n dX6_tell_102 rfl ?_
              refine x_aload_n dX6_tell_103 rfl ?_
              refine x_get (v := va_rf (A1.P b3 6)) hG dX6_tell_104 f_X6_134_13 o4 rfl ?_
              obtain ⟨R34, g34, h⟩ := h
              refine x_callV hG (Ky := kX6_size) (As := [va_rf (A1.P b3 6)]) dX6_tell_107 o2 rfl lk_X6_144 me_X6_size is_X6_size se_X6_size rfl rfl (Nat.le_of_ble_eq_true rfl) (MX.post (m_X6_size hG hO g34) ?_)
              rintro _ A34 (⟨v34, rfl, h1⟩ | ⟨x34, rfl, h1⟩)
              rotate_left
              · exact ⟨rfl, Or.inr ⟨_, rfl, h1⟩⟩
              refine X.xok (fun w34 => ?_)
              replace h := h v34 A34 w34 h1
              change X _ _ _ _ A34 _ _ [.int v34]
              refine x_goto (tgt := 114) dX6_tell_110 (by decide) ?_
              change X _ _ _ _ _ _ [some (.ref p), some (.ref b3), some (.int y1_2), none, none] [.int v34]
              exact X.weak (xle_c rfl (xle_c rfl (xle_n (xle_n (xle_n xle_nil))))) (kj5 v34 A34 h)
          · replace h := h.1 c66
            refine x_aload_n dX6_tell_69 rfl ?_
            obtain ⟨o35, h⟩ := h
            refine z_new hG (c := 32) dX6_tell_70 rfl q1689 (by decide) rfl o35 (fun A36 e36 w36 => ?_)
            replace h := h A36 e36
            refine x_dup dX6_tell_73 rfl ?_
            refine x_aload_n dX6_tell_74 rfl ?_
            refine x_get (v := .int (A36.I b3 1)) hG dX6_tell_75 f_X6_70_13 (kN e36 w36 o4) rfl ?_
            refine x_iconst_ (v := (0 : Int32)) dX6_tell_78 (by decide) ?_
            refine x_aload_n dX6_tell_79 rfl ?_
            refine x_get (v := va_rf (A36.P b3 6)) hG dX6_tell_80 f_X6_134_13 (kN e36 w36 o4) rfl ?_
            refine x_aload_n dX6_tell_83 rfl ?_
            obtain ⟨b37, e37, h⟩ := h
            rw [e37]
            obtain ⟨o38, h⟩ := h
            obtain ⟨R39, g39, h⟩ := h
            refine z_disp (pc' := 84) (lv' := [some (.ref p), some (.ref b3), some (.int y1_2), none, none]) (st' := [.int (0 : Int32), .int (A36.I b3 1), .ref A1.n, .ref A1.n, .ref b3]) (P := hX (hI R39) E) (kr := ?_) (kc := ?_)
            rotate_left
            · obtain ⟨c, tc, hc⟩ := o38
              simp only [eCl, List.mem_cons, List.not_mem_nil, or_false] at hc
              intro kr
              rcases hc with rfl | rfl | rfl | rfl | rfl | rfl | rfl | rfl
              · exact x_callU hG (Ky := kX16_constant) (As := [.ref p]) dX6_tell_84 tc rfl q2306 q2308 (Or.inl q2307) xm_X15_constant me_X16_constant is_X16_constant q2338 rfl rfl (Nat.le_of_ble_eq_true rfl) (MX.post ((rc_C hG hO 900).1 tc g39) kr)
              · exact x_callU hG (Ky := kX17_constant) (As := [.ref p]) dX6_tell_84 tc rfl q2306 q2308 (Or.inl q2307) xm_X15_constant me_X17_constant is_X17_constant q2332 rfl rfl (Nat.le_of_ble_eq_true rfl) (MX.post ((rc_C hG hO 900).2.1 tc g39) kr)
              · exact x_callU hG (Ky := kX18_constant) (As := [.ref p]) dX6_tell_84 tc rfl q2306 q2308 (Or.inl q2307) xm_X15_constant me_X18_constant is_X18_constant q2337 rfl rfl (Nat.le_of_ble_eq_true rfl) (MX.post ((rc_C hG hO 900).2.2.1 tc g39) kr)
              · exact x_callU hG (Ky := kX19_constant) (As := [.ref p]) dX6_tell_84 tc rfl q2306 q2308 (Or.inl q2307) xm_X15_constant me_X19_constant is_X19_constant q2335 rfl rfl (Nat.le_of_ble_eq_true rfl) (MX.post ((rc_C hG hO 900).2.2.2.1 tc g39) kr)
              · exact x_callU hG (Ky := kX20_constant) (As := [.ref p]) dX6_tell_84 tc rfl q2306 q2308 (Or.inl q2307) xm_X15_constant me_X20_constant is_X20_constant q2309 rfl rfl (Nat.le_of_ble_eq_true rfl) (MX.post ((rc_C hG hO 900).2.2.2.2.1 tc g39) kr)
              · exact x_callU hG (Ky := kX21_constant) (As := [.ref p]) dX6_tell_84 tc rfl q2306 q2308 (Or.inl q2307) xm_X15_constant me_X21_constant is_X21_constant q2336 rfl rfl (Nat.le_of_ble_eq_true rfl) (MX.post ((rc_C hG hO 900).2.2.2.2.2.1 tc g39) kr)
              · exact x_callU hG (Ky := kX22_constant) (As := [.ref p]) dX6_tell_84 tc rfl q2306 q2308 (Or.inl q2307) xm_X15_constant me_X22_constant is_X22_constant q2333 rfl rfl (Nat.le_of_ble_eq_true rfl) (MX.post ((rc_C hG hO 900).2.2.2.2.2.2.1 tc g39) kr)
              · exact x_callU hG (Ky := kX23_constant) (As := [.ref p]) dX6_tell_84 tc rfl q2306 q2308 (Or.inl q2307) xm_X15_constant me_X23_constant is_X23_constant q2334 rfl rfl (Nat.le_of_ble_eq_true rfl) (MX.post ((rc_C hG hO 900).2.2.2.2.2.2.2 tc g39) kr)
            rintro _ A39 (⟨v39, rfl, h1⟩ | ⟨x39, rfl, h1⟩)
            rotate_left
            · exact ⟨rfl, Or.inr ⟨_, rfl, h1⟩⟩
            refine X.xok (fun w39 => ?_)
            replace h := h v39 A39 w39 h1
            change X _ _ _ _ A39 _ _ [.int v39, .int (0 : Int32), .int (A36.I b3 1), .ref A1.n, .ref A1.n, .ref b3]
            obtain ⟨R40, g40, h⟩ := h
            refine x_callI hG (Ky := kX34_init) (As := [.int (A36.I b3 1), .int (0 : Int32), .int v39]) dX6_tell_87 lk_X6_73 me_X34_init is_X34_init rfl rfl rfl rfl rfl (Nat.le_of_ble_eq_true rfl) (MX.post (m_X34_init hG hO g40) ?_)
            rintro _ A40 ⟨rfl, h1⟩
            refine X.xok (fun w40 => ?_)
            replace h := h A40 w40 h1
            change X _ _ _ _ A40 _ _ [.ref A1.n, .ref b3]
            obtain ⟨o41, h⟩ := h
            refine z_putP hG hO.1 (some A1.n) dX6_tell_90 f_X6_76_13 ⟨_, rfl, Or.inl rfl⟩ o41 (by decide) (Or.inl ⟨_, rfl⟩) (fun A42 e42 => ?_)
            replace h := h A42 e42
            exact x_vret dX6_tell_93 rfl (Or.inl ⟨rfl, h⟩)
        · replace h := h.1 c53
          refine x_aload_n dX6_tell_56 rfl ?_
          refine x_aload_n dX6_tell_57 rfl ?_
          obtain ⟨R43, g43, h⟩ := h
          refine x_callV hG (Ky := kX6_function) (As := [.ref b3]) dX6_tell_58 o2 rfl lk_X6_131 me_X6_function is_X6_function se_X6_function rfl rfl (Nat.le_of_ble_eq_true rfl) (MX.post (m_X6_function hG hO g43) ?_)
          rintro _ A43 (⟨rfl, h1⟩ | ⟨x43, rfl, h1⟩)
          rotate_left
          · exact ⟨rfl, Or.inr ⟨_, rfl, h1⟩⟩
          refine X.xok (fun w43 => ?_)
          replace h := h A43 w43 h1
          change X _ _ _ _ A43 _ _ []
          exact x_vret dX6_tell_61 rfl (Or.inl ⟨rfl, h⟩)
      · replace h := h.2 c7
        refine x_aload_n dX6_tell_10 rfl ?_
        refine x_get (v := va_rf (A1.P p 7)) hG dX6_tell_11 f_X6_40_5 o2 rfl ?_
        refine x_iload_n dX6_tell_14 rfl ?_
        obtain ⟨b45, e45, h⟩ := h
        rw [e45]
        obtain ⟨o46, h⟩ := h
        obtain ⟨R44, g44, h⟩ := h
        refine x_callV hG (Ky := kJ5_get) (As := [.int y1_2]) dX6_tell_15 o46 rfl lk_X6_59 me_J5_get is_J5_get se_J5_get rfl rfl (Nat.le_of_ble_eq_true rfl) (MX.post (m_w_J5_get hG hO g44) ?_)
        rintro _ A44 ⟨v44, rfl, h1⟩
        refine X.xok (fun w44 => ?_)
        replace h := h v44 A44 w44 h1
        change X _ _ _ _ A44 _ _ [va_rf v44]
        obtain ⟨b47, e47, h⟩ := h
        rw [e47]
        obtain ⟨o48, h⟩ := h
        refine x_cast hG dX6_tell_18 q1688 o48 rfl (Or.inl rfl) ?_
        refine x_get (v := .int (A44.I b47 1)) hG dX6_tell_21 f_X6_70_13 o48 rfl ?_
        refine x_aloadq_n dX6_tell_24 rfl ?_
        obtain ⟨b49, e49, h⟩ := h
        rw [e49]
        obtain ⟨o50, h⟩ := h
        refine x_get (v := .int (A44.I b49 1)) hG dX6_tell_25 f_X6_70_13 o50 rfl ?_
        refine x_icmp_ne (tgt := 41) dX6_tell_28 (by decide) (fun c28 => ?_) (fun c28 => ?_)
        · replace h := h.2 c28
          refine x_iinc (v := (y1_2 + (1 : Int32))) dX6_tell_41 rfl rfl (by decide) ?_
          refine x_goto (tgt := 2) dX6_tell_44 (by decide) ?_
          obtain ⟨q1, l1, h⟩ := h
          change X _ _ _ _ _ _ [some (.ref p), some (.ref b49), some (.int (y1_2 + (1 : Int32))), none, none] []
          exact X.weak (xle_c rfl (xle_c (congrArg (fun z => some (va_rf z)) e49.symm) (xle_c rfl (xle_n (xle_n xle_nil))))) (ih1 q1 l1 (y1_2 + (1 : Int32)) A44 h)
        · replace h := h.1 c28
          refine x_aload_n dX6_tell_31 rfl ?_
          refine x_iconst_ (v := (5 : Int32)) dX6_tell_32 (by decide) ?_
          refine x_aload_n dX6_tell_33 rfl ?_
          refine x_get (v := .int (A44.I b49 2)) hG dX6_tell_34 f_X6_130_13 o50 rfl ?_
          obtain ⟨o52, h⟩ := h
          obtain ⟨R51, g51, h⟩ := h
          refine x_callV hG (Ky := kX6_fault) (As := [.int (5 : Int32), .int (A44.I b49 2)]) dX6_tell_37 o52 rfl lk_X6_95 me_X6_fault is_X6_fault se_X6_fault rfl rfl (Nat.le_of_ble_eq_true rfl) (MX.post (m_X6_fault hG hO g51) ?_)
          rintro _ A51 ⟨v51, rfl, h1⟩
          refine X.xok (fun w51 => ?_)
          replace h := h v51 A51 w51 h1
          change X _ _ _ _ A51 _ _ [va_rf v51]
          obtain ⟨b53, e53, h⟩ := h
          rw [e53]
          exact x_athrow dX6_tell_40 rfl (Or.inr ⟨_, rfl, h⟩)
  change X _ _ _ _ _ _ [some (.ref p), some (va_rf t), some (.int (0 : Int32)), none, none] []
  exact X.weak (xle_c rfl (xle_c rfl (xle_c rfl (xle_n (xle_n xle_nil))))) (kl1 n1 (0 : Int32) A i1)
end W100
