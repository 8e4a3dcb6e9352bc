/-! ===== 033.mrun (tools/w030.py) ===== -/
set_option maxRecDepth 100000
section W033
variable {G : xG}
def w_X13_declare (m : Nat) (n : Int32) (k : Int32) (b : Int32) (c : Int32) (s : Int32) (l : Int32) (Q : xII → Prop) (I : xII) : Prop := (((I m 46) = 0 → Q I) ∧ (¬ (I m 46) = 0 → vp_in n 4002 ∧ (vp_in (I m 14) 900 ∧ (∀ I3 : xII, I3 = xup I (m + 10) (ix (I m 14)) (I (m + 4) (ix n)) → (∀ I4 : xII, I4 = xup I3 (m + 11) (ix (I m 14)) k → (∀ I5 : xII, I5 = xup I4 (m + 12) (ix (I m 14)) (I (m + 5) (ix n)) → (∀ I6 : xII, I6 = xup I5 (m + 13) (ix (I m 14)) (I m 15) → ((b = 0 ∨ b = 1) ∧ (∀ I8 : xII, I8 = xup I6 (m + 16) (ix (I m 14)) b → (∀ I9 : xII, I9 = xup I8 (m + 14) (ix (I m 14)) c → (∀ I10 : xII, I10 = xup I9 (m + 15) (ix (I m 14)) s → ((l = 0 ∨ l = 1) ∧ (∀ I12 : xII, I12 = xup I10 (m + 17) (ix (I m 14)) l → (∀ I13 : xII, I13 = xup I12 m 14 ((I m 14) + (1 : Int32)) → (Q I13)))))))))))))))
theorem m_X13_declare (hG : xOK G) {dp : Nat} {A : xA} {m : Nat} (hM : xMo G A m) {n : Int32} {k : Int32} {b : Int32} {c : Int32} {s : Int32} {l : Int32} {Q : xII → Prop} {I : xII} (h : w_X13_declare m n k b c s l Q I) : MX G (dp + 0) kX13_declare [.ref m, .int n, .int k, .int b, .int c, .int s, .int l] (A.wI I) (oV A Q) := by
  unfold w_X13_declare at h
  refine MX.of rfl (Nat.le_of_ble_eq_true rfl) ?_
  change X _ _ _ _ _ _ [some (.ref m), some (.int n), some (.int k), some (.int b), some (.int c), some (.int s), some (.int l)] _
  refine x_aload_n dX13_declare_0 rfl ?_
  refine x_get (v := .int (I m 46)) hG dX13_declare_1 f_X13_245_12 (mo_t hM) rfl ?_
  refine x_if_ne (tgt := 8) dX13_declare_4 (by decide) (fun c4 => ?_) (fun c4 => ?_)
  · replace h := h.2 c4
    refine x_aload_n dX13_declare_8 rfl ?_
    refine x_get (v := .ref (m + 10)) hG dX13_declare_9 f_X13_37_12 (mo_t hM) (congrArg va_rf (mo_P16 hM)) ?_
    refine x_aload_n dX13_declare_12 rfl ?_
    refine x_get (v := .int (I m 14)) hG dX13_declare_13 f_X13_279_12 (mo_t hM) rfl ?_
    refine x_aload_n dX13_declare_16 rfl ?_
    refine x_get (v := .ref (m + 4)) hG dX13_declare_17 f_X13_19_12 (mo_t hM) (congrArg va_rf (mo_P5 hM)) ?_
    refine x_iload_n dX13_declare_20 rfl ?_
    obtain ⟨o1, h⟩ := h
    refine y_iald hG dX13_declare_21 (mo_t5 hM) (mo_n5 hM) o1 ?_
    obtain ⟨o2, h⟩ := h
    refine y_iast hG dX13_declare_22 (mo_t16 hM) (mo_aN hM) (mo_n16 hM) o2 (fun I3 e3 => ?_)
    replace h := h I3 e3
    refine x_aload_n dX13_declare_23 rfl ?_
    refine x_get (v := .ref (m + 11)) hG dX13_declare_24 f_X13_40_12 (mo_t hM) (congrArg va_rf (mo_P17 hM)) ?_
    refine x_aload_n dX13_declare_27 rfl ?_
    refine x_get (v := .int (I3 m 14)) hG dX13_declare_28 f_X13_279_12 (mo_t hM) rfl ?_
    refine x_eqi (v := (I m 14)) (xup_ra e3 (by omega)) ?_
    refine x_iload_n dX13_declare_31 rfl ?_
    refine y_iast hG dX13_declare_32 (mo_t17 hM) (mo_aN hM) (mo_n17 hM) o2 (fun I4 e4 => ?_)
    replace h := h I4 e4
    refine x_aload_n dX13_declare_33 rfl ?_
    refine x_get (v := .ref (m + 12)) hG dX13_declare_34 f_X13_43_12 (mo_t hM) (congrArg va_rf (mo_P18 hM)) ?_
    refine x_aload_n dX13_declare_37 rfl ?_
    refine x_get (v := .int (I4 m 14)) hG dX13_declare_38 f_X13_279_12 (mo_t hM) rfl ?_
    refine x_eqi (v := (I m 14)) ((xup_ra e4 (by omega)).trans (xup_ra e3 (by omega))) ?_
    refine x_aload_n dX13_declare_41 rfl ?_
    refine x_get (v := .ref (m + 5)) hG dX13_declare_42 f_X13_22_12 (mo_t hM) (congrArg va_rf (mo_P6 hM)) ?_
    refine x_iload_n dX13_declare_45 rfl ?_
    refine y_iald hG dX13_declare_46 (mo_t6 hM) (mo_n6 hM) o1 ?_
    refine x_eqi (v := (I (m + 5) (ix n))) ((xup_ra e4 (by omega)).trans (xup_ra e3 (by omega))) ?_
    refine y_iast hG dX13_declare_47 (mo_t18 hM) (mo_aN hM) (mo_n18 hM) o2 (fun I5 e5 => ?_)
    replace h := h I5 e5
    refine x_aload_n dX13_declare_48 rfl ?_
    refine x_get (v := .ref (m + 13)) hG dX13_declare_49 f_X13_46_12 (mo_t hM) (congrArg va_rf (mo_P19 hM)) ?_
    refine x_aload_n dX13_declare_52 rfl ?_
    refine x_get (v := .int (I5 m 14)) hG dX13_declare_53 f_X13_279_12 (mo_t hM) rfl ?_
    refine x_eqi (v := (I m 14)) ((xup_ra e5 (by omega)).trans ((xup_ra e4 (by omega)).trans (xup_ra e3 (by omega)))) ?_
    refine x_aload_n dX13_declare_56 rfl ?_
    refine x_get (v := .int (I5 m 15)) hG dX13_declare_57 f_X13_282_12 (mo_t hM) rfl ?_
    refine x_eqi (v := (I m 15)) ((xup_ra e5 (by omega)).trans ((xup_ra e4 (by omega)).trans (xup_ra e3 (by omega)))) ?_
    refine y_iast hG dX13_declare_60 (mo_t19 hM) (mo_aN hM) (mo_n19 hM) o2 (fun I6 e6 => ?_)
    replace h := h I6 e6
    refine x_aload_n dX13_declare_61 rfl ?_
    refine x_get (v := .ref (m + 16)) hG dX13_declare_62 f_X13_55_12 (mo_t hM) (congrArg va_rf (mo_P22 hM)) ?_
    refine x_aload_n dX13_declare_65 rfl ?_
    refine x_get (v := .int (I6 m 14)) hG dX13_declare_66 f_X13_279_12 (mo_t hM) rfl ?_
    refine x_eqi (v := (I m 14)) ((xup_ra e6 (by omega)).trans ((xup_ra e5 (by omega)).trans ((xup_ra e4 (by omega)).trans (xup_ra e3 (by omega))))) ?_
    refine x_iload_n dX13_declare_69 rfl ?_
    obtain ⟨o7, h⟩ := h
    refine y_zast hG dX13_declare_70 (mo_t22 hM) (mo_aN hM) (mo_n22 hM) o2 o7 (fun I8 e8 => ?_)
    replace h := h I8 e8
    refine x_aload_n dX13_declare_71 rfl ?_
    refine x_get (v := .ref (m + 14)) hG dX13_declare_72 f_X13_49_12 (mo_t hM) (congrArg va_rf (mo_P20 hM)) ?_
    refine x_aload_n dX13_declare_75 rfl ?_
    refine x_get (v := .int (I8 m 14)) hG dX13_declare_76 f_X13_279_12 (mo_t hM) rfl ?_
    refine x_eqi (v := (I m 14)) ((xup_ra e8 (by omega)).trans ((xup_ra e6 (by omega)).trans ((xup_ra e5 (by omega)).trans ((xup_ra e4 (by omega)).trans (xup_ra e3 (by omega)))))) ?_
    refine x_iload dX13_declare_79 rfl ?_
    refine y_iast hG dX13_declare_81 (mo_t20 hM) (mo_aN hM) (mo_n20 hM) o2 (fun I9 e9 => ?_)
    replace h := h I9 e9
    refine x_aload_n dX13_declare_82 rfl ?_
    refine x_get (v := .ref (m + 15)) hG dX13_declare_83 f_X13_52_12 (mo_t hM) (congrArg va_rf (mo_P21 hM)) ?_
    refine x_aload_n dX13_declare_86 rfl ?_
    refine x_get (v := .int (I9 m 14)) hG dX13_declare_87 f_X13_279_12 (mo_t hM) rfl ?_
    refine x_eqi (v := (I m 14)) ((xup_ra e9 (by omega)).trans ((xup_ra e8 (by omega)).trans ((xup_ra e6 (by omega)).trans ((xup_ra e5 (by omega)).trans ((xup_ra e4 (by omega)).trans (xup_ra e3 (by omega))))))) ?_
    refine x_iload dX13_declare_90 rfl ?_
    refine y_iast hG dX13_declare_92 (mo_t21 hM) (mo_aN hM) (mo_n21 hM) o2 (fun I10 e10 => ?_)
    replace h := h I10 e10
    refine x_aload_n dX13_declare_93 rfl ?_
    refine x_get (v := .ref (m + 17)) hG dX13_declare_94 f_X13_59_12 (mo_t hM) (congrArg va_rf (mo_P23 hM)) ?_
    refine x_aload_n dX13_declare_97 rfl ?_
    refine x_get (v := .int (I10 m 14)) hG dX13_declare_98 f_X13_279_12 (mo_t hM) rfl ?_
    refine x_eqi (v := (I m 14)) ((xup_ra e10 (by omega)).trans ((xup_ra e9 (by omega)).trans ((xup_ra e8 (by omega)).trans ((xup_ra e6 (by omega)).trans ((xup_ra e5 (by omega)).trans ((xup_ra e4 (by omega)).trans (xup_ra e3 (by omega)))))))) ?_
    refine x_iload dX13_declare_101 rfl ?_
    obtain ⟨o11, h⟩ := h
    refine y_zast hG dX13_declare_103 (mo_t23 hM) (mo_aN hM) (mo_n23 hM) o2 o11 (fun I12 e12 => ?_)
    replace h := h I12 e12
    refine x_aload_n dX13_declare_104 rfl ?_
    refine x_dup dX13_declare_105 rfl ?_
    refine x_get (v := .int (I12 m 14)) hG dX13_declare_106 f_X13_279_12 (mo_t hM) rfl ?_
    refine x_eqi (v := (I m 14)) ((xup_ra e12 (by omega)).trans ((xup_ra e10 (by omega)).trans ((xup_ra e9 (by omega)).trans ((xup_ra e8 (by omega)).trans ((xup_ra e6 (by omega)).trans ((xup_ra e5 (by omega)).trans ((xup_ra e4 (by omega)).trans (xup_ra e3 (by omega))))))))) ?_
    refine x_iconst_ (v := (1 : Int32)) dX13_declare_109 (by decide) ?_
    refine x_iadd dX13_declare_110 ?_
    refine y_put hG hM dX13_declare_111 f_X13_279_12 ⟨_, rfl, Or.inl rfl⟩ rfl rfl ⟨_, rfl⟩ (fun I13 e13 => ?_)
    replace h := h I13 e13
    exact x_vret dX13_declare_114 rfl ⟨_, rfl, rfl, h⟩
  · replace h := h.1 c4
    exact x_vret dX13_declare_7 rfl ⟨_, rfl, rfl, h⟩
def w_X13_twice (m : Nat) (n : Int32) (Q : xII → Prop) (I : xII) : Prop := (((I m 46) = 0 → Q I) ∧ (¬ (I m 46) = 0 → ∃ L1 : Nat → Int32 → Int32 → Prop, (∃ n1 : Nat, L1 n1 (0 : Int32) (0 : Int32)) ∧ (∀ (n1 : Nat) (y1_2 : Int32) (y1_3 : Int32), L1 n1 y1_2 y1_3 → (((I m 14) ≤ y1_3 → ∃ L2 : Nat → Int32 → Int32 → Prop, (∃ n2 : Nat, L2 n2 y1_2 (0 : Int32)) ∧ (∀ (n2 : Nat) (y2_2 : Int32) (y2_3 : Int32), L2 n2 y2_2 y2_3 → ∃ J3 : Prop, (J3 → ((y2_2 = 0 → Q I) ∧ (¬ y2_2 = 0 → vp_in n 4002 ∧ (∃ R5 : xII → Prop, w_X13_note m (5 : Int32) (I (m + 5) (ix n)) R5 I ∧ (∀ I5 : xII, R5 I5 → (Q I5)))))) ∧ (((I m 24) ≤ y2_3 → J3) ∧ (¬ (I m 24) ≤ y2_3 → (((I m 15) = 0 → ∃ J6 : Int32 → Prop, (∀ (y6_s0 : Int32), J6 y6_s0 → (∃ q2 : Nat, q2 < n2 ∧ L2 q2 y6_s0 (y2_3 + (1 : Int32)))) ∧ ((y2_2 = 0 → vp_in y2_3 500 ∧ (vp_in n 4002 ∧ ((((I (m + 18) (ix y2_3)) = (I (m + 4) (ix n)) → (((I (m + 5) (ix n)) ≤ (I (m + 19) (ix y2_3)) → J6 (0 : Int32)) ∧ (¬ (I (m + 5) (ix n)) ≤ (I (m + 19) (ix y2_3)) → J6 (1 : Int32)))) ∧ (¬ (I (m + 18) (ix y2_3)) = (I (m + 4) (ix n)) → J6 (0 : Int32)))))) ∧ (¬ y2_2 = 0 → J6 (1 : Int32)))) ∧ (¬ (I m 15) = 0 → J3)))))) ∧ (¬ (I m 14) ≤ y1_3 → ∃ J9 : Int32 → Prop, (∀ (y9_s0 : Int32), J9 y9_s0 → (∃ q1 : Nat, q1 < n1 ∧ L1 q1 y9_s0 (y1_3 + (1 : Int32)))) ∧ ((y1_2 = 0 → vp_in y1_3 900 ∧ ((((I (m + 13) (ix y1_3)) = (I m 15) → vp_in n 4002 ∧ ((((I (m + 10) (ix y1_3)) = (I (m + 4) (ix n)) → J9 (1 : Int32)) ∧ (¬ (I (m + 10) (ix y1_3)) = (I (m + 4) (ix n)) → J9 (0 : Int32))))) ∧ (¬ (I (m + 13) (ix y1_3)) = (I m 15) → J9 (0 : Int32))))) ∧ (¬ y1_2 = 0 → J9 (1 : Int32))))))))
theorem m_X13_twice (hG : xOK G) {dp : Nat} {A : xA} {m : Nat} (hM : xMo G A m) {n : Int32} {Q : xII → Prop} {I : xII} (h : w_X13_twice m n Q I) : MX G (dp + 2) kX13_twice [.ref m, .int n] (A.wI I) (oV A Q) := by
  unfold w_X13_twice at h
  refine MX.of rfl (Nat.le_of_ble_eq_true rfl) ?_
  change X _ _ _ _ _ _ [some (.ref m), some (.int n), none, none] _
  refine x_aload_n dX13_twice_0 rfl ?_
  refine x_get (v := .int (I m 46)) hG dX13_twice_1 f_X13_245_12 (mo_t hM) rfl ?_
  refine x_if_ne (tgt := 8) dX13_twice_4 (by decide) (fun c4 => ?_) (fun c4 => ?_)
  · replace h := h.2 c4
    refine x_iconst_ (v := (0 : Int32)) dX13_twice_8 (by decide) ?_
    refine x_istore_n dX13_twice_9 (by decide) ?_
    refine x_iconst_ (v := (0 : Int32)) dX13_twice_10 (by decide) ?_
    refine x_istore_n dX13_twice_11 (by decide) ?_
    obtain ⟨L1, ⟨n1, i1⟩, g1⟩ := h
    have kl1 : ∀ n1 : Nat, ∀ (y1_2 : Int32) (y1_3 : Int32), L1 n1 y1_2 y1_3 → X G (dp + 2) kX13_twice (oV A Q) (A.wI I) 12 [some (.ref m), some (.int n), some (.int y1_2), some (.int y1_3)] [] := by
      intro n1
      induction n1 using Nat.strongRecOn with
      | ind n1 ih1 =>
        intro y1_2 y1_3 h
        replace h := g1 n1 y1_2 y1_3 h
        refine x_iload_n dX13_twice_12 rfl ?_
        refine x_aload_n dX13_twice_13 rfl ?_
        refine x_get (v := .int (I m 14)) hG dX13_twice_14 f_X13_279_12 (mo_t hM) rfl ?_
        refine x_icmp_ge (tgt := 64) dX13_twice_17 (by decide) (fun c17 => ?_) (fun c17 => ?_)
        · replace h := h.1 c17
          refine x_iconst_ (v := (0 : Int32)) dX13_twice_64 (by decide) ?_
          refine x_istore_n dX13_twice_65 (by decide) ?_
          obtain ⟨L2, ⟨n2, i2⟩, g2⟩ := h
          have kl2 : ∀ n2 : Nat, ∀ (y2_2 : Int32) (y2_3 : Int32), L2 n2 y2_2 y2_3 → X G (dp + 2) kX13_twice (oV A Q) (A.wI I) 66 [some (.ref m), some (.int n), some (.int y2_2), some (.int y2_3)] [] := by
            intro n2
            induction n2 using Nat.strongRecOn with
            | ind n2 ih2 =>
              intro y2_2 y2_3 h
              replace h := g2 n2 y2_2 y2_3 h
              refine x_iload_n dX13_twice_66 rfl ?_
              refine x_aload_n dX13_twice_67 rfl ?_
              refine x_get (v := .int (I m 24)) hG dX13_twice_68 f_X13_297_12 (mo_t hM) rfl ?_
              obtain ⟨J3, g3, h⟩ := h
              have kj3 : J3 → X G (dp + 2) kX13_twice (oV A Q) (A.wI I) 127 [some (.ref m), some (.int n), some (.int y2_2), none] [] := by
                intro h
                replace h := g3 h
                refine x_iload_n dX13_twice_127 rfl ?_
                refine x_if_eq (tgt := 142) dX13_twice_128 (by decide) (fun c128 => ?_) (fun c128 => ?_)
                · replace h := h.1 c128
                  exact x_vret dX13_twice_142 rfl ⟨_, rfl, rfl, h⟩
                · replace h := h.2 c128
                  refine x_aload_n dX13_twice_131 rfl ?_
                  refine x_iconst_ (v := (5 : Int32)) dX13_twice_132 (by decide) ?_
                  refine x_aload_n dX13_twice_133 rfl ?_
                  refine x_get (v := .ref (m + 5)) hG dX13_twice_134 f_X13_22_12 (mo_t hM) (congrArg va_rf (mo_P6 hM)) ?_
                  refine x_iload_n dX13_twice_137 rfl ?_
                  obtain ⟨o4, h⟩ := h
                  refine y_iald hG dX13_twice_138 (mo_t6 hM) (mo_n6 hM) o4 ?_
                  obtain ⟨R5, g5, h⟩ := h
                  refine x_callV hG (Ky := kX13_note) (As := [.int (5 : Int32), .int (I (m + 5) (ix n))]) dX13_twice_139 (mo_t hM) rfl lk_X13_352 me_X13_note is_X13_note se_X13_note rfl rfl (Nat.le_of_ble_eq_true rfl) (MX.post (m_X13_note hG hM g5) ?_)
                  rintro _ _ ⟨I5, rfl, rfl, h1⟩
                  replace h := h I5 h1
                  change X _ _ _ _ (A.wI I5) _ _ _
                  exact x_vret dX13_twice_142 rfl ⟨_, rfl, rfl, h⟩
              refine x_icmp_ge (tgt := 127) dX13_twice_71 (by decide) (fun c71 => ?_) (fun c71 => ?_)
              · replace h := h.1 c71
                change X _ _ _ _ _ _ [some (.ref m), some (.int n), some (.int y2_2), some (.int y2_3)] []
                exact X.weak (xle_c rfl (xle_c rfl (xle_c rfl (xle_n xle_nil)))) (kj3 h)
              · replace h := h.2 c71
                refine x_aload_n dX13_twice_74 rfl ?_
                refine x_get (v := .int (I m 15)) hG dX13_twice_75 f_X13_282_12 (mo_t hM) rfl ?_
                refine x_if_ne (tgt := 127) dX13_twice_78 (by decide) (fun c78 => ?_) (fun c78 => ?_)
                · replace h := h.2 c78
                  change X _ _ _ _ _ _ [some (.ref m), some (.int n), some (.int y2_2), some (.int y2_3)] []
                  exact X.weak (xle_c rfl (xle_c rfl (xle_c rfl (xle_n xle_nil)))) (kj3 h)
                · replace h := h.1 c78
                  refine x_iload_n dX13_twice_81 rfl ?_
                  obtain ⟨J6, g6, h⟩ := h
                  have kj6 : ∀ (y6_s0 : Int32), J6 y6_s0 → X G (dp + 2) kX13_twice (oV A Q) (A.wI I) 120 [some (.ref m), some (.int n), none, some (.int y2_3)] [.int y6_s0] := by
                    intro y6_s0 h
                    replace h := g6 y6_s0 h
                    refine x_istore_n dX13_twice_120 (by decide) ?_
                    refine x_iinc (v := (y2_3 + (1 : Int32))) dX13_twice_121 rfl rfl (by decide) ?_
                    refine x_goto (tgt := 66) dX13_twice_124 (by decide) ?_
                    obtain ⟨q2, l2, h⟩ := h
                    change X _ _ _ _ _ _ [some (.ref m), some (.int n), some (.int y6_s0), some (.int (y2_3 + (1 : Int32)))] []
                    exact X.weak (xle_c rfl (xle_c rfl (xle_c rfl (xle_c rfl xle_nil)))) (ih2 q2 l2 y6_s0 (y2_3 + (1 : Int32)) h)
                  refine x_if_ne (tgt := 115) dX13_twice_82 (by decide) (fun c82 => ?_) (fun c82 => ?_)
                  · replace h := h.2 c82
                    refine x_iconst_ (v := (1 : Int32)) dX13_twice_115 (by decide) ?_
                    refine x_goto (tgt := 120) dX13_twice_116 (by decide) ?_
                    change X _ _ _ _ _ _ [some (.ref m), some (.int n), some (.int y2_2), some (.int y2_3)] [.int (1 : Int32)]
                    exact X.weak (xle_c rfl (xle_c rfl (xle_n (xle_c rfl xle_nil)))) (kj6 (1 : Int32) h)
                  · replace h := h.1 c82
                    refine x_aload_n dX13_twice_85 rfl ?_
                    refine x_get (v := .ref (m + 18)) hG dX13_twice_86 f_X13_62_12 (mo_t hM) (congrArg va_rf (mo_P25 hM)) ?_
                    refine x_iload_n dX13_twice_89 rfl ?_
                    obtain ⟨o7, h⟩ := h
                    refine y_iald hG dX13_twice_90 (mo_t25 hM) (mo_n25 hM) o7 ?_
                    refine x_aload_n dX13_twice_91 rfl ?_
                    refine x_get (v := .ref (m + 4)) hG dX13_twice_92 f_X13_19_12 (mo_t hM) (congrArg va_rf (mo_P5 hM)) ?_
                    refine x_iload_n dX13_twice_95 rfl ?_
                    obtain ⟨o8, h⟩ := h
                    refine y_iald hG dX13_twice_96 (mo_t5 hM) (mo_n5 hM) o8 ?_
                    refine x_icmp_ne (tgt := 119) dX13_twice_97 (by decide) (fun c97 => ?_) (fun c97 => ?_)
                    · replace h := h.2 c97
                      refine x_iconst_ (v := (0 : Int32)) dX13_twice_119 (by decide) ?_
                      change X _ _ _ _ _ _ [some (.ref m), some (.int n), some (.int y2_2), some (.int y2_3)] [.int (0 : Int32)]
                      exact X.weak (xle_c rfl (xle_c rfl (xle_n (xle_c rfl xle_nil)))) (kj6 (0 : Int32) h)
                    · replace h := h.1 c97
                      refine x_aload_n dX13_twice_100 rfl ?_
                      refine x_get (v := .ref (m + 19)) hG dX13_twice_101 f_X13_65_12 (mo_t hM) (congrArg va_rf (mo_P26 hM)) ?_
                      refine x_iload_n dX13_twice_104 rfl ?_
                      refine y_iald hG dX13_twice_105 (mo_t26 hM) (mo_n26 hM) o7 ?_
                      refine x_aload_n dX13_twice_106 rfl ?_
                      refine x_get (v := .ref (m + 5)) hG dX13_twice_107 f_X13_22_12 (mo_t hM) (congrArg va_rf (mo_P6 hM)) ?_
                      refine x_iload_n dX13_twice_110 rfl ?_
                      refine y_iald hG dX13_twice_111 (mo_t6 hM) (mo_n6 hM) o8 ?_
                      refine x_icmp_ge (tgt := 119) dX13_twice_112 (by decide) (fun c112 => ?_) (fun c112 => ?_)
                      · replace h := h.1 c112
                        refine x_iconst_ (v := (0 : Int32)) dX13_twice_119 (by decide) ?_
                        change X _ _ _ _ _ _ [some (.ref m), some (.int n), some (.int y2_2), some (.int y2_3)] [.int (0 : Int32)]
                        exact X.weak (xle_c rfl (xle_c rfl (xle_n (xle_c rfl xle_nil)))) (kj6 (0 : Int32) h)
                      · replace h := h.2 c112
                        refine x_iconst_ (v := (1 : Int32)) dX13_twice_115 (by decide) ?_
                        refine x_goto (tgt := 120) dX13_twice_116 (by decide) ?_
                        change X _ _ _ _ _ _ [some (.ref m), some (.int n), some (.int y2_2), some (.int y2_3)] [.int (1 : Int32)]
                        exact X.weak (xle_c rfl (xle_c rfl (xle_n (xle_c rfl xle_nil)))) (kj6 (1 : Int32) h)
          change X _ _ _ _ _ _ [some (.ref m), some (.int n), some (.int y1_2), some (.int (0 : Int32))] []
          exact X.weak (xle_c rfl (xle_c rfl (xle_c rfl (xle_c rfl xle_nil)))) (kl2 n2 y1_2 (0 : Int32) i2)
        · replace h := h.2 c17
          refine x_iload_n dX13_twice_20 rfl ?_
          obtain ⟨J9, g9, h⟩ := h
          have kj9 : ∀ (y9_s0 : Int32), J9 y9_s0 → X G (dp + 2) kX13_twice (oV A Q) (A.wI I) 57 [some (.ref m), some (.int n), none, some (.int y1_3)] [.int y9_s0] := by
            intro y9_s0 h
            replace h := g9 y9_s0 h
            refine x_istore_n dX13_twice_57 (by decide) ?_
            refine x_iinc (v := (y1_3 + (1 : Int32))) dX13_twice_58 rfl rfl (by decide) ?_
            refine x_goto (tgt := 12) dX13_twice_61 (by decide) ?_
            obtain ⟨q1, l1, h⟩ := h
            change X _ _ _ _ _ _ [some (.ref m), some (.int n), some (.int y9_s0), some (.int (y1_3 + (1 : Int32)))] []
            exact X.weak (xle_c rfl (xle_c rfl (xle_c rfl (xle_c rfl xle_nil)))) (ih1 q1 l1 y9_s0 (y1_3 + (1 : Int32)) h)
          refine x_if_ne (tgt := 52) dX13_twice_21 (by decide) (fun c21 => ?_) (fun c21 => ?_)
          · replace h := h.2 c21
            refine x_iconst_ (v := (1 : Int32)) dX13_twice_52 (by decide) ?_
            refine x_goto (tgt := 57) dX13_twice_53 (by decide) ?_
            change X _ _ _ _ _ _ [some (.ref m), some (.int n), some (.int y1_2), some (.int y1_3)] [.int (1 : Int32)]
            exact X.weak (xle_c rfl (xle_c rfl (xle_n (xle_c rfl xle_nil)))) (kj9 (1 : Int32) h)
          · replace h := h.1 c21
            refine x_aload_n dX13_twice_24 rfl ?_
            refine x_get (v := .ref (m + 13)) hG dX13_twice_25 f_X13_46_12 (mo_t hM) (congrArg va_rf (mo_P19 hM)) ?_
            refine x_iload_n dX13_twice_28 rfl ?_
            obtain ⟨o10, h⟩ := h
            refine y_iald hG dX13_twice_29 (mo_t19 hM) (mo_n19 hM) o10 ?_
            refine x_aload_n dX13_twice_30 rfl ?_
            refine x_get (v := .int (I m 15)) hG dX13_twice_31 f_X13_282_12 (mo_t hM) rfl ?_
            refine x_icmp_ne (tgt := 56) dX13_twice_34 (by decide) (fun c34 => ?_) (fun c34 => ?_)
            · replace h := h.2 c34
              refine x_iconst_ (v := (0 : Int32)) dX13_twice_56 (by decide) ?_
              change X _ _ _ _ _ _ [some (.ref m), some (.int n), some (.int y1_2), some (.int y1_3)] [.int (0 : Int32)]
              exact X.weak (xle_c rfl (xle_c rfl (xle_n (xle_c rfl xle_nil)))) (kj9 (0 : Int32) h)
            · replace h := h.1 c34
              refine x_aload_n dX13_twice_37 rfl ?_
              refine x_get (v := .ref (m + 10)) hG dX13_twice_38 f_X13_37_12 (mo_t hM) (congrArg va_rf (mo_P16 hM)) ?_
              refine x_iload_n dX13_twice_41 rfl ?_
              refine y_iald hG dX13_twice_42 (mo_t16 hM) (mo_n16 hM) o10 ?_
              refine x_aload_n dX13_twice_43 rfl ?_
              refine x_get (v := .ref (m + 4)) hG dX13_twice_44 f_X13_19_12 (mo_t hM) (congrArg va_rf (mo_P5 hM)) ?_
              refine x_iload_n dX13_twice_47 rfl ?_
              obtain ⟨o11, h⟩ := h
              refine y_iald hG dX13_twice_48 (mo_t5 hM) (mo_n5 hM) o11 ?_
              refine x_icmp_ne (tgt := 56) dX13_twice_49 (by decide) (fun c49 => ?_) (fun c49 => ?_)
              · replace h := h.2 c49
                refine x_iconst_ (v := (0 : Int32)) dX13_twice_56 (by decide) ?_
                change X _ _ _ _ _ _ [some (.ref m), some (.int n), some (.int y1_2), some (.int y1_3)] [.int (0 : Int32)]
                exact X.weak (xle_c rfl (xle_c rfl (xle_n (xle_c rfl xle_nil)))) (kj9 (0 : Int32) h)
              · replace h := h.1 c49
                refine x_iconst_ (v := (1 : Int32)) dX13_twice_52 (by decide) ?_
                refine x_goto (tgt := 57) dX13_twice_53 (by decide) ?_
                change X _ _ _ _ _ _ [some (.ref m), some (.int n), some (.int y1_2), some (.int y1_3)] [.int (1 : Int32)]
                exact X.weak (xle_c rfl (xle_c rfl (xle_n (xle_c rfl xle_nil)))) (kj9 (1 : Int32) h)
    change X _ _ _ _ _ _ [some (.ref m), some (.int n), some (.int (0 : Int32)), some (.int (0 : Int32))] []
    exact X.weak (xle_c rfl (xle_c rfl (xle_c rfl (xle_c rfl xle_nil)))) (kl1 n1 (0 : Int32) (0 : Int32) i1)
  · replace h := h.1 c4
    exact x_vret dX13_twice_7 rfl ⟨_, rfl, rfl, h⟩
def w_X13_meaning (m : Nat) (n : Int32) (Q : Int32 → xII → Prop) (I : xII) : Prop := ∀ I1 : xII, I1 = xup I m 62 (-1 : Int32) → (∃ L2 : Nat → Int32 → Int32 → Prop, (∃ n2 : Nat, L2 n2 ((I m 14) - (1 : Int32)) (-1 : Int32)) ∧ (∀ (n2 : Nat) (y2_2 : Int32) (y2_3 : Int32), L2 n2 y2_2 y2_3 → ∃ J3 : Prop, (J3 → ((y2_3 = (-1 : Int32) → ∃ L4 : Nat → Int32 → xII → Prop, (∃ n4 : Nat, L4 n4 ((I m 24) - (1 : Int32)) I1) ∧ (∀ (n4 : Nat) (y4_4 : Int32) (I4 : xII), L4 n4 y4_4 I4 → ((y4_4 < 0 → Q (if (I4 m 62) = (-1 : Int32) then y2_3 else (-1 : Int32)) I4) ∧ (¬ y4_4 < 0 → vp_in y4_4 500 ∧ (vp_in n 4002 ∧ (∃ J7 : xII → Prop, (∀ (I7 : xII), J7 I7 → (∃ q4 : Nat, q4 < n4 ∧ L4 q4 (y4_4 + (-1 : Int32)) I7)) ∧ (((I4 (m + 18) (ix y4_4)) = (I4 (m + 4) (ix n)) → ∀ I8 : xII, I8 = xup I4 m 62 y4_4 → (J7 I8)) ∧ (¬ (I4 (m + 18) (ix y4_4)) = (I4 (m + 4) (ix n)) → J7 I4)))))))) ∧ (¬ y2_3 = (-1 : Int32) → vp_in y2_3 900 ∧ ((((I (m + 13) (ix y2_3)) = 0 → ∃ L10 : Nat → Int32 → xII → Prop, (∃ n10 : Nat, L10 n10 ((I m 24) - (1 : Int32)) I1) ∧ (∀ (n10 : Nat) (y10_4 : Int32) (I10 : xII), L10 n10 y10_4 I10 → ((y10_4 < 0 → ∃ J11 : xII → Prop, (∀ (I11 : xII), J11 I11 → Q (if (I11 m 62) = (-1 : Int32) then y2_3 else (-1 : Int32)) I11) ∧ (((I10 m 62) = (-1 : Int32) → J11 I10) ∧ (¬ (I10 m 62) = (-1 : Int32) → vp_in (I10 m 62) 500 ∧ ((((I10 (m + 19) (ix (I10 m 62))) ≤ (I10 (m + 12) (ix y2_3)) → J11 I10) ∧ (¬ (I10 (m + 19) (ix (I10 m 62))) ≤ (I10 (m + 12) (ix y2_3)) → ∀ I13 : xII, I13 = xup I10 m 62 (-1 : Int32) → (J11 I13))))))) ∧ (¬ y10_4 < 0 → vp_in y10_4 500 ∧ (vp_in n 4002 ∧ (∃ J16 : xII → Prop, (∀ (I16 : xII), J16 I16 → (∃ q10 : Nat, q10 < n10 ∧ L10 q10 (y10_4 + (-1 : Int32)) I16)) ∧ (((I10 (m + 18) (ix y10_4)) = (I10 (m + 4) (ix n)) → ∀ I17 : xII, I17 = xup I10 m 62 y10_4 → (J16 I17)) ∧ (¬ (I10 (m + 18) (ix y10_4)) = (I10 (m + 4) (ix n)) → J16 I10)))))))) ∧ (¬ (I (m + 13) (ix y2_3)) = 0 → Q y2_3 I1)))))) ∧ ((y2_2 < 0 → J3) ∧ (¬ y2_2 < 0 → ((y2_3 = (-1 : Int32) → vp_in y2_2 900 ∧ (vp_in n 4002 ∧ ((∃ q2 : Nat, q2 < n2 ∧ L2 q2 (y2_2 + (-1 : Int32)) (if (I (m + 10) (ix y2_2)) = (I (m + 4) (ix n)) then y2_2 else y2_3))))) ∧ (¬ y2_3 = (-1 : Int32) → vp_in y2_2 900 ∧ (vp_in y2_3 900 ∧ ((((I (m + 13) (ix y2_2)) = (I (m + 13) (ix y2_3)) → vp_in n 4002 ∧ ((∃ q2 : Nat, q2 < n2 ∧ L2 q2 (y2_2 + (-1 : Int32)) (if (I (m + 10) (ix y2_2)) = (I (m + 4) (ix n)) then y2_2 else y2_3)))) ∧ (¬ (I (m + 13) (ix y2_2)) = (I (m + 13) (ix y2_3)) → J3))))))))))
theorem m_X13_meaning (hG : xOK G) {dp : Nat} {A : xA} {m : Nat} (hM : xMo G A m) {n : Int32} {Q : Int32 → xII → Prop} {I : xII} (h : w_X13_meaning m n Q I) : MX G (dp + 0) kX13_meaning [.ref m, .int n] (A.wI I) (oI A Q) := by
  unfold w_X13_meaning at h
  refine MX.of rfl (Nat.le_of_ble_eq_true rfl) ?_
  change X _ _ _ _ _ _ [some (.ref m), some (.int n), none, none, none] _
  refine x_aload_n dX13_meaning_0 rfl ?_
  refine x_iconst_ (v := (-1 : Int32)) dX13_meaning_1 (by decide) ?_
  refine y_put hG hM dX13_meaning_2 f_X13_374_12 ⟨_, rfl, Or.inl rfl⟩ rfl rfl ⟨_, rfl⟩ (fun I1 e1 => ?_)
  replace h := h I1 e1
  refine x_aload_n dX13_meaning_5 rfl ?_
  refine x_get (v := .int (I1 m 14)) hG dX13_meaning_6 f_X13_279_12 (mo_t hM) rfl ?_
  refine x_eqi (v := (I m 14)) (xup_rk e1 (by decide)) ?_
  refine x_iconst_ (v := (1 : Int32)) dX13_meaning_9 (by decide) ?_
  refine x_isub dX13_meaning_10 ?_
  refine x_istore_n dX13_meaning_11 (by decide) ?_
  refine x_iconst_ (v := (-1 : Int32)) dX13_meaning_12 (by decide) ?_
  refine x_istore_n dX13_meaning_13 (by decide) ?_
  obtain ⟨L2, ⟨n2, i2⟩, g2⟩ := h
  have kl2 : ∀ n2 : Nat, ∀ (y2_2 : Int32) (y2_3 : Int32), L2 n2 y2_2 y2_3 → X G (dp + 0) kX13_meaning (oI A Q) (A.wI I1) 14 [some (.ref m), some (.int n), some (.int y2_2), some (.int y2_3), none] [] := by
    intro n2
    induction n2 using Nat.strongRecOn with
    | ind n2 ih2 =>
      intro y2_2 y2_3 h
      replace h := g2 n2 y2_2 y2_3 h
      refine x_iload_n dX13_meaning_14 rfl ?_
      obtain ⟨J3, g3, h⟩ := h
      have kj3 : J3 → X G (dp + 0) kX13_meaning (oI A Q) (A.wI I1) 61 [some (.ref m), some (.int n), none, some (.int y2_3), none] [] := by
        intro h
        replace h := g3 h
        refine x_iload_n dX13_meaning_61 rfl ?_
        refine x_iconst_ (v := (-1 : Int32)) dX13_meaning_62 (by decide) ?_
        refine x_icmp_eq (tgt := 77) dX13_meaning_63 (by decide) (fun c63 => ?_) (fun c63 => ?_)
        · replace h := h.1 c63
          refine x_aload_n dX13_meaning_77 rfl ?_
          refine x_get (v := .int (I1 m 24)) hG dX13_meaning_78 f_X13_297_12 (mo_t hM) rfl ?_
          refine x_eqi (v := (I m 24)) (xup_rk e1 (by decide)) ?_
          refine x_iconst_ (v := (1 : Int32)) dX13_meaning_81 (by decide) ?_
          refine x_isub dX13_meaning_82 ?_
          refine x_istore dX13_meaning_83 (by decide) ?_
          obtain ⟨L4, ⟨n4, i4⟩, g4⟩ := h
          have kl4 : ∀ n4 : Nat, ∀ (y4_4 : Int32) (I4 : xII), L4 n4 y4_4 I4 → X G (dp + 0) kX13_meaning (oI A Q) (A.wI I4) 85 [some (.ref m), some (.int n), none, some (.int y2_3), some (.int y4_4)] [] := by
            intro n4
            induction n4 using Nat.strongRecOn with
            | ind n4 ih4 =>
              intro y4_4 I4 h
              replace h := g4 n4 y4_4 I4 h
              refine x_iload dX13_meaning_85 rfl ?_
              refine x_if_lt (tgt := 118) dX13_meaning_87 (by decide) (fun c87 => ?_) (fun c87 => ?_)
              · replace h := h.1 c87
                refine x_iload_n dX13_meaning_118 rfl ?_
                refine x_iconst_ (v := (-1 : Int32)) dX13_meaning_119 (by decide) ?_
                refine x_icmp_eq (tgt := 154) dX13_meaning_120 (by decide) (fun _ => ?_) (fun h => absurd c63 h)
                refine x_aload_n dX13_meaning_154 rfl ?_
                refine x_get (v := .int (I4 m 62)) hG dX13_meaning_155 f_X13_374_12 (mo_t hM) rfl ?_
                refine x_iconst_ (v := (-1 : Int32)) dX13_meaning_158 (by decide) ?_
                refine x_via 167 (A' := (A.wI I4)) (lv' := [none, none, none, none, none]) (st' := [.int (if (I4 m 62) = (-1 : Int32) then y2_3 else (-1 : Int32))]) ?_ (fun k167 => ?_)
                rotate_left
                · refine x_icmp_eq (tgt := 166) dX13_meaning_159 (by decide) (fun c159 => ?_) (fun c159 => ?_)
                  · refine x_iload_n dX13_meaning_166 rfl ?_
                    change X _ _ _ _ _ _ [some (.ref m), some (.int n), none, some (.int y2_3), some (.int y4_4)] [.int y2_3]
                    simp only [if_pos c159] at k167 ⊢
                    exact X.weak (xle_n (xle_n (xle_n (xle_n (xle_n xle_nil))))) k167
                  · refine x_iconst_ (v := (-1 : Int32)) dX13_meaning_162 (by decide) ?_
                    refine x_goto (tgt := 167) dX13_meaning_163 (by decide) ?_
                    change X _ _ _ _ _ _ [some (.ref m), some (.int n), none, some (.int y2_3), some (.int y4_4)] [.int (-1 : Int32)]
                    simp only [if_neg c159] at k167 ⊢
                    exact X.weak (xle_n (xle_n (xle_n (xle_n (xle_n xle_nil))))) k167
                exact x_iret dX13_meaning_167 rfl ⟨_, _, rfl, rfl, h⟩
              · replace h := h.2 c87
                refine x_aload_n dX13_meaning_90 rfl ?_
                refine x_get (v := .ref (m + 18)) hG dX13_meaning_91 f_X13_62_12 (mo_t hM) (congrArg va_rf (mo_P25 hM)) ?_
                refine x_iload dX13_meaning_94 rfl ?_
                obtain ⟨o5, h⟩ := h
                refine y_iald hG dX13_meaning_96 (mo_t25 hM) (mo_n25 hM) o5 ?_
                refine x_aload_n dX13_meaning_97 rfl ?_
                refine x_get (v := .ref (m + 4)) hG dX13_meaning_98 f_X13_19_12 (mo_t hM) (congrArg va_rf (mo_P5 hM)) ?_
                refine x_iload_n dX13_meaning_101 rfl ?_
                obtain ⟨o6, h⟩ := h
                refine y_iald hG dX13_meaning_102 (mo_t5 hM) (mo_n5 hM) o6 ?_
                obtain ⟨J7, g7, h⟩ := h
                have kj7 : ∀ (I7 : xII), J7 I7 → X G (dp + 0) kX13_meaning (oI A Q) (A.wI I7) 112 [some (.ref m), some (.int n), none, some (.int y2_3), some (.int y4_4)] [] := by
                  intro I7 h
                  replace h := g7 I7 h
                  refine x_iinc (v := (y4_4 + (-1 : Int32))) dX13_meaning_112 rfl rfl (by decide) ?_
                  refine x_goto (tgt := 85) dX13_meaning_115 (by decide) ?_
                  obtain ⟨q4, l4, h⟩ := h
                  change X _ _ _ _ _ _ [some (.ref m), some (.int n), none, some (.int y2_3), some (.int (y4_4 + (-1 : Int32)))] []
                  exact X.weak (xle_c rfl (xle_c rfl (xle_n (xle_c rfl (xle_c rfl xle_nil))))) (ih4 q4 l4 (y4_4 + (-1 : Int32)) I7 h)
                refine x_icmp_ne (tgt := 112) dX13_meaning_103 (by decide) (fun c103 => ?_) (fun c103 => ?_)
                · replace h := h.2 c103
                  change X _ _ _ _ _ _ [some (.ref m), some (.int n), none, some (.int y2_3), some (.int y4_4)] []
                  exact X.weak (xle_c rfl (xle_c rfl (xle_n (xle_c rfl (xle_c rfl xle_nil))))) (kj7 I4 h)
                · replace h := h.1 c103
                  refine x_aload_n dX13_meaning_106 rfl ?_
                  refine x_iload dX13_meaning_107 rfl ?_
                  refine y_put hG hM dX13_meaning_109 f_X13_374_12 ⟨_, rfl, Or.inl rfl⟩ rfl rfl ⟨_, rfl⟩ (fun I8 e8 => ?_)
                  replace h := h I8 e8
                  change X _ _ _ _ _ _ [some (.ref m), some (.int n), none, some (.int y2_3), some (.int y4_4)] []
                  exact X.weak (xle_c rfl (xle_c rfl (xle_n (xle_c rfl (xle_c rfl xle_nil))))) (kj7 I8 h)
          change X _ _ _ _ _ _ [some (.ref m), some (.int n), none, some (.int y2_3), some (.int ((I m 24) - (1 : Int32)))] []
          exact X.weak (xle_c rfl (xle_c rfl (xle_n (xle_c rfl (xle_c rfl xle_nil))))) (kl4 n4 ((I m 24) - (1 : Int32)) I1 i4)
        · replace h := h.2 c63
          refine x_aload_n dX13_meaning_66 rfl ?_
          refine x_get (v := .ref (m + 13)) hG dX13_meaning_67 f_X13_46_12 (mo_t hM) (congrArg va_rf (mo_P19 hM)) ?_
          refine x_iload_n dX13_meaning_70 rfl ?_
          obtain ⟨o9, h⟩ := h
          refine y_iald hG dX13_meaning_71 (mo_t19 hM) (mo_n19 hM) o9 ?_
          refine x_eqi (v := (I (m + 13) (ix y2_3))) (xup_ra e1 (by omega)) ?_
          refine x_if_eq (tgt := 77) dX13_meaning_72 (by decide) (fun c72 => ?_) (fun c72 => ?_)
          · replace h := h.1 c72
            refine x_aload_n dX13_meaning_77 rfl ?_
            refine x_get (v := .int (I1 m 24)) hG dX13_meaning_78 f_X13_297_12 (mo_t hM) rfl ?_
            refine x_eqi (v := (I m 24)) (xup_rk e1 (by decide)) ?_
            refine x_iconst_ (v := (1 : Int32)) dX13_meaning_81 (by decide) ?_
            refine x_isub dX13_meaning_82 ?_
            refine x_istore dX13_meaning_83 (by decide) ?_
            obtain ⟨L10, ⟨n10, i10⟩, g10⟩ := h
            have kl10 : ∀ n10 : Nat, ∀ (y10_4 : Int32) (I10 : xII), L10 n10 y10_4 I10 → X G (dp + 0) kX13_meaning (oI A Q) (A.wI I10) 85 [some (.ref m), some (.int n), none, some (.int y2_3), some (.int y10_4)] [] := by
              intro n10
              induction n10 using Nat.strongRecOn with
              | ind n10 ih10 =>
                intro y10_4 I10 h
                replace h := g10 n10 y10_4 I10 h
                refine x_iload dX13_meaning_85 rfl ?_
                refine x_if_lt (tgt := 118) dX13_meaning_87 (by decide) (fun c87 => ?_) (fun c87 => ?_)
                · replace h := h.1 c87
                  refine x_iload_n dX13_meaning_118 rfl ?_
                  refine x_iconst_ (v := (-1 : Int32)) dX13_meaning_119 (by decide) ?_
                  refine x_icmp_eq (tgt := 154) dX13_meaning_120 (by decide) (fun h => absurd h c63) (fun _ => ?_)
                  refine x_aload_n dX13_meaning_123 rfl ?_
                  refine x_get (v := .int (I10 m 62)) hG dX13_meaning_124 f_X13_374_12 (mo_t hM) rfl ?_
                  refine x_iconst_ (v := (-1 : Int32)) dX13_meaning_127 (by decide) ?_
                  obtain ⟨J11, g11, h⟩ := h
                  have kj11 : ∀ (I11 : xII), J11 I11 → X G (dp + 0) kX13_meaning (oI A Q) (A.wI I11) 154 [some (.ref m), none, none, some (.int y2_3), none] [] := by
                    intro I11 h
                    replace h := g11 I11 h
                    refine x_aload_n dX13_meaning_154 rfl ?_
                    refine x_get (v := .int (I11 m 62)) hG dX13_meaning_155 f_X13_374_12 (mo_t hM) rfl ?_
                    refine x_iconst_ (v := (-1 : Int32)) dX13_meaning_158 (by decide) ?_
                    refine x_via 167 (A' := (A.wI I11)) (lv' := [none, none, none, none, none]) (st' := [.int (if (I11 m 62) = (-1 : Int32) then y2_3 else (-1 : Int32))]) ?_ (fun k167 => ?_)
                    rotate_left
                    · refine x_icmp_eq (tgt := 166) dX13_meaning_159 (by decide) (fun c159 => ?_) (fun c159 => ?_)
                      · refine x_iload_n dX13_meaning_166 rfl ?_
                        change X _ _ _ _ _ _ [some (.ref m), none, none, some (.int y2_3), none] [.int y2_3]
                        simp only [if_pos c159] at k167 ⊢
                        exact X.weak (xle_n (xle_n (xle_n (xle_n (xle_n xle_nil))))) k167
                      · refine x_iconst_ (v := (-1 : Int32)) dX13_meaning_162 (by decide) ?_
                        refine x_goto (tgt := 167) dX13_meaning_163 (by decide) ?_
                        change X _ _ _ _ _ _ [some (.ref m), none, none, some (.int y2_3), none] [.int (-1 : Int32)]
                        simp only [if_neg c159] at k167 ⊢
                        exact X.weak (xle_n (xle_n (xle_n (xle_n (xle_n xle_nil))))) k167
                    exact x_iret dX13_meaning_167 rfl ⟨_, _, rfl, rfl, h⟩
                  refine x_icmp_eq (tgt := 154) dX13_meaning_128 (by decide) (fun c128 => ?_) (fun c128 => ?_)
                  · replace h := h.1 c128
                    change X _ _ _ _ _ _ [some (.ref m), some (.int n), none, some (.int y2_3), some (.int y10_4)] []
                    exact X.weak (xle_c rfl (xle_n (xle_n (xle_c rfl (xle_n xle_nil))))) (kj11 I10 h)
                  · replace h := h.2 c128
                    refine x_aload_n dX13_meaning_131 rfl ?_
                    refine x_get (v := .ref (m + 19)) hG dX13_meaning_132 f_X13_65_12 (mo_t hM) (congrArg va_rf (mo_P26 hM)) ?_
                    refine x_aload_n dX13_meaning_135 rfl ?_
                    refine x_get (v := .int (I10 m 62)) hG dX13_meaning_136 f_X13_374_12 (mo_t hM) rfl ?_
                    obtain ⟨o12, h⟩ := h
                    refine y_iald hG dX13_meaning_139 (mo_t26 hM) (mo_n26 hM) o12 ?_
                    refine x_aload_n dX13_meaning_140 rfl ?_
                    refine x_get (v := .ref (m + 12)) hG dX13_meaning_141 f_X13_43_12 (mo_t hM) (congrArg va_rf (mo_P18 hM)) ?_
                    refine x_iload_n dX13_meaning_144 rfl ?_
                    refine y_iald hG dX13_meaning_145 (mo_t18 hM) (mo_n18 hM) o9 ?_
                    refine x_icmp_le (tgt := 154) dX13_meaning_146 (by decide) (fun c146 => ?_) (fun c146 => ?_)
                    · replace h := h.1 c146
                      change X _ _ _ _ _ _ [some (.ref m), some (.int n), none, some (.int y2_3), some (.int y10_4)] []
                      exact X.weak (xle_c rfl (xle_n (xle_n (xle_c rfl (xle_n xle_nil))))) (kj11 I10 h)
                    · replace h := h.2 c146
                      refine x_aload_n dX13_meaning_149 rfl ?_
                      refine x_iconst_ (v := (-1 : Int32)) dX13_meaning_150 (by decide) ?_
                      refine y_put hG hM dX13_meaning_151 f_X13_374_12 ⟨_, rfl, Or.inl rfl⟩ rfl rfl ⟨_, rfl⟩ (fun I13 e13 => ?_)
                      replace h := h I13 e13
                      change X _ _ _ _ _ _ [some (.ref m), some (.int n), none, some (.int y2_3), some (.int y10_4)] []
                      exact X.weak (xle_c rfl (xle_n (xle_n (xle_c rfl (xle_n xle_nil))))) (kj11 I13 h)
                · replace h := h.2 c87
                  refine x_aload_n dX13_meaning_90 rfl ?_
                  refine x_get (v := .ref (m + 18)) hG dX13_meaning_91 f_X13_62_12 (mo_t hM) (congrArg va_rf (mo_P25 hM)) ?_
                  refine x_iload dX13_meaning_94 rfl ?_
                  obtain ⟨o14, h⟩ := h
                  refine y_iald hG dX13_meaning_96 (mo_t25 hM) (mo_n25 hM) o14 ?_
                  refine x_aload_n dX13_meaning_97 rfl ?_
                  refine x_get (v := .ref (m + 4)) hG dX13_meaning_98 f_X13_19_12 (mo_t hM) (congrArg va_rf (mo_P5 hM)) ?_
                  refine x_iload_n dX13_meaning_101 rfl ?_
                  obtain ⟨o15, h⟩ := h
                  refine y_iald hG dX13_meaning_102 (mo_t5 hM) (mo_n5 hM) o15 ?_
                  obtain ⟨J16, g16, h⟩ := h
                  have kj16 : ∀ (I16 : xII), J16 I16 → X G (dp + 0) kX13_meaning (oI A Q) (A.wI I16) 112 [some (.ref m), some (.int n), none, some (.int y2_3), some (.int y10_4)] [] := by
                    intro I16 h
                    replace h := g16 I16 h
                    refine x_iinc (v := (y10_4 + (-1 : Int32))) dX13_meaning_112 rfl rfl (by decide) ?_
                    refine x_goto (tgt := 85) dX13_meaning_115 (by decide) ?_
                    obtain ⟨q10, l10, h⟩ := h
                    change X _ _ _ _ _ _ [some (.ref m), some (.int n), none, some (.int y2_3), some (.int (y10_4 + (-1 : Int32)))] []
                    exact X.weak (xle_c rfl (xle_c rfl (xle_n (xle_c rfl (xle_c rfl xle_nil))))) (ih10 q10 l10 (y10_4 + (-1 : Int32)) I16 h)
                  refine x_icmp_ne (tgt := 112) dX13_meaning_103 (by decide) (fun c103 => ?_) (fun c103 => ?_)
                  · replace h := h.2 c103
                    change X _ _ _ _ _ _ [some (.ref m), some (.int n), none, some (.int y2_3), some (.int y10_4)] []
                    exact X.weak (xle_c rfl (xle_c rfl (xle_n (xle_c rfl (xle_c rfl xle_nil))))) (kj16 I10 h)
                  · replace h := h.1 c103
                    refine x_aload_n dX13_meaning_106 rfl ?_
                    refine x_iload dX13_meaning_107 rfl ?_
                    refine y_put hG hM dX13_meaning_109 f_X13_374_12 ⟨_, rfl, Or.inl rfl⟩ rfl rfl ⟨_, rfl⟩ (fun I17 e17 => ?_)
                    replace h := h I17 e17
                    change X _ _ _ _ _ _ [some (.ref m), some (.int n), none, some (.int y2_3), some (.int y10_4)] []
                    exact X.weak (xle_c rfl (xle_c rfl (xle_n (xle_c rfl (xle_c rfl xle_nil))))) (kj16 I17 h)
            change X _ _ _ _ _ _ [some (.ref m), some (.int n), none, some (.int y2_3), some (.int ((I m 24) - (1 : Int32)))] []
            exact X.weak (xle_c rfl (xle_c rfl (xle_n (xle_c rfl (xle_c rfl xle_nil))))) (kl10 n10 ((I m 24) - (1 : Int32)) I1 i10)
          · replace h := h.2 c72
            refine x_iload_n dX13_meaning_75 rfl ?_
            exact x_iret dX13_meaning_76 rfl ⟨_, _, rfl, rfl, h⟩
      refine x_if_lt (tgt := 61) dX13_meaning_15 (by decide) (fun c15 => ?_) (fun c15 => ?_)
      · replace h := h.1 c15
        change X _ _ _ _ _ _ [some (.ref m), some (.int n), some (.int y2_2), some (.int y2_3), none] []
        exact X.weak (xle_c rfl (xle_c rfl (xle_n (xle_c rfl (xle_n xle_nil))))) (kj3 h)
      · replace h := h.2 c15
        refine x_iload_n dX13_meaning_18 rfl ?_
        refine x_iconst_ (v := (-1 : Int32)) dX13_meaning_19 (by decide) ?_
        refine x_icmp_eq (tgt := 38) dX13_meaning_20 (by decide) (fun c20 => ?_) (fun c20 => ?_)
        · replace h := h.1 c20
          refine x_aload_n dX13_meaning_38 rfl ?_
          refine x_get (v := .ref (m + 10)) hG dX13_meaning_39 f_X13_37_12 (mo_t hM) (congrArg va_rf (mo_P16 hM)) ?_
          refine x_iload_n dX13_meaning_42 rfl ?_
          obtain ⟨o18, h⟩ := h
          refine y_iald hG dX13_meaning_43 (mo_t16 hM) (mo_n16 hM) o18 ?_
          refine x_eqi (v := (I (m + 10) (ix y2_2))) (xup_ra e1 (by omega)) ?_
          refine x_aload_n dX13_meaning_44 rfl ?_
          refine x_get (v := .ref (m + 4)) hG dX13_meaning_45 f_X13_19_12 (mo_t hM) (congrArg va_rf (mo_P5 hM)) ?_
          refine x_iload_n dX13_meaning_48 rfl ?_
          obtain ⟨o19, h⟩ := h
          refine y_iald hG dX13_meaning_49 (mo_t5 hM) (mo_n5 hM) o19 ?_
          refine x_eqi (v := (I (m + 4) (ix n))) (xup_ra e1 (by omega)) ?_
          refine x_via 55 (A' := (A.wI I1)) (lv' := [some (.ref m), some (.int n), some (.int y2_2), some (.int (if (I (m + 10) (ix y2_2)) = (I (m + 4) (ix n)) then y2_2 else y2_3)), none]) (st' := []) ?_ (fun k55 => ?_)
          rotate_left
          · refine x_icmp_ne (tgt := 55) dX13_meaning_50 (by decide) (fun c50 => ?_) (fun c50 => ?_)
            · change X _ _ _ _ _ _ [some (.ref m), some (.int n), some (.int y2_2), some (.int y2_3), none] []
              simp only [if_neg c50] at k55 ⊢
              exact X.weak (xle_c rfl (xle_c rfl (xle_c rfl (xle_c rfl (xle_n xle_nil))))) k55
            · refine x_iload_n dX13_meaning_53 rfl ?_
              refine x_istore_n dX13_meaning_54 (by decide) ?_
              change X _ _ _ _ _ _ [some (.ref m), some (.int n), some (.int y2_2), some (.int y2_2), none] []
              simp only [if_pos c50] at k55 ⊢
              exact X.weak (xle_c rfl (xle_c rfl (xle_c rfl (xle_c rfl (xle_n xle_nil))))) k55
          refine x_iinc (v := (y2_2 + (-1 : Int32))) dX13_meaning_55 rfl rfl (by decide) ?_
          refine x_goto (tgt := 14) dX13_meaning_58 (by decide) ?_
          obtain ⟨q2, l2, h⟩ := h
          change X _ _ _ _ _ _ [some (.ref m), some (.int n), some (.int (y2_2 + (-1 : Int32))), some (.int (if (I (m + 10) (ix y2_2)) = (I (m + 4) (ix n)) then y2_2 else y2_3)), none] []
          exact X.weak (xle_c rfl (xle_c rfl (xle_c rfl (xle_c rfl (xle_n xle_nil))))) (ih2 q2 l2 (y2_2 + (-1 : Int32)) (if (I (m + 10) (ix y2_2)) = (I (m + 4) (ix n)) then y2_2 else y2_3) h)
        · replace h := h.2 c20
          refine x_aload_n dX13_meaning_23 rfl ?_
          refine x_get (v := .ref (m + 13)) hG dX13_meaning_24 f_X13_46_12 (mo_t hM) (congrArg va_rf (mo_P19 hM)) ?_
          refine x_iload_n dX13_meaning_27 rfl ?_
          obtain ⟨o20, h⟩ := h
          refine y_iald hG dX13_meaning_28 (mo_t19 hM) (mo_n19 hM) o20 ?_
          refine x_eqi (v := (I (m + 13) (ix y2_2))) (xup_ra e1 (by omega)) ?_
          refine x_aload_n dX13_meaning_29 rfl ?_
          refine x_get (v := .ref (m + 13)) hG dX13_meaning_30 f_X13_46_12 (mo_t hM) (congrArg va_rf (mo_P19 hM)) ?_
          refine x_iload_n dX13_meaning_33 rfl ?_
          obtain ⟨o21, h⟩ := h
          refine y_iald hG dX13_meaning_34 (mo_t19 hM) (mo_n19 hM) o21 ?_
          refine x_eqi (v := (I (m + 13) (ix y2_3))) (xup_ra e1 (by omega)) ?_
          refine x_icmp_ne (tgt := 61) dX13_meaning_35 (by decide) (fun c35 => ?_) (fun c35 => ?_)
          · replace h := h.2 c35
            change X _ _ _ _ _ _ [some (.ref m), some (.int n), some (.int y2_2), some (.int y2_3), none] []
            exact X.weak (xle_c rfl (xle_c rfl (xle_n (xle_c rfl (xle_n xle_nil))))) (kj3 h)
          · replace h := h.1 c35
            refine x_aload_n dX13_meaning_38 rfl ?_
            refine x_get (v := .ref (m + 10)) hG dX13_meaning_39 f_X13_37_12 (mo_t hM) (congrArg va_rf (mo_P16 hM)) ?_
            refine x_iload_n dX13_meaning_42 rfl ?_
            refine y_iald hG dX13_meaning_43 (mo_t16 hM) (mo_n16 hM) o20 ?_
            refine x_eqi (v := (I (m + 10) (ix y2_2))) (xup_ra e1 (by omega)) ?_
            refine x_aload_n dX13_meaning_44 rfl ?_
            refine x_get (v := .ref (m + 4)) hG dX13_meaning_45 f_X13_19_12 (mo_t hM) (congrArg va_rf (mo_P5 hM)) ?_
            refine x_iload_n dX13_meaning_48 rfl ?_
            obtain ⟨o22, h⟩ := h
            refine y_iald hG dX13_meaning_49 (mo_t5 hM) (mo_n5 hM) o22 ?_
            refine x_eqi (v := (I (m + 4) (ix n))) (xup_ra e1 (by omega)) ?_
            refine x_via 55 (A' := (A.wI I1)) (lv' := [some (.ref m), some (.int n), some (.int y2_2), some (.int (if (I (m + 10) (ix y2_2)) = (I (m + 4) (ix n)) then y2_2 else y2_3)), none]) (st' := []) ?_ (fun k55 => ?_)
            rotate_left
            · refine x_icmp_ne (tgt := 55) dX13_meaning_50 (by decide) (fun c50 => ?_) (fun c50 => ?_)
              · change X _ _ _ _ _ _ [some (.ref m), some (.int n), some (.int y2_2), some (.int y2_3), none] []
                simp only [if_neg c50] at k55 ⊢
                exact X.weak (xle_c rfl (xle_c rfl (xle_c rfl (xle_c rfl (xle_n xle_nil))))) k55
              · refine x_iload_n dX13_meaning_53 rfl ?_
                refine x_istore_n dX13_meaning_54 (by decide) ?_
                change X _ _ _ _ _ _ [some (.ref m), some (.int n), some (.int y2_2), some (.int y2_2), none] []
                simp only [if_pos c50] at k55 ⊢
                exact X.weak (xle_c rfl (xle_c rfl (xle_c rfl (xle_c rfl (xle_n xle_nil))))) k55
            refine x_iinc (v := (y2_2 + (-1 : Int32))) dX13_meaning_55 rfl rfl (by decide) ?_
            refine x_goto (tgt := 14) dX13_meaning_58 (by decide) ?_
            obtain ⟨q2, l2, h⟩ := h
            change X _ _ _ _ _ _ [some (.ref m), some (.int n), some (.int (y2_2 + (-1 : Int32))), some (.int (if (I (m + 10) (ix y2_2)) = (I (m + 4) (ix n)) then y2_2 else y2_3)), none] []
            exact X.weak (xle_c rfl (xle_c rfl (xle_c rfl (xle_c rfl (xle_n xle_nil))))) (ih2 q2 l2 (y2_2 + (-1 : Int32)) (if (I (m + 10) (ix y2_2)) = (I (m + 4) (ix n)) then y2_2 else y2_3) h)
  change X _ _ _ _ _ _ [some (.ref m), some (.int n), some (.int ((I m 14) - (1 : Int32))), some (.int (-1 : Int32)), none] []
  exact X.weak (xle_c rfl (xle_c rfl (xle_c rfl (xle_c rfl (xle_n xle_nil))))) (kl2 n2 ((I m 14) - (1 : Int32)) (-1 : Int32) i2)
def w_X13_begins (m : Nat) (Q : xII → Prop) (I : xII) : Prop := ∀ I1 : xII, I1 = xup I m 15 ((I m 15) + (1 : Int32)) → (Q I1)
theorem m_X13_begins (hG : xOK G) {dp : Nat} {A : xA} {m : Nat} (hM : xMo G A m) {Q : xII → Prop} {I : xII} (h : w_X13_begins m Q I) : MX G (dp + 0) kX13_begins [.ref m] (A.wI I) (oV A Q) := by
  unfold w_X13_begins at h
  refine MX.of rfl (Nat.le_of_ble_eq_true rfl) ?_
  change X _ _ _ _ _ _ [some (.ref m)] _
  refine x_aload_n dX13_begins_0 rfl ?_
  refine x_dup dX13_begins_1 rfl ?_
  refine x_get (v := .int (I m 15)) hG dX13_begins_2 f_X13_282_12 (mo_t hM) rfl ?_
  refine x_iconst_ (v := (1 : Int32)) dX13_begins_5 (by decide) ?_
  refine x_iadd dX13_begins_6 ?_
  refine y_put hG hM dX13_begins_7 f_X13_282_12 ⟨_, rfl, Or.inl rfl⟩ rfl rfl ⟨_, rfl⟩ (fun I1 e1 => ?_)
  replace h := h I1 e1
  exact x_vret dX13_begins_10 rfl ⟨_, rfl, rfl, h⟩
def w_X13_ends (m : Nat) (w : Int32) (Q : xII → Prop) (I : xII) : Prop := ∃ L1 : Nat → xII → Prop, (∃ n1 : Nat, L1 n1 I) ∧ (∀ (n1 : Nat) (I1 : xII), L1 n1 I1 → (((I1 m 14) ≤ 0 → ∀ I2 : xII, I2 = xup I1 m 15 w → (Q I2)) ∧ (¬ (I1 m 14) ≤ 0 → vp_in ((I1 m 14) - (1 : Int32)) 900 ∧ ((((I1 (m + 13) (ix ((I1 m 14) - (1 : Int32)))) ≤ w → ∀ I4 : xII, I4 = xup I1 m 15 w → (Q I4)) ∧ (¬ (I1 (m + 13) (ix ((I1 m 14) - (1 : Int32)))) ≤ w → ∀ I5 : xII, I5 = xup I1 m 14 ((I1 m 14) - (1 : Int32)) → ((∃ q1 : Nat, q1 < n1 ∧ L1 q1 I5))))))))
theorem m_X13_ends (hG : xOK G) {dp : Nat} {A : xA} {m : Nat} (hM : xMo G A m) {w : Int32} {Q : xII → Prop} {I : xII} (h : w_X13_ends m w Q I) : MX G (dp + 0) kX13_ends [.ref m, .int w] (A.wI I) (oV A Q) := by
  unfold w_X13_ends at h
  refine MX.of rfl (Nat.le_of_ble_eq_true rfl) ?_
  change X _ _ _ _ _ _ [some (.ref m), some (.int w)] _
  obtain ⟨L1, ⟨n1, i1⟩, g1⟩ := h
  have kl1 : ∀ n1 : Nat, ∀ (I1 : xII), L1 n1 I1 → X G (dp + 0) kX13_ends (oV A Q) (A.wI I1) 0 [some (.ref m), some (.int w)] [] := by
    intro n1
    induction n1 using Nat.strongRecOn with
    | ind n1 ih1 =>
      intro I1 h
      replace h := g1 n1 I1 h
      refine x_aload_n dX13_ends_0 rfl ?_
      refine x_get (v := .int (I1 m 14)) hG dX13_ends_1 f_X13_279_12 (mo_t hM) rfl ?_
      refine x_if_le (tgt := 35) dX13_ends_4 (by decide) (fun c4 => ?_) (fun c4 => ?_)
      · replace h := h.1 c4
        refine x_aload_n dX13_ends_35 rfl ?_
        refine x_iload_n dX13_ends_36 rfl ?_
        refine y_put hG hM dX13_ends_37 f_X13_282_12 ⟨_, rfl, Or.inl rfl⟩ rfl rfl ⟨_, rfl⟩ (fun I2 e2 => ?_)
        replace h := h I2 e2
        exact x_vret dX13_ends_40 rfl ⟨_, rfl, rfl, h⟩
      · replace h := h.2 c4
        refine x_aload_n dX13_ends_7 rfl ?_
        refine x_get (v := .ref (m + 13)) hG dX13_ends_8 f_X13_46_12 (mo_t hM) (congrArg va_rf (mo_P19 hM)) ?_
        refine x_aload_n dX13_ends_11 rfl ?_
        refine x_get (v := .int (I1 m 14)) hG dX13_ends_12 f_X13_279_12 (mo_t hM) rfl ?_
        refine x_iconst_ (v := (1 : Int32)) dX13_ends_15 (by decide) ?_
        refine x_isub dX13_ends_16 ?_
        obtain ⟨o3, h⟩ := h
        refine y_iald hG dX13_ends_17 (mo_t19 hM) (mo_n19 hM) o3 ?_
        refine x_iload_n dX13_ends_18 rfl ?_
        refine x_icmp_le (tgt := 35) dX13_ends_19 (by decide) (fun c19 => ?_) (fun c19 => ?_)
        · replace h := h.1 c19
          refine x_aload_n dX13_ends_35 rfl ?_
          refine x_iload_n dX13_ends_36 rfl ?_
          refine y_put hG hM dX13_ends_37 f_X13_282_12 ⟨_, rfl, Or.inl rfl⟩ rfl rfl ⟨_, rfl⟩ (fun I4 e4 => ?_)
          replace h := h I4 e4
          exact x_vret dX13_ends_40 rfl ⟨_, rfl, rfl, h⟩
        · replace h := h.2 c19
          refine x_aload_n dX13_ends_22 rfl ?_
          refine x_dup dX13_ends_23 rfl ?_
          refine x_get (v := .int (I1 m 14)) hG dX13_ends_24 f_X13_279_12 (mo_t hM) rfl ?_
          refine x_iconst_ (v := (1 : Int32)) dX13_ends_27 (by decide) ?_
          refine x_isub dX13_ends_28 ?_
          refine y_put hG hM dX13_ends_29 f_X13_279_12 ⟨_, rfl, Or.inl rfl⟩ rfl rfl ⟨_, rfl⟩ (fun I5 e5 => ?_)
          replace h := h I5 e5
          refine x_goto (tgt := 0) dX13_ends_32 (by decide) ?_
          obtain ⟨q1, l1, h⟩ := h
          change X _ _ _ _ _ _ [some (.ref m), some (.int w)] []
          exact X.weak (xle_c rfl (xle_c rfl xle_nil)) (ih1 q1 l1 I5 h)
  change X _ _ _ _ _ _ [some (.ref m), some (.int w)] []
  exact X.weak (xle_c rfl (xle_c rfl xle_nil)) (kl1 n1 I i1)
def w_X13_settle (m : Nat) (c : Int32) (t : Int32) (Q : xII → Prop) (I : xII) : Prop := ∃ L1 : Nat → Int32 → xII → Prop, (∃ n1 : Nat, L1 n1 c I) ∧ (∀ (n1 : Nat) (y1_3 : Int32) (I1 : xII), L1 n1 y1_3 I1 → ((y1_3 = (-1 : Int32) → Q I1) ∧ (¬ y1_3 = (-1 : Int32) → vp_in y1_3 9000 ∧ (∀ I3 : xII, I3 = xup I1 (m + 33) (ix y1_3) t → ((∃ q1 : Nat, q1 < n1 ∧ L1 q1 (I1 (m + 33) (ix y1_3)) I3))))))
theorem m_X13_settle (hG : xOK G) {dp : Nat} {A : xA} {m : Nat} (hM : xMo G A m) {c : Int32} {t : Int32} {Q : xII → Prop} {I : xII} (h : w_X13_settle m c t Q I) : MX G (dp + 0) kX13_settle [.ref m, .int c, .int t] (A.wI I) (oV A Q) := by
  unfold w_X13_settle at h
  refine MX.of rfl (Nat.le_of_ble_eq_true rfl) ?_
  change X _ _ _ _ _ _ [some (.ref m), some (.int c), some (.int t), none, none] _
  refine x_iload_n dX13_settle_0 rfl ?_
  refine x_istore_n dX13_settle_1 (by decide) ?_
  obtain ⟨L1, ⟨n1, i1⟩, g1⟩ := h
  have kl1 : ∀ n1 : Nat, ∀ (y1_3 : Int32) (I1 : xII), L1 n1 y1_3 I1 → X G (dp + 0) kX13_settle (oV A Q) (A.wI I1) 2 [some (.ref m), none, some (.int t), some (.int y1_3), none] [] := by
    intro n1
    induction n1 using Nat.strongRecOn with
    | ind n1 ih1 =>
      intro y1_3 I1 h
      replace h := g1 n1 y1_3 I1 h
      refine x_iload_n dX13_settle_2 rfl ?_
      refine x_iconst_ (v := (-1 : Int32)) dX13_settle_3 (by decide) ?_
      refine x_icmp_eq (tgt := 28) dX13_settle_4 (by decide) (fun c4 => ?_) (fun c4 => ?_)
      · replace h := h.1 c4
        exact x_vret dX13_settle_28 rfl ⟨_, rfl, rfl, h⟩
      · replace h := h.2 c4
        refine x_aload_n dX13_settle_7 rfl ?_
        refine x_get (v := .ref (m + 33)) hG dX13_settle_8 f_X13_107_12 (mo_t hM) (congrArg va_rf (mo_P57 hM)) ?_
        refine x_iload_n dX13_settle_11 rfl ?_
        obtain ⟨o2, h⟩ := h
        refine y_iald hG dX13_settle_12 (mo_t57 hM) (mo_n57 hM) o2 ?_
        refine x_istore dX13_settle_13 (by decide) ?_
        refine x_aload_n dX13_settle_15 rfl ?_
        refine x_get (v := .ref (m + 33)) hG dX13_settle_16 f_X13_107_12 (mo_t hM) (congrArg va_rf (mo_P57 hM)) ?_
        refine x_iload_n dX13_settle_19 rfl ?_
        refine x_iload_n dX13_settle_20 rfl ?_
        refine y_iast hG dX13_settle_21 (mo_t57 hM) (mo_aN hM) (mo_n57 hM) o2 (fun I3 e3 => ?_)
        replace h := h I3 e3
        refine x_iload dX13_settle_22 rfl ?_
        refine x_istore_n dX13_settle_24 (by decide) ?_
        refine x_goto (tgt := 2) dX13_settle_25 (by decide) ?_
        obtain ⟨q1, l1, h⟩ := h
        change X _ _ _ _ _ _ [some (.ref m), none, some (.int t), some (.int (I1 (m + 33) (ix y1_3))), some (.int (I1 (m + 33) (ix y1_3)))] []
        exact X.weak (xle_c rfl (xle_n (xle_c rfl (xle_c rfl (xle_n xle_nil))))) (ih1 q1 l1 (I1 (m + 33) (ix y1_3)) I3 h)
  change X _ _ _ _ _ _ [some (.ref m), some (.int c), some (.int t), some (.int c), none] []
  exact X.weak (xle_c rfl (xle_n (xle_c rfl (xle_c rfl (xle_n xle_nil))))) (kl1 n1 c I i1)
def w_X13_level (m : Nat) (Q : Int32 → xII → Prop) (I : xII) : Prop := vp_in (I m 42) 4002 ∧ ((((I (m + 3) (ix (I m 42))) = (4 : Int32) → ((((I (m + 4) (ix (I m 42))) = (14 : Int32)) → Q (0 : Int32) I) ∧ (((I (m + 4) (ix (I m 42))) = (15 : Int32)) → Q (1 : Int32) I) ∧ (((I (m + 4) (ix (I m 42))) = (33 : Int32)) → Q (2 : Int32) I) ∧ (((I (m + 4) (ix (I m 42))) = (34 : Int32)) → Q (3 : Int32) I) ∧ (((I (m + 4) (ix (I m 42))) = (35 : Int32)) → Q (4 : Int32) I) ∧ (((I (m + 4) (ix (I m 42))) = (16 : Int32) ∨ (I (m + 4) (ix (I m 42))) = (17 : Int32)) → Q (5 : Int32) I) ∧ (((I (m + 4) (ix (I m 42))) = (18 : Int32) ∨ (I (m + 4) (ix (I m 42))) = (19 : Int32) ∨ (I (m + 4) (ix (I m 42))) = (36 : Int32) ∨ (I (m + 4) (ix (I m 42))) = (37 : Int32)) → Q (6 : Int32) I) ∧ (((I (m + 4) (ix (I m 42))) = (1 : Int32) ∨ (I (m + 4) (ix (I m 42))) = (20 : Int32) ∨ (I (m + 4) (ix (I m 42))) = (21 : Int32)) → Q (7 : Int32) I) ∧ (((I (m + 4) (ix (I m 42))) = (38 : Int32) ∨ (I (m + 4) (ix (I m 42))) = (39 : Int32)) → Q (8 : Int32) I) ∧ (((I (m + 4) (ix (I m 42))) = (40 : Int32) ∨ (I (m + 4) (ix (I m 42))) = (41 : Int32) ∨ (I (m + 4) (ix (I m 42))) = (42 : Int32)) → Q (9 : Int32) I) ∧ ((¬ (I (m + 4) (ix (I m 42))) = (14 : Int32) ∧ ¬ (I (m + 4) (ix (I m 42))) = (15 : Int32) ∧ ¬ (I (m + 4) (ix (I m 42))) = (33 : Int32) ∧ ¬ (I (m + 4) (ix (I m 42))) = (34 : Int32) ∧ ¬ (I (m + 4) (ix (I m 42))) = (35 : Int32) ∧ ¬ (I (m + 4) (ix (I m 42))) = (16 : Int32) ∧ ¬ (I (m + 4) (ix (I m 42))) = (17 : Int32) ∧ ¬ (I (m + 4) (ix (I m 42))) = (18 : Int32) ∧ ¬ (I (m + 4) (ix (I m 42))) = (19 : Int32) ∧ ¬ (I (m + 4) (ix (I m 42))) = (36 : Int32) ∧ ¬ (I (m + 4) (ix (I m 42))) = (37 : Int32) ∧ ¬ (I (m + 4) (ix (I m 42))) = (1 : Int32) ∧ ¬ (I (m + 4) (ix (I m 42))) = (20 : Int32) ∧ ¬ (I (m + 4) (ix (I m 42))) = (21 : Int32) ∧ ¬ (I (m + 4) (ix (I m 42))) = (38 : Int32) ∧ ¬ (I (m + 4) (ix (I m 42))) = (39 : Int32) ∧ ¬ (I (m + 4) (ix (I m 42))) = (40 : Int32) ∧ ¬ (I (m + 4) (ix (I m 42))) = (41 : Int32) ∧ ¬ (I (m + 4) (ix (I m 42))) = (42 : Int32)) → Q (-1 : Int32) I))) ∧ (¬ (I (m + 3) (ix (I m 42))) = (4 : Int32) → Q (-1 : Int32) I)))
theorem m_X13_level (hG : xOK G) {dp : Nat} {A : xA} {m : Nat} (hM : xMo G A m) {Q : Int32 → xII → Prop} {I : xII} (h : w_X13_level m Q I) : MX G (dp + 0) kX13_level [.ref m] (A.wI I) (oI A Q) := by
  unfold w_X13_level at h
  refine MX.of rfl (Nat.le_of_ble_eq_true rfl) ?_
  change X _ _ _ _ _ _ [some (.ref m)] _
  refine x_aload_n dX13_level_0 rfl ?_
  refine x_get (v := .ref (m + 3)) hG dX13_level_1 f_X13_16_12 (mo_t hM) (congrArg va_rf (mo_P4 hM)) ?_
  refine x_aload_n dX13_level_4 rfl ?_
  refine x_get (v := .int (I m 42)) hG dX13_level_5 f_X13_233_12 (mo_t hM) rfl ?_
  obtain ⟨o1, h⟩ := h
  refine y_iald hG dX13_level_8 (mo_t4 hM) (mo_n4 hM) o1 ?_
  refine x_iconst_ (v := (4 : Int32)) dX13_level_9 (by decide) ?_
  refine x_icmp_eq (tgt := 15) dX13_level_10 (by decide) (fun c10 => ?_) (fun c10 => ?_)
  · replace h := h.1 c10
    refine x_aload_n dX13_level_15 rfl ?_
    refine x_get (v := .ref (m + 4)) hG dX13_level_16 f_X13_19_12 (mo_t hM) (congrArg va_rf (mo_P5 hM)) ?_
    refine x_aload_n dX13_level_19 rfl ?_
    refine x_get (v := .int (I m 42)) hG dX13_level_20 f_X13_233_12 (mo_t hM) rfl ?_
    refine y_iald hG dX13_level_23 (mo_t5 hM) (mo_n5 hM) o1 ?_
    have kt2_0 : ((I (m + 4) (ix (I m 42))) = (14 : Int32)) → X G (dp + 0) kX13_level (oI A Q) (A.wI I) 208 [some (.ref m)] [] := by
      intro c24
      replace h := h.1 c24
      refine x_iconst_ (v := (0 : Int32)) dX13_level_208 (by decide) ?_
      exact x_iret dX13_level_209 rfl ⟨_, _, rfl, rfl, h⟩
    have kt2_1 : ((I (m + 4) (ix (I m 42))) = (15 : Int32)) → X G (dp + 0) kX13_level (oI A Q) (A.wI I) 210 [some (.ref m)] [] := by
      intro c24
      replace h := h.2.1 c24
      refine x_iconst_ (v := (1 : Int32)) dX13_level_210 (by decide) ?_
      exact x_iret dX13_level_211 rfl ⟨_, _, rfl, rfl, h⟩
    have kt2_2 : ((I (m + 4) (ix (I m 42))) = (33 : Int32)) → X G (dp + 0) kX13_level (oI A Q) (A.wI I) 212 [some (.ref m)] [] := by
      intro c24
      replace h := h.2.2.1 c24
      refine x_iconst_ (v := (2 : Int32)) dX13_level_212 (by decide) ?_
      exact x_iret dX13_level_213 rfl ⟨_, _, rfl, rfl, h⟩
    have kt2_3 : ((I (m + 4) (ix (I m 42))) = (34 : Int32)) → X G (dp + 0) kX13_level (oI A Q) (A.wI I) 214 [some (.ref m)] [] := by
      intro c24
      replace h := h.2.2.2.1 c24
      refine x_iconst_ (v := (3 : Int32)) dX13_level_214 (by decide) ?_
      exact x_iret dX13_level_215 rfl ⟨_, _, rfl, rfl, h⟩
    have kt2_4 : ((I (m + 4) (ix (I m 42))) = (35 : Int32)) → X G (dp + 0) kX13_level (oI A Q) (A.wI I) 216 [some (.ref m)] [] := by
      intro c24
      replace h := h.2.2.2.2.1 c24
      refine x_iconst_ (v := (4 : Int32)) dX13_level_216 (by decide) ?_
      exact x_iret dX13_level_217 rfl ⟨_, _, rfl, rfl, h⟩
    have kt2_5 : ((I (m + 4) (ix (I m 42))) = (16 : Int32) ∨ (I (m + 4) (ix (I m 42))) = (17 : Int32)) → X G (dp + 0) kX13_level (oI A Q) (A.wI I) 218 [some (.ref m)] [] := by
      intro c24
      replace h := h.2.2.2.2.2.1 c24
      refine x_iconst_ (v := (5 : Int32)) dX13_level_218 (by decide) ?_
      exact x_iret dX13_level_219 rfl ⟨_, _, rfl, rfl, h⟩
    have kt2_6 : ((I (m + 4) (ix (I m 42))) = (18 : Int32) ∨ (I (m + 4) (ix (I m 42))) = (19 : Int32) ∨ (I (m + 4) (ix (I m 42))) = (36 : Int32) ∨ (I (m + 4) (ix (I m 42))) = (37 : Int32)) → X G (dp + 0) kX13_level (oI A Q) (A.wI I) 220 [some (.ref m)] [] := by
      intro c24
      replace h := h.2.2.2.2.2.2.1 c24
      refine x_bipush_ (v := (6 : Int32)) dX13_level_220 (by decide) ?_
      exact x_iret dX13_level_222 rfl ⟨_, _, rfl, rfl, h⟩
    have kt2_7 : ((I (m + 4) (ix (I m 42))) = (1 : Int32) ∨ (I (m + 4) (ix (I m 42))) = (20 : Int32) ∨ (I (m + 4) (ix (I m 42))) = (21 : Int32)) → X G (dp + 0) kX13_level (oI A Q) (A.wI I) 223 [some (.ref m)] [] := by
      intro c24
      replace h := h.2.2.2.2.2.2.2.1 c24
      refine x_bipush_ (v := (7 : Int32)) dX13_level_223 (by decide) ?_
      exact x_iret dX13_level_225 rfl ⟨_, _, rfl, rfl, h⟩
    have kt2_8 : ((I (m + 4) (ix (I m 42))) = (38 : Int32) ∨ (I (m + 4) (ix (I m 42))) = (39 : Int32)) → X G (dp + 0) kX13_level (oI A Q) (A.wI I) 226 [some (.ref m)] [] := by
      intro c24
      replace h := h.2.2.2.2.2.2.2.2.1 c24
      refine x_bipush_ (v := (8 : Int32)) dX13_level_226 (by decide) ?_
      exact x_iret dX13_level_228 rfl ⟨_, _, rfl, rfl, h⟩
    have kt2_9 : ((I (m + 4) (ix (I m 42))) = (40 : Int32) ∨ (I (m + 4) (ix (I m 42))) = (41 : Int32) ∨ (I (m + 4) (ix (I m 42))) = (42 : Int32)) → X G (dp + 0) kX13_level (oI A Q) (A.wI I) 229 [some (.ref m)] [] := by
      intro c24
      replace h := h.2.2.2.2.2.2.2.2.2.1 c24
      refine x_bipush_ (v := (9 : Int32)) dX13_level_229 (by decide) ?_
      exact x_iret dX13_level_231 rfl ⟨_, _, rfl, rfl, h⟩
    have kd2 : (¬ (I (m + 4) (ix (I m 42))) = (14 : Int32) ∧ ¬ (I (m + 4) (ix (I m 42))) = (15 : Int32) ∧ ¬ (I (m + 4) (ix (I m 42))) = (33 : Int32) ∧ ¬ (I (m + 4) (ix (I m 42))) = (34 : Int32) ∧ ¬ (I (m + 4) (ix (I m 42))) = (35 : Int32) ∧ ¬ (I (m + 4) (ix (I m 42))) = (16 : Int32) ∧ ¬ (I (m + 4) (ix (I m 42))) = (17 : Int32) ∧ ¬ (I (m + 4) (ix (I m 42))) = (18 : Int32) ∧ ¬ (I (m + 4) (ix (I m 42))) = (19 : Int32) ∧ ¬ (I (m + 4) (ix (I m 42))) = (36 : Int32) ∧ ¬ (I (m + 4) (ix (I m 42))) = (37 : Int32) ∧ ¬ (I (m + 4) (ix (I m 42))) = (1 : Int32) ∧ ¬ (I (m + 4) (ix (I m 42))) = (20 : Int32) ∧ ¬ (I (m + 4) (ix (I m 42))) = (21 : Int32) ∧ ¬ (I (m + 4) (ix (I m 42))) = (38 : Int32) ∧ ¬ (I (m + 4) (ix (I m 42))) = (39 : Int32) ∧ ¬ (I (m + 4) (ix (I m 42))) = (40 : Int32) ∧ ¬ (I (m + 4) (ix (I m 42))) = (41 : Int32) ∧ ¬ (I (m + 4) (ix (I m 42))) = (42 : Int32)) → X G (dp + 0) kX13_level (oI A Q) (A.wI I) 232 [some (.ref m)] [] := by
      intro c24
      replace h := h.2.2.2.2.2.2.2.2.2.2 c24
      refine x_iconst_ (v := (-1 : Int32)) dX13_level_232 (by decide) ?_
      exact x_iret dX13_level_233 rfl ⟨_, _, rfl, rfl, h⟩
    refine x_sw (1 : Int32) (fun s24_0 => ?_) (fun s24_0 => ?_)
    · refine x_tableIn (off := 199) (tgt := 223) dX13_level_24 (by rw [s24_0]; decide) (by rw [s24_0]; decide) (by rw [s24_0]; rfl) (by decide) ?_
      exact kt2_7 (by simp only [s24_0]; decide)
    refine x_sw (2 : Int32) (fun s24_1 => ?_) (fun s24_1 => ?_)
    · refine x_tableIn (off := 208) (tgt := 232) dX13_level_24 (by rw [s24_1]; decide) (by rw [s24_1]; decide) (by rw [s24_1]; rfl) (by decide) ?_
      exact kd2 (by rw [s24_1]; decide)
    refine x_sw (3 : Int32) (fun s24_2 => ?_) (fun s24_2 => ?_)
    · refine x_tableIn (off := 208) (tgt := 232) dX13_level_24 (by rw [s24_2]; decide) (by rw [s24_2]; decide) (by rw [s24_2]; rfl) (by decide) ?_
      exact kd2 (by rw [s24_2]; decide)
    refine x_sw (4 : Int32) (fun s24_3 => ?_) (fun s24_3 => ?_)
    · refine x_tableIn (off := 208) (tgt := 232) dX13_level_24 (by rw [s24_3]; decide) (by rw [s24_3]; decide) (by rw [s24_3]; rfl) (by decide) ?_
      exact kd2 (by rw [s24_3]; decide)
    refine x_sw (5 : Int32) (fun s24_4 => ?_) (fun s24_4 => ?_)
    · refine x_tableIn (off := 208) (tgt := 232) dX13_level_24 (by rw [s24_4]; decide) (by rw [s24_4]; decide) (by rw [s24_4]; rfl) (by decide) ?_
      exact kd2 (by rw [s24_4]; decide)
    refine x_sw (6 : Int32) (fun s24_5 => ?_) (fun s24_5 => ?_)
    · refine x_tableIn (off := 208) (tgt := 232) dX13_level_24 (by rw [s24_5]; decide) (by rw [s24_5]; decide) (by rw [s24_5]; rfl) (by decide) ?_
      exact kd2 (by rw [s24_5]; decide)
    refine x_sw (7 : Int32) (fun s24_6 => ?_) (fun s24_6 => ?_)
    · refine x_tableIn (off := 208) (tgt := 232) dX13_level_24 (by rw [s24_6]; decide) (by rw [s24_6]; decide) (by rw [s24_6]; rfl) (by decide) ?_
      exact kd2 (by rw [s24_6]; decide)
    refine x_sw (8 : Int32) (fun s24_7 => ?_) (fun s24_7 => ?_)
    · refine x_tableIn (off := 208) (tgt := 232) dX13_level_24 (by rw [s24_7]; decide) (by rw [s24_7]; decide) (by rw [s24_7]; rfl) (by decide) ?_
      exact kd2 (by rw [s24_7]; decide)
    refine x_sw (9 : Int32) (fun s24_8 => ?_) (fun s24_8 => ?_)
    · refine x_tableIn (off := 208) (tgt := 232) dX13_level_24 (by rw [s24_8]; decide) (by rw [s24_8]; decide) (by rw [s24_8]; rfl) (by decide) ?_
      exact kd2 (by rw [s24_8]; decide)
    refine x_sw (10 : Int32) (fun s24_9 => ?_) (fun s24_9 => ?_)
    · refine x_tableIn (off := 208) (tgt := 232) dX13_level_24 (by rw [s24_9]; decide) (by rw [s24_9]; decide) (by rw [s24_9]; rfl) (by decide) ?_
      exact kd2 (by rw [s24_9]; decide)
    refine x_sw (11 : Int32) (fun s24_10 => ?_) (fun s24_10 => ?_)
    · refine x_tableIn (off := 208) (tgt := 232) dX13_level_24 (by rw [s24_10]; decide) (by rw [s24_10]; decide) (by rw [s24_10]; rfl) (by decide) ?_
      exact kd2 (by rw [s24_10]; decide)
    refine x_sw (12 : Int32) (fun s24_11 => ?_) (fun s24_11 => ?_)
    · refine x_tableIn (off := 208) (tgt := 232) dX13_level_24 (by rw [s24_11]; decide) (by rw [s24_11]; decide) (by rw [s24_11]; rfl) (by decide) ?_
      exact kd2 (by rw [s24_11]; decide)
    refine x_sw (13 : Int32) (fun s24_12 => ?_) (fun s24_12 => ?_)
    · refine x_tableIn (off := 208) (tgt := 232) dX13_level_24 (by rw [s24_12]; decide) (by rw [s24_12]; decide) (by rw [s24_12]; rfl) (by decide) ?_
      exact kd2 (by rw [s24_12]; decide)
    refine x_sw (14 : Int32) (fun s24_13 => ?_) (fun s24_13 => ?_)
    · refine x_tableIn (off := 184) (tgt := 208) dX13_level_24 (by rw [s24_13]; decide) (by rw [s24_13]; decide) (by rw [s24_13]; rfl) (by decide) ?_
      exact kt2_0 s24_13
    refine x_sw (15 : Int32) (fun s24_14 => ?_) (fun s24_14 => ?_)
    · refine x_tableIn (off := 186) (tgt := 210) dX13_level_24 (by rw [s24_14]; decide) (by rw [s24_14]; decide) (by rw [s24_14]; rfl) (by decide) ?_
      exact kt2_1 s24_14
    refine x_sw (16 : Int32) (fun s24_15 => ?_) (fun s24_15 => ?_)
    · refine x_tableIn (off := 194) (tgt := 218) dX13_level_24 (by rw [s24_15]; decide) (by rw [s24_15]; decide) (by rw [s24_15]; rfl) (by decide) ?_
      exact kt2_5 (by simp only [s24_15]; decide)
    refine x_sw (17 : Int32) (fun s24_16 => ?_) (fun s24_16 => ?_)
    · refine x_tableIn (off := 194) (tgt := 218) dX13_level_24 (by rw [s24_16]; decide) (by rw [s24_16]; decide) (by rw [s24_16]; rfl) (by decide) ?_
      exact kt2_5 (by simp only [s24_16]; decide)
    refine x_sw (18 : Int32) (fun s24_17 => ?_) (fun s24_17 => ?_)
    · refine x_tableIn (off := 196) (tgt := 220) dX13_level_24 (by rw [s24_17]; decide) (by rw [s24_17]; decide) (by rw [s24_17]; rfl) (by decide) ?_
      exact kt2_6 (by simp only [s24_17]; decide)
    refine x_sw (19 : Int32) (fun s24_18 => ?_) (fun s24_18 => ?_)
    · refine x_tableIn (off := 196) (tgt := 220) dX13_level_24 (by rw [s24_18]; decide) (by rw [s24_18]; decide) (by rw [s24_18]; rfl) (by decide) ?_
      exact kt2_6 (by simp only [s24_18]; decide)
    refine x_sw (20 : Int32) (fun s24_19 => ?_) (fun s24_19 => ?_)
    · refine x_tableIn (off := 199) (tgt := 223) dX13_level_24 (by rw [s24_19]; decide) (by rw [s24_19]; decide) (by rw [s24_19]; rfl) (by decide) ?_
      exact kt2_7 (by simp only [s24_19]; decide)
    refine x_sw (21 : Int32) (fun s24_20 => ?_) (fun s24_20 => ?_)
    · refine x_tableIn (off := 199) (tgt := 223) dX13_level_24 (by rw [s24_20]; decide) (by rw [s24_20]; decide) (by rw [s24_20]; rfl) (by decide) ?_
      exact kt2_7 (by simp only [s24_20]; decide)
    refine x_sw (22 : Int32) (fun s24_21 => ?_) (fun s24_21 => ?_)
    · refine x_tableIn (off := 208) (tgt := 232) dX13_level_24 (by rw [s24_21]; decide) (by rw [s24_21]; decide) (by rw [s24_21]; rfl) (by decide) ?_
      exact kd2 (by rw [s24_21]; decide)
    refine x_sw (23 : Int32) (fun s24_22 => ?_) (fun s24_22 => ?_)
    · refine x_tableIn (off := 208) (tgt := 232) dX13_level_24 (by rw [s24_22]; decide) (by rw [s24_22]; decide) (by rw [s24_22]; rfl) (by decide) ?_
      exact kd2 (by rw [s24_22]; decide)
    refine x_sw (24 : Int32) (fun s24_23 => ?_) (fun s24_23 => ?_)
    · refine x_tableIn (off := 208) (tgt := 232) dX13_level_24 (by rw [s24_23]; decide) (by rw [s24_23]; decide) (by rw [s24_23]; rfl) (by decide) ?_
      exact kd2 (by rw [s24_23]; decide)
    refine x_sw (25 : Int32) (fun s24_24 => ?_) (fun s24_24 => ?_)
    · refine x_tableIn (off := 208) (tgt := 232) dX13_level_24 (by rw [s24_24]; decide) (by rw [s24_24]; decide) (by rw [s24_24]; rfl) (by decide) ?_
      exact kd2 (by rw [s24_24]; decide)
    refine x_sw (26 : Int32) (fun s24_25 => ?_) (fun s24_25 => ?_)
    · refine x_tableIn (off := 208) (tgt := 232) dX13_level_24 (by rw [s24_25]; decide) (by rw [s24_25]; decide) (by rw [s24_25]; rfl) (by decide) ?_
      exact kd2 (by rw [s24_25]; decide)
    refine x_sw (27 : Int32) (fun s24_26 => ?_) (fun s24_26 => ?_)
    · refine x_tableIn (off := 208) (tgt := 232) dX13_level_24 (by rw [s24_26]; decide) (by rw [s24_26]; decide) (by rw [s24_26]; rfl) (by decide) ?_
      exact kd2 (by rw [s24_26]; decide)
    refine x_sw (28 : Int32) (fun s24_27 => ?_) (fun s24_27 => ?_)
    · refine x_tableIn (off := 208) (tgt := 232) dX13_level_24 (by rw [s24_27]; decide) (by rw [s24_27]; decide) (by rw [s24_27]; rfl) (by decide) ?_
      exact kd2 (by rw [s24_27]; decide)
    refine x_sw (29 : Int32) (fun s24_28 => ?_) (fun s24_28 => ?_)
    · refine x_tableIn (off := 208) (tgt := 232) dX13_level_24 (by rw [s24_28]; decide) (by rw [s24_28]; decide) (by rw [s24_28]; rfl) (by decide) ?_
      exact kd2 (by rw [s24_28]; decide)
    refine x_sw (30 : Int32) (fun s24_29 => ?_) (fun s24_29 => ?_)
    · refine x_tableIn (off := 208) (tgt := 232) dX13_level_24 (by rw [s24_29]; decide) (by rw [s24_29]; decide) (by rw [s24_29]; rfl) (by decide) ?_
      exact kd2 (by rw [s24_29]; decide)
    refine x_sw (31 : Int32) (fun s24_30 => ?_) (fun s24_30 => ?_)
    · refine x_tableIn (off := 208) (tgt := 232) dX13_level_24 (by rw [s24_30]; decide) (by rw [s24_30]; decide) (by rw [s24_30]; rfl) (by decide) ?_
      exact kd2 (by rw [s24_30]; decide)
    refine x_sw (32 : Int32) (fun s24_31 => ?_) (fun s24_31 => ?_)
    · refine x_tableIn (off := 208) (tgt := 232) dX13_level_24 (by rw [s24_31]; decide) (by rw [s24_31]; decide) (by rw [s24_31]; rfl) (by decide) ?_
      exact kd2 (by rw [s24_31]; decide)
    refine x_sw (33 : Int32) (fun s24_32 => ?_) (fun s24_32 => ?_)
    · refine x_tableIn (off := 188) (tgt := 212) dX13_level_24 (by rw [s24_32]; decide) (by rw [s24_32]; decide) (by rw [s24_32]; rfl) (by decide) ?_
      exact kt2_2 s24_32
    refine x_sw (34 : Int32) (fun s24_33 => ?_) (fun s24_33 => ?_)
    · refine x_tableIn (off := 190) (tgt := 214) dX13_level_24 (by rw [s24_33]; decide) (by rw [s24_33]; decide) (by rw [s24_33]; rfl) (by decide) ?_
      exact kt2_3 s24_33
    refine x_sw (35 : Int32) (fun s24_34 => ?_) (fun s24_34 => ?_)
    · refine x_tableIn (off := 192) (tgt := 216) dX13_level_24 (by rw [s24_34]; decide) (by rw [s24_34]; decide) (by rw [s24_34]; rfl) (by decide) ?_
      exact kt2_4 s24_34
    refine x_sw (36 : Int32) (fun s24_35 => ?_) (fun s24_35 => ?_)
    · refine x_tableIn (off := 196) (tgt := 220) dX13_level_24 (by rw [s24_35]; decide) (by rw [s24_35]; decide) (by rw [s24_35]; rfl) (by decide) ?_
      exact kt2_6 (by simp only [s24_35]; decide)
    refine x_sw (37 : Int32) (fun s24_36 => ?_) (fun s24_36 => ?_)
    · refine x_tableIn (off := 196) (tgt := 220) dX13_level_24 (by rw [s24_36]; decide) (by rw [s24_36]; decide) (by rw [s24_36]; rfl) (by decide) ?_
      exact kt2_6 (by simp only [s24_36]; decide)
    refine x_sw (38 : Int32) (fun s24_37 => ?_) (fun s24_37 => ?_)
    · refine x_tableIn (off := 202) (tgt := 226) dX13_level_24 (by rw [s24_37]; decide) (by rw [s24_37]; decide) (by rw [s24_37]; rfl) (by decide) ?_
      exact kt2_8 (by simp only [s24_37]; decide)
    refine x_sw (39 : Int32) (fun s24_38 => ?_) (fun s24_38 => ?_)
    · refine x_tableIn (off := 202) (tgt := 226) dX13_level_24 (by rw [s24_38]; decide) (by rw [s24_38]; decide) (by rw [s24_38]; rfl) (by decide) ?_
      exact kt2_8 (by simp only [s24_38]; decide)
    refine x_sw (40 : Int32) (fun s24_39 => ?_) (fun s24_39 => ?_)
    · refine x_tableIn (off := 205) (tgt := 229) dX13_level_24 (by rw [s24_39]; decide) (by rw [s24_39]; decide) (by rw [s24_39]; rfl) (by decide) ?_
      exact kt2_9 (by simp only [s24_39]; decide)
    refine x_sw (41 : Int32) (fun s24_40 => ?_) (fun s24_40 => ?_)
    · refine x_tableIn (off := 205) (tgt := 229) dX13_level_24 (by rw [s24_40]; decide) (by rw [s24_40]; decide) (by rw [s24_40]; rfl) (by decide) ?_
      exact kt2_9 (by simp only [s24_40]; decide)
    refine x_sw (42 : Int32) (fun s24_41 => ?_) (fun s24_41 => ?_)
    · refine x_tableIn (off := 205) (tgt := 229) dX13_level_24 (by rw [s24_41]; decide) (by rw [s24_41]; decide) (by rw [s24_41]; rfl) (by decide) ?_
      exact kt2_9 (by simp only [s24_41]; decide)
    have t24_0 := lv_neT s24_0 (a := 1) (by decide)
    have t24_1 := lv_neT s24_1 (a := 2) (by decide)
    have t24_2 := lv_neT s24_2 (a := 3) (by decide)
    have t24_3 := lv_neT s24_3 (a := 4) (by decide)
    have t24_4 := lv_neT s24_4 (a := 5) (by decide)
    have t24_5 := lv_neT s24_5 (a := 6) (by decide)
    have t24_6 := lv_neT s24_6 (a := 7) (by decide)
    have t24_7 := lv_neT s24_7 (a := 8) (by decide)
    have t24_8 := lv_neT s24_8 (a := 9) (by decide)
    have t24_9 := lv_neT s24_9 (a := 10) (by decide)
    have t24_10 := lv_neT s24_10 (a := 11) (by decide)
    have t24_11 := lv_neT s24_11 (a := 12) (by decide)
    have t24_12 := lv_neT s24_12 (a := 13) (by decide)
    have t24_13 := lv_neT s24_13 (a := 14) (by decide)
    have t24_14 := lv_neT s24_14 (a := 15) (by decide)
    have t24_15 := lv_neT s24_15 (a := 16) (by decide)
    have t24_16 := lv_neT s24_16 (a := 17) (by decide)
    have t24_17 := lv_neT s24_17 (a := 18) (by decide)
    have t24_18 := lv_neT s24_18 (a := 19) (by decide)
    have t24_19 := lv_neT s24_19 (a := 20) (by decide)
    have t24_20 := lv_neT s24_20 (a := 21) (by decide)
    have t24_21 := lv_neT s24_21 (a := 22) (by decide)
    have t24_22 := lv_neT s24_22 (a := 23) (by decide)
    have t24_23 := lv_neT s24_23 (a := 24) (by decide)
    have t24_24 := lv_neT s24_24 (a := 25) (by decide)
    have t24_25 := lv_neT s24_25 (a := 26) (by decide)
    have t24_26 := lv_neT s24_26 (a := 27) (by decide)
    have t24_27 := lv_neT s24_27 (a := 28) (by decide)
    have t24_28 := lv_neT s24_28 (a := 29) (by decide)
    have t24_29 := lv_neT s24_29 (a := 30) (by decide)
    have t24_30 := lv_neT s24_30 (a := 31) (by decide)
    have t24_31 := lv_neT s24_31 (a := 32) (by decide)
    have t24_32 := lv_neT s24_32 (a := 33) (by decide)
    have t24_33 := lv_neT s24_33 (a := 34) (by decide)
    have t24_34 := lv_neT s24_34 (a := 35) (by decide)
    have t24_35 := lv_neT s24_35 (a := 36) (by decide)
    have t24_36 := lv_neT s24_36 (a := 37) (by decide)
    have t24_37 := lv_neT s24_37 (a := 38) (by decide)
    have t24_38 := lv_neT s24_38 (a := 39) (by decide)
    have t24_39 := lv_neT s24_39 (a := 40) (by decide)
    have t24_40 := lv_neT s24_40 (a := 41) (by decide)
    have t24_41 := lv_neT s24_41 (a := 42) (by decide)
    refine x_tableOut (tgt := 232) dX13_level_24 (by omega) (by decide) ?_
    exact kd2 ⟨s24_13, s24_14, s24_32, s24_33, s24_34, s24_15, s24_16, s24_17, s24_18, s24_35, s24_36, s24_0, s24_19, s24_20, s24_37, s24_38, s24_39, s24_40, s24_41⟩
  · replace h := h.2 c10
    refine x_iconst_ (v := (-1 : Int32)) dX13_level_13 (by decide) ?_
    exact x_iret dX13_level_14 rfl ⟨_, _, rfl, rfl, h⟩
def w_X13_binds (m : Nat) (Q : xII → Prop) (I : xII) : Prop := ∀ I1 : xII, I1 = xup I m 70 ((I m 70) - (1 : Int32)) → (vp_in ((I m 70) - (1 : Int32)) 600 ∧ ((((I (m + 37) (ix ((I m 70) - (1 : Int32)))) ≤ (1 : Int32) → ∃ R3 : Int32 → xII → Prop, w_X13_step m (23 : Int32) (0 : Int32) (0 : Int32) R3 I1 ∧ (∀ (v3 : Int32) (I3 : xII), R3 v3 I3 → (∃ R4 : Int32 → xII → Prop, w_X13_step m (12 : Int32) (0 : Int32) (0 : Int32) R4 I3 ∧ (∀ (v4 : Int32) (I4 : xII), R4 v4 I4 → (vp_in (I4 m 70) 600 ∧ (vp_in (I4 (m + 38) (ix (I4 m 70))) 9000 ∧ (∀ I7 : xII, I7 = xup I4 (m + 33) (ix (I4 (m + 38) (ix (I4 m 70)))) (I4 m 60) → (∃ R8 : Int32 → xII → Prop, w_X13_step m (0 : Int32) ((1 : Int32) - (I (m + 37) (ix ((I m 70) - (1 : Int32))))) (0 : Int32) R8 I7 ∧ (∀ (v8 : Int32) (I8 : xII), R8 v8 I8 → (vp_in v4 9000 ∧ (∀ I10 : xII, I10 = xup I8 (m + 33) (ix v4) (I8 m 60) → (Q I10)))))))))))) ∧ (¬ (I (m + 37) (ix ((I m 70) - (1 : Int32)))) ≤ (1 : Int32) → ∃ R11 : Int32 → xII → Prop, w_X13_step m (10 : Int32) (I (m + 36) (ix ((I m 70) - (1 : Int32)))) (0 : Int32) R11 I1 ∧ (∀ (v11 : Int32) (I11 : xII), R11 v11 I11 → (Q I11))))))
theorem m_X13_binds (hG : xOK G) {dp : Nat} {A : xA} {m : Nat} (hM : xMo G A m) {Q : xII → Prop} {I : xII} (h : w_X13_binds m Q I) : MX G (dp + 1) kX13_binds [.ref m] (A.wI I) (oV A Q) := by
  unfold w_X13_binds at h
  refine MX.of rfl (Nat.le_of_ble_eq_true rfl) ?_
  change X _ _ _ _ _ _ [some (.ref m), none, none] _
  refine x_aload_n dX13_binds_0 rfl ?_
  refine x_dup dX13_binds_1 rfl ?_
  refine x_get (v := .int (I m 70)) hG dX13_binds_2 f_X13_285_12 (mo_t hM) rfl ?_
  refine x_iconst_ (v := (1 : Int32)) dX13_binds_5 (by decide) ?_
  refine x_isub dX13_binds_6 ?_
  refine y_put hG hM dX13_binds_7 f_X13_285_12 ⟨_, rfl, Or.inl rfl⟩ rfl rfl ⟨_, rfl⟩ (fun I1 e1 => ?_)
  replace h := h I1 e1
  refine x_aload_n dX13_binds_10 rfl ?_
  refine x_get (v := .ref (m + 37)) hG dX13_binds_11 f_X13_119_12 (mo_t hM) (congrArg va_rf (mo_P68 hM)) ?_
  refine x_aload_n dX13_binds_14 rfl ?_
  refine x_get (v := .int (I1 m 70)) hG dX13_binds_15 f_X13_285_12 (mo_t hM) rfl ?_
  refine x_eqi (v := ((I m 70) - (1 : Int32))) (xup_rs e1) ?_
  obtain ⟨o2, h⟩ := h
  refine y_iald hG dX13_binds_18 (mo_t68 hM) (mo_n68 hM) o2 ?_
  refine x_eqi (v := (I (m + 37) (ix ((I m 70) - (1 : Int32))))) (xup_ra e1 (by omega)) ?_
  refine x_istore_n dX13_binds_19 (by decide) ?_
  refine x_iload_n dX13_binds_20 rfl ?_
  refine x_iconst_ (v := (1 : Int32)) dX13_binds_21 (by decide) ?_
  refine x_icmp_le (tgt := 43) dX13_binds_22 (by decide) (fun c22 => ?_) (fun c22 => ?_)
  · replace h := h.1 c22
    refine x_aload_n dX13_binds_43 rfl ?_
    refine x_bipush_ (v := (23 : Int32)) dX13_binds_44 (by decide) ?_
    refine x_iconst_ (v := (0 : Int32)) dX13_binds_46 (by decide) ?_
    refine x_iconst_ (v := (0 : Int32)) dX13_binds_47 (by decide) ?_
    obtain ⟨R3, g3, h⟩ := h
    refine x_callV hG (Ky := kX13_step) (As := [.int (23 : Int32), .int (0 : Int32), .int (0 : Int32)]) dX13_binds_48 (mo_t hM) rfl lk_X13_401 me_X13_step is_X13_step se_X13_step rfl rfl (Nat.le_of_ble_eq_true rfl) (MX.post (m_X13_step hG hM g3) ?_)
    rintro _ _ ⟨v3, I3, rfl, rfl, h1⟩
    replace h := h v3 I3 h1
    change X _ _ _ _ (A.wI I3) _ _ (.int v3 :: _)
    refine x_pop dX13_binds_51 rfl ?_
    refine x_aload_n dX13_binds_52 rfl ?_
    refine x_bipush_ (v := (12 : Int32)) dX13_binds_53 (by decide) ?_
    refine x_iconst_ (v := (0 : Int32)) dX13_binds_55 (by decide) ?_
    refine x_iconst_ (v := (0 : Int32)) dX13_binds_56 (by decide) ?_
    obtain ⟨R4, g4, h⟩ := h
    refine x_callV hG (Ky := kX13_step) (As := [.int (12 : Int32), .int (0 : Int32), .int (0 : Int32)]) dX13_binds_57 (mo_t hM) rfl lk_X13_401 me_X13_step is_X13_step se_X13_step rfl rfl (Nat.le_of_ble_eq_true rfl) (MX.post (m_X13_step hG hM g4) ?_)
    rintro _ _ ⟨v4, I4, rfl, rfl, h1⟩
    replace h := h v4 I4 h1
    change X _ _ _ _ (A.wI I4) _ _ (.int v4 :: _)
    refine x_istore_n dX13_binds_60 (by decide) ?_
    refine x_aload_n dX13_binds_61 rfl ?_
    refine x_get (v := .ref (m + 33)) hG dX13_binds_62 f_X13_107_12 (mo_t hM) (congrArg va_rf (mo_P57 hM)) ?_
    refine x_aload_n dX13_binds_65 rfl ?_
    refine x_get (v := .ref (m + 38)) hG dX13_binds_66 f_X13_122_12 (mo_t hM) (congrArg va_rf (mo_P69 hM)) ?_
    refine x_aload_n dX13_binds_69 rfl ?_
    refine x_get (v := .int (I4 m 70)) hG dX13_binds_70 f_X13_285_12 (mo_t hM) rfl ?_
    obtain ⟨o5, h⟩ := h
    refine y_iald hG dX13_binds_73 (mo_t69 hM) (mo_n69 hM) o5 ?_
    refine x_aload_n dX13_binds_74 rfl ?_
    refine x_get (v := .int (I4 m 60)) hG dX13_binds_75 f_X13_276_12 (mo_t hM) rfl ?_
    obtain ⟨o6, h⟩ := h
    refine y_iast hG dX13_binds_78 (mo_t57 hM) (mo_aN hM) (mo_n57 hM) o6 (fun I7 e7 => ?_)
    replace h := h I7 e7
    refine x_aload_n dX13_binds_79 rfl ?_
    refine x_iconst_ (v := (0 : Int32)) dX13_binds_80 (by decide) ?_
    refine x_iconst_ (v := (1 : Int32)) dX13_binds_81 (by decide) ?_
    refine x_iload_n dX13_binds_82 rfl ?_
    refine x_isub dX13_binds_83 ?_
    refine x_iconst_ (v := (0 : Int32)) dX13_binds_84 (by decide) ?_
    obtain ⟨R8, g8, h⟩ := h
    refine x_callV hG (Ky := kX13_step) (As := [.int (0 : Int32), .int ((1 : Int32) - (I (m + 37) (ix ((I m 70) - (1 : Int32))))), .int (0 : Int32)]) dX13_binds_85 (mo_t hM) rfl lk_X13_401 me_X13_step is_X13_step se_X13_step rfl rfl (Nat.le_of_ble_eq_true rfl) (MX.post (m_X13_step hG hM g8) ?_)
    rintro _ _ ⟨v8, I8, rfl, rfl, h1⟩
    replace h := h v8 I8 h1
    change X _ _ _ _ (A.wI I8) _ _ (.int v8 :: _)
    refine x_pop dX13_binds_88 rfl ?_
    refine x_aload_n dX13_binds_89 rfl ?_
    refine x_get (v := .ref (m + 33)) hG dX13_binds_90 f_X13_107_12 (mo_t hM) (congrArg va_rf (mo_P57 hM)) ?_
    refine x_iload_n dX13_binds_93 rfl ?_
    refine x_aload_n dX13_binds_94 rfl ?_
    refine x_get (v := .int (I8 m 60)) hG dX13_binds_95 f_X13_276_12 (mo_t hM) rfl ?_
    obtain ⟨o9, h⟩ := h
    refine y_iast hG dX13_binds_98 (mo_t57 hM) (mo_aN hM) (mo_n57 hM) o9 (fun I10 e10 => ?_)
    replace h := h I10 e10
    exact x_vret dX13_binds_99 rfl ⟨_, rfl, rfl, h⟩
  · replace h := h.2 c22
    refine x_aload_n dX13_binds_25 rfl ?_
    refine x_bipush_ (v := (10 : Int32)) dX13_binds_26 (by decide) ?_
    refine x_aload_n dX13_binds_28 rfl ?_
    refine x_get (v := .ref (m + 36)) hG dX13_binds_29 f_X13_116_12 (mo_t hM) (congrArg va_rf (mo_P67 hM)) ?_
    refine x_aload_n dX13_binds_32 rfl ?_
    refine x_get (v := .int (I1 m 70)) hG dX13_binds_33 f_X13_285_12 (mo_t hM) rfl ?_
    refine x_eqi (v := ((I m 70) - (1 : Int32))) (xup_rs e1) ?_
    refine y_iald hG dX13_binds_36 (mo_t67 hM) (mo_n67 hM) o2 ?_
    refine x_eqi (v := (I (m + 36) (ix ((I m 70) - (1 : Int32))))) (xup_ra e1 (by omega)) ?_
    refine x_iconst_ (v := (0 : Int32)) dX13_binds_37 (by decide) ?_
    obtain ⟨R11, g11, h⟩ := h
    refine x_callV hG (Ky := kX13_step) (As := [.int (10 : Int32), .int (I (m + 36) (ix ((I m 70) - (1 : Int32)))), .int (0 : Int32)]) dX13_binds_38 (mo_t hM) rfl lk_X13_401 me_X13_step is_X13_step se_X13_step rfl rfl (Nat.le_of_ble_eq_true rfl) (MX.post (m_X13_step hG hM g11) ?_)
    rintro _ _ ⟨v11, I11, rfl, rfl, h1⟩
    replace h := h v11 I11 h1
    change X _ _ _ _ (A.wI I11) _ _ (.int v11 :: _)
    refine x_pop dX13_binds_41 rfl ?_
    exact x_vret dX13_binds_42 rfl ⟨_, rfl, rfl, h⟩
def w_X13_plainly (m : Nat) (pc : Int32) (Q : Int32 → xII → Prop) (I : xII) : Prop := vp_in pc 9000 ∧ (((((I (m + 32) (ix pc)) = (0 : Int32)) → vp_in (I m 72) 280000 ∧ (∀ I4 : xII, I4 = xup I (m + 39) (ix (I m 72)) (I (m + 33) (ix pc)) → (∀ I5 : xII, I5 = xup I4 m 72 ((I m 72) + (1 : Int32)) → (Q (pc + (1 : Int32)) I5)))) ∧ (((I (m + 32) (ix pc)) = (10 : Int32)) → ∀ I6 : xII, I6 = xup I m 72 ((I m 72) - (1 : Int32)) → (vp_in (((I m 72) - (1 : Int32)) - (1 : Int32)) 280000 ∧ (vp_in ((I m 72) - (1 : Int32)) 280000 ∧ (∀ I9 : xII, I9 = xup I6 (m + 39) (ix (((I m 72) - (1 : Int32)) - (1 : Int32))) (f_X13_doing (I (m + 33) (ix pc)) (I (m + 39) (ix (((I m 72) - (1 : Int32)) - (1 : Int32)))) (I (m + 39) (ix ((I m 72) - (1 : Int32))))) → (Q (pc + (1 : Int32)) I9))))) ∧ (((I (m + 32) (ix pc)) = (11 : Int32)) → vp_in ((I m 72) - (1 : Int32)) 280000 ∧ (∀ I11 : xII, I11 = xup I (m + 39) (ix ((I m 72) - (1 : Int32))) (f_X13_alone (I (m + 33) (ix pc)) (I (m + 39) (ix ((I m 72) - (1 : Int32))))) → (Q (pc + (1 : Int32)) I11))) ∧ (((I (m + 32) (ix pc)) = (23 : Int32)) → vp_in ((I m 72) - (1 : Int32)) 280000 ∧ (∀ I13 : xII, I13 = xup I (m + 39) (ix ((I m 72) - (1 : Int32))) (if (I (m + 39) (ix ((I m 72) - (1 : Int32)))) = 0 then (0 : Int32) else (1 : Int32)) → (Q (pc + (1 : Int32)) I13))) ∧ (((I (m + 32) (ix pc)) = (12 : Int32)) → Q (I (m + 33) (ix pc)) I) ∧ (((I (m + 32) (ix pc)) = (14 : Int32)) → ∀ I14 : xII, I14 = xup I m 72 ((I m 72) - (1 : Int32)) → (vp_in ((I m 72) - (1 : Int32)) 280000 ∧ (Q (if (I (m + 39) (ix ((I m 72) - (1 : Int32)))) = 0 then (pc + (1 : Int32)) else (I (m + 33) (ix pc))) I14))) ∧ ((¬ (I (m + 32) (ix pc)) = (0 : Int32) ∧ ¬ (I (m + 32) (ix pc)) = (10 : Int32) ∧ ¬ (I (m + 32) (ix pc)) = (11 : Int32) ∧ ¬ (I (m + 32) (ix pc)) = (23 : Int32) ∧ ¬ (I (m + 32) (ix pc)) = (12 : Int32) ∧ ¬ (I (m + 32) (ix pc)) = (14 : Int32)) → ∀ I16 : xII, I16 = xup I m 72 ((I m 72) - (1 : Int32)) → (vp_in ((I m 72) - (1 : Int32)) 280000 ∧ (Q (if (I (m + 39) (ix ((I m 72) - (1 : Int32)))) = 0 then (I (m + 33) (ix pc)) else (pc + (1 : Int32))) I16)))))
theorem m_X13_plainly (hG : xOK G) {dp : Nat} {A : xA} {m : Nat} (hM : xMo G A m) {pc : Int32} {Q : Int32 → xII → Prop} {I : xII} (h : w_X13_plainly m pc Q I) : MX G (dp + 2) kX13_plainly [.ref m, .int pc] (A.wI I) (oI A Q) := by
  unfold w_X13_plainly at h
  refine MX.of rfl (Nat.le_of_ble_eq_true rfl) ?_
  change X _ _ _ _ _ _ [some (.ref m), some (.int pc), none] _
  refine x_aload_n dX13_plainly_0 rfl ?_
  refine x_get (v := .ref (m + 33)) hG dX13_plainly_1 f_X13_107_12 (mo_t hM) (congrArg va_rf (mo_P57 hM)) ?_
  refine x_iload_n dX13_plainly_4 rfl ?_
  obtain ⟨o1, h⟩ := h
  refine y_iald hG dX13_plainly_5 (mo_t57 hM) (mo_n57 hM) o1 ?_
  refine x_istore_n dX13_plainly_6 (by decide) ?_
  refine x_aload_n dX13_plainly_7 rfl ?_
  refine x_get (v := .ref (m + 32)) hG dX13_plainly_8 f_X13_104_12 (mo_t hM) (congrArg va_rf (mo_P56 hM)) ?_
  refine x_iload_n dX13_plainly_11 rfl ?_
  refine y_iald hG dX13_plainly_12 (mo_t56 hM) (mo_n56 hM) o1 ?_
  have kt2_0 : ((I (m + 32) (ix pc)) = (0 : Int32)) → X G (dp + 2) kX13_plainly (oI A Q) (A.wI I) 72 [some (.ref m), some (.int pc), some (.int (I (m + 33) (ix pc)))] [] := by
    intro c13
    replace h := h.1 c13
    refine x_aload_n dX13_plainly_72 rfl ?_
    refine x_get (v := .ref (m + 39)) hG dX13_plainly_73 f_X13_126_12 (mo_t hM) (congrArg va_rf (mo_P71 hM)) ?_
    refine x_aload_n dX13_plainly_76 rfl ?_
    refine x_get (v := .int (I m 72)) hG dX13_plainly_77 f_X13_497_12 (mo_t hM) rfl ?_
    refine x_iload_n dX13_plainly_80 rfl ?_
    obtain ⟨o3, h⟩ := h
    refine y_iast hG dX13_plainly_81 (mo_t71 hM) (mo_aN hM) (mo_n71 hM) o3 (fun I4 e4 => ?_)
    replace h := h I4 e4
    refine x_aload_n dX13_plainly_82 rfl ?_
    refine x_dup dX13_plainly_83 rfl ?_
    refine x_get (v := .int (I4 m 72)) hG dX13_plainly_84 f_X13_497_12 (mo_t hM) rfl ?_
    refine x_eqi (v := (I m 72)) (xup_ra e4 (by omega)) ?_
    refine x_iconst_ (v := (1 : Int32)) dX13_plainly_87 (by decide) ?_
    refine x_iadd dX13_plainly_88 ?_
    refine y_put hG hM dX13_plainly_89 f_X13_497_12 ⟨_, rfl, Or.inl rfl⟩ rfl rfl ⟨_, rfl⟩ (fun I5 e5 => ?_)
    replace h := h I5 e5
    refine x_iload_n dX13_plainly_92 rfl ?_
    refine x_iconst_ (v := (1 : Int32)) dX13_plainly_93 (by decide) ?_
    refine x_iadd dX13_plainly_94 ?_
    exact x_iret dX13_plainly_95 rfl ⟨_, _, rfl, rfl, h⟩
  have kt2_1 : ((I (m + 32) (ix pc)) = (10 : Int32)) → X G (dp + 2) kX13_plainly (oI A Q) (A.wI I) 96 [some (.ref m), some (.int pc), some (.int (I (m + 33) (ix pc)))] [] := by
    intro c13
    replace h := h.2.1 c13
    refine x_aload_n dX13_plainly_96 rfl ?_
    refine x_dup dX13_plainly_97 rfl ?_
    refine x_get (v := .int (I m 72)) hG dX13_plainly_98 f_X13_497_12 (mo_t hM) rfl ?_
    refine x_iconst_ (v := (1 : Int32)) dX13_plainly_101 (by decide) ?_
    refine x_isub dX13_plainly_102 ?_
    refine y_put hG hM dX13_plainly_103 f_X13_497_12 ⟨_, rfl, Or.inl rfl⟩ rfl rfl ⟨_, rfl⟩ (fun I6 e6 => ?_)
    replace h := h I6 e6
    refine x_aload_n dX13_plainly_106 rfl ?_
    refine x_get (v := .ref (m + 39)) hG dX13_plainly_107 f_X13_126_12 (mo_t hM) (congrArg va_rf (mo_P71 hM)) ?_
    refine x_aload_n dX13_plainly_110 rfl ?_
    refine x_get (v := .int (I6 m 72)) hG dX13_plainly_111 f_X13_497_12 (mo_t hM) rfl ?_
    refine x_eqi (v := ((I m 72) - (1 : Int32))) (xup_rs e6) ?_
    refine x_iconst_ (v := (1 : Int32)) dX13_plainly_114 (by decide) ?_
    refine x_isub dX13_plainly_115 ?_
    refine x_iload_n dX13_plainly_116 rfl ?_
    refine x_aload_n dX13_plainly_117 rfl ?_
    refine x_get (v := .ref (m + 39)) hG dX13_plainly_118 f_X13_126_12 (mo_t hM) (congrArg va_rf (mo_P71 hM)) ?_
    refine x_aload_n dX13_plainly_121 rfl ?_
    refine x_get (v := .int (I6 m 72)) hG dX13_plainly_122 f_X13_497_12 (mo_t hM) rfl ?_
    refine x_eqi (v := ((I m 72) - (1 : Int32))) (xup_rs e6) ?_
    refine x_iconst_ (v := (1 : Int32)) dX13_plainly_125 (by decide) ?_
    refine x_isub dX13_plainly_126 ?_
    obtain ⟨o7, h⟩ := h
    refine y_iald hG dX13_plainly_127 (mo_t71 hM) (mo_n71 hM) o7 ?_
    refine x_eqi (v := (I (m + 39) (ix (((I m 72) - (1 : Int32)) - (1 : Int32))))) (xup_ra e6 (by omega)) ?_
    refine x_aload_n dX13_plainly_128 rfl ?_
    refine x_get (v := .ref (m + 39)) hG dX13_plainly_129 f_X13_126_12 (mo_t hM) (congrArg va_rf (mo_P71 hM)) ?_
    refine x_aload_n dX13_plainly_132 rfl ?_
    refine x_get (v := .int (I6 m 72)) hG dX13_plainly_133 f_X13_497_12 (mo_t hM) rfl ?_
    refine x_eqi (v := ((I m 72) - (1 : Int32))) (xup_rs e6) ?_
    obtain ⟨o8, h⟩ := h
    refine y_iald hG dX13_plainly_136 (mo_t71 hM) (mo_n71 hM) o8 ?_
    refine x_eqi (v := (I (m + 39) (ix ((I m 72) - (1 : Int32))))) (xup_ra e6 (by omega)) ?_
    refine x_callS hG (Ky := kX13_doing) (As := [.int (I (m + 33) (ix pc)), .int (I (m + 39) (ix (((I m 72) - (1 : Int32)) - (1 : Int32)))), .int (I (m + 39) (ix ((I m 72) - (1 : Int32))))]) dX13_plainly_137 lk_X13_500 me_X13_doing st_X13_doing rfl rfl (Nat.le_of_ble_eq_true rfl) (MX.post (m_X13_doing hG pp_X13_doing) ?_)
    rintro _ _ ⟨rfl, rfl⟩
    change X _ _ _ _ _ _ _ (.int (f_X13_doing (I (m + 33) (ix pc)) (I (m + 39) (ix (((I m 72) - (1 : Int32)) - (1 : Int32)))) (I (m + 39) (ix ((I m 72) - (1 : Int32))))) :: _)
    refine y_iast hG dX13_plainly_140 (mo_t71 hM) (mo_aN hM) (mo_n71 hM) o7 (fun I9 e9 => ?_)
    replace h := h I9 e9
    refine x_iload_n dX13_plainly_141 rfl ?_
    refine x_iconst_ (v := (1 : Int32)) dX13_plainly_142 (by decide) ?_
    refine x_iadd dX13_plainly_143 ?_
    exact x_iret dX13_plainly_144 rfl ⟨_, _, rfl, rfl, h⟩
  have kt2_2 : ((I (m + 32) (ix pc)) = (11 : Int32)) → X G (dp + 2) kX13_plainly (oI A Q) (A.wI I) 145 [some (.ref m), some (.int pc), some (.int (I (m + 33) (ix pc)))] [] := by
    intro c13
    replace h := h.2.2.1 c13
    refine x_aload_n dX13_plainly_145 rfl ?_
    refine x_get (v := .ref (m + 39)) hG dX13_plainly_146 f_X13_126_12 (mo_t hM) (congrArg va_rf (mo_P71 hM)) ?_
    refine x_aload_n dX13_plainly_149 rfl ?_
    refine x_get (v := .int (I m 72)) hG dX13_plainly_150 f_X13_497_12 (mo_t hM) rfl ?_
    refine x_iconst_ (v := (1 : Int32)) dX13_plainly_153 (by decide) ?_
    refine x_isub dX13_plainly_154 ?_
    refine x_iload_n dX13_plainly_155 rfl ?_
    refine x_aload_n dX13_plainly_156 rfl ?_
    refine x_get (v := .ref (m + 39)) hG dX13_plainly_157 f_X13_126_12 (mo_t hM) (congrArg va_rf (mo_P71 hM)) ?_
    refine x_aload_n dX13_plainly_160 rfl ?_
    refine x_get (v := .int (I m 72)) hG dX13_plainly_161 f_X13_497_12 (mo_t hM) rfl ?_
    refine x_iconst_ (v := (1 : Int32)) dX13_plainly_164 (by decide) ?_
    refine x_isub dX13_plainly_165 ?_
    obtain ⟨o10, h⟩ := h
    refine y_iald hG dX13_plainly_166 (mo_t71 hM) (mo_n71 hM) o10 ?_
    refine x_callS hG (Ky := kX13_alone) (As := [.int (I (m + 33) (ix pc)), .int (I (m + 39) (ix ((I m 72) - (1 : Int32))))]) dX13_plainly_167 lk_X13_503 me_X13_alone st_X13_alone rfl rfl (Nat.le_of_ble_eq_true rfl) (MX.post (m_X13_alone hG) ?_)
    rintro _ _ ⟨rfl, rfl⟩
    change X _ _ _ _ _ _ _ (.int (f_X13_alone (I (m + 33) (ix pc)) (I (m + 39) (ix ((I m 72) - (1 : Int32))))) :: _)
    refine y_iast hG dX13_plainly_170 (mo_t71 hM) (mo_aN hM) (mo_n71 hM) o10 (fun I11 e11 => ?_)
    replace h := h I11 e11
    refine x_iload_n dX13_plainly_171 rfl ?_
    refine x_iconst_ (v := (1 : Int32)) dX13_plainly_172 (by decide) ?_
    refine x_iadd dX13_plainly_173 ?_
    exact x_iret dX13_plainly_174 rfl ⟨_, _, rfl, rfl, h⟩
  have kt2_3 : ((I (m + 32) (ix pc)) = (23 : Int32)) → X G (dp + 2) kX13_plainly (oI A Q) (A.wI I) 175 [some (.ref m), some (.int pc), some (.int (I (m + 33) (ix pc)))] [] := by
    intro c13
    replace h := h.2.2.2.1 c13
    refine x_aload_n dX13_plainly_175 rfl ?_
    refine x_get (v := .ref (m + 39)) hG dX13_plainly_176 f_X13_126_12 (mo_t hM) (congrArg va_rf (mo_P71 hM)) ?_
    refine x_aload_n dX13_plainly_179 rfl ?_
    refine x_get (v := .int (I m 72)) hG dX13_plainly_180 f_X13_497_12 (mo_t hM) rfl ?_
    refine x_iconst_ (v := (1 : Int32)) dX13_plainly_183 (by decide) ?_
    refine x_isub dX13_plainly_184 ?_
    refine x_aload_n dX13_plainly_185 rfl ?_
    refine x_get (v := .ref (m + 39)) hG dX13_plainly_186 f_X13_126_12 (mo_t hM) (congrArg va_rf (mo_P71 hM)) ?_
    refine x_aload_n dX13_plainly_189 rfl ?_
    refine x_get (v := .int (I m 72)) hG dX13_plainly_190 f_X13_497_12 (mo_t hM) rfl ?_
    refine x_iconst_ (v := (1 : Int32)) dX13_plainly_193 (by decide) ?_
    refine x_isub dX13_plainly_194 ?_
    obtain ⟨o12, h⟩ := h
    refine y_iald hG dX13_plainly_195 (mo_t71 hM) (mo_n71 hM) o12 ?_
    refine x_via 204 (A' := (A.wI I)) (lv' := [none, some (.int pc), none]) (st' := [.int (if (I (m + 39) (ix ((I m 72) - (1 : Int32)))) = 0 then (0 : Int32) else (1 : Int32)), .int ((I m 72) - (1 : Int32)), .ref (m + 39)]) ?_ (fun k204 => ?_)
    rotate_left
    · refine x_if_eq (tgt := 203) dX13_plainly_196 (by decide) (fun c196 => ?_) (fun c196 => ?_)
      · refine x_iconst_ (v := (0 : Int32)) dX13_plainly_203 (by decide) ?_
        change X _ _ _ _ _ _ [some (.ref m), some (.int pc), some (.int (I (m + 33) (ix pc)))] [.int (0 : Int32), .int ((I m 72) - (1 : Int32)), .ref (m + 39)]
        simp only [if_pos c196] at k204 ⊢
        exact X.weak (xle_n (xle_c rfl (xle_n xle_nil))) k204
      · refine x_iconst_ (v := (1 : Int32)) dX13_plainly_199 (by decide) ?_
        refine x_goto (tgt := 204) dX13_plainly_200 (by decide) ?_
        change X _ _ _ _ _ _ [some (.ref m), some (.int pc), some (.int (I (m + 33) (ix pc)))] [.int (1 : Int32), .int ((I m 72) - (1 : Int32)), .ref (m + 39)]
        simp only [if_neg c196] at k204 ⊢
        exact X.weak (xle_n (xle_c rfl (xle_n xle_nil))) k204
    refine y_iast hG dX13_plainly_204 (mo_t71 hM) (mo_aN hM) (mo_n71 hM) o12 (fun I13 e13 => ?_)
    replace h := h I13 e13
    refine x_iload_n dX13_plainly_205 rfl ?_
    refine x_iconst_ (v := (1 : Int32)) dX13_plainly_206 (by decide) ?_
    refine x_iadd dX13_plainly_207 ?_
    exact x_iret dX13_plainly_208 rfl ⟨_, _, rfl, rfl, h⟩
  have kt2_4 : ((I (m + 32) (ix pc)) = (12 : Int32)) → X G (dp + 2) kX13_plainly (oI A Q) (A.wI I) 209 [some (.ref m), some (.int pc), some (.int (I (m + 33) (ix pc)))] [] := by
    intro c13
    replace h := h.2.2.2.2.1 c13
    refine x_iload_n dX13_plainly_209 rfl ?_
    exact x_iret dX13_plainly_210 rfl ⟨_, _, rfl, rfl, h⟩
  have kt2_5 : ((I (m + 32) (ix pc)) = (14 : Int32)) → X G (dp + 2) kX13_plainly (oI A Q) (A.wI I) 211 [some (.ref m), some (.int pc), some (.int (I (m + 33) (ix pc)))] [] := by
    intro c13
    replace h := h.2.2.2.2.2.1 c13
    refine x_aload_n dX13_plainly_211 rfl ?_
    refine x_dup dX13_plainly_212 rfl ?_
    refine x_get (v := .int (I m 72)) hG dX13_plainly_213 f_X13_497_12 (mo_t hM) rfl ?_
    refine x_iconst_ (v := (1 : Int32)) dX13_plainly_216 (by decide) ?_
    refine x_isub dX13_plainly_217 ?_
    refine y_put hG hM dX13_plainly_218 f_X13_497_12 ⟨_, rfl, Or.inl rfl⟩ rfl rfl ⟨_, rfl⟩ (fun I14 e14 => ?_)
    replace h := h I14 e14
    refine x_aload_n dX13_plainly_221 rfl ?_
    refine x_get (v := .ref (m + 39)) hG dX13_plainly_222 f_X13_126_12 (mo_t hM) (congrArg va_rf (mo_P71 hM)) ?_
    refine x_aload_n dX13_plainly_225 rfl ?_
    refine x_get (v := .int (I14 m 72)) hG dX13_plainly_226 f_X13_497_12 (mo_t hM) rfl ?_
    refine x_eqi (v := ((I m 72) - (1 : Int32))) (xup_rs e14) ?_
    obtain ⟨o15, h⟩ := h
    refine y_iald hG dX13_plainly_229 (mo_t71 hM) (mo_n71 hM) o15 ?_
    refine x_eqi (v := (I (m + 39) (ix ((I m 72) - (1 : Int32))))) (xup_ra e14 (by omega)) ?_
    refine x_via 240 (A' := (A.wI I14)) (lv' := [none, none, none]) (st' := [.int (if (I (m + 39) (ix ((I m 72) - (1 : Int32)))) = 0 then (pc + (1 : Int32)) else (I (m + 33) (ix pc)))]) ?_ (fun k240 => ?_)
    rotate_left
    · refine x_if_eq (tgt := 237) dX13_plainly_230 (by decide) (fun c230 => ?_) (fun c230 => ?_)
      · refine x_iload_n dX13_plainly_237 rfl ?_
        refine x_iconst_ (v := (1 : Int32)) dX13_plainly_238 (by decide) ?_
        refine x_iadd dX13_plainly_239 ?_
        change X _ _ _ _ _ _ [some (.ref m), some (.int pc), some (.int (I (m + 33) (ix pc)))] [.int (pc + (1 : Int32))]
        simp only [if_pos c230] at k240 ⊢
        exact X.weak (xle_n (xle_n (xle_n xle_nil))) k240
      · refine x_iload_n dX13_plainly_233 rfl ?_
        refine x_goto (tgt := 240) dX13_plainly_234 (by decide) ?_
        change X _ _ _ _ _ _ [some (.ref m), some (.int pc), some (.int (I (m + 33) (ix pc)))] [.int (I (m + 33) (ix pc))]
        simp only [if_neg c230] at k240 ⊢
        exact X.weak (xle_n (xle_n (xle_n xle_nil))) k240
    exact x_iret dX13_plainly_240 rfl ⟨_, _, rfl, rfl, h⟩
  have kd2 : (¬ (I (m + 32) (ix pc)) = (0 : Int32) ∧ ¬ (I (m + 32) (ix pc)) = (10 : Int32) ∧ ¬ (I (m + 32) (ix pc)) = (11 : Int32) ∧ ¬ (I (m + 32) (ix pc)) = (23 : Int32) ∧ ¬ (I (m + 32) (ix pc)) = (12 : Int32) ∧ ¬ (I (m + 32) (ix pc)) = (14 : Int32)) → X G (dp + 2) kX13_plainly (oI A Q) (A.wI I) 241 [some (.ref m), some (.int pc), some (.int (I (m + 33) (ix pc)))] [] := by
    intro c13
    replace h := h.2.2.2.2.2.2 c13
    refine x_aload_n dX13_plainly_241 rfl ?_
    refine x_dup dX13_plainly_242 rfl ?_
    refine x_get (v := .int (I m 72)) hG dX13_plainly_243 f_X13_497_12 (mo_t hM) rfl ?_
    refine x_iconst_ (v := (1 : Int32)) dX13_plainly_246 (by decide) ?_
    refine x_isub dX13_plainly_247 ?_
    refine y_put hG hM dX13_plainly_248 f_X13_497_12 ⟨_, rfl, Or.inl rfl⟩ rfl rfl ⟨_, rfl⟩ (fun I16 e16 => ?_)
    replace h := h I16 e16
    refine x_aload_n dX13_plainly_251 rfl ?_
    refine x_get (v := .ref (m + 39)) hG dX13_plainly_252 f_X13_126_12 (mo_t hM) (congrArg va_rf (mo_P71 hM)) ?_
    refine x_aload_n dX13_plainly_255 rfl ?_
    refine x_get (v := .int (I16 m 72)) hG dX13_plainly_256 f_X13_497_12 (mo_t hM) rfl ?_
    refine x_eqi (v := ((I m 72) - (1 : Int32))) (xup_rs e16) ?_
    obtain ⟨o17, h⟩ := h
    refine y_iald hG dX13_plainly_259 (mo_t71 hM) (mo_n71 hM) o17 ?_
    refine x_eqi (v := (I (m + 39) (ix ((I m 72) - (1 : Int32))))) (xup_ra e16 (by omega)) ?_
    refine x_via 270 (A' := (A.wI I16)) (lv' := [none, none, none]) (st' := [.int (if (I (m + 39) (ix ((I m 72) - (1 : Int32)))) = 0 then (I (m + 33) (ix pc)) else (pc + (1 : Int32)))]) ?_ (fun k270 => ?_)
    rotate_left
    · refine x_if_ne (tgt := 267) dX13_plainly_260 (by decide) (fun c260 => ?_) (fun c260 => ?_)
      · refine x_iload_n dX13_plainly_267 rfl ?_
        refine x_iconst_ (v := (1 : Int32)) dX13_plainly_268 (by decide) ?_
        refine x_iadd dX13_plainly_269 ?_
        change X _ _ _ _ _ _ [some (.ref m), some (.int pc), some (.int (I (m + 33) (ix pc)))] [.int (pc + (1 : Int32))]
        simp only [if_neg c260] at k270 ⊢
        exact X.weak (xle_n (xle_n (xle_n xle_nil))) k270
      · refine x_iload_n dX13_plainly_263 rfl ?_
        refine x_goto (tgt := 270) dX13_plainly_264 (by decide) ?_
        change X _ _ _ _ _ _ [some (.ref m), some (.int pc), some (.int (I (m + 33) (ix pc)))] [.int (I (m + 33) (ix pc))]
        simp only [if_pos c260] at k270 ⊢
        exact X.weak (xle_n (xle_n (xle_n xle_nil))) k270
    exact x_iret dX13_plainly_270 rfl ⟨_, _, rfl, rfl, h⟩
  refine x_sw (0 : Int32) (fun s13_0 => ?_) (fun s13_0 => ?_)
  · refine x_lookup (off := 59) (tgt := 72) dX13_plainly_13 (by decide) (by rw [s13_0]; rfl) (by decide) ?_
    exact kt2_0 s13_0
  refine x_sw (10 : Int32) (fun s13_1 => ?_) (fun s13_1 => ?_)
  · refine x_lookup (off := 83) (tgt := 96) dX13_plainly_13 (by decide) (by rw [s13_1]; rfl) (by decide) ?_
    exact kt2_1 s13_1
  refine x_sw (11 : Int32) (fun s13_2 => ?_) (fun s13_2 => ?_)
  · refine x_lookup (off := 132) (tgt := 145) dX13_plainly_13 (by decide) (by rw [s13_2]; rfl) (by decide) ?_
    exact kt2_2 s13_2
  refine x_sw (12 : Int32) (fun s13_3 => ?_) (fun s13_3 => ?_)
  · refine x_lookup (off := 196) (tgt := 209) dX13_plainly_13 (by decide) (by rw [s13_3]; rfl) (by decide) ?_
    exact kt2_4 s13_3
  refine x_sw (14 : Int32) (fun s13_4 => ?_) (fun s13_4 => ?_)
  · refine x_lookup (off := 198) (tgt := 211) dX13_plainly_13 (by decide) (by rw [s13_4]; rfl) (by decide) ?_
    exact kt2_5 s13_4
  refine x_sw (23 : Int32) (fun s13_5 => ?_) (fun s13_5 => ?_)
  · refine x_lookup (off := 162) (tgt := 175) dX13_plainly_13 (by decide) (by rw [s13_5]; rfl) (by decide) ?_
    exact kt2_3 s13_5
  refine x_lookup (off := 228) (tgt := 241) dX13_plainly_13 (by decide) (by show Op.lookupswitch.offset [(0, 59), (10, 83), (11, 132), (12, 196), (14, 198), (23, 162)] _ _ = _; rw [lv_osw s13_0 (by decide), lv_osw s13_1 (by decide), lv_osw s13_2 (by decide), lv_osw s13_3 (by decide), lv_osw s13_4 (by decide), lv_osw s13_5 (by decide)]; rfl) (by decide) ?_
  exact kd2 ⟨s13_0, s13_1, s13_2, s13_5, s13_3, s13_4⟩
def w_X13_reckon (m : Nat) (f : Int32) (Q : Int32 → xII → Prop) (I : xII) : Prop := ∀ I1 : xII, I1 = xup I m 72 (0 : Int32) → (∃ L2 : Nat → Int32 → xII → Prop, (∃ n2 : Nat, L2 n2 f I1) ∧ (∀ (n2 : Nat) (y2_2 : Int32) (I2 : xII), L2 n2 y2_2 I2 → (((I2 m 60) ≤ y2_2 → vp_in (0 : Int32) 280000 ∧ (Q (I2 (m + 39) 0) I2)) ∧ (¬ (I2 m 60) ≤ y2_2 → ∃ R4 : Int32 → xII → Prop, w_X13_plainly m y2_2 R4 I2 ∧ (∀ (v4 : Int32) (I4 : xII), R4 v4 I4 → ((∃ q2 : Nat, q2 < n2 ∧ L2 q2 v4 I4)))))))
theorem m_X13_reckon (hG : xOK G) {dp : Nat} {A : xA} {m : Nat} (hM : xMo G A m) {f : Int32} {Q : Int32 → xII → Prop} {I : xII} (h : w_X13_reckon m f Q I) : MX G (dp + 3) kX13_reckon [.ref m, .int f] (A.wI I) (oI A Q) := by
  unfold w_X13_reckon at h
  refine MX.of rfl (Nat.le_of_ble_eq_true rfl) ?_
  change X _ _ _ _ _ _ [some (.ref m), some (.int f), none] _
  refine x_aload_n dX13_reckon_0 rfl ?_
  refine x_iconst_ (v := (0 : Int32)) dX13_reckon_1 (by decide) ?_
  refine y_put hG hM dX13_reckon_2 f_X13_497_12 ⟨_, rfl, Or.inl rfl⟩ rfl rfl ⟨_, rfl⟩ (fun I1 e1 => ?_)
  replace h := h I1 e1
  refine x_iload_n dX13_reckon_5 rfl ?_
  refine x_istore_n dX13_reckon_6 (by decide) ?_
  obtain ⟨L2, ⟨n2, i2⟩, g2⟩ := h
  have kl2 : ∀ n2 : Nat, ∀ (y2_2 : Int32) (I2 : xII), L2 n2 y2_2 I2 → X G (dp + 3) kX13_reckon (oI A Q) (A.wI I2) 7 [some (.ref m), none, some (.int y2_2)] [] := by
    intro n2
    induction n2 using Nat.strongRecOn with
    | ind n2 ih2 =>
      intro y2_2 I2 h
      replace h := g2 n2 y2_2 I2 h
      refine x_iload_n dX13_reckon_7 rfl ?_
      refine x_aload_n dX13_reckon_8 rfl ?_
      refine x_get (v := .int (I2 m 60)) hG dX13_reckon_9 f_X13_276_12 (mo_t hM) rfl ?_
      refine x_icmp_ge (tgt := 24) dX13_reckon_12 (by decide) (fun c12 => ?_) (fun c12 => ?_)
      · replace h := h.1 c12
        refine x_aload_n dX13_reckon_24 rfl ?_
        refine x_get (v := .ref (m + 39)) hG dX13_reckon_25 f_X13_126_12 (mo_t hM) (congrArg va_rf (mo_P71 hM)) ?_
        refine x_iconst_ (v := (0 : Int32)) dX13_reckon_28 (by decide) ?_
        obtain ⟨o3, h⟩ := h
        refine y_iald hG dX13_reckon_29 (mo_t71 hM) (mo_n71 hM) o3 ?_
        refine x_eqi (v := (I2 (m + 39) 0)) rfl ?_
        exact x_iret dX13_reckon_30 rfl ⟨_, _, rfl, rfl, h⟩
      · replace h := h.2 c12
        refine x_aload_n dX13_reckon_15 rfl ?_
        refine x_iload_n dX13_reckon_16 rfl ?_
        obtain ⟨R4, g4, h⟩ := h
        refine x_callV hG (Ky := kX13_plainly) (As := [.int y2_2]) dX13_reckon_17 (mo_t hM) rfl lk_X13_506 me_X13_plainly is_X13_plainly se_X13_plainly rfl rfl (Nat.le_of_ble_eq_true rfl) (MX.post (m_X13_plainly hG hM g4) ?_)
        rintro _ _ ⟨v4, I4, rfl, rfl, h1⟩
        replace h := h v4 I4 h1
        change X _ _ _ _ (A.wI I4) _ _ (.int v4 :: _)
        refine x_istore_n dX13_reckon_20 (by decide) ?_
        refine x_goto (tgt := 7) dX13_reckon_21 (by decide) ?_
        obtain ⟨q2, l2, h⟩ := h
        change X _ _ _ _ _ _ [some (.ref m), none, some (.int v4)] []
        exact X.weak (xle_c rfl (xle_n (xle_c rfl xle_nil))) (ih2 q2 l2 v4 I4 h)
  change X _ _ _ _ _ _ [some (.ref m), some (.int f), some (.int f)] []
  exact X.weak (xle_c rfl (xle_n (xle_c rfl xle_nil))) (kl2 n2 f I1 i2)
def w_X13_globalAt (m : Nat) (n : Int32) (Q : Int32 → xII → Prop) (I : xII) : Prop := ∃ R1 : xII → Prop, w_X13_twice m n R1 I ∧ (∀ I1 : xII, R1 I1 → (∀ I2 : xII, I2 = xup I1 m 36 ((I1 m 36) + (1 : Int32)) → (∃ J3 : xII → Prop, (∀ (I3 : xII), J3 I3 → ∃ J4 : xII → Prop, (∀ (I4 : xII), J4 I4 → (((2000 : Int32) ≤ (I1 m 36) → Q (I1 m 36) I4) ∧ (¬ (2000 : Int32) ≤ (I1 m 36) → vp_in (I4 m 37) 8008 ∧ (∀ I6 : xII, I6 = xup I4 (m + 31) (ix (I4 m 37)) (0 : Int32) → (∀ I7 : xII, I7 = xup I6 m 37 ((I4 m 37) + (1 : Int32)) → (Q (I1 m 36) I7)))))) ∧ (((2000 : Int32) < (I1 m 36) → J4 I3) ∧ (¬ (2000 : Int32) < (I1 m 36) → vp_in (I1 m 36) 2001 ∧ (∀ I9 : xII, I9 = xup I3 (m + 28) (ix (I1 m 36)) (1 : Int32) → (∀ I10 : xII, I10 = xup I9 (m + 30) (ix (I1 m 36)) (0 : Int32) → (∀ I11 : xII, I11 = xup I10 (m + 29) (ix (I1 m 36)) (I3 m 37) → (J4 I11))))))) ∧ ((((I1 m 36) + (1 : Int32)) ≤ (2000 : Int32) → J3 I2) ∧ (¬ ((I1 m 36) + (1 : Int32)) ≤ (2000 : Int32) → vp_in n 4002 ∧ (∃ R13 : xII → Prop, w_X13_note m (11 : Int32) (I1 (m + 5) (ix n)) R13 I2 ∧ (∀ I13 : xII, R13 I13 → (J3 I13))))))))
theorem m_X13_globalAt (hG : xOK G) {dp : Nat} {A : xA} {m : Nat} (hM : xMo G A m) {n : Int32} {Q : Int32 → xII → Prop} {I : xII} (h : w_X13_globalAt m n Q I) : MX G (dp + 3) kX13_globalAt [.ref m, .int n] (A.wI I) (oI A Q) := by
  unfold w_X13_globalAt at h
  refine MX.of rfl (Nat.le_of_ble_eq_true rfl) ?_
  change X _ _ _ _ _ _ [some (.ref m), some (.int n), none] _
  refine x_aload_n dX13_globalAt_0 rfl ?_
  refine x_iload_n dX13_globalAt_1 rfl ?_
  obtain ⟨R1, g1, h⟩ := h
  refine x_callV hG (Ky := kX13_twice) (As := [.int n]) dX13_globalAt_2 (mo_t hM) rfl lk_X13_348 me_X13_twice is_X13_twice se_X13_twice rfl rfl (Nat.le_of_ble_eq_true rfl) (MX.post (m_X13_twice hG hM g1) ?_)
  rintro _ _ ⟨I1, rfl, rfl, h1⟩
  replace h := h I1 h1
  change X _ _ _ _ (A.wI I1) _ _ _
  refine x_aload_n dX13_globalAt_5 rfl ?_
  refine x_get (v := .int (I1 m 36)) hG dX13_globalAt_6 f_X13_288_12 (mo_t hM) rfl ?_
  refine x_istore_n dX13_globalAt_9 (by decide) ?_
  refine x_aload_n dX13_globalAt_10 rfl ?_
  refine x_dup dX13_globalAt_11 rfl ?_
  refine x_get (v := .int (I1 m 36)) hG dX13_globalAt_12 f_X13_288_12 (mo_t hM) rfl ?_
  refine x_iconst_ (v := (1 : Int32)) dX13_globalAt_15 (by decide) ?_
  refine x_iadd dX13_globalAt_16 ?_
  refine y_put hG hM dX13_globalAt_17 f_X13_288_12 ⟨_, rfl, Or.inl rfl⟩ rfl rfl ⟨_, rfl⟩ (fun I2 e2 => ?_)
  replace h := h I2 e2
  refine x_aload_n dX13_globalAt_20 rfl ?_
  refine x_get (v := .int (I2 m 36)) hG dX13_globalAt_21 f_X13_288_12 (mo_t hM) rfl ?_
  refine x_eqi (v := ((I1 m 36) + (1 : Int32))) (xup_rs e2) ?_
  refine x_sipush_ (v := (2000 : Int32)) dX13_globalAt_24 (by decide) ?_
  obtain ⟨J3, g3, h⟩ := h
  have kj3 : ∀ (I3 : xII), J3 I3 → X G (dp + 3) kX13_globalAt (oI A Q) (A.wI I3) 42 [some (.ref m), none, some (.int (I1 m 36))] [] := by
    intro I3 h
    replace h := g3 I3 h
    refine x_iload_n dX13_globalAt_42 rfl ?_
    refine x_sipush_ (v := (2000 : Int32)) dX13_globalAt_43 (by decide) ?_
    obtain ⟨J4, g4, h⟩ := h
    have kj4 : ∀ (I4 : xII), J4 I4 → X G (dp + 3) kX13_globalAt (oI A Q) (A.wI I4) 73 [some (.ref m), none, some (.int (I1 m 36))] [] := by
      intro I4 h
      replace h := g4 I4 h
      refine x_iload_n dX13_globalAt_73 rfl ?_
      refine x_sipush_ (v := (2000 : Int32)) dX13_globalAt_74 (by decide) ?_
      refine x_icmp_ge (tgt := 100) dX13_globalAt_77 (by decide) (fun c77 => ?_) (fun c77 => ?_)
      · replace h := h.1 c77
        refine x_iload_n dX13_globalAt_100 rfl ?_
        exact x_iret dX13_globalAt_101 rfl ⟨_, _, rfl, rfl, h⟩
      · replace h := h.2 c77
        refine x_aload_n dX13_globalAt_80 rfl ?_
        refine x_get (v := .ref (m + 31)) hG dX13_globalAt_81 f_X13_101_12 (mo_t hM) (congrArg va_rf (mo_P41 hM)) ?_
        refine x_aload_n dX13_globalAt_84 rfl ?_
        refine x_get (v := .int (I4 m 37)) hG dX13_globalAt_85 f_X13_291_12 (mo_t hM) rfl ?_
        refine x_iconst_ (v := (0 : Int32)) dX13_globalAt_88 (by decide) ?_
        obtain ⟨o5, h⟩ := h
        refine y_iast hG dX13_globalAt_89 (mo_t41 hM) (mo_aN hM) (mo_n41 hM) o5 (fun I6 e6 => ?_)
        replace h := h I6 e6
        refine x_aload_n dX13_globalAt_90 rfl ?_
        refine x_dup dX13_globalAt_91 rfl ?_
        refine x_get (v := .int (I6 m 37)) hG dX13_globalAt_92 f_X13_291_12 (mo_t hM) rfl ?_
        refine x_eqi (v := (I4 m 37)) (xup_ra e6 (by omega)) ?_
        refine x_iconst_ (v := (1 : Int32)) dX13_globalAt_95 (by decide) ?_
        refine x_iadd dX13_globalAt_96 ?_
        refine y_put hG hM dX13_globalAt_97 f_X13_291_12 ⟨_, rfl, Or.inl rfl⟩ rfl rfl ⟨_, rfl⟩ (fun I7 e7 => ?_)
        replace h := h I7 e7
        refine x_iload_n dX13_globalAt_100 rfl ?_
        exact x_iret dX13_globalAt_101 rfl ⟨_, _, rfl, rfl, h⟩
    refine x_icmp_gt (tgt := 73) dX13_globalAt_46 (by decide) (fun c46 => ?_) (fun c46 => ?_)
    · replace h := h.1 c46
      change X _ _ _ _ _ _ [some (.ref m), none, some (.int (I1 m 36))] []
      exact X.weak (xle_c rfl (xle_n (xle_c rfl xle_nil))) (kj4 I3 h)
    · replace h := h.2 c46
      refine x_aload_n dX13_globalAt_49 rfl ?_
      refine x_get (v := .ref (m + 28)) hG dX13_globalAt_50 f_X13_92_12 (mo_t hM) (congrArg va_rf (mo_P38 hM)) ?_
      refine x_iload_n dX13_globalAt_53 rfl ?_
      refine x_iconst_ (v := (1 : Int32)) dX13_globalAt_54 (by decide) ?_
      obtain ⟨o8, h⟩ := h
      refine y_iast hG dX13_globalAt_55 (mo_t38 hM) (mo_aN hM) (mo_n38 hM) o8 (fun I9 e9 => ?_)
      replace h := h I9 e9
      refine x_aload_n dX13_globalAt_56 rfl ?_
      refine x_get (v := .ref (m + 30)) hG dX13_globalAt_57 f_X13_98_12 (mo_t hM) (congrArg va_rf (mo_P40 hM)) ?_
      refine x_iload_n dX13_globalAt_60 rfl ?_
      refine x_iconst_ (v := (0 : Int32)) dX13_globalAt_61 (by decide) ?_
      refine y_zast hG dX13_globalAt_62 (mo_t40 hM) (mo_aN hM) (mo_n40 hM) o8 (by decide) (fun I10 e10 => ?_)
      replace h := h I10 e10
      refine x_aload_n dX13_globalAt_63 rfl ?_
      refine x_get (v := .ref (m + 29)) hG dX13_globalAt_64 f_X13_95_12 (mo_t hM) (congrArg va_rf (mo_P39 hM)) ?_
      refine x_iload_n dX13_globalAt_67 rfl ?_
      refine x_aload_n dX13_globalAt_68 rfl ?_
      refine x_get (v := .int (I10 m 37)) hG dX13_globalAt_69 f_X13_291_12 (mo_t hM) rfl ?_
      refine x_eqi (v := (I3 m 37)) ((xup_ra e10 (by omega)).trans (xup_ra e9 (by omega))) ?_
      refine y_iast hG dX13_globalAt_72 (mo_t39 hM) (mo_aN hM) (mo_n39 hM) o8 (fun I11 e11 => ?_)
      replace h := h I11 e11
      change X _ _ _ _ _ _ [some (.ref m), none, some (.int (I1 m 36))] []
      exact X.weak (xle_c rfl (xle_n (xle_c rfl xle_nil))) (kj4 I11 h)
  refine x_icmp_le (tgt := 42) dX13_globalAt_27 (by decide) (fun c27 => ?_) (fun c27 => ?_)
  · replace h := h.1 c27
    change X _ _ _ _ _ _ [some (.ref m), some (.int n), some (.int (I1 m 36))] []
    exact X.weak (xle_c rfl (xle_n (xle_c rfl xle_nil))) (kj3 I2 h)
  · replace h := h.2 c27
    refine x_aload_n dX13_globalAt_30 rfl ?_
    refine x_bipush_ (v := (11 : Int32)) dX13_globalAt_31 (by decide) ?_
    refine x_aload_n dX13_globalAt_33 rfl ?_
    refine x_get (v := .ref (m + 5)) hG dX13_globalAt_34 f_X13_22_12 (mo_t hM) (congrArg va_rf (mo_P6 hM)) ?_
    refine x_iload_n dX13_globalAt_37 rfl ?_
    obtain ⟨o12, h⟩ := h
    refine y_iald hG dX13_globalAt_38 (mo_t6 hM) (mo_n6 hM) o12 ?_
    refine x_eqi (v := (I1 (m + 5) (ix n))) (xup_ra e2 (by omega)) ?_
    obtain ⟨R13, g13, h⟩ := h
    refine x_callV hG (Ky := kX13_note) (As := [.int (11 : Int32), .int (I1 (m + 5) (ix n))]) dX13_globalAt_39 (mo_t hM) rfl lk_X13_352 me_X13_note is_X13_note se_X13_note rfl rfl (Nat.le_of_ble_eq_true rfl) (MX.post (m_X13_note hG hM g13) ?_)
    rintro _ _ ⟨I13, rfl, rfl, h1⟩
    replace h := h I13 h1
    change X _ _ _ _ (A.wI I13) _ _ _
    change X _ _ _ _ _ _ [some (.ref m), some (.int n), some (.int (I1 m 36))] []
    exact X.weak (xle_c rfl (xle_n (xle_c rfl xle_nil))) (kj3 I13 h)
def w_X13_globalInt (m : Nat) (n : Int32) (Q : Int32 → xII → Prop) (I : xII) : Prop := ∃ R1 : Int32 → xII → Prop, w_X13_globalAt m n R1 I ∧ (∀ (v1 : Int32) (I1 : xII), R1 v1 I1 → (vp_in (f_J11_min v1 (2000 : Int32)) 2001 ∧ (∃ R3 : xII → Prop, w_X13_declare m n (1 : Int32) (0 : Int32) (I1 (m + 29) (ix (f_J11_min v1 (2000 : Int32)))) (1 : Int32) (0 : Int32) R3 I1 ∧ (∀ I3 : xII, R3 I3 → (Q (1 : Int32) I3)))))
theorem m_X13_globalInt (hG : xOK G) {dp : Nat} {A : xA} {m : Nat} (hM : xMo G A m) {n : Int32} {Q : Int32 → xII → Prop} {I : xII} (h : w_X13_globalInt m n Q I) : MX G (dp + 4) kX13_globalInt [.ref m, .int n] (A.wI I) (oZ A Q) := by
  unfold w_X13_globalInt at h
  refine MX.of rfl (Nat.le_of_ble_eq_true rfl) ?_
  change X _ _ _ _ _ _ [some (.ref m), some (.int n), none] _
  refine x_aload_n dX13_globalInt_0 rfl ?_
  refine x_iload_n dX13_globalInt_1 rfl ?_
  obtain ⟨R1, g1, h⟩ := h
  refine x_callV hG (Ky := kX13_globalAt) (As := [.int n]) dX13_globalInt_2 (mo_t hM) rfl lk_X13_327 me_X13_globalAt is_X13_globalAt se_X13_globalAt rfl rfl (Nat.le_of_ble_eq_true rfl) (MX.post (m_X13_globalAt hG hM g1) ?_)
  rintro _ _ ⟨v1, I1, rfl, rfl, h1⟩
  replace h := h v1 I1 h1
  change X _ _ _ _ (A.wI I1) _ _ (.int v1 :: _)
  refine x_istore_n dX13_globalInt_5 (by decide) ?_
  refine x_aload_n dX13_globalInt_6 rfl ?_
  refine x_iload_n dX13_globalInt_7 rfl ?_
  refine x_iconst_ (v := (1 : Int32)) dX13_globalInt_8 (by decide) ?_
  refine x_iconst_ (v := (0 : Int32)) dX13_globalInt_9 (by decide) ?_
  refine x_aload_n dX13_globalInt_10 rfl ?_
  refine x_get (v := .ref (m + 29)) hG dX13_globalInt_11 f_X13_95_12 (mo_t hM) (congrArg va_rf (mo_P39 hM)) ?_
  refine x_iload_n dX13_globalInt_14 rfl ?_
  refine x_sipush_ (v := (2000 : Int32)) dX13_globalInt_15 (by decide) ?_
  refine x_callS hG (Ky := kJ11_min) (As := [.int v1, .int (2000 : Int32)]) dX13_globalInt_18 lk_X13_333 me_J11_min st_J11_min rfl rfl (Nat.le_of_ble_eq_true rfl) (MX.post (m_J11_min hG) ?_)
  rintro _ _ ⟨rfl, rfl⟩
  change X _ _ _ _ _ _ _ (.int (f_J11_min v1 (2000 : Int32)) :: _)
  obtain ⟨o2, h⟩ := h
  refine y_iald hG dX13_globalInt_21 (mo_t39 hM) (mo_n39 hM) o2 ?_
  refine x_iconst_ (v := (1 : Int32)) dX13_globalInt_22 (by decide) ?_
  refine x_iconst_ (v := (0 : Int32)) dX13_globalInt_23 (by decide) ?_
  obtain ⟨R3, g3, h⟩ := h
  refine x_callV hG (Ky := kX13_declare) (As := [.int n, .int (1 : Int32), .int (0 : Int32), .int (I1 (m + 29) (ix (f_J11_min v1 (2000 : Int32)))), .int (1 : Int32), .int (0 : Int32)]) dX13_globalInt_24 (mo_t hM) rfl lk_X13_338 me_X13_declare is_X13_declare se_X13_declare rfl rfl (Nat.le_of_ble_eq_true rfl) (MX.post (m_X13_declare hG hM g3) ?_)
  rintro _ _ ⟨I3, rfl, rfl, h1⟩
  replace h := h I3 h1
  change X _ _ _ _ (A.wI I3) _ _ _
  refine x_iconst_ (v := (1 : Int32)) dX13_globalInt_27 (by decide) ?_
  exact x_zret dX13_globalInt_28 rfl (by decide) ⟨_, _, rfl, rfl, (by decide), h⟩
def w_X13_leaves (m : Nat) (Q : Int32 → xII → Prop) (I : xII) : Prop := ∃ R1 : Int32 → xII → Prop, w_X13_isWord m (9 : Int32) R1 I ∧ (∀ (v1 : Int32) (I1 : xII), (v1 = 0 ∨ v1 = 1) → R1 v1 I1 → (∃ J2 : xII → Prop, (∀ (I2 : xII), J2 I2 → ∀ I3 : xII, I3 = xup I2 m 42 ((I2 m 42) + (1 : Int32)) → (∃ R4 : Int32 → xII → Prop, w_X13_step m (12 : Int32) (0 : Int32) (0 : Int32) R4 I3 ∧ (∀ (v4 : Int32) (I4 : xII), R4 v4 I4 → (∃ J5 : xII → Prop, (∀ (I5 : xII), J5 I5 → ∃ R6 : Int32 → xII → Prop, w_X13_sign m (29 : Int32) R6 I5 ∧ (∀ (v6 : Int32) (I6 : xII), (v6 = 0 ∨ v6 = 1) → R6 v6 I6 → (Q v6 I6))) ∧ (((I4 m 51) ≤ 0 → J5 I4) ∧ (¬ (I4 m 51) ≤ 0 → vp_in v4 9000 ∧ (∀ I8 : xII, I8 = xup I4 (m + 33) (ix v4) (if v1 = 0 then (I4 m 64) else (I4 m 63)) → (((v1 = 0 → ∀ I9 : xII, I9 = xup I8 m 64 v4 → (J5 I9)) ∧ (¬ v1 = 0 → ∀ I10 : xII, I10 = xup I8 m 63 v4 → (J5 I10))))))))))) ∧ (((I1 m 51) = 0 → vp_in (I1 m 42) 4002 ∧ (∃ R12 : xII → Prop, w_X13_note m (9 : Int32) (I1 (m + 5) (ix (I1 m 42))) R12 I1 ∧ (∀ I12 : xII, R12 I12 → (J2 I12)))) ∧ (¬ (I1 m 51) = 0 → J2 I1))))
theorem m_X13_leaves (hG : xOK G) {dp : Nat} {A : xA} {m : Nat} (hM : xMo G A m) {Q : Int32 → xII → Prop} {I : xII} (h : w_X13_leaves m Q I) : MX G (dp + 2) kX13_leaves [.ref m] (A.wI I) (oZ A Q) := by
  unfold w_X13_leaves at h
  refine MX.of rfl (Nat.le_of_ble_eq_true rfl) ?_
  change X _ _ _ _ _ _ [some (.ref m), none, none] _
  refine x_aload_n dX13_leaves_0 rfl ?_
  refine x_bipush_ (v := (9 : Int32)) dX13_leaves_1 (by decide) ?_
  obtain ⟨R1, g1, h⟩ := h
  refine x_callV hG (Ky := kX13_isWord) (As := [.int (9 : Int32)]) dX13_leaves_3 (mo_t hM) rfl lk_X13_263 me_X13_isWord is_X13_isWord se_X13_isWord rfl rfl (Nat.le_of_ble_eq_true rfl) (MX.post (m_X13_isWord hG hM g1) ?_)
  rintro _ _ ⟨v1, I1, rfl, rfl, zv1, h1⟩
  replace h := h v1 I1 zv1 h1
  change X _ _ _ _ (A.wI I1) _ _ (.int v1 :: _)
  refine x_istore_n dX13_leaves_6 (by decide) ?_
  refine x_aload_n dX13_leaves_7 rfl ?_
  refine x_get (v := .int (I1 m 51)) hG dX13_leaves_8 f_X13_389_12 (mo_t hM) rfl ?_
  obtain ⟨J2, g2, h⟩ := h
  have kj2 : ∀ (I2 : xII), J2 I2 → X G (dp + 2) kX13_leaves (oZ A Q) (A.wI I2) 29 [some (.ref m), some (.int v1), none] [] := by
    intro I2 h
    replace h := g2 I2 h
    refine x_aload_n dX13_leaves_29 rfl ?_
    refine x_dup dX13_leaves_30 rfl ?_
    refine x_get (v := .int (I2 m 42)) hG dX13_leaves_31 f_X13_233_12 (mo_t hM) rfl ?_
    refine x_iconst_ (v := (1 : Int32)) dX13_leaves_34 (by decide) ?_
    refine x_iadd dX13_leaves_35 ?_
    refine y_put hG hM dX13_leaves_36 f_X13_233_12 ⟨_, rfl, Or.inl rfl⟩ rfl rfl ⟨_, rfl⟩ (fun I3 e3 => ?_)
    replace h := h I3 e3
    refine x_aload_n dX13_leaves_39 rfl ?_
    refine x_bipush_ (v := (12 : Int32)) dX13_leaves_40 (by decide) ?_
    refine x_iconst_ (v := (0 : Int32)) dX13_leaves_42 (by decide) ?_
    refine x_iconst_ (v := (0 : Int32)) dX13_leaves_43 (by decide) ?_
    obtain ⟨R4, g4, h⟩ := h
    refine x_callV hG (Ky := kX13_step) (As := [.int (12 : Int32), .int (0 : Int32), .int (0 : Int32)]) dX13_leaves_44 (mo_t hM) rfl lk_X13_401 me_X13_step is_X13_step se_X13_step rfl rfl (Nat.le_of_ble_eq_true rfl) (MX.post (m_X13_step hG hM g4) ?_)
    rintro _ _ ⟨v4, I4, rfl, rfl, h1⟩
    replace h := h v4 I4 h1
    change X _ _ _ _ (A.wI I4) _ _ (.int v4 :: _)
    refine x_istore_n dX13_leaves_47 (by decide) ?_
    refine x_aload_n dX13_leaves_48 rfl ?_
    refine x_get (v := .int (I4 m 51)) hG dX13_leaves_49 f_X13_389_12 (mo_t hM) rfl ?_
    obtain ⟨J5, g5, h⟩ := h
    have kj5 : ∀ (I5 : xII), J5 I5 → X G (dp + 2) kX13_leaves (oZ A Q) (A.wI I5) 93 [some (.ref m), none, none] [] := by
      intro I5 h
      replace h := g5 I5 h
      refine x_aload_n dX13_leaves_93 rfl ?_
      refine x_bipush_ (v := (29 : Int32)) dX13_leaves_94 (by decide) ?_
      obtain ⟨R6, g6, h⟩ := h
      refine x_callV hG (Ky := kX13_sign) (As := [.int (29 : Int32)]) dX13_leaves_96 (mo_t hM) rfl lk_X13_273 me_X13_sign is_X13_sign se_X13_sign rfl rfl (Nat.le_of_ble_eq_true rfl) (MX.post (m_X13_sign hG hM g6) ?_)
      rintro _ _ ⟨v6, I6, rfl, rfl, zv6, h1⟩
      replace h := h v6 I6 zv6 h1
      change X _ _ _ _ (A.wI I6) _ _ (.int v6 :: _)
      exact x_zret dX13_leaves_99 rfl zv6 ⟨_, _, rfl, rfl, zv6, h⟩
    refine x_if_le (tgt := 93) dX13_leaves_52 (by decide) (fun c52 => ?_) (fun c52 => ?_)
    · replace h := h.1 c52
      change X _ _ _ _ _ _ [some (.ref m), some (.int v1), some (.int v4)] []
      exact X.weak (xle_c rfl (xle_n (xle_n xle_nil))) (kj5 I4 h)
    · replace h := h.2 c52
      refine x_aload_n dX13_leaves_55 rfl ?_
      refine x_get (v := .ref (m + 33)) hG dX13_leaves_56 f_X13_107_12 (mo_t hM) (congrArg va_rf (mo_P57 hM)) ?_
      refine x_iload_n dX13_leaves_59 rfl ?_
      refine x_iload_n dX13_leaves_60 rfl ?_
      refine x_via 75 (A' := (A.wI I4)) (lv' := [some (.ref m), some (.int v1), some (.int v4)]) (st' := [.int (if v1 = 0 then (I4 m 64) else (I4 m 63)), .int v4, .ref (m + 33)]) ?_ (fun k75 => ?_)
      rotate_left
      · refine x_if_eq (tgt := 71) dX13_leaves_61 (by decide) (fun c61 => ?_) (fun c61 => ?_)
        · refine x_aload_n dX13_leaves_71 rfl ?_
          refine x_get (v := .int (I4 m 64)) hG dX13_leaves_72 f_X13_380_12 (mo_t hM) rfl ?_
          change X _ _ _ _ _ _ [some (.ref m), some (.int v1), some (.int v4)] [.int (I4 m 64), .int v4, .ref (m + 33)]
          simp only [if_pos c61] at k75 ⊢
          exact X.weak (xle_c rfl (xle_c rfl (xle_c rfl xle_nil))) k75
        · refine x_aload_n dX13_leaves_64 rfl ?_
          refine x_get (v := .int (I4 m 63)) hG dX13_leaves_65 f_X13_377_12 (mo_t hM) rfl ?_
          refine x_goto (tgt := 75) dX13_leaves_68 (by decide) ?_
          change X _ _ _ _ _ _ [some (.ref m), some (.int v1), some (.int v4)] [.int (I4 m 63), .int v4, .ref (m + 33)]
          simp only [if_neg c61] at k75 ⊢
          exact X.weak (xle_c rfl (xle_c rfl (xle_c rfl xle_nil))) k75
      obtain ⟨o7, h⟩ := h
      refine y_iast hG dX13_leaves_75 (mo_t57 hM) (mo_aN hM) (mo_n57 hM) o7 (fun I8 e8 => ?_)
      replace h := h I8 e8
      refine x_iload_n dX13_leaves_76 rfl ?_
      refine x_if_eq (tgt := 88) dX13_leaves_77 (by decide) (fun c77 => ?_) (fun c77 => ?_)
      · replace h := h.1 c77
        refine x_aload_n dX13_leaves_88 rfl ?_
        refine x_iload_n dX13_leaves_89 rfl ?_
        refine y_put hG hM dX13_leaves_90 f_X13_380_12 ⟨_, rfl, Or.inl rfl⟩ rfl rfl ⟨_, rfl⟩ (fun I9 e9 => ?_)
        replace h := h I9 e9
        change X _ _ _ _ _ _ [some (.ref m), some (.int v1), some (.int v4)] []
        exact X.weak (xle_c rfl (xle_n (xle_n xle_nil))) (kj5 I9 h)
      · replace h := h.2 c77
        refine x_aload_n dX13_leaves_80 rfl ?_
        refine x_iload_n dX13_leaves_81 rfl ?_
        refine y_put hG hM dX13_leaves_82 f_X13_377_12 ⟨_, rfl, Or.inl rfl⟩ rfl rfl ⟨_, rfl⟩ (fun I10 e10 => ?_)
        replace h := h I10 e10
        refine x_goto (tgt := 93) dX13_leaves_85 (by decide) ?_
        change X _ _ _ _ _ _ [some (.ref m), some (.int v1), some (.int v4)] []
        exact X.weak (xle_c rfl (xle_n (xle_n xle_nil))) (kj5 I10 h)
  refine x_if_ne (tgt := 29) dX13_leaves_11 (by decide) (fun c11 => ?_) (fun c11 => ?_)
  · replace h := h.2 c11
    change X _ _ _ _ _ _ [some (.ref m), some (.int v1), none] []
    exact X.weak (xle_c rfl (xle_c rfl (xle_n xle_nil))) (kj2 I1 h)
  · replace h := h.1 c11
    refine x_aload_n dX13_leaves_14 rfl ?_
    refine x_bipush_ (v := (9 : Int32)) dX13_leaves_15 (by decide) ?_
    refine x_aload_n dX13_leaves_17 rfl ?_
    refine x_get (v := .ref (m + 5)) hG dX13_leaves_18 f_X13_22_12 (mo_t hM) (congrArg va_rf (mo_P6 hM)) ?_
    refine x_aload_n dX13_leaves_21 rfl ?_
    refine x_get (v := .int (I1 m 42)) hG dX13_leaves_22 f_X13_233_12 (mo_t hM) rfl ?_
    obtain ⟨o11, h⟩ := h
    refine y_iald hG dX13_leaves_25 (mo_t6 hM) (mo_n6 hM) o11 ?_
    obtain ⟨R12, g12, h⟩ := h
    refine x_callV hG (Ky := kX13_note) (As := [.int (9 : Int32), .int (I1 (m + 5) (ix (I1 m 42)))]) dX13_leaves_26 (mo_t hM) rfl lk_X13_352 me_X13_note is_X13_note se_X13_note rfl rfl (Nat.le_of_ble_eq_true rfl) (MX.post (m_X13_note hG hM g12) ?_)
    rintro _ _ ⟨I12, rfl, rfl, h1⟩
    replace h := h I12 h1
    change X _ _ _ _ (A.wI I12) _ _ _
    change X _ _ _ _ _ _ [some (.ref m), some (.int v1), none] []
    exact X.weak (xle_c rfl (xle_c rfl (xle_n xle_nil))) (kj2 I12 h)
def w_X13_calls (m : Nat) (f : Int32) (p : Int32) (b : Int32) (Q : Int32 → xII → Prop) (I : xII) : Prop := vp_in f 500 ∧ (((((I m 83) + (I (m + 21) (ix f))) ≤ (I m 84) → ∀ I2 : xII, I2 = xup I m 83 ((I m 83) + (I (m + 21) (ix f))) → (∃ L3 : Nat → Int32 → Int32 → Prop, (∃ n3 : Nat, L3 n3 (0 : Int32) (0 : Int32)) ∧ (∀ (n3 : Nat) (y3_5 : Int32) (y3_6 : Int32), L3 n3 y3_5 y3_6 → (((I (m + 20) (ix f)) ≤ y3_6 → ∀ I4 : xII, I4 = xup I2 m 72 ((I m 72) - y3_5) → (∃ L5 : Nat → Int32 → xII → Prop, (∃ n5 : Nat, L5 n5 (0 : Int32) I4) ∧ (∀ (n5 : Nat) (y5_6 : Int32) (I5 : xII), L5 n5 y5_6 I5 → (((I5 (m + 22) (ix f)) ≤ y5_6 → vp_in (I5 m 85) 520 ∧ (∀ I7 : xII, I7 = xup I5 (m + 43) (ix (I5 m 85)) f → (∀ I8 : xII, I8 = xup I7 (m + 44) (ix (I5 m 85)) b → (∀ I9 : xII, I9 = xup I8 (m + 45) (ix (I5 m 85)) (if (I m 85) = 0 then (I m 37) else (I m 87)) → (∀ I10 : xII, I10 = xup I9 m 85 ((I5 m 85) + (1 : Int32)) → (∀ I11 : xII, I11 = xup I10 m 86 (if (I m 85) = 0 then (I m 37) else (I m 87)) → (∀ I12 : xII, I12 = xup I11 m 87 ((if (I m 85) = 0 then (I m 37) else (I m 87)) + (I5 (m + 22) (ix f))) → (∀ I13 : xII, I13 = xup I12 m 76 (I5 (m + 23) (ix f)) → (Q (1 : Int32) I13))))))))) ∧ (¬ (I5 (m + 22) (ix f)) ≤ y5_6 → ∃ J14 : Int32 → Prop, (∀ (y14_s0 : Int32), J14 y14_s0 → vp_in ((if (I m 85) = 0 then (I m 37) else (I m 87)) + y5_6) 20000 ∧ (∀ I16 : xII, I16 = xup I5 (m + 42) (ix ((if (I m 85) = 0 then (I m 37) else (I m 87)) + y5_6)) y14_s0 → ((∃ q5 : Nat, q5 < n5 ∧ L5 q5 (y5_6 + (1 : Int32)) I16)))) ∧ ((y3_5 ≤ y5_6 → J14 (0 : Int32)) ∧ (¬ y3_5 ≤ y5_6 → vp_in ((I5 m 72) + y5_6) 280000 ∧ (J14 (I5 (m + 39) (ix ((I5 m 72) + y5_6))))))))))) ∧ (¬ (I (m + 20) (ix f)) ≤ y3_6 → vp_in ((I (m + 24) (ix f)) + y3_6) 900 ∧ ((∃ q3 : Nat, q3 < n3 ∧ L3 q3 (y3_5 + (if (I (m + 27) (ix ((I (m + 24) (ix f)) + y3_6))) = 0 then (1 : Int32) else (2 : Int32))) (y3_6 + (1 : Int32))))))))) ∧ (¬ ((I m 83) + (I (m + 21) (ix f))) ≤ (I m 84) → ∀ I19 : xII, I19 = xup I m 75 (6 : Int32) → (∀ I20 : xII, I20 = xup I19 m 82 p → (Q (0 : Int32) I20)))))
theorem m_X13_calls (hG : xOK G) {dp : Nat} {A : xA} {m : Nat} (hM : xMo G A m) {f : Int32} {p : Int32} {b : Int32} {Q : Int32 → xII → Prop} {I : xII} (h : w_X13_calls m f p b Q I) : MX G (dp + 0) kX13_calls [.ref m, .int f, .int p, .int b] (A.wI I) (oZ A Q) := by
  unfold w_X13_calls at h
  refine MX.of rfl (Nat.le_of_ble_eq_true rfl) ?_
  change X _ _ _ _ _ _ [some (.ref m), some (.int f), some (.int p), some (.int b), none, none, none] _
  refine x_aload_n dX13_calls_0 rfl ?_
  refine x_get (v := .int (I m 83)) hG dX13_calls_1 f_X13_544_12 (mo_t hM) rfl ?_
  refine x_aload_n dX13_calls_4 rfl ?_
  refine x_get (v := .ref (m + 21)) hG dX13_calls_5 f_X13_71_12 (mo_t hM) (congrArg va_rf (mo_P28 hM)) ?_
  refine x_iload_n dX13_calls_8 rfl ?_
  obtain ⟨o1, h⟩ := h
  refine y_iald hG dX13_calls_9 (mo_t28 hM) (mo_n28 hM) o1 ?_
  refine x_iadd dX13_calls_10 ?_
  refine x_aload_n dX13_calls_11 rfl ?_
  refine x_get (v := .int (I m 84)) hG dX13_calls_12 f_X13_530_12 (mo_t hM) rfl ?_
  refine x_icmp_le (tgt := 31) dX13_calls_15 (by decide) (fun c15 => ?_) (fun c15 => ?_)
  · replace h := h.1 c15
    refine x_aload_n dX13_calls_31 rfl ?_
    refine x_dup dX13_calls_32 rfl ?_
    refine x_get (v := .int (I m 83)) hG dX13_calls_33 f_X13_544_12 (mo_t hM) rfl ?_
    refine x_aload_n dX13_calls_36 rfl ?_
    refine x_get (v := .ref (m + 21)) hG dX13_calls_37 f_X13_71_12 (mo_t hM) (congrArg va_rf (mo_P28 hM)) ?_
    refine x_iload_n dX13_calls_40 rfl ?_
    refine y_iald hG dX13_calls_41 (mo_t28 hM) (mo_n28 hM) o1 ?_
    refine x_iadd dX13_calls_42 ?_
    refine y_put hG hM dX13_calls_43 f_X13_544_12 ⟨_, rfl, Or.inl rfl⟩ rfl rfl ⟨_, rfl⟩ (fun I2 e2 => ?_)
    replace h := h I2 e2
    refine x_aload_n dX13_calls_46 rfl ?_
    refine x_get (v := .int (I2 m 85)) hG dX13_calls_47 f_X13_533_12 (mo_t hM) rfl ?_
    refine x_eqi (v := (I m 85)) (xup_rk e2 (by decide)) ?_
    refine x_via 64 (A' := (A.wI I2)) (lv' := [some (.ref m), some (.int f), none, some (.int b), none, none, none]) (st' := [.int (if (I m 85) = 0 then (I m 37) else (I m 87))]) ?_ (fun k64 => ?_)
    rotate_left
    · refine x_if_ne (tgt := 60) dX13_calls_50 (by decide) (fun c50 => ?_) (fun c50 => ?_)
      · refine x_aload_n dX13_calls_60 rfl ?_
        refine x_get (v := .int (I2 m 87)) hG dX13_calls_61 f_X13_547_12 (mo_t hM) rfl ?_
        refine x_eqi (v := (I m 87)) (xup_rk e2 (by decide)) ?_
        change X _ _ _ _ _ _ [some (.ref m), some (.int f), some (.int p), some (.int b), none, none, none] [.int (I m 87)]
        simp only [if_neg c50] at k64 ⊢
        exact X.weak (xle_c rfl (xle_c rfl (xle_n (xle_c rfl (xle_n (xle_n (xle_n xle_nil))))))) k64
      · refine x_aload_n dX13_calls_53 rfl ?_
        refine x_get (v := .int (I2 m 37)) hG dX13_calls_54 f_X13_291_12 (mo_t hM) rfl ?_
        refine x_eqi (v := (I m 37)) (xup_rk e2 (by decide)) ?_
        refine x_goto (tgt := 64) dX13_calls_57 (by decide) ?_
        change X _ _ _ _ _ _ [some (.ref m), some (.int f), some (.int p), some (.int b), none, none, none] [.int (I m 37)]
        simp only [if_pos c50] at k64 ⊢
        exact X.weak (xle_c rfl (xle_c rfl (xle_n (xle_c rfl (xle_n (xle_n (xle_n xle_nil))))))) k64
    refine x_istore dX13_calls_64 (by decide) ?_
    refine x_iconst_ (v := (0 : Int32)) dX13_calls_66 (by decide) ?_
    refine x_istore dX13_calls_67 (by decide) ?_
    refine x_iconst_ (v := (0 : Int32)) dX13_calls_69 (by decide) ?_
    refine x_istore dX13_calls_70 (by decide) ?_
    obtain ⟨L3, ⟨n3, i3⟩, g3⟩ := h
    have kl3 : ∀ n3 : Nat, ∀ (y3_5 : Int32) (y3_6 : Int32), L3 n3 y3_5 y3_6 → X G (dp + 0) kX13_calls (oZ A Q) (A.wI I2) 72 [some (.ref m), some (.int f), none, some (.int b), some (.int (if (I m 85) = 0 then (I m 37) else (I m 87))), some (.int y3_5), some (.int y3_6)] [] := by
      intro n3
      induction n3 using Nat.strongRecOn with
      | ind n3 ih3 =>
        intro y3_5 y3_6 h
        replace h := g3 n3 y3_5 y3_6 h
        refine x_iload dX13_calls_72 rfl ?_
        refine x_aload_n dX13_calls_74 rfl ?_
        refine x_get (v := .ref (m + 20)) hG dX13_calls_75 f_X13_68_12 (mo_t hM) (congrArg va_rf (mo_P27 hM)) ?_
        refine x_iload_n dX13_calls_78 rfl ?_
        refine y_iald hG dX13_calls_79 (mo_t27 hM) (mo_n27 hM) o1 ?_
        refine x_eqi (v := (I (m + 20) (ix f))) (xup_ra e2 (by omega)) ?_
        refine x_icmp_ge (tgt := 116) dX13_calls_80 (by decide) (fun c80 => ?_) (fun c80 => ?_)
        · replace h := h.1 c80
          refine x_aload_n dX13_calls_116 rfl ?_
          refine x_dup dX13_calls_117 rfl ?_
          refine x_get (v := .int (I2 m 72)) hG dX13_calls_118 f_X13_497_12 (mo_t hM) rfl ?_
          refine x_eqi (v := (I m 72)) (xup_rk e2 (by decide)) ?_
          refine x_iload dX13_calls_121 rfl ?_
          refine x_isub dX13_calls_123 ?_
          refine y_put hG hM dX13_calls_124 f_X13_497_12 ⟨_, rfl, Or.inl rfl⟩ rfl rfl ⟨_, rfl⟩ (fun I4 e4 => ?_)
          replace h := h I4 e4
          refine x_iconst_ (v := (0 : Int32)) dX13_calls_127 (by decide) ?_
          refine x_istore dX13_calls_128 (by decide) ?_
          obtain ⟨L5, ⟨n5, i5⟩, g5⟩ := h
          have kl5 : ∀ n5 : Nat, ∀ (y5_6 : Int32) (I5 : xII), L5 n5 y5_6 I5 → X G (dp + 0) kX13_calls (oZ A Q) (A.wI I5) 130 [some (.ref m), some (.int f), none, some (.int b), some (.int (if (I m 85) = 0 then (I m 37) else (I m 87))), some (.int y3_5), some (.int y5_6)] [] := by
            intro n5
            induction n5 using Nat.strongRecOn with
            | ind n5 ih5 =>
              intro y5_6 I5 h
              replace h := g5 n5 y5_6 I5 h
              refine x_iload dX13_calls_130 rfl ?_
              refine x_aload_n dX13_calls_132 rfl ?_
              refine x_get (v := .ref (m + 22)) hG dX13_calls_133 f_X13_74_12 (mo_t hM) (congrArg va_rf (mo_P29 hM)) ?_
              refine x_iload_n dX13_calls_136 rfl ?_
              refine y_iald hG dX13_calls_137 (mo_t29 hM) (mo_n29 hM) o1 ?_
              refine x_icmp_ge (tgt := 180) dX13_calls_138 (by decide) (fun c138 => ?_) (fun c138 => ?_)
              · replace h := h.1 c138
                refine x_aload_n dX13_calls_180 rfl ?_
                refine x_get (v := .ref (m + 43)) hG dX13_calls_181 f_X13_138_12 (mo_t hM) (congrArg va_rf (mo_P91 hM)) ?_
                refine x_aload_n dX13_calls_184 rfl ?_
                refine x_get (v := .int (I5 m 85)) hG dX13_calls_185 f_X13_533_12 (mo_t hM) rfl ?_
                refine x_iload_n dX13_calls_188 rfl ?_
                obtain ⟨o6, h⟩ := h
                refine y_iast hG dX13_calls_189 (mo_t91 hM) (mo_aN hM) (mo_n91 hM) o6 (fun I7 e7 => ?_)
                replace h := h I7 e7
                refine x_aload_n dX13_calls_190 rfl ?_
                refine x_get (v := .ref (m + 44)) hG dX13_calls_191 f_X13_141_12 (mo_t hM) (congrArg va_rf (mo_P92 hM)) ?_
                refine x_aload_n dX13_calls_194 rfl ?_
                refine x_get (v := .int (I7 m 85)) hG dX13_calls_195 f_X13_533_12 (mo_t hM) rfl ?_
                refine x_eqi (v := (I5 m 85)) (xup_ra e7 (by omega)) ?_
                refine x_iload_n dX13_calls_198 rfl ?_
                refine y_iast hG dX13_calls_199 (mo_t92 hM) (mo_aN hM) (mo_n92 hM) o6 (fun I8 e8 => ?_)
                replace h := h I8 e8
                refine x_aload_n dX13_calls_200 rfl ?_
                refine x_get (v := .ref (m + 45)) hG dX13_calls_201 f_X13_144_12 (mo_t hM) (congrArg va_rf (mo_P93 hM)) ?_
                refine x_aload_n dX13_calls_204 rfl ?_
                refine x_get (v := .int (I8 m 85)) hG dX13_calls_205 f_X13_533_12 (mo_t hM) rfl ?_
                refine x_eqi (v := (I5 m 85)) ((xup_ra e8 (by omega)).trans (xup_ra e7 (by omega))) ?_
                refine x_iload dX13_calls_208 rfl ?_
                refine y_iast hG dX13_calls_210 (mo_t93 hM) (mo_aN hM) (mo_n93 hM) o6 (fun I9 e9 => ?_)
                replace h := h I9 e9
                refine x_aload_n dX13_calls_211 rfl ?_
                refine x_dup dX13_calls_212 rfl ?_
                refine x_get (v := .int (I9 m 85)) hG dX13_calls_213 f_X13_533_12 (mo_t hM) rfl ?_
                refine x_eqi (v := (I5 m 85)) ((xup_ra e9 (by omega)).trans ((xup_ra e8 (by omega)).trans (xup_ra e7 (by omega)))) ?_
                refine x_iconst_ (v := (1 : Int32)) dX13_calls_216 (by decide) ?_
                refine x_iadd dX13_calls_217 ?_
                refine y_put hG hM dX13_calls_218 f_X13_533_12 ⟨_, rfl, Or.inl rfl⟩ rfl rfl ⟨_, rfl⟩ (fun I10 e10 => ?_)
                replace h := h I10 e10
                refine x_aload_n dX13_calls_221 rfl ?_
                refine x_iload dX13_calls_222 rfl ?_
                refine y_put hG hM dX13_calls_224 f_X13_550_12 ⟨_, rfl, Or.inl rfl⟩ rfl rfl ⟨_, rfl⟩ (fun I11 e11 => ?_)
                replace h := h I11 e11
                refine x_aload_n dX13_calls_227 rfl ?_
                refine x_iload dX13_calls_228 rfl ?_
                refine x_aload_n dX13_calls_230 rfl ?_
                refine x_get (v := .ref (m + 22)) hG dX13_calls_231 f_X13_74_12 (mo_t hM) (congrArg va_rf (mo_P29 hM)) ?_
                refine x_iload_n dX13_calls_234 rfl ?_
                refine y_iald hG dX13_calls_235 (mo_t29 hM) (mo_n29 hM) o1 ?_
                refine x_eqi (v := (I5 (m + 22) (ix f))) ((xup_ra e11 (by omega)).trans ((xup_ra e10 (by omega)).trans ((xup_ra e9 (by omega)).trans ((xup_ra e8 (by omega)).trans (xup_ra e7 (by omega)))))) ?_
                refine x_iadd dX13_calls_236 ?_
                refine y_put hG hM dX13_calls_237 f_X13_547_12 ⟨_, rfl, Or.inl rfl⟩ rfl rfl ⟨_, rfl⟩ (fun I12 e12 => ?_)
                replace h := h I12 e12
                refine x_aload_n dX13_calls_240 rfl ?_
                refine x_aload_n dX13_calls_241 rfl ?_
                refine x_get (v := .ref (m + 23)) hG dX13_calls_242 f_X13_77_12 (mo_t hM) (congrArg va_rf (mo_P30 hM)) ?_
                refine x_iload_n dX13_calls_245 rfl ?_
                refine y_iald hG dX13_calls_246 (mo_t30 hM) (mo_n30 hM) o1 ?_
                refine x_eqi (v := (I5 (m + 23) (ix f))) ((xup_ra e12 (by omega)).trans ((xup_ra e11 (by omega)).trans ((xup_ra e10 (by omega)).trans ((xup_ra e9 (by omega)).trans ((xup_ra e8 (by omega)).trans (xup_ra e7 (by omega))))))) ?_
                refine y_put hG hM dX13_calls_247 f_X13_553_12 ⟨_, rfl, Or.inl rfl⟩ rfl rfl ⟨_, rfl⟩ (fun I13 e13 => ?_)
                replace h := h I13 e13
                refine x_iconst_ (v := (1 : Int32)) dX13_calls_250 (by decide) ?_
                exact x_zret dX13_calls_251 rfl (by decide) ⟨_, _, rfl, rfl, (by decide), h⟩
              · replace h := h.2 c138
                refine x_aload_n dX13_calls_141 rfl ?_
                refine x_get (v := .ref (m + 42)) hG dX13_calls_142 f_X13_135_12 (mo_t hM) (congrArg va_rf (mo_P90 hM)) ?_
                refine x_iload dX13_calls_145 rfl ?_
                refine x_iload dX13_calls_147 rfl ?_
                refine x_iadd dX13_calls_149 ?_
                refine x_iload dX13_calls_150 rfl ?_
                refine x_iload dX13_calls_152 rfl ?_
                obtain ⟨J14, g14, h⟩ := h
                have kj14 : ∀ (y14_s0 : Int32), J14 y14_s0 → X G (dp + 0) kX13_calls (oZ A Q) (A.wI I5) 173 [some (.ref m), some (.int f), none, some (.int b), some (.int (if (I m 85) = 0 then (I m 37) else (I m 87))), some (.int y3_5), some (.int y5_6)] [.int y14_s0, .int ((if (I m 85) = 0 then (I m 37) else (I m 87)) + y5_6), .ref (m + 42)] := by
                  intro y14_s0 h
                  replace h := g14 y14_s0 h
                  obtain ⟨o15, h⟩ := h
                  refine y_iast hG dX13_calls_173 (mo_t90 hM) (mo_aN hM) (mo_n90 hM) o15 (fun I16 e16 => ?_)
                  replace h := h I16 e16
                  refine x_iinc (v := (y5_6 + (1 : Int32))) dX13_calls_174 rfl rfl (by decide) ?_
                  refine x_goto (tgt := 130) dX13_calls_177 (by decide) ?_
                  obtain ⟨q5, l5, h⟩ := h
                  change X _ _ _ _ _ _ [some (.ref m), some (.int f), none, some (.int b), some (.int (if (I m 85) = 0 then (I m 37) else (I m 87))), some (.int y3_5), some (.int (y5_6 + (1 : Int32)))] []
                  exact X.weak (xle_c rfl (xle_c rfl (xle_n (xle_c rfl (xle_c rfl (xle_c rfl (xle_c rfl xle_nil))))))) (ih5 q5 l5 (y5_6 + (1 : Int32)) I16 h)
                refine x_icmp_ge (tgt := 172) dX13_calls_154 (by decide) (fun c154 => ?_) (fun c154 => ?_)
                · replace h := h.1 c154
                  refine x_iconst_ (v := (0 : Int32)) dX13_calls_172 (by decide) ?_
                  change X _ _ _ _ _ _ [some (.ref m), some (.int f), none, some (.int b), some (.int (if (I m 85) = 0 then (I m 37) else (I m 87))), some (.int y3_5), some (.int y5_6)] [.int (0 : Int32), .int ((if (I m 85) = 0 then (I m 37) else (I m 87)) + y5_6), .ref (m + 42)]
                  exact X.weak (xle_c rfl (xle_c rfl (xle_n (xle_c rfl (xle_c rfl (xle_c rfl (xle_c rfl xle_nil))))))) (kj14 (0 : Int32) h)
                · replace h := h.2 c154
                  refine x_aload_n dX13_calls_157 rfl ?_
                  refine x_get (v := .ref (m + 39)) hG dX13_calls_158 f_X13_126_12 (mo_t hM) (congrArg va_rf (mo_P71 hM)) ?_
                  refine x_aload_n dX13_calls_161 rfl ?_
                  refine x_get (v := .int (I5 m 72)) hG dX13_calls_162 f_X13_497_12 (mo_t hM) rfl ?_
                  refine x_iload dX13_calls_165 rfl ?_
                  refine x_iadd dX13_calls_167 ?_
                  obtain ⟨o17, h⟩ := h
                  refine y_iald hG dX13_calls_168 (mo_t71 hM) (mo_n71 hM) o17 ?_
                  refine x_goto (tgt := 173) dX13_calls_169 (by decide) ?_
                  change X _ _ _ _ _ _ [some (.ref m), some (.int f), none, some (.int b), some (.int (if (I m 85) = 0 then (I m 37) else (I m 87))), some (.int y3_5), some (.int y5_6)] [.int (I5 (m + 39) (ix ((I5 m 72) + y5_6))), .int ((if (I m 85) = 0 then (I m 37) else (I m 87)) + y5_6), .ref (m + 42)]
                  exact X.weak (xle_c rfl (xle_c rfl (xle_n (xle_c rfl (xle_c rfl (xle_c rfl (xle_c rfl xle_nil))))))) (kj14 (I5 (m + 39) (ix ((I5 m 72) + y5_6))) h)
          change X _ _ _ _ _ _ [some (.ref m), some (.int f), none, some (.int b), some (.int (if (I m 85) = 0 then (I m 37) else (I m 87))), some (.int y3_5), some (.int (0 : Int32))] []
          exact X.weak (xle_c rfl (xle_c rfl (xle_n (xle_c rfl (xle_c rfl (xle_c rfl (xle_c rfl xle_nil))))))) (kl5 n5 (0 : Int32) I4 i5)
        · replace h := h.2 c80
          refine x_iload dX13_calls_83 rfl ?_
          refine x_aload_n dX13_calls_85 rfl ?_
          refine x_get (v := .ref (m + 27)) hG dX13_calls_86 f_X13_89_12 (mo_t hM) (congrArg va_rf (mo_P34 hM)) ?_
          refine x_aload_n dX13_calls_89 rfl ?_
          refine x_get (v := .ref (m + 24)) hG dX13_calls_90 f_X13_80_12 (mo_t hM) (congrArg va_rf (mo_P31 hM)) ?_
          refine x_iload_n dX13_calls_93 rfl ?_
          refine y_iald hG dX13_calls_94 (mo_t31 hM) (mo_n31 hM) o1 ?_
          refine x_eqi (v := (I (m + 24) (ix f))) (xup_ra e2 (by omega)) ?_
          refine x_iload dX13_calls_95 rfl ?_
          refine x_iadd dX13_calls_97 ?_
          obtain ⟨o18, h⟩ := h
          refine y_iald hG dX13_calls_98 (mo_t34 hM) (mo_n34 hM) o18 ?_
          refine x_eqi (v := (I (m + 27) (ix ((I (m + 24) (ix f)) + y3_6)))) (xup_ra e2 (by omega)) ?_
          refine x_via 107 (A' := (A.wI I2)) (lv' := [some (.ref m), some (.int f), none, some (.int b), some (.int (if (I m 85) = 0 then (I m 37) else (I m 87))), none, some (.int y3_6)]) (st' := [.int (if (I (m + 27) (ix ((I (m + 24) (ix f)) + y3_6))) = 0 then (1 : Int32) else (2 : Int32)), .int y3_5]) ?_ (fun k107 => ?_)
          rotate_left
          · refine x_if_ne (tgt := 106) dX13_calls_99 (by decide) (fun c99 => ?_) (fun c99 => ?_)
            · refine x_iconst_ (v := (2 : Int32)) dX13_calls_106 (by decide) ?_
              change X _ _ _ _ _ _ [some (.ref m), some (.int f), none, some (.int b), some (.int (if (I m 85) = 0 then (I m 37) else (I m 87))), some (.int y3_5), some (.int y3_6)] [.int (2 : Int32), .int y3_5]
              simp only [if_neg c99] at k107 ⊢
              exact X.weak (xle_c rfl (xle_c rfl (xle_n (xle_c rfl (xle_c rfl (xle_n (xle_c rfl xle_nil))))))) k107
            · refine x_iconst_ (v := (1 : Int32)) dX13_calls_102 (by decide) ?_
              refine x_goto (tgt := 107) dX13_calls_103 (by decide) ?_
              change X _ _ _ _ _ _ [some (.ref m), some (.int f), none, some (.int b), some (.int (if (I m 85) = 0 then (I m 37) else (I m 87))), some (.int y3_5), some (.int y3_6)] [.int (1 : Int32), .int y3_5]
              simp only [if_pos c99] at k107 ⊢
              exact X.weak (xle_c rfl (xle_c rfl (xle_n (xle_c rfl (xle_c rfl (xle_n (xle_c rfl xle_nil))))))) k107
          refine x_iadd dX13_calls_107 ?_
          refine x_istore dX13_calls_108 (by decide) ?_
          refine x_iinc (v := (y3_6 + (1 : Int32))) dX13_calls_110 rfl rfl (by decide) ?_
          refine x_goto (tgt := 72) dX13_calls_113 (by decide) ?_
          obtain ⟨q3, l3, h⟩ := h
          change X _ _ _ _ _ _ [some (.ref m), some (.int f), none, some (.int b), some (.int (if (I m 85) = 0 then (I m 37) else (I m 87))), some (.int (y3_5 + (if (I (m + 27) (ix ((I (m + 24) (ix f)) + y3_6))) = 0 then (1 : Int32) else (2 : Int32)))), some (.int (y3_6 + (1 : Int32)))] []
          exact X.weak (xle_c rfl (xle_c rfl (xle_n (xle_c rfl (xle_c rfl (xle_c rfl (xle_c rfl xle_nil))))))) (ih3 q3 l3 (y3_5 + (if (I (m + 27) (ix ((I (m + 24) (ix f)) + y3_6))) = 0 then (1 : Int32) else (2 : Int32))) (y3_6 + (1 : Int32)) h)
    change X _ _ _ _ _ _ [some (.ref m), some (.int f), none, some (.int b), some (.int (if (I m 85) = 0 then (I m 37) else (I m 87))), some (.int (0 : Int32)), some (.int (0 : Int32))] []
    exact X.weak (xle_c rfl (xle_c rfl (xle_n (xle_c rfl (xle_c rfl (xle_c rfl (xle_c rfl xle_nil))))))) (kl3 n3 (0 : Int32) (0 : Int32) i3)
  · replace h := h.2 c15
    refine x_aload_n dX13_calls_18 rfl ?_
    refine x_bipush_ (v := (6 : Int32)) dX13_calls_19 (by decide) ?_
    refine y_put hG hM dX13_calls_21 f_X13_512_12 ⟨_, rfl, Or.inl rfl⟩ rfl rfl ⟨_, rfl⟩ (fun I19 e19 => ?_)
    replace h := h I19 e19
    refine x_aload_n dX13_calls_24 rfl ?_
    refine x_iload_n dX13_calls_25 rfl ?_
    refine y_put hG hM dX13_calls_26 f_X13_541_12 ⟨_, rfl, Or.inl rfl⟩ rfl rfl ⟨_, rfl⟩ (fun I20 e20 => ?_)
    replace h := h I20 e20
    refine x_iconst_ (v := (0 : Int32)) dX13_calls_29 (by decide) ?_
    exact x_zret dX13_calls_30 rfl (by decide) ⟨_, _, rfl, rfl, (by decide), h⟩
def w_X13_returnsHere (m : Nat) (Q : xII → Prop) (I : xII) : Prop := ∀ I1 : xII, I1 = xup I m 72 ((I m 72) - (1 : Int32)) → (vp_in ((I m 72) - (1 : Int32)) 280000 ∧ (∀ I3 : xII, I3 = xup I1 m 85 ((I m 85) - (1 : Int32)) → (vp_in ((I m 85) - (1 : Int32)) 520 ∧ (((((I m 85) - (1 : Int32)) = 0 → ∀ I13 : xII, I13 = xup I3 m 75 (3 : Int32) → (vp_in (I (m + 43) (ix ((I m 85) - (1 : Int32)))) 500 ∧ (∀ I15 : xII, I15 = xup I13 m 81 (if (I (m + 26) (ix (I (m + 43) (ix ((I m 85) - (1 : Int32)))))) = 0 then (I (m + 39) (ix ((I m 72) - (1 : Int32)))) else (0 : Int32)) → (∀ I16 : xII, I16 = xup I15 m 83 (0 : Int32) → (Q I16))))) ∧ (¬ ((I m 85) - (1 : Int32)) = 0 → vp_in (I (m + 43) (ix ((I m 85) - (1 : Int32)))) 500 ∧ (∀ I6 : xII, I6 = xup I3 m 83 ((I m 83) - (I (m + 21) (ix (I (m + 43) (ix ((I m 85) - (1 : Int32))))))) → (∀ I7 : xII, I7 = xup I6 m 87 (I (m + 45) (ix ((I m 85) - (1 : Int32)))) → (vp_in (((I m 85) - (1 : Int32)) - (1 : Int32)) 520 ∧ (∀ I9 : xII, I9 = xup I7 m 86 (I (m + 45) (ix (((I m 85) - (1 : Int32)) - (1 : Int32)))) → (∀ I10 : xII, I10 = xup I9 m 76 (I (m + 44) (ix ((I m 85) - (1 : Int32)))) → (∀ I11 : xII, I11 = xup I10 (m + 39) (ix ((I m 72) - (1 : Int32))) (I (m + 39) (ix ((I m 72) - (1 : Int32)))) → (∀ I12 : xII, I12 = xup I11 m 72 (((I m 72) - (1 : Int32)) + (1 : Int32)) → (Q I12))))))))))))))
theorem m_X13_returnsHere (hG : xOK G) {dp : Nat} {A : xA} {m : Nat} (hM : xMo G A m) {Q : xII → Prop} {I : xII} (h : w_X13_returnsHere m Q I) : MX G (dp + 0) kX13_returnsHere [.ref m] (A.wI I) (oV A Q) := by
  unfold w_X13_returnsHere at h
  refine MX.of rfl (Nat.le_of_ble_eq_true rfl) ?_
  change X _ _ _ _ _ _ [some (.ref m), none, none] _
  refine x_aload_n dX13_returnsHere_0 rfl ?_
  refine x_dup dX13_returnsHere_1 rfl ?_
  refine x_get (v := .int (I m 72)) hG dX13_returnsHere_2 f_X13_497_12 (mo_t hM) rfl ?_
  refine x_iconst_ (v := (1 : Int32)) dX13_returnsHere_5 (by decide) ?_
  refine x_isub dX13_returnsHere_6 ?_
  refine y_put hG hM dX13_returnsHere_7 f_X13_497_12 ⟨_, rfl, Or.inl rfl⟩ rfl rfl ⟨_, rfl⟩ (fun I1 e1 => ?_)
  replace h := h I1 e1
  refine x_aload_n dX13_returnsHere_10 rfl ?_
  refine x_get (v := .ref (m + 39)) hG dX13_returnsHere_11 f_X13_126_12 (mo_t hM) (congrArg va_rf (mo_P71 hM)) ?_
  refine x_aload_n dX13_returnsHere_14 rfl ?_
  refine x_get (v := .int (I1 m 72)) hG dX13_returnsHere_15 f_X13_497_12 (mo_t hM) rfl ?_
  refine x_eqi (v := ((I m 72) - (1 : Int32))) (xup_rs e1) ?_
  obtain ⟨o2, h⟩ := h
  refine y_iald hG dX13_returnsHere_18 (mo_t71 hM) (mo_n71 hM) o2 ?_
  refine x_eqi (v := (I (m + 39) (ix ((I m 72) - (1 : Int32))))) (xup_ra e1 (by omega)) ?_
  refine x_istore_n dX13_returnsHere_19 (by decide) ?_
  refine x_aload_n dX13_returnsHere_20 rfl ?_
  refine x_dup dX13_returnsHere_21 rfl ?_
  refine x_get (v := .int (I1 m 85)) hG dX13_returnsHere_22 f_X13_533_12 (mo_t hM) rfl ?_
  refine x_eqi (v := (I m 85)) (xup_rk e1 (by decide)) ?_
  refine x_iconst_ (v := (1 : Int32)) dX13_returnsHere_25 (by decide) ?_
  refine x_isub dX13_returnsHere_26 ?_
  refine y_put hG hM dX13_returnsHere_27 f_X13_533_12 ⟨_, rfl, Or.inl rfl⟩ rfl rfl ⟨_, rfl⟩ (fun I3 e3 => ?_)
  replace h := h I3 e3
  refine x_aload_n dX13_returnsHere_30 rfl ?_
  refine x_get (v := .ref (m + 43)) hG dX13_returnsHere_31 f_X13_138_12 (mo_t hM) (congrArg va_rf (mo_P91 hM)) ?_
  refine x_aload_n dX13_returnsHere_34 rfl ?_
  refine x_get (v := .int (I3 m 85)) hG dX13_returnsHere_35 f_X13_533_12 (mo_t hM) rfl ?_
  refine x_eqi (v := ((I m 85) - (1 : Int32))) (xup_rs e3) ?_
  obtain ⟨o4, h⟩ := h
  refine y_iald hG dX13_returnsHere_38 (mo_t91 hM) (mo_n91 hM) o4 ?_
  refine x_eqi (v := (I (m + 43) (ix ((I m 85) - (1 : Int32))))) ((xup_ra e3 (by omega)).trans (xup_ra e1 (by omega))) ?_
  refine x_istore_n dX13_returnsHere_39 (by decide) ?_
  refine x_aload_n dX13_returnsHere_40 rfl ?_
  refine x_get (v := .int (I3 m 85)) hG dX13_returnsHere_41 f_X13_533_12 (mo_t hM) rfl ?_
  refine x_eqi (v := ((I m 85) - (1 : Int32))) (xup_rs e3) ?_
  refine x_if_ne (tgt := 76) dX13_returnsHere_44 (by decide) (fun c44 => ?_) (fun c44 => ?_)
  · replace h := h.2 c44
    refine x_aload_n dX13_returnsHere_76 rfl ?_
    refine x_dup dX13_returnsHere_77 rfl ?_
    refine x_get (v := .int (I3 m 83)) hG dX13_returnsHere_78 f_X13_544_12 (mo_t hM) rfl ?_
    refine x_eqi (v := (I m 83)) ((xup_rk e3 (by decide)).trans (xup_rk e1 (by decide))) ?_
    refine x_aload_n dX13_returnsHere_81 rfl ?_
    refine x_get (v := .ref (m + 21)) hG dX13_returnsHere_82 f_X13_71_12 (mo_t hM) (congrArg va_rf (mo_P28 hM)) ?_
    refine x_iload_n dX13_returnsHere_85 rfl ?_
    obtain ⟨o5, h⟩ := h
    refine y_iald hG dX13_returnsHere_86 (mo_t28 hM) (mo_n28 hM) o5 ?_
    refine x_eqi (v := (I (m + 21) (ix (I (m + 43) (ix ((I m 85) - (1 : Int32))))))) ((xup_ra e3 (by omega)).trans (xup_ra e1 (by omega))) ?_
    refine x_isub dX13_returnsHere_87 ?_
    refine y_put hG hM dX13_returnsHere_88 f_X13_544_12 ⟨_, rfl, Or.inl rfl⟩ rfl rfl ⟨_, rfl⟩ (fun I6 e6 => ?_)
    replace h := h I6 e6
    refine x_aload_n dX13_returnsHere_91 rfl ?_
    refine x_aload_n dX13_returnsHere_92 rfl ?_
    refine x_get (v := .ref (m + 45)) hG dX13_returnsHere_93 f_X13_144_12 (mo_t hM) (congrArg va_rf (mo_P93 hM)) ?_
    refine x_aload_n dX13_returnsHere_96 rfl ?_
    refine x_get (v := .int (I6 m 85)) hG dX13_returnsHere_97 f_X13_533_12 (mo_t hM) rfl ?_
    refine x_eqi (v := ((I m 85) - (1 : Int32))) ((xup_rk e6 (by decide)).trans (xup_rs e3)) ?_
    refine y_iald hG dX13_returnsHere_100 (mo_t93 hM) (mo_n93 hM) o4 ?_
    refine x_eqi (v := (I (m + 45) (ix ((I m 85) - (1 : Int32))))) ((xup_ra e6 (by omega)).trans ((xup_ra e3 (by omega)).trans (xup_ra e1 (by omega)))) ?_
    refine y_put hG hM dX13_returnsHere_101 f_X13_547_12 ⟨_, rfl, Or.inl rfl⟩ rfl rfl ⟨_, rfl⟩ (fun I7 e7 => ?_)
    replace h := h I7 e7
    refine x_aload_n dX13_returnsHere_104 rfl ?_
    refine x_aload_n dX13_returnsHere_105 rfl ?_
    refine x_get (v := .ref (m + 45)) hG dX13_returnsHere_106 f_X13_144_12 (mo_t hM) (congrArg va_rf (mo_P93 hM)) ?_
    refine x_aload_n dX13_returnsHere_109 rfl ?_
    refine x_get (v := .int (I7 m 85)) hG dX13_returnsHere_110 f_X13_533_12 (mo_t hM) rfl ?_
    refine x_eqi (v := ((I m 85) - (1 : Int32))) ((xup_rk e7 (by decide)).trans ((xup_rk e6 (by decide)).trans (xup_rs e3))) ?_
    refine x_iconst_ (v := (1 : Int32)) dX13_returnsHere_113 (by decide) ?_
    refine x_isub dX13_returnsHere_114 ?_
    obtain ⟨o8, h⟩ := h
    refine y_iald hG dX13_returnsHere_115 (mo_t93 hM) (mo_n93 hM) o8 ?_
    refine x_eqi (v := (I (m + 45) (ix (((I m 85) - (1 : Int32)) - (1 : Int32))))) ((xup_ra e7 (by omega)).trans ((xup_ra e6 (by omega)).trans ((xup_ra e3 (by omega)).trans (xup_ra e1 (by omega))))) ?_
    refine y_put hG hM dX13_returnsHere_116 f_X13_550_12 ⟨_, rfl, Or.inl rfl⟩ rfl rfl ⟨_, rfl⟩ (fun I9 e9 => ?_)
    replace h := h I9 e9
    refine x_aload_n dX13_returnsHere_119 rfl ?_
    refine x_aload_n dX13_returnsHere_120 rfl ?_
    refine x_get (v := .ref (m + 44)) hG dX13_returnsHere_121 f_X13_141_12 (mo_t hM) (congrArg va_rf (mo_P92 hM)) ?_
    refine x_aload_n dX13_returnsHere_124 rfl ?_
    refine x_get (v := .int (I9 m 85)) hG dX13_returnsHere_125 f_X13_533_12 (mo_t hM) rfl ?_
    refine x_eqi (v := ((I m 85) - (1 : Int32))) ((xup_rk e9 (by decide)).trans ((xup_rk e7 (by decide)).trans ((xup_rk e6 (by decide)).trans (xup_rs e3)))) ?_
    refine y_iald hG dX13_returnsHere_128 (mo_t92 hM) (mo_n92 hM) o4 ?_
    refine x_eqi (v := (I (m + 44) (ix ((I m 85) - (1 : Int32))))) ((xup_ra e9 (by omega)).trans ((xup_ra e7 (by omega)).trans ((xup_ra e6 (by omega)).trans ((xup_ra e3 (by omega)).trans (xup_ra e1 (by omega)))))) ?_
    refine y_put hG hM dX13_returnsHere_129 f_X13_553_12 ⟨_, rfl, Or.inl rfl⟩ rfl rfl ⟨_, rfl⟩ (fun I10 e10 => ?_)
    replace h := h I10 e10
    refine x_aload_n dX13_returnsHere_132 rfl ?_
    refine x_get (v := .ref (m + 39)) hG dX13_returnsHere_133 f_X13_126_12 (mo_t hM) (congrArg va_rf (mo_P71 hM)) ?_
    refine x_aload_n dX13_returnsHere_136 rfl ?_
    refine x_get (v := .int (I10 m 72)) hG dX13_returnsHere_137 f_X13_497_12 (mo_t hM) rfl ?_
    refine x_eqi (v := ((I m 72) - (1 : Int32))) ((xup_rk e10 (by decide)).trans ((xup_rk e9 (by decide)).trans ((xup_rk e7 (by decide)).trans ((xup_rk e6 (by decide)).trans ((xup_rk e3 (by decide)).trans (xup_rs e1)))))) ?_
    refine x_iload_n dX13_returnsHere_140 rfl ?_
    refine y_iast hG dX13_returnsHere_141 (mo_t71 hM) (mo_aN hM) (mo_n71 hM) o2 (fun I11 e11 => ?_)
    replace h := h I11 e11
    refine x_aload_n dX13_returnsHere_142 rfl ?_
    refine x_dup dX13_returnsHere_143 rfl ?_
    refine x_get (v := .int (I11 m 72)) hG dX13_returnsHere_144 f_X13_497_12 (mo_t hM) rfl ?_
    refine x_eqi (v := ((I m 72) - (1 : Int32))) ((xup_ra e11 (by omega)).trans ((xup_rk e10 (by decide)).trans ((xup_rk e9 (by decide)).trans ((xup_rk e7 (by decide)).trans ((xup_rk e6 (by decide)).trans ((xup_rk e3 (by decide)).trans (xup_rs e1))))))) ?_
    refine x_iconst_ (v := (1 : Int32)) dX13_returnsHere_147 (by decide) ?_
    refine x_iadd dX13_returnsHere_148 ?_
    refine y_put hG hM dX13_returnsHere_149 f_X13_497_12 ⟨_, rfl, Or.inl rfl⟩ rfl rfl ⟨_, rfl⟩ (fun I12 e12 => ?_)
    replace h := h I12 e12
    exact x_vret dX13_returnsHere_152 rfl ⟨_, rfl, rfl, h⟩
  · replace h := h.1 c44
    refine x_aload_n dX13_returnsHere_47 rfl ?_
    refine x_iconst_ (v := (3 : Int32)) dX13_returnsHere_48 (by decide) ?_
    refine y_put hG hM dX13_returnsHere_49 f_X13_512_12 ⟨_, rfl, Or.inl rfl⟩ rfl rfl ⟨_, rfl⟩ (fun I13 e13 => ?_)
    replace h := h I13 e13
    refine x_aload_n dX13_returnsHere_52 rfl ?_
    refine x_aload_n dX13_returnsHere_53 rfl ?_
    refine x_get (v := .ref (m + 26)) hG dX13_returnsHere_54 f_X13_86_12 (mo_t hM) (congrArg va_rf (mo_P33 hM)) ?_
    refine x_iload_n dX13_returnsHere_57 rfl ?_
    obtain ⟨o14, h⟩ := h
    refine y_zald hG dX13_returnsHere_58 (mo_t33 hM) (mo_n33 hM) o14 ?_
    refine x_eqi (v := (I (m + 26) (ix (I (m + 43) (ix ((I m 85) - (1 : Int32))))))) ((xup_ra e13 (by omega)).trans ((xup_ra e3 (by omega)).trans (xup_ra e1 (by omega)))) ?_
    refine x_via 67 (A' := (A.wI I13)) (lv' := [some (.ref m), none, none]) (st' := [.int (if (I (m + 26) (ix (I (m + 43) (ix ((I m 85) - (1 : Int32)))))) = 0 then (I (m + 39) (ix ((I m 72) - (1 : Int32)))) else (0 : Int32)), .ref m]) ?_ (fun k67 => ?_)
    rotate_left
    · refine x_if_eq (tgt := 66) dX13_returnsHere_59 (by decide) (fun c59 => ?_) (fun c59 => ?_)
      · refine x_iload_n dX13_returnsHere_66 rfl ?_
        change X _ _ _ _ _ _ [some (.ref m), some (.int (I (m + 39) (ix ((I m 72) - (1 : Int32))))), some (.int (I (m + 43) (ix ((I m 85) - (1 : Int32)))))] [.int (I (m + 39) (ix ((I m 72) - (1 : Int32)))), .ref m]
        simp only [if_pos c59] at k67 ⊢
        exact X.weak (xle_c rfl (xle_n (xle_n xle_nil))) k67
      · refine x_iconst_ (v := (0 : Int32)) dX13_returnsHere_62 (by decide) ?_
        refine x_goto (tgt := 67) dX13_returnsHere_63 (by decide) ?_
        change X _ _ _ _ _ _ [some (.ref m), some (.int (I (m + 39) (ix ((I m 72) - (1 : Int32))))), some (.int (I (m + 43) (ix ((I m 85) - (1 : Int32)))))] [.int (0 : Int32), .ref m]
        simp only [if_neg c59] at k67 ⊢
        exact X.weak (xle_c rfl (xle_n (xle_n xle_nil))) k67
    refine y_put hG hM dX13_returnsHere_67 f_X13_539_12 ⟨_, rfl, Or.inl rfl⟩ rfl rfl ⟨_, rfl⟩ (fun I15 e15 => ?_)
    replace h := h I15 e15
    refine x_aload_n dX13_returnsHere_70 rfl ?_
    refine x_iconst_ (v := (0 : Int32)) dX13_returnsHere_71 (by decide) ?_
    refine y_put hG hM dX13_returnsHere_72 f_X13_544_12 ⟨_, rfl, Or.inl rfl⟩ rfl rfl ⟨_, rfl⟩ (fun I16 e16 => ?_)
    replace h := h I16 e16
    exact x_vret dX13_returnsHere_75 rfl ⟨_, rfl, rfl, h⟩
def w_X13_works (m : Nat) (Q : Int32 → xII → Prop) (I : xII) : Prop := vp_in (I m 76) 9000 ∧ (((((I (m + 32) (ix (I m 76))) = (1 : Int32) ∨ (I (m + 32) (ix (I m 76))) = (3 : Int32)) → vp_in (if (I (m + 32) (ix (I m 76))) = (1 : Int32) then ((I m 86) + (I (m + 33) (ix (I m 76)))) else (I (m + 33) (ix (I m 76)))) 20000 ∧ (vp_in (I m 72) 280000 ∧ (∀ I5 : xII, I5 = xup I (m + 39) (ix (I m 72)) (I (m + 42) (ix (if (I (m + 32) (ix (I m 76))) = (1 : Int32) then ((I m 86) + (I (m + 33) (ix (I m 76)))) else (I (m + 33) (ix (I m 76)))))) → (∀ I6 : xII, I6 = xup I5 m 72 ((I m 72) + (1 : Int32)) → (∀ I7 : xII, I7 = xup I6 m 76 ((I m 76) + (1 : Int32)) → (Q (1 : Int32) I7)))))) ∧ (((I (m + 32) (ix (I m 76))) = (2 : Int32) ∨ (I (m + 32) (ix (I m 76))) = (4 : Int32)) → ∀ I8 : xII, I8 = xup I m 72 ((I m 72) - (1 : Int32)) → (vp_in ((I m 72) - (1 : Int32)) 280000 ∧ (vp_in (if (I (m + 32) (ix (I m 76))) = (2 : Int32) then ((I m 86) + (I (m + 33) (ix (I m 76)))) else (I (m + 33) (ix (I m 76)))) 20000 ∧ (∀ I11 : xII, I11 = xup I8 (m + 42) (ix (if (I (m + 32) (ix (I m 76))) = (2 : Int32) then ((I m 86) + (I (m + 33) (ix (I m 76)))) else (I (m + 33) (ix (I m 76))))) (I (m + 39) (ix ((I m 72) - (1 : Int32)))) → (∀ I12 : xII, I12 = xup I11 m 76 ((I m 76) + (1 : Int32)) → (Q (1 : Int32) I12)))))) ∧ (((I (m + 32) (ix (I m 76))) = (5 : Int32)) → ∃ J13 : Int32 → Prop, (∀ (y13_s0 : Int32), J13 y13_s0 → vp_in (I m 72) 280000 ∧ (∀ I15 : xII, I15 = xup I (m + 39) (ix (I m 72)) y13_s0 → (∃ J16 : Int32 → Prop, (∀ (y16_s0 : Int32), J16 y16_s0 → vp_in ((I m 72) + (1 : Int32)) 280000 ∧ (∀ I18 : xII, I18 = xup I15 (m + 39) (ix ((I m 72) + (1 : Int32))) y16_s0 → (∀ I19 : xII, I19 = xup I18 m 72 ((I m 72) + (2 : Int32)) → (∀ I20 : xII, I20 = xup I19 m 76 ((I m 76) + (1 : Int32)) → (Q (1 : Int32) I20))))) ∧ (((I (m + 34) (ix (I m 76))) = (-1 : Int32) → vp_in (((I m 86) + (I (m + 33) (ix (I m 76)))) + (1 : Int32)) 20000 ∧ (J16 (I (m + 42) (ix (((I m 86) + (I (m + 33) (ix (I m 76)))) + (1 : Int32)))))) ∧ (¬ (I (m + 34) (ix (I m 76))) = (-1 : Int32) → J16 (I (m + 34) (ix (I m 76)))))))) ∧ (((I (m + 34) (ix (I m 76))) = (-1 : Int32) → vp_in ((I m 86) + (I (m + 33) (ix (I m 76)))) 20000 ∧ (J13 (I (m + 42) (ix ((I m 86) + (I (m + 33) (ix (I m 76)))))))) ∧ (¬ (I (m + 34) (ix (I m 76))) = (-1 : Int32) → (((I (m + 35) (ix (I m 76))) = (1 : Int32) → J13 ((I m 86) + (I (m + 33) (ix (I m 76))))) ∧ (¬ (I (m + 35) (ix (I m 76))) = (1 : Int32) → J13 (I (m + 33) (ix (I m 76)))))))) ∧ (((I (m + 32) (ix (I m 76))) = (6 : Int32)) → ∃ J23 : Int32 → Prop, (∀ (y23_s0 : Int32), J23 y23_s0 → ∃ J24 : Int32 → Prop, (∀ (y24_s0 : Int32), J24 y24_s0 → vp_in ((I m 72) - (1 : Int32)) 280000 ∧ ((((I (m + 39) (ix ((I m 72) - (1 : Int32)))) < 0 → ∀ I26 : xII, I26 = xup I m 75 (5 : Int32) → (∀ I27 : xII, I27 = xup I26 m 82 (jishr (I (m + 35) (ix (I m 76))) (1 : Int32)) → (Q (0 : Int32) I27))) ∧ (¬ (I (m + 39) (ix ((I m 72) - (1 : Int32)))) < 0 → (((I (m + 39) (ix ((I m 72) - (1 : Int32)))) < y23_s0 → ∀ I28 : xII, I28 = xup I (m + 39) (ix ((I m 72) - (1 : Int32))) (y24_s0 + (I (m + 39) (ix ((I m 72) - (1 : Int32))))) → (∀ I29 : xII, I29 = xup I28 m 76 ((I m 76) + (1 : Int32)) → (Q (1 : Int32) I29))) ∧ (¬ (I (m + 39) (ix ((I m 72) - (1 : Int32)))) < y23_s0 → ∀ I30 : xII, I30 = xup I m 75 (5 : Int32) → (∀ I31 : xII, I31 = xup I30 m 82 (jishr (I (m + 35) (ix (I m 76))) (1 : Int32)) → (Q (0 : Int32) I31)))))))) ∧ (((I (m + 34) (ix (I m 76))) = (-1 : Int32) → vp_in ((I m 86) + (I (m + 33) (ix (I m 76)))) 20000 ∧ (J24 (I (m + 42) (ix ((I m 86) + (I (m + 33) (ix (I m 76)))))))) ∧ (¬ (I (m + 34) (ix (I m 76))) = (-1 : Int32) → ((((I (m + 35) (ix (I m 76))) &&& (1 : Int32)) = (1 : Int32) → J24 ((I m 86) + (I (m + 33) (ix (I m 76))))) ∧ (¬ ((I (m + 35) (ix (I m 76))) &&& (1 : Int32)) = (1 : Int32) → J24 (I (m + 33) (ix (I m 76)))))))) ∧ (((I (m + 34) (ix (I m 76))) = (-1 : Int32) → vp_in (((I m 86) + (I (m + 33) (ix (I m 76)))) + (1 : Int32)) 20000 ∧ (J23 (I (m + 42) (ix (((I m 86) + (I (m + 33) (ix (I m 76)))) + (1 : Int32)))))) ∧ (¬ (I (m + 34) (ix (I m 76))) = (-1 : Int32) → J23 (I (m + 34) (ix (I m 76)))))) ∧ (((I (m + 32) (ix (I m 76))) = (7 : Int32)) → vp_in ((I m 72) - (1 : Int32)) 280000 ∧ (vp_in (I (m + 39) (ix ((I m 72) - (1 : Int32)))) 20000 ∧ (∀ I36 : xII, I36 = xup I (m + 39) (ix ((I m 72) - (1 : Int32))) (I (m + 42) (ix (I (m + 39) (ix ((I m 72) - (1 : Int32)))))) → (∀ I37 : xII, I37 = xup I36 m 76 ((I m 76) + (1 : Int32)) → (Q (1 : Int32) I37))))) ∧ (((I (m + 32) (ix (I m 76))) = (8 : Int32)) → ∀ I38 : xII, I38 = xup I m 72 ((I m 72) - (2 : Int32)) → (vp_in ((I m 72) - (2 : Int32)) 280000 ∧ (∃ J40 : Int32 → Prop, (∀ (y40_s0 : Int32), J40 y40_s0 → vp_in (I (m + 39) (ix ((I m 72) - (2 : Int32)))) 20000 ∧ (∀ I42 : xII, I42 = xup I38 (m + 42) (ix (I (m + 39) (ix ((I m 72) - (2 : Int32))))) y40_s0 → (∀ I43 : xII, I43 = xup I42 m 76 ((I m 76) + (1 : Int32)) → (Q (1 : Int32) I43)))) ∧ (((I (m + 33) (ix (I m 76))) = (1 : Int32) → vp_in (((I m 72) - (2 : Int32)) + (1 : Int32)) 280000 ∧ (J40 ((I (m + 39) (ix (((I m 72) - (2 : Int32)) + (1 : Int32)))) &&& (255 : Int32)))) ∧ (¬ (I (m + 33) (ix (I m 76))) = (1 : Int32) → vp_in (((I m 72) - (2 : Int32)) + (1 : Int32)) 280000 ∧ (J40 (I (m + 39) (ix (((I m 72) - (2 : Int32)) + (1 : Int32)))))))))) ∧ (((I (m + 32) (ix (I m 76))) = (9 : Int32)) → vp_in ((I m 72) - (1 : Int32)) 280000 ∧ (vp_in (I m 72) 280000 ∧ (∀ I48 : xII, I48 = xup I (m + 39) (ix (I m 72)) (I (m + 39) (ix ((I m 72) - (1 : Int32)))) → (∀ I49 : xII, I49 = xup I48 m 72 ((I m 72) + (1 : Int32)) → (∀ I50 : xII, I50 = xup I49 m 76 ((I m 76) + (1 : Int32)) → (Q (1 : Int32) I50)))))) ∧ (((I (m + 32) (ix (I m 76))) = (15 : Int32)) → (((I m 78) = 0 → Q (0 : Int32) I) ∧ (¬ (I m 78) = 0 → ∀ I51 : xII, I51 = xup I m 78 ((I m 78) - (1 : Int32)) → (∀ I52 : xII, I52 = xup I51 m 77 ((I m 77) + (1 : Int32)) → (∀ I53 : xII, I53 = xup I52 m 76 ((I m 76) + (1 : Int32)) → (Q (1 : Int32) I53)))))) ∧ (((I (m + 32) (ix (I m 76))) = (16 : Int32)) → ∃ R54 : Int32 → xII → Prop, w_X13_calls m (I (m + 33) (ix (I m 76))) (I (m + 34) (ix (I m 76))) ((I m 76) + (1 : Int32)) R54 I ∧ (∀ (v54 : Int32) (I54 : xII), (v54 = 0 ∨ v54 = 1) → R54 v54 I54 → (Q v54 I54))) ∧ (((I (m + 32) (ix (I m 76))) = (17 : Int32)) → ∃ R55 : xII → Prop, w_X13_returnsHere m R55 I ∧ (∀ I55 : xII, R55 I55 → (Q (if (I55 m 75) = (1 : Int32) then (1 : Int32) else (0 : Int32)) I55))) ∧ (((I (m + 32) (ix (I m 76))) = (18 : Int32)) → ∀ I56 : xII, I56 = xup I m 72 ((I m 72) - (1 : Int32)) → (∀ I57 : xII, I57 = xup I56 m 76 ((I m 76) + (1 : Int32)) → (Q (1 : Int32) I57))) ∧ (((I (m + 32) (ix (I m 76))) = (19 : Int32)) → ∀ I58 : xII, I58 = xup I m 72 ((I m 72) - (1 : Int32)) → (∃ J59 : xII → Prop, (∀ (I59 : xII), J59 I59 → ∃ J60 : xII → Prop, (∀ (I60 : xII), J60 I60 → ∀ I61 : xII, I61 = xup I60 m 76 ((I60 m 76) + (1 : Int32)) → (Q (1 : Int32) I61)) ∧ (((2147483647 : Int32) ≤ (I59 m 79) → J60 I59) ∧ (¬ (2147483647 : Int32) ≤ (I59 m 79) → ∀ I62 : xII, I62 = xup I59 m 79 ((I59 m 79) + (1 : Int32)) → (J60 I62)))) ∧ (((2000 : Int32) ≤ (I m 79) → J59 I58) ∧ (¬ (2000 : Int32) ≤ (I m 79) → vp_in ((I m 72) - (1 : Int32)) 280000 ∧ (vp_in (I m 79) 2000 ∧ (∀ I65 : xII, I65 = xup I58 (m + 41) (ix (I m 79)) (I (m + 39) (ix ((I m 72) - (1 : Int32)))) → (J59 I65))))))) ∧ (((I (m + 32) (ix (I m 76))) = (20 : Int32)) → ∀ I66 : xII, I66 = xup I m 72 ((I m 72) - (1 : Int32)) → (∀ I67 : xII, I67 = xup I66 m 75 (4 : Int32) → (vp_in ((I m 72) - (1 : Int32)) 280000 ∧ (∀ I69 : xII, I69 = xup I67 m 81 (I (m + 39) (ix ((I m 72) - (1 : Int32)))) → (Q (0 : Int32) I69))))) ∧ (((I (m + 32) (ix (I m 76))) = (21 : Int32)) → (((I m 80) = 0 → ∀ I80 : xII, I80 = xup I m 75 (2 : Int32) → (Q (0 : Int32) I80)) ∧ (¬ (I m 80) = 0 → vp_in (0 : Int32) 500 ∧ (vp_in (I m 72) 280000 ∧ (∀ I72 : xII, I72 = xup I (m + 39) (ix (I m 72)) (I (m + 40) 0) → (∀ I73 : xII, I73 = xup I72 m 72 ((I m 72) + (1 : Int32)) → (∀ I74 : xII, I74 = xup I73 m 80 ((I m 80) - (1 : Int32)) → (∃ L75 : Nat → Int32 → xII → Prop, (∃ n75 : Nat, L75 n75 (0 : Int32) I74) ∧ (∀ (n75 : Nat) (y75_3 : Int32) (I75 : xII), L75 n75 y75_3 I75 → (((I75 m 80) ≤ y75_3 → ∀ I76 : xII, I76 = xup I75 m 76 ((I75 m 76) + (1 : Int32)) → (Q (1 : Int32) I76)) ∧ (¬ (I75 m 80) ≤ y75_3 → vp_in (y75_3 + (1 : Int32)) 500 ∧ (vp_in y75_3 500 ∧ (∀ I79 : xII, I79 = xup I75 (m + 40) (ix y75_3) (I75 (m + 40) (ix (y75_3 + (1 : Int32)))) → ((∃ q75 : Nat, q75 < n75 ∧ L75 q75 (y75_3 + (1 : Int32)) I79))))))))))))))) ∧ (((I (m + 32) (ix (I m 76))) = (22 : Int32)) → ∃ L81 : Nat → Int32 → xII → Prop, (∃ n81 : Nat, L81 n81 (0 : Int32) I) ∧ (∀ (n81 : Nat) (y81_3 : Int32) (I81 : xII), L81 n81 y81_3 I81 → (((I (m + 34) (ix (I m 76))) ≤ y81_3 → ∀ I82 : xII, I82 = xup I81 m 76 ((I81 m 76) + (1 : Int32)) → (Q (1 : Int32) I82)) ∧ (¬ (I (m + 34) (ix (I m 76))) ≤ y81_3 → vp_in (((I81 m 86) + (I (m + 33) (ix (I m 76)))) + y81_3) 20000 ∧ (∀ I84 : xII, I84 = xup I81 (m + 42) (ix (((I81 m 86) + (I (m + 33) (ix (I m 76)))) + y81_3)) (0 : Int32) → ((∃ q81 : Nat, q81 < n81 ∧ L81 q81 (y81_3 + (1 : Int32)) I84))))))) ∧ ((¬ (I (m + 32) (ix (I m 76))) = (1 : Int32) ∧ ¬ (I (m + 32) (ix (I m 76))) = (3 : Int32) ∧ ¬ (I (m + 32) (ix (I m 76))) = (2 : Int32) ∧ ¬ (I (m + 32) (ix (I m 76))) = (4 : Int32) ∧ ¬ (I (m + 32) (ix (I m 76))) = (5 : Int32) ∧ ¬ (I (m + 32) (ix (I m 76))) = (6 : Int32) ∧ ¬ (I (m + 32) (ix (I m 76))) = (7 : Int32) ∧ ¬ (I (m + 32) (ix (I m 76))) = (8 : Int32) ∧ ¬ (I (m + 32) (ix (I m 76))) = (9 : Int32) ∧ ¬ (I (m + 32) (ix (I m 76))) = (15 : Int32) ∧ ¬ (I (m + 32) (ix (I m 76))) = (16 : Int32) ∧ ¬ (I (m + 32) (ix (I m 76))) = (17 : Int32) ∧ ¬ (I (m + 32) (ix (I m 76))) = (18 : Int32) ∧ ¬ (I (m + 32) (ix (I m 76))) = (19 : Int32) ∧ ¬ (I (m + 32) (ix (I m 76))) = (20 : Int32) ∧ ¬ (I (m + 32) (ix (I m 76))) = (21 : Int32) ∧ ¬ (I (m + 32) (ix (I m 76))) = (22 : Int32)) → ∃ R85 : Int32 → xII → Prop, w_X13_plainly m (I m 76) R85 I ∧ (∀ (v85 : Int32) (I85 : xII), R85 v85 I85 → (∀ I86 : xII, I86 = xup I85 m 76 v85 → (Q (1 : Int32) I86))))))
theorem m_X13_works (hG : xOK G) {dp : Nat} {A : xA} {m : Nat} (hM : xMo G A m) {Q : Int32 → xII → Prop} {I : xII} (h : w_X13_works m Q I) : MX G (dp + 3) kX13_works [.ref m] (A.wI I) (oZ A Q) := by
  unfold w_X13_works at h
  refine MX.of rfl (Nat.le_of_ble_eq_true rfl) ?_
  change X _ _ _ _ _ _ [some (.ref m), none, none, none, none, none] _
  refine x_aload_n dX13_works_0 rfl ?_
  refine x_get (v := .ref (m + 33)) hG dX13_works_1 f_X13_107_12 (mo_t hM) (congrArg va_rf (mo_P57 hM)) ?_
  refine x_aload_n dX13_works_4 rfl ?_
  refine x_get (v := .int (I m 76)) hG dX13_works_5 f_X13_553_12 (mo_t hM) rfl ?_
  obtain ⟨o1, h⟩ := h
  refine y_iald hG dX13_works_8 (mo_t57 hM) (mo_n57 hM) o1 ?_
  refine x_istore_n dX13_works_9 (by decide) ?_
  refine x_aload_n dX13_works_10 rfl ?_
  refine x_get (v := .ref (m + 34)) hG dX13_works_11 f_X13_110_12 (mo_t hM) (congrArg va_rf (mo_P58 hM)) ?_
  refine x_aload_n dX13_works_14 rfl ?_
  refine x_get (v := .int (I m 76)) hG dX13_works_15 f_X13_553_12 (mo_t hM) rfl ?_
  refine y_iald hG dX13_works_18 (mo_t58 hM) (mo_n58 hM) o1 ?_
  refine x_istore_n dX13_works_19 (by decide) ?_
  refine x_aload_n dX13_works_20 rfl ?_
  refine x_get (v := .ref (m + 32)) hG dX13_works_21 f_X13_104_12 (mo_t hM) (congrArg va_rf (mo_P56 hM)) ?_
  refine x_aload_n dX13_works_24 rfl ?_
  refine x_get (v := .int (I m 76)) hG dX13_works_25 f_X13_553_12 (mo_t hM) rfl ?_
  refine y_iald hG dX13_works_28 (mo_t56 hM) (mo_n56 hM) o1 ?_
  have kt2_0 : ((I (m + 32) (ix (I m 76))) = (1 : Int32) ∨ (I (m + 32) (ix (I m 76))) = (3 : Int32)) → X G (dp + 3) kX13_works (oZ A Q) (A.wI I) 132 [some (.ref m), some (.int (I (m + 33) (ix (I m 76)))), some (.int (I (m + 34) (ix (I m 76)))), none, none, none] [] := by
    intro c29
    replace h := h.1 c29
    refine x_aload_n dX13_works_132 rfl ?_
    refine x_get (v := .ref (m + 39)) hG dX13_works_133 f_X13_126_12 (mo_t hM) (congrArg va_rf (mo_P71 hM)) ?_
    refine x_aload_n dX13_works_136 rfl ?_
    refine x_get (v := .int (I m 72)) hG dX13_works_137 f_X13_497_12 (mo_t hM) rfl ?_
    refine x_aload_n dX13_works_140 rfl ?_
    refine x_get (v := .ref (m + 42)) hG dX13_works_141 f_X13_135_12 (mo_t hM) (congrArg va_rf (mo_P90 hM)) ?_
    refine x_aload_n dX13_works_144 rfl ?_
    refine x_get (v := .ref (m + 32)) hG dX13_works_145 f_X13_104_12 (mo_t hM) (congrArg va_rf (mo_P56 hM)) ?_
    refine x_aload_n dX13_works_148 rfl ?_
    refine x_get (v := .int (I m 76)) hG dX13_works_149 f_X13_553_12 (mo_t hM) rfl ?_
    refine y_iald hG dX13_works_152 (mo_t56 hM) (mo_n56 hM) o1 ?_
    refine x_iconst_ (v := (1 : Int32)) dX13_works_153 (by decide) ?_
    refine x_via 167 (A' := (A.wI I)) (lv' := [some (.ref m), none, none, none, none, none]) (st' := [.int (if (I (m + 32) (ix (I m 76))) = (1 : Int32) then ((I m 86) + (I (m + 33) (ix (I m 76)))) else (I (m + 33) (ix (I m 76)))), .ref (m + 42), .int (I m 72), .ref (m + 39)]) ?_ (fun k167 => ?_)
    rotate_left
    · refine x_icmp_ne (tgt := 166) dX13_works_154 (by decide) (fun c154 => ?_) (fun c154 => ?_)
      · refine x_iload_n dX13_works_166 rfl ?_
        change X _ _ _ _ _ _ [some (.ref m), some (.int (I (m + 33) (ix (I m 76)))), some (.int (I (m + 34) (ix (I m 76)))), none, none, none] [.int (I (m + 33) (ix (I m 76))), .ref (m + 42), .int (I m 72), .ref (m + 39)]
        simp only [if_neg c154] at k167 ⊢
        exact X.weak (xle_c rfl (xle_n (xle_n (xle_n (xle_n (xle_n xle_nil)))))) k167
      · refine x_aload_n dX13_works_157 rfl ?_
        refine x_get (v := .int (I m 86)) hG dX13_works_158 f_X13_550_12 (mo_t hM) rfl ?_
        refine x_iload_n dX13_works_161 rfl ?_
        refine x_iadd dX13_works_162 ?_
        refine x_goto (tgt := 167) dX13_works_163 (by decide) ?_
        change X _ _ _ _ _ _ [some (.ref m), some (.int (I (m + 33) (ix (I m 76)))), some (.int (I (m + 34) (ix (I m 76)))), none, none, none] [.int ((I m 86) + (I (m + 33) (ix (I m 76)))), .ref (m + 42), .int (I m 72), .ref (m + 39)]
        simp only [if_pos c154] at k167 ⊢
        exact X.weak (xle_c rfl (xle_n (xle_n (xle_n (xle_n (xle_n xle_nil)))))) k167
    obtain ⟨o3, h⟩ := h
    refine y_iald hG dX13_works_167 (mo_t90 hM) (mo_n90 hM) o3 ?_
    obtain ⟨o4, h⟩ := h
    refine y_iast hG dX13_works_168 (mo_t71 hM) (mo_aN hM) (mo_n71 hM) o4 (fun I5 e5 => ?_)
    replace h := h I5 e5
    refine x_aload_n dX13_works_169 rfl ?_
    refine x_dup dX13_works_170 rfl ?_
    refine x_get (v := .int (I5 m 72)) hG dX13_works_171 f_X13_497_12 (mo_t hM) rfl ?_
    refine x_eqi (v := (I m 72)) (xup_ra e5 (by omega)) ?_
    refine x_iconst_ (v := (1 : Int32)) dX13_works_174 (by decide) ?_
    refine x_iadd dX13_works_175 ?_
    refine y_put hG hM dX13_works_176 f_X13_497_12 ⟨_, rfl, Or.inl rfl⟩ rfl rfl ⟨_, rfl⟩ (fun I6 e6 => ?_)
    replace h := h I6 e6
    refine x_goto (tgt := 880) dX13_works_179 (by decide) ?_
    refine x_aload_n dX13_works_880 rfl ?_
    refine x_dup dX13_works_881 rfl ?_
    refine x_get (v := .int (I6 m 76)) hG dX13_works_882 f_X13_553_12 (mo_t hM) rfl ?_
    refine x_eqi (v := (I m 76)) ((xup_rk e6 (by decide)).trans (xup_ra e5 (by omega))) ?_
    refine x_iconst_ (v := (1 : Int32)) dX13_works_885 (by decide) ?_
    refine x_iadd dX13_works_886 ?_
    refine y_put hG hM dX13_works_887 f_X13_553_12 ⟨_, rfl, Or.inl rfl⟩ rfl rfl ⟨_, rfl⟩ (fun I7 e7 => ?_)
    replace h := h I7 e7
    refine x_iconst_ (v := (1 : Int32)) dX13_works_890 (by decide) ?_
    exact x_zret dX13_works_891 rfl (by decide) ⟨_, _, rfl, rfl, (by decide), h⟩
  have kt2_1 : ((I (m + 32) (ix (I m 76))) = (2 : Int32) ∨ (I (m + 32) (ix (I m 76))) = (4 : Int32)) → X G (dp + 3) kX13_works (oZ A Q) (A.wI I) 182 [some (.ref m), some (.int (I (m + 33) (ix (I m 76)))), some (.int (I (m + 34) (ix (I m 76)))), none, none, none] [] := by
    intro c29
    replace h := h.2.1 c29
    refine x_aload_n dX13_works_182 rfl ?_
    refine x_dup dX13_works_183 rfl ?_
    refine x_get (v := .int (I m 72)) hG dX13_works_184 f_X13_497_12 (mo_t hM) rfl ?_
    refine x_iconst_ (v := (1 : Int32)) dX13_works_187 (by decide) ?_
    refine x_isub dX13_works_188 ?_
    refine y_put hG hM dX13_works_189 f_X13_497_12 ⟨_, rfl, Or.inl rfl⟩ rfl rfl ⟨_, rfl⟩ (fun I8 e8 => ?_)
    replace h := h I8 e8
    refine x_aload_n dX13_works_192 rfl ?_
    refine x_get (v := .ref (m + 42)) hG dX13_works_193 f_X13_135_12 (mo_t hM) (congrArg va_rf (mo_P90 hM)) ?_
    refine x_aload_n dX13_works_196 rfl ?_
    refine x_get (v := .ref (m + 32)) hG dX13_works_197 f_X13_104_12 (mo_t hM) (congrArg va_rf (mo_P56 hM)) ?_
    refine x_aload_n dX13_works_200 rfl ?_
    refine x_get (v := .int (I8 m 76)) hG dX13_works_201 f_X13_553_12 (mo_t hM) rfl ?_
    refine x_eqi (v := (I m 76)) (xup_rk e8 (by decide)) ?_
    refine y_iald hG dX13_works_204 (mo_t56 hM) (mo_n56 hM) o1 ?_
    refine x_eqi (v := (I (m + 32) (ix (I m 76)))) (xup_ra e8 (by omega)) ?_
    refine x_iconst_ (v := (2 : Int32)) dX13_works_205 (by decide) ?_
    refine x_via 219 (A' := (A.wI I8)) (lv' := [some (.ref m), none, none, none, none, none]) (st' := [.int (if (I (m + 32) (ix (I m 76))) = (2 : Int32) then ((I m 86) + (I (m + 33) (ix (I m 76)))) else (I (m + 33) (ix (I m 76)))), .ref (m + 42)]) ?_ (fun k219 => ?_)
    rotate_left
    · refine x_icmp_ne (tgt := 218) dX13_works_206 (by decide) (fun c206 => ?_) (fun c206 => ?_)
      · refine x_iload_n dX13_works_218 rfl ?_
        change X _ _ _ _ _ _ [some (.ref m), some (.int (I (m + 33) (ix (I m 76)))), some (.int (I (m + 34) (ix (I m 76)))), none, none, none] [.int (I (m + 33) (ix (I m 76))), .ref (m + 42)]
        simp only [if_neg c206] at k219 ⊢
        exact X.weak (xle_c rfl (xle_n (xle_n (xle_n (xle_n (xle_n xle_nil)))))) k219
      · refine x_aload_n dX13_works_209 rfl ?_
        refine x_get (v := .int (I8 m 86)) hG dX13_works_210 f_X13_550_12 (mo_t hM) rfl ?_
        refine x_eqi (v := (I m 86)) (xup_rk e8 (by decide)) ?_
        refine x_iload_n dX13_works_213 rfl ?_
        refine x_iadd dX13_works_214 ?_
        refine x_goto (tgt := 219) dX13_works_215 (by decide) ?_
        change X _ _ _ _ _ _ [some (.ref m), some (.int (I (m + 33) (ix (I m 76)))), some (.int (I (m + 34) (ix (I m 76)))), none, none, none] [.int ((I m 86) + (I (m + 33) (ix (I m 76)))), .ref (m + 42)]
        simp only [if_pos c206] at k219 ⊢
        exact X.weak (xle_c rfl (xle_n (xle_n (xle_n (xle_n (xle_n xle_nil)))))) k219
    refine x_aload_n dX13_works_219 rfl ?_
    refine x_get (v := .ref (m + 39)) hG dX13_works_220 f_X13_126_12 (mo_t hM) (congrArg va_rf (mo_P71 hM)) ?_
    refine x_aload_n dX13_works_223 rfl ?_
    refine x_get (v := .int (I8 m 72)) hG dX13_works_224 f_X13_497_12 (mo_t hM) rfl ?_
    refine x_eqi (v := ((I m 72) - (1 : Int32))) (xup_rs e8) ?_
    obtain ⟨o9, h⟩ := h
    refine y_iald hG dX13_works_227 (mo_t71 hM) (mo_n71 hM) o9 ?_
    refine x_eqi (v := (I (m + 39) (ix ((I m 72) - (1 : Int32))))) (xup_ra e8 (by omega)) ?_
    obtain ⟨o10, h⟩ := h
    refine y_iast hG dX13_works_228 (mo_t90 hM) (mo_aN hM) (mo_n90 hM) o10 (fun I11 e11 => ?_)
    replace h := h I11 e11
    refine x_goto (tgt := 880) dX13_works_229 (by decide) ?_
    refine x_aload_n dX13_works_880 rfl ?_
    refine x_dup dX13_works_881 rfl ?_
    refine x_get (v := .int (I11 m 76)) hG dX13_works_882 f_X13_553_12 (mo_t hM) rfl ?_
    refine x_eqi (v := (I m 76)) ((xup_ra e11 (by omega)).trans (xup_rk e8 (by decide))) ?_
    refine x_iconst_ (v := (1 : Int32)) dX13_works_885 (by decide) ?_
    refine x_iadd dX13_works_886 ?_
    refine y_put hG hM dX13_works_887 f_X13_553_12 ⟨_, rfl, Or.inl rfl⟩ rfl rfl ⟨_, rfl⟩ (fun I12 e12 => ?_)
    replace h := h I12 e12
    refine x_iconst_ (v := (1 : Int32)) dX13_works_890 (by decide) ?_
    exact x_zret dX13_works_891 rfl (by decide) ⟨_, _, rfl, rfl, (by decide), h⟩
  have kt2_2 : ((I (m + 32) (ix (I m 76))) = (5 : Int32)) → X G (dp + 3) kX13_works (oZ A Q) (A.wI I) 232 [some (.ref m), some (.int (I (m + 33) (ix (I m 76)))), some (.int (I (m + 34) (ix (I m 76)))), none, none, none] [] := by
    intro c29
    replace h := h.2.2.1 c29
    refine x_aload_n dX13_works_232 rfl ?_
    refine x_get (v := .ref (m + 39)) hG dX13_works_233 f_X13_126_12 (mo_t hM) (congrArg va_rf (mo_P71 hM)) ?_
    refine x_aload_n dX13_works_236 rfl ?_
    refine x_get (v := .int (I m 72)) hG dX13_works_237 f_X13_497_12 (mo_t hM) rfl ?_
    refine x_iload_n dX13_works_240 rfl ?_
    refine x_iconst_ (v := (-1 : Int32)) dX13_works_241 (by decide) ?_
    obtain ⟨J13, g13, h⟩ := h
    have kj13 : ∀ (y13_s0 : Int32), J13 y13_s0 → X G (dp + 3) kX13_works (oZ A Q) (A.wI I) 282 [some (.ref m), some (.int (I (m + 33) (ix (I m 76)))), some (.int (I (m + 34) (ix (I m 76)))), none, none, none] [.int y13_s0, .int (I m 72), .ref (m + 39)] := by
      intro y13_s0 h
      replace h := g13 y13_s0 h
      obtain ⟨o14, h⟩ := h
      refine y_iast hG dX13_works_282 (mo_t71 hM) (mo_aN hM) (mo_n71 hM) o14 (fun I15 e15 => ?_)
      replace h := h I15 e15
      refine x_aload_n dX13_works_283 rfl ?_
      refine x_get (v := .ref (m + 39)) hG dX13_works_284 f_X13_126_12 (mo_t hM) (congrArg va_rf (mo_P71 hM)) ?_
      refine x_aload_n dX13_works_287 rfl ?_
      refine x_get (v := .int (I15 m 72)) hG dX13_works_288 f_X13_497_12 (mo_t hM) rfl ?_
      refine x_eqi (v := (I m 72)) (xup_ra e15 (by omega)) ?_
      refine x_iconst_ (v := (1 : Int32)) dX13_works_291 (by decide) ?_
      refine x_iadd dX13_works_292 ?_
      refine x_iload_n dX13_works_293 rfl ?_
      refine x_iconst_ (v := (-1 : Int32)) dX13_works_294 (by decide) ?_
      obtain ⟨J16, g16, h⟩ := h
      have kj16 : ∀ (y16_s0 : Int32), J16 y16_s0 → X G (dp + 3) kX13_works (oZ A Q) (A.wI I15) 315 [some (.ref m), none, none, none, none, none] [.int y16_s0, .int ((I m 72) + (1 : Int32)), .ref (m + 39)] := by
        intro y16_s0 h
        replace h := g16 y16_s0 h
        obtain ⟨o17, h⟩ := h
        refine y_iast hG dX13_works_315 (mo_t71 hM) (mo_aN hM) (mo_n71 hM) o17 (fun I18 e18 => ?_)
        replace h := h I18 e18
        refine x_aload_n dX13_works_316 rfl ?_
        refine x_dup dX13_works_317 rfl ?_
        refine x_get (v := .int (I18 m 72)) hG dX13_works_318 f_X13_497_12 (mo_t hM) rfl ?_
        refine x_eqi (v := (I m 72)) ((xup_ra e18 (by omega)).trans (xup_ra e15 (by omega))) ?_
        refine x_iconst_ (v := (2 : Int32)) dX13_works_321 (by decide) ?_
        refine x_iadd dX13_works_322 ?_
        refine y_put hG hM dX13_works_323 f_X13_497_12 ⟨_, rfl, Or.inl rfl⟩ rfl rfl ⟨_, rfl⟩ (fun I19 e19 => ?_)
        replace h := h I19 e19
        refine x_goto (tgt := 880) dX13_works_326 (by decide) ?_
        refine x_aload_n dX13_works_880 rfl ?_
        refine x_dup dX13_works_881 rfl ?_
        refine x_get (v := .int (I19 m 76)) hG dX13_works_882 f_X13_553_12 (mo_t hM) rfl ?_
        refine x_eqi (v := (I m 76)) ((xup_rk e19 (by decide)).trans ((xup_ra e18 (by omega)).trans (xup_ra e15 (by omega)))) ?_
        refine x_iconst_ (v := (1 : Int32)) dX13_works_885 (by decide) ?_
        refine x_iadd dX13_works_886 ?_
        refine y_put hG hM dX13_works_887 f_X13_553_12 ⟨_, rfl, Or.inl rfl⟩ rfl rfl ⟨_, rfl⟩ (fun I20 e20 => ?_)
        replace h := h I20 e20
        refine x_iconst_ (v := (1 : Int32)) dX13_works_890 (by decide) ?_
        exact x_zret dX13_works_891 rfl (by decide) ⟨_, _, rfl, rfl, (by decide), h⟩
      refine x_icmp_ne (tgt := 314) dX13_works_295 (by decide) (fun c295 => ?_) (fun c295 => ?_)
      · replace h := h.2 c295
        refine x_iload_n dX13_works_314 rfl ?_
        change X _ _ _ _ _ _ [some (.ref m), some (.int (I (m + 33) (ix (I m 76)))), some (.int (I (m + 34) (ix (I m 76)))), none, none, none] [.int (I (m + 34) (ix (I m 76))), .int ((I m 72) + (1 : Int32)), .ref (m + 39)]
        exact X.weak (xle_c rfl (xle_n (xle_n (xle_n (xle_n (xle_n xle_nil)))))) (kj16 (I (m + 34) (ix (I m 76))) h)
      · replace h := h.1 c295
        refine x_aload_n dX13_works_298 rfl ?_
        refine x_get (v := .ref (m + 42)) hG dX13_works_299 f_X13_135_12 (mo_t hM) (congrArg va_rf (mo_P90 hM)) ?_
        refine x_aload_n dX13_works_302 rfl ?_
        refine x_get (v := .int (I15 m 86)) hG dX13_works_303 f_X13_550_12 (mo_t hM) rfl ?_
        refine x_eqi (v := (I m 86)) (xup_ra e15 (by omega)) ?_
        refine x_iload_n dX13_works_306 rfl ?_
        refine x_iadd dX13_works_307 ?_
        refine x_iconst_ (v := (1 : Int32)) dX13_works_308 (by decide) ?_
        refine x_iadd dX13_works_309 ?_
        obtain ⟨o21, h⟩ := h
        refine y_iald hG dX13_works_310 (mo_t90 hM) (mo_n90 hM) o21 ?_
        refine x_eqi (v := (I (m + 42) (ix (((I m 86) + (I (m + 33) (ix (I m 76)))) + (1 : Int32))))) (xup_ra e15 (by omega)) ?_
        refine x_goto (tgt := 315) dX13_works_311 (by decide) ?_
        change X _ _ _ _ _ _ [some (.ref m), some (.int (I (m + 33) (ix (I m 76)))), some (.int (I (m + 34) (ix (I m 76)))), none, none, none] [.int (I (m + 42) (ix (((I m 86) + (I (m + 33) (ix (I m 76)))) + (1 : Int32)))), .int ((I m 72) + (1 : Int32)), .ref (m + 39)]
        exact X.weak (xle_c rfl (xle_n (xle_n (xle_n (xle_n (xle_n xle_nil)))))) (kj16 (I (m + 42) (ix (((I m 86) + (I (m + 33) (ix (I m 76)))) + (1 : Int32)))) h)
    refine x_icmp_ne (tgt := 259) dX13_works_242 (by decide) (fun c242 => ?_) (fun c242 => ?_)
    · replace h := h.2 c242
      refine x_aload_n dX13_works_259 rfl ?_
      refine x_get (v := .ref (m + 35)) hG dX13_works_260 f_X13_113_12 (mo_t hM) (congrArg va_rf (mo_P59 hM)) ?_
      refine x_aload_n dX13_works_263 rfl ?_
      refine x_get (v := .int (I m 76)) hG dX13_works_264 f_X13_553_12 (mo_t hM) rfl ?_
      refine y_iald hG dX13_works_267 (mo_t59 hM) (mo_n59 hM) o1 ?_
      refine x_iconst_ (v := (1 : Int32)) dX13_works_268 (by decide) ?_
      refine x_icmp_ne (tgt := 281) dX13_works_269 (by decide) (fun c269 => ?_) (fun c269 => ?_)
      · replace h := h.2 c269
        refine x_iload_n dX13_works_281 rfl ?_
        change X _ _ _ _ _ _ [some (.ref m), some (.int (I (m + 33) (ix (I m 76)))), some (.int (I (m + 34) (ix (I m 76)))), none, none, none] [.int (I (m + 33) (ix (I m 76))), .int (I m 72), .ref (m + 39)]
        exact X.weak (xle_c rfl (xle_c rfl (xle_c rfl (xle_n (xle_n (xle_n xle_nil)))))) (kj13 (I (m + 33) (ix (I m 76))) h)
      · replace h := h.1 c269
        refine x_aload_n dX13_works_272 rfl ?_
        refine x_get (v := .int (I m 86)) hG dX13_works_273 f_X13_550_12 (mo_t hM) rfl ?_
        refine x_iload_n dX13_works_276 rfl ?_
        refine x_iadd dX13_works_277 ?_
        refine x_goto (tgt := 282) dX13_works_278 (by decide) ?_
        change X _ _ _ _ _ _ [some (.ref m), some (.int (I (m + 33) (ix (I m 76)))), some (.int (I (m + 34) (ix (I m 76)))), none, none, none] [.int ((I m 86) + (I (m + 33) (ix (I m 76)))), .int (I m 72), .ref (m + 39)]
        exact X.weak (xle_c rfl (xle_c rfl (xle_c rfl (xle_n (xle_n (xle_n xle_nil)))))) (kj13 ((I m 86) + (I (m + 33) (ix (I m 76)))) h)
    · replace h := h.1 c242
      refine x_aload_n dX13_works_245 rfl ?_
      refine x_get (v := .ref (m + 42)) hG dX13_works_246 f_X13_135_12 (mo_t hM) (congrArg va_rf (mo_P90 hM)) ?_
      refine x_aload_n dX13_works_249 rfl ?_
      refine x_get (v := .int (I m 86)) hG dX13_works_250 f_X13_550_12 (mo_t hM) rfl ?_
      refine x_iload_n dX13_works_253 rfl ?_
      refine x_iadd dX13_works_254 ?_
      obtain ⟨o22, h⟩ := h
      refine y_iald hG dX13_works_255 (mo_t90 hM) (mo_n90 hM) o22 ?_
      refine x_goto (tgt := 282) dX13_works_256 (by decide) ?_
      change X _ _ _ _ _ _ [some (.ref m), some (.int (I (m + 33) (ix (I m 76)))), some (.int (I (m + 34) (ix (I m 76)))), none, none, none] [.int (I (m + 42) (ix ((I m 86) + (I (m + 33) (ix (I m 76)))))), .int (I m 72), .ref (m + 39)]
      exact X.weak (xle_c rfl (xle_c rfl (xle_c rfl (xle_n (xle_n (xle_n xle_nil)))))) (kj13 (I (m + 42) (ix ((I m 86) + (I (m + 33) (ix (I m 76)))))) h)
  have kt2_3 : ((I (m + 32) (ix (I m 76))) = (6 : Int32)) → X G (dp + 3) kX13_works (oZ A Q) (A.wI I) 329 [some (.ref m), some (.int (I (m + 33) (ix (I m 76)))), some (.int (I (m + 34) (ix (I m 76)))), none, none, none] [] := by
    intro c29
    replace h := h.2.2.2.1 c29
    refine x_iload_n dX13_works_329 rfl ?_
    refine x_iconst_ (v := (-1 : Int32)) dX13_works_330 (by decide) ?_
    obtain ⟨J23, g23, h⟩ := h
    have kj23 : ∀ (y23_s0 : Int32), J23 y23_s0 → X G (dp + 3) kX13_works (oZ A Q) (A.wI I) 351 [some (.ref m), some (.int (I (m + 33) (ix (I m 76)))), some (.int (I (m + 34) (ix (I m 76)))), none, none, none] [.int y23_s0] := by
      intro y23_s0 h
      replace h := g23 y23_s0 h
      refine x_istore_n dX13_works_351 (by decide) ?_
      refine x_iload_n dX13_works_352 rfl ?_
      refine x_iconst_ (v := (-1 : Int32)) dX13_works_353 (by decide) ?_
      obtain ⟨J24, g24, h⟩ := h
      have kj24 : ∀ (y24_s0 : Int32), J24 y24_s0 → X G (dp + 3) kX13_works (oZ A Q) (A.wI I) 396 [some (.ref m), none, none, some (.int y23_s0), none, none] [.int y24_s0] := by
        intro y24_s0 h
        replace h := g24 y24_s0 h
        refine x_istore dX13_works_396 (by decide) ?_
        refine x_aload_n dX13_works_398 rfl ?_
        refine x_get (v := .ref (m + 39)) hG dX13_works_399 f_X13_126_12 (mo_t hM) (congrArg va_rf (mo_P71 hM)) ?_
        refine x_aload_n dX13_works_402 rfl ?_
        refine x_get (v := .int (I m 72)) hG dX13_works_403 f_X13_497_12 (mo_t hM) rfl ?_
        refine x_iconst_ (v := (1 : Int32)) dX13_works_406 (by decide) ?_
        refine x_isub dX13_works_407 ?_
        obtain ⟨o25, h⟩ := h
        refine y_iald hG dX13_works_408 (mo_t71 hM) (mo_n71 hM) o25 ?_
        refine x_istore dX13_works_409 (by decide) ?_
        refine x_iload dX13_works_411 rfl ?_
        refine x_if_lt (tgt := 422) dX13_works_413 (by decide) (fun c413 => ?_) (fun c413 => ?_)
        · replace h := h.1 c413
          refine x_aload_n dX13_works_422 rfl ?_
          refine x_iconst_ (v := (5 : Int32)) dX13_works_423 (by decide) ?_
          refine y_put hG hM dX13_works_424 f_X13_512_12 ⟨_, rfl, Or.inl rfl⟩ rfl rfl ⟨_, rfl⟩ (fun I26 e26 => ?_)
          replace h := h I26 e26
          refine x_aload_n dX13_works_427 rfl ?_
          refine x_aload_n dX13_works_428 rfl ?_
          refine x_get (v := .ref (m + 35)) hG dX13_works_429 f_X13_113_12 (mo_t hM) (congrArg va_rf (mo_P59 hM)) ?_
          refine x_aload_n dX13_works_432 rfl ?_
          refine x_get (v := .int (I26 m 76)) hG dX13_works_433 f_X13_553_12 (mo_t hM) rfl ?_
          refine x_eqi (v := (I m 76)) (xup_rk e26 (by decide)) ?_
          refine y_iald hG dX13_works_436 (mo_t59 hM) (mo_n59 hM) o1 ?_
          refine x_eqi (v := (I (m + 35) (ix (I m 76)))) (xup_ra e26 (by omega)) ?_
          refine x_iconst_ (v := (1 : Int32)) dX13_works_437 (by decide) ?_
          refine x_ishr dX13_works_438 ?_
          refine x_eqi (v := (jishr (I (m + 35) (ix (I m 76))) (1 : Int32))) rfl ?_
          refine y_put hG hM dX13_works_439 f_X13_541_12 ⟨_, rfl, Or.inl rfl⟩ rfl rfl ⟨_, rfl⟩ (fun I27 e27 => ?_)
          replace h := h I27 e27
          refine x_iconst_ (v := (0 : Int32)) dX13_works_442 (by decide) ?_
          exact x_zret dX13_works_443 rfl (by decide) ⟨_, _, rfl, rfl, (by decide), h⟩
        · replace h := h.2 c413
          refine x_iload dX13_works_416 rfl ?_
          refine x_iload_n dX13_works_418 rfl ?_
          refine x_icmp_lt (tgt := 444) dX13_works_419 (by decide) (fun c419 => ?_) (fun c419 => ?_)
          · replace h := h.1 c419
            refine x_aload_n dX13_works_444 rfl ?_
            refine x_get (v := .ref (m + 39)) hG dX13_works_445 f_X13_126_12 (mo_t hM) (congrArg va_rf (mo_P71 hM)) ?_
            refine x_aload_n dX13_works_448 rfl ?_
            refine x_get (v := .int (I m 72)) hG dX13_works_449 f_X13_497_12 (mo_t hM) rfl ?_
            refine x_iconst_ (v := (1 : Int32)) dX13_works_452 (by decide) ?_
            refine x_isub dX13_works_453 ?_
            refine x_iload dX13_works_454 rfl ?_
            refine x_iload dX13_works_456 rfl ?_
            refine x_iadd dX13_works_458 ?_
            refine y_iast hG dX13_works_459 (mo_t71 hM) (mo_aN hM) (mo_n71 hM) o25 (fun I28 e28 => ?_)
            replace h := h I28 e28
            refine x_goto (tgt := 880) dX13_works_460 (by decide) ?_
            refine x_aload_n dX13_works_880 rfl ?_
            refine x_dup dX13_works_881 rfl ?_
            refine x_get (v := .int (I28 m 76)) hG dX13_works_882 f_X13_553_12 (mo_t hM) rfl ?_
            refine x_eqi (v := (I m 76)) (xup_ra e28 (by omega)) ?_
            refine x_iconst_ (v := (1 : Int32)) dX13_works_885 (by decide) ?_
            refine x_iadd dX13_works_886 ?_
            refine y_put hG hM dX13_works_887 f_X13_553_12 ⟨_, rfl, Or.inl rfl⟩ rfl rfl ⟨_, rfl⟩ (fun I29 e29 => ?_)
            replace h := h I29 e29
            refine x_iconst_ (v := (1 : Int32)) dX13_works_890 (by decide) ?_
            exact x_zret dX13_works_891 rfl (by decide) ⟨_, _, rfl, rfl, (by decide), h⟩
          · replace h := h.2 c419
            refine x_aload_n dX13_works_422 rfl ?_
            refine x_iconst_ (v := (5 : Int32)) dX13_works_423 (by decide) ?_
            refine y_put hG hM dX13_works_424 f_X13_512_12 ⟨_, rfl, Or.inl rfl⟩ rfl rfl ⟨_, rfl⟩ (fun I30 e30 => ?_)
            replace h := h I30 e30
            refine x_aload_n dX13_works_427 rfl ?_
            refine x_aload_n dX13_works_428 rfl ?_
            refine x_get (v := .ref (m + 35)) hG dX13_works_429 f_X13_113_12 (mo_t hM) (congrArg va_rf (mo_P59 hM)) ?_
            refine x_aload_n dX13_works_432 rfl ?_
            refine x_get (v := .int (I30 m 76)) hG dX13_works_433 f_X13_553_12 (mo_t hM) rfl ?_
            refine x_eqi (v := (I m 76)) (xup_rk e30 (by decide)) ?_
            refine y_iald hG dX13_works_436 (mo_t59 hM) (mo_n59 hM) o1 ?_
            refine x_eqi (v := (I (m + 35) (ix (I m 76)))) (xup_ra e30 (by omega)) ?_
            refine x_iconst_ (v := (1 : Int32)) dX13_works_437 (by decide) ?_
            refine x_ishr dX13_works_438 ?_
            refine x_eqi (v := (jishr (I (m + 35) (ix (I m 76))) (1 : Int32))) rfl ?_
            refine y_put hG hM dX13_works_439 f_X13_541_12 ⟨_, rfl, Or.inl rfl⟩ rfl rfl ⟨_, rfl⟩ (fun I31 e31 => ?_)
            replace h := h I31 e31
            refine x_iconst_ (v := (0 : Int32)) dX13_works_442 (by decide) ?_
            exact x_zret dX13_works_443 rfl (by decide) ⟨_, _, rfl, rfl, (by decide), h⟩
      refine x_icmp_ne (tgt := 371) dX13_works_354 (by decide) (fun c354 => ?_) (fun c354 => ?_)
      · replace h := h.2 c354
        refine x_aload_n dX13_works_371 rfl ?_
        refine x_get (v := .ref (m + 35)) hG dX13_works_372 f_X13_113_12 (mo_t hM) (congrArg va_rf (mo_P59 hM)) ?_
        refine x_aload_n dX13_works_375 rfl ?_
        refine x_get (v := .int (I m 76)) hG dX13_works_376 f_X13_553_12 (mo_t hM) rfl ?_
        refine y_iald hG dX13_works_379 (mo_t59 hM) (mo_n59 hM) o1 ?_
        refine x_iconst_ (v := (1 : Int32)) dX13_works_380 (by decide) ?_
        refine x_iand dX13_works_381 ?_
        refine x_iconst_ (v := (1 : Int32)) dX13_works_382 (by decide) ?_
        refine x_icmp_ne (tgt := 395) dX13_works_383 (by decide) (fun c383 => ?_) (fun c383 => ?_)
        · replace h := h.2 c383
          refine x_iload_n dX13_works_395 rfl ?_
          change X _ _ _ _ _ _ [some (.ref m), some (.int (I (m + 33) (ix (I m 76)))), some (.int (I (m + 34) (ix (I m 76)))), some (.int y23_s0), none, none] [.int (I (m + 33) (ix (I m 76)))]
          exact X.weak (xle_c rfl (xle_n (xle_n (xle_c rfl (xle_n (xle_n xle_nil)))))) (kj24 (I (m + 33) (ix (I m 76))) h)
        · replace h := h.1 c383
          refine x_aload_n dX13_works_386 rfl ?_
          refine x_get (v := .int (I m 86)) hG dX13_works_387 f_X13_550_12 (mo_t hM) rfl ?_
          refine x_iload_n dX13_works_390 rfl ?_
          refine x_iadd dX13_works_391 ?_
          refine x_goto (tgt := 396) dX13_works_392 (by decide) ?_
          change X _ _ _ _ _ _ [some (.ref m), some (.int (I (m + 33) (ix (I m 76)))), some (.int (I (m + 34) (ix (I m 76)))), some (.int y23_s0), none, none] [.int ((I m 86) + (I (m + 33) (ix (I m 76))))]
          exact X.weak (xle_c rfl (xle_n (xle_n (xle_c rfl (xle_n (xle_n xle_nil)))))) (kj24 ((I m 86) + (I (m + 33) (ix (I m 76)))) h)
      · replace h := h.1 c354
        refine x_aload_n dX13_works_357 rfl ?_
        refine x_get (v := .ref (m + 42)) hG dX13_works_358 f_X13_135_12 (mo_t hM) (congrArg va_rf (mo_P90 hM)) ?_
        refine x_aload_n dX13_works_361 rfl ?_
        refine x_get (v := .int (I m 86)) hG dX13_works_362 f_X13_550_12 (mo_t hM) rfl ?_
        refine x_iload_n dX13_works_365 rfl ?_
        refine x_iadd dX13_works_366 ?_
        obtain ⟨o32, h⟩ := h
        refine y_iald hG dX13_works_367 (mo_t90 hM) (mo_n90 hM) o32 ?_
        refine x_goto (tgt := 396) dX13_works_368 (by decide) ?_
        change X _ _ _ _ _ _ [some (.ref m), some (.int (I (m + 33) (ix (I m 76)))), some (.int (I (m + 34) (ix (I m 76)))), some (.int y23_s0), none, none] [.int (I (m + 42) (ix ((I m 86) + (I (m + 33) (ix (I m 76))))))]
        exact X.weak (xle_c rfl (xle_n (xle_n (xle_c rfl (xle_n (xle_n xle_nil)))))) (kj24 (I (m + 42) (ix ((I m 86) + (I (m + 33) (ix (I m 76)))))) h)
    refine x_icmp_ne (tgt := 350) dX13_works_331 (by decide) (fun c331 => ?_) (fun c331 => ?_)
    · replace h := h.2 c331
      refine x_iload_n dX13_works_350 rfl ?_
      change X _ _ _ _ _ _ [some (.ref m), some (.int (I (m + 33) (ix (I m 76)))), some (.int (I (m + 34) (ix (I m 76)))), none, none, none] [.int (I (m + 34) (ix (I m 76)))]
      exact X.weak (xle_c rfl (xle_c rfl (xle_c rfl (xle_n (xle_n (xle_n xle_nil)))))) (kj23 (I (m + 34) (ix (I m 76))) h)
    · replace h := h.1 c331
      refine x_aload_n dX13_works_334 rfl ?_
      refine x_get (v := .ref (m + 42)) hG dX13_works_335 f_X13_135_12 (mo_t hM) (congrArg va_rf (mo_P90 hM)) ?_
      refine x_aload_n dX13_works_338 rfl ?_
      refine x_get (v := .int (I m 86)) hG dX13_works_339 f_X13_550_12 (mo_t hM) rfl ?_
      refine x_iload_n dX13_works_342 rfl ?_
      refine x_iadd dX13_works_343 ?_
      refine x_iconst_ (v := (1 : Int32)) dX13_works_344 (by decide) ?_
      refine x_iadd dX13_works_345 ?_
      obtain ⟨o33, h⟩ := h
      refine y_iald hG dX13_works_346 (mo_t90 hM) (mo_n90 hM) o33 ?_
      refine x_goto (tgt := 351) dX13_works_347 (by decide) ?_
      change X _ _ _ _ _ _ [some (.ref m), some (.int (I (m + 33) (ix (I m 76)))), some (.int (I (m + 34) (ix (I m 76)))), none, none, none] [.int (I (m + 42) (ix (((I m 86) + (I (m + 33) (ix (I m 76)))) + (1 : Int32))))]
      exact X.weak (xle_c rfl (xle_c rfl (xle_c rfl (xle_n (xle_n (xle_n xle_nil)))))) (kj23 (I (m + 42) (ix (((I m 86) + (I (m + 33) (ix (I m 76)))) + (1 : Int32)))) h)
  have kt2_4 : ((I (m + 32) (ix (I m 76))) = (7 : Int32)) → X G (dp + 3) kX13_works (oZ A Q) (A.wI I) 463 [some (.ref m), some (.int (I (m + 33) (ix (I m 76)))), some (.int (I (m + 34) (ix (I m 76)))), none, none, none] [] := by
    intro c29
    replace h := h.2.2.2.2.1 c29
    refine x_aload_n dX13_works_463 rfl ?_
    refine x_get (v := .ref (m + 39)) hG dX13_works_464 f_X13_126_12 (mo_t hM) (congrArg va_rf (mo_P71 hM)) ?_
    refine x_aload_n dX13_works_467 rfl ?_
    refine x_get (v := .int (I m 72)) hG dX13_works_468 f_X13_497_12 (mo_t hM) rfl ?_
    refine x_iconst_ (v := (1 : Int32)) dX13_works_471 (by decide) ?_
    refine x_isub dX13_works_472 ?_
    refine x_aload_n dX13_works_473 rfl ?_
    refine x_get (v := .ref (m + 42)) hG dX13_works_474 f_X13_135_12 (mo_t hM) (congrArg va_rf (mo_P90 hM)) ?_
    refine x_aload_n dX13_works_477 rfl ?_
    refine x_get (v := .ref (m + 39)) hG dX13_works_478 f_X13_126_12 (mo_t hM) (congrArg va_rf (mo_P71 hM)) ?_
    refine x_aload_n dX13_works_481 rfl ?_
    refine x_get (v := .int (I m 72)) hG dX13_works_482 f_X13_497_12 (mo_t hM) rfl ?_
    refine x_iconst_ (v := (1 : Int32)) dX13_works_485 (by decide) ?_
    refine x_isub dX13_works_486 ?_
    obtain ⟨o34, h⟩ := h
    refine y_iald hG dX13_works_487 (mo_t71 hM) (mo_n71 hM) o34 ?_
    obtain ⟨o35, h⟩ := h
    refine y_iald hG dX13_works_488 (mo_t90 hM) (mo_n90 hM) o35 ?_
    refine y_iast hG dX13_works_489 (mo_t71 hM) (mo_aN hM) (mo_n71 hM) o34 (fun I36 e36 => ?_)
    replace h := h I36 e36
    refine x_goto (tgt := 880) dX13_works_490 (by decide) ?_
    refine x_aload_n dX13_works_880 rfl ?_
    refine x_dup dX13_works_881 rfl ?_
    refine x_get (v := .int (I36 m 76)) hG dX13_works_882 f_X13_553_12 (mo_t hM) rfl ?_
    refine x_eqi (v := (I m 76)) (xup_ra e36 (by omega)) ?_
    refine x_iconst_ (v := (1 : Int32)) dX13_works_885 (by decide) ?_
    refine x_iadd dX13_works_886 ?_
    refine y_put hG hM dX13_works_887 f_X13_553_12 ⟨_, rfl, Or.inl rfl⟩ rfl rfl ⟨_, rfl⟩ (fun I37 e37 => ?_)
    replace h := h I37 e37
    refine x_iconst_ (v := (1 : Int32)) dX13_works_890 (by decide) ?_
    exact x_zret dX13_works_891 rfl (by decide) ⟨_, _, rfl, rfl, (by decide), h⟩
  have kt2_5 : ((I (m + 32) (ix (I m 76))) = (8 : Int32)) → X G (dp + 3) kX13_works (oZ A Q) (A.wI I) 493 [some (.ref m), some (.int (I (m + 33) (ix (I m 76)))), some (.int (I (m + 34) (ix (I m 76)))), none, none, none] [] := by
    intro c29
    replace h := h.2.2.2.2.2.1 c29
    refine x_aload_n dX13_works_493 rfl ?_
    refine x_dup dX13_works_494 rfl ?_
    refine x_get (v := .int (I m 72)) hG dX13_works_495 f_X13_497_12 (mo_t hM) rfl ?_
    refine x_iconst_ (v := (2 : Int32)) dX13_works_498 (by decide) ?_
    refine x_isub dX13_works_499 ?_
    refine y_put hG hM dX13_works_500 f_X13_497_12 ⟨_, rfl, Or.inl rfl⟩ rfl rfl ⟨_, rfl⟩ (fun I38 e38 => ?_)
    replace h := h I38 e38
    refine x_aload_n dX13_works_503 rfl ?_
    refine x_get (v := .ref (m + 42)) hG dX13_works_504 f_X13_135_12 (mo_t hM) (congrArg va_rf (mo_P90 hM)) ?_
    refine x_aload_n dX13_works_507 rfl ?_
    refine x_get (v := .ref (m + 39)) hG dX13_works_508 f_X13_126_12 (mo_t hM) (congrArg va_rf (mo_P71 hM)) ?_
    refine x_aload_n dX13_works_511 rfl ?_
    refine x_get (v := .int (I38 m 72)) hG dX13_works_512 f_X13_497_12 (mo_t hM) rfl ?_
    refine x_eqi (v := ((I m 72) - (2 : Int32))) (xup_rs e38) ?_
    obtain ⟨o39, h⟩ := h
    refine y_iald hG dX13_works_515 (mo_t71 hM) (mo_n71 hM) o39 ?_
    refine x_eqi (v := (I (m + 39) (ix ((I m 72) - (2 : Int32))))) (xup_ra e38 (by omega)) ?_
    refine x_iload_n dX13_works_516 rfl ?_
    refine x_iconst_ (v := (1 : Int32)) dX13_works_517 (by decide) ?_
    obtain ⟨J40, g40, h⟩ := h
    have kj40 : ∀ (y40_s0 : Int32), J40 y40_s0 → X G (dp + 3) kX13_works (oZ A Q) (A.wI I38) 550 [some (.ref m), none, none, none, none, none] [.int y40_s0, .int (I (m + 39) (ix ((I m 72) - (2 : Int32)))), .ref (m + 42)] := by
      intro y40_s0 h
      replace h := g40 y40_s0 h
      obtain ⟨o41, h⟩ := h
      refine y_iast hG dX13_works_550 (mo_t90 hM) (mo_aN hM) (mo_n90 hM) o41 (fun I42 e42 => ?_)
      replace h := h I42 e42
      refine x_goto (tgt := 880) dX13_works_551 (by decide) ?_
      refine x_aload_n dX13_works_880 rfl ?_
      refine x_dup dX13_works_881 rfl ?_
      refine x_get (v := .int (I42 m 76)) hG dX13_works_882 f_X13_553_12 (mo_t hM) rfl ?_
      refine x_eqi (v := (I m 76)) ((xup_ra e42 (by omega)).trans (xup_rk e38 (by decide))) ?_
      refine x_iconst_ (v := (1 : Int32)) dX13_works_885 (by decide) ?_
      refine x_iadd dX13_works_886 ?_
      refine y_put hG hM dX13_works_887 f_X13_553_12 ⟨_, rfl, Or.inl rfl⟩ rfl rfl ⟨_, rfl⟩ (fun I43 e43 => ?_)
      replace h := h I43 e43
      refine x_iconst_ (v := (1 : Int32)) dX13_works_890 (by decide) ?_
      exact x_zret dX13_works_891 rfl (by decide) ⟨_, _, rfl, rfl, (by decide), h⟩
    refine x_icmp_ne (tgt := 539) dX13_works_518 (by decide) (fun c518 => ?_) (fun c518 => ?_)
    · replace h := h.2 c518
      refine x_aload_n dX13_works_539 rfl ?_
      refine x_get (v := .ref (m + 39)) hG dX13_works_540 f_X13_126_12 (mo_t hM) (congrArg va_rf (mo_P71 hM)) ?_
      refine x_aload_n dX13_works_543 rfl ?_
      refine x_get (v := .int (I38 m 72)) hG dX13_works_544 f_X13_497_12 (mo_t hM) rfl ?_
      refine x_eqi (v := ((I m 72) - (2 : Int32))) (xup_rs e38) ?_
      refine x_iconst_ (v := (1 : Int32)) dX13_works_547 (by decide) ?_
      refine x_iadd dX13_works_548 ?_
      obtain ⟨o44, h⟩ := h
      refine y_iald hG dX13_works_549 (mo_t71 hM) (mo_n71 hM) o44 ?_
      refine x_eqi (v := (I (m + 39) (ix (((I m 72) - (2 : Int32)) + (1 : Int32))))) (xup_ra e38 (by omega)) ?_
      change X _ _ _ _ _ _ [some (.ref m), some (.int (I (m + 33) (ix (I m 76)))), some (.int (I (m + 34) (ix (I m 76)))), none, none, none] [.int (I (m + 39) (ix (((I m 72) - (2 : Int32)) + (1 : Int32)))), .int (I (m + 39) (ix ((I m 72) - (2 : Int32)))), .ref (m + 42)]
      exact X.weak (xle_c rfl (xle_n (xle_n (xle_n (xle_n (xle_n xle_nil)))))) (kj40 (I (m + 39) (ix (((I m 72) - (2 : Int32)) + (1 : Int32)))) h)
    · replace h := h.1 c518
      refine x_aload_n dX13_works_521 rfl ?_
      refine x_get (v := .ref (m + 39)) hG dX13_works_522 f_X13_126_12 (mo_t hM) (congrArg va_rf (mo_P71 hM)) ?_
      refine x_aload_n dX13_works_525 rfl ?_
      refine x_get (v := .int (I38 m 72)) hG dX13_works_526 f_X13_497_12 (mo_t hM) rfl ?_
      refine x_eqi (v := ((I m 72) - (2 : Int32))) (xup_rs e38) ?_
      refine x_iconst_ (v := (1 : Int32)) dX13_works_529 (by decide) ?_
      refine x_iadd dX13_works_530 ?_
      obtain ⟨o45, h⟩ := h
      refine y_iald hG dX13_works_531 (mo_t71 hM) (mo_n71 hM) o45 ?_
      refine x_eqi (v := (I (m + 39) (ix (((I m 72) - (2 : Int32)) + (1 : Int32))))) (xup_ra e38 (by omega)) ?_
      refine x_sipush_ (v := (255 : Int32)) dX13_works_532 (by decide) ?_
      refine x_iand dX13_works_535 ?_
      refine x_goto (tgt := 550) dX13_works_536 (by decide) ?_
      change X _ _ _ _ _ _ [some (.ref m), some (.int (I (m + 33) (ix (I m 76)))), some (.int (I (m + 34) (ix (I m 76)))), none, none, none] [.int ((I (m + 39) (ix (((I m 72) - (2 : Int32)) + (1 : Int32)))) &&& (255 : Int32)), .int (I (m + 39) (ix ((I m 72) - (2 : Int32)))), .ref (m + 42)]
      exact X.weak (xle_c rfl (xle_n (xle_n (xle_n (xle_n (xle_n xle_nil)))))) (kj40 ((I (m + 39) (ix (((I m 72) - (2 : Int32)) + (1 : Int32)))) &&& (255 : Int32)) h)
  have kt2_6 : ((I (m + 32) (ix (I m 76))) = (9 : Int32)) → X G (dp + 3) kX13_works (oZ A Q) (A.wI I) 554 [some (.ref m), some (.int (I (m + 33) (ix (I m 76)))), some (.int (I (m + 34) (ix (I m 76)))), none, none, none] [] := by
    intro c29
    replace h := h.2.2.2.2.2.2.1 c29
    refine x_aload_n dX13_works_554 rfl ?_
    refine x_get (v := .ref (m + 39)) hG dX13_works_555 f_X13_126_12 (mo_t hM) (congrArg va_rf (mo_P71 hM)) ?_
    refine x_aload_n dX13_works_558 rfl ?_
    refine x_get (v := .int (I m 72)) hG dX13_works_559 f_X13_497_12 (mo_t hM) rfl ?_
    refine x_aload_n dX13_works_562 rfl ?_
    refine x_get (v := .ref (m + 39)) hG dX13_works_563 f_X13_126_12 (mo_t hM) (congrArg va_rf (mo_P71 hM)) ?_
    refine x_aload_n dX13_works_566 rfl ?_
    refine x_get (v := .int (I m 72)) hG dX13_works_567 f_X13_497_12 (mo_t hM) rfl ?_
    refine x_iconst_ (v := (1 : Int32)) dX13_works_570 (by decide) ?_
    refine x_isub dX13_works_571 ?_
    obtain ⟨o46, h⟩ := h
    refine y_iald hG dX13_works_572 (mo_t71 hM) (mo_n71 hM) o46 ?_
    obtain ⟨o47, h⟩ := h
    refine y_iast hG dX13_works_573 (mo_t71 hM) (mo_aN hM) (mo_n71 hM) o47 (fun I48 e48 => ?_)
    replace h := h I48 e48
    refine x_aload_n dX13_works_574 rfl ?_
    refine x_dup dX13_works_575 rfl ?_
    refine x_get (v := .int (I48 m 72)) hG dX13_works_576 f_X13_497_12 (mo_t hM) rfl ?_
    refine x_eqi (v := (I m 72)) (xup_ra e48 (by omega)) ?_
    refine x_iconst_ (v := (1 : Int32)) dX13_works_579 (by decide) ?_
    refine x_iadd dX13_works_580 ?_
    refine y_put hG hM dX13_works_581 f_X13_497_12 ⟨_, rfl, Or.inl rfl⟩ rfl rfl ⟨_, rfl⟩ (fun I49 e49 => ?_)
    replace h := h I49 e49
    refine x_goto (tgt := 880) dX13_works_584 (by decide) ?_
    refine x_aload_n dX13_works_880 rfl ?_
    refine x_dup dX13_works_881 rfl ?_
    refine x_get (v := .int (I49 m 76)) hG dX13_works_882 f_X13_553_12 (mo_t hM) rfl ?_
    refine x_eqi (v := (I m 76)) ((xup_rk e49 (by decide)).trans (xup_ra e48 (by omega))) ?_
    refine x_iconst_ (v := (1 : Int32)) dX13_works_885 (by decide) ?_
    refine x_iadd dX13_works_886 ?_
    refine y_put hG hM dX13_works_887 f_X13_553_12 ⟨_, rfl, Or.inl rfl⟩ rfl rfl ⟨_, rfl⟩ (fun I50 e50 => ?_)
    replace h := h I50 e50
    refine x_iconst_ (v := (1 : Int32)) dX13_works_890 (by decide) ?_
    exact x_zret dX13_works_891 rfl (by decide) ⟨_, _, rfl, rfl, (by decide), h⟩
  have kt2_7 : ((I (m + 32) (ix (I m 76))) = (15 : Int32)) → X G (dp + 3) kX13_works (oZ A Q) (A.wI I) 587 [some (.ref m), some (.int (I (m + 33) (ix (I m 76)))), some (.int (I (m + 34) (ix (I m 76)))), none, none, none] [] := by
    intro c29
    replace h := h.2.2.2.2.2.2.2.1 c29
    refine x_aload_n dX13_works_587 rfl ?_
    refine x_get (v := .int (I m 78)) hG dX13_works_588 f_X13_556_12 (mo_t hM) rfl ?_
    refine x_if_ne (tgt := 596) dX13_works_591 (by decide) (fun c591 => ?_) (fun c591 => ?_)
    · replace h := h.2 c591
      refine x_aload_n dX13_works_596 rfl ?_
      refine x_dup dX13_works_597 rfl ?_
      refine x_get (v := .int (I m 78)) hG dX13_works_598 f_X13_556_12 (mo_t hM) rfl ?_
      refine x_iconst_ (v := (1 : Int32)) dX13_works_601 (by decide) ?_
      refine x_isub dX13_works_602 ?_
      refine y_put hG hM dX13_works_603 f_X13_556_12 ⟨_, rfl, Or.inl rfl⟩ rfl rfl ⟨_, rfl⟩ (fun I51 e51 => ?_)
      replace h := h I51 e51
      refine x_aload_n dX13_works_606 rfl ?_
      refine x_dup dX13_works_607 rfl ?_
      refine x_get (v := .int (I51 m 77)) hG dX13_works_608 f_X13_536_12 (mo_t hM) rfl ?_
      refine x_eqi (v := (I m 77)) (xup_rk e51 (by decide)) ?_
      refine x_iconst_ (v := (1 : Int32)) dX13_works_611 (by decide) ?_
      refine x_iadd dX13_works_612 ?_
      refine y_put hG hM dX13_works_613 f_X13_536_12 ⟨_, rfl, Or.inl rfl⟩ rfl rfl ⟨_, rfl⟩ (fun I52 e52 => ?_)
      replace h := h I52 e52
      refine x_goto (tgt := 880) dX13_works_616 (by decide) ?_
      refine x_aload_n dX13_works_880 rfl ?_
      refine x_dup dX13_works_881 rfl ?_
      refine x_get (v := .int (I52 m 76)) hG dX13_works_882 f_X13_553_12 (mo_t hM) rfl ?_
      refine x_eqi (v := (I m 76)) ((xup_rk e52 (by decide)).trans (xup_rk e51 (by decide))) ?_
      refine x_iconst_ (v := (1 : Int32)) dX13_works_885 (by decide) ?_
      refine x_iadd dX13_works_886 ?_
      refine y_put hG hM dX13_works_887 f_X13_553_12 ⟨_, rfl, Or.inl rfl⟩ rfl rfl ⟨_, rfl⟩ (fun I53 e53 => ?_)
      replace h := h I53 e53
      refine x_iconst_ (v := (1 : Int32)) dX13_works_890 (by decide) ?_
      exact x_zret dX13_works_891 rfl (by decide) ⟨_, _, rfl, rfl, (by decide), h⟩
    · replace h := h.1 c591
      refine x_iconst_ (v := (0 : Int32)) dX13_works_594 (by decide) ?_
      exact x_zret dX13_works_595 rfl (by decide) ⟨_, _, rfl, rfl, (by decide), h⟩
  have kt2_8 : ((I (m + 32) (ix (I m 76))) = (16 : Int32)) → X G (dp + 3) kX13_works (oZ A Q) (A.wI I) 619 [some (.ref m), some (.int (I (m + 33) (ix (I m 76)))), some (.int (I (m + 34) (ix (I m 76)))), none, none, none] [] := by
    intro c29
    replace h := h.2.2.2.2.2.2.2.2.1 c29
    refine x_aload_n dX13_works_619 rfl ?_
    refine x_iload_n dX13_works_620 rfl ?_
    refine x_iload_n dX13_works_621 rfl ?_
    refine x_aload_n dX13_works_622 rfl ?_
    refine x_get (v := .int (I m 76)) hG dX13_works_623 f_X13_553_12 (mo_t hM) rfl ?_
    refine x_iconst_ (v := (1 : Int32)) dX13_works_626 (by decide) ?_
    refine x_iadd dX13_works_627 ?_
    obtain ⟨R54, g54, h⟩ := h
    refine x_callV hG (Ky := kX13_calls) (As := [.int (I (m + 33) (ix (I m 76))), .int (I (m + 34) (ix (I m 76))), .int ((I m 76) + (1 : Int32))]) dX13_works_628 (mo_t hM) rfl lk_X13_559 me_X13_calls is_X13_calls se_X13_calls rfl rfl (Nat.le_of_ble_eq_true rfl) (MX.post (m_X13_calls hG hM g54) ?_)
    rintro _ _ ⟨v54, I54, rfl, rfl, zv54, h1⟩
    replace h := h v54 I54 zv54 h1
    change X _ _ _ _ (A.wI I54) _ _ (.int v54 :: _)
    exact x_zret dX13_works_631 rfl zv54 ⟨_, _, rfl, rfl, zv54, h⟩
  have kt2_9 : ((I (m + 32) (ix (I m 76))) = (17 : Int32)) → X G (dp + 3) kX13_works (oZ A Q) (A.wI I) 632 [some (.ref m), some (.int (I (m + 33) (ix (I m 76)))), some (.int (I (m + 34) (ix (I m 76)))), none, none, none] [] := by
    intro c29
    replace h := h.2.2.2.2.2.2.2.2.2.1 c29
    refine x_aload_n dX13_works_632 rfl ?_
    obtain ⟨R55, g55, h⟩ := h
    refine x_callV hG (Ky := kX13_returnsHere) (As := []) dX13_works_633 (mo_t hM) rfl lk_X13_566 me_X13_returnsHere is_X13_returnsHere se_X13_returnsHere rfl rfl (Nat.le_of_ble_eq_true rfl) (MX.post (m_X13_returnsHere hG hM g55) ?_)
    rintro _ _ ⟨I55, rfl, rfl, h1⟩
    replace h := h I55 h1
    change X _ _ _ _ (A.wI I55) _ _ _
    refine x_aload_n dX13_works_636 rfl ?_
    refine x_get (v := .int (I55 m 75)) hG dX13_works_637 f_X13_512_12 (mo_t hM) rfl ?_
    refine x_iconst_ (v := (1 : Int32)) dX13_works_640 (by decide) ?_
    refine x_via 649 (A' := (A.wI I55)) (lv' := [none, none, none, none, none, none]) (st' := [.int (if (I55 m 75) = (1 : Int32) then (1 : Int32) else (0 : Int32))]) ?_ (fun k649 => ?_)
    rotate_left
    · refine x_icmp_ne (tgt := 648) dX13_works_641 (by decide) (fun c641 => ?_) (fun c641 => ?_)
      · refine x_iconst_ (v := (0 : Int32)) dX13_works_648 (by decide) ?_
        change X _ _ _ _ _ _ [some (.ref m), some (.int (I (m + 33) (ix (I m 76)))), some (.int (I (m + 34) (ix (I m 76)))), none, none, none] [.int (0 : Int32)]
        simp only [if_neg c641] at k649 ⊢
        exact X.weak (xle_n (xle_n (xle_n (xle_n (xle_n (xle_n xle_nil)))))) k649
      · refine x_iconst_ (v := (1 : Int32)) dX13_works_644 (by decide) ?_
        refine x_goto (tgt := 649) dX13_works_645 (by decide) ?_
        change X _ _ _ _ _ _ [some (.ref m), some (.int (I (m + 33) (ix (I m 76)))), some (.int (I (m + 34) (ix (I m 76)))), none, none, none] [.int (1 : Int32)]
        simp only [if_pos c641] at k649 ⊢
        exact X.weak (xle_n (xle_n (xle_n (xle_n (xle_n (xle_n xle_nil)))))) k649
    exact x_zret dX13_works_649 rfl ite10 ⟨_, _, rfl, rfl, ite10, h⟩
  have kt2_10 : ((I (m + 32) (ix (I m 76))) = (18 : Int32)) → X G (dp + 3) kX13_works (oZ A Q) (A.wI I) 650 [some (.ref m), some (.int (I (m + 33) (ix (I m 76)))), some (.int (I (m + 34) (ix (I m 76)))), none, none, none] [] := by
    intro c29
    replace h := h.2.2.2.2.2.2.2.2.2.2.1 c29
    refine x_aload_n dX13_works_650 rfl ?_
    refine x_dup dX13_works_651 rfl ?_
    refine x_get (v := .int (I m 72)) hG dX13_works_652 f_X13_497_12 (mo_t hM) rfl ?_
    refine x_iconst_ (v := (1 : Int32)) dX13_works_655 (by decide) ?_
    refine x_isub dX13_works_656 ?_
    refine y_put hG hM dX13_works_657 f_X13_497_12 ⟨_, rfl, Or.inl rfl⟩ rfl rfl ⟨_, rfl⟩ (fun I56 e56 => ?_)
    replace h := h I56 e56
    refine x_goto (tgt := 880) dX13_works_660 (by decide) ?_
    refine x_aload_n dX13_works_880 rfl ?_
    refine x_dup dX13_works_881 rfl ?_
    refine x_get (v := .int (I56 m 76)) hG dX13_works_882 f_X13_553_12 (mo_t hM) rfl ?_
    refine x_eqi (v := (I m 76)) (xup_rk e56 (by decide)) ?_
    refine x_iconst_ (v := (1 : Int32)) dX13_works_885 (by decide) ?_
    refine x_iadd dX13_works_886 ?_
    refine y_put hG hM dX13_works_887 f_X13_553_12 ⟨_, rfl, Or.inl rfl⟩ rfl rfl ⟨_, rfl⟩ (fun I57 e57 => ?_)
    replace h := h I57 e57
    refine x_iconst_ (v := (1 : Int32)) dX13_works_890 (by decide) ?_
    exact x_zret dX13_works_891 rfl (by decide) ⟨_, _, rfl, rfl, (by decide), h⟩
  have kt2_11 : ((I (m + 32) (ix (I m 76))) = (19 : Int32)) → X G (dp + 3) kX13_works (oZ A Q) (A.wI I) 663 [some (.ref m), some (.int (I (m + 33) (ix (I m 76)))), some (.int (I (m + 34) (ix (I m 76)))), none, none, none] [] := by
    intro c29
    replace h := h.2.2.2.2.2.2.2.2.2.2.2.1 c29
    refine x_aload_n dX13_works_663 rfl ?_
    refine x_dup dX13_works_664 rfl ?_
    refine x_get (v := .int (I m 72)) hG dX13_works_665 f_X13_497_12 (mo_t hM) rfl ?_
    refine x_iconst_ (v := (1 : Int32)) dX13_works_668 (by decide) ?_
    refine x_isub dX13_works_669 ?_
    refine y_put hG hM dX13_works_670 f_X13_497_12 ⟨_, rfl, Or.inl rfl⟩ rfl rfl ⟨_, rfl⟩ (fun I58 e58 => ?_)
    replace h := h I58 e58
    refine x_aload_n dX13_works_673 rfl ?_
    refine x_get (v := .int (I58 m 79)) hG dX13_works_674 f_X13_518_12 (mo_t hM) rfl ?_
    refine x_eqi (v := (I m 79)) (xup_rk e58 (by decide)) ?_
    refine x_sipush_ (v := (2000 : Int32)) dX13_works_677 (by decide) ?_
    obtain ⟨J59, g59, h⟩ := h
    have kj59 : ∀ (I59 : xII), J59 I59 → X G (dp + 3) kX13_works (oZ A Q) (A.wI I59) 701 [some (.ref m), none, none, none, none, none] [] := by
      intro I59 h
      replace h := g59 I59 h
      refine x_aload_n dX13_works_701 rfl ?_
      refine x_get (v := .int (I59 m 79)) hG dX13_works_702 f_X13_518_12 (mo_t hM) rfl ?_
      refine x_ldcw hG dX13_works_705 q3619 ?_
      obtain ⟨J60, g60, h⟩ := h
      have kj60 : ∀ (I60 : xII), J60 I60 → X G (dp + 3) kX13_works (oZ A Q) (A.wI I60) 880 [some (.ref m), none, none, none, none, none] [] := by
        intro I60 h
        replace h := g60 I60 h
        refine x_aload_n dX13_works_880 rfl ?_
        refine x_dup dX13_works_881 rfl ?_
        refine x_get (v := .int (I60 m 76)) hG dX13_works_882 f_X13_553_12 (mo_t hM) rfl ?_
        refine x_iconst_ (v := (1 : Int32)) dX13_works_885 (by decide) ?_
        refine x_iadd dX13_works_886 ?_
        refine y_put hG hM dX13_works_887 f_X13_553_12 ⟨_, rfl, Or.inl rfl⟩ rfl rfl ⟨_, rfl⟩ (fun I61 e61 => ?_)
        replace h := h I61 e61
        refine x_iconst_ (v := (1 : Int32)) dX13_works_890 (by decide) ?_
        exact x_zret dX13_works_891 rfl (by decide) ⟨_, _, rfl, rfl, (by decide), h⟩
      refine x_icmp_ge (tgt := 880) dX13_works_708 (by decide) (fun c708 => ?_) (fun c708 => ?_)
      · replace h := h.1 c708
        change X _ _ _ _ _ _ [some (.ref m), none, none, none, none, none] []
        exact X.weak (xle_c rfl (xle_n (xle_n (xle_n (xle_n (xle_n xle_nil)))))) (kj60 I59 h)
      · replace h := h.2 c708
        refine x_aload_n dX13_works_711 rfl ?_
        refine x_dup dX13_works_712 rfl ?_
        refine x_get (v := .int (I59 m 79)) hG dX13_works_713 f_X13_518_12 (mo_t hM) rfl ?_
        refine x_iconst_ (v := (1 : Int32)) dX13_works_716 (by decide) ?_
        refine x_iadd dX13_works_717 ?_
        refine y_put hG hM dX13_works_718 f_X13_518_12 ⟨_, rfl, Or.inl rfl⟩ rfl rfl ⟨_, rfl⟩ (fun I62 e62 => ?_)
        replace h := h I62 e62
        refine x_goto (tgt := 880) dX13_works_721 (by decide) ?_
        change X _ _ _ _ _ _ [some (.ref m), none, none, none, none, none] []
        exact X.weak (xle_c rfl (xle_n (xle_n (xle_n (xle_n (xle_n xle_nil)))))) (kj60 I62 h)
    refine x_icmp_ge (tgt := 701) dX13_works_680 (by decide) (fun c680 => ?_) (fun c680 => ?_)
    · replace h := h.1 c680
      change X _ _ _ _ _ _ [some (.ref m), some (.int (I (m + 33) (ix (I m 76)))), some (.int (I (m + 34) (ix (I m 76)))), none, none, none] []
      exact X.weak (xle_c rfl (xle_n (xle_n (xle_n (xle_n (xle_n xle_nil)))))) (kj59 I58 h)
    · replace h := h.2 c680
      refine x_aload_n dX13_works_683 rfl ?_
      refine x_get (v := .ref (m + 41)) hG dX13_works_684 f_X13_132_12 (mo_t hM) (congrArg va_rf (mo_P89 hM)) ?_
      refine x_aload_n dX13_works_687 rfl ?_
      refine x_get (v := .int (I58 m 79)) hG dX13_works_688 f_X13_518_12 (mo_t hM) rfl ?_
      refine x_eqi (v := (I m 79)) (xup_rk e58 (by decide)) ?_
      refine x_aload_n dX13_works_691 rfl ?_
      refine x_get (v := .ref (m + 39)) hG dX13_works_692 f_X13_126_12 (mo_t hM) (congrArg va_rf (mo_P71 hM)) ?_
      refine x_aload_n dX13_works_695 rfl ?_
      refine x_get (v := .int (I58 m 72)) hG dX13_works_696 f_X13_497_12 (mo_t hM) rfl ?_
      refine x_eqi (v := ((I m 72) - (1 : Int32))) (xup_rs e58) ?_
      obtain ⟨o63, h⟩ := h
      refine y_iald hG dX13_works_699 (mo_t71 hM) (mo_n71 hM) o63 ?_
      refine x_eqi (v := (I (m + 39) (ix ((I m 72) - (1 : Int32))))) (xup_ra e58 (by omega)) ?_
      obtain ⟨o64, h⟩ := h
      refine y_iast hG dX13_works_700 (mo_t89 hM) (mo_aN hM) (mo_n89 hM) o64 (fun I65 e65 => ?_)
      replace h := h I65 e65
      change X _ _ _ _ _ _ [some (.ref m), some (.int (I (m + 33) (ix (I m 76)))), some (.int (I (m + 34) (ix (I m 76)))), none, none, none] []
      exact X.weak (xle_c rfl (xle_n (xle_n (xle_n (xle_n (xle_n xle_nil)))))) (kj59 I65 h)
  have kt2_12 : ((I (m + 32) (ix (I m 76))) = (20 : Int32)) → X G (dp + 3) kX13_works (oZ A Q) (A.wI I) 724 [some (.ref m), some (.int (I (m + 33) (ix (I m 76)))), some (.int (I (m + 34) (ix (I m 76)))), none, none, none] [] := by
    intro c29
    replace h := h.2.2.2.2.2.2.2.2.2.2.2.2.1 c29
    refine x_aload_n dX13_works_724 rfl ?_
    refine x_dup dX13_works_725 rfl ?_
    refine x_get (v := .int (I m 72)) hG dX13_works_726 f_X13_497_12 (mo_t hM) rfl ?_
    refine x_iconst_ (v := (1 : Int32)) dX13_works_729 (by decide) ?_
    refine x_isub dX13_works_730 ?_
    refine y_put hG hM dX13_works_731 f_X13_497_12 ⟨_, rfl, Or.inl rfl⟩ rfl rfl ⟨_, rfl⟩ (fun I66 e66 => ?_)
    replace h := h I66 e66
    refine x_aload_n dX13_works_734 rfl ?_
    refine x_iconst_ (v := (4 : Int32)) dX13_works_735 (by decide) ?_
    refine y_put hG hM dX13_works_736 f_X13_512_12 ⟨_, rfl, Or.inl rfl⟩ rfl rfl ⟨_, rfl⟩ (fun I67 e67 => ?_)
    replace h := h I67 e67
    refine x_aload_n dX13_works_739 rfl ?_
    refine x_aload_n dX13_works_740 rfl ?_
    refine x_get (v := .ref (m + 39)) hG dX13_works_741 f_X13_126_12 (mo_t hM) (congrArg va_rf (mo_P71 hM)) ?_
    refine x_aload_n dX13_works_744 rfl ?_
    refine x_get (v := .int (I67 m 72)) hG dX13_works_745 f_X13_497_12 (mo_t hM) rfl ?_
    refine x_eqi (v := ((I m 72) - (1 : Int32))) ((xup_rk e67 (by decide)).trans (xup_rs e66)) ?_
    obtain ⟨o68, h⟩ := h
    refine y_iald hG dX13_works_748 (mo_t71 hM) (mo_n71 hM) o68 ?_
    refine x_eqi (v := (I (m + 39) (ix ((I m 72) - (1 : Int32))))) ((xup_ra e67 (by omega)).trans (xup_ra e66 (by omega))) ?_
    refine y_put hG hM dX13_works_749 f_X13_539_12 ⟨_, rfl, Or.inl rfl⟩ rfl rfl ⟨_, rfl⟩ (fun I69 e69 => ?_)
    replace h := h I69 e69
    refine x_iconst_ (v := (0 : Int32)) dX13_works_752 (by decide) ?_
    exact x_zret dX13_works_753 rfl (by decide) ⟨_, _, rfl, rfl, (by decide), h⟩
  have kt2_13 : ((I (m + 32) (ix (I m 76))) = (21 : Int32)) → X G (dp + 3) kX13_works (oZ A Q) (A.wI I) 754 [some (.ref m), some (.int (I (m + 33) (ix (I m 76)))), some (.int (I (m + 34) (ix (I m 76)))), none, none, none] [] := by
    intro c29
    replace h := h.2.2.2.2.2.2.2.2.2.2.2.2.2.1 c29
    refine x_aload_n dX13_works_754 rfl ?_
    refine x_get (v := .int (I m 80)) hG dX13_works_755 f_X13_515_12 (mo_t hM) rfl ?_
    refine x_if_ne (tgt := 768) dX13_works_758 (by decide) (fun c758 => ?_) (fun c758 => ?_)
    · replace h := h.2 c758
      refine x_aload_n dX13_works_768 rfl ?_
      refine x_get (v := .ref (m + 39)) hG dX13_works_769 f_X13_126_12 (mo_t hM) (congrArg va_rf (mo_P71 hM)) ?_
      refine x_aload_n dX13_works_772 rfl ?_
      refine x_get (v := .int (I m 72)) hG dX13_works_773 f_X13_497_12 (mo_t hM) rfl ?_
      refine x_aload_n dX13_works_776 rfl ?_
      refine x_get (v := .ref (m + 40)) hG dX13_works_777 f_X13_129_12 (mo_t hM) (congrArg va_rf (mo_P88 hM)) ?_
      refine x_iconst_ (v := (0 : Int32)) dX13_works_780 (by decide) ?_
      obtain ⟨o70, h⟩ := h
      refine y_iald hG dX13_works_781 (mo_t88 hM) (mo_n88 hM) o70 ?_
      refine x_eqi (v := (I (m + 40) 0)) rfl ?_
      obtain ⟨o71, h⟩ := h
      refine y_iast hG dX13_works_782 (mo_t71 hM) (mo_aN hM) (mo_n71 hM) o71 (fun I72 e72 => ?_)
      replace h := h I72 e72
      refine x_aload_n dX13_works_783 rfl ?_
      refine x_dup dX13_works_784 rfl ?_
      refine x_get (v := .int (I72 m 72)) hG dX13_works_785 f_X13_497_12 (mo_t hM) rfl ?_
      refine x_eqi (v := (I m 72)) (xup_ra e72 (by omega)) ?_
      refine x_iconst_ (v := (1 : Int32)) dX13_works_788 (by decide) ?_
      refine x_iadd dX13_works_789 ?_
      refine y_put hG hM dX13_works_790 f_X13_497_12 ⟨_, rfl, Or.inl rfl⟩ rfl rfl ⟨_, rfl⟩ (fun I73 e73 => ?_)
      replace h := h I73 e73
      refine x_aload_n dX13_works_793 rfl ?_
      refine x_dup dX13_works_794 rfl ?_
      refine x_get (v := .int (I73 m 80)) hG dX13_works_795 f_X13_515_12 (mo_t hM) rfl ?_
      refine x_eqi (v := (I m 80)) ((xup_rk e73 (by decide)).trans (xup_ra e72 (by omega))) ?_
      refine x_iconst_ (v := (1 : Int32)) dX13_works_798 (by decide) ?_
      refine x_isub dX13_works_799 ?_
      refine y_put hG hM dX13_works_800 f_X13_515_12 ⟨_, rfl, Or.inl rfl⟩ rfl rfl ⟨_, rfl⟩ (fun I74 e74 => ?_)
      replace h := h I74 e74
      refine x_iconst_ (v := (0 : Int32)) dX13_works_803 (by decide) ?_
      refine x_istore_n dX13_works_804 (by decide) ?_
      obtain ⟨L75, ⟨n75, i75⟩, g75⟩ := h
      have kl75 : ∀ n75 : Nat, ∀ (y75_3 : Int32) (I75 : xII), L75 n75 y75_3 I75 → X G (dp + 3) kX13_works (oZ A Q) (A.wI I75) 805 [some (.ref m), none, none, some (.int y75_3), none, none] [] := by
        intro n75
        induction n75 using Nat.strongRecOn with
        | ind n75 ih75 =>
          intro y75_3 I75 h
          replace h := g75 n75 y75_3 I75 h
          refine x_iload_n dX13_works_805 rfl ?_
          refine x_aload_n dX13_works_806 rfl ?_
          refine x_get (v := .int (I75 m 80)) hG dX13_works_807 f_X13_515_12 (mo_t hM) rfl ?_
          refine x_icmp_ge (tgt := 833) dX13_works_810 (by decide) (fun c810 => ?_) (fun c810 => ?_)
          · replace h := h.1 c810
            refine x_goto (tgt := 880) dX13_works_833 (by decide) ?_
            refine x_aload_n dX13_works_880 rfl ?_
            refine x_dup dX13_works_881 rfl ?_
            refine x_get (v := .int (I75 m 76)) hG dX13_works_882 f_X13_553_12 (mo_t hM) rfl ?_
            refine x_iconst_ (v := (1 : Int32)) dX13_works_885 (by decide) ?_
            refine x_iadd dX13_works_886 ?_
            refine y_put hG hM dX13_works_887 f_X13_553_12 ⟨_, rfl, Or.inl rfl⟩ rfl rfl ⟨_, rfl⟩ (fun I76 e76 => ?_)
            replace h := h I76 e76
            refine x_iconst_ (v := (1 : Int32)) dX13_works_890 (by decide) ?_
            exact x_zret dX13_works_891 rfl (by decide) ⟨_, _, rfl, rfl, (by decide), h⟩
          · replace h := h.2 c810
            refine x_aload_n dX13_works_813 rfl ?_
            refine x_get (v := .ref (m + 40)) hG dX13_works_814 f_X13_129_12 (mo_t hM) (congrArg va_rf (mo_P88 hM)) ?_
            refine x_iload_n dX13_works_817 rfl ?_
            refine x_aload_n dX13_works_818 rfl ?_
            refine x_get (v := .ref (m + 40)) hG dX13_works_819 f_X13_129_12 (mo_t hM) (congrArg va_rf (mo_P88 hM)) ?_
            refine x_iload_n dX13_works_822 rfl ?_
            refine x_iconst_ (v := (1 : Int32)) dX13_works_823 (by decide) ?_
            refine x_iadd dX13_works_824 ?_
            obtain ⟨o77, h⟩ := h
            refine y_iald hG dX13_works_825 (mo_t88 hM) (mo_n88 hM) o77 ?_
            obtain ⟨o78, h⟩ := h
            refine y_iast hG dX13_works_826 (mo_t88 hM) (mo_aN hM) (mo_n88 hM) o78 (fun I79 e79 => ?_)
            replace h := h I79 e79
            refine x_iinc (v := (y75_3 + (1 : Int32))) dX13_works_827 rfl rfl (by decide) ?_
            refine x_goto (tgt := 805) dX13_works_830 (by decide) ?_
            obtain ⟨q75, l75, h⟩ := h
            change X _ _ _ _ _ _ [some (.ref m), none, none, some (.int (y75_3 + (1 : Int32))), none, none] []
            exact X.weak (xle_c rfl (xle_n (xle_n (xle_c rfl (xle_n (xle_n xle_nil)))))) (ih75 q75 l75 (y75_3 + (1 : Int32)) I79 h)
      change X _ _ _ _ _ _ [some (.ref m), some (.int (I (m + 33) (ix (I m 76)))), some (.int (I (m + 34) (ix (I m 76)))), some (.int (0 : Int32)), none, none] []
      exact X.weak (xle_c rfl (xle_n (xle_n (xle_c rfl (xle_n (xle_n xle_nil)))))) (kl75 n75 (0 : Int32) I74 i75)
    · replace h := h.1 c758
      refine x_aload_n dX13_works_761 rfl ?_
      refine x_iconst_ (v := (2 : Int32)) dX13_works_762 (by decide) ?_
      refine y_put hG hM dX13_works_763 f_X13_512_12 ⟨_, rfl, Or.inl rfl⟩ rfl rfl ⟨_, rfl⟩ (fun I80 e80 => ?_)
      replace h := h I80 e80
      refine x_iconst_ (v := (0 : Int32)) dX13_works_766 (by decide) ?_
      exact x_zret dX13_works_767 rfl (by decide) ⟨_, _, rfl, rfl, (by decide), h⟩
  have kt2_14 : ((I (m + 32) (ix (I m 76))) = (22 : Int32)) → X G (dp + 3) kX13_works (oZ A Q) (A.wI I) 836 [some (.ref m), some (.int (I (m + 33) (ix (I m 76)))), some (.int (I (m + 34) (ix (I m 76)))), none, none, none] [] := by
    intro c29
    replace h := h.2.2.2.2.2.2.2.2.2.2.2.2.2.2.1 c29
    refine x_iconst_ (v := (0 : Int32)) dX13_works_836 (by decide) ?_
    refine x_istore_n dX13_works_837 (by decide) ?_
    obtain ⟨L81, ⟨n81, i81⟩, g81⟩ := h
    have kl81 : ∀ n81 : Nat, ∀ (y81_3 : Int32) (I81 : xII), L81 n81 y81_3 I81 → X G (dp + 3) kX13_works (oZ A Q) (A.wI I81) 838 [some (.ref m), some (.int (I (m + 33) (ix (I m 76)))), some (.int (I (m + 34) (ix (I m 76)))), some (.int y81_3), none, none] [] := by
      intro n81
      induction n81 using Nat.strongRecOn with
      | ind n81 ih81 =>
        intro y81_3 I81 h
        replace h := g81 n81 y81_3 I81 h
        refine x_iload_n dX13_works_838 rfl ?_
        refine x_iload_n dX13_works_839 rfl ?_
        refine x_icmp_ge (tgt := 863) dX13_works_840 (by decide) (fun c840 => ?_) (fun c840 => ?_)
        · replace h := h.1 c840
          refine x_goto (tgt := 880) dX13_works_863 (by decide) ?_
          refine x_aload_n dX13_works_880 rfl ?_
          refine x_dup dX13_works_881 rfl ?_
          refine x_get (v := .int (I81 m 76)) hG dX13_works_882 f_X13_553_12 (mo_t hM) rfl ?_
          refine x_iconst_ (v := (1 : Int32)) dX13_works_885 (by decide) ?_
          refine x_iadd dX13_works_886 ?_
          refine y_put hG hM dX13_works_887 f_X13_553_12 ⟨_, rfl, Or.inl rfl⟩ rfl rfl ⟨_, rfl⟩ (fun I82 e82 => ?_)
          replace h := h I82 e82
          refine x_iconst_ (v := (1 : Int32)) dX13_works_890 (by decide) ?_
          exact x_zret dX13_works_891 rfl (by decide) ⟨_, _, rfl, rfl, (by decide), h⟩
        · replace h := h.2 c840
          refine x_aload_n dX13_works_843 rfl ?_
          refine x_get (v := .ref (m + 42)) hG dX13_works_844 f_X13_135_12 (mo_t hM) (congrArg va_rf (mo_P90 hM)) ?_
          refine x_aload_n dX13_works_847 rfl ?_
          refine x_get (v := .int (I81 m 86)) hG dX13_works_848 f_X13_550_12 (mo_t hM) rfl ?_
          refine x_iload_n dX13_works_851 rfl ?_
          refine x_iadd dX13_works_852 ?_
          refine x_iload_n dX13_works_853 rfl ?_
          refine x_iadd dX13_works_854 ?_
          refine x_iconst_ (v := (0 : Int32)) dX13_works_855 (by decide) ?_
          obtain ⟨o83, h⟩ := h
          refine y_iast hG dX13_works_856 (mo_t90 hM) (mo_aN hM) (mo_n90 hM) o83 (fun I84 e84 => ?_)
          replace h := h I84 e84
          refine x_iinc (v := (y81_3 + (1 : Int32))) dX13_works_857 rfl rfl (by decide) ?_
          refine x_goto (tgt := 838) dX13_works_860 (by decide) ?_
          obtain ⟨q81, l81, h⟩ := h
          change X _ _ _ _ _ _ [some (.ref m), some (.int (I (m + 33) (ix (I m 76)))), some (.int (I (m + 34) (ix (I m 76)))), some (.int (y81_3 + (1 : Int32))), none, none] []
          exact X.weak (xle_c rfl (xle_c rfl (xle_c rfl (xle_c rfl (xle_n (xle_n xle_nil)))))) (ih81 q81 l81 (y81_3 + (1 : Int32)) I84 h)
    change X _ _ _ _ _ _ [some (.ref m), some (.int (I (m + 33) (ix (I m 76)))), some (.int (I (m + 34) (ix (I m 76)))), some (.int (0 : Int32)), none, none] []
    exact X.weak (xle_c rfl (xle_c rfl (xle_c rfl (xle_c rfl (xle_n (xle_n xle_nil)))))) (kl81 n81 (0 : Int32) I i81)
  have kd2 : (¬ (I (m + 32) (ix (I m 76))) = (1 : Int32) ∧ ¬ (I (m + 32) (ix (I m 76))) = (3 : Int32) ∧ ¬ (I (m + 32) (ix (I m 76))) = (2 : Int32) ∧ ¬ (I (m + 32) (ix (I m 76))) = (4 : Int32) ∧ ¬ (I (m + 32) (ix (I m 76))) = (5 : Int32) ∧ ¬ (I (m + 32) (ix (I m 76))) = (6 : Int32) ∧ ¬ (I (m + 32) (ix (I m 76))) = (7 : Int32) ∧ ¬ (I (m + 32) (ix (I m 76))) = (8 : Int32) ∧ ¬ (I (m + 32) (ix (I m 76))) = (9 : Int32) ∧ ¬ (I (m + 32) (ix (I m 76))) = (15 : Int32) ∧ ¬ (I (m + 32) (ix (I m 76))) = (16 : Int32) ∧ ¬ (I (m + 32) (ix (I m 76))) = (17 : Int32) ∧ ¬ (I (m + 32) (ix (I m 76))) = (18 : Int32) ∧ ¬ (I (m + 32) (ix (I m 76))) = (19 : Int32) ∧ ¬ (I (m + 32) (ix (I m 76))) = (20 : Int32) ∧ ¬ (I (m + 32) (ix (I m 76))) = (21 : Int32) ∧ ¬ (I (m + 32) (ix (I m 76))) = (22 : Int32)) → X G (dp + 3) kX13_works (oZ A Q) (A.wI I) 866 [some (.ref m), some (.int (I (m + 33) (ix (I m 76)))), some (.int (I (m + 34) (ix (I m 76)))), none, none, none] [] := by
    intro c29
    replace h := h.2.2.2.2.2.2.2.2.2.2.2.2.2.2.2 c29
    refine x_aload_n dX13_works_866 rfl ?_
    refine x_aload_n dX13_works_867 rfl ?_
    refine x_aload_n dX13_works_868 rfl ?_
    refine x_get (v := .int (I m 76)) hG dX13_works_869 f_X13_553_12 (mo_t hM) rfl ?_
    obtain ⟨R85, g85, h⟩ := h
    refine x_callV hG (Ky := kX13_plainly) (As := [.int (I m 76)]) dX13_works_872 (mo_t hM) rfl lk_X13_506 me_X13_plainly is_X13_plainly se_X13_plainly rfl rfl (Nat.le_of_ble_eq_true rfl) (MX.post (m_X13_plainly hG hM g85) ?_)
    rintro _ _ ⟨v85, I85, rfl, rfl, h1⟩
    replace h := h v85 I85 h1
    change X _ _ _ _ (A.wI I85) _ _ (.int v85 :: _)
    refine y_put hG hM dX13_works_875 f_X13_553_12 ⟨_, rfl, Or.inl rfl⟩ rfl rfl ⟨_, rfl⟩ (fun I86 e86 => ?_)
    replace h := h I86 e86
    refine x_iconst_ (v := (1 : Int32)) dX13_works_878 (by decide) ?_
    exact x_zret dX13_works_879 rfl (by decide) ⟨_, _, rfl, rfl, (by decide), h⟩
  refine x_sw (1 : Int32) (fun s29_0 => ?_) (fun s29_0 => ?_)
  · refine x_tableIn (off := 103) (tgt := 132) dX13_works_29 (by rw [s29_0]; decide) (by rw [s29_0]; decide) (by rw [s29_0]; rfl) (by decide) ?_
    exact kt2_0 (by simp only [s29_0]; decide)
  refine x_sw (2 : Int32) (fun s29_1 => ?_) (fun s29_1 => ?_)
  · refine x_tableIn (off := 153) (tgt := 182) dX13_works_29 (by rw [s29_1]; decide) (by rw [s29_1]; decide) (by rw [s29_1]; rfl) (by decide) ?_
    exact kt2_1 (by simp only [s29_1]; decide)
  refine x_sw (3 : Int32) (fun s29_2 => ?_) (fun s29_2 => ?_)
  · refine x_tableIn (off := 103) (tgt := 132) dX13_works_29 (by rw [s29_2]; decide) (by rw [s29_2]; decide) (by rw [s29_2]; rfl) (by decide) ?_
    exact kt2_0 (by simp only [s29_2]; decide)
  refine x_sw (4 : Int32) (fun s29_3 => ?_) (fun s29_3 => ?_)
  · refine x_tableIn (off := 153) (tgt := 182) dX13_works_29 (by rw [s29_3]; decide) (by rw [s29_3]; decide) (by rw [s29_3]; rfl) (by decide) ?_
    exact kt2_1 (by simp only [s29_3]; decide)
  refine x_sw (5 : Int32) (fun s29_4 => ?_) (fun s29_4 => ?_)
  · refine x_tableIn (off := 203) (tgt := 232) dX13_works_29 (by rw [s29_4]; decide) (by rw [s29_4]; decide) (by rw [s29_4]; rfl) (by decide) ?_
    exact kt2_2 s29_4
  refine x_sw (6 : Int32) (fun s29_5 => ?_) (fun s29_5 => ?_)
  · refine x_tableIn (off := 300) (tgt := 329) dX13_works_29 (by rw [s29_5]; decide) (by rw [s29_5]; decide) (by rw [s29_5]; rfl) (by decide) ?_
    exact kt2_3 s29_5
  refine x_sw (7 : Int32) (fun s29_6 => ?_) (fun s29_6 => ?_)
  · refine x_tableIn (off := 434) (tgt := 463) dX13_works_29 (by rw [s29_6]; decide) (by rw [s29_6]; decide) (by rw [s29_6]; rfl) (by decide) ?_
    exact kt2_4 s29_6
  refine x_sw (8 : Int32) (fun s29_7 => ?_) (fun s29_7 => ?_)
  · refine x_tableIn (off := 464) (tgt := 493) dX13_works_29 (by rw [s29_7]; decide) (by rw [s29_7]; decide) (by rw [s29_7]; rfl) (by decide) ?_
    exact kt2_5 s29_7
  refine x_sw (9 : Int32) (fun s29_8 => ?_) (fun s29_8 => ?_)
  · refine x_tableIn (off := 525) (tgt := 554) dX13_works_29 (by rw [s29_8]; decide) (by rw [s29_8]; decide) (by rw [s29_8]; rfl) (by decide) ?_
    exact kt2_6 s29_8
  refine x_sw (10 : Int32) (fun s29_9 => ?_) (fun s29_9 => ?_)
  · refine x_tableIn (off := 837) (tgt := 866) dX13_works_29 (by rw [s29_9]; decide) (by rw [s29_9]; decide) (by rw [s29_9]; rfl) (by decide) ?_
    exact kd2 (by rw [s29_9]; decide)
  refine x_sw (11 : Int32) (fun s29_10 => ?_) (fun s29_10 => ?_)
  · refine x_tableIn (off := 837) (tgt := 866) dX13_works_29 (by rw [s29_10]; decide) (by rw [s29_10]; decide) (by rw [s29_10]; rfl) (by decide) ?_
    exact kd2 (by rw [s29_10]; decide)
  refine x_sw (12 : Int32) (fun s29_11 => ?_) (fun s29_11 => ?_)
  · refine x_tableIn (off := 837) (tgt := 866) dX13_works_29 (by rw [s29_11]; decide) (by rw [s29_11]; decide) (by rw [s29_11]; rfl) (by decide) ?_
    exact kd2 (by rw [s29_11]; decide)
  refine x_sw (13 : Int32) (fun s29_12 => ?_) (fun s29_12 => ?_)
  · refine x_tableIn (off := 837) (tgt := 866) dX13_works_29 (by rw [s29_12]; decide) (by rw [s29_12]; decide) (by rw [s29_12]; rfl) (by decide) ?_
    exact kd2 (by rw [s29_12]; decide)
  refine x_sw (14 : Int32) (fun s29_13 => ?_) (fun s29_13 => ?_)
  · refine x_tableIn (off := 837) (tgt := 866) dX13_works_29 (by rw [s29_13]; decide) (by rw [s29_13]; decide) (by rw [s29_13]; rfl) (by decide) ?_
    exact kd2 (by rw [s29_13]; decide)
  refine x_sw (15 : Int32) (fun s29_14 => ?_) (fun s29_14 => ?_)
  · refine x_tableIn (off := 558) (tgt := 587) dX13_works_29 (by rw [s29_14]; decide) (by rw [s29_14]; decide) (by rw [s29_14]; rfl) (by decide) ?_
    exact kt2_7 s29_14
  refine x_sw (16 : Int32) (fun s29_15 => ?_) (fun s29_15 => ?_)
  · refine x_tableIn (off := 590) (tgt := 619) dX13_works_29 (by rw [s29_15]; decide) (by rw [s29_15]; decide) (by rw [s29_15]; rfl) (by decide) ?_
    exact kt2_8 s29_15
  refine x_sw (17 : Int32) (fun s29_16 => ?_) (fun s29_16 => ?_)
  · refine x_tableIn (off := 603) (tgt := 632) dX13_works_29 (by rw [s29_16]; decide) (by rw [s29_16]; decide) (by rw [s29_16]; rfl) (by decide) ?_
    exact kt2_9 s29_16
  refine x_sw (18 : Int32) (fun s29_17 => ?_) (fun s29_17 => ?_)
  · refine x_tableIn (off := 621) (tgt := 650) dX13_works_29 (by rw [s29_17]; decide) (by rw [s29_17]; decide) (by rw [s29_17]; rfl) (by decide) ?_
    exact kt2_10 s29_17
  refine x_sw (19 : Int32) (fun s29_18 => ?_) (fun s29_18 => ?_)
  · refine x_tableIn (off := 634) (tgt := 663) dX13_works_29 (by rw [s29_18]; decide) (by rw [s29_18]; decide) (by rw [s29_18]; rfl) (by decide) ?_
    exact kt2_11 s29_18
  refine x_sw (20 : Int32) (fun s29_19 => ?_) (fun s29_19 => ?_)
  · refine x_tableIn (off := 695) (tgt := 724) dX13_works_29 (by rw [s29_19]; decide) (by rw [s29_19]; decide) (by rw [s29_19]; rfl) (by decide) ?_
    exact kt2_12 s29_19
  refine x_sw (21 : Int32) (fun s29_20 => ?_) (fun s29_20 => ?_)
  · refine x_tableIn (off := 725) (tgt := 754) dX13_works_29 (by rw [s29_20]; decide) (by rw [s29_20]; decide) (by rw [s29_20]; rfl) (by decide) ?_
    exact kt2_13 s29_20
  refine x_sw (22 : Int32) (fun s29_21 => ?_) (fun s29_21 => ?_)
  · refine x_tableIn (off := 807) (tgt := 836) dX13_works_29 (by rw [s29_21]; decide) (by rw [s29_21]; decide) (by rw [s29_21]; rfl) (by decide) ?_
    exact kt2_14 s29_21
  have t29_0 := lv_neT s29_0 (a := 1) (by decide)
  have t29_1 := lv_neT s29_1 (a := 2) (by decide)
  have t29_2 := lv_neT s29_2 (a := 3) (by decide)
  have t29_3 := lv_neT s29_3 (a := 4) (by decide)
  have t29_4 := lv_neT s29_4 (a := 5) (by decide)
  have t29_5 := lv_neT s29_5 (a := 6) (by decide)
  have t29_6 := lv_neT s29_6 (a := 7) (by decide)
  have t29_7 := lv_neT s29_7 (a := 8) (by decide)
  have t29_8 := lv_neT s29_8 (a := 9) (by decide)
  have t29_9 := lv_neT s29_9 (a := 10) (by decide)
  have t29_10 := lv_neT s29_10 (a := 11) (by decide)
  have t29_11 := lv_neT s29_11 (a := 12) (by decide)
  have t29_12 := lv_neT s29_12 (a := 13) (by decide)
  have t29_13 := lv_neT s29_13 (a := 14) (by decide)
  have t29_14 := lv_neT s29_14 (a := 15) (by decide)
  have t29_15 := lv_neT s29_15 (a := 16) (by decide)
  have t29_16 := lv_neT s29_16 (a := 17) (by decide)
  have t29_17 := lv_neT s29_17 (a := 18) (by decide)
  have t29_18 := lv_neT s29_18 (a := 19) (by decide)
  have t29_19 := lv_neT s29_19 (a := 20) (by decide)
  have t29_20 := lv_neT s29_20 (a := 21) (by decide)
  have t29_21 := lv_neT s29_21 (a := 22) (by decide)
  refine x_tableOut (tgt := 866) dX13_works_29 (by omega) (by decide) ?_
  exact kd2 ⟨s29_0, s29_2, s29_1, s29_3, s29_4, s29_5, s29_6, s29_7, s29_8, s29_14, s29_15, s29_16, s29_17, s29_18, s29_19, s29_20, s29_21⟩
def w_X13_run (m : Nat) (n : Int32) (Q : Int32 → xII → Prop) (I : xII) : Prop := ((n < 0 → Q (-1 : Int32) I) ∧ (¬ n < 0 → (((1000 : Int32) < n → Q (-1 : Int32) I) ∧ (¬ (1000 : Int32) < n → (((I m 75) = 0 → Q (-1 : Int32) I) ∧ (¬ (I m 75) = 0 → (((I m 75) ≤ (2 : Int32) → ∀ I1 : xII, I1 = xup I m 78 n → (∀ I2 : xII, I2 = xup I1 m 75 (1 : Int32) → (∃ J3 : Int32 → xII → Prop, (∀ (y3_s0 : Int32) (I3 : xII), J3 y3_s0 I3 → ∃ L4 : Nat → Int32 → xII → Prop, (∃ n4 : Nat, L4 n4 y3_s0 I3) ∧ (∀ (n4 : Nat) (y4_2 : Int32) (I4 : xII), L4 n4 y4_2 I4 → ((y4_2 = 0 → Q (I4 m 75) I4) ∧ (¬ y4_2 = 0 → (((I4 m 75) = (1 : Int32) → ∃ R5 : Int32 → xII → Prop, w_X13_works m R5 I4 ∧ (∀ (v5 : Int32) (I5 : xII), (v5 = 0 ∨ v5 = 1) → R5 v5 I5 → ((∃ q4 : Nat, q4 < n4 ∧ L4 q4 v5 I5)))) ∧ (¬ (I4 m 75) = (1 : Int32) → Q (I4 m 75) I4)))))) ∧ ((0 < (I m 85) → J3 (1 : Int32) I2) ∧ (¬ 0 < (I m 85) → vp_in (I m 74) 500 ∧ (∃ R7 : Int32 → xII → Prop, w_X13_calls m (I m 74) (I (m + 19) (ix (I m 74))) (0 : Int32) R7 I2 ∧ (∀ (v7 : Int32) (I7 : xII), (v7 = 0 ∨ v7 = 1) → R7 v7 I7 → (((v7 = 0 → J3 (0 : Int32) I7) ∧ (¬ v7 = 0 → J3 (1 : Int32) I7)))))))))) ∧ (¬ (I m 75) ≤ (2 : Int32) → Q (I m 75) I))))))))
theorem m_X13_run (hG : xOK G) {dp : Nat} {A : xA} {m : Nat} (hM : xMo G A m) {n : Int32} {Q : Int32 → xII → Prop} {I : xII} (h : w_X13_run m n Q I) : MX G (dp + 4) kX13_run [.ref m, .int n] (A.wI I) (oI A Q) := by
  unfold w_X13_run at h
  refine MX.of rfl (Nat.le_of_ble_eq_true rfl) ?_
  change X _ _ _ _ _ _ [some (.ref m), some (.int n), none] _
  refine x_iload_n dX13_run_0 rfl ?_
  refine x_if_lt (tgt := 18) dX13_run_1 (by decide) (fun c1 => ?_) (fun c1 => ?_)
  · replace h := h.1 c1
    refine x_iconst_ (v := (-1 : Int32)) dX13_run_18 (by decide) ?_
    exact x_iret dX13_run_19 rfl ⟨_, _, rfl, rfl, h⟩
  · replace h := h.2 c1
    refine x_iload_n dX13_run_4 rfl ?_
    refine x_sipush_ (v := (1000 : Int32)) dX13_run_5 (by decide) ?_
    refine x_icmp_gt (tgt := 18) dX13_run_8 (by decide) (fun c8 => ?_) (fun c8 => ?_)
    · replace h := h.1 c8
      refine x_iconst_ (v := (-1 : Int32)) dX13_run_18 (by decide) ?_
      exact x_iret dX13_run_19 rfl ⟨_, _, rfl, rfl, h⟩
    · replace h := h.2 c8
      refine x_aload_n dX13_run_11 rfl ?_
      refine x_get (v := .int (I m 75)) hG dX13_run_12 f_X13_512_12 (mo_t hM) rfl ?_
      refine x_if_ne (tgt := 20) dX13_run_15 (by decide) (fun c15 => ?_) (fun c15 => ?_)
      · replace h := h.2 c15
        refine x_aload_n dX13_run_20 rfl ?_
        refine x_get (v := .int (I m 75)) hG dX13_run_21 f_X13_512_12 (mo_t hM) rfl ?_
        refine x_iconst_ (v := (2 : Int32)) dX13_run_24 (by decide) ?_
        refine x_icmp_le (tgt := 33) dX13_run_25 (by decide) (fun c25 => ?_) (fun c25 => ?_)
        · replace h := h.1 c25
          refine x_aload_n dX13_run_33 rfl ?_
          refine x_iload_n dX13_run_34 rfl ?_
          refine y_put hG hM dX13_run_35 f_X13_556_12 ⟨_, rfl, Or.inl rfl⟩ rfl rfl ⟨_, rfl⟩ (fun I1 e1 => ?_)
          replace h := h I1 e1
          refine x_aload_n dX13_run_38 rfl ?_
          refine x_iconst_ (v := (1 : Int32)) dX13_run_39 (by decide) ?_
          refine y_put hG hM dX13_run_40 f_X13_512_12 ⟨_, rfl, Or.inl rfl⟩ rfl rfl ⟨_, rfl⟩ (fun I2 e2 => ?_)
          replace h := h I2 e2
          refine x_aload_n dX13_run_43 rfl ?_
          refine x_get (v := .int (I2 m 85)) hG dX13_run_44 f_X13_533_12 (mo_t hM) rfl ?_
          refine x_eqi (v := (I m 85)) ((xup_rk e2 (by decide)).trans (xup_rk e1 (by decide))) ?_
          obtain ⟨J3, g3, h⟩ := h
          have kj3 : ∀ (y3_s0 : Int32) (I3 : xII), J3 y3_s0 I3 → X G (dp + 4) kX13_run (oI A Q) (A.wI I3) 76 [some (.ref m), none, none] [.int y3_s0] := by
            intro y3_s0 I3 h
            replace h := g3 y3_s0 I3 h
            refine x_istore_n dX13_run_76 (by decide) ?_
            obtain ⟨L4, ⟨n4, i4⟩, g4⟩ := h
            have kl4 : ∀ n4 : Nat, ∀ (y4_2 : Int32) (I4 : xII), L4 n4 y4_2 I4 → X G (dp + 4) kX13_run (oI A Q) (A.wI I4) 77 [some (.ref m), none, some (.int y4_2)] [] := by
              intro n4
              induction n4 using Nat.strongRecOn with
              | ind n4 ih4 =>
                intro y4_2 I4 h
                replace h := g4 n4 y4_2 I4 h
                refine x_iload_n dX13_run_77 rfl ?_
                refine x_if_eq (tgt := 97) dX13_run_78 (by decide) (fun c78 => ?_) (fun c78 => ?_)
                · replace h := h.1 c78
                  refine x_aload_n dX13_run_97 rfl ?_
                  refine x_get (v := .int (I4 m 75)) hG dX13_run_98 f_X13_512_12 (mo_t hM) rfl ?_
                  exact x_iret dX13_run_101 rfl ⟨_, _, rfl, rfl, h⟩
                · replace h := h.2 c78
                  refine x_aload_n dX13_run_81 rfl ?_
                  refine x_get (v := .int (I4 m 75)) hG dX13_run_82 f_X13_512_12 (mo_t hM) rfl ?_
                  refine x_iconst_ (v := (1 : Int32)) dX13_run_85 (by decide) ?_
                  refine x_icmp_ne (tgt := 97) dX13_run_86 (by decide) (fun c86 => ?_) (fun c86 => ?_)
                  · replace h := h.2 c86
                    refine x_aload_n dX13_run_97 rfl ?_
                    refine x_get (v := .int (I4 m 75)) hG dX13_run_98 f_X13_512_12 (mo_t hM) rfl ?_
                    exact x_iret dX13_run_101 rfl ⟨_, _, rfl, rfl, h⟩
                  · replace h := h.1 c86
                    refine x_aload_n dX13_run_89 rfl ?_
                    obtain ⟨R5, g5, h⟩ := h
                    refine x_callV hG (Ky := kX13_works) (As := []) dX13_run_90 (mo_t hM) rfl lk_X13_563 me_X13_works is_X13_works se_X13_works rfl rfl (Nat.le_of_ble_eq_true rfl) (MX.post (m_X13_works hG hM g5) ?_)
                    rintro _ _ ⟨v5, I5, rfl, rfl, zv5, h1⟩
                    replace h := h v5 I5 zv5 h1
                    change X _ _ _ _ (A.wI I5) _ _ (.int v5 :: _)
                    refine x_istore_n dX13_run_93 (by decide) ?_
                    refine x_goto (tgt := 77) dX13_run_94 (by decide) ?_
                    obtain ⟨q4, l4, h⟩ := h
                    change X _ _ _ _ _ _ [some (.ref m), none, some (.int v5)] []
                    exact X.weak (xle_c rfl (xle_n (xle_c rfl xle_nil))) (ih4 q4 l4 v5 I5 h)
            change X _ _ _ _ _ _ [some (.ref m), none, some (.int y3_s0)] []
            exact X.weak (xle_c rfl (xle_n (xle_c rfl xle_nil))) (kl4 n4 y3_s0 I3 i4)
          refine x_if_gt (tgt := 71) dX13_run_47 (by decide) (fun c47 => ?_) (fun c47 => ?_)
          · replace h := h.1 c47
            refine x_iconst_ (v := (1 : Int32)) dX13_run_71 (by decide) ?_
            refine x_goto (tgt := 76) dX13_run_72 (by decide) ?_
            change X _ _ _ _ _ _ [some (.ref m), some (.int n), none] [.int (1 : Int32)]
            exact X.weak (xle_c rfl (xle_n (xle_n xle_nil))) (kj3 (1 : Int32) I2 h)
          · replace h := h.2 c47
            refine x_aload_n dX13_run_50 rfl ?_
            refine x_aload_n dX13_run_51 rfl ?_
            refine x_get (v := .int (I2 m 74)) hG dX13_run_52 f_X13_527_12 (mo_t hM) rfl ?_
            refine x_eqi (v := (I m 74)) ((xup_rk e2 (by decide)).trans (xup_rk e1 (by decide))) ?_
            refine x_aload_n dX13_run_55 rfl ?_
            refine x_get (v := .ref (m + 19)) hG dX13_run_56 f_X13_65_12 (mo_t hM) (congrArg va_rf (mo_P26 hM)) ?_
            refine x_aload_n dX13_run_59 rfl ?_
            refine x_get (v := .int (I2 m 74)) hG dX13_run_60 f_X13_527_12 (mo_t hM) rfl ?_
            refine x_eqi (v := (I m 74)) ((xup_rk e2 (by decide)).trans (xup_rk e1 (by decide))) ?_
            obtain ⟨o6, h⟩ := h
            refine y_iald hG dX13_run_63 (mo_t26 hM) (mo_n26 hM) o6 ?_
            refine x_eqi (v := (I (m + 19) (ix (I m 74)))) ((xup_ra e2 (by omega)).trans (xup_ra e1 (by omega))) ?_
            refine x_iconst_ (v := (0 : Int32)) dX13_run_64 (by decide) ?_
            obtain ⟨R7, g7, h⟩ := h
            refine x_callV hG (Ky := kX13_calls) (As := [.int (I m 74), .int (I (m + 19) (ix (I m 74))), .int (0 : Int32)]) dX13_run_65 (mo_t hM) rfl lk_X13_559 me_X13_calls is_X13_calls se_X13_calls rfl rfl (Nat.le_of_ble_eq_true rfl) (MX.post (m_X13_calls hG hM g7) ?_)
            rintro _ _ ⟨v7, I7, rfl, rfl, zv7, h1⟩
            replace h := h v7 I7 zv7 h1
            change X _ _ _ _ (A.wI I7) _ _ (.int v7 :: _)
            refine x_if_eq (tgt := 75) dX13_run_68 (by decide) (fun c68 => ?_) (fun c68 => ?_)
            · replace h := h.1 c68
              refine x_iconst_ (v := (0 : Int32)) dX13_run_75 (by decide) ?_
              change X _ _ _ _ _ _ [some (.ref m), some (.int n), none] [.int (0 : Int32)]
              exact X.weak (xle_c rfl (xle_n (xle_n xle_nil))) (kj3 (0 : Int32) I7 h)
            · replace h := h.2 c68
              refine x_iconst_ (v := (1 : Int32)) dX13_run_71 (by decide) ?_
              refine x_goto (tgt := 76) dX13_run_72 (by decide) ?_
              change X _ _ _ _ _ _ [some (.ref m), some (.int n), none] [.int (1 : Int32)]
              exact X.weak (xle_c rfl (xle_n (xle_n xle_nil))) (kj3 (1 : Int32) I7 h)
        · replace h := h.2 c25
          refine x_aload_n dX13_run_28 rfl ?_
          refine x_get (v := .int (I m 75)) hG dX13_run_29 f_X13_512_12 (mo_t hM) rfl ?_
          exact x_iret dX13_run_32 rfl ⟨_, _, rfl, rfl, h⟩
      · replace h := h.1 c15
        refine x_iconst_ (v := (-1 : Int32)) dX13_run_18 (by decide) ?_
        exact x_iret dX13_run_19 rfl ⟨_, _, rfl, rfl, h⟩
def w_X13_look (m : Nat) (w : Int32) (i : Int32) (Q : Int32 → xII → Prop) (I : xII) : Prop := (((I m 73) = 0 → Q (-1 : Int32) I) ∧ (¬ (I m 73) = 0 → ((w = 0 → Q (I m 24) I) ∧ (¬ w = 0 → ((w = (1 : Int32) → Q (I m 36) I) ∧ (¬ w = (1 : Int32) → ((w < 0 → Q (-1 : Int32) I) ∧ (¬ w < 0 → (((5 : Int32) < w → Q (-1 : Int32) I) ∧ (¬ (5 : Int32) < w → ((i < 0 → Q (-1 : Int32) I) ∧ (¬ i < 0 → ((i < (I m 24) → ((w = (2 : Int32) → vp_in i 500 ∧ (Q (I (m + 19) (ix i)) I)) ∧ (¬ w = (2 : Int32) → ((w = (3 : Int32) → vp_in i 500 ∧ (Q (I (m + 20) (ix i)) I)) ∧ (¬ w = (3 : Int32) → ((w = (4 : Int32) → vp_in i 500 ∧ (Q (I (m + 21) (ix i)) I)) ∧ (¬ w = (4 : Int32) → vp_in i 500 ∧ (Q (if (I (m + 26) (ix i)) = 0 then (1 : Int32) else (0 : Int32)) I)))))))) ∧ (¬ i < (I m 24) → Q (-1 : Int32) I))))))))))))))
theorem m_X13_look (hG : xOK G) {dp : Nat} {A : xA} {m : Nat} (hM : xMo G A m) {w : Int32} {i : Int32} {Q : Int32 → xII → Prop} {I : xII} (h : w_X13_look m w i Q I) : MX G (dp + 0) kX13_look [.ref m, .int w, .int i] (A.wI I) (oI A Q) := by
  unfold w_X13_look at h
  refine MX.of rfl (Nat.le_of_ble_eq_true rfl) ?_
  change X _ _ _ _ _ _ [some (.ref m), some (.int w), some (.int i)] _
  refine x_aload_n dX13_look_0 rfl ?_
  refine x_get (v := .int (I m 73)) hG dX13_look_1 f_X13_509_12 (mo_t hM) rfl ?_
  refine x_if_ne (tgt := 9) dX13_look_4 (by decide) (fun c4 => ?_) (fun c4 => ?_)
  · replace h := h.2 c4
    refine x_iload_n dX13_look_9 rfl ?_
    refine x_if_ne (tgt := 18) dX13_look_10 (by decide) (fun c10 => ?_) (fun c10 => ?_)
    · replace h := h.2 c10
      refine x_iload_n dX13_look_18 rfl ?_
      refine x_iconst_ (v := (1 : Int32)) dX13_look_19 (by decide) ?_
      refine x_icmp_ne (tgt := 28) dX13_look_20 (by decide) (fun c20 => ?_) (fun c20 => ?_)
      · replace h := h.2 c20
        refine x_iload_n dX13_look_28 rfl ?_
        refine x_if_lt (tgt := 49) dX13_look_29 (by decide) (fun c29 => ?_) (fun c29 => ?_)
        · replace h := h.1 c29
          refine x_iconst_ (v := (-1 : Int32)) dX13_look_49 (by decide) ?_
          exact x_iret dX13_look_50 rfl ⟨_, _, rfl, rfl, h⟩
        · replace h := h.2 c29
          refine x_iload_n dX13_look_32 rfl ?_
          refine x_iconst_ (v := (5 : Int32)) dX13_look_33 (by decide) ?_
          refine x_icmp_gt (tgt := 49) dX13_look_34 (by decide) (fun c34 => ?_) (fun c34 => ?_)
          · replace h := h.1 c34
            refine x_iconst_ (v := (-1 : Int32)) dX13_look_49 (by decide) ?_
            exact x_iret dX13_look_50 rfl ⟨_, _, rfl, rfl, h⟩
          · replace h := h.2 c34
            refine x_iload_n dX13_look_37 rfl ?_
            refine x_if_lt (tgt := 49) dX13_look_38 (by decide) (fun c38 => ?_) (fun c38 => ?_)
            · replace h := h.1 c38
              refine x_iconst_ (v := (-1 : Int32)) dX13_look_49 (by decide) ?_
              exact x_iret dX13_look_50 rfl ⟨_, _, rfl, rfl, h⟩
            · replace h := h.2 c38
              refine x_iload_n dX13_look_41 rfl ?_
              refine x_aload_n dX13_look_42 rfl ?_
              refine x_get (v := .int (I m 24)) hG dX13_look_43 f_X13_297_12 (mo_t hM) rfl ?_
              refine x_icmp_lt (tgt := 51) dX13_look_46 (by decide) (fun c46 => ?_) (fun c46 => ?_)
              · replace h := h.1 c46
                refine x_iload_n dX13_look_51 rfl ?_
                refine x_iconst_ (v := (2 : Int32)) dX13_look_52 (by decide) ?_
                refine x_icmp_ne (tgt := 65) dX13_look_53 (by decide) (fun c53 => ?_) (fun c53 => ?_)
                · replace h := h.2 c53
                  refine x_iload_n dX13_look_65 rfl ?_
                  refine x_iconst_ (v := (3 : Int32)) dX13_look_66 (by decide) ?_
                  refine x_icmp_ne (tgt := 79) dX13_look_67 (by decide) (fun c67 => ?_) (fun c67 => ?_)
                  · replace h := h.2 c67
                    refine x_iload_n dX13_look_79 rfl ?_
                    refine x_iconst_ (v := (4 : Int32)) dX13_look_80 (by decide) ?_
                    refine x_icmp_ne (tgt := 93) dX13_look_81 (by decide) (fun c81 => ?_) (fun c81 => ?_)
                    · replace h := h.2 c81
                      refine x_aload_n dX13_look_93 rfl ?_
                      refine x_get (v := .ref (m + 26)) hG dX13_look_94 f_X13_86_12 (mo_t hM) (congrArg va_rf (mo_P33 hM)) ?_
                      refine x_iload_n dX13_look_97 rfl ?_
                      obtain ⟨o1, h⟩ := h
                      refine y_zald hG dX13_look_98 (mo_t33 hM) (mo_n33 hM) o1 ?_
                      refine x_via 107 (A' := (A.wI I)) (lv' := [none, none, none]) (st' := [.int (if (I (m + 26) (ix i)) = 0 then (1 : Int32) else (0 : Int32))]) ?_ (fun k107 => ?_)
                      rotate_left
                      · refine x_if_eq (tgt := 106) dX13_look_99 (by decide) (fun c99 => ?_) (fun c99 => ?_)
                        · refine x_iconst_ (v := (1 : Int32)) dX13_look_106 (by decide) ?_
                          change X _ _ _ _ _ _ [some (.ref m), some (.int w), some (.int i)] [.int (1 : Int32)]
                          simp only [if_pos c99] at k107 ⊢
                          exact X.weak (xle_n (xle_n (xle_n xle_nil))) k107
                        · refine x_iconst_ (v := (0 : Int32)) dX13_look_102 (by decide) ?_
                          refine x_goto (tgt := 107) dX13_look_103 (by decide) ?_
                          change X _ _ _ _ _ _ [some (.ref m), some (.int w), some (.int i)] [.int (0 : Int32)]
                          simp only [if_neg c99] at k107 ⊢
                          exact X.weak (xle_n (xle_n (xle_n xle_nil))) k107
                      exact x_iret dX13_look_107 rfl ⟨_, _, rfl, rfl, h⟩
                    · replace h := h.1 c81
                      refine x_aload_n dX13_look_84 rfl ?_
                      refine x_get (v := .ref (m + 21)) hG dX13_look_85 f_X13_71_12 (mo_t hM) (congrArg va_rf (mo_P28 hM)) ?_
                      refine x_iload_n dX13_look_88 rfl ?_
                      obtain ⟨o2, h⟩ := h
                      refine y_iald hG dX13_look_89 (mo_t28 hM) (mo_n28 hM) o2 ?_
                      refine x_goto (tgt := 107) dX13_look_90 (by decide) ?_
                      exact x_iret dX13_look_107 rfl ⟨_, _, rfl, rfl, h⟩
                  · replace h := h.1 c67
                    refine x_aload_n dX13_look_70 rfl ?_
                    refine x_get (v := .ref (m + 20)) hG dX13_look_71 f_X13_68_12 (mo_t hM) (congrArg va_rf (mo_P27 hM)) ?_
                    refine x_iload_n dX13_look_74 rfl ?_
                    obtain ⟨o3, h⟩ := h
                    refine y_iald hG dX13_look_75 (mo_t27 hM) (mo_n27 hM) o3 ?_
                    refine x_goto (tgt := 107) dX13_look_76 (by decide) ?_
                    exact x_iret dX13_look_107 rfl ⟨_, _, rfl, rfl, h⟩
                · replace h := h.1 c53
                  refine x_aload_n dX13_look_56 rfl ?_
                  refine x_get (v := .ref (m + 19)) hG dX13_look_57 f_X13_65_12 (mo_t hM) (congrArg va_rf (mo_P26 hM)) ?_
                  refine x_iload_n dX13_look_60 rfl ?_
                  obtain ⟨o4, h⟩ := h
                  refine y_iald hG dX13_look_61 (mo_t26 hM) (mo_n26 hM) o4 ?_
                  refine x_goto (tgt := 107) dX13_look_62 (by decide) ?_
                  exact x_iret dX13_look_107 rfl ⟨_, _, rfl, rfl, h⟩
              · replace h := h.2 c46
                refine x_iconst_ (v := (-1 : Int32)) dX13_look_49 (by decide) ?_
                exact x_iret dX13_look_50 rfl ⟨_, _, rfl, rfl, h⟩
      · replace h := h.1 c20
        refine x_aload_n dX13_look_23 rfl ?_
        refine x_get (v := .int (I m 36)) hG dX13_look_24 f_X13_288_12 (mo_t hM) rfl ?_
        exact x_iret dX13_look_27 rfl ⟨_, _, rfl, rfl, h⟩
    · replace h := h.1 c10
      refine x_aload_n dX13_look_13 rfl ?_
      refine x_get (v := .int (I m 24)) hG dX13_look_14 f_X13_297_12 (mo_t hM) rfl ?_
      exact x_iret dX13_look_17 rfl ⟨_, _, rfl, rfl, h⟩
  · replace h := h.1 c4
    refine x_iconst_ (v := (-1 : Int32)) dX13_look_7 (by decide) ?_
    exact x_iret dX13_look_8 rfl ⟨_, _, rfl, rfl, h⟩
def w_X13_give (m : Nat) (n : Int32) (Q : Int32 → xII → Prop) (I : xII) : Prop := (((I m 73) = 0 → Q (-1 : Int32) I) ∧ (¬ (I m 73) = 0 → (((I m 80) = (500 : Int32) → Q (-1 : Int32) I) ∧ (¬ (I m 80) = (500 : Int32) → vp_in (I m 80) 500 ∧ (∀ I2 : xII, I2 = xup I (m + 40) (ix (I m 80)) n → (∀ I3 : xII, I3 = xup I2 m 80 ((I m 80) + (1 : Int32)) → (Q ((I m 80) + (1 : Int32)) I3)))))))
theorem m_X13_give (hG : xOK G) {dp : Nat} {A : xA} {m : Nat} (hM : xMo G A m) {n : Int32} {Q : Int32 → xII → Prop} {I : xII} (h : w_X13_give m n Q I) : MX G (dp + 0) kX13_give [.ref m, .int n] (A.wI I) (oI A Q) := by
  unfold w_X13_give at h
  refine MX.of rfl (Nat.le_of_ble_eq_true rfl) ?_
  change X _ _ _ _ _ _ [some (.ref m), some (.int n)] _
  refine x_aload_n dX13_give_0 rfl ?_
  refine x_get (v := .int (I m 73)) hG dX13_give_1 f_X13_509_12 (mo_t hM) rfl ?_
  refine x_if_eq (tgt := 17) dX13_give_4 (by decide) (fun c4 => ?_) (fun c4 => ?_)
  · replace h := h.1 c4
    refine x_iconst_ (v := (-1 : Int32)) dX13_give_17 (by decide) ?_
    exact x_iret dX13_give_18 rfl ⟨_, _, rfl, rfl, h⟩
  · replace h := h.2 c4
    refine x_aload_n dX13_give_7 rfl ?_
    refine x_get (v := .int (I m 80)) hG dX13_give_8 f_X13_515_12 (mo_t hM) rfl ?_
    refine x_sipush_ (v := (500 : Int32)) dX13_give_11 (by decide) ?_
    refine x_icmp_ne (tgt := 19) dX13_give_14 (by decide) (fun c14 => ?_) (fun c14 => ?_)
    · replace h := h.2 c14
      refine x_aload_n dX13_give_19 rfl ?_
      refine x_get (v := .ref (m + 40)) hG dX13_give_20 f_X13_129_12 (mo_t hM) (congrArg va_rf (mo_P88 hM)) ?_
      refine x_aload_n dX13_give_23 rfl ?_
      refine x_get (v := .int (I m 80)) hG dX13_give_24 f_X13_515_12 (mo_t hM) rfl ?_
      refine x_iload_n dX13_give_27 rfl ?_
      obtain ⟨o1, h⟩ := h
      refine y_iast hG dX13_give_28 (mo_t88 hM) (mo_aN hM) (mo_n88 hM) o1 (fun I2 e2 => ?_)
      replace h := h I2 e2
      refine x_aload_n dX13_give_29 rfl ?_
      refine x_dup dX13_give_30 rfl ?_
      refine x_get (v := .int (I2 m 80)) hG dX13_give_31 f_X13_515_12 (mo_t hM) rfl ?_
      refine x_eqi (v := (I m 80)) (xup_ra e2 (by omega)) ?_
      refine x_iconst_ (v := (1 : Int32)) dX13_give_34 (by decide) ?_
      refine x_iadd dX13_give_35 ?_
      refine y_put hG hM dX13_give_36 f_X13_515_12 ⟨_, rfl, Or.inl rfl⟩ rfl rfl ⟨_, rfl⟩ (fun I3 e3 => ?_)
      replace h := h I3 e3
      refine x_aload_n dX13_give_39 rfl ?_
      refine x_get (v := .int (I3 m 80)) hG dX13_give_40 f_X13_515_12 (mo_t hM) rfl ?_
      refine x_eqi (v := ((I m 80) + (1 : Int32))) (xup_rs e3) ?_
      exact x_iret dX13_give_43 rfl ⟨_, _, rfl, rfl, h⟩
    · replace h := h.1 c14
      refine x_iconst_ (v := (-1 : Int32)) dX13_give_17 (by decide) ?_
      exact x_iret dX13_give_18 rfl ⟨_, _, rfl, rfl, h⟩
def w_X13_begin (m : Nat) (n : Int32) (Q : Int32 → xII → Prop) (I : xII) : Prop := (((I m 73) = 0 → Q (0 : Int32) I) ∧ (¬ (I m 73) = 0 → ((n < (4 : Int32) → Q (0 : Int32) I) ∧ (¬ n < (4 : Int32) → ((n ≤ (2000 : Int32) → ∀ I1 : xII, I1 = xup I m 84 n → (∀ I2 : xII, I2 = xup I1 m 75 (1 : Int32) → (∀ I3 : xII, I3 = xup I2 m 85 (0 : Int32) → (∀ I4 : xII, I4 = xup I3 m 77 (0 : Int32) → (∀ I5 : xII, I5 = xup I4 m 79 (0 : Int32) → (∀ I6 : xII, I6 = xup I5 m 81 (0 : Int32) → (∀ I7 : xII, I7 = xup I6 m 82 (-1 : Int32) → (∀ I8 : xII, I8 = xup I7 m 83 (0 : Int32) → (∀ I9 : xII, I9 = xup I8 m 72 (0 : Int32) → (∃ L10 : Nat → Int32 → xII → Prop, (∃ n10 : Nat, L10 n10 (0 : Int32) I9) ∧ (∀ (n10 : Nat) (y10_2 : Int32) (I10 : xII), L10 n10 y10_2 I10 → (((I10 m 37) ≤ y10_2 → Q (1 : Int32) I10) ∧ (¬ (I10 m 37) ≤ y10_2 → vp_in y10_2 8008 ∧ (vp_in y10_2 20000 ∧ (∀ I13 : xII, I13 = xup I10 (m + 42) (ix y10_2) (I10 (m + 31) (ix y10_2)) → ((∃ q10 : Nat, q10 < n10 ∧ L10 q10 (y10_2 + (1 : Int32)) I13))))))))))))))))) ∧ (¬ n ≤ (2000 : Int32) → Q (0 : Int32) I))))))
theorem m_X13_begin (hG : xOK G) {dp : Nat} {A : xA} {m : Nat} (hM : xMo G A m) {n : Int32} {Q : Int32 → xII → Prop} {I : xII} (h : w_X13_begin m n Q I) : MX G (dp + 0) kX13_begin [.ref m, .int n] (A.wI I) (oZ A Q) := by
  unfold w_X13_begin at h
  refine MX.of rfl (Nat.le_of_ble_eq_true rfl) ?_
  change X _ _ _ _ _ _ [some (.ref m), some (.int n), none] _
  refine x_aload_n dX13_begin_0 rfl ?_
  refine x_get (v := .int (I m 73)) hG dX13_begin_1 f_X13_509_12 (mo_t hM) rfl ?_
  refine x_if_eq (tgt := 19) dX13_begin_4 (by decide) (fun c4 => ?_) (fun c4 => ?_)
  · replace h := h.1 c4
    refine x_iconst_ (v := (0 : Int32)) dX13_begin_19 (by decide) ?_
    exact x_zret dX13_begin_20 rfl (by decide) ⟨_, _, rfl, rfl, (by decide), h⟩
  · replace h := h.2 c4
    refine x_iload_n dX13_begin_7 rfl ?_
    refine x_iconst_ (v := (4 : Int32)) dX13_begin_8 (by decide) ?_
    refine x_icmp_lt (tgt := 19) dX13_begin_9 (by decide) (fun c9 => ?_) (fun c9 => ?_)
    · replace h := h.1 c9
      refine x_iconst_ (v := (0 : Int32)) dX13_begin_19 (by decide) ?_
      exact x_zret dX13_begin_20 rfl (by decide) ⟨_, _, rfl, rfl, (by decide), h⟩
    · replace h := h.2 c9
      refine x_iload_n dX13_begin_12 rfl ?_
      refine x_sipush_ (v := (2000 : Int32)) dX13_begin_13 (by decide) ?_
      refine x_icmp_le (tgt := 21) dX13_begin_16 (by decide) (fun c16 => ?_) (fun c16 => ?_)
      · replace h := h.1 c16
        refine x_aload_n dX13_begin_21 rfl ?_
        refine x_iload_n dX13_begin_22 rfl ?_
        refine y_put hG hM dX13_begin_23 f_X13_530_12 ⟨_, rfl, Or.inl rfl⟩ rfl rfl ⟨_, rfl⟩ (fun I1 e1 => ?_)
        replace h := h I1 e1
        refine x_aload_n dX13_begin_26 rfl ?_
        refine x_iconst_ (v := (1 : Int32)) dX13_begin_27 (by decide) ?_
        refine y_put hG hM dX13_begin_28 f_X13_512_12 ⟨_, rfl, Or.inl rfl⟩ rfl rfl ⟨_, rfl⟩ (fun I2 e2 => ?_)
        replace h := h I2 e2
        refine x_aload_n dX13_begin_31 rfl ?_
        refine x_iconst_ (v := (0 : Int32)) dX13_begin_32 (by decide) ?_
        refine y_put hG hM dX13_begin_33 f_X13_533_12 ⟨_, rfl, Or.inl rfl⟩ rfl rfl ⟨_, rfl⟩ (fun I3 e3 => ?_)
        replace h := h I3 e3
        refine x_aload_n dX13_begin_36 rfl ?_
        refine x_iconst_ (v := (0 : Int32)) dX13_begin_37 (by decide) ?_
        refine y_put hG hM dX13_begin_38 f_X13_536_12 ⟨_, rfl, Or.inl rfl⟩ rfl rfl ⟨_, rfl⟩ (fun I4 e4 => ?_)
        replace h := h I4 e4
        refine x_aload_n dX13_begin_41 rfl ?_
        refine x_iconst_ (v := (0 : Int32)) dX13_begin_42 (by decide) ?_
        refine y_put hG hM dX13_begin_43 f_X13_518_12 ⟨_, rfl, Or.inl rfl⟩ rfl rfl ⟨_, rfl⟩ (fun I5 e5 => ?_)
        replace h := h I5 e5
        refine x_aload_n dX13_begin_46 rfl ?_
        refine x_iconst_ (v := (0 : Int32)) dX13_begin_47 (by decide) ?_
        refine y_put hG hM dX13_begin_48 f_X13_539_12 ⟨_, rfl, Or.inl rfl⟩ rfl rfl ⟨_, rfl⟩ (fun I6 e6 => ?_)
        replace h := h I6 e6
        refine x_aload_n dX13_begin_51 rfl ?_
        refine x_iconst_ (v := (-1 : Int32)) dX13_begin_52 (by decide) ?_
        refine y_put hG hM dX13_begin_53 f_X13_541_12 ⟨_, rfl, Or.inl rfl⟩ rfl rfl ⟨_, rfl⟩ (fun I7 e7 => ?_)
        replace h := h I7 e7
        refine x_aload_n dX13_begin_56 rfl ?_
        refine x_iconst_ (v := (0 : Int32)) dX13_begin_57 (by decide) ?_
        refine y_put hG hM dX13_begin_58 f_X13_544_12 ⟨_, rfl, Or.inl rfl⟩ rfl rfl ⟨_, rfl⟩ (fun I8 e8 => ?_)
        replace h := h I8 e8
        refine x_aload_n dX13_begin_61 rfl ?_
        refine x_iconst_ (v := (0 : Int32)) dX13_begin_62 (by decide) ?_
        refine y_put hG hM dX13_begin_63 f_X13_497_12 ⟨_, rfl, Or.inl rfl⟩ rfl rfl ⟨_, rfl⟩ (fun I9 e9 => ?_)
        replace h := h I9 e9
        refine x_iconst_ (v := (0 : Int32)) dX13_begin_66 (by decide) ?_
        refine x_istore_n dX13_begin_67 (by decide) ?_
        obtain ⟨L10, ⟨n10, i10⟩, g10⟩ := h
        have kl10 : ∀ n10 : Nat, ∀ (y10_2 : Int32) (I10 : xII), L10 n10 y10_2 I10 → X G (dp + 0) kX13_begin (oZ A Q) (A.wI I10) 68 [some (.ref m), none, some (.int y10_2)] [] := by
          intro n10
          induction n10 using Nat.strongRecOn with
          | ind n10 ih10 =>
            intro y10_2 I10 h
            replace h := g10 n10 y10_2 I10 h
            refine x_iload_n dX13_begin_68 rfl ?_
            refine x_aload_n dX13_begin_69 rfl ?_
            refine x_get (v := .int (I10 m 37)) hG dX13_begin_70 f_X13_291_12 (mo_t hM) rfl ?_
            refine x_icmp_ge (tgt := 94) dX13_begin_73 (by decide) (fun c73 => ?_) (fun c73 => ?_)
            · replace h := h.1 c73
              refine x_iconst_ (v := (1 : Int32)) dX13_begin_94 (by decide) ?_
              exact x_zret dX13_begin_95 rfl (by decide) ⟨_, _, rfl, rfl, (by decide), h⟩
            · replace h := h.2 c73
              refine x_aload_n dX13_begin_76 rfl ?_
              refine x_get (v := .ref (m + 42)) hG dX13_begin_77 f_X13_135_12 (mo_t hM) (congrArg va_rf (mo_P90 hM)) ?_
              refine x_iload_n dX13_begin_80 rfl ?_
              refine x_aload_n dX13_begin_81 rfl ?_
              refine x_get (v := .ref (m + 31)) hG dX13_begin_82 f_X13_101_12 (mo_t hM) (congrArg va_rf (mo_P41 hM)) ?_
              refine x_iload_n dX13_begin_85 rfl ?_
              obtain ⟨o11, h⟩ := h
              refine y_iald hG dX13_begin_86 (mo_t41 hM) (mo_n41 hM) o11 ?_
              obtain ⟨o12, h⟩ := h
              refine y_iast hG dX13_begin_87 (mo_t90 hM) (mo_aN hM) (mo_n90 hM) o12 (fun I13 e13 => ?_)
              replace h := h I13 e13
              refine x_iinc (v := (y10_2 + (1 : Int32))) dX13_begin_88 rfl rfl (by decide) ?_
              refine x_goto (tgt := 68) dX13_begin_91 (by decide) ?_
              obtain ⟨q10, l10, h⟩ := h
              change X _ _ _ _ _ _ [some (.ref m), none, some (.int (y10_2 + (1 : Int32)))] []
              exact X.weak (xle_c rfl (xle_n (xle_c rfl xle_nil))) (ih10 q10 l10 (y10_2 + (1 : Int32)) I13 h)
        change X _ _ _ _ _ _ [some (.ref m), some (.int n), some (.int (0 : Int32))] []
        exact X.weak (xle_c rfl (xle_n (xle_c rfl xle_nil))) (kl10 n10 (0 : Int32) I9 i10)
      · replace h := h.2 c16
        refine x_iconst_ (v := (0 : Int32)) dX13_begin_19 (by decide) ?_
        exact x_zret dX13_begin_20 rfl (by decide) ⟨_, _, rfl, rfl, (by decide), h⟩
def w_X13_output (m : Nat) (i : Int32) (Q : Int32 → xII → Prop) (I : xII) : Prop := ((i < 0 → Q (0 : Int32) I) ∧ (¬ i < 0 → (((I m 79) ≤ i → Q (0 : Int32) I) ∧ (¬ (I m 79) ≤ i → ((i < (2000 : Int32) → vp_in i 2000 ∧ (Q (I (m + 41) (ix i)) I)) ∧ (¬ i < (2000 : Int32) → Q (0 : Int32) I))))))
theorem m_X13_output (hG : xOK G) {dp : Nat} {A : xA} {m : Nat} (hM : xMo G A m) {i : Int32} {Q : Int32 → xII → Prop} {I : xII} (h : w_X13_output m i Q I) : MX G (dp + 0) kX13_output [.ref m, .int i] (A.wI I) (oI A Q) := by
  unfold w_X13_output at h
  refine MX.of rfl (Nat.le_of_ble_eq_true rfl) ?_
  change X _ _ _ _ _ _ [some (.ref m), some (.int i)] _
  refine x_iload_n dX13_output_0 rfl ?_
  refine x_if_lt (tgt := 19) dX13_output_1 (by decide) (fun c1 => ?_) (fun c1 => ?_)
  · replace h := h.1 c1
    refine x_iconst_ (v := (0 : Int32)) dX13_output_19 (by decide) ?_
    refine x_goto (tgt := 29) dX13_output_20 (by decide) ?_
    exact x_iret dX13_output_29 rfl ⟨_, _, rfl, rfl, h⟩
  · replace h := h.2 c1
    refine x_iload_n dX13_output_4 rfl ?_
    refine x_aload_n dX13_output_5 rfl ?_
    refine x_get (v := .int (I m 79)) hG dX13_output_6 f_X13_518_12 (mo_t hM) rfl ?_
    refine x_icmp_ge (tgt := 19) dX13_output_9 (by decide) (fun c9 => ?_) (fun c9 => ?_)
    · replace h := h.1 c9
      refine x_iconst_ (v := (0 : Int32)) dX13_output_19 (by decide) ?_
      refine x_goto (tgt := 29) dX13_output_20 (by decide) ?_
      exact x_iret dX13_output_29 rfl ⟨_, _, rfl, rfl, h⟩
    · replace h := h.2 c9
      refine x_iload_n dX13_output_12 rfl ?_
      refine x_sipush_ (v := (2000 : Int32)) dX13_output_13 (by decide) ?_
      refine x_icmp_lt (tgt := 23) dX13_output_16 (by decide) (fun c16 => ?_) (fun c16 => ?_)
      · replace h := h.1 c16
        refine x_aload_n dX13_output_23 rfl ?_
        refine x_get (v := .ref (m + 41)) hG dX13_output_24 f_X13_132_12 (mo_t hM) (congrArg va_rf (mo_P89 hM)) ?_
        refine x_iload_n dX13_output_27 rfl ?_
        obtain ⟨o1, h⟩ := h
        refine y_iald hG dX13_output_28 (mo_t89 hM) (mo_n89 hM) o1 ?_
        exact x_iret dX13_output_29 rfl ⟨_, _, rfl, rfl, h⟩
      · replace h := h.2 c16
        refine x_iconst_ (v := (0 : Int32)) dX13_output_19 (by decide) ?_
        refine x_goto (tgt := 29) dX13_output_20 (by decide) ?_
        exact x_iret dX13_output_29 rfl ⟨_, _, rfl, rfl, h⟩
def w_X13_world (m : Nat) (w : Int32) (Q : Int32 → xII → Prop) (I : xII) : Prop := (((w = (0 : Int32)) → Q (I m 75) I) ∧ ((w = (1 : Int32)) → Q (if (I m 75) = 0 then (0 : Int32) else (I m 77)) I) ∧ ((w = (2 : Int32)) → Q (I m 79) I) ∧ ((w = (3 : Int32)) → Q (I m 80) I) ∧ ((w = (4 : Int32)) → Q (if (I m 75) = (3 : Int32) then (I m 81) else (if (I m 75) = (4 : Int32) then (I m 81) else (0 : Int32))) I) ∧ ((w = (5 : Int32)) → Q (if (I m 75) = (5 : Int32) then (I m 82) else (if (I m 75) = (6 : Int32) then (I m 82) else (-1 : Int32))) I) ∧ ((w = (6 : Int32)) → Q (if (I m 75) = 0 then (0 : Int32) else (I m 83)) I) ∧ ((w = (7 : Int32)) → Q (if (I m 75) = 0 then (0 : Int32) else (I m 84)) I) ∧ ((¬ w = (0 : Int32) ∧ ¬ w = (1 : Int32) ∧ ¬ w = (2 : Int32) ∧ ¬ w = (3 : Int32) ∧ ¬ w = (4 : Int32) ∧ ¬ w = (5 : Int32) ∧ ¬ w = (6 : Int32) ∧ ¬ w = (7 : Int32)) → Q (-1 : Int32) I))
theorem m_X13_world (hG : xOK G) {dp : Nat} {A : xA} {m : Nat} (hM : xMo G A m) {w : Int32} {Q : Int32 → xII → Prop} {I : xII} (h : w_X13_world m w Q I) : MX G (dp + 0) kX13_world [.ref m, .int w] (A.wI I) (oI A Q) := by
  unfold w_X13_world at h
  refine MX.of rfl (Nat.le_of_ble_eq_true rfl) ?_
  change X _ _ _ _ _ _ [some (.ref m), some (.int w)] _
  refine x_iload_n dX13_world_0 rfl ?_
  have kt1_0 : (w = (0 : Int32)) → X G (dp + 0) kX13_world (oI A Q) (A.wI I) 48 [some (.ref m), some (.int w)] [] := by
    intro c1
    replace h := h.1 c1
    refine x_aload_n dX13_world_48 rfl ?_
    refine x_get (v := .int (I m 75)) hG dX13_world_49 f_X13_512_12 (mo_t hM) rfl ?_
    exact x_iret dX13_world_52 rfl ⟨_, _, rfl, rfl, h⟩
  have kt1_1 : (w = (1 : Int32)) → X G (dp + 0) kX13_world (oI A Q) (A.wI I) 53 [some (.ref m), some (.int w)] [] := by
    intro c1
    replace h := h.2.1 c1
    refine x_aload_n dX13_world_53 rfl ?_
    refine x_get (v := .int (I m 75)) hG dX13_world_54 f_X13_512_12 (mo_t hM) rfl ?_
    refine x_via 68 (A' := (A.wI I)) (lv' := [none, none]) (st' := [.int (if (I m 75) = 0 then (0 : Int32) else (I m 77))]) ?_ (fun k68 => ?_)
    rotate_left
    · refine x_if_ne (tgt := 64) dX13_world_57 (by decide) (fun c57 => ?_) (fun c57 => ?_)
      · refine x_aload_n dX13_world_64 rfl ?_
        refine x_get (v := .int (I m 77)) hG dX13_world_65 f_X13_536_12 (mo_t hM) rfl ?_
        change X _ _ _ _ _ _ [some (.ref m), some (.int w)] [.int (I m 77)]
        simp only [if_neg c57] at k68 ⊢
        exact X.weak (xle_n (xle_n xle_nil)) k68
      · refine x_iconst_ (v := (0 : Int32)) dX13_world_60 (by decide) ?_
        refine x_goto (tgt := 68) dX13_world_61 (by decide) ?_
        change X _ _ _ _ _ _ [some (.ref m), some (.int w)] [.int (0 : Int32)]
        simp only [if_pos c57] at k68 ⊢
        exact X.weak (xle_n (xle_n xle_nil)) k68
    exact x_iret dX13_world_68 rfl ⟨_, _, rfl, rfl, h⟩
  have kt1_2 : (w = (2 : Int32)) → X G (dp + 0) kX13_world (oI A Q) (A.wI I) 69 [some (.ref m), some (.int w)] [] := by
    intro c1
    replace h := h.2.2.1 c1
    refine x_aload_n dX13_world_69 rfl ?_
    refine x_get (v := .int (I m 79)) hG dX13_world_70 f_X13_518_12 (mo_t hM) rfl ?_
    exact x_iret dX13_world_73 rfl ⟨_, _, rfl, rfl, h⟩
  have kt1_3 : (w = (3 : Int32)) → X G (dp + 0) kX13_world (oI A Q) (A.wI I) 74 [some (.ref m), some (.int w)] [] := by
    intro c1
    replace h := h.2.2.2.1 c1
    refine x_aload_n dX13_world_74 rfl ?_
    refine x_get (v := .int (I m 80)) hG dX13_world_75 f_X13_515_12 (mo_t hM) rfl ?_
    exact x_iret dX13_world_78 rfl ⟨_, _, rfl, rfl, h⟩
  have kt1_4 : (w = (4 : Int32)) → X G (dp + 0) kX13_world (oI A Q) (A.wI I) 79 [some (.ref m), some (.int w)] [] := by
    intro c1
    replace h := h.2.2.2.2.1 c1
    refine x_aload_n dX13_world_79 rfl ?_
    refine x_get (v := .int (I m 75)) hG dX13_world_80 f_X13_512_12 (mo_t hM) rfl ?_
    refine x_iconst_ (v := (3 : Int32)) dX13_world_83 (by decide) ?_
    refine x_via 103 (A' := (A.wI I)) (lv' := [none, none]) (st' := [.int (if (I m 75) = (3 : Int32) then (I m 81) else (if (I m 75) = (4 : Int32) then (I m 81) else (0 : Int32)))]) ?_ (fun k103 => ?_)
    rotate_left
    · refine x_icmp_eq (tgt := 95) dX13_world_84 (by decide) (fun c84 => ?_) (fun c84 => ?_)
      · refine x_aload_n dX13_world_95 rfl ?_
        refine x_get (v := .int (I m 81)) hG dX13_world_96 f_X13_539_12 (mo_t hM) rfl ?_
        refine x_goto (tgt := 103) dX13_world_99 (by decide) ?_
        change X _ _ _ _ _ _ [some (.ref m), some (.int w)] [.int (I m 81)]
        simp only [if_pos c84] at k103 ⊢
        exact X.weak (xle_n (xle_n xle_nil)) k103
      · refine x_aload_n dX13_world_87 rfl ?_
        refine x_get (v := .int (I m 75)) hG dX13_world_88 f_X13_512_12 (mo_t hM) rfl ?_
        refine x_iconst_ (v := (4 : Int32)) dX13_world_91 (by decide) ?_
        refine x_icmp_ne (tgt := 102) dX13_world_92 (by decide) (fun c92 => ?_) (fun c92 => ?_)
        · refine x_iconst_ (v := (0 : Int32)) dX13_world_102 (by decide) ?_
          change X _ _ _ _ _ _ [some (.ref m), some (.int w)] [.int (0 : Int32)]
          try simp only [if_neg c84] at c92 k103 ⊢
          try simp only [if_neg c92] at k103 ⊢
          exact X.weak (xle_n (xle_n xle_nil)) k103
        · refine x_aload_n dX13_world_95 rfl ?_
          refine x_get (v := .int (I m 81)) hG dX13_world_96 f_X13_539_12 (mo_t hM) rfl ?_
          refine x_goto (tgt := 103) dX13_world_99 (by decide) ?_
          change X _ _ _ _ _ _ [some (.ref m), some (.int w)] [.int (I m 81)]
          try simp only [if_neg c84] at c92 k103 ⊢
          try simp only [if_pos c92] at k103 ⊢
          exact X.weak (xle_n (xle_n xle_nil)) k103
    exact x_iret dX13_world_103 rfl ⟨_, _, rfl, rfl, h⟩
  have kt1_5 : (w = (5 : Int32)) → X G (dp + 0) kX13_world (oI A Q) (A.wI I) 104 [some (.ref m), some (.int w)] [] := by
    intro c1
    replace h := h.2.2.2.2.2.1 c1
    refine x_aload_n dX13_world_104 rfl ?_
    refine x_get (v := .int (I m 75)) hG dX13_world_105 f_X13_512_12 (mo_t hM) rfl ?_
    refine x_iconst_ (v := (5 : Int32)) dX13_world_108 (by decide) ?_
    refine x_via 129 (A' := (A.wI I)) (lv' := [none, none]) (st' := [.int (if (I m 75) = (5 : Int32) then (I m 82) else (if (I m 75) = (6 : Int32) then (I m 82) else (-1 : Int32)))]) ?_ (fun k129 => ?_)
    rotate_left
    · refine x_icmp_eq (tgt := 121) dX13_world_109 (by decide) (fun c109 => ?_) (fun c109 => ?_)
      · refine x_aload_n dX13_world_121 rfl ?_
        refine x_get (v := .int (I m 82)) hG dX13_world_122 f_X13_541_12 (mo_t hM) rfl ?_
        refine x_goto (tgt := 129) dX13_world_125 (by decide) ?_
        change X _ _ _ _ _ _ [some (.ref m), some (.int w)] [.int (I m 82)]
        simp only [if_pos c109] at k129 ⊢
        exact X.weak (xle_n (xle_n xle_nil)) k129
      · refine x_aload_n dX13_world_112 rfl ?_
        refine x_get (v := .int (I m 75)) hG dX13_world_113 f_X13_512_12 (mo_t hM) rfl ?_
        refine x_bipush_ (v := (6 : Int32)) dX13_world_116 (by decide) ?_
        refine x_icmp_ne (tgt := 128) dX13_world_118 (by decide) (fun c118 => ?_) (fun c118 => ?_)
        · refine x_iconst_ (v := (-1 : Int32)) dX13_world_128 (by decide) ?_
          change X _ _ _ _ _ _ [some (.ref m), some (.int w)] [.int (-1 : Int32)]
          try simp only [if_neg c109] at c118 k129 ⊢
          try simp only [if_neg c118] at k129 ⊢
          exact X.weak (xle_n (xle_n xle_nil)) k129
        · refine x_aload_n dX13_world_121 rfl ?_
          refine x_get (v := .int (I m 82)) hG dX13_world_122 f_X13_541_12 (mo_t hM) rfl ?_
          refine x_goto (tgt := 129) dX13_world_125 (by decide) ?_
          change X _ _ _ _ _ _ [some (.ref m), some (.int w)] [.int (I m 82)]
          try simp only [if_neg c109] at c118 k129 ⊢
          try simp only [if_pos c118] at k129 ⊢
          exact X.weak (xle_n (xle_n xle_nil)) k129
    exact x_iret dX13_world_129 rfl ⟨_, _, rfl, rfl, h⟩
  have kt1_6 : (w = (6 : Int32)) → X G (dp + 0) kX13_world (oI A Q) (A.wI I) 130 [some (.ref m), some (.int w)] [] := by
    intro c1
    replace h := h.2.2.2.2.2.2.1 c1
    refine x_aload_n dX13_world_130 rfl ?_
    refine x_get (v := .int (I m 75)) hG dX13_world_131 f_X13_512_12 (mo_t hM) rfl ?_
    refine x_via 145 (A' := (A.wI I)) (lv' := [none, none]) (st' := [.int (if (I m 75) = 0 then (0 : Int32) else (I m 83))]) ?_ (fun k145 => ?_)
    rotate_left
    · refine x_if_ne (tgt := 141) dX13_world_134 (by decide) (fun c134 => ?_) (fun c134 => ?_)
      · refine x_aload_n dX13_world_141 rfl ?_
        refine x_get (v := .int (I m 83)) hG dX13_world_142 f_X13_544_12 (mo_t hM) rfl ?_
        change X _ _ _ _ _ _ [some (.ref m), some (.int w)] [.int (I m 83)]
        simp only [if_neg c134] at k145 ⊢
        exact X.weak (xle_n (xle_n xle_nil)) k145
      · refine x_iconst_ (v := (0 : Int32)) dX13_world_137 (by decide) ?_
        refine x_goto (tgt := 145) dX13_world_138 (by decide) ?_
        change X _ _ _ _ _ _ [some (.ref m), some (.int w)] [.int (0 : Int32)]
        simp only [if_pos c134] at k145 ⊢
        exact X.weak (xle_n (xle_n xle_nil)) k145
    exact x_iret dX13_world_145 rfl ⟨_, _, rfl, rfl, h⟩
  have kt1_7 : (w = (7 : Int32)) → X G (dp + 0) kX13_world (oI A Q) (A.wI I) 146 [some (.ref m), some (.int w)] [] := by
    intro c1
    replace h := h.2.2.2.2.2.2.2.1 c1
    refine x_aload_n dX13_world_146 rfl ?_
    refine x_get (v := .int (I m 75)) hG dX13_world_147 f_X13_512_12 (mo_t hM) rfl ?_
    refine x_via 161 (A' := (A.wI I)) (lv' := [none, none]) (st' := [.int (if (I m 75) = 0 then (0 : Int32) else (I m 84))]) ?_ (fun k161 => ?_)
    rotate_left
    · refine x_if_ne (tgt := 157) dX13_world_150 (by decide) (fun c150 => ?_) (fun c150 => ?_)
      · refine x_aload_n dX13_world_157 rfl ?_
        refine x_get (v := .int (I m 84)) hG dX13_world_158 f_X13_530_12 (mo_t hM) rfl ?_
        change X _ _ _ _ _ _ [some (.ref m), some (.int w)] [.int (I m 84)]
        simp only [if_neg c150] at k161 ⊢
        exact X.weak (xle_n (xle_n xle_nil)) k161
      · refine x_iconst_ (v := (0 : Int32)) dX13_world_153 (by decide) ?_
        refine x_goto (tgt := 161) dX13_world_154 (by decide) ?_
        change X _ _ _ _ _ _ [some (.ref m), some (.int w)] [.int (0 : Int32)]
        simp only [if_pos c150] at k161 ⊢
        exact X.weak (xle_n (xle_n xle_nil)) k161
    exact x_iret dX13_world_161 rfl ⟨_, _, rfl, rfl, h⟩
  have kd1 : (¬ w = (0 : Int32) ∧ ¬ w = (1 : Int32) ∧ ¬ w = (2 : Int32) ∧ ¬ w = (3 : Int32) ∧ ¬ w = (4 : Int32) ∧ ¬ w = (5 : Int32) ∧ ¬ w = (6 : Int32) ∧ ¬ w = (7 : Int32)) → X G (dp + 0) kX13_world (oI A Q) (A.wI I) 162 [some (.ref m), some (.int w)] [] := by
    intro c1
    replace h := h.2.2.2.2.2.2.2.2 c1
    refine x_iconst_ (v := (-1 : Int32)) dX13_world_162 (by decide) ?_
    exact x_iret dX13_world_163 rfl ⟨_, _, rfl, rfl, h⟩
  refine x_sw (0 : Int32) (fun s1_0 => ?_) (fun s1_0 => ?_)
  · refine x_tableIn (off := 47) (tgt := 48) dX13_world_1 (by rw [s1_0]; decide) (by rw [s1_0]; decide) (by rw [s1_0]; rfl) (by decide) ?_
    exact kt1_0 s1_0
  refine x_sw (1 : Int32) (fun s1_1 => ?_) (fun s1_1 => ?_)
  · refine x_tableIn (off := 52) (tgt := 53) dX13_world_1 (by rw [s1_1]; decide) (by rw [s1_1]; decide) (by rw [s1_1]; rfl) (by decide) ?_
    exact kt1_1 s1_1
  refine x_sw (2 : Int32) (fun s1_2 => ?_) (fun s1_2 => ?_)
  · refine x_tableIn (off := 68) (tgt := 69) dX13_world_1 (by rw [s1_2]; decide) (by rw [s1_2]; decide) (by rw [s1_2]; rfl) (by decide) ?_
    exact kt1_2 s1_2
  refine x_sw (3 : Int32) (fun s1_3 => ?_) (fun s1_3 => ?_)
  · refine x_tableIn (off := 73) (tgt := 74) dX13_world_1 (by rw [s1_3]; decide) (by rw [s1_3]; decide) (by rw [s1_3]; rfl) (by decide) ?_
    exact kt1_3 s1_3
  refine x_sw (4 : Int32) (fun s1_4 => ?_) (fun s1_4 => ?_)
  · refine x_tableIn (off := 78) (tgt := 79) dX13_world_1 (by rw [s1_4]; decide) (by rw [s1_4]; decide) (by rw [s1_4]; rfl) (by decide) ?_
    exact kt1_4 s1_4
  refine x_sw (5 : Int32) (fun s1_5 => ?_) (fun s1_5 => ?_)
  · refine x_tableIn (off := 103) (tgt := 104) dX13_world_1 (by rw [s1_5]; decide) (by rw [s1_5]; decide) (by rw [s1_5]; rfl) (by decide) ?_
    exact kt1_5 s1_5
  refine x_sw (6 : Int32) (fun s1_6 => ?_) (fun s1_6 => ?_)
  · refine x_tableIn (off := 129) (tgt := 130) dX13_world_1 (by rw [s1_6]; decide) (by rw [s1_6]; decide) (by rw [s1_6]; rfl) (by decide) ?_
    exact kt1_6 s1_6
  refine x_sw (7 : Int32) (fun s1_7 => ?_) (fun s1_7 => ?_)
  · refine x_tableIn (off := 145) (tgt := 146) dX13_world_1 (by rw [s1_7]; decide) (by rw [s1_7]; decide) (by rw [s1_7]; rfl) (by decide) ?_
    exact kt1_7 s1_7
  have t1_0 := lv_neT s1_0 (a := 0) (by decide)
  have t1_1 := lv_neT s1_1 (a := 1) (by decide)
  have t1_2 := lv_neT s1_2 (a := 2) (by decide)
  have t1_3 := lv_neT s1_3 (a := 3) (by decide)
  have t1_4 := lv_neT s1_4 (a := 4) (by decide)
  have t1_5 := lv_neT s1_5 (a := 5) (by decide)
  have t1_6 := lv_neT s1_6 (a := 6) (by decide)
  have t1_7 := lv_neT s1_7 (a := 7) (by decide)
  refine x_tableOut (tgt := 162) dX13_world_1 (by omega) (by decide) ?_
  exact kd1 ⟨s1_0, s1_1, s1_2, s1_3, s1_4, s1_5, s1_6, s1_7⟩
def w_X13_global (m : Nat) (i : Int32) (Q : Int32 → xII → Prop) (I : xII) : Prop := (((I m 73) = 0 → Q (0 : Int32) I) ∧ (¬ (I m 73) = 0 → ((i < 0 → Q (0 : Int32) I) ∧ (¬ i < 0 → ((i < (I m 36) → vp_in i 2001 ∧ (∃ L2 : Nat → Int32 → Int32 → Prop, (∃ n2 : Nat, L2 n2 (0 : Int32) ((I (m + 28) (ix i)) - (1 : Int32))) ∧ (∀ (n2 : Nat) (y2_2 : Int32) (y2_3 : Int32), L2 n2 y2_2 y2_3 → ((y2_3 < 0 → Q y2_2 I) ∧ (¬ y2_3 < 0 → ∃ J3 : Int32 → Prop, (∀ (y3_s0 : Int32), J3 y3_s0 → (∃ q2 : Nat, q2 < n2 ∧ L2 q2 (if (I (m + 30) (ix i)) = 0 then y3_s0 else ((jishl y2_2 (8 : Int32)) ||| (y3_s0 &&& (255 : Int32)))) (y2_3 + (-1 : Int32)))) ∧ (((I m 75) = 0 → vp_in ((I (m + 29) (ix i)) + y2_3) 8008 ∧ (J3 (I (m + 31) (ix ((I (m + 29) (ix i)) + y2_3))))) ∧ (¬ (I m 75) = 0 → vp_in ((I (m + 29) (ix i)) + y2_3) 20000 ∧ (J3 (I (m + 42) (ix ((I (m + 29) (ix i)) + y2_3))))))))))) ∧ (¬ i < (I m 36) → Q (0 : Int32) I))))))
theorem m_X13_global (hG : xOK G) {dp : Nat} {A : xA} {m : Nat} (hM : xMo G A m) {i : Int32} {Q : Int32 → xII → Prop} {I : xII} (h : w_X13_global m i Q I) : MX G (dp + 0) kX13_global [.ref m, .int i] (A.wI I) (oI A Q) := by
  unfold w_X13_global at h
  refine MX.of rfl (Nat.le_of_ble_eq_true rfl) ?_
  change X _ _ _ _ _ _ [some (.ref m), some (.int i), none, none, none] _
  refine x_aload_n dX13_global_0 rfl ?_
  refine x_get (v := .int (I m 73)) hG dX13_global_1 f_X13_509_12 (mo_t hM) rfl ?_
  refine x_if_eq (tgt := 19) dX13_global_4 (by decide) (fun c4 => ?_) (fun c4 => ?_)
  · replace h := h.1 c4
    refine x_iconst_ (v := (0 : Int32)) dX13_global_19 (by decide) ?_
    exact x_iret dX13_global_20 rfl ⟨_, _, rfl, rfl, h⟩
  · replace h := h.2 c4
    refine x_iload_n dX13_global_7 rfl ?_
    refine x_if_lt (tgt := 19) dX13_global_8 (by decide) (fun c8 => ?_) (fun c8 => ?_)
    · replace h := h.1 c8
      refine x_iconst_ (v := (0 : Int32)) dX13_global_19 (by decide) ?_
      exact x_iret dX13_global_20 rfl ⟨_, _, rfl, rfl, h⟩
    · replace h := h.2 c8
      refine x_iload_n dX13_global_11 rfl ?_
      refine x_aload_n dX13_global_12 rfl ?_
      refine x_get (v := .int (I m 36)) hG dX13_global_13 f_X13_288_12 (mo_t hM) rfl ?_
      refine x_icmp_lt (tgt := 21) dX13_global_16 (by decide) (fun c16 => ?_) (fun c16 => ?_)
      · replace h := h.1 c16
        refine x_iconst_ (v := (0 : Int32)) dX13_global_21 (by decide) ?_
        refine x_istore_n dX13_global_22 (by decide) ?_
        refine x_aload_n dX13_global_23 rfl ?_
        refine x_get (v := .ref (m + 28)) hG dX13_global_24 f_X13_92_12 (mo_t hM) (congrArg va_rf (mo_P38 hM)) ?_
        refine x_iload_n dX13_global_27 rfl ?_
        obtain ⟨o1, h⟩ := h
        refine y_iald hG dX13_global_28 (mo_t38 hM) (mo_n38 hM) o1 ?_
        refine x_iconst_ (v := (1 : Int32)) dX13_global_29 (by decide) ?_
        refine x_isub dX13_global_30 ?_
        refine x_istore_n dX13_global_31 (by decide) ?_
        obtain ⟨L2, ⟨n2, i2⟩, g2⟩ := h
        have kl2 : ∀ n2 : Nat, ∀ (y2_2 : Int32) (y2_3 : Int32), L2 n2 y2_2 y2_3 → X G (dp + 0) kX13_global (oI A Q) (A.wI I) 32 [some (.ref m), some (.int i), some (.int y2_2), some (.int y2_3), none] [] := by
          intro n2
          induction n2 using Nat.strongRecOn with
          | ind n2 ih2 =>
            intro y2_2 y2_3 h
            replace h := g2 n2 y2_2 y2_3 h
            refine x_iload_n dX13_global_32 rfl ?_
            refine x_if_lt (tgt := 106) dX13_global_33 (by decide) (fun c33 => ?_) (fun c33 => ?_)
            · replace h := h.1 c33
              refine x_iload_n dX13_global_106 rfl ?_
              exact x_iret dX13_global_107 rfl ⟨_, _, rfl, rfl, h⟩
            · replace h := h.2 c33
              refine x_aload_n dX13_global_36 rfl ?_
              refine x_get (v := .int (I m 75)) hG dX13_global_37 f_X13_512_12 (mo_t hM) rfl ?_
              obtain ⟨J3, g3, h⟩ := h
              have kj3 : ∀ (y3_s0 : Int32), J3 y3_s0 → X G (dp + 0) kX13_global (oI A Q) (A.wI I) 72 [some (.ref m), some (.int i), some (.int y2_2), some (.int y2_3), none] [.int y3_s0] := by
                intro y3_s0 h
                replace h := g3 y3_s0 h
                refine x_istore dX13_global_72 (by decide) ?_
                refine x_aload_n dX13_global_74 rfl ?_
                refine x_get (v := .ref (m + 30)) hG dX13_global_75 f_X13_98_12 (mo_t hM) (congrArg va_rf (mo_P40 hM)) ?_
                refine x_iload_n dX13_global_78 rfl ?_
                refine y_zald hG dX13_global_79 (mo_t40 hM) (mo_n40 hM) o1 ?_
                refine x_via 99 (A' := (A.wI I)) (lv' := [some (.ref m), some (.int i), none, some (.int y2_3), none]) (st' := [.int (if (I (m + 30) (ix i)) = 0 then y3_s0 else ((jishl y2_2 (8 : Int32)) ||| (y3_s0 &&& (255 : Int32))))]) ?_ (fun k99 => ?_)
                rotate_left
                · refine x_if_eq (tgt := 97) dX13_global_80 (by decide) (fun c80 => ?_) (fun c80 => ?_)
                  · refine x_iload dX13_global_97 rfl ?_
                    change X _ _ _ _ _ _ [some (.ref m), some (.int i), some (.int y2_2), some (.int y2_3), some (.int y3_s0)] [.int y3_s0]
                    simp only [if_pos c80] at k99 ⊢
                    exact X.weak (xle_c rfl (xle_c rfl (xle_n (xle_c rfl (xle_n xle_nil))))) k99
                  · refine x_iload_n dX13_global_83 rfl ?_
                    refine x_bipush_ (v := (8 : Int32)) dX13_global_84 (by decide) ?_
                    refine x_ishl dX13_global_86 ?_
                    refine x_eqi (v := (jishl y2_2 (8 : Int32))) rfl ?_
                    refine x_iload dX13_global_87 rfl ?_
                    refine x_sipush_ (v := (255 : Int32)) dX13_global_89 (by decide) ?_
                    refine x_iand dX13_global_92 ?_
                    refine x_ior dX13_global_93 ?_
                    refine x_goto (tgt := 99) dX13_global_94 (by decide) ?_
                    change X _ _ _ _ _ _ [some (.ref m), some (.int i), some (.int y2_2), some (.int y2_3), some (.int y3_s0)] [.int ((jishl y2_2 (8 : Int32)) ||| (y3_s0 &&& (255 : Int32)))]
                    simp only [if_neg c80] at k99 ⊢
                    exact X.weak (xle_c rfl (xle_c rfl (xle_n (xle_c rfl (xle_n xle_nil))))) k99
                refine x_istore_n dX13_global_99 (by decide) ?_
                refine x_iinc (v := (y2_3 + (-1 : Int32))) dX13_global_100 rfl rfl (by decide) ?_
                refine x_goto (tgt := 32) dX13_global_103 (by decide) ?_
                obtain ⟨q2, l2, h⟩ := h
                change X _ _ _ _ _ _ [some (.ref m), some (.int i), some (.int (if (I (m + 30) (ix i)) = 0 then y3_s0 else ((jishl y2_2 (8 : Int32)) ||| (y3_s0 &&& (255 : Int32))))), some (.int (y2_3 + (-1 : Int32))), none] []
                exact X.weak (xle_c rfl (xle_c rfl (xle_c rfl (xle_c rfl (xle_n xle_nil))))) (ih2 q2 l2 (if (I (m + 30) (ix i)) = 0 then y3_s0 else ((jishl y2_2 (8 : Int32)) ||| (y3_s0 &&& (255 : Int32)))) (y2_3 + (-1 : Int32)) h)
              refine x_if_ne (tgt := 59) dX13_global_40 (by decide) (fun c40 => ?_) (fun c40 => ?_)
              · replace h := h.2 c40
                refine x_aload_n dX13_global_59 rfl ?_
                refine x_get (v := .ref (m + 42)) hG dX13_global_60 f_X13_135_12 (mo_t hM) (congrArg va_rf (mo_P90 hM)) ?_
                refine x_aload_n dX13_global_63 rfl ?_
                refine x_get (v := .ref (m + 29)) hG dX13_global_64 f_X13_95_12 (mo_t hM) (congrArg va_rf (mo_P39 hM)) ?_
                refine x_iload_n dX13_global_67 rfl ?_
                refine y_iald hG dX13_global_68 (mo_t39 hM) (mo_n39 hM) o1 ?_
                refine x_iload_n dX13_global_69 rfl ?_
                refine x_iadd dX13_global_70 ?_
                obtain ⟨o4, h⟩ := h
                refine y_iald hG dX13_global_71 (mo_t90 hM) (mo_n90 hM) o4 ?_
                change X _ _ _ _ _ _ [some (.ref m), some (.int i), some (.int y2_2), some (.int y2_3), none] [.int (I (m + 42) (ix ((I (m + 29) (ix i)) + y2_3)))]
                exact X.weak (xle_c rfl (xle_c rfl (xle_c rfl (xle_c rfl (xle_n xle_nil))))) (kj3 (I (m + 42) (ix ((I (m + 29) (ix i)) + y2_3))) h)
              · replace h := h.1 c40
                refine x_aload_n dX13_global_43 rfl ?_
                refine x_get (v := .ref (m + 31)) hG dX13_global_44 f_X13_101_12 (mo_t hM) (congrArg va_rf (mo_P41 hM)) ?_
                refine x_aload_n dX13_global_47 rfl ?_
                refine x_get (v := .ref (m + 29)) hG dX13_global_48 f_X13_95_12 (mo_t hM) (congrArg va_rf (mo_P39 hM)) ?_
                refine x_iload_n dX13_global_51 rfl ?_
                refine y_iald hG dX13_global_52 (mo_t39 hM) (mo_n39 hM) o1 ?_
                refine x_iload_n dX13_global_53 rfl ?_
                refine x_iadd dX13_global_54 ?_
                obtain ⟨o5, h⟩ := h
                refine y_iald hG dX13_global_55 (mo_t41 hM) (mo_n41 hM) o5 ?_
                refine x_goto (tgt := 72) dX13_global_56 (by decide) ?_
                change X _ _ _ _ _ _ [some (.ref m), some (.int i), some (.int y2_2), some (.int y2_3), none] [.int (I (m + 31) (ix ((I (m + 29) (ix i)) + y2_3)))]
                exact X.weak (xle_c rfl (xle_c rfl (xle_c rfl (xle_c rfl (xle_n xle_nil))))) (kj3 (I (m + 31) (ix ((I (m + 29) (ix i)) + y2_3))) h)
        change X _ _ _ _ _ _ [some (.ref m), some (.int i), some (.int (0 : Int32)), some (.int ((I (m + 28) (ix i)) - (1 : Int32))), none] []
        exact X.weak (xle_c rfl (xle_c rfl (xle_c rfl (xle_c rfl (xle_n xle_nil))))) (kl2 n2 (0 : Int32) ((I (m + 28) (ix i)) - (1 : Int32)) i2)
      · replace h := h.2 c16
        refine x_iconst_ (v := (0 : Int32)) dX13_global_19 (by decide) ?_
        exact x_iret dX13_global_20 rfl ⟨_, _, rfl, rfl, h⟩
end W033
