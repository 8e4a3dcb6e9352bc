/-! ===== 031.mbase (tools/w030.py) ===== -/
set_option maxRecDepth 100000
section W031
variable {G : xG}
def w_X13_at (m : Nat) (k : Int32) (Q : Int32 → xII → Prop) (I : xII) : Prop := (((I m 3) ≤ k → Q (0 : Int32) I) ∧ (¬ (I m 3) ≤ k → vp_in k 4000 ∧ (Q (I (m + 2) (ix k)) I)))
theorem m_X13_at (hG : xOK G) {dp : Nat} {A : xA} {m : Nat} (hM : xMo G A m) {k : Int32} {Q : Int32 → xII → Prop} {I : xII} (h : w_X13_at m k Q I) : MX G (dp + 0) kX13_at [.ref m, .int k] (A.wI I) (oI A Q) := by
  unfold w_X13_at at h
  refine MX.of rfl (Nat.le_of_ble_eq_true rfl) ?_
  change X _ _ _ _ _ _ [some (.ref m), some (.int k)] _
  refine x_iload_n dX13_at_0 rfl ?_
  refine x_aload_n dX13_at_1 rfl ?_
  refine x_get (v := .int (I m 3)) hG dX13_at_2 f_X13_157_12 (mo_t hM) rfl ?_
  refine x_icmp_ge (tgt := 17) dX13_at_5 (by decide) (fun c5 => ?_) (fun c5 => ?_)
  · replace h := h.1 c5
    refine x_iconst_ (v := (0 : Int32)) dX13_at_17 (by decide) ?_
    exact x_iret dX13_at_18 rfl ⟨_, _, rfl, rfl, h⟩
  · replace h := h.2 c5
    refine x_aload_n dX13_at_8 rfl ?_
    refine x_get (v := .ref (m + 2)) hG dX13_at_9 f_X13_13_12 (mo_t hM) (congrArg va_rf (mo_P1 hM)) ?_
    refine x_iload_n dX13_at_12 rfl ?_
    obtain ⟨o1, h⟩ := h
    refine y_iald hG dX13_at_13 (mo_t1 hM) (mo_n1 hM) o1 ?_
    refine x_goto (tgt := 18) dX13_at_14 (by decide) ?_
    exact x_iret dX13_at_18 rfl ⟨_, _, rfl, rfl, h⟩
def w_X13_feed (m : Nat) (a : Int32) (b : Int32) (c : Int32) (d : Int32) (e : Int32) (Q : Int32 → xII → Prop) (I : xII) : Prop := ((((I m 2) + (20 : Int32)) ≤ (4000 : Int32) → ∃ L1 : Nat → Int32 → xII → Prop, (∃ n1 : Nat, L1 n1 (0 : Int32) I) ∧ (∀ (n1 : Nat) (y1_6 : Int32) (I1 : xII), L1 n1 y1_6 I1 → (((20 : Int32) ≤ y1_6 → ∀ I2 : xII, I2 = xup I1 m 2 ((I1 m 2) + (20 : Int32)) → (Q ((I1 m 2) + (20 : Int32)) I2)) ∧ (¬ (20 : Int32) ≤ y1_6 → vp_in ((I1 m 2) + y1_6) 4000 ∧ (∀ I4 : xII, I4 = xup I1 (m + 1) (ix ((I1 m 2) + y1_6)) ((jishr (if (4 : Int32) ≤ y1_6 then (if (8 : Int32) ≤ y1_6 then (if (12 : Int32) ≤ y1_6 then (if (16 : Int32) ≤ y1_6 then e else d) else c) else b) else a) ((24 : Int32) - ((8 : Int32) * (irem_ y1_6 (4 : Int32))))) &&& (255 : Int32)) → ((∃ q1 : Nat, q1 < n1 ∧ L1 q1 (y1_6 + (1 : Int32)) I4))))))) ∧ (¬ ((I m 2) + (20 : Int32)) ≤ (4000 : Int32) → Q (-1 : Int32) I))
theorem m_X13_feed (hG : xOK G) {dp : Nat} {A : xA} {m : Nat} (hM : xMo G A m) {a : Int32} {b : Int32} {c : Int32} {d : Int32} {e : Int32} {Q : Int32 → xII → Prop} {I : xII} (h : w_X13_feed m a b c d e Q I) : MX G (dp + 0) kX13_feed [.ref m, .int a, .int b, .int c, .int d, .int e] (A.wI I) (oI A Q) := by
  unfold w_X13_feed at h
  refine MX.of rfl (Nat.le_of_ble_eq_true rfl) ?_
  change X _ _ _ _ _ _ [some (.ref m), some (.int a), some (.int b), some (.int c), some (.int d), some (.int e), none, none] _
  refine x_aload_n dX13_feed_0 rfl ?_
  refine x_get (v := .int (I m 2)) hG dX13_feed_1 f_X13_153_12 (mo_t hM) rfl ?_
  refine x_bipush_ (v := (20 : Int32)) dX13_feed_4 (by decide) ?_
  refine x_iadd dX13_feed_6 ?_
  refine x_sipush_ (v := (4000 : Int32)) dX13_feed_7 (by decide) ?_
  refine x_icmp_le (tgt := 15) dX13_feed_10 (by decide) (fun c10 => ?_) (fun c10 => ?_)
  · replace h := h.1 c10
    refine x_iconst_ (v := (0 : Int32)) dX13_feed_15 (by decide) ?_
    refine x_istore dX13_feed_16 (by decide) ?_
    obtain ⟨L1, ⟨n1, i1⟩, g1⟩ := h
    have kl1 : ∀ n1 : Nat, ∀ (y1_6 : Int32) (I1 : xII), L1 n1 y1_6 I1 → X G (dp + 0) kX13_feed (oI A Q) (A.wI I1) 18 [some (.ref m), some (.int a), some (.int b), some (.int c), some (.int d), some (.int e), some (.int y1_6), none] [] := by
      intro n1
      induction n1 using Nat.strongRecOn with
      | ind n1 ih1 =>
        intro y1_6 I1 h
        replace h := g1 n1 y1_6 I1 h
        refine x_iload dX13_feed_18 rfl ?_
        refine x_bipush_ (v := (20 : Int32)) dX13_feed_20 (by decide) ?_
        refine x_icmp_ge (tgt := 108) dX13_feed_22 (by decide) (fun c22 => ?_) (fun c22 => ?_)
        · replace h := h.1 c22
          refine x_aload_n dX13_feed_108 rfl ?_
          refine x_dup dX13_feed_109 rfl ?_
          refine x_get (v := .int (I1 m 2)) hG dX13_feed_110 f_X13_153_12 (mo_t hM) rfl ?_
          refine x_bipush_ (v := (20 : Int32)) dX13_feed_113 (by decide) ?_
          refine x_iadd dX13_feed_115 ?_
          refine y_put hG hM dX13_feed_116 f_X13_153_12 ⟨_, rfl, Or.inl rfl⟩ rfl rfl ⟨_, rfl⟩ (fun I2 e2 => ?_)
          replace h := h I2 e2
          refine x_aload_n dX13_feed_119 rfl ?_
          refine x_get (v := .int (I2 m 2)) hG dX13_feed_120 f_X13_153_12 (mo_t hM) rfl ?_
          refine x_eqi (v := ((I1 m 2) + (20 : Int32))) (xup_rs e2) ?_
          exact x_iret dX13_feed_123 rfl ⟨_, _, rfl, rfl, h⟩
        · replace h := h.2 c22
          refine x_iload dX13_feed_25 rfl ?_
          refine x_iconst_ (v := (4 : Int32)) dX13_feed_27 (by decide) ?_
          refine x_via 71 (A' := (A.wI I1)) (lv' := [some (.ref m), some (.int a), some (.int b), some (.int c), some (.int d), some (.int e), some (.int y1_6), none]) (st' := [.int (if (4 : Int32) ≤ y1_6 then (if (8 : Int32) ≤ y1_6 then (if (12 : Int32) ≤ y1_6 then (if (16 : Int32) ≤ y1_6 then e else d) else c) else b) else a)]) ?_ (fun k71 => ?_)
          rotate_left
          · refine x_icmp_ge (tgt := 35) dX13_feed_28 (by decide) (fun c28 => ?_) (fun c28 => ?_)
            · refine x_iload dX13_feed_35 rfl ?_
              refine x_bipush_ (v := (8 : Int32)) dX13_feed_37 (by decide) ?_
              refine x_icmp_ge (tgt := 46) dX13_feed_39 (by decide) (fun c39 => ?_) (fun c39 => ?_)
              · refine x_iload dX13_feed_46 rfl ?_
                refine x_bipush_ (v := (12 : Int32)) dX13_feed_48 (by decide) ?_
                refine x_icmp_ge (tgt := 57) dX13_feed_50 (by decide) (fun c50 => ?_) (fun c50 => ?_)
                · refine x_iload dX13_feed_57 rfl ?_
                  refine x_bipush_ (v := (16 : Int32)) dX13_feed_59 (by decide) ?_
                  refine x_icmp_ge (tgt := 69) dX13_feed_61 (by decide) (fun c61 => ?_) (fun c61 => ?_)
                  · refine x_iload dX13_feed_69 rfl ?_
                    change X _ _ _ _ _ _ [some (.ref m), some (.int a), some (.int b), some (.int c), some (.int d), some (.int e), some (.int y1_6), none] [.int e]
                    try simp only [if_pos c28] at c39 c50 c61 k71 ⊢
                    try simp only [if_pos c39] at c50 c61 k71 ⊢
                    try simp only [if_pos c50] at c61 k71 ⊢
                    try simp only [if_pos c61] at k71 ⊢
                    exact X.weak (xle_c rfl (xle_c rfl (xle_c rfl (xle_c rfl (xle_c rfl (xle_c rfl (xle_c rfl (xle_n xle_nil)))))))) k71
                  · refine x_iload dX13_feed_64 rfl ?_
                    refine x_goto (tgt := 71) dX13_feed_66 (by decide) ?_
                    change X _ _ _ _ _ _ [some (.ref m), some (.int a), some (.int b), some (.int c), some (.int d), some (.int e), some (.int y1_6), none] [.int d]
                    try simp only [if_pos c28] at c39 c50 c61 k71 ⊢
                    try simp only [if_pos c39] at c50 c61 k71 ⊢
                    try simp only [if_pos c50] at c61 k71 ⊢
                    try simp only [if_neg c61] at k71 ⊢
                    exact X.weak (xle_c rfl (xle_c rfl (xle_c rfl (xle_c rfl (xle_c rfl (xle_c rfl (xle_c rfl (xle_n xle_nil)))))))) k71
                · refine x_iload_n dX13_feed_53 rfl ?_
                  refine x_goto (tgt := 71) dX13_feed_54 (by decide) ?_
                  change X _ _ _ _ _ _ [some (.ref m), some (.int a), some (.int b), some (.int c), some (.int d), some (.int e), some (.int y1_6), none] [.int c]
                  try simp only [if_pos c28] at c39 c50 k71 ⊢
                  try simp only [if_pos c39] at c50 k71 ⊢
                  try simp only [if_neg c50] at k71 ⊢
                  exact X.weak (xle_c rfl (xle_c rfl (xle_c rfl (xle_c rfl (xle_c rfl (xle_c rfl (xle_c rfl (xle_n xle_nil)))))))) k71
              · refine x_iload_n dX13_feed_42 rfl ?_
                refine x_goto (tgt := 71) dX13_feed_43 (by decide) ?_
                change X _ _ _ _ _ _ [some (.ref m), some (.int a), some (.int b), some (.int c), some (.int d), some (.int e), some (.int y1_6), none] [.int b]
                try simp only [if_pos c28] at c39 k71 ⊢
                try simp only [if_neg c39] at k71 ⊢
                exact X.weak (xle_c rfl (xle_c rfl (xle_c rfl (xle_c rfl (xle_c rfl (xle_c rfl (xle_c rfl (xle_n xle_nil)))))))) k71
            · refine x_iload_n dX13_feed_31 rfl ?_
              refine x_goto (tgt := 71) dX13_feed_32 (by decide) ?_
              change X _ _ _ _ _ _ [some (.ref m), some (.int a), some (.int b), some (.int c), some (.int d), some (.int e), some (.int y1_6), none] [.int a]
              simp only [if_neg c28] at k71 ⊢
              exact X.weak (xle_c rfl (xle_c rfl (xle_c rfl (xle_c rfl (xle_c rfl (xle_c rfl (xle_c rfl (xle_n xle_nil)))))))) k71
          refine x_istore dX13_feed_71 (by decide) ?_
          refine x_aload_n dX13_feed_73 rfl ?_
          refine x_get (v := .ref (m + 1)) hG dX13_feed_74 f_X13_9_12 (mo_t hM) (congrArg va_rf (mo_P0 hM)) ?_
          refine x_aload_n dX13_feed_77 rfl ?_
          refine x_get (v := .int (I1 m 2)) hG dX13_feed_78 f_X13_153_12 (mo_t hM) rfl ?_
          refine x_iload dX13_feed_81 rfl ?_
          refine x_iadd dX13_feed_83 ?_
          refine x_iload dX13_feed_84 rfl ?_
          refine x_bipush_ (v := (24 : Int32)) dX13_feed_86 (by decide) ?_
          refine x_bipush_ (v := (8 : Int32)) dX13_feed_88 (by decide) ?_
          refine x_iload dX13_feed_90 rfl ?_
          refine x_iconst_ (v := (4 : Int32)) dX13_feed_92 (by decide) ?_
          refine x_irem dX13_feed_93 (by decide) ?_
          refine x_eqi (v := (irem_ y1_6 (4 : Int32))) rfl ?_
          refine x_imul dX13_feed_94 ?_
          refine x_isub dX13_feed_95 ?_
          refine x_ishr dX13_feed_96 ?_
          refine x_eqi (v := (jishr (if (4 : Int32) ≤ y1_6 then (if (8 : Int32) ≤ y1_6 then (if (12 : Int32) ≤ y1_6 then (if (16 : Int32) ≤ y1_6 then e else d) else c) else b) else a) ((24 : Int32) - ((8 : Int32) * (irem_ y1_6 (4 : Int32)))))) rfl ?_
          refine x_sipush_ (v := (255 : Int32)) dX13_feed_97 (by decide) ?_
          refine x_iand dX13_feed_100 ?_
          obtain ⟨o3, h⟩ := h
          refine y_iast hG dX13_feed_101 (mo_t0 hM) (mo_aN hM) (mo_n0 hM) o3 (fun I4 e4 => ?_)
          replace h := h I4 e4
          refine x_iinc (v := (y1_6 + (1 : Int32))) dX13_feed_102 rfl rfl (by decide) ?_
          refine x_goto (tgt := 18) dX13_feed_105 (by decide) ?_
          obtain ⟨q1, l1, h⟩ := h
          change X _ _ _ _ _ _ [some (.ref m), some (.int a), some (.int b), some (.int c), some (.int d), some (.int e), some (.int (y1_6 + (1 : Int32))), some (.int (if (4 : Int32) ≤ y1_6 then (if (8 : Int32) ≤ y1_6 then (if (12 : Int32) ≤ y1_6 then (if (16 : Int32) ≤ y1_6 then e else d) else c) else b) else a))] []
          exact X.weak (xle_c rfl (xle_c rfl (xle_c rfl (xle_c rfl (xle_c rfl (xle_c rfl (xle_c rfl (xle_n xle_nil)))))))) (ih1 q1 l1 (y1_6 + (1 : Int32)) I4 h)
    change X _ _ _ _ _ _ [some (.ref m), some (.int a), some (.int b), some (.int c), some (.int d), some (.int e), some (.int (0 : Int32)), none] []
    exact X.weak (xle_c rfl (xle_c rfl (xle_c rfl (xle_c rfl (xle_c rfl (xle_c rfl (xle_c rfl (xle_n xle_nil)))))))) (kl1 n1 (0 : Int32) I i1)
  · replace h := h.2 c10
    refine x_iconst_ (v := (-1 : Int32)) dX13_feed_13 (by decide) ?_
    exact x_iret dX13_feed_14 rfl ⟨_, _, rfl, rfl, h⟩
def w_X13_end (m : Nat) (n : Int32) (Q : Int32 → xII → Prop) (I : xII) : Prop := ((n < 0 → Q (-1 : Int32) I) ∧ (¬ n < 0 → ((n ≤ (I m 2) → ∀ I1 : xII, I1 = xup I m 2 n → (Q n I1)) ∧ (¬ n ≤ (I m 2) → Q (-1 : Int32) I))))
theorem m_X13_end (hG : xOK G) {dp : Nat} {A : xA} {m : Nat} (hM : xMo G A m) {n : Int32} {Q : Int32 → xII → Prop} {I : xII} (h : w_X13_end m n Q I) : MX G (dp + 0) kX13_end [.ref m, .int n] (A.wI I) (oI A Q) := by
  unfold w_X13_end at h
  refine MX.of rfl (Nat.le_of_ble_eq_true rfl) ?_
  change X _ _ _ _ _ _ [some (.ref m), some (.int n)] _
  refine x_iload_n dX13_end_0 rfl ?_
  refine x_if_lt (tgt := 12) dX13_end_1 (by decide) (fun c1 => ?_) (fun c1 => ?_)
  · replace h := h.1 c1
    refine x_iconst_ (v := (-1 : Int32)) dX13_end_12 (by decide) ?_
    exact x_iret dX13_end_13 rfl ⟨_, _, rfl, rfl, h⟩
  · replace h := h.2 c1
    refine x_iload_n dX13_end_4 rfl ?_
    refine x_aload_n dX13_end_5 rfl ?_
    refine x_get (v := .int (I m 2)) hG dX13_end_6 f_X13_153_12 (mo_t hM) rfl ?_
    refine x_icmp_le (tgt := 14) dX13_end_9 (by decide) (fun c9 => ?_) (fun c9 => ?_)
    · replace h := h.1 c9
      refine x_aload_n dX13_end_14 rfl ?_
      refine x_iload_n dX13_end_15 rfl ?_
      refine y_put hG hM dX13_end_16 f_X13_153_12 ⟨_, rfl, Or.inl rfl⟩ rfl rfl ⟨_, rfl⟩ (fun I1 e1 => ?_)
      replace h := h I1 e1
      refine x_iload_n dX13_end_19 rfl ?_
      exact x_iret dX13_end_20 rfl ⟨_, _, rfl, rfl, h⟩
    · replace h := h.2 c9
      refine x_iconst_ (v := (-1 : Int32)) dX13_end_12 (by decide) ?_
      exact x_iret dX13_end_13 rfl ⟨_, _, rfl, rfl, h⟩
def w_X13_skip (m : Nat) (f : Int32) (Q : Int32 → xII → Prop) (I : xII) : Prop := ∃ L1 : Nat → Int32 → xII → Prop, (∃ n1 : Nat, L1 n1 f I) ∧ (∀ (n1 : Nat) (y1_2 : Int32) (I1 : xII), L1 n1 y1_2 I1 → (((I1 m 3) ≤ y1_2 → Q y1_2 I1) ∧ (¬ (I1 m 3) ≤ y1_2 → ∃ R2 : Int32 → xII → Prop, w_X13_at m y1_2 R2 I1 ∧ (∀ (v2 : Int32) (I2 : xII), R2 v2 I2 → (((v2 = (10 : Int32) → (∃ q1 : Nat, q1 < n1 ∧ L1 q1 (y1_2 + (1 : Int32)) I2)) ∧ (¬ v2 = (10 : Int32) → ∃ R3 : Int32 → xII → Prop, w_X13_at m y1_2 R3 I2 ∧ (∀ (v3 : Int32) (I3 : xII), R3 v3 I3 → (((v3 = (32 : Int32) → (∃ q1 : Nat, q1 < n1 ∧ L1 q1 (y1_2 + (1 : Int32)) I3)) ∧ (¬ v3 = (32 : Int32) → ∃ R4 : Int32 → xII → Prop, w_X13_at m y1_2 R4 I3 ∧ (∀ (v4 : Int32) (I4 : xII), R4 v4 I4 → (((v4 = (47 : Int32) → ∃ R12 : Int32 → xII → Prop, w_X13_at m (y1_2 + (1 : Int32)) R12 I4 ∧ (∀ (v12 : Int32) (I12 : xII), R12 v12 I12 → (((v12 = (47 : Int32) → ∃ L20 : Nat → Int32 → xII → Prop, (∃ n20 : Nat, L20 n20 y1_2 I12) ∧ (∀ (n20 : Nat) (y20_2 : Int32) (I20 : xII), L20 n20 y20_2 I20 → (((I20 m 3) ≤ y20_2 → (∃ q1 : Nat, q1 < n1 ∧ L1 q1 y20_2 I20)) ∧ (¬ (I20 m 3) ≤ y20_2 → ∃ R21 : Int32 → xII → Prop, w_X13_at m y20_2 R21 I20 ∧ (∀ (v21 : Int32) (I21 : xII), R21 v21 I21 → (((v21 = (10 : Int32) → (∃ q1 : Nat, q1 < n1 ∧ L1 q1 y20_2 I21)) ∧ (¬ v21 = (10 : Int32) → (∃ q20 : Nat, q20 < n20 ∧ L20 q20 (y20_2 + (1 : Int32)) I21))))))))) ∧ (¬ v12 = (47 : Int32) → ∃ R13 : Int32 → xII → Prop, w_X13_at m y1_2 R13 I12 ∧ (∀ (v13 : Int32) (I13 : xII), R13 v13 I13 → (((v13 = (47 : Int32) → ∃ R14 : Int32 → xII → Prop, w_X13_at m (y1_2 + (1 : Int32)) R14 I13 ∧ (∀ (v14 : Int32) (I14 : xII), R14 v14 I14 → (((v14 = (42 : Int32) → ∃ L15 : Nat → Int32 → xII → Prop, (∃ n15 : Nat, L15 n15 (y1_2 + (2 : Int32)) I14) ∧ (∀ (n15 : Nat) (y15_3 : Int32) (I15 : xII), L15 n15 y15_3 I15 → ∃ J16 : xII → Prop, (∀ (I16 : xII), J16 I16 → ((y15_3 < (I16 m 3) → (∃ q1 : Nat, q1 < n1 ∧ L1 q1 (y15_3 + (2 : Int32)) I16)) ∧ (¬ y15_3 < (I16 m 3) → ∀ I17 : xII, I17 = xup I16 m 8 y1_2 → (Q (-1 : Int32) I17)))) ∧ (((I15 m 3) ≤ y15_3 → J16 I15) ∧ (¬ (I15 m 3) ≤ y15_3 → ∃ R18 : Int32 → xII → Prop, w_X13_at m y15_3 R18 I15 ∧ (∀ (v18 : Int32) (I18 : xII), R18 v18 I18 → (((v18 = (42 : Int32) → ∃ R19 : Int32 → xII → Prop, w_X13_at m (y15_3 + (1 : Int32)) R19 I18 ∧ (∀ (v19 : Int32) (I19 : xII), R19 v19 I19 → (((v19 = (47 : Int32) → J16 I19) ∧ (¬ v19 = (47 : Int32) → (∃ q15 : Nat, q15 < n15 ∧ L15 q15 (y15_3 + (1 : Int32)) I19)))))) ∧ (¬ v18 = (42 : Int32) → (∃ q15 : Nat, q15 < n15 ∧ L15 q15 (y15_3 + (1 : Int32)) I18))))))))) ∧ (¬ v14 = (42 : Int32) → Q y1_2 I14))))) ∧ (¬ v13 = (47 : Int32) → Q y1_2 I13))))))))) ∧ (¬ v4 = (47 : Int32) → ∃ R5 : Int32 → xII → Prop, w_X13_at m y1_2 R5 I4 ∧ (∀ (v5 : Int32) (I5 : xII), R5 v5 I5 → (((v5 = (47 : Int32) → ∃ R6 : Int32 → xII → Prop, w_X13_at m (y1_2 + (1 : Int32)) R6 I5 ∧ (∀ (v6 : Int32) (I6 : xII), R6 v6 I6 → (((v6 = (42 : Int32) → ∃ L7 : Nat → Int32 → xII → Prop, (∃ n7 : Nat, L7 n7 (y1_2 + (2 : Int32)) I6) ∧ (∀ (n7 : Nat) (y7_3 : Int32) (I7 : xII), L7 n7 y7_3 I7 → ∃ J8 : xII → Prop, (∀ (I8 : xII), J8 I8 → ((y7_3 < (I8 m 3) → (∃ q1 : Nat, q1 < n1 ∧ L1 q1 (y7_3 + (2 : Int32)) I8)) ∧ (¬ y7_3 < (I8 m 3) → ∀ I9 : xII, I9 = xup I8 m 8 y1_2 → (Q (-1 : Int32) I9)))) ∧ (((I7 m 3) ≤ y7_3 → J8 I7) ∧ (¬ (I7 m 3) ≤ y7_3 → ∃ R10 : Int32 → xII → Prop, w_X13_at m y7_3 R10 I7 ∧ (∀ (v10 : Int32) (I10 : xII), R10 v10 I10 → (((v10 = (42 : Int32) → ∃ R11 : Int32 → xII → Prop, w_X13_at m (y7_3 + (1 : Int32)) R11 I10 ∧ (∀ (v11 : Int32) (I11 : xII), R11 v11 I11 → (((v11 = (47 : Int32) → J8 I11) ∧ (¬ v11 = (47 : Int32) → (∃ q7 : Nat, q7 < n7 ∧ L7 q7 (y7_3 + (1 : Int32)) I11)))))) ∧ (¬ v10 = (42 : Int32) → (∃ q7 : Nat, q7 < n7 ∧ L7 q7 (y7_3 + (1 : Int32)) I10))))))))) ∧ (¬ v6 = (42 : Int32) → Q y1_2 I6))))) ∧ (¬ v5 = (47 : Int32) → Q y1_2 I5)))))))))))))))))))
theorem m_X13_skip (hG : xOK G) {dp : Nat} {A : xA} {m : Nat} (hM : xMo G A m) {f : Int32} {Q : Int32 → xII → Prop} {I : xII} (h : w_X13_skip m f Q I) : MX G (dp + 1) kX13_skip [.ref m, .int f] (A.wI I) (oI A Q) := by
  unfold w_X13_skip at h
  refine MX.of rfl (Nat.le_of_ble_eq_true rfl) ?_
  change X _ _ _ _ _ _ [some (.ref m), some (.int f), none, none] _
  refine x_iload_n dX13_skip_0 rfl ?_
  refine x_istore_n dX13_skip_1 (by decide) ?_
  obtain ⟨L1, ⟨n1, i1⟩, g1⟩ := h
  have kl1 : ∀ n1 : Nat, ∀ (y1_2 : Int32) (I1 : xII), L1 n1 y1_2 I1 → X G (dp + 1) kX13_skip (oI A Q) (A.wI I1) 2 [some (.ref m), none, some (.int y1_2), none] [] := by
    intro n1
    induction n1 using Nat.strongRecOn with
    | ind n1 ih1 =>
      intro y1_2 I1 h
      replace h := g1 n1 y1_2 I1 h
      refine x_iload_n dX13_skip_2 rfl ?_
      refine x_aload_n dX13_skip_3 rfl ?_
      refine x_get (v := .int (I1 m 3)) hG dX13_skip_4 f_X13_157_12 (mo_t hM) rfl ?_
      refine x_icmp_ge (tgt := 168) dX13_skip_7 (by decide) (fun c7 => ?_) (fun c7 => ?_)
      · replace h := h.1 c7
        refine x_iload_n dX13_skip_168 rfl ?_
        exact x_iret dX13_skip_169 rfl ⟨_, _, rfl, rfl, h⟩
      · replace h := h.2 c7
        refine x_aload_n dX13_skip_10 rfl ?_
        refine x_iload_n dX13_skip_11 rfl ?_
        obtain ⟨R2, g2, h⟩ := h
        refine x_callV hG (Ky := kX13_at) (As := [.int y1_2]) dX13_skip_12 (mo_t hM) rfl lk_X13_177 me_X13_at is_X13_at se_X13_at rfl rfl (Nat.le_of_ble_eq_true rfl) (MX.post (m_X13_at hG hM g2) ?_)
        rintro _ _ ⟨v2, I2, rfl, rfl, h1⟩
        replace h := h v2 I2 h1
        change X _ _ _ _ (A.wI I2) _ _ (.int v2 :: _)
        refine x_bipush_ (v := (10 : Int32)) dX13_skip_15 (by decide) ?_
        refine x_icmp_eq (tgt := 30) dX13_skip_17 (by decide) (fun c17 => ?_) (fun c17 => ?_)
        · replace h := h.1 c17
          refine x_iinc (v := (y1_2 + (1 : Int32))) dX13_skip_30 rfl rfl (by decide) ?_
          refine x_goto (tgt := 2) dX13_skip_33 (by decide) ?_
          obtain ⟨q1, l1, h⟩ := h
          change X _ _ _ _ _ _ [some (.ref m), none, some (.int (y1_2 + (1 : Int32))), none] []
          exact X.weak (xle_c rfl (xle_n (xle_c rfl (xle_n xle_nil)))) (ih1 q1 l1 (y1_2 + (1 : Int32)) I2 h)
        · replace h := h.2 c17
          refine x_aload_n dX13_skip_20 rfl ?_
          refine x_iload_n dX13_skip_21 rfl ?_
          obtain ⟨R3, g3, h⟩ := h
          refine x_callV hG (Ky := kX13_at) (As := [.int y1_2]) dX13_skip_22 (mo_t hM) rfl lk_X13_177 me_X13_at is_X13_at se_X13_at rfl rfl (Nat.le_of_ble_eq_true rfl) (MX.post (m_X13_at hG hM g3) ?_)
          rintro _ _ ⟨v3, I3, rfl, rfl, h1⟩
          replace h := h v3 I3 h1
          change X _ _ _ _ (A.wI I3) _ _ (.int v3 :: _)
          refine x_bipush_ (v := (32 : Int32)) dX13_skip_25 (by decide) ?_
          refine x_icmp_ne (tgt := 36) dX13_skip_27 (by decide) (fun c27 => ?_) (fun c27 => ?_)
          · replace h := h.2 c27
            refine x_aload_n dX13_skip_36 rfl ?_
            refine x_iload_n dX13_skip_37 rfl ?_
            obtain ⟨R4, g4, h⟩ := h
            refine x_callV hG (Ky := kX13_at) (As := [.int y1_2]) dX13_skip_38 (mo_t hM) rfl lk_X13_177 me_X13_at is_X13_at se_X13_at rfl rfl (Nat.le_of_ble_eq_true rfl) (MX.post (m_X13_at hG hM g4) ?_)
            rintro _ _ ⟨v4, I4, rfl, rfl, h1⟩
            replace h := h v4 I4 h1
            change X _ _ _ _ (A.wI I4) _ _ (.int v4 :: _)
            refine x_bipush_ (v := (47 : Int32)) dX13_skip_41 (by decide) ?_
            refine x_icmp_ne (tgt := 82) dX13_skip_43 (by decide) (fun c43 => ?_) (fun c43 => ?_)
            · replace h := h.2 c43
              refine x_aload_n dX13_skip_82 rfl ?_
              refine x_iload_n dX13_skip_83 rfl ?_
              obtain ⟨R5, g5, h⟩ := h
              refine x_callV hG (Ky := kX13_at) (As := [.int y1_2]) dX13_skip_84 (mo_t hM) rfl lk_X13_177 me_X13_at is_X13_at se_X13_at rfl rfl (Nat.le_of_ble_eq_true rfl) (MX.post (m_X13_at hG hM g5) ?_)
              rintro _ _ ⟨v5, I5, rfl, rfl, h1⟩
              replace h := h v5 I5 h1
              change X _ _ _ _ (A.wI I5) _ _ (.int v5 :: _)
              refine x_bipush_ (v := (47 : Int32)) dX13_skip_87 (by decide) ?_
              refine x_icmp_ne (tgt := 166) dX13_skip_89 (by decide) (fun c89 => ?_) (fun c89 => ?_)
              · replace h := h.2 c89
                refine x_iload_n dX13_skip_166 rfl ?_
                exact x_iret dX13_skip_167 rfl ⟨_, _, rfl, rfl, h⟩
              · replace h := h.1 c89
                refine x_aload_n dX13_skip_92 rfl ?_
                refine x_iload_n dX13_skip_93 rfl ?_
                refine x_iconst_ (v := (1 : Int32)) dX13_skip_94 (by decide) ?_
                refine x_iadd dX13_skip_95 ?_
                obtain ⟨R6, g6, h⟩ := h
                refine x_callV hG (Ky := kX13_at) (As := [.int (y1_2 + (1 : Int32))]) dX13_skip_96 (mo_t hM) rfl lk_X13_177 me_X13_at is_X13_at se_X13_at rfl rfl (Nat.le_of_ble_eq_true rfl) (MX.post (m_X13_at hG hM g6) ?_)
                rintro _ _ ⟨v6, I6, rfl, rfl, h1⟩
                replace h := h v6 I6 h1
                change X _ _ _ _ (A.wI I6) _ _ (.int v6 :: _)
                refine x_bipush_ (v := (42 : Int32)) dX13_skip_99 (by decide) ?_
                refine x_icmp_ne (tgt := 166) dX13_skip_101 (by decide) (fun c101 => ?_) (fun c101 => ?_)
                · replace h := h.2 c101
                  refine x_iload_n dX13_skip_166 rfl ?_
                  exact x_iret dX13_skip_167 rfl ⟨_, _, rfl, rfl, h⟩
                · replace h := h.1 c101
                  refine x_iload_n dX13_skip_104 rfl ?_
                  refine x_iconst_ (v := (2 : Int32)) dX13_skip_105 (by decide) ?_
                  refine x_iadd dX13_skip_106 ?_
                  refine x_istore_n dX13_skip_107 (by decide) ?_
                  obtain ⟨L7, ⟨n7, i7⟩, g7⟩ := h
                  have kl7 : ∀ n7 : Nat, ∀ (y7_3 : Int32) (I7 : xII), L7 n7 y7_3 I7 → X G (dp + 1) kX13_skip (oI A Q) (A.wI I7) 108 [some (.ref m), none, some (.int y1_2), some (.int y7_3)] [] := by
                    intro n7
                    induction n7 using Nat.strongRecOn with
                    | ind n7 ih7 =>
                      intro y7_3 I7 h
                      replace h := g7 n7 y7_3 I7 h
                      refine x_iload_n dX13_skip_108 rfl ?_
                      refine x_aload_n dX13_skip_109 rfl ?_
                      refine x_get (v := .int (I7 m 3)) hG dX13_skip_110 f_X13_157_12 (mo_t hM) rfl ?_
                      obtain ⟨J8, g8, h⟩ := h
                      have kj8 : ∀ (I8 : xII), J8 I8 → X G (dp + 1) kX13_skip (oI A Q) (A.wI I8) 144 [some (.ref m), none, some (.int y1_2), some (.int y7_3)] [] := by
                        intro I8 h
                        replace h := g8 I8 h
                        refine x_iload_n dX13_skip_144 rfl ?_
                        refine x_aload_n dX13_skip_145 rfl ?_
                        refine x_get (v := .int (I8 m 3)) hG dX13_skip_146 f_X13_157_12 (mo_t hM) rfl ?_
                        refine x_icmp_lt (tgt := 159) dX13_skip_149 (by decide) (fun c149 => ?_) (fun c149 => ?_)
                        · replace h := h.1 c149
                          refine x_iload_n dX13_skip_159 rfl ?_
                          refine x_iconst_ (v := (2 : Int32)) dX13_skip_160 (by decide) ?_
                          refine x_iadd dX13_skip_161 ?_
                          refine x_istore_n dX13_skip_162 (by decide) ?_
                          refine x_goto (tgt := 2) dX13_skip_163 (by decide) ?_
                          obtain ⟨q1, l1, h⟩ := h
                          change X _ _ _ _ _ _ [some (.ref m), none, some (.int (y7_3 + (2 : Int32))), some (.int y7_3)] []
                          exact X.weak (xle_c rfl (xle_n (xle_c rfl (xle_n xle_nil)))) (ih1 q1 l1 (y7_3 + (2 : Int32)) I8 h)
                        · replace h := h.2 c149
                          refine x_aload_n dX13_skip_152 rfl ?_
                          refine x_iload_n dX13_skip_153 rfl ?_
                          refine y_put hG hM dX13_skip_154 f_X13_184_12 ⟨_, rfl, Or.inl rfl⟩ rfl rfl ⟨_, rfl⟩ (fun I9 e9 => ?_)
                          replace h := h I9 e9
                          refine x_iconst_ (v := (-1 : Int32)) dX13_skip_157 (by decide) ?_
                          exact x_iret dX13_skip_158 rfl ⟨_, _, rfl, rfl, h⟩
                      refine x_icmp_ge (tgt := 144) dX13_skip_113 (by decide) (fun c113 => ?_) (fun c113 => ?_)
                      · replace h := h.1 c113
                        change X _ _ _ _ _ _ [some (.ref m), none, some (.int y1_2), some (.int y7_3)] []
                        exact X.weak (xle_c rfl (xle_n (xle_c rfl (xle_c rfl xle_nil)))) (kj8 I7 h)
                      · replace h := h.2 c113
                        refine x_aload_n dX13_skip_116 rfl ?_
                        refine x_iload_n dX13_skip_117 rfl ?_
                        obtain ⟨R10, g10, h⟩ := h
                        refine x_callV hG (Ky := kX13_at) (As := [.int y7_3]) dX13_skip_118 (mo_t hM) rfl lk_X13_177 me_X13_at is_X13_at se_X13_at rfl rfl (Nat.le_of_ble_eq_true rfl) (MX.post (m_X13_at hG hM g10) ?_)
                        rintro _ _ ⟨v10, I10, rfl, rfl, h1⟩
                        replace h := h v10 I10 h1
                        change X _ _ _ _ (A.wI I10) _ _ (.int v10 :: _)
                        refine x_bipush_ (v := (42 : Int32)) dX13_skip_121 (by decide) ?_
                        refine x_icmp_ne (tgt := 138) dX13_skip_123 (by decide) (fun c123 => ?_) (fun c123 => ?_)
                        · replace h := h.2 c123
                          refine x_iinc (v := (y7_3 + (1 : Int32))) dX13_skip_138 rfl rfl (by decide) ?_
                          refine x_goto (tgt := 108) dX13_skip_141 (by decide) ?_
                          obtain ⟨q7, l7, h⟩ := h
                          change X _ _ _ _ _ _ [some (.ref m), none, some (.int y1_2), some (.int (y7_3 + (1 : Int32)))] []
                          exact X.weak (xle_c rfl (xle_n (xle_c rfl (xle_c rfl xle_nil)))) (ih7 q7 l7 (y7_3 + (1 : Int32)) I10 h)
                        · replace h := h.1 c123
                          refine x_aload_n dX13_skip_126 rfl ?_
                          refine x_iload_n dX13_skip_127 rfl ?_
                          refine x_iconst_ (v := (1 : Int32)) dX13_skip_128 (by decide) ?_
                          refine x_iadd dX13_skip_129 ?_
                          obtain ⟨R11, g11, h⟩ := h
                          refine x_callV hG (Ky := kX13_at) (As := [.int (y7_3 + (1 : Int32))]) dX13_skip_130 (mo_t hM) rfl lk_X13_177 me_X13_at is_X13_at se_X13_at rfl rfl (Nat.le_of_ble_eq_true rfl) (MX.post (m_X13_at hG hM g11) ?_)
                          rintro _ _ ⟨v11, I11, rfl, rfl, h1⟩
                          replace h := h v11 I11 h1
                          change X _ _ _ _ (A.wI I11) _ _ (.int v11 :: _)
                          refine x_bipush_ (v := (47 : Int32)) dX13_skip_133 (by decide) ?_
                          refine x_icmp_eq (tgt := 144) dX13_skip_135 (by decide) (fun c135 => ?_) (fun c135 => ?_)
                          · replace h := h.1 c135
                            change X _ _ _ _ _ _ [some (.ref m), none, some (.int y1_2), some (.int y7_3)] []
                            exact X.weak (xle_c rfl (xle_n (xle_c rfl (xle_c rfl xle_nil)))) (kj8 I11 h)
                          · replace h := h.2 c135
                            refine x_iinc (v := (y7_3 + (1 : Int32))) dX13_skip_138 rfl rfl (by decide) ?_
                            refine x_goto (tgt := 108) dX13_skip_141 (by decide) ?_
                            obtain ⟨q7, l7, h⟩ := h
                            change X _ _ _ _ _ _ [some (.ref m), none, some (.int y1_2), some (.int (y7_3 + (1 : Int32)))] []
                            exact X.weak (xle_c rfl (xle_n (xle_c rfl (xle_c rfl xle_nil)))) (ih7 q7 l7 (y7_3 + (1 : Int32)) I11 h)
                  change X _ _ _ _ _ _ [some (.ref m), none, some (.int y1_2), some (.int (y1_2 + (2 : Int32)))] []
                  exact X.weak (xle_c rfl (xle_n (xle_c rfl (xle_c rfl xle_nil)))) (kl7 n7 (y1_2 + (2 : Int32)) I6 i7)
            · replace h := h.1 c43
              refine x_aload_n dX13_skip_46 rfl ?_
              refine x_iload_n dX13_skip_47 rfl ?_
              refine x_iconst_ (v := (1 : Int32)) dX13_skip_48 (by decide) ?_
              refine x_iadd dX13_skip_49 ?_
              obtain ⟨R12, g12, h⟩ := h
              refine x_callV hG (Ky := kX13_at) (As := [.int (y1_2 + (1 : Int32))]) dX13_skip_50 (mo_t hM) rfl lk_X13_177 me_X13_at is_X13_at se_X13_at rfl rfl (Nat.le_of_ble_eq_true rfl) (MX.post (m_X13_at hG hM g12) ?_)
              rintro _ _ ⟨v12, I12, rfl, rfl, h1⟩
              replace h := h v12 I12 h1
              change X _ _ _ _ (A.wI I12) _ _ (.int v12 :: _)
              refine x_bipush_ (v := (47 : Int32)) dX13_skip_53 (by decide) ?_
              refine x_icmp_ne (tgt := 82) dX13_skip_55 (by decide) (fun c55 => ?_) (fun c55 => ?_)
              · replace h := h.2 c55
                refine x_aload_n dX13_skip_82 rfl ?_
                refine x_iload_n dX13_skip_83 rfl ?_
                obtain ⟨R13, g13, h⟩ := h
                refine x_callV hG (Ky := kX13_at) (As := [.int y1_2]) dX13_skip_84 (mo_t hM) rfl lk_X13_177 me_X13_at is_X13_at se_X13_at rfl rfl (Nat.le_of_ble_eq_true rfl) (MX.post (m_X13_at hG hM g13) ?_)
                rintro _ _ ⟨v13, I13, rfl, rfl, h1⟩
                replace h := h v13 I13 h1
                change X _ _ _ _ (A.wI I13) _ _ (.int v13 :: _)
                refine x_bipush_ (v := (47 : Int32)) dX13_skip_87 (by decide) ?_
                refine x_icmp_ne (tgt := 166) dX13_skip_89 (by decide) (fun c89 => ?_) (fun c89 => ?_)
                · replace h := h.2 c89
                  refine x_iload_n dX13_skip_166 rfl ?_
                  exact x_iret dX13_skip_167 rfl ⟨_, _, rfl, rfl, h⟩
                · replace h := h.1 c89
                  refine x_aload_n dX13_skip_92 rfl ?_
                  refine x_iload_n dX13_skip_93 rfl ?_
                  refine x_iconst_ (v := (1 : Int32)) dX13_skip_94 (by decide) ?_
                  refine x_iadd dX13_skip_95 ?_
                  obtain ⟨R14, g14, h⟩ := h
                  refine x_callV hG (Ky := kX13_at) (As := [.int (y1_2 + (1 : Int32))]) dX13_skip_96 (mo_t hM) rfl lk_X13_177 me_X13_at is_X13_at se_X13_at rfl rfl (Nat.le_of_ble_eq_true rfl) (MX.post (m_X13_at hG hM g14) ?_)
                  rintro _ _ ⟨v14, I14, rfl, rfl, h1⟩
                  replace h := h v14 I14 h1
                  change X _ _ _ _ (A.wI I14) _ _ (.int v14 :: _)
                  refine x_bipush_ (v := (42 : Int32)) dX13_skip_99 (by decide) ?_
                  refine x_icmp_ne (tgt := 166) dX13_skip_101 (by decide) (fun c101 => ?_) (fun c101 => ?_)
                  · replace h := h.2 c101
                    refine x_iload_n dX13_skip_166 rfl ?_
                    exact x_iret dX13_skip_167 rfl ⟨_, _, rfl, rfl, h⟩
                  · replace h := h.1 c101
                    refine x_iload_n dX13_skip_104 rfl ?_
                    refine x_iconst_ (v := (2 : Int32)) dX13_skip_105 (by decide) ?_
                    refine x_iadd dX13_skip_106 ?_
                    refine x_istore_n dX13_skip_107 (by decide) ?_
                    obtain ⟨L15, ⟨n15, i15⟩, g15⟩ := h
                    have kl15 : ∀ n15 : Nat, ∀ (y15_3 : Int32) (I15 : xII), L15 n15 y15_3 I15 → X G (dp + 1) kX13_skip (oI A Q) (A.wI I15) 108 [some (.ref m), none, some (.int y1_2), some (.int y15_3)] [] := by
                      intro n15
                      induction n15 using Nat.strongRecOn with
                      | ind n15 ih15 =>
                        intro y15_3 I15 h
                        replace h := g15 n15 y15_3 I15 h
                        refine x_iload_n dX13_skip_108 rfl ?_
                        refine x_aload_n dX13_skip_109 rfl ?_
                        refine x_get (v := .int (I15 m 3)) hG dX13_skip_110 f_X13_157_12 (mo_t hM) rfl ?_
                        obtain ⟨J16, g16, h⟩ := h
                        have kj16 : ∀ (I16 : xII), J16 I16 → X G (dp + 1) kX13_skip (oI A Q) (A.wI I16) 144 [some (.ref m), none, some (.int y1_2), some (.int y15_3)] [] := by
                          intro I16 h
                          replace h := g16 I16 h
                          refine x_iload_n dX13_skip_144 rfl ?_
                          refine x_aload_n dX13_skip_145 rfl ?_
                          refine x_get (v := .int (I16 m 3)) hG dX13_skip_146 f_X13_157_12 (mo_t hM) rfl ?_
                          refine x_icmp_lt (tgt := 159) dX13_skip_149 (by decide) (fun c149 => ?_) (fun c149 => ?_)
                          · replace h := h.1 c149
                            refine x_iload_n dX13_skip_159 rfl ?_
                            refine x_iconst_ (v := (2 : Int32)) dX13_skip_160 (by decide) ?_
                            refine x_iadd dX13_skip_161 ?_
                            refine x_istore_n dX13_skip_162 (by decide) ?_
                            refine x_goto (tgt := 2) dX13_skip_163 (by decide) ?_
                            obtain ⟨q1, l1, h⟩ := h
                            change X _ _ _ _ _ _ [some (.ref m), none, some (.int (y15_3 + (2 : Int32))), some (.int y15_3)] []
                            exact X.weak (xle_c rfl (xle_n (xle_c rfl (xle_n xle_nil)))) (ih1 q1 l1 (y15_3 + (2 : Int32)) I16 h)
                          · replace h := h.2 c149
                            refine x_aload_n dX13_skip_152 rfl ?_
                            refine x_iload_n dX13_skip_153 rfl ?_
                            refine y_put hG hM dX13_skip_154 f_X13_184_12 ⟨_, rfl, Or.inl rfl⟩ rfl rfl ⟨_, rfl⟩ (fun I17 e17 => ?_)
                            replace h := h I17 e17
                            refine x_iconst_ (v := (-1 : Int32)) dX13_skip_157 (by decide) ?_
                            exact x_iret dX13_skip_158 rfl ⟨_, _, rfl, rfl, h⟩
                        refine x_icmp_ge (tgt := 144) dX13_skip_113 (by decide) (fun c113 => ?_) (fun c113 => ?_)
                        · replace h := h.1 c113
                          change X _ _ _ _ _ _ [some (.ref m), none, some (.int y1_2), some (.int y15_3)] []
                          exact X.weak (xle_c rfl (xle_n (xle_c rfl (xle_c rfl xle_nil)))) (kj16 I15 h)
                        · replace h := h.2 c113
                          refine x_aload_n dX13_skip_116 rfl ?_
                          refine x_iload_n dX13_skip_117 rfl ?_
                          obtain ⟨R18, g18, h⟩ := h
                          refine x_callV hG (Ky := kX13_at) (As := [.int y15_3]) dX13_skip_118 (mo_t hM) rfl lk_X13_177 me_X13_at is_X13_at se_X13_at rfl rfl (Nat.le_of_ble_eq_true rfl) (MX.post (m_X13_at hG hM g18) ?_)
                          rintro _ _ ⟨v18, I18, rfl, rfl, h1⟩
                          replace h := h v18 I18 h1
                          change X _ _ _ _ (A.wI I18) _ _ (.int v18 :: _)
                          refine x_bipush_ (v := (42 : Int32)) dX13_skip_121 (by decide) ?_
                          refine x_icmp_ne (tgt := 138) dX13_skip_123 (by decide) (fun c123 => ?_) (fun c123 => ?_)
                          · replace h := h.2 c123
                            refine x_iinc (v := (y15_3 + (1 : Int32))) dX13_skip_138 rfl rfl (by decide) ?_
                            refine x_goto (tgt := 108) dX13_skip_141 (by decide) ?_
                            obtain ⟨q15, l15, h⟩ := h
                            change X _ _ _ _ _ _ [some (.ref m), none, some (.int y1_2), some (.int (y15_3 + (1 : Int32)))] []
                            exact X.weak (xle_c rfl (xle_n (xle_c rfl (xle_c rfl xle_nil)))) (ih15 q15 l15 (y15_3 + (1 : Int32)) I18 h)
                          · replace h := h.1 c123
                            refine x_aload_n dX13_skip_126 rfl ?_
                            refine x_iload_n dX13_skip_127 rfl ?_
                            refine x_iconst_ (v := (1 : Int32)) dX13_skip_128 (by decide) ?_
                            refine x_iadd dX13_skip_129 ?_
                            obtain ⟨R19, g19, h⟩ := h
                            refine x_callV hG (Ky := kX13_at) (As := [.int (y15_3 + (1 : Int32))]) dX13_skip_130 (mo_t hM) rfl lk_X13_177 me_X13_at is_X13_at se_X13_at rfl rfl (Nat.le_of_ble_eq_true rfl) (MX.post (m_X13_at hG hM g19) ?_)
                            rintro _ _ ⟨v19, I19, rfl, rfl, h1⟩
                            replace h := h v19 I19 h1
                            change X _ _ _ _ (A.wI I19) _ _ (.int v19 :: _)
                            refine x_bipush_ (v := (47 : Int32)) dX13_skip_133 (by decide) ?_
                            refine x_icmp_eq (tgt := 144) dX13_skip_135 (by decide) (fun c135 => ?_) (fun c135 => ?_)
                            · replace h := h.1 c135
                              change X _ _ _ _ _ _ [some (.ref m), none, some (.int y1_2), some (.int y15_3)] []
                              exact X.weak (xle_c rfl (xle_n (xle_c rfl (xle_c rfl xle_nil)))) (kj16 I19 h)
                            · replace h := h.2 c135
                              refine x_iinc (v := (y15_3 + (1 : Int32))) dX13_skip_138 rfl rfl (by decide) ?_
                              refine x_goto (tgt := 108) dX13_skip_141 (by decide) ?_
                              obtain ⟨q15, l15, h⟩ := h
                              change X _ _ _ _ _ _ [some (.ref m), none, some (.int y1_2), some (.int (y15_3 + (1 : Int32)))] []
                              exact X.weak (xle_c rfl (xle_n (xle_c rfl (xle_c rfl xle_nil)))) (ih15 q15 l15 (y15_3 + (1 : Int32)) I19 h)
                    change X _ _ _ _ _ _ [some (.ref m), none, some (.int y1_2), some (.int (y1_2 + (2 : Int32)))] []
                    exact X.weak (xle_c rfl (xle_n (xle_c rfl (xle_c rfl xle_nil)))) (kl15 n15 (y1_2 + (2 : Int32)) I14 i15)
              · replace h := h.1 c55
                obtain ⟨L20, ⟨n20, i20⟩, g20⟩ := h
                have kl20 : ∀ n20 : Nat, ∀ (y20_2 : Int32) (I20 : xII), L20 n20 y20_2 I20 → X G (dp + 1) kX13_skip (oI A Q) (A.wI I20) 58 [some (.ref m), none, some (.int y20_2), none] [] := by
                  intro n20
                  induction n20 using Nat.strongRecOn with
                  | ind n20 ih20 =>
                    intro y20_2 I20 h
                    replace h := g20 n20 y20_2 I20 h
                    refine x_iload_n dX13_skip_58 rfl ?_
                    refine x_aload_n dX13_skip_59 rfl ?_
                    refine x_get (v := .int (I20 m 3)) hG dX13_skip_60 f_X13_157_12 (mo_t hM) rfl ?_
                    refine x_icmp_ge (tgt := 2) dX13_skip_63 (by decide) (fun c63 => ?_) (fun c63 => ?_)
                    · replace h := h.1 c63
                      obtain ⟨q1, l1, h⟩ := h
                      change X _ _ _ _ _ _ [some (.ref m), none, some (.int y20_2), none] []
                      exact X.weak (xle_c rfl (xle_n (xle_c rfl (xle_n xle_nil)))) (ih1 q1 l1 y20_2 I20 h)
                    · replace h := h.2 c63
                      refine x_aload_n dX13_skip_66 rfl ?_
                      refine x_iload_n dX13_skip_67 rfl ?_
                      obtain ⟨R21, g21, h⟩ := h
                      refine x_callV hG (Ky := kX13_at) (As := [.int y20_2]) dX13_skip_68 (mo_t hM) rfl lk_X13_177 me_X13_at is_X13_at se_X13_at rfl rfl (Nat.le_of_ble_eq_true rfl) (MX.post (m_X13_at hG hM g21) ?_)
                      rintro _ _ ⟨v21, I21, rfl, rfl, h1⟩
                      replace h := h v21 I21 h1
                      change X _ _ _ _ (A.wI I21) _ _ (.int v21 :: _)
                      refine x_bipush_ (v := (10 : Int32)) dX13_skip_71 (by decide) ?_
                      refine x_icmp_eq (tgt := 2) dX13_skip_73 (by decide) (fun c73 => ?_) (fun c73 => ?_)
                      · replace h := h.1 c73
                        obtain ⟨q1, l1, h⟩ := h
                        change X _ _ _ _ _ _ [some (.ref m), none, some (.int y20_2), none] []
                        exact X.weak (xle_c rfl (xle_n (xle_c rfl (xle_n xle_nil)))) (ih1 q1 l1 y20_2 I21 h)
                      · replace h := h.2 c73
                        refine x_iinc (v := (y20_2 + (1 : Int32))) dX13_skip_76 rfl rfl (by decide) ?_
                        refine x_goto (tgt := 58) dX13_skip_79 (by decide) ?_
                        obtain ⟨q20, l20, h⟩ := h
                        change X _ _ _ _ _ _ [some (.ref m), none, some (.int (y20_2 + (1 : Int32))), none] []
                        exact X.weak (xle_c rfl (xle_n (xle_c rfl (xle_n xle_nil)))) (ih20 q20 l20 (y20_2 + (1 : Int32)) I21 h)
                change X _ _ _ _ _ _ [some (.ref m), none, some (.int y1_2), none] []
                exact X.weak (xle_c rfl (xle_n (xle_c rfl (xle_n xle_nil)))) (kl20 n20 y1_2 I12 i20)
          · replace h := h.1 c27
            refine x_iinc (v := (y1_2 + (1 : Int32))) dX13_skip_30 rfl rfl (by decide) ?_
            refine x_goto (tgt := 2) dX13_skip_33 (by decide) ?_
            obtain ⟨q1, l1, h⟩ := h
            change X _ _ _ _ _ _ [some (.ref m), none, some (.int (y1_2 + (1 : Int32))), none] []
            exact X.weak (xle_c rfl (xle_n (xle_c rfl (xle_n xle_nil)))) (ih1 q1 l1 (y1_2 + (1 : Int32)) I3 h)
  change X _ _ _ _ _ _ [some (.ref m), some (.int f), some (.int f), none] []
  exact X.weak (xle_c rfl (xle_n (xle_c rfl (xle_n xle_nil)))) (kl1 n1 f I i1)
def w_X13_nameOf (m : Nat) (f : Int32) (n : Int32) (Q : Int32 → xII → Prop) (I : xII) : Prop := ∃ R1 : Int32 → xII → Prop, w_X13_at m f R1 I ∧ (∀ (v1 : Int32) (I1 : xII), R1 v1 I1 → (∃ R2 : Int32 → xII → Prop, w_X13_at m ((f + n) - (1 : Int32)) R2 I1 ∧ (∀ (v2 : Int32) (I2 : xII), R2 v2 I2 → (vp_in (irem_ (((v1 * (7 : Int32)) + (v2 * (3 : Int32))) + n) (64 : Int32)) 64 ∧ (∃ L4 : Nat → Int32 → xII → Prop, (∃ n4 : Nat, L4 n4 (I2 (m + 9) (ix (irem_ (((v1 * (7 : Int32)) + (v2 * (3 : Int32))) + n) (64 : Int32)))) I2) ∧ (∀ (n4 : Nat) (y4_4 : Int32) (I4 : xII), L4 n4 y4_4 I4 → ((y4_4 = (-1 : Int32) → vp_in (I4 m 13) 2100 ∧ (∀ I6 : xII, I6 = xup I4 (m + 6) (ix (I4 m 13)) f → (∀ I7 : xII, I7 = xup I6 (m + 7) (ix (I4 m 13)) n → (∀ I8 : xII, I8 = xup I7 (m + 8) (ix (I4 m 13)) (I4 (m + 9) (ix (irem_ (((v1 * (7 : Int32)) + (v2 * (3 : Int32))) + n) (64 : Int32)))) → (∀ I9 : xII, I9 = xup I8 (m + 9) (ix (irem_ (((v1 * (7 : Int32)) + (v2 * (3 : Int32))) + n) (64 : Int32))) (I4 m 13) → (∀ I10 : xII, I10 = xup I9 m 13 ((I4 m 13) + (1 : Int32)) → (Q (((I4 m 13) + (1 : Int32)) - (1 : Int32)) I10))))))) ∧ (¬ y4_4 = (-1 : Int32) → vp_in y4_4 2100 ∧ (∃ L12 : Nat → Int32 → Int32 → xII → Prop, (∃ n12 : Nat, L12 n12 (if (I4 (m + 7) (ix y4_4)) = n then (1 : Int32) else (0 : Int32)) (0 : Int32) I4) ∧ (∀ (n12 : Nat) (y12_5 : Int32) (y12_6 : Int32) (I12 : xII), L12 n12 y12_5 y12_6 I12 → ∃ J13 : Prop, (J13 → ((y12_5 = 0 → (∃ q4 : Nat, q4 < n4 ∧ L4 q4 (I12 (m + 8) (ix y4_4)) I12)) ∧ (¬ y12_5 = 0 → Q y4_4 I12))) ∧ ((n ≤ y12_6 → J13) ∧ (¬ n ≤ y12_6 → ((y12_5 = 0 → J13) ∧ (¬ y12_5 = 0 → ∃ R14 : Int32 → xII → Prop, w_X13_at m ((I12 (m + 6) (ix y4_4)) + y12_6) R14 I12 ∧ (∀ (v14 : Int32) (I14 : xII), R14 v14 I14 → (∃ R15 : Int32 → xII → Prop, w_X13_at m (f + y12_6) R15 I14 ∧ (∀ (v15 : Int32) (I15 : xII), R15 v15 I15 → ((∃ q12 : Nat, q12 < n12 ∧ L12 q12 (if v14 = v15 then (1 : Int32) else (0 : Int32)) (y12_6 + (1 : Int32)) I15)))))))))))))))))))
theorem m_X13_nameOf (hG : xOK G) {dp : Nat} {A : xA} {m : Nat} (hM : xMo G A m) {f : Int32} {n : Int32} {Q : Int32 → xII → Prop} {I : xII} (h : w_X13_nameOf m f n Q I) : MX G (dp + 1) kX13_nameOf [.ref m, .int f, .int n] (A.wI I) (oI A Q) := by
  unfold w_X13_nameOf at h
  refine MX.of rfl (Nat.le_of_ble_eq_true rfl) ?_
  change X _ _ _ _ _ _ [some (.ref m), some (.int f), some (.int n), none, none, none, none] _
  refine x_aload_n dX13_nameOf_0 rfl ?_
  refine x_iload_n dX13_nameOf_1 rfl ?_
  obtain ⟨R1, g1, h⟩ := h
  refine x_callV hG (Ky := kX13_at) (As := [.int f]) dX13_nameOf_2 (mo_t hM) rfl lk_X13_177 me_X13_at is_X13_at se_X13_at rfl rfl (Nat.le_of_ble_eq_true rfl) (MX.post (m_X13_at hG hM g1) ?_)
  rintro _ _ ⟨v1, I1, rfl, rfl, h1⟩
  replace h := h v1 I1 h1
  change X _ _ _ _ (A.wI I1) _ _ (.int v1 :: _)
  refine x_bipush_ (v := (7 : Int32)) dX13_nameOf_5 (by decide) ?_
  refine x_imul dX13_nameOf_7 ?_
  refine x_aload_n dX13_nameOf_8 rfl ?_
  refine x_iload_n dX13_nameOf_9 rfl ?_
  refine x_iload_n dX13_nameOf_10 rfl ?_
  refine x_iadd dX13_nameOf_11 ?_
  refine x_iconst_ (v := (1 : Int32)) dX13_nameOf_12 (by decide) ?_
  refine x_isub dX13_nameOf_13 ?_
  obtain ⟨R2, g2, h⟩ := h
  refine x_callV hG (Ky := kX13_at) (As := [.int ((f + n) - (1 : Int32))]) dX13_nameOf_14 (mo_t hM) rfl lk_X13_177 me_X13_at is_X13_at se_X13_at rfl rfl (Nat.le_of_ble_eq_true rfl) (MX.post (m_X13_at hG hM g2) ?_)
  rintro _ _ ⟨v2, I2, rfl, rfl, h1⟩
  replace h := h v2 I2 h1
  change X _ _ _ _ (A.wI I2) _ _ (.int v2 :: _)
  refine x_iconst_ (v := (3 : Int32)) dX13_nameOf_17 (by decide) ?_
  refine x_imul dX13_nameOf_18 ?_
  refine x_iadd dX13_nameOf_19 ?_
  refine x_iload_n dX13_nameOf_20 rfl ?_
  refine x_iadd dX13_nameOf_21 ?_
  refine x_bipush_ (v := (64 : Int32)) dX13_nameOf_22 (by decide) ?_
  refine x_irem dX13_nameOf_24 (by decide) ?_
  refine x_eqi (v := (irem_ (((v1 * (7 : Int32)) + (v2 * (3 : Int32))) + n) (64 : Int32))) rfl ?_
  refine x_istore_n dX13_nameOf_25 (by decide) ?_
  refine x_aload_n dX13_nameOf_26 rfl ?_
  refine x_get (v := .ref (m + 9)) hG dX13_nameOf_27 f_X13_34_12 (mo_t hM) (congrArg va_rf (mo_P12 hM)) ?_
  refine x_iload_n dX13_nameOf_30 rfl ?_
  obtain ⟨o3, h⟩ := h
  refine y_iald hG dX13_nameOf_31 (mo_t12 hM) (mo_n12 hM) o3 ?_
  refine x_istore dX13_nameOf_32 (by decide) ?_
  obtain ⟨L4, ⟨n4, i4⟩, g4⟩ := h
  have kl4 : ∀ n4 : Nat, ∀ (y4_4 : Int32) (I4 : xII), L4 n4 y4_4 I4 → X G (dp + 1) kX13_nameOf (oI A Q) (A.wI I4) 34 [some (.ref m), some (.int f), some (.int n), some (.int (irem_ (((v1 * (7 : Int32)) + (v2 * (3 : Int32))) + n) (64 : Int32))), some (.int y4_4), none, none] [] := by
    intro n4
    induction n4 using Nat.strongRecOn with
    | ind n4 ih4 =>
      intro y4_4 I4 h
      replace h := g4 n4 y4_4 I4 h
      refine x_iload dX13_nameOf_34 rfl ?_
      refine x_iconst_ (v := (-1 : Int32)) dX13_nameOf_36 (by decide) ?_
      refine x_icmp_eq (tgt := 130) dX13_nameOf_37 (by decide) (fun c37 => ?_) (fun c37 => ?_)
      · replace h := h.1 c37
        refine x_aload_n dX13_nameOf_130 rfl ?_
        refine x_get (v := .ref (m + 6)) hG dX13_nameOf_131 f_X13_25_12 (mo_t hM) (congrArg va_rf (mo_P9 hM)) ?_
        refine x_aload_n dX13_nameOf_134 rfl ?_
        refine x_get (v := .int (I4 m 13)) hG dX13_nameOf_135 f_X13_181_12 (mo_t hM) rfl ?_
        refine x_iload_n dX13_nameOf_138 rfl ?_
        obtain ⟨o5, h⟩ := h
        refine y_iast hG dX13_nameOf_139 (mo_t9 hM) (mo_aN hM) (mo_n9 hM) o5 (fun I6 e6 => ?_)
        replace h := h I6 e6
        refine x_aload_n dX13_nameOf_140 rfl ?_
        refine x_get (v := .ref (m + 7)) hG dX13_nameOf_141 f_X13_28_12 (mo_t hM) (congrArg va_rf (mo_P10 hM)) ?_
        refine x_aload_n dX13_nameOf_144 rfl ?_
        refine x_get (v := .int (I6 m 13)) hG dX13_nameOf_145 f_X13_181_12 (mo_t hM) rfl ?_
        refine x_eqi (v := (I4 m 13)) (xup_ra e6 (by omega)) ?_
        refine x_iload_n dX13_nameOf_148 rfl ?_
        refine y_iast hG dX13_nameOf_149 (mo_t10 hM) (mo_aN hM) (mo_n10 hM) o5 (fun I7 e7 => ?_)
        replace h := h I7 e7
        refine x_aload_n dX13_nameOf_150 rfl ?_
        refine x_get (v := .ref (m + 8)) hG dX13_nameOf_151 f_X13_31_12 (mo_t hM) (congrArg va_rf (mo_P11 hM)) ?_
        refine x_aload_n dX13_nameOf_154 rfl ?_
        refine x_get (v := .int (I7 m 13)) hG dX13_nameOf_155 f_X13_181_12 (mo_t hM) rfl ?_
        refine x_eqi (v := (I4 m 13)) ((xup_ra e7 (by omega)).trans (xup_ra e6 (by omega))) ?_
        refine x_aload_n dX13_nameOf_158 rfl ?_
        refine x_get (v := .ref (m + 9)) hG dX13_nameOf_159 f_X13_34_12 (mo_t hM) (congrArg va_rf (mo_P12 hM)) ?_
        refine x_iload_n dX13_nameOf_162 rfl ?_
        refine y_iald hG dX13_nameOf_163 (mo_t12 hM) (mo_n12 hM) o3 ?_
        refine x_eqi (v := (I4 (m + 9) (ix (irem_ (((v1 * (7 : Int32)) + (v2 * (3 : Int32))) + n) (64 : Int32))))) ((xup_ra e7 (by omega)).trans (xup_ra e6 (by omega))) ?_
        refine y_iast hG dX13_nameOf_164 (mo_t11 hM) (mo_aN hM) (mo_n11 hM) o5 (fun I8 e8 => ?_)
        replace h := h I8 e8
        refine x_aload_n dX13_nameOf_165 rfl ?_
        refine x_get (v := .ref (m + 9)) hG dX13_nameOf_166 f_X13_34_12 (mo_t hM) (congrArg va_rf (mo_P12 hM)) ?_
        refine x_iload_n dX13_nameOf_169 rfl ?_
        refine x_aload_n dX13_nameOf_170 rfl ?_
        refine x_get (v := .int (I8 m 13)) hG dX13_nameOf_171 f_X13_181_12 (mo_t hM) rfl ?_
        refine x_eqi (v := (I4 m 13)) ((xup_ra e8 (by omega)).trans ((xup_ra e7 (by omega)).trans (xup_ra e6 (by omega)))) ?_
        refine y_iast hG dX13_nameOf_174 (mo_t12 hM) (mo_aN hM) (mo_n12 hM) o3 (fun I9 e9 => ?_)
        replace h := h I9 e9
        refine x_aload_n dX13_nameOf_175 rfl ?_
        refine x_dup dX13_nameOf_176 rfl ?_
        refine x_get (v := .int (I9 m 13)) hG dX13_nameOf_177 f_X13_181_12 (mo_t hM) rfl ?_
        refine x_eqi (v := (I4 m 13)) ((xup_ra e9 (by omega)).trans ((xup_ra e8 (by omega)).trans ((xup_ra e7 (by omega)).trans (xup_ra e6 (by omega))))) ?_
        refine x_iconst_ (v := (1 : Int32)) dX13_nameOf_180 (by decide) ?_
        refine x_iadd dX13_nameOf_181 ?_
        refine y_put hG hM dX13_nameOf_182 f_X13_181_12 ⟨_, rfl, Or.inl rfl⟩ rfl rfl ⟨_, rfl⟩ (fun I10 e10 => ?_)
        replace h := h I10 e10
        refine x_aload_n dX13_nameOf_185 rfl ?_
        refine x_get (v := .int (I10 m 13)) hG dX13_nameOf_186 f_X13_181_12 (mo_t hM) rfl ?_
        refine x_eqi (v := ((I4 m 13) + (1 : Int32))) (xup_rs e10) ?_
        refine x_iconst_ (v := (1 : Int32)) dX13_nameOf_189 (by decide) ?_
        refine x_isub dX13_nameOf_190 ?_
        exact x_iret dX13_nameOf_191 rfl ⟨_, _, rfl, rfl, h⟩
      · replace h := h.2 c37
        refine x_aload_n dX13_nameOf_40 rfl ?_
        refine x_get (v := .ref (m + 7)) hG dX13_nameOf_41 f_X13_28_12 (mo_t hM) (congrArg va_rf (mo_P10 hM)) ?_
        refine x_iload dX13_nameOf_44 rfl ?_
        obtain ⟨o11, h⟩ := h
        refine y_iald hG dX13_nameOf_46 (mo_t10 hM) (mo_n10 hM) o11 ?_
        refine x_iload_n dX13_nameOf_47 rfl ?_
        refine x_via 56 (A' := (A.wI I4)) (lv' := [some (.ref m), some (.int f), some (.int n), some (.int (irem_ (((v1 * (7 : Int32)) + (v2 * (3 : Int32))) + n) (64 : Int32))), some (.int y4_4), none, none]) (st' := [.int (if (I4 (m + 7) (ix y4_4)) = n then (1 : Int32) else (0 : Int32))]) ?_ (fun k56 => ?_)
        rotate_left
        · refine x_icmp_ne (tgt := 55) dX13_nameOf_48 (by decide) (fun c48 => ?_) (fun c48 => ?_)
          · refine x_iconst_ (v := (0 : Int32)) dX13_nameOf_55 (by decide) ?_
            change X _ _ _ _ _ _ [some (.ref m), some (.int f), some (.int n), some (.int (irem_ (((v1 * (7 : Int32)) + (v2 * (3 : Int32))) + n) (64 : Int32))), some (.int y4_4), none, none] [.int (0 : Int32)]
            simp only [if_neg c48] at k56 ⊢
            exact X.weak (xle_c rfl (xle_c rfl (xle_c rfl (xle_c rfl (xle_c rfl (xle_n (xle_n xle_nil))))))) k56
          · refine x_iconst_ (v := (1 : Int32)) dX13_nameOf_51 (by decide) ?_
            refine x_goto (tgt := 56) dX13_nameOf_52 (by decide) ?_
            change X _ _ _ _ _ _ [some (.ref m), some (.int f), some (.int n), some (.int (irem_ (((v1 * (7 : Int32)) + (v2 * (3 : Int32))) + n) (64 : Int32))), some (.int y4_4), none, none] [.int (1 : Int32)]
            simp only [if_pos c48] at k56 ⊢
            exact X.weak (xle_c rfl (xle_c rfl (xle_c rfl (xle_c rfl (xle_c rfl (xle_n (xle_n xle_nil))))))) k56
        refine x_istore dX13_nameOf_56 (by decide) ?_
        refine x_iconst_ (v := (0 : Int32)) dX13_nameOf_58 (by decide) ?_
        refine x_istore dX13_nameOf_59 (by decide) ?_
        obtain ⟨L12, ⟨n12, i12⟩, g12⟩ := h
        have kl12 : ∀ n12 : Nat, ∀ (y12_5 : Int32) (y12_6 : Int32) (I12 : xII), L12 n12 y12_5 y12_6 I12 → X G (dp + 1) kX13_nameOf (oI A Q) (A.wI I12) 61 [some (.ref m), some (.int f), some (.int n), some (.int (irem_ (((v1 * (7 : Int32)) + (v2 * (3 : Int32))) + n) (64 : Int32))), some (.int y4_4), some (.int y12_5), some (.int y12_6)] [] := by
          intro n12
          induction n12 using Nat.strongRecOn with
          | ind n12 ih12 =>
            intro y12_5 y12_6 I12 h
            replace h := g12 n12 y12_5 y12_6 I12 h
            refine x_iload dX13_nameOf_61 rfl ?_
            refine x_iload_n dX13_nameOf_63 rfl ?_
            obtain ⟨J13, g13, h⟩ := h
            have kj13 : J13 → X G (dp + 1) kX13_nameOf (oI A Q) (A.wI I12) 110 [some (.ref m), some (.int f), some (.int n), some (.int (irem_ (((v1 * (7 : Int32)) + (v2 * (3 : Int32))) + n) (64 : Int32))), some (.int y4_4), some (.int y12_5), none] [] := by
              intro h
              replace h := g13 h
              refine x_iload dX13_nameOf_110 rfl ?_
              refine x_if_eq (tgt := 118) dX13_nameOf_112 (by decide) (fun c112 => ?_) (fun c112 => ?_)
              · replace h := h.1 c112
                refine x_aload_n dX13_nameOf_118 rfl ?_
                refine x_get (v := .ref (m + 8)) hG dX13_nameOf_119 f_X13_31_12 (mo_t hM) (congrArg va_rf (mo_P11 hM)) ?_
                refine x_iload dX13_nameOf_122 rfl ?_
                refine y_iald hG dX13_nameOf_124 (mo_t11 hM) (mo_n11 hM) o11 ?_
                refine x_istore dX13_nameOf_125 (by decide) ?_
                refine x_goto (tgt := 34) dX13_nameOf_127 (by decide) ?_
                obtain ⟨q4, l4, h⟩ := h
                change X _ _ _ _ _ _ [some (.ref m), some (.int f), some (.int n), some (.int (irem_ (((v1 * (7 : Int32)) + (v2 * (3 : Int32))) + n) (64 : Int32))), some (.int (I12 (m + 8) (ix y4_4))), some (.int y12_5), none] []
                exact X.weak (xle_c rfl (xle_c rfl (xle_c rfl (xle_c rfl (xle_c rfl (xle_n (xle_n xle_nil))))))) (ih4 q4 l4 (I12 (m + 8) (ix y4_4)) I12 h)
              · replace h := h.2 c112
                refine x_iload dX13_nameOf_115 rfl ?_
                exact x_iret dX13_nameOf_117 rfl ⟨_, _, rfl, rfl, h⟩
            refine x_icmp_ge (tgt := 110) dX13_nameOf_64 (by decide) (fun c64 => ?_) (fun c64 => ?_)
            · replace h := h.1 c64
              change X _ _ _ _ _ _ [some (.ref m), some (.int f), some (.int n), some (.int (irem_ (((v1 * (7 : Int32)) + (v2 * (3 : Int32))) + n) (64 : Int32))), some (.int y4_4), some (.int y12_5), some (.int y12_6)] []
              exact X.weak (xle_c rfl (xle_c rfl (xle_c rfl (xle_c rfl (xle_c rfl (xle_c rfl (xle_n xle_nil))))))) (kj13 h)
            · replace h := h.2 c64
              refine x_iload dX13_nameOf_67 rfl ?_
              refine x_if_eq (tgt := 110) dX13_nameOf_69 (by decide) (fun c69 => ?_) (fun c69 => ?_)
              · replace h := h.1 c69
                change X _ _ _ _ _ _ [some (.ref m), some (.int f), some (.int n), some (.int (irem_ (((v1 * (7 : Int32)) + (v2 * (3 : Int32))) + n) (64 : Int32))), some (.int y4_4), some (.int y12_5), some (.int y12_6)] []
                exact X.weak (xle_c rfl (xle_c rfl (xle_c rfl (xle_c rfl (xle_c rfl (xle_c rfl (xle_n xle_nil))))))) (kj13 h)
              · replace h := h.2 c69
                refine x_aload_n dX13_nameOf_72 rfl ?_
                refine x_aload_n dX13_nameOf_73 rfl ?_
                refine x_get (v := .ref (m + 6)) hG dX13_nameOf_74 f_X13_25_12 (mo_t hM) (congrArg va_rf (mo_P9 hM)) ?_
                refine x_iload dX13_nameOf_77 rfl ?_
                refine y_iald hG dX13_nameOf_79 (mo_t9 hM) (mo_n9 hM) o11 ?_
                refine x_iload dX13_nameOf_80 rfl ?_
                refine x_iadd dX13_nameOf_82 ?_
                obtain ⟨R14, g14, h⟩ := h
                refine x_callV hG (Ky := kX13_at) (As := [.int ((I12 (m + 6) (ix y4_4)) + y12_6)]) dX13_nameOf_83 (mo_t hM) rfl lk_X13_177 me_X13_at is_X13_at se_X13_at rfl rfl (Nat.le_of_ble_eq_true rfl) (MX.post (m_X13_at hG hM g14) ?_)
                rintro _ _ ⟨v14, I14, rfl, rfl, h1⟩
                replace h := h v14 I14 h1
                change X _ _ _ _ (A.wI I14) _ _ (.int v14 :: _)
                refine x_aload_n dX13_nameOf_86 rfl ?_
                refine x_iload_n dX13_nameOf_87 rfl ?_
                refine x_iload dX13_nameOf_88 rfl ?_
                refine x_iadd dX13_nameOf_90 ?_
                obtain ⟨R15, g15, h⟩ := h
                refine x_callV hG (Ky := kX13_at) (As := [.int (f + y12_6)]) dX13_nameOf_91 (mo_t hM) rfl lk_X13_177 me_X13_at is_X13_at se_X13_at rfl rfl (Nat.le_of_ble_eq_true rfl) (MX.post (m_X13_at hG hM g15) ?_)
                rintro _ _ ⟨v15, I15, rfl, rfl, h1⟩
                replace h := h v15 I15 h1
                change X _ _ _ _ (A.wI I15) _ _ (.int v15 :: _)
                refine x_via 102 (A' := (A.wI I15)) (lv' := [some (.ref m), some (.int f), some (.int n), some (.int (irem_ (((v1 * (7 : Int32)) + (v2 * (3 : Int32))) + n) (64 : Int32))), some (.int y4_4), none, some (.int y12_6)]) (st' := [.int (if v14 = v15 then (1 : Int32) else (0 : Int32))]) ?_ (fun k102 => ?_)
                rotate_left
                · refine x_icmp_ne (tgt := 101) dX13_nameOf_94 (by decide) (fun c94 => ?_) (fun c94 => ?_)
                  · refine x_iconst_ (v := (0 : Int32)) dX13_nameOf_101 (by decide) ?_
                    change X _ _ _ _ _ _ [some (.ref m), some (.int f), some (.int n), some (.int (irem_ (((v1 * (7 : Int32)) + (v2 * (3 : Int32))) + n) (64 : Int32))), some (.int y4_4), some (.int y12_5), some (.int y12_6)] [.int (0 : Int32)]
                    simp only [if_neg c94] at k102 ⊢
                    exact X.weak (xle_c rfl (xle_c rfl (xle_c rfl (xle_c rfl (xle_c rfl (xle_n (xle_c rfl xle_nil))))))) k102
                  · refine x_iconst_ (v := (1 : Int32)) dX13_nameOf_97 (by decide) ?_
                    refine x_goto (tgt := 102) dX13_nameOf_98 (by decide) ?_
                    change X _ _ _ _ _ _ [some (.ref m), some (.int f), some (.int n), some (.int (irem_ (((v1 * (7 : Int32)) + (v2 * (3 : Int32))) + n) (64 : Int32))), some (.int y4_4), some (.int y12_5), some (.int y12_6)] [.int (1 : Int32)]
                    simp only [if_pos c94] at k102 ⊢
                    exact X.weak (xle_c rfl (xle_c rfl (xle_c rfl (xle_c rfl (xle_c rfl (xle_n (xle_c rfl xle_nil))))))) k102
                refine x_istore dX13_nameOf_102 (by decide) ?_
                refine x_iinc (v := (y12_6 + (1 : Int32))) dX13_nameOf_104 rfl rfl (by decide) ?_
                refine x_goto (tgt := 61) dX13_nameOf_107 (by decide) ?_
                obtain ⟨q12, l12, h⟩ := h
                change X _ _ _ _ _ _ [some (.ref m), some (.int f), some (.int n), some (.int (irem_ (((v1 * (7 : Int32)) + (v2 * (3 : Int32))) + n) (64 : Int32))), some (.int y4_4), some (.int (if v14 = v15 then (1 : Int32) else (0 : Int32))), some (.int (y12_6 + (1 : Int32)))] []
                exact X.weak (xle_c rfl (xle_c rfl (xle_c rfl (xle_c rfl (xle_c rfl (xle_c rfl (xle_c rfl xle_nil))))))) (ih12 q12 l12 (if v14 = v15 then (1 : Int32) else (0 : Int32)) (y12_6 + (1 : Int32)) I15 h)
        change X _ _ _ _ _ _ [some (.ref m), some (.int f), some (.int n), some (.int (irem_ (((v1 * (7 : Int32)) + (v2 * (3 : Int32))) + n) (64 : Int32))), some (.int y4_4), some (.int (if (I4 (m + 7) (ix y4_4)) = n then (1 : Int32) else (0 : Int32))), some (.int (0 : Int32))] []
        exact X.weak (xle_c rfl (xle_c rfl (xle_c rfl (xle_c rfl (xle_c rfl (xle_c rfl (xle_c rfl xle_nil))))))) (kl12 n12 (if (I4 (m + 7) (ix y4_4)) = n then (1 : Int32) else (0 : Int32)) (0 : Int32) I4 i12)
  change X _ _ _ _ _ _ [some (.ref m), some (.int f), some (.int n), some (.int (irem_ (((v1 * (7 : Int32)) + (v2 * (3 : Int32))) + n) (64 : Int32))), some (.int (I2 (m + 9) (ix (irem_ (((v1 * (7 : Int32)) + (v2 * (3 : Int32))) + n) (64 : Int32))))), none, none] []
  exact X.weak (xle_c rfl (xle_c rfl (xle_c rfl (xle_c rfl (xle_c rfl (xle_n (xle_n xle_nil))))))) (kl4 n4 (I2 (m + 9) (ix (irem_ (((v1 * (7 : Int32)) + (v2 * (3 : Int32))) + n) (64 : Int32)))) I2 i4)
def w_X13_token (m : Nat) (k : Int32) (v : Int32) (f : Int32) (Q : xII → Prop) (I : xII) : Prop := vp_in (I m 7) 4002 ∧ (∀ I2 : xII, I2 = xup I (m + 3) (ix (I m 7)) k → (∀ I3 : xII, I3 = xup I2 (m + 4) (ix (I m 7)) v → (∀ I4 : xII, I4 = xup I3 (m + 5) (ix (I m 7)) f → (∀ I5 : xII, I5 = xup I4 m 7 ((I m 7) + (1 : Int32)) → (Q I5)))))
theorem m_X13_token (hG : xOK G) {dp : Nat} {A : xA} {m : Nat} (hM : xMo G A m) {k : Int32} {v : Int32} {f : Int32} {Q : xII → Prop} {I : xII} (h : w_X13_token m k v f Q I) : MX G (dp + 0) kX13_token [.ref m, .int k, .int v, .int f] (A.wI I) (oV A Q) := by
  unfold w_X13_token at h
  refine MX.of rfl (Nat.le_of_ble_eq_true rfl) ?_
  change X _ _ _ _ _ _ [some (.ref m), some (.int k), some (.int v), some (.int f)] _
  refine x_aload_n dX13_token_0 rfl ?_
  refine x_get (v := .ref (m + 3)) hG dX13_token_1 f_X13_16_12 (mo_t hM) (congrArg va_rf (mo_P4 hM)) ?_
  refine x_aload_n dX13_token_4 rfl ?_
  refine x_get (v := .int (I m 7)) hG dX13_token_5 f_X13_187_12 (mo_t hM) rfl ?_
  refine x_iload_n dX13_token_8 rfl ?_
  obtain ⟨o1, h⟩ := h
  refine y_iast hG dX13_token_9 (mo_t4 hM) (mo_aN hM) (mo_n4 hM) o1 (fun I2 e2 => ?_)
  replace h := h I2 e2
  refine x_aload_n dX13_token_10 rfl ?_
  refine x_get (v := .ref (m + 4)) hG dX13_token_11 f_X13_19_12 (mo_t hM) (congrArg va_rf (mo_P5 hM)) ?_
  refine x_aload_n dX13_token_14 rfl ?_
  refine x_get (v := .int (I2 m 7)) hG dX13_token_15 f_X13_187_12 (mo_t hM) rfl ?_
  refine x_eqi (v := (I m 7)) (xup_ra e2 (by omega)) ?_
  refine x_iload_n dX13_token_18 rfl ?_
  refine y_iast hG dX13_token_19 (mo_t5 hM) (mo_aN hM) (mo_n5 hM) o1 (fun I3 e3 => ?_)
  replace h := h I3 e3
  refine x_aload_n dX13_token_20 rfl ?_
  refine x_get (v := .ref (m + 5)) hG dX13_token_21 f_X13_22_12 (mo_t hM) (congrArg va_rf (mo_P6 hM)) ?_
  refine x_aload_n dX13_token_24 rfl ?_
  refine x_get (v := .int (I3 m 7)) hG dX13_token_25 f_X13_187_12 (mo_t hM) rfl ?_
  refine x_eqi (v := (I m 7)) ((xup_ra e3 (by omega)).trans (xup_ra e2 (by omega))) ?_
  refine x_iload_n dX13_token_28 rfl ?_
  refine y_iast hG dX13_token_29 (mo_t6 hM) (mo_aN hM) (mo_n6 hM) o1 (fun I4 e4 => ?_)
  replace h := h I4 e4
  refine x_aload_n dX13_token_30 rfl ?_
  refine x_dup dX13_token_31 rfl ?_
  refine x_get (v := .int (I4 m 7)) hG dX13_token_32 f_X13_187_12 (mo_t hM) rfl ?_
  refine x_eqi (v := (I m 7)) ((xup_ra e4 (by omega)).trans ((xup_ra e3 (by omega)).trans (xup_ra e2 (by omega)))) ?_
  refine x_iconst_ (v := (1 : Int32)) dX13_token_35 (by decide) ?_
  refine x_iadd dX13_token_36 ?_
  refine y_put hG hM dX13_token_37 f_X13_187_12 ⟨_, rfl, Or.inl rfl⟩ rfl rfl ⟨_, rfl⟩ (fun I5 e5 => ?_)
  replace h := h I5 e5
  exact x_vret dX13_token_40 rfl ⟨_, rfl, rfl, h⟩
def w_X13_numberToken (m : Nat) (k : Int32) (Q : Int32 → xII → Prop) (I : xII) : Prop := ∃ R1 : Int32 → xII → Prop, w_X13_at m k R1 I ∧ (∀ (v1 : Int32) (I1 : xII), R1 v1 I1 → (∃ J2 : Int32 → xII → Prop, (∀ (y2_s0 : Int32) (I2 : xII), J2 y2_s0 I2 → ∃ L3 : Nat → Int32 → Int64 → xII → Prop, (∃ n3 : Nat, L3 n3 (if y2_s0 = 0 then k else (k + (2 : Int32))) (0 : Int64) I2) ∧ (∀ (n3 : Nat) (y3_3 : Int32) (y3_5 : Int64) (I3 : xII), L3 n3 y3_3 y3_5 I3 → ∃ J4 : xII → Prop, (∀ (I4 : xII), J4 I4 → (((y3_3 - (if y2_s0 = 0 then k else (k + (2 : Int32)))) < (1 : Int32) → Q (-1 : Int32) I4) ∧ (¬ (y3_3 - (if y2_s0 = 0 then k else (k + (2 : Int32)))) < (1 : Int32) → (((if y2_s0 = 0 then (10 : Int32) else (8 : Int32)) < (y3_3 - (if y2_s0 = 0 then k else (k + (2 : Int32)))) → Q (-1 : Int32) I4) ∧ (¬ (if y2_s0 = 0 then (10 : Int32) else (8 : Int32)) < (y3_3 - (if y2_s0 = 0 then k else (k + (2 : Int32)))) → ((0 < (lg_cmp y3_5 (4294967295 : Int64)) → Q (-1 : Int32) I4) ∧ (¬ 0 < (lg_cmp y3_5 (4294967295 : Int64)) → ∃ R5 : Int32 → xII → Prop, w_X13_at m y3_3 R5 I4 ∧ (∀ (v5 : Int32) (I5 : xII), R5 v5 I5 → ((((f_X13_isInner v5) = 0 → ∃ R6 : xII → Prop, w_X13_token m (3 : Int32) y3_5.toInt32 k R6 I5 ∧ (∀ I6 : xII, R6 I6 → (Q y3_3 I6))) ∧ (¬ (f_X13_isInner v5) = 0 → Q (-1 : Int32) I5))))))))))) ∧ ((y2_s0 = 0 → ∃ R7 : Int32 → xII → Prop, w_X13_at m y3_3 R7 I3 ∧ (∀ (v7 : Int32) (I7 : xII), R7 v7 I7 → ((((f_X13_isDigit v7) = 0 → J4 I7) ∧ (¬ (f_X13_isDigit v7) = 0 → ∃ J8 : Int64 → xII → Prop, (∀ (y8_s0 : Int64) (I8 : xII), J8 y8_s0 I8 → (∃ q3 : Nat, q3 < n3 ∧ L3 q3 (y3_3 + (1 : Int32)) y8_s0 I8)) ∧ (((10 : Int32) ≤ (y3_3 - (if y2_s0 = 0 then k else (k + (2 : Int32)))) → J8 y3_5 I7) ∧ (¬ (10 : Int32) ≤ (y3_3 - (if y2_s0 = 0 then k else (k + (2 : Int32)))) → ∃ R9 : Int32 → xII → Prop, w_X13_at m y3_3 R9 I7 ∧ (∀ (v9 : Int32) (I9 : xII), R9 v9 I9 → (J8 ((y3_5 * (10 : Int64)) + (f_X13_hex v9).toInt64) I9))))))))) ∧ (¬ y2_s0 = 0 → ∃ R10 : Int32 → xII → Prop, w_X13_at m y3_3 R10 I3 ∧ (∀ (v10 : Int32) (I10 : xII), R10 v10 I10 → ((((16 : Int32) ≤ (f_X13_hex v10) → J4 I10) ∧ (¬ (16 : Int32) ≤ (f_X13_hex v10) → ∃ J11 : Int64 → xII → Prop, (∀ (y11_s0 : Int64) (I11 : xII), J11 y11_s0 I11 → (∃ q3 : Nat, q3 < n3 ∧ L3 q3 (y3_3 + (1 : Int32)) y11_s0 I11)) ∧ (((10 : Int32) ≤ (y3_3 - (if y2_s0 = 0 then k else (k + (2 : Int32)))) → J11 y3_5 I10) ∧ (¬ (10 : Int32) ≤ (y3_3 - (if y2_s0 = 0 then k else (k + (2 : Int32)))) → ∃ R12 : Int32 → xII → Prop, w_X13_at m y3_3 R12 I10 ∧ (∀ (v12 : Int32) (I12 : xII), R12 v12 I12 → (J11 ((y3_5 * (16 : Int64)) + (f_X13_hex v12).toInt64) I12)))))))))))) ∧ ((v1 = (48 : Int32) → ∃ R13 : Int32 → xII → Prop, w_X13_at m (k + (1 : Int32)) R13 I1 ∧ (∀ (v13 : Int32) (I13 : xII), R13 v13 I13 → (((v13 = (120 : Int32) → J2 (1 : Int32) I13) ∧ (¬ v13 = (120 : Int32) → J2 (0 : Int32) I13))))) ∧ (¬ v1 = (48 : Int32) → J2 (0 : Int32) I1))))
theorem m_X13_numberToken (hG : xOK G) {dp : Nat} {A : xA} {m : Nat} (hM : xMo G A m) {k : Int32} {Q : Int32 → xII → Prop} {I : xII} (h : w_X13_numberToken m k Q I) : MX G (dp + 2) kX13_numberToken [.ref m, .int k] (A.wI I) (oI A Q) := by
  unfold w_X13_numberToken at h
  refine MX.of rfl (Nat.le_of_ble_eq_true rfl) ?_
  change X _ _ _ _ _ _ [some (.ref m), some (.int k), none, none, none, none, none, none] _
  refine x_aload_n dX13_numberToken_0 rfl ?_
  refine x_iload_n dX13_numberToken_1 rfl ?_
  obtain ⟨R1, g1, h⟩ := h
  refine x_callV hG (Ky := kX13_at) (As := [.int k]) dX13_numberToken_2 (mo_t hM) rfl lk_X13_177 me_X13_at is_X13_at se_X13_at rfl rfl (Nat.le_of_ble_eq_true rfl) (MX.post (m_X13_at hG hM g1) ?_)
  rintro _ _ ⟨v1, I1, rfl, rfl, h1⟩
  replace h := h v1 I1 h1
  change X _ _ _ _ (A.wI I1) _ _ (.int v1 :: _)
  refine x_bipush_ (v := (48 : Int32)) dX13_numberToken_5 (by decide) ?_
  obtain ⟨J2, g2, h⟩ := h
  have kj2 : ∀ (y2_s0 : Int32) (I2 : xII), J2 y2_s0 I2 → X G (dp + 2) kX13_numberToken (oI A Q) (A.wI I2) 27 [some (.ref m), some (.int k), none, none, none, none, none, none] [.int y2_s0] := by
    intro y2_s0 I2 h
    replace h := g2 y2_s0 I2 h
    refine x_istore_n dX13_numberToken_27 (by decide) ?_
    refine x_iload_n dX13_numberToken_28 rfl ?_
    refine x_via 39 (A' := (A.wI I2)) (lv' := [some (.ref m), some (.int k), some (.int y2_s0), none, none, none, none, none]) (st' := [.int (if y2_s0 = 0 then k else (k + (2 : Int32)))]) ?_ (fun k39 => ?_)
    rotate_left
    · refine x_if_eq (tgt := 38) dX13_numberToken_29 (by decide) (fun c29 => ?_) (fun c29 => ?_)
      · refine x_iload_n dX13_numberToken_38 rfl ?_
        change X _ _ _ _ _ _ [some (.ref m), some (.int k), some (.int y2_s0), none, none, none, none, none] [.int k]
        simp only [if_pos c29] at k39 ⊢
        exact X.weak (xle_c rfl (xle_c rfl (xle_c rfl (xle_n (xle_n (xle_n (xle_n (xle_n xle_nil)))))))) k39
      · refine x_iload_n dX13_numberToken_32 rfl ?_
        refine x_iconst_ (v := (2 : Int32)) dX13_numberToken_33 (by decide) ?_
        refine x_iadd dX13_numberToken_34 ?_
        refine x_goto (tgt := 39) dX13_numberToken_35 (by decide) ?_
        change X _ _ _ _ _ _ [some (.ref m), some (.int k), some (.int y2_s0), none, none, none, none, none] [.int (k + (2 : Int32))]
        simp only [if_neg c29] at k39 ⊢
        exact X.weak (xle_c rfl (xle_c rfl (xle_c rfl (xle_n (xle_n (xle_n (xle_n (xle_n xle_nil)))))))) k39
    refine x_istore_n dX13_numberToken_39 (by decide) ?_
    refine x_iload_n dX13_numberToken_40 rfl ?_
    refine x_istore dX13_numberToken_41 (by decide) ?_
    refine x_lconst_ (v := (0 : Int64)) dX13_numberToken_43 (by decide) ?_
    refine x_lstore dX13_numberToken_44 (by decide) ?_
    obtain ⟨L3, ⟨n3, i3⟩, g3⟩ := h
    have kl3 : ∀ n3 : Nat, ∀ (y3_3 : Int32) (y3_5 : Int64) (I3 : xII), L3 n3 y3_3 y3_5 I3 → X G (dp + 2) kX13_numberToken (oI A Q) (A.wI I3) 46 [some (.ref m), some (.int k), some (.int y2_s0), some (.int y3_3), some (.int (if y2_s0 = 0 then k else (k + (2 : Int32)))), some (.long y3_5), none, none] [] := by
      intro n3
      induction n3 using Nat.strongRecOn with
      | ind n3 ih3 =>
        intro y3_3 y3_5 I3 h
        replace h := g3 n3 y3_3 y3_5 I3 h
        refine x_iload_n dX13_numberToken_46 rfl ?_
        obtain ⟨J4, g4, h⟩ := h
        have kj4 : ∀ (I4 : xII), J4 I4 → X G (dp + 2) kX13_numberToken (oI A Q) (A.wI I4) 125 [some (.ref m), some (.int k), some (.int y2_s0), some (.int y3_3), some (.int (if y2_s0 = 0 then k else (k + (2 : Int32)))), some (.long y3_5), none, none] [] := by
          intro I4 h
          replace h := g4 I4 h
          refine x_iload_n dX13_numberToken_125 rfl ?_
          refine x_iload dX13_numberToken_126 rfl ?_
          refine x_isub dX13_numberToken_128 ?_
          refine x_istore dX13_numberToken_129 (by decide) ?_
          refine x_iload dX13_numberToken_131 rfl ?_
          refine x_iconst_ (v := (1 : Int32)) dX13_numberToken_133 (by decide) ?_
          refine x_icmp_lt (tgt := 173) dX13_numberToken_134 (by decide) (fun c134 => ?_) (fun c134 => ?_)
          · replace h := h.1 c134
            refine x_iconst_ (v := (-1 : Int32)) dX13_numberToken_173 (by decide) ?_
            exact x_iret dX13_numberToken_174 rfl ⟨_, _, rfl, rfl, h⟩
          · replace h := h.2 c134
            refine x_iload dX13_numberToken_137 rfl ?_
            refine x_iload_n dX13_numberToken_139 rfl ?_
            refine x_via 150 (A' := (A.wI I4)) (lv' := [some (.ref m), some (.int k), none, some (.int y3_3), none, some (.long y3_5), none, none]) (st' := [.int (if y2_s0 = 0 then (10 : Int32) else (8 : Int32)), .int (y3_3 - (if y2_s0 = 0 then k else (k + (2 : Int32))))]) ?_ (fun k150 => ?_)
            rotate_left
            · refine x_if_eq (tgt := 148) dX13_numberToken_140 (by decide) (fun c140 => ?_) (fun c140 => ?_)
              · refine x_bipush_ (v := (10 : Int32)) dX13_numberToken_148 (by decide) ?_
                change X _ _ _ _ _ _ [some (.ref m), some (.int k), some (.int y2_s0), some (.int y3_3), some (.int (if y2_s0 = 0 then k else (k + (2 : Int32)))), some (.long y3_5), none, some (.int (y3_3 - (if y2_s0 = 0 then k else (k + (2 : Int32)))))] [.int (10 : Int32), .int (y3_3 - (if y2_s0 = 0 then k else (k + (2 : Int32))))]
                simp only [if_pos c140] at k150 ⊢
                exact X.weak (xle_c rfl (xle_c rfl (xle_n (xle_c rfl (xle_n (xle_c rfl (xle_n (xle_n xle_nil)))))))) k150
              · refine x_bipush_ (v := (8 : Int32)) dX13_numberToken_143 (by decide) ?_
                refine x_goto (tgt := 150) dX13_numberToken_145 (by decide) ?_
                change X _ _ _ _ _ _ [some (.ref m), some (.int k), some (.int y2_s0), some (.int y3_3), some (.int (if y2_s0 = 0 then k else (k + (2 : Int32)))), some (.long y3_5), none, some (.int (y3_3 - (if y2_s0 = 0 then k else (k + (2 : Int32)))))] [.int (8 : Int32), .int (y3_3 - (if y2_s0 = 0 then k else (k + (2 : Int32))))]
                simp only [if_neg c140] at k150 ⊢
                exact X.weak (xle_c rfl (xle_c rfl (xle_n (xle_c rfl (xle_n (xle_c rfl (xle_n (xle_n xle_nil)))))))) k150
            refine x_icmp_gt (tgt := 173) dX13_numberToken_150 (by decide) (fun c150 => ?_) (fun c150 => ?_)
            · replace h := h.1 c150
              refine x_iconst_ (v := (-1 : Int32)) dX13_numberToken_173 (by decide) ?_
              exact x_iret dX13_numberToken_174 rfl ⟨_, _, rfl, rfl, h⟩
            · replace h := h.2 c150
              refine x_lload dX13_numberToken_153 rfl ?_
              refine x_ldc2 hG dX13_numberToken_155 q3356 ?_
              refine x_lcmp dX13_numberToken_158 ?_
              refine x_if_gt (tgt := 173) dX13_numberToken_159 (by decide) (fun c159 => ?_) (fun c159 => ?_)
              · replace h := h.1 c159
                refine x_iconst_ (v := (-1 : Int32)) dX13_numberToken_173 (by decide) ?_
                exact x_iret dX13_numberToken_174 rfl ⟨_, _, rfl, rfl, h⟩
              · replace h := h.2 c159
                refine x_aload_n dX13_numberToken_162 rfl ?_
                refine x_iload_n dX13_numberToken_163 rfl ?_
                obtain ⟨R5, g5, h⟩ := h
                refine x_callV hG (Ky := kX13_at) (As := [.int y3_3]) dX13_numberToken_164 (mo_t hM) rfl lk_X13_177 me_X13_at is_X13_at se_X13_at rfl rfl (Nat.le_of_ble_eq_true rfl) (MX.post (m_X13_at hG hM g5) ?_)
                rintro _ _ ⟨v5, I5, rfl, rfl, h1⟩
                replace h := h v5 I5 h1
                change X _ _ _ _ (A.wI I5) _ _ (.int v5 :: _)
                refine x_callS hG (Ky := kX13_isInner) (As := [.int v5]) dX13_numberToken_167 lk_X13_212 me_X13_isInner st_X13_isInner rfl rfl (Nat.le_of_ble_eq_true rfl) (MX.post (m_X13_isInner hG) ?_)
                rintro _ _ ⟨rfl, rfl⟩
                change X _ _ _ _ _ _ _ (.int (f_X13_isInner v5) :: _)
                refine x_if_eq (tgt := 175) dX13_numberToken_170 (by decide) (fun c170 => ?_) (fun c170 => ?_)
                · replace h := h.1 c170
                  refine x_aload_n dX13_numberToken_175 rfl ?_
                  refine x_iconst_ (v := (3 : Int32)) dX13_numberToken_176 (by decide) ?_
                  refine x_lload dX13_numberToken_177 rfl ?_
                  refine x_l2i dX13_numberToken_179 ?_
                  refine x_iload_n dX13_numberToken_180 rfl ?_
                  obtain ⟨R6, g6, h⟩ := h
                  refine x_callV hG (Ky := kX13_token) (As := [.int (3 : Int32), .int y3_5.toInt32, .int k]) dX13_numberToken_181 (mo_t hM) rfl lk_X13_208 me_X13_token is_X13_token se_X13_token rfl rfl (Nat.le_of_ble_eq_true rfl) (MX.post (m_X13_token hG hM g6) ?_)
                  rintro _ _ ⟨I6, rfl, rfl, h1⟩
                  replace h := h I6 h1
                  change X _ _ _ _ (A.wI I6) _ _ _
                  refine x_iload_n dX13_numberToken_184 rfl ?_
                  exact x_iret dX13_numberToken_185 rfl ⟨_, _, rfl, rfl, h⟩
                · replace h := h.2 c170
                  refine x_iconst_ (v := (-1 : Int32)) dX13_numberToken_173 (by decide) ?_
                  exact x_iret dX13_numberToken_174 rfl ⟨_, _, rfl, rfl, h⟩
        refine x_if_eq (tgt := 66) dX13_numberToken_47 (by decide) (fun c47 => ?_) (fun c47 => ?_)
        · replace h := h.1 c47
          refine x_aload_n dX13_numberToken_66 rfl ?_
          refine x_iload_n dX13_numberToken_67 rfl ?_
          obtain ⟨R7, g7, h⟩ := h
          refine x_callV hG (Ky := kX13_at) (As := [.int y3_3]) dX13_numberToken_68 (mo_t hM) rfl lk_X13_177 me_X13_at is_X13_at se_X13_at rfl rfl (Nat.le_of_ble_eq_true rfl) (MX.post (m_X13_at hG hM g7) ?_)
          rintro _ _ ⟨v7, I7, rfl, rfl, h1⟩
          replace h := h v7 I7 h1
          change X _ _ _ _ (A.wI I7) _ _ (.int v7 :: _)
          refine x_callS hG (Ky := kX13_isDigit) (As := [.int v7]) dX13_numberToken_71 lk_X13_164 me_X13_isDigit st_X13_isDigit rfl rfl (Nat.le_of_ble_eq_true rfl) (MX.post (m_X13_isDigit hG) ?_)
          rintro _ _ ⟨rfl, rfl⟩
          change X _ _ _ _ _ _ _ (.int (f_X13_isDigit v7) :: _)
          refine x_if_eq (tgt := 125) dX13_numberToken_74 (by decide) (fun c74 => ?_) (fun c74 => ?_)
          · replace h := h.1 c74
            change X _ _ _ _ _ _ [some (.ref m), some (.int k), some (.int y2_s0), some (.int y3_3), some (.int (if y2_s0 = 0 then k else (k + (2 : Int32)))), some (.long y3_5), none, none] []
            exact X.weak (xle_c rfl (xle_c rfl (xle_c rfl (xle_c rfl (xle_c rfl (xle_c rfl (xle_n (xle_n xle_nil)))))))) (kj4 I7 h)
          · replace h := h.2 c74
            refine x_iload_n dX13_numberToken_77 rfl ?_
            refine x_iload dX13_numberToken_78 rfl ?_
            refine x_isub dX13_numberToken_80 ?_
            refine x_bipush_ (v := (10 : Int32)) dX13_numberToken_81 (by decide) ?_
            obtain ⟨J8, g8, h⟩ := h
            have kj8 : ∀ (y8_s0 : Int64) (I8 : xII), J8 y8_s0 I8 → X G (dp + 2) kX13_numberToken (oI A Q) (A.wI I8) 117 [some (.ref m), some (.int k), some (.int y2_s0), some (.int y3_3), some (.int (if y2_s0 = 0 then k else (k + (2 : Int32)))), none, none, none] [.long y8_s0] := by
              intro y8_s0 I8 h
              replace h := g8 y8_s0 I8 h
              refine x_lstore dX13_numberToken_117 (by decide) ?_
              refine x_iinc (v := (y3_3 + (1 : Int32))) dX13_numberToken_119 rfl rfl (by decide) ?_
              refine x_goto (tgt := 46) dX13_numberToken_122 (by decide) ?_
              obtain ⟨q3, l3, h⟩ := h
              change X _ _ _ _ _ _ [some (.ref m), some (.int k), some (.int y2_s0), some (.int (y3_3 + (1 : Int32))), some (.int (if y2_s0 = 0 then k else (k + (2 : Int32)))), some (.long y8_s0), none, none] []
              exact X.weak (xle_c rfl (xle_c rfl (xle_c rfl (xle_c rfl (xle_c rfl (xle_c rfl (xle_n (xle_n xle_nil)))))))) (ih3 q3 l3 (y3_3 + (1 : Int32)) y8_s0 I8 h)
            refine x_icmp_ge (tgt := 115) dX13_numberToken_83 (by decide) (fun c83 => ?_) (fun c83 => ?_)
            · replace h := h.1 c83
              refine x_lload dX13_numberToken_115 rfl ?_
              change X _ _ _ _ _ _ [some (.ref m), some (.int k), some (.int y2_s0), some (.int y3_3), some (.int (if y2_s0 = 0 then k else (k + (2 : Int32)))), some (.long y3_5), none, none] [.long y3_5]
              exact X.weak (xle_c rfl (xle_c rfl (xle_c rfl (xle_c rfl (xle_c rfl (xle_n (xle_n (xle_n xle_nil)))))))) (kj8 y3_5 I7 h)
            · replace h := h.2 c83
              refine x_lload dX13_numberToken_86 rfl ?_
              refine x_iload_n dX13_numberToken_88 rfl ?_
              refine x_if_eq (tgt := 98) dX13_numberToken_89 (by decide) (fun _ => ?_) (fun h => absurd c47 h)
              refine x_ldc2 hG dX13_numberToken_98 q3355 ?_
              refine x_lmul dX13_numberToken_101 ?_
              refine x_aload_n dX13_numberToken_102 rfl ?_
              refine x_iload_n dX13_numberToken_103 rfl ?_
              obtain ⟨R9, g9, h⟩ := h
              refine x_callV hG (Ky := kX13_at) (As := [.int y3_3]) dX13_numberToken_104 (mo_t hM) rfl lk_X13_177 me_X13_at is_X13_at se_X13_at rfl rfl (Nat.le_of_ble_eq_true rfl) (MX.post (m_X13_at hG hM g9) ?_)
              rintro _ _ ⟨v9, I9, rfl, rfl, h1⟩
              replace h := h v9 I9 h1
              change X _ _ _ _ (A.wI I9) _ _ (.int v9 :: _)
              refine x_callS hG (Ky := kX13_hex) (As := [.int v9]) dX13_numberToken_107 lk_X13_221 me_X13_hex st_X13_hex rfl rfl (Nat.le_of_ble_eq_true rfl) (MX.post (m_X13_hex hG) ?_)
              rintro _ _ ⟨rfl, rfl⟩
              change X _ _ _ _ _ _ _ (.int (f_X13_hex v9) :: _)
              refine x_i2l dX13_numberToken_110 ?_
              refine x_ladd dX13_numberToken_111 ?_
              refine x_goto (tgt := 117) dX13_numberToken_112 (by decide) ?_
              change X _ _ _ _ _ _ [some (.ref m), some (.int k), some (.int y2_s0), some (.int y3_3), some (.int (if y2_s0 = 0 then k else (k + (2 : Int32)))), some (.long y3_5), none, none] [.long ((y3_5 * (10 : Int64)) + (f_X13_hex v9).toInt64)]
              exact X.weak (xle_c rfl (xle_c rfl (xle_c rfl (xle_c rfl (xle_c rfl (xle_n (xle_n (xle_n xle_nil)))))))) (kj8 ((y3_5 * (10 : Int64)) + (f_X13_hex v9).toInt64) I9 h)
        · replace h := h.2 c47
          refine x_aload_n dX13_numberToken_50 rfl ?_
          refine x_iload_n dX13_numberToken_51 rfl ?_
          obtain ⟨R10, g10, h⟩ := h
          refine x_callV hG (Ky := kX13_at) (As := [.int y3_3]) dX13_numberToken_52 (mo_t hM) rfl lk_X13_177 me_X13_at is_X13_at se_X13_at rfl rfl (Nat.le_of_ble_eq_true rfl) (MX.post (m_X13_at hG hM g10) ?_)
          rintro _ _ ⟨v10, I10, rfl, rfl, h1⟩
          replace h := h v10 I10 h1
          change X _ _ _ _ (A.wI I10) _ _ (.int v10 :: _)
          refine x_callS hG (Ky := kX13_hex) (As := [.int v10]) dX13_numberToken_55 lk_X13_221 me_X13_hex st_X13_hex rfl rfl (Nat.le_of_ble_eq_true rfl) (MX.post (m_X13_hex hG) ?_)
          rintro _ _ ⟨rfl, rfl⟩
          change X _ _ _ _ _ _ _ (.int (f_X13_hex v10) :: _)
          refine x_bipush_ (v := (16 : Int32)) dX13_numberToken_58 (by decide) ?_
          refine x_icmp_ge (tgt := 125) dX13_numberToken_60 (by decide) (fun c60 => ?_) (fun c60 => ?_)
          · replace h := h.1 c60
            change X _ _ _ _ _ _ [some (.ref m), some (.int k), some (.int y2_s0), some (.int y3_3), some (.int (if y2_s0 = 0 then k else (k + (2 : Int32)))), some (.long y3_5), none, none] []
            exact X.weak (xle_c rfl (xle_c rfl (xle_c rfl (xle_c rfl (xle_c rfl (xle_c rfl (xle_n (xle_n xle_nil)))))))) (kj4 I10 h)
          · replace h := h.2 c60
            refine x_goto (tgt := 77) dX13_numberToken_63 (by decide) ?_
            refine x_iload_n dX13_numberToken_77 rfl ?_
            refine x_iload dX13_numberToken_78 rfl ?_
            refine x_isub dX13_numberToken_80 ?_
            refine x_bipush_ (v := (10 : Int32)) dX13_numberToken_81 (by decide) ?_
            obtain ⟨J11, g11, h⟩ := h
            have kj11 : ∀ (y11_s0 : Int64) (I11 : xII), J11 y11_s0 I11 → X G (dp + 2) kX13_numberToken (oI A Q) (A.wI I11) 117 [some (.ref m), some (.int k), some (.int y2_s0), some (.int y3_3), some (.int (if y2_s0 = 0 then k else (k + (2 : Int32)))), none, none, none] [.long y11_s0] := by
              intro y11_s0 I11 h
              replace h := g11 y11_s0 I11 h
              refine x_lstore dX13_numberToken_117 (by decide) ?_
              refine x_iinc (v := (y3_3 + (1 : Int32))) dX13_numberToken_119 rfl rfl (by decide) ?_
              refine x_goto (tgt := 46) dX13_numberToken_122 (by decide) ?_
              obtain ⟨q3, l3, h⟩ := h
              change X _ _ _ _ _ _ [some (.ref m), some (.int k), some (.int y2_s0), some (.int (y3_3 + (1 : Int32))), some (.int (if y2_s0 = 0 then k else (k + (2 : Int32)))), some (.long y11_s0), none, none] []
              exact X.weak (xle_c rfl (xle_c rfl (xle_c rfl (xle_c rfl (xle_c rfl (xle_c rfl (xle_n (xle_n xle_nil)))))))) (ih3 q3 l3 (y3_3 + (1 : Int32)) y11_s0 I11 h)
            refine x_icmp_ge (tgt := 115) dX13_numberToken_83 (by decide) (fun c83 => ?_) (fun c83 => ?_)
            · replace h := h.1 c83
              refine x_lload dX13_numberToken_115 rfl ?_
              change X _ _ _ _ _ _ [some (.ref m), some (.int k), some (.int y2_s0), some (.int y3_3), some (.int (if y2_s0 = 0 then k else (k + (2 : Int32)))), some (.long y3_5), none, none] [.long y3_5]
              exact X.weak (xle_c rfl (xle_c rfl (xle_c rfl (xle_c rfl (xle_c rfl (xle_n (xle_n (xle_n xle_nil)))))))) (kj11 y3_5 I10 h)
            · replace h := h.2 c83
              refine x_lload dX13_numberToken_86 rfl ?_
              refine x_iload_n dX13_numberToken_88 rfl ?_
              refine x_if_eq (tgt := 98) dX13_numberToken_89 (by decide) (fun h => absurd h c47) (fun _ => ?_)
              refine x_ldc2 hG dX13_numberToken_92 q3354 ?_
              refine x_goto (tgt := 101) dX13_numberToken_95 (by decide) ?_
              refine x_lmul dX13_numberToken_101 ?_
              refine x_aload_n dX13_numberToken_102 rfl ?_
              refine x_iload_n dX13_numberToken_103 rfl ?_
              obtain ⟨R12, g12, h⟩ := h
              refine x_callV hG (Ky := kX13_at) (As := [.int y3_3]) dX13_numberToken_104 (mo_t hM) rfl lk_X13_177 me_X13_at is_X13_at se_X13_at rfl rfl (Nat.le_of_ble_eq_true rfl) (MX.post (m_X13_at hG hM g12) ?_)
              rintro _ _ ⟨v12, I12, rfl, rfl, h1⟩
              replace h := h v12 I12 h1
              change X _ _ _ _ (A.wI I12) _ _ (.int v12 :: _)
              refine x_callS hG (Ky := kX13_hex) (As := [.int v12]) dX13_numberToken_107 lk_X13_221 me_X13_hex st_X13_hex rfl rfl (Nat.le_of_ble_eq_true rfl) (MX.post (m_X13_hex hG) ?_)
              rintro _ _ ⟨rfl, rfl⟩
              change X _ _ _ _ _ _ _ (.int (f_X13_hex v12) :: _)
              refine x_i2l dX13_numberToken_110 ?_
              refine x_ladd dX13_numberToken_111 ?_
              refine x_goto (tgt := 117) dX13_numberToken_112 (by decide) ?_
              change X _ _ _ _ _ _ [some (.ref m), some (.int k), some (.int y2_s0), some (.int y3_3), some (.int (if y2_s0 = 0 then k else (k + (2 : Int32)))), some (.long y3_5), none, none] [.long ((y3_5 * (16 : Int64)) + (f_X13_hex v12).toInt64)]
              exact X.weak (xle_c rfl (xle_c rfl (xle_c rfl (xle_c rfl (xle_c rfl (xle_n (xle_n (xle_n xle_nil)))))))) (kj11 ((y3_5 * (16 : Int64)) + (f_X13_hex v12).toInt64) I12 h)
    change X _ _ _ _ _ _ [some (.ref m), some (.int k), some (.int y2_s0), some (.int (if y2_s0 = 0 then k else (k + (2 : Int32)))), some (.int (if y2_s0 = 0 then k else (k + (2 : Int32)))), some (.long (0 : Int64)), none, none] []
    exact X.weak (xle_c rfl (xle_c rfl (xle_c rfl (xle_c rfl (xle_c rfl (xle_c rfl (xle_n (xle_n xle_nil)))))))) (kl3 n3 (if y2_s0 = 0 then k else (k + (2 : Int32))) (0 : Int64) I2 i3)
  refine x_icmp_ne (tgt := 26) dX13_numberToken_7 (by decide) (fun c7 => ?_) (fun c7 => ?_)
  · replace h := h.2 c7
    refine x_iconst_ (v := (0 : Int32)) dX13_numberToken_26 (by decide) ?_
    change X _ _ _ _ _ _ [some (.ref m), some (.int k), none, none, none, none, none, none] [.int (0 : Int32)]
    exact X.weak (xle_c rfl (xle_c rfl (xle_n (xle_n (xle_n (xle_n (xle_n (xle_n xle_nil)))))))) (kj2 (0 : Int32) I1 h)
  · replace h := h.1 c7
    refine x_aload_n dX13_numberToken_10 rfl ?_
    refine x_iload_n dX13_numberToken_11 rfl ?_
    refine x_iconst_ (v := (1 : Int32)) dX13_numberToken_12 (by decide) ?_
    refine x_iadd dX13_numberToken_13 ?_
    obtain ⟨R13, g13, h⟩ := h
    refine x_callV hG (Ky := kX13_at) (As := [.int (k + (1 : Int32))]) dX13_numberToken_14 (mo_t hM) rfl lk_X13_177 me_X13_at is_X13_at se_X13_at rfl rfl (Nat.le_of_ble_eq_true rfl) (MX.post (m_X13_at hG hM g13) ?_)
    rintro _ _ ⟨v13, I13, rfl, rfl, h1⟩
    replace h := h v13 I13 h1
    change X _ _ _ _ (A.wI I13) _ _ (.int v13 :: _)
    refine x_bipush_ (v := (120 : Int32)) dX13_numberToken_17 (by decide) ?_
    refine x_icmp_ne (tgt := 26) dX13_numberToken_19 (by decide) (fun c19 => ?_) (fun c19 => ?_)
    · replace h := h.2 c19
      refine x_iconst_ (v := (0 : Int32)) dX13_numberToken_26 (by decide) ?_
      change X _ _ _ _ _ _ [some (.ref m), some (.int k), none, none, none, none, none, none] [.int (0 : Int32)]
      exact X.weak (xle_c rfl (xle_c rfl (xle_n (xle_n (xle_n (xle_n (xle_n (xle_n xle_nil)))))))) (kj2 (0 : Int32) I13 h)
    · replace h := h.1 c19
      refine x_iconst_ (v := (1 : Int32)) dX13_numberToken_22 (by decide) ?_
      refine x_goto (tgt := 27) dX13_numberToken_23 (by decide) ?_
      change X _ _ _ _ _ _ [some (.ref m), some (.int k), none, none, none, none, none, none] [.int (1 : Int32)]
      exact X.weak (xle_c rfl (xle_c rfl (xle_n (xle_n (xle_n (xle_n (xle_n (xle_n xle_nil)))))))) (kj2 (1 : Int32) I13 h)
def w_X13_fails (m : Nat) (k : Int32) (Q : Int32 → xII → Prop) (I : xII) : Prop := (((I m 44) ≤ 0 → ∀ I1 : xII, I1 = xup I m 44 (if (if (I m 42) = (I m 7) then (if (I m 8) = (-1 : Int32) then (0 : Int32) else (1 : Int32)) else (0 : Int32)) = 0 then k else (1 : Int32)) → ((((if (I m 42) = (I m 7) then (if (I m 8) = (-1 : Int32) then (0 : Int32) else (1 : Int32)) else (0 : Int32)) = 0 → vp_in (I m 42) 4002 ∧ (∀ I3 : xII, I3 = xup I1 m 45 (I (m + 5) (ix (I m 42))) → (Q (0 : Int32) I3))) ∧ (¬ (if (I m 42) = (I m 7) then (if (I m 8) = (-1 : Int32) then (0 : Int32) else (1 : Int32)) else (0 : Int32)) = 0 → ∀ I4 : xII, I4 = xup I1 m 45 (I m 8) → (Q (0 : Int32) I4))))) ∧ (¬ (I m 44) ≤ 0 → Q (0 : Int32) I))
theorem m_X13_fails (hG : xOK G) {dp : Nat} {A : xA} {m : Nat} (hM : xMo G A m) {k : Int32} {Q : Int32 → xII → Prop} {I : xII} (h : w_X13_fails m k Q I) : MX G (dp + 0) kX13_fails [.ref m, .int k] (A.wI I) (oZ A Q) := by
  unfold w_X13_fails at h
  refine MX.of rfl (Nat.le_of_ble_eq_true rfl) ?_
  change X _ _ _ _ _ _ [some (.ref m), some (.int k), none] _
  refine x_aload_n dX13_fails_0 rfl ?_
  refine x_get (v := .int (I m 44)) hG dX13_fails_1 f_X13_230_12 (mo_t hM) rfl ?_
  refine x_if_le (tgt := 9) dX13_fails_4 (by decide) (fun c4 => ?_) (fun c4 => ?_)
  · replace h := h.1 c4
    refine x_aload_n dX13_fails_9 rfl ?_
    refine x_get (v := .int (I m 42)) hG dX13_fails_10 f_X13_233_12 (mo_t hM) rfl ?_
    refine x_aload_n dX13_fails_13 rfl ?_
    refine x_get (v := .int (I m 7)) hG dX13_fails_14 f_X13_187_12 (mo_t hM) rfl ?_
    refine x_via 33 (A' := (A.wI I)) (lv' := [some (.ref m), some (.int k), none]) (st' := [.int (if (I m 42) = (I m 7) then (if (I m 8) = (-1 : Int32) then (0 : Int32) else (1 : Int32)) else (0 : Int32))]) ?_ (fun k33 => ?_)
    rotate_left
    · refine x_icmp_ne (tgt := 32) dX13_fails_17 (by decide) (fun c17 => ?_) (fun c17 => ?_)
      · refine x_iconst_ (v := (0 : Int32)) dX13_fails_32 (by decide) ?_
        change X _ _ _ _ _ _ [some (.ref m), some (.int k), none] [.int (0 : Int32)]
        simp only [if_neg c17] at k33 ⊢
        exact X.weak (xle_c rfl (xle_c rfl (xle_n xle_nil))) k33
      · refine x_aload_n dX13_fails_20 rfl ?_
        refine x_get (v := .int (I m 8)) hG dX13_fails_21 f_X13_184_12 (mo_t hM) rfl ?_
        refine x_iconst_ (v := (-1 : Int32)) dX13_fails_24 (by decide) ?_
        refine x_icmp_eq (tgt := 32) dX13_fails_25 (by decide) (fun c25 => ?_) (fun c25 => ?_)
        · refine x_iconst_ (v := (0 : Int32)) dX13_fails_32 (by decide) ?_
          change X _ _ _ _ _ _ [some (.ref m), some (.int k), none] [.int (0 : Int32)]
          try simp only [if_pos c17] at c25 k33 ⊢
          try simp only [if_pos c25] at k33 ⊢
          exact X.weak (xle_c rfl (xle_c rfl (xle_n xle_nil))) k33
        · refine x_iconst_ (v := (1 : Int32)) dX13_fails_28 (by decide) ?_
          refine x_goto (tgt := 33) dX13_fails_29 (by decide) ?_
          change X _ _ _ _ _ _ [some (.ref m), some (.int k), none] [.int (1 : Int32)]
          try simp only [if_pos c17] at c25 k33 ⊢
          try simp only [if_neg c25] at k33 ⊢
          exact X.weak (xle_c rfl (xle_c rfl (xle_n xle_nil))) k33
    refine x_istore_n dX13_fails_33 (by decide) ?_
    refine x_aload_n dX13_fails_34 rfl ?_
    refine x_iload_n dX13_fails_35 rfl ?_
    refine x_via 44 (A' := (A.wI I)) (lv' := [some (.ref m), none, some (.int (if (I m 42) = (I m 7) then (if (I m 8) = (-1 : Int32) then (0 : Int32) else (1 : Int32)) else (0 : Int32)))]) (st' := [.int (if (if (I m 42) = (I m 7) then (if (I m 8) = (-1 : Int32) then (0 : Int32) else (1 : Int32)) else (0 : Int32)) = 0 then k else (1 : Int32)), .ref m]) ?_ (fun k44 => ?_)
    rotate_left
    · refine x_if_eq (tgt := 43) dX13_fails_36 (by decide) (fun c36 => ?_) (fun c36 => ?_)
      · refine x_iload_n dX13_fails_43 rfl ?_
        change X _ _ _ _ _ _ [some (.ref m), some (.int k), some (.int (if (I m 42) = (I m 7) then (if (I m 8) = (-1 : Int32) then (0 : Int32) else (1 : Int32)) else (0 : Int32)))] [.int k, .ref m]
        simp only [if_pos c36] at k44 ⊢
        exact X.weak (xle_c rfl (xle_n (xle_c rfl xle_nil))) k44
      · refine x_iconst_ (v := (1 : Int32)) dX13_fails_39 (by decide) ?_
        refine x_goto (tgt := 44) dX13_fails_40 (by decide) ?_
        change X _ _ _ _ _ _ [some (.ref m), some (.int k), some (.int (if (I m 42) = (I m 7) then (if (I m 8) = (-1 : Int32) then (0 : Int32) else (1 : Int32)) else (0 : Int32)))] [.int (1 : Int32), .ref m]
        simp only [if_neg c36] at k44 ⊢
        exact X.weak (xle_c rfl (xle_n (xle_c rfl xle_nil))) k44
    refine y_put hG hM dX13_fails_44 f_X13_230_12 ⟨_, rfl, Or.inl rfl⟩ rfl rfl ⟨_, rfl⟩ (fun I1 e1 => ?_)
    replace h := h I1 e1
    refine x_aload_n dX13_fails_47 rfl ?_
    refine x_iload_n dX13_fails_48 rfl ?_
    refine x_if_eq (tgt := 59) dX13_fails_49 (by decide) (fun c49 => ?_) (fun c49 => ?_)
    · replace h := h.1 c49
      refine x_aload_n dX13_fails_59 rfl ?_
      refine x_get (v := .ref (m + 5)) hG dX13_fails_60 f_X13_22_12 (mo_t hM) (congrArg va_rf (mo_P6 hM)) ?_
      refine x_aload_n dX13_fails_63 rfl ?_
      refine x_get (v := .int (I1 m 42)) hG dX13_fails_64 f_X13_233_12 (mo_t hM) rfl ?_
      refine x_eqi (v := (I m 42)) (xup_rk e1 (by decide)) ?_
      obtain ⟨o2, h⟩ := h
      refine y_iald hG dX13_fails_67 (mo_t6 hM) (mo_n6 hM) o2 ?_
      refine x_eqi (v := (I (m + 5) (ix (I m 42)))) (xup_ra e1 (by omega)) ?_
      refine y_put hG hM dX13_fails_68 f_X13_236_12 ⟨_, rfl, Or.inl rfl⟩ rfl rfl ⟨_, rfl⟩ (fun I3 e3 => ?_)
      replace h := h I3 e3
      refine x_iconst_ (v := (0 : Int32)) dX13_fails_71 (by decide) ?_
      exact x_zret dX13_fails_72 rfl (by decide) ⟨_, _, rfl, rfl, (by decide), h⟩
    · replace h := h.2 c49
      refine x_aload_n dX13_fails_52 rfl ?_
      refine x_get (v := .int (I1 m 8)) hG dX13_fails_53 f_X13_184_12 (mo_t hM) rfl ?_
      refine x_eqi (v := (I m 8)) (xup_rk e1 (by decide)) ?_
      refine x_goto (tgt := 68) dX13_fails_56 (by decide) ?_
      refine y_put hG hM dX13_fails_68 f_X13_236_12 ⟨_, rfl, Or.inl rfl⟩ rfl rfl ⟨_, rfl⟩ (fun I4 e4 => ?_)
      replace h := h I4 e4
      refine x_iconst_ (v := (0 : Int32)) dX13_fails_71 (by decide) ?_
      exact x_zret dX13_fails_72 rfl (by decide) ⟨_, _, rfl, rfl, (by decide), h⟩
  · replace h := h.2 c4
    refine x_iconst_ (v := (0 : Int32)) dX13_fails_7 (by decide) ?_
    exact x_zret dX13_fails_8 rfl (by decide) ⟨_, _, rfl, rfl, (by decide), h⟩
def w_X13_noteAs (m : Nat) (k : Int32) (p : Int32) (o : Int32) (Q : xII → Prop) (I : xII) : Prop := (((I m 46) = 0 → Q I) ∧ (¬ (I m 46) = 0 → (((I m 47) ≤ 0 → ∀ I1 : xII, I1 = xup I m 47 k → (∀ I2 : xII, I2 = xup I1 m 48 p → (∀ I3 : xII, I3 = xup I2 m 49 o → (Q I3)))) ∧ (¬ (I m 47) ≤ 0 → (((I m 48) < p → Q I) ∧ (¬ (I m 48) < p → (((I m 48) = p → ((o < (I m 49) → ∀ I7 : xII, I7 = xup I m 47 k → (∀ I8 : xII, I8 = xup I7 m 48 p → (∀ I9 : xII, I9 = xup I8 m 49 o → (Q I9)))) ∧ (¬ o < (I m 49) → Q I))) ∧ (¬ (I m 48) = p → ∀ I4 : xII, I4 = xup I m 47 k → (∀ I5 : xII, I5 = xup I4 m 48 p → (∀ I6 : xII, I6 = xup I5 m 49 o → (Q I6)))))))))))
theorem m_X13_noteAs (hG : xOK G) {dp : Nat} {A : xA} {m : Nat} (hM : xMo G A m) {k : Int32} {p : Int32} {o : Int32} {Q : xII → Prop} {I : xII} (h : w_X13_noteAs m k p o Q I) : MX G (dp + 0) kX13_noteAs [.ref m, .int k, .int p, .int o] (A.wI I) (oV A Q) := by
  unfold w_X13_noteAs at h
  refine MX.of rfl (Nat.le_of_ble_eq_true rfl) ?_
  change X _ _ _ _ _ _ [some (.ref m), some (.int k), some (.int p), some (.int o)] _
  refine x_aload_n dX13_noteAs_0 rfl ?_
  refine x_get (v := .int (I m 46)) hG dX13_noteAs_1 f_X13_245_12 (mo_t hM) rfl ?_
  refine x_if_eq (tgt := 38) dX13_noteAs_4 (by decide) (fun c4 => ?_) (fun c4 => ?_)
  · replace h := h.1 c4
    exact x_vret dX13_noteAs_38 rfl ⟨_, rfl, rfl, h⟩
  · replace h := h.2 c4
    refine x_aload_n dX13_noteAs_7 rfl ?_
    refine x_get (v := .int (I m 47)) hG dX13_noteAs_8 f_X13_248_12 (mo_t hM) rfl ?_
    refine x_if_le (tgt := 39) dX13_noteAs_11 (by decide) (fun c11 => ?_) (fun c11 => ?_)
    · replace h := h.1 c11
      refine x_aload_n dX13_noteAs_39 rfl ?_
      refine x_iload_n dX13_noteAs_40 rfl ?_
      refine y_put hG hM dX13_noteAs_41 f_X13_248_12 ⟨_, rfl, Or.inl rfl⟩ rfl rfl ⟨_, rfl⟩ (fun I1 e1 => ?_)
      replace h := h I1 e1
      refine x_aload_n dX13_noteAs_44 rfl ?_
      refine x_iload_n dX13_noteAs_45 rfl ?_
      refine y_put hG hM dX13_noteAs_46 f_X13_251_12 ⟨_, rfl, Or.inl rfl⟩ rfl rfl ⟨_, rfl⟩ (fun I2 e2 => ?_)
      replace h := h I2 e2
      refine x_aload_n dX13_noteAs_49 rfl ?_
      refine x_iload_n dX13_noteAs_50 rfl ?_
      refine y_put hG hM dX13_noteAs_51 f_X13_254_12 ⟨_, rfl, Or.inl rfl⟩ rfl rfl ⟨_, rfl⟩ (fun I3 e3 => ?_)
      replace h := h I3 e3
      exact x_vret dX13_noteAs_54 rfl ⟨_, rfl, rfl, h⟩
    · replace h := h.2 c11
      refine x_aload_n dX13_noteAs_14 rfl ?_
      refine x_get (v := .int (I m 48)) hG dX13_noteAs_15 f_X13_251_12 (mo_t hM) rfl ?_
      refine x_iload_n dX13_noteAs_18 rfl ?_
      refine x_icmp_lt (tgt := 38) dX13_noteAs_19 (by decide) (fun c19 => ?_) (fun c19 => ?_)
      · replace h := h.1 c19
        exact x_vret dX13_noteAs_38 rfl ⟨_, rfl, rfl, h⟩
      · replace h := h.2 c19
        refine x_aload_n dX13_noteAs_22 rfl ?_
        refine x_get (v := .int (I m 48)) hG dX13_noteAs_23 f_X13_251_12 (mo_t hM) rfl ?_
        refine x_iload_n dX13_noteAs_26 rfl ?_
        refine x_icmp_ne (tgt := 39) dX13_noteAs_27 (by decide) (fun c27 => ?_) (fun c27 => ?_)
        · replace h := h.2 c27
          refine x_aload_n dX13_noteAs_39 rfl ?_
          refine x_iload_n dX13_noteAs_40 rfl ?_
          refine y_put hG hM dX13_noteAs_41 f_X13_248_12 ⟨_, rfl, Or.inl rfl⟩ rfl rfl ⟨_, rfl⟩ (fun I4 e4 => ?_)
          replace h := h I4 e4
          refine x_aload_n dX13_noteAs_44 rfl ?_
          refine x_iload_n dX13_noteAs_45 rfl ?_
          refine y_put hG hM dX13_noteAs_46 f_X13_251_12 ⟨_, rfl, Or.inl rfl⟩ rfl rfl ⟨_, rfl⟩ (fun I5 e5 => ?_)
          replace h := h I5 e5
          refine x_aload_n dX13_noteAs_49 rfl ?_
          refine x_iload_n dX13_noteAs_50 rfl ?_
          refine y_put hG hM dX13_noteAs_51 f_X13_254_12 ⟨_, rfl, Or.inl rfl⟩ rfl rfl ⟨_, rfl⟩ (fun I6 e6 => ?_)
          replace h := h I6 e6
          exact x_vret dX13_noteAs_54 rfl ⟨_, rfl, rfl, h⟩
        · replace h := h.1 c27
          refine x_aload_n dX13_noteAs_30 rfl ?_
          refine x_get (v := .int (I m 49)) hG dX13_noteAs_31 f_X13_254_12 (mo_t hM) rfl ?_
          refine x_iload_n dX13_noteAs_34 rfl ?_
          refine x_icmp_gt (tgt := 39) dX13_noteAs_35 (by decide) (fun c35 => ?_) (fun c35 => ?_)
          · replace h := h.1 c35
            refine x_aload_n dX13_noteAs_39 rfl ?_
            refine x_iload_n dX13_noteAs_40 rfl ?_
            refine y_put hG hM dX13_noteAs_41 f_X13_248_12 ⟨_, rfl, Or.inl rfl⟩ rfl rfl ⟨_, rfl⟩ (fun I7 e7 => ?_)
            replace h := h I7 e7
            refine x_aload_n dX13_noteAs_44 rfl ?_
            refine x_iload_n dX13_noteAs_45 rfl ?_
            refine y_put hG hM dX13_noteAs_46 f_X13_251_12 ⟨_, rfl, Or.inl rfl⟩ rfl rfl ⟨_, rfl⟩ (fun I8 e8 => ?_)
            replace h := h I8 e8
            refine x_aload_n dX13_noteAs_49 rfl ?_
            refine x_iload_n dX13_noteAs_50 rfl ?_
            refine y_put hG hM dX13_noteAs_51 f_X13_254_12 ⟨_, rfl, Or.inl rfl⟩ rfl rfl ⟨_, rfl⟩ (fun I9 e9 => ?_)
            replace h := h I9 e9
            exact x_vret dX13_noteAs_54 rfl ⟨_, rfl, rfl, h⟩
          · replace h := h.2 c35
            exact x_vret dX13_noteAs_38 rfl ⟨_, rfl, rfl, h⟩
def w_X13_note (m : Nat) (k : Int32) (p : Int32) (Q : xII → Prop) (I : xII) : Prop := ∃ R1 : xII → Prop, w_X13_noteAs m k p (f_X13_rank k) R1 I ∧ (∀ I1 : xII, R1 I1 → (Q I1))
theorem m_X13_note (hG : xOK G) {dp : Nat} {A : xA} {m : Nat} (hM : xMo G A m) {k : Int32} {p : Int32} {Q : xII → Prop} {I : xII} (h : w_X13_note m k p Q I) : MX G (dp + 1) kX13_note [.ref m, .int k, .int p] (A.wI I) (oV A Q) := by
  unfold w_X13_note at h
  refine MX.of rfl (Nat.le_of_ble_eq_true rfl) ?_
  change X _ _ _ _ _ _ [some (.ref m), some (.int k), some (.int p)] _
  refine x_aload_n dX13_note_0 rfl ?_
  refine x_iload_n dX13_note_1 rfl ?_
  refine x_iload_n dX13_note_2 rfl ?_
  refine x_iload_n dX13_note_3 rfl ?_
  refine x_callS hG (Ky := kX13_rank) (As := [.int k]) dX13_note_4 lk_X13_239 me_X13_rank st_X13_rank rfl rfl (Nat.le_of_ble_eq_true rfl) (MX.post (m_X13_rank hG) ?_)
  rintro _ _ ⟨rfl, rfl⟩
  change X _ _ _ _ _ _ _ (.int (f_X13_rank k) :: _)
  obtain ⟨R1, g1, h⟩ := h
  refine x_callV hG (Ky := kX13_noteAs) (As := [.int k, .int p, .int (f_X13_rank k)]) dX13_note_7 (mo_t hM) rfl lk_X13_242 me_X13_noteAs is_X13_noteAs se_X13_noteAs rfl rfl (Nat.le_of_ble_eq_true rfl) (MX.post (m_X13_noteAs hG hM g1) ?_)
  rintro _ _ ⟨I1, rfl, rfl, h1⟩
  replace h := h I1 h1
  change X _ _ _ _ (A.wI I1) _ _ _
  exact x_vret dX13_note_10 rfl ⟨_, rfl, rfl, h⟩
def w_X13_isSign (m : Nat) (s : Int32) (Q : Int32 → xII → Prop) (I : xII) : Prop := vp_in (I m 42) 4002 ∧ (Q (if (I (m + 3) (ix (I m 42))) = (4 : Int32) then (if (I (m + 4) (ix (I m 42))) = s then (1 : Int32) else (0 : Int32)) else (0 : Int32)) I)
theorem m_X13_isSign (hG : xOK G) {dp : Nat} {A : xA} {m : Nat} (hM : xMo G A m) {s : Int32} {Q : Int32 → xII → Prop} {I : xII} (h : w_X13_isSign m s Q I) : MX G (dp + 0) kX13_isSign [.ref m, .int s] (A.wI I) (oZ A Q) := by
  unfold w_X13_isSign at h
  refine MX.of rfl (Nat.le_of_ble_eq_true rfl) ?_
  change X _ _ _ _ _ _ [some (.ref m), some (.int s)] _
  refine x_aload_n dX13_isSign_0 rfl ?_
  refine x_get (v := .ref (m + 3)) hG dX13_isSign_1 f_X13_16_12 (mo_t hM) (congrArg va_rf (mo_P4 hM)) ?_
  refine x_aload_n dX13_isSign_4 rfl ?_
  refine x_get (v := .int (I m 42)) hG dX13_isSign_5 f_X13_233_12 (mo_t hM) rfl ?_
  obtain ⟨o1, h⟩ := h
  refine y_iald hG dX13_isSign_8 (mo_t4 hM) (mo_n4 hM) o1 ?_
  refine x_iconst_ (v := (4 : Int32)) dX13_isSign_9 (by decide) ?_
  refine x_via 31 (A' := (A.wI I)) (lv' := [none, none]) (st' := [.int (if (I (m + 3) (ix (I m 42))) = (4 : Int32) then (if (I (m + 4) (ix (I m 42))) = s then (1 : Int32) else (0 : Int32)) else (0 : Int32))]) ?_ (fun k31 => ?_)
  rotate_left
  · refine x_icmp_ne (tgt := 30) dX13_isSign_10 (by decide) (fun c10 => ?_) (fun c10 => ?_)
    · refine x_iconst_ (v := (0 : Int32)) dX13_isSign_30 (by decide) ?_
      change X _ _ _ _ _ _ [some (.ref m), some (.int s)] [.int (0 : Int32)]
      simp only [if_neg c10] at k31 ⊢
      exact X.weak (xle_n (xle_n xle_nil)) k31
    · refine x_aload_n dX13_isSign_13 rfl ?_
      refine x_get (v := .ref (m + 4)) hG dX13_isSign_14 f_X13_19_12 (mo_t hM) (congrArg va_rf (mo_P5 hM)) ?_
      refine x_aload_n dX13_isSign_17 rfl ?_
      refine x_get (v := .int (I m 42)) hG dX13_isSign_18 f_X13_233_12 (mo_t hM) rfl ?_
      refine y_iald hG dX13_isSign_21 (mo_t5 hM) (mo_n5 hM) o1 ?_
      refine x_iload_n dX13_isSign_22 rfl ?_
      refine x_icmp_ne (tgt := 30) dX13_isSign_23 (by decide) (fun c23 => ?_) (fun c23 => ?_)
      · refine x_iconst_ (v := (0 : Int32)) dX13_isSign_30 (by decide) ?_
        change X _ _ _ _ _ _ [some (.ref m), some (.int s)] [.int (0 : Int32)]
        try simp only [if_pos c10] at c23 k31 ⊢
        try simp only [if_neg c23] at k31 ⊢
        exact X.weak (xle_n (xle_n xle_nil)) k31
      · refine x_iconst_ (v := (1 : Int32)) dX13_isSign_26 (by decide) ?_
        refine x_goto (tgt := 31) dX13_isSign_27 (by decide) ?_
        change X _ _ _ _ _ _ [some (.ref m), some (.int s)] [.int (1 : Int32)]
        try simp only [if_pos c10] at c23 k31 ⊢
        try simp only [if_pos c23] at k31 ⊢
        exact X.weak (xle_n (xle_n xle_nil)) k31
  exact x_zret dX13_isSign_31 rfl (by (repeat' split) <;> decide) ⟨_, _, rfl, rfl, (by (repeat' split) <;> decide), h⟩
def w_X13_isWord (m : Nat) (w : Int32) (Q : Int32 → xII → Prop) (I : xII) : Prop := vp_in (I m 42) 4002 ∧ (Q (if (I (m + 3) (ix (I m 42))) = (2 : Int32) then (if (I (m + 4) (ix (I m 42))) = w then (1 : Int32) else (0 : Int32)) else (0 : Int32)) I)
theorem m_X13_isWord (hG : xOK G) {dp : Nat} {A : xA} {m : Nat} (hM : xMo G A m) {w : Int32} {Q : Int32 → xII → Prop} {I : xII} (h : w_X13_isWord m w Q I) : MX G (dp + 0) kX13_isWord [.ref m, .int w] (A.wI I) (oZ A Q) := by
  unfold w_X13_isWord at h
  refine MX.of rfl (Nat.le_of_ble_eq_true rfl) ?_
  change X _ _ _ _ _ _ [some (.ref m), some (.int w)] _
  refine x_aload_n dX13_isWord_0 rfl ?_
  refine x_get (v := .ref (m + 3)) hG dX13_isWord_1 f_X13_16_12 (mo_t hM) (congrArg va_rf (mo_P4 hM)) ?_
  refine x_aload_n dX13_isWord_4 rfl ?_
  refine x_get (v := .int (I m 42)) hG dX13_isWord_5 f_X13_233_12 (mo_t hM) rfl ?_
  obtain ⟨o1, h⟩ := h
  refine y_iald hG dX13_isWord_8 (mo_t4 hM) (mo_n4 hM) o1 ?_
  refine x_iconst_ (v := (2 : Int32)) dX13_isWord_9 (by decide) ?_
  refine x_via 31 (A' := (A.wI I)) (lv' := [none, none]) (st' := [.int (if (I (m + 3) (ix (I m 42))) = (2 : Int32) then (if (I (m + 4) (ix (I m 42))) = w then (1 : Int32) else (0 : Int32)) else (0 : Int32))]) ?_ (fun k31 => ?_)
  rotate_left
  · refine x_icmp_ne (tgt := 30) dX13_isWord_10 (by decide) (fun c10 => ?_) (fun c10 => ?_)
    · refine x_iconst_ (v := (0 : Int32)) dX13_isWord_30 (by decide) ?_
      change X _ _ _ _ _ _ [some (.ref m), some (.int w)] [.int (0 : Int32)]
      simp only [if_neg c10] at k31 ⊢
      exact X.weak (xle_n (xle_n xle_nil)) k31
    · refine x_aload_n dX13_isWord_13 rfl ?_
      refine x_get (v := .ref (m + 4)) hG dX13_isWord_14 f_X13_19_12 (mo_t hM) (congrArg va_rf (mo_P5 hM)) ?_
      refine x_aload_n dX13_isWord_17 rfl ?_
      refine x_get (v := .int (I m 42)) hG dX13_isWord_18 f_X13_233_12 (mo_t hM) rfl ?_
      refine y_iald hG dX13_isWord_21 (mo_t5 hM) (mo_n5 hM) o1 ?_
      refine x_iload_n dX13_isWord_22 rfl ?_
      refine x_icmp_ne (tgt := 30) dX13_isWord_23 (by decide) (fun c23 => ?_) (fun c23 => ?_)
      · refine x_iconst_ (v := (0 : Int32)) dX13_isWord_30 (by decide) ?_
        change X _ _ _ _ _ _ [some (.ref m), some (.int w)] [.int (0 : Int32)]
        try simp only [if_pos c10] at c23 k31 ⊢
        try simp only [if_neg c23] at k31 ⊢
        exact X.weak (xle_n (xle_n xle_nil)) k31
      · refine x_iconst_ (v := (1 : Int32)) dX13_isWord_26 (by decide) ?_
        refine x_goto (tgt := 31) dX13_isWord_27 (by decide) ?_
        change X _ _ _ _ _ _ [some (.ref m), some (.int w)] [.int (1 : Int32)]
        try simp only [if_pos c10] at c23 k31 ⊢
        try simp only [if_pos c23] at k31 ⊢
        exact X.weak (xle_n (xle_n xle_nil)) k31
  exact x_zret dX13_isWord_31 rfl (by (repeat' split) <;> decide) ⟨_, _, rfl, rfl, (by (repeat' split) <;> decide), h⟩
def w_X13_sign (m : Nat) (s : Int32) (Q : Int32 → xII → Prop) (I : xII) : Prop := ((0 < (I m 44) → ∃ R1 : Int32 → xII → Prop, w_X13_fails m (2 : Int32) R1 I ∧ (∀ (v1 : Int32) (I1 : xII), (v1 = 0 ∨ v1 = 1) → R1 v1 I1 → (Q v1 I1))) ∧ (¬ 0 < (I m 44) → ∃ R2 : Int32 → xII → Prop, w_X13_isSign m s R2 I ∧ (∀ (v2 : Int32) (I2 : xII), (v2 = 0 ∨ v2 = 1) → R2 v2 I2 → (((v2 = 0 → ∃ R4 : Int32 → xII → Prop, w_X13_fails m (2 : Int32) R4 I2 ∧ (∀ (v4 : Int32) (I4 : xII), (v4 = 0 ∨ v4 = 1) → R4 v4 I4 → (Q v4 I4))) ∧ (¬ v2 = 0 → ∀ I3 : xII, I3 = xup I2 m 42 ((I2 m 42) + (1 : Int32)) → (Q (1 : Int32) I3)))))))
theorem m_X13_sign (hG : xOK G) {dp : Nat} {A : xA} {m : Nat} (hM : xMo G A m) {s : Int32} {Q : Int32 → xII → Prop} {I : xII} (h : w_X13_sign m s Q I) : MX G (dp + 1) kX13_sign [.ref m, .int s] (A.wI I) (oZ A Q) := by
  unfold w_X13_sign at h
  refine MX.of rfl (Nat.le_of_ble_eq_true rfl) ?_
  change X _ _ _ _ _ _ [some (.ref m), some (.int s)] _
  refine x_aload_n dX13_sign_0 rfl ?_
  refine x_get (v := .int (I m 44)) hG dX13_sign_1 f_X13_230_12 (mo_t hM) rfl ?_
  refine x_if_gt (tgt := 15) dX13_sign_4 (by decide) (fun c4 => ?_) (fun c4 => ?_)
  · replace h := h.1 c4
    refine x_aload_n dX13_sign_15 rfl ?_
    refine x_iconst_ (v := (2 : Int32)) dX13_sign_16 (by decide) ?_
    obtain ⟨R1, g1, h⟩ := h
    refine x_callV hG (Ky := kX13_fails) (As := [.int (2 : Int32)]) dX13_sign_17 (mo_t hM) rfl lk_X13_260 me_X13_fails is_X13_fails se_X13_fails rfl rfl (Nat.le_of_ble_eq_true rfl) (MX.post (m_X13_fails hG hM g1) ?_)
    rintro _ _ ⟨v1, I1, rfl, rfl, zv1, h1⟩
    replace h := h v1 I1 zv1 h1
    change X _ _ _ _ (A.wI I1) _ _ (.int v1 :: _)
    exact x_zret dX13_sign_20 rfl zv1 ⟨_, _, rfl, rfl, zv1, h⟩
  · replace h := h.2 c4
    refine x_aload_n dX13_sign_7 rfl ?_
    refine x_iload_n dX13_sign_8 rfl ?_
    obtain ⟨R2, g2, h⟩ := h
    refine x_callV hG (Ky := kX13_isSign) (As := [.int s]) dX13_sign_9 (mo_t hM) rfl lk_X13_257 me_X13_isSign is_X13_isSign se_X13_isSign rfl rfl (Nat.le_of_ble_eq_true rfl) (MX.post (m_X13_isSign hG hM g2) ?_)
    rintro _ _ ⟨v2, I2, rfl, rfl, zv2, h1⟩
    replace h := h v2 I2 zv2 h1
    change X _ _ _ _ (A.wI I2) _ _ (.int v2 :: _)
    refine x_if_ne (tgt := 21) dX13_sign_12 (by decide) (fun c12 => ?_) (fun c12 => ?_)
    · replace h := h.2 c12
      refine x_aload_n dX13_sign_21 rfl ?_
      refine x_dup dX13_sign_22 rfl ?_
      refine x_get (v := .int (I2 m 42)) hG dX13_sign_23 f_X13_233_12 (mo_t hM) rfl ?_
      refine x_iconst_ (v := (1 : Int32)) dX13_sign_26 (by decide) ?_
      refine x_iadd dX13_sign_27 ?_
      refine y_put hG hM dX13_sign_28 f_X13_233_12 ⟨_, rfl, Or.inl rfl⟩ rfl rfl ⟨_, rfl⟩ (fun I3 e3 => ?_)
      replace h := h I3 e3
      refine x_iconst_ (v := (1 : Int32)) dX13_sign_31 (by decide) ?_
      exact x_zret dX13_sign_32 rfl (by decide) ⟨_, _, rfl, rfl, (by decide), h⟩
    · replace h := h.1 c12
      refine x_aload_n dX13_sign_15 rfl ?_
      refine x_iconst_ (v := (2 : Int32)) dX13_sign_16 (by decide) ?_
      obtain ⟨R4, g4, h⟩ := h
      refine x_callV hG (Ky := kX13_fails) (As := [.int (2 : Int32)]) dX13_sign_17 (mo_t hM) rfl lk_X13_260 me_X13_fails is_X13_fails se_X13_fails rfl rfl (Nat.le_of_ble_eq_true rfl) (MX.post (m_X13_fails hG hM g4) ?_)
      rintro _ _ ⟨v4, I4, rfl, rfl, zv4, h1⟩
      replace h := h v4 I4 zv4 h1
      change X _ _ _ _ (A.wI I4) _ _ (.int v4 :: _)
      exact x_zret dX13_sign_20 rfl zv4 ⟨_, _, rfl, rfl, zv4, h⟩
def w_X13_word (m : Nat) (w : Int32) (b : Int32) (Q : Int32 → xII → Prop) (I : xII) : Prop := ((0 < (I m 44) → ((b = 0 → Q (0 : Int32) I) ∧ (¬ b = 0 → ∃ R1 : Int32 → xII → Prop, w_X13_fails m (2 : Int32) R1 I ∧ (∀ (v1 : Int32) (I1 : xII), (v1 = 0 ∨ v1 = 1) → R1 v1 I1 → (Q (if v1 = 0 then (0 : Int32) else (1 : Int32)) I1))))) ∧ (¬ 0 < (I m 44) → ∃ R2 : Int32 → xII → Prop, w_X13_isWord m w R2 I ∧ (∀ (v2 : Int32) (I2 : xII), (v2 = 0 ∨ v2 = 1) → R2 v2 I2 → (((v2 = 0 → ((b = 0 → Q (0 : Int32) I2) ∧ (¬ b = 0 → ∃ R4 : Int32 → xII → Prop, w_X13_fails m (2 : Int32) R4 I2 ∧ (∀ (v4 : Int32) (I4 : xII), (v4 = 0 ∨ v4 = 1) → R4 v4 I4 → (Q (if v4 = 0 then (0 : Int32) else (1 : Int32)) I4))))) ∧ (¬ v2 = 0 → ∀ I3 : xII, I3 = xup I2 m 42 ((I2 m 42) + (1 : Int32)) → (Q (1 : Int32) I3)))))))
theorem m_X13_word (hG : xOK G) {dp : Nat} {A : xA} {m : Nat} (hM : xMo G A m) {w : Int32} {b : Int32} {Q : Int32 → xII → Prop} {I : xII} (h : w_X13_word m w b Q I) : MX G (dp + 1) kX13_word [.ref m, .int w, .int b] (A.wI I) (oZ A Q) := by
  unfold w_X13_word at h
  refine MX.of rfl (Nat.le_of_ble_eq_true rfl) ?_
  change X _ _ _ _ _ _ [some (.ref m), some (.int w), some (.int b)] _
  refine x_aload_n dX13_word_0 rfl ?_
  refine x_get (v := .int (I m 44)) hG dX13_word_1 f_X13_230_12 (mo_t hM) rfl ?_
  refine x_if_gt (tgt := 15) dX13_word_4 (by decide) (fun c4 => ?_) (fun c4 => ?_)
  · replace h := h.1 c4
    refine x_iload_n dX13_word_15 rfl ?_
    refine x_if_eq (tgt := 31) dX13_word_16 (by decide) (fun c16 => ?_) (fun c16 => ?_)
    · replace h := h.1 c16
      refine x_iconst_ (v := (0 : Int32)) dX13_word_31 (by decide) ?_
      exact x_zret dX13_word_32 rfl (by decide) ⟨_, _, rfl, rfl, (by decide), h⟩
    · replace h := h.2 c16
      refine x_aload_n dX13_word_19 rfl ?_
      refine x_iconst_ (v := (2 : Int32)) dX13_word_20 (by decide) ?_
      obtain ⟨R1, g1, h⟩ := h
      refine x_callV hG (Ky := kX13_fails) (As := [.int (2 : Int32)]) dX13_word_21 (mo_t hM) rfl lk_X13_260 me_X13_fails is_X13_fails se_X13_fails rfl rfl (Nat.le_of_ble_eq_true rfl) (MX.post (m_X13_fails hG hM g1) ?_)
      rintro _ _ ⟨v1, I1, rfl, rfl, zv1, h1⟩
      replace h := h v1 I1 zv1 h1
      change X _ _ _ _ (A.wI I1) _ _ (.int v1 :: _)
      refine x_via 32 (A' := (A.wI I1)) (lv' := [none, none, none]) (st' := [.int (if v1 = 0 then (0 : Int32) else (1 : Int32))]) ?_ (fun k32 => ?_)
      rotate_left
      · refine x_if_eq (tgt := 31) dX13_word_24 (by decide) (fun c24 => ?_) (fun c24 => ?_)
        · refine x_iconst_ (v := (0 : Int32)) dX13_word_31 (by decide) ?_
          change X _ _ _ _ _ _ [some (.ref m), some (.int w), some (.int b)] [.int (0 : Int32)]
          simp only [if_pos c24] at k32 ⊢
          exact X.weak (xle_n (xle_n (xle_n xle_nil))) k32
        · refine x_iconst_ (v := (1 : Int32)) dX13_word_27 (by decide) ?_
          refine x_goto (tgt := 32) dX13_word_28 (by decide) ?_
          change X _ _ _ _ _ _ [some (.ref m), some (.int w), some (.int b)] [.int (1 : Int32)]
          simp only [if_neg c24] at k32 ⊢
          exact X.weak (xle_n (xle_n (xle_n xle_nil))) k32
      exact x_zret dX13_word_32 rfl ite01 ⟨_, _, rfl, rfl, ite01, h⟩
  · replace h := h.2 c4
    refine x_aload_n dX13_word_7 rfl ?_
    refine x_iload_n dX13_word_8 rfl ?_
    obtain ⟨R2, g2, h⟩ := h
    refine x_callV hG (Ky := kX13_isWord) (As := [.int w]) dX13_word_9 (mo_t hM) rfl lk_X13_263 me_X13_isWord is_X13_isWord se_X13_isWord rfl rfl (Nat.le_of_ble_eq_true rfl) (MX.post (m_X13_isWord hG hM g2) ?_)
    rintro _ _ ⟨v2, I2, rfl, rfl, zv2, h1⟩
    replace h := h v2 I2 zv2 h1
    change X _ _ _ _ (A.wI I2) _ _ (.int v2 :: _)
    refine x_if_ne (tgt := 33) dX13_word_12 (by decide) (fun c12 => ?_) (fun c12 => ?_)
    · replace h := h.2 c12
      refine x_aload_n dX13_word_33 rfl ?_
      refine x_dup dX13_word_34 rfl ?_
      refine x_get (v := .int (I2 m 42)) hG dX13_word_35 f_X13_233_12 (mo_t hM) rfl ?_
      refine x_iconst_ (v := (1 : Int32)) dX13_word_38 (by decide) ?_
      refine x_iadd dX13_word_39 ?_
      refine y_put hG hM dX13_word_40 f_X13_233_12 ⟨_, rfl, Or.inl rfl⟩ rfl rfl ⟨_, rfl⟩ (fun I3 e3 => ?_)
      replace h := h I3 e3
      refine x_iconst_ (v := (1 : Int32)) dX13_word_43 (by decide) ?_
      exact x_zret dX13_word_44 rfl (by decide) ⟨_, _, rfl, rfl, (by decide), h⟩
    · replace h := h.1 c12
      refine x_iload_n dX13_word_15 rfl ?_
      refine x_if_eq (tgt := 31) dX13_word_16 (by decide) (fun c16 => ?_) (fun c16 => ?_)
      · replace h := h.1 c16
        refine x_iconst_ (v := (0 : Int32)) dX13_word_31 (by decide) ?_
        exact x_zret dX13_word_32 rfl (by decide) ⟨_, _, rfl, rfl, (by decide), h⟩
      · replace h := h.2 c16
        refine x_aload_n dX13_word_19 rfl ?_
        refine x_iconst_ (v := (2 : Int32)) dX13_word_20 (by decide) ?_
        obtain ⟨R4, g4, h⟩ := h
        refine x_callV hG (Ky := kX13_fails) (As := [.int (2 : Int32)]) dX13_word_21 (mo_t hM) rfl lk_X13_260 me_X13_fails is_X13_fails se_X13_fails rfl rfl (Nat.le_of_ble_eq_true rfl) (MX.post (m_X13_fails hG hM g4) ?_)
        rintro _ _ ⟨v4, I4, rfl, rfl, zv4, h1⟩
        replace h := h v4 I4 zv4 h1
        change X _ _ _ _ (A.wI I4) _ _ (.int v4 :: _)
        refine x_via 32 (A' := (A.wI I4)) (lv' := [none, none, none]) (st' := [.int (if v4 = 0 then (0 : Int32) else (1 : Int32))]) ?_ (fun k32 => ?_)
        rotate_left
        · refine x_if_eq (tgt := 31) dX13_word_24 (by decide) (fun c24 => ?_) (fun c24 => ?_)
          · refine x_iconst_ (v := (0 : Int32)) dX13_word_31 (by decide) ?_
            change X _ _ _ _ _ _ [some (.ref m), some (.int w), some (.int b)] [.int (0 : Int32)]
            simp only [if_pos c24] at k32 ⊢
            exact X.weak (xle_n (xle_n (xle_n xle_nil))) k32
          · refine x_iconst_ (v := (1 : Int32)) dX13_word_27 (by decide) ?_
            refine x_goto (tgt := 32) dX13_word_28 (by decide) ?_
            change X _ _ _ _ _ _ [some (.ref m), some (.int w), some (.int b)] [.int (1 : Int32)]
            simp only [if_neg c24] at k32 ⊢
            exact X.weak (xle_n (xle_n (xle_n xle_nil))) k32
        exact x_zret dX13_word_32 rfl ite01 ⟨_, _, rfl, rfl, ite01, h⟩
def w_X13_name (m : Nat) (Q : Int32 → xII → Prop) (I : xII) : Prop := ((0 < (I m 44) → ∃ R1 : Int32 → xII → Prop, w_X13_fails m (2 : Int32) R1 I ∧ (∀ (v1 : Int32) (I1 : xII), (v1 = 0 ∨ v1 = 1) → R1 v1 I1 → (Q (0 : Int32) I1))) ∧ (¬ 0 < (I m 44) → vp_in (I m 42) 4002 ∧ ((((I (m + 3) (ix (I m 42))) = (1 : Int32) → ∀ I3 : xII, I3 = xup I m 42 ((I m 42) + (1 : Int32)) → (Q (((I m 42) + (1 : Int32)) - (1 : Int32)) I3)) ∧ (¬ (I (m + 3) (ix (I m 42))) = (1 : Int32) → ∃ R4 : Int32 → xII → Prop, w_X13_fails m (2 : Int32) R4 I ∧ (∀ (v4 : Int32) (I4 : xII), (v4 = 0 ∨ v4 = 1) → R4 v4 I4 → (Q (0 : Int32) I4)))))))
theorem m_X13_name (hG : xOK G) {dp : Nat} {A : xA} {m : Nat} (hM : xMo G A m) {Q : Int32 → xII → Prop} {I : xII} (h : w_X13_name m Q I) : MX G (dp + 1) kX13_name [.ref m] (A.wI I) (oI A Q) := by
  unfold w_X13_name at h
  refine MX.of rfl (Nat.le_of_ble_eq_true rfl) ?_
  change X _ _ _ _ _ _ [some (.ref m)] _
  refine x_aload_n dX13_name_0 rfl ?_
  refine x_get (v := .int (I m 44)) hG dX13_name_1 f_X13_230_12 (mo_t hM) rfl ?_
  refine x_if_gt (tgt := 20) dX13_name_4 (by decide) (fun c4 => ?_) (fun c4 => ?_)
  · replace h := h.1 c4
    refine x_aload_n dX13_name_20 rfl ?_
    refine x_iconst_ (v := (2 : Int32)) dX13_name_21 (by decide) ?_
    obtain ⟨R1, g1, h⟩ := h
    refine x_callV hG (Ky := kX13_fails) (As := [.int (2 : Int32)]) dX13_name_22 (mo_t hM) rfl lk_X13_260 me_X13_fails is_X13_fails se_X13_fails rfl rfl (Nat.le_of_ble_eq_true rfl) (MX.post (m_X13_fails hG hM g1) ?_)
    rintro _ _ ⟨v1, I1, rfl, rfl, zv1, h1⟩
    replace h := h v1 I1 zv1 h1
    change X _ _ _ _ (A.wI I1) _ _ (.int v1 :: _)
    refine x_pop dX13_name_25 rfl ?_
    refine x_iconst_ (v := (0 : Int32)) dX13_name_26 (by decide) ?_
    exact x_iret dX13_name_27 rfl ⟨_, _, rfl, rfl, h⟩
  · replace h := h.2 c4
    refine x_aload_n dX13_name_7 rfl ?_
    refine x_get (v := .ref (m + 3)) hG dX13_name_8 f_X13_16_12 (mo_t hM) (congrArg va_rf (mo_P4 hM)) ?_
    refine x_aload_n dX13_name_11 rfl ?_
    refine x_get (v := .int (I m 42)) hG dX13_name_12 f_X13_233_12 (mo_t hM) rfl ?_
    obtain ⟨o2, h⟩ := h
    refine y_iald hG dX13_name_15 (mo_t4 hM) (mo_n4 hM) o2 ?_
    refine x_iconst_ (v := (1 : Int32)) dX13_name_16 (by decide) ?_
    refine x_icmp_eq (tgt := 28) dX13_name_17 (by decide) (fun c17 => ?_) (fun c17 => ?_)
    · replace h := h.1 c17
      refine x_aload_n dX13_name_28 rfl ?_
      refine x_dup dX13_name_29 rfl ?_
      refine x_get (v := .int (I m 42)) hG dX13_name_30 f_X13_233_12 (mo_t hM) rfl ?_
      refine x_iconst_ (v := (1 : Int32)) dX13_name_33 (by decide) ?_
      refine x_iadd dX13_name_34 ?_
      refine y_put hG hM dX13_name_35 f_X13_233_12 ⟨_, rfl, Or.inl rfl⟩ rfl rfl ⟨_, rfl⟩ (fun I3 e3 => ?_)
      replace h := h I3 e3
      refine x_aload_n dX13_name_38 rfl ?_
      refine x_get (v := .int (I3 m 42)) hG dX13_name_39 f_X13_233_12 (mo_t hM) rfl ?_
      refine x_eqi (v := ((I m 42) + (1 : Int32))) (xup_rs e3) ?_
      refine x_iconst_ (v := (1 : Int32)) dX13_name_42 (by decide) ?_
      refine x_isub dX13_name_43 ?_
      exact x_iret dX13_name_44 rfl ⟨_, _, rfl, rfl, h⟩
    · replace h := h.2 c17
      refine x_aload_n dX13_name_20 rfl ?_
      refine x_iconst_ (v := (2 : Int32)) dX13_name_21 (by decide) ?_
      obtain ⟨R4, g4, h⟩ := h
      refine x_callV hG (Ky := kX13_fails) (As := [.int (2 : Int32)]) dX13_name_22 (mo_t hM) rfl lk_X13_260 me_X13_fails is_X13_fails se_X13_fails rfl rfl (Nat.le_of_ble_eq_true rfl) (MX.post (m_X13_fails hG hM g4) ?_)
      rintro _ _ ⟨v4, I4, rfl, rfl, zv4, h1⟩
      replace h := h v4 I4 zv4 h1
      change X _ _ _ _ (A.wI I4) _ _ (.int v4 :: _)
      refine x_pop dX13_name_25 rfl ?_
      refine x_iconst_ (v := (0 : Int32)) dX13_name_26 (by decide) ?_
      exact x_iret dX13_name_27 rfl ⟨_, _, rfl, rfl, h⟩
def w_X13_opens (m : Nat) (Q : Int32 → xII → Prop) (I : xII) : Prop := (((I m 43) = (40 : Int32) → ∃ R3 : Int32 → xII → Prop, w_X13_fails m (3 : Int32) R3 I ∧ (∀ (v3 : Int32) (I3 : xII), (v3 = 0 ∨ v3 = 1) → R3 v3 I3 → (Q v3 I3))) ∧ (¬ (I m 43) = (40 : Int32) → ∀ I1 : xII, I1 = xup I m 43 ((I m 43) + (1 : Int32)) → (∀ I2 : xII, I2 = xup I1 m 42 ((I m 42) + (1 : Int32)) → (Q (1 : Int32) I2))))
theorem m_X13_opens (hG : xOK G) {dp : Nat} {A : xA} {m : Nat} (hM : xMo G A m) {Q : Int32 → xII → Prop} {I : xII} (h : w_X13_opens m Q I) : MX G (dp + 1) kX13_opens [.ref m] (A.wI I) (oZ A Q) := by
  unfold w_X13_opens at h
  refine MX.of rfl (Nat.le_of_ble_eq_true rfl) ?_
  change X _ _ _ _ _ _ [some (.ref m)] _
  refine x_aload_n dX13_opens_0 rfl ?_
  refine x_get (v := .int (I m 43)) hG dX13_opens_1 f_X13_266_12 (mo_t hM) rfl ?_
  refine x_bipush_ (v := (40 : Int32)) dX13_opens_4 (by decide) ?_
  refine x_icmp_ne (tgt := 15) dX13_opens_6 (by decide) (fun c6 => ?_) (fun c6 => ?_)
  · replace h := h.2 c6
    refine x_aload_n dX13_opens_15 rfl ?_
    refine x_dup dX13_opens_16 rfl ?_
    refine x_get (v := .int (I m 43)) hG dX13_opens_17 f_X13_266_12 (mo_t hM) rfl ?_
    refine x_iconst_ (v := (1 : Int32)) dX13_opens_20 (by decide) ?_
    refine x_iadd dX13_opens_21 ?_
    refine y_put hG hM dX13_opens_22 f_X13_266_12 ⟨_, rfl, Or.inl rfl⟩ rfl rfl ⟨_, rfl⟩ (fun I1 e1 => ?_)
    replace h := h I1 e1
    refine x_aload_n dX13_opens_25 rfl ?_
    refine x_dup dX13_opens_26 rfl ?_
    refine x_get (v := .int (I1 m 42)) hG dX13_opens_27 f_X13_233_12 (mo_t hM) rfl ?_
    refine x_eqi (v := (I m 42)) (xup_rk e1 (by decide)) ?_
    refine x_iconst_ (v := (1 : Int32)) dX13_opens_30 (by decide) ?_
    refine x_iadd dX13_opens_31 ?_
    refine y_put hG hM dX13_opens_32 f_X13_233_12 ⟨_, rfl, Or.inl rfl⟩ rfl rfl ⟨_, rfl⟩ (fun I2 e2 => ?_)
    replace h := h I2 e2
    refine x_iconst_ (v := (1 : Int32)) dX13_opens_35 (by decide) ?_
    exact x_zret dX13_opens_36 rfl (by decide) ⟨_, _, rfl, rfl, (by decide), h⟩
  · replace h := h.1 c6
    refine x_aload_n dX13_opens_9 rfl ?_
    refine x_iconst_ (v := (3 : Int32)) dX13_opens_10 (by decide) ?_
    obtain ⟨R3, g3, h⟩ := h
    refine x_callV hG (Ky := kX13_fails) (As := [.int (3 : Int32)]) dX13_opens_11 (mo_t hM) rfl lk_X13_260 me_X13_fails is_X13_fails se_X13_fails rfl rfl (Nat.le_of_ble_eq_true rfl) (MX.post (m_X13_fails hG hM g3) ?_)
    rintro _ _ ⟨v3, I3, rfl, rfl, zv3, h1⟩
    replace h := h v3 I3 zv3 h1
    change X _ _ _ _ (A.wI I3) _ _ (.int v3 :: _)
    exact x_zret dX13_opens_14 rfl zv3 ⟨_, _, rfl, rfl, zv3, h⟩
def w_X13_openSign (m : Nat) (s : Int32) (Q : Int32 → xII → Prop) (I : xII) : Prop := ((0 < (I m 44) → ∃ R1 : Int32 → xII → Prop, w_X13_fails m (2 : Int32) R1 I ∧ (∀ (v1 : Int32) (I1 : xII), (v1 = 0 ∨ v1 = 1) → R1 v1 I1 → (Q v1 I1))) ∧ (¬ 0 < (I m 44) → ∃ R2 : Int32 → xII → Prop, w_X13_isSign m s R2 I ∧ (∀ (v2 : Int32) (I2 : xII), (v2 = 0 ∨ v2 = 1) → R2 v2 I2 → (((v2 = 0 → ∃ R4 : Int32 → xII → Prop, w_X13_fails m (2 : Int32) R4 I2 ∧ (∀ (v4 : Int32) (I4 : xII), (v4 = 0 ∨ v4 = 1) → R4 v4 I4 → (Q v4 I4))) ∧ (¬ v2 = 0 → ∃ R3 : Int32 → xII → Prop, w_X13_opens m R3 I2 ∧ (∀ (v3 : Int32) (I3 : xII), (v3 = 0 ∨ v3 = 1) → R3 v3 I3 → (Q v3 I3))))))))
theorem m_X13_openSign (hG : xOK G) {dp : Nat} {A : xA} {m : Nat} (hM : xMo G A m) {s : Int32} {Q : Int32 → xII → Prop} {I : xII} (h : w_X13_openSign m s Q I) : MX G (dp + 2) kX13_openSign [.ref m, .int s] (A.wI I) (oZ A Q) := by
  unfold w_X13_openSign at h
  refine MX.of rfl (Nat.le_of_ble_eq_true rfl) ?_
  change X _ _ _ _ _ _ [some (.ref m), some (.int s)] _
  refine x_aload_n dX13_openSign_0 rfl ?_
  refine x_get (v := .int (I m 44)) hG dX13_openSign_1 f_X13_230_12 (mo_t hM) rfl ?_
  refine x_if_gt (tgt := 15) dX13_openSign_4 (by decide) (fun c4 => ?_) (fun c4 => ?_)
  · replace h := h.1 c4
    refine x_aload_n dX13_openSign_15 rfl ?_
    refine x_iconst_ (v := (2 : Int32)) dX13_openSign_16 (by decide) ?_
    obtain ⟨R1, g1, h⟩ := h
    refine x_callV hG (Ky := kX13_fails) (As := [.int (2 : Int32)]) dX13_openSign_17 (mo_t hM) rfl lk_X13_260 me_X13_fails is_X13_fails se_X13_fails rfl rfl (Nat.le_of_ble_eq_true rfl) (MX.post (m_X13_fails hG hM g1) ?_)
    rintro _ _ ⟨v1, I1, rfl, rfl, zv1, h1⟩
    replace h := h v1 I1 zv1 h1
    change X _ _ _ _ (A.wI I1) _ _ (.int v1 :: _)
    refine x_goto (tgt := 27) dX13_openSign_20 (by decide) ?_
    exact x_zret dX13_openSign_27 rfl zv1 ⟨_, _, rfl, rfl, zv1, h⟩
  · replace h := h.2 c4
    refine x_aload_n dX13_openSign_7 rfl ?_
    refine x_iload_n dX13_openSign_8 rfl ?_
    obtain ⟨R2, g2, h⟩ := h
    refine x_callV hG (Ky := kX13_isSign) (As := [.int s]) dX13_openSign_9 (mo_t hM) rfl lk_X13_257 me_X13_isSign is_X13_isSign se_X13_isSign rfl rfl (Nat.le_of_ble_eq_true rfl) (MX.post (m_X13_isSign hG hM g2) ?_)
    rintro _ _ ⟨v2, I2, rfl, rfl, zv2, h1⟩
    replace h := h v2 I2 zv2 h1
    change X _ _ _ _ (A.wI I2) _ _ (.int v2 :: _)
    refine x_if_ne (tgt := 23) dX13_openSign_12 (by decide) (fun c12 => ?_) (fun c12 => ?_)
    · replace h := h.2 c12
      refine x_aload_n dX13_openSign_23 rfl ?_
      obtain ⟨R3, g3, h⟩ := h
      refine x_callV hG (Ky := kX13_opens) (As := []) dX13_openSign_24 (mo_t hM) rfl lk_X13_269 me_X13_opens is_X13_opens se_X13_opens rfl rfl (Nat.le_of_ble_eq_true rfl) (MX.post (m_X13_opens hG hM g3) ?_)
      rintro _ _ ⟨v3, I3, rfl, rfl, zv3, h1⟩
      replace h := h v3 I3 zv3 h1
      change X _ _ _ _ (A.wI I3) _ _ (.int v3 :: _)
      exact x_zret dX13_openSign_27 rfl zv3 ⟨_, _, rfl, rfl, zv3, h⟩
    · replace h := h.1 c12
      refine x_aload_n dX13_openSign_15 rfl ?_
      refine x_iconst_ (v := (2 : Int32)) dX13_openSign_16 (by decide) ?_
      obtain ⟨R4, g4, h⟩ := h
      refine x_callV hG (Ky := kX13_fails) (As := [.int (2 : Int32)]) dX13_openSign_17 (mo_t hM) rfl lk_X13_260 me_X13_fails is_X13_fails se_X13_fails rfl rfl (Nat.le_of_ble_eq_true rfl) (MX.post (m_X13_fails hG hM g4) ?_)
      rintro _ _ ⟨v4, I4, rfl, rfl, zv4, h1⟩
      replace h := h v4 I4 zv4 h1
      change X _ _ _ _ (A.wI I4) _ _ (.int v4 :: _)
      refine x_goto (tgt := 27) dX13_openSign_20 (by decide) ?_
      exact x_zret dX13_openSign_27 rfl zv4 ⟨_, _, rfl, rfl, zv4, h⟩
def w_X13_closeSign (m : Nat) (s : Int32) (Q : Int32 → xII → Prop) (I : xII) : Prop := ∃ R1 : Int32 → xII → Prop, w_X13_sign m s R1 I ∧ (∀ (v1 : Int32) (I1 : xII), (v1 = 0 ∨ v1 = 1) → R1 v1 I1 → (((v1 = 0 → Q (0 : Int32) I1) ∧ (¬ v1 = 0 → ∀ I2 : xII, I2 = xup I1 m 43 ((I1 m 43) - (1 : Int32)) → (Q (1 : Int32) I2)))))
theorem m_X13_closeSign (hG : xOK G) {dp : Nat} {A : xA} {m : Nat} (hM : xMo G A m) {s : Int32} {Q : Int32 → xII → Prop} {I : xII} (h : w_X13_closeSign m s Q I) : MX G (dp + 2) kX13_closeSign [.ref m, .int s] (A.wI I) (oZ A Q) := by
  unfold w_X13_closeSign at h
  refine MX.of rfl (Nat.le_of_ble_eq_true rfl) ?_
  change X _ _ _ _ _ _ [some (.ref m), some (.int s)] _
  refine x_aload_n dX13_closeSign_0 rfl ?_
  refine x_iload_n dX13_closeSign_1 rfl ?_
  obtain ⟨R1, g1, h⟩ := h
  refine x_callV hG (Ky := kX13_sign) (As := [.int s]) dX13_closeSign_2 (mo_t hM) rfl lk_X13_273 me_X13_sign is_X13_sign se_X13_sign rfl rfl (Nat.le_of_ble_eq_true rfl) (MX.post (m_X13_sign hG hM g1) ?_)
  rintro _ _ ⟨v1, I1, rfl, rfl, zv1, h1⟩
  replace h := h v1 I1 zv1 h1
  change X _ _ _ _ (A.wI I1) _ _ (.int v1 :: _)
  refine x_if_ne (tgt := 10) dX13_closeSign_5 (by decide) (fun c5 => ?_) (fun c5 => ?_)
  · replace h := h.2 c5
    refine x_aload_n dX13_closeSign_10 rfl ?_
    refine x_dup dX13_closeSign_11 rfl ?_
    refine x_get (v := .int (I1 m 43)) hG dX13_closeSign_12 f_X13_266_12 (mo_t hM) rfl ?_
    refine x_iconst_ (v := (1 : Int32)) dX13_closeSign_15 (by decide) ?_
    refine x_isub dX13_closeSign_16 ?_
    refine y_put hG hM dX13_closeSign_17 f_X13_266_12 ⟨_, rfl, Or.inl rfl⟩ rfl rfl ⟨_, rfl⟩ (fun I2 e2 => ?_)
    replace h := h I2 e2
    refine x_iconst_ (v := (1 : Int32)) dX13_closeSign_20 (by decide) ?_
    exact x_zret dX13_closeSign_21 rfl (by decide) ⟨_, _, rfl, rfl, (by decide), h⟩
  · replace h := h.1 c5
    refine x_iconst_ (v := (0 : Int32)) dX13_closeSign_8 (by decide) ?_
    exact x_zret dX13_closeSign_9 rfl (by decide) ⟨_, _, rfl, rfl, (by decide), h⟩
def w_X13_step (m : Nat) (w : Int32) (a : Int32) (b : Int32) (Q : Int32 → xII → Prop) (I : xII) : Prop := vp_in (I m 60) 9000 ∧ (∀ I2 : xII, I2 = xup I (m + 32) (ix (I m 60)) w → (∀ I3 : xII, I3 = xup I2 (m + 33) (ix (I m 60)) a → (∀ I4 : xII, I4 = xup I3 (m + 34) (ix (I m 60)) b → (∀ I5 : xII, I5 = xup I4 m 60 ((I m 60) + (1 : Int32)) → (Q (((I m 60) + (1 : Int32)) - (1 : Int32)) I5)))))
theorem m_X13_step (hG : xOK G) {dp : Nat} {A : xA} {m : Nat} (hM : xMo G A m) {w : Int32} {a : Int32} {b : Int32} {Q : Int32 → xII → Prop} {I : xII} (h : w_X13_step m w a b Q I) : MX G (dp + 0) kX13_step [.ref m, .int w, .int a, .int b] (A.wI I) (oI A Q) := by
  unfold w_X13_step at h
  refine MX.of rfl (Nat.le_of_ble_eq_true rfl) ?_
  change X _ _ _ _ _ _ [some (.ref m), some (.int w), some (.int a), some (.int b)] _
  refine x_aload_n dX13_step_0 rfl ?_
  refine x_get (v := .ref (m + 32)) hG dX13_step_1 f_X13_104_12 (mo_t hM) (congrArg va_rf (mo_P56 hM)) ?_
  refine x_aload_n dX13_step_4 rfl ?_
  refine x_get (v := .int (I m 60)) hG dX13_step_5 f_X13_276_12 (mo_t hM) rfl ?_
  refine x_iload_n dX13_step_8 rfl ?_
  obtain ⟨o1, h⟩ := h
  refine y_iast hG dX13_step_9 (mo_t56 hM) (mo_aN hM) (mo_n56 hM) o1 (fun I2 e2 => ?_)
  replace h := h I2 e2
  refine x_aload_n dX13_step_10 rfl ?_
  refine x_get (v := .ref (m + 33)) hG dX13_step_11 f_X13_107_12 (mo_t hM) (congrArg va_rf (mo_P57 hM)) ?_
  refine x_aload_n dX13_step_14 rfl ?_
  refine x_get (v := .int (I2 m 60)) hG dX13_step_15 f_X13_276_12 (mo_t hM) rfl ?_
  refine x_eqi (v := (I m 60)) (xup_ra e2 (by omega)) ?_
  refine x_iload_n dX13_step_18 rfl ?_
  refine y_iast hG dX13_step_19 (mo_t57 hM) (mo_aN hM) (mo_n57 hM) o1 (fun I3 e3 => ?_)
  replace h := h I3 e3
  refine x_aload_n dX13_step_20 rfl ?_
  refine x_get (v := .ref (m + 34)) hG dX13_step_21 f_X13_110_12 (mo_t hM) (congrArg va_rf (mo_P58 hM)) ?_
  refine x_aload_n dX13_step_24 rfl ?_
  refine x_get (v := .int (I3 m 60)) hG dX13_step_25 f_X13_276_12 (mo_t hM) rfl ?_
  refine x_eqi (v := (I m 60)) ((xup_ra e3 (by omega)).trans (xup_ra e2 (by omega))) ?_
  refine x_iload_n dX13_step_28 rfl ?_
  refine y_iast hG dX13_step_29 (mo_t58 hM) (mo_aN hM) (mo_n58 hM) o1 (fun I4 e4 => ?_)
  replace h := h I4 e4
  refine x_aload_n dX13_step_30 rfl ?_
  refine x_dup dX13_step_31 rfl ?_
  refine x_get (v := .int (I4 m 60)) hG dX13_step_32 f_X13_276_12 (mo_t hM) rfl ?_
  refine x_eqi (v := (I m 60)) ((xup_ra e4 (by omega)).trans ((xup_ra e3 (by omega)).trans (xup_ra e2 (by omega)))) ?_
  refine x_iconst_ (v := (1 : Int32)) dX13_step_35 (by decide) ?_
  refine x_iadd dX13_step_36 ?_
  refine y_put hG hM dX13_step_37 f_X13_276_12 ⟨_, rfl, Or.inl rfl⟩ rfl rfl ⟨_, rfl⟩ (fun I5 e5 => ?_)
  replace h := h I5 e5
  refine x_aload_n dX13_step_40 rfl ?_
  refine x_get (v := .int (I5 m 60)) hG dX13_step_41 f_X13_276_12 (mo_t hM) rfl ?_
  refine x_eqi (v := ((I m 60) + (1 : Int32))) (xup_rs e5) ?_
  refine x_iconst_ (v := (1 : Int32)) dX13_step_44 (by decide) ?_
  refine x_isub dX13_step_45 ?_
  exact x_iret dX13_step_46 rfl ⟨_, _, rfl, rfl, h⟩
end W031
