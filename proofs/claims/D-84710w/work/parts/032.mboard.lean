/-! ===== 032.mboard (tools/w030.py) ===== -/
set_option maxRecDepth 100000
section W032
variable {G : xG}
def w_X13_gives (m : Nat) (d : Int32) (v : Int32) (Q : xII → Prop) (I : xII) : Prop := ((d ≤ 0 → Q I) ∧ (¬ d ≤ 0 → vp_in d 33 ∧ (∀ I2 : xII, I2 = xup I (m + 47) (ix d) v → (Q I2))))
theorem m_X13_gives (hG : xOK G) {dp : Nat} {A : xA} {m : Nat} (hM : xMo G A m) {d : Int32} {v : Int32} {Q : xII → Prop} {I : xII} (h : w_X13_gives m d v Q I) : MX G (dp + 0) kX13_gives [.ref m, .int d, .int v] (A.wI I) (oV A Q) := by
  unfold w_X13_gives at h
  refine MX.of rfl (Nat.le_of_ble_eq_true rfl) ?_
  change X _ _ _ _ _ _ [some (.ref m), some (.int d), some (.int v)] _
  refine x_iload_n dX13_gives_0 rfl ?_
  refine x_if_le (tgt := 11) dX13_gives_1 (by decide) (fun c1 => ?_) (fun c1 => ?_)
  · replace h := h.1 c1
    exact x_vret dX13_gives_11 rfl ⟨_, rfl, rfl, h⟩
  · replace h := h.2 c1
    refine x_aload_n dX13_gives_4 rfl ?_
    refine x_get (v := .ref (m + 47)) hG dX13_gives_5 f_X13_150_12 (mo_t hM) (congrArg va_rf (mo_P95 hM)) ?_
    refine x_iload_n dX13_gives_8 rfl ?_
    refine x_iload_n dX13_gives_9 rfl ?_
    obtain ⟨o1, h⟩ := h
    refine y_iast hG dX13_gives_10 (mo_t95 hM) (mo_aN hM) (mo_n95 hM) o1 (fun I2 e2 => ?_)
    replace h := h I2 e2
    exact x_vret dX13_gives_11 rfl ⟨_, rfl, rfl, h⟩
def w_X13_goesOn (m : Nat) (n : Int32) (Q : Int32 → xII → Prop) (I : xII) : Prop := vp_in (32 : Int32) 33 ∧ (∀ I2 : xII, I2 = xup I (m + 47) 32 n → (∀ I3 : xII, I3 = xup I2 m 96 ((I m 96) + (1 : Int32)) → (Q (0 : Int32) I3)))
theorem m_X13_goesOn (hG : xOK G) {dp : Nat} {A : xA} {m : Nat} (hM : xMo G A m) {n : Int32} {Q : Int32 → xII → Prop} {I : xII} (h : w_X13_goesOn m n Q I) : MX G (dp + 0) kX13_goesOn [.ref m, .int n] (A.wI I) (oI A Q) := by
  unfold w_X13_goesOn at h
  refine MX.of rfl (Nat.le_of_ble_eq_true rfl) ?_
  change X _ _ _ _ _ _ [some (.ref m), some (.int n)] _
  refine x_aload_n dX13_goesOn_0 rfl ?_
  refine x_get (v := .ref (m + 47)) hG dX13_goesOn_1 f_X13_150_12 (mo_t hM) (congrArg va_rf (mo_P95 hM)) ?_
  refine x_bipush_ (v := (32 : Int32)) dX13_goesOn_4 (by decide) ?_
  refine x_iload_n dX13_goesOn_6 rfl ?_
  obtain ⟨o1, h⟩ := h
  refine y_iast hG dX13_goesOn_7 (mo_t95 hM) (mo_aN hM) (mo_n95 hM) o1 (fun I2 e2 => ?_)
  replace h := h I2 e2
  refine x_aload_n dX13_goesOn_8 rfl ?_
  refine x_dup dX13_goesOn_9 rfl ?_
  refine x_get (v := .int (I2 m 96)) hG dX13_goesOn_10 f_X13_570_12 (mo_t hM) rfl ?_
  refine x_eqi (v := (I m 96)) (xup_ra e2 (by omega)) ?_
  refine x_iconst_ (v := (1 : Int32)) dX13_goesOn_13 (by decide) ?_
  refine x_iadd dX13_goesOn_14 ?_
  refine y_put hG hM dX13_goesOn_15 f_X13_570_12 ⟨_, rfl, Or.inl rfl⟩ rfl rfl ⟨_, rfl⟩ (fun I3 e3 => ?_)
  replace h := h I3 e3
  refine x_iconst_ (v := (0 : Int32)) dX13_goesOn_18 (by decide) ?_
  exact x_iret dX13_goesOn_19 rfl ⟨_, _, rfl, rfl, h⟩
def w_X13_jumps (m : Nat) (d : Int32) (t : Int32) (a : Int32) (Q : Int32 → xII → Prop) (I : xII) : Prop := (((t &&& (3 : Int32)) = 0 → ∃ R1 : xII → Prop, w_X13_gives m d (a + (4 : Int32)) R1 I ∧ (∀ I1 : xII, R1 I1 → (∃ R2 : Int32 → xII → Prop, w_X13_goesOn m t R2 I1 ∧ (∀ (v2 : Int32) (I2 : xII), R2 v2 I2 → (Q v2 I2))))) ∧ (¬ (t &&& (3 : Int32)) = 0 → Q (3 : Int32) I))
theorem m_X13_jumps (hG : xOK G) {dp : Nat} {A : xA} {m : Nat} (hM : xMo G A m) {d : Int32} {t : Int32} {a : Int32} {Q : Int32 → xII → Prop} {I : xII} (h : w_X13_jumps m d t a Q I) : MX G (dp + 1) kX13_jumps [.ref m, .int d, .int t, .int a] (A.wI I) (oI A Q) := by
  unfold w_X13_jumps at h
  refine MX.of rfl (Nat.le_of_ble_eq_true rfl) ?_
  change X _ _ _ _ _ _ [some (.ref m), some (.int d), some (.int t), some (.int a)] _
  refine x_iload_n dX13_jumps_0 rfl ?_
  refine x_iconst_ (v := (3 : Int32)) dX13_jumps_1 (by decide) ?_
  refine x_iand dX13_jumps_2 ?_
  refine x_if_eq (tgt := 8) dX13_jumps_3 (by decide) (fun c3 => ?_) (fun c3 => ?_)
  · replace h := h.1 c3
    refine x_aload_n dX13_jumps_8 rfl ?_
    refine x_iload_n dX13_jumps_9 rfl ?_
    refine x_iload_n dX13_jumps_10 rfl ?_
    refine x_iconst_ (v := (4 : Int32)) dX13_jumps_11 (by decide) ?_
    refine x_iadd dX13_jumps_12 ?_
    obtain ⟨R1, g1, h⟩ := h
    refine x_callV hG (Ky := kX13_gives) (As := [.int d, .int (a + (4 : Int32))]) dX13_jumps_13 (mo_t hM) rfl lk_X13_582 me_X13_gives is_X13_gives se_X13_gives rfl rfl (Nat.le_of_ble_eq_true rfl) (MX.post (m_X13_gives hG hM g1) ?_)
    rintro _ _ ⟨I1, rfl, rfl, h1⟩
    replace h := h I1 h1
    change X _ _ _ _ (A.wI I1) _ _ _
    refine x_aload_n dX13_jumps_16 rfl ?_
    refine x_iload_n dX13_jumps_17 rfl ?_
    obtain ⟨R2, g2, h⟩ := h
    refine x_callV hG (Ky := kX13_goesOn) (As := [.int t]) dX13_jumps_18 (mo_t hM) rfl lk_X13_585 me_X13_goesOn is_X13_goesOn se_X13_goesOn rfl rfl (Nat.le_of_ble_eq_true rfl) (MX.post (m_X13_goesOn hG hM g2) ?_)
    rintro _ _ ⟨v2, I2, rfl, rfl, h1⟩
    replace h := h v2 I2 h1
    change X _ _ _ _ (A.wI I2) _ _ (.int v2 :: _)
    exact x_iret dX13_jumps_21 rfl ⟨_, _, rfl, rfl, h⟩
  · replace h := h.2 c3
    refine x_iconst_ (v := (3 : Int32)) dX13_jumps_6 (by decide) ?_
    exact x_iret dX13_jumps_7 rfl ⟨_, _, rfl, rfl, h⟩
def w_X13_branches (m : Nat) (f : Int32) (a : Int32) (b : Int32) (t : Int32) (q : Int32) (Q : Int32 → xII → Prop) (I : xII) : Prop := ((f = (2 : Int32) → Q (2 : Int32) I) ∧ (¬ f = (2 : Int32) → ((f = (3 : Int32) → Q (2 : Int32) I) ∧ (¬ f = (3 : Int32) → (((if (f &&& (1 : Int32)) = 0 then (if (2 : Int32) ≤ f then (if (6 : Int32) ≤ f then (if (b + (-2147483648 : Int32)) ≤ (a + (-2147483648 : Int32)) then (0 : Int32) else (1 : Int32)) else (if b ≤ a then (0 : Int32) else (1 : Int32))) else (if a = b then (1 : Int32) else (0 : Int32))) else (if (if (2 : Int32) ≤ f then (if (6 : Int32) ≤ f then (if (b + (-2147483648 : Int32)) ≤ (a + (-2147483648 : Int32)) then (0 : Int32) else (1 : Int32)) else (if b ≤ a then (0 : Int32) else (1 : Int32))) else (if a = b then (1 : Int32) else (0 : Int32))) = 0 then (1 : Int32) else (0 : Int32))) = 0 → ∃ R2 : Int32 → xII → Prop, w_X13_goesOn m (q + (4 : Int32)) R2 I ∧ (∀ (v2 : Int32) (I2 : xII), R2 v2 I2 → (Q v2 I2))) ∧ (¬ (if (f &&& (1 : Int32)) = 0 then (if (2 : Int32) ≤ f then (if (6 : Int32) ≤ f then (if (b + (-2147483648 : Int32)) ≤ (a + (-2147483648 : Int32)) then (0 : Int32) else (1 : Int32)) else (if b ≤ a then (0 : Int32) else (1 : Int32))) else (if a = b then (1 : Int32) else (0 : Int32))) else (if (if (2 : Int32) ≤ f then (if (6 : Int32) ≤ f then (if (b + (-2147483648 : Int32)) ≤ (a + (-2147483648 : Int32)) then (0 : Int32) else (1 : Int32)) else (if b ≤ a then (0 : Int32) else (1 : Int32))) else (if a = b then (1 : Int32) else (0 : Int32))) = 0 then (1 : Int32) else (0 : Int32))) = 0 → (((t &&& (3 : Int32)) = 0 → ∃ R1 : Int32 → xII → Prop, w_X13_goesOn m t R1 I ∧ (∀ (v1 : Int32) (I1 : xII), R1 v1 I1 → (Q v1 I1))) ∧ (¬ (t &&& (3 : Int32)) = 0 → Q (3 : Int32) I))))))))
theorem m_X13_branches (hG : xOK G) {dp : Nat} {A : xA} {m : Nat} (hM : xMo G A m) {f : Int32} {a : Int32} {b : Int32} {t : Int32} {q : Int32} {Q : Int32 → xII → Prop} {I : xII} (h : w_X13_branches m f a b t q Q I) : MX G (dp + 1) kX13_branches [.ref m, .int f, .int a, .int b, .int t, .int q] (A.wI I) (oI A Q) := by
  unfold w_X13_branches at h
  refine MX.of rfl (Nat.le_of_ble_eq_true rfl) ?_
  change X _ _ _ _ _ _ [some (.ref m), some (.int f), some (.int a), some (.int b), some (.int t), some (.int q), none, none, none, none] _
  refine x_iload_n dX13_branches_0 rfl ?_
  refine x_iconst_ (v := (2 : Int32)) dX13_branches_1 (by decide) ?_
  refine x_icmp_eq (tgt := 10) dX13_branches_2 (by decide) (fun c2 => ?_) (fun c2 => ?_)
  · replace h := h.1 c2
    refine x_iconst_ (v := (2 : Int32)) dX13_branches_10 (by decide) ?_
    exact x_iret dX13_branches_11 rfl ⟨_, _, rfl, rfl, h⟩
  · replace h := h.2 c2
    refine x_iload_n dX13_branches_5 rfl ?_
    refine x_iconst_ (v := (3 : Int32)) dX13_branches_6 (by decide) ?_
    refine x_icmp_ne (tgt := 12) dX13_branches_7 (by decide) (fun c7 => ?_) (fun c7 => ?_)
    · replace h := h.2 c7
      refine x_iload_n dX13_branches_12 rfl ?_
      refine x_ldcw hG dX13_branches_13 q3487 ?_
      refine x_iadd dX13_branches_16 ?_
      refine x_istore dX13_branches_17 (by decide) ?_
      refine x_iload_n dX13_branches_19 rfl ?_
      refine x_ldcw hG dX13_branches_20 q3487 ?_
      refine x_iadd dX13_branches_23 ?_
      refine x_istore dX13_branches_24 (by decide) ?_
      refine x_iload_n dX13_branches_26 rfl ?_
      refine x_iconst_ (v := (2 : Int32)) dX13_branches_27 (by decide) ?_
      refine x_via 75 (A' := (A.wI I)) (lv' := [some (.ref m), some (.int f), none, none, some (.int t), some (.int q), none, none, none, none]) (st' := [.int (if (2 : Int32) ≤ f then (if (6 : Int32) ≤ f then (if (b + (-2147483648 : Int32)) ≤ (a + (-2147483648 : Int32)) then (0 : Int32) else (1 : Int32)) else (if b ≤ a then (0 : Int32) else (1 : Int32))) else (if a = b then (1 : Int32) else (0 : Int32)))]) ?_ (fun k75 => ?_)
      rotate_left
      · refine x_icmp_ge (tgt := 44) dX13_branches_28 (by decide) (fun c28 => ?_) (fun c28 => ?_)
        · refine x_iload_n dX13_branches_44 rfl ?_
          refine x_bipush_ (v := (6 : Int32)) dX13_branches_45 (by decide) ?_
          refine x_icmp_ge (tgt := 63) dX13_branches_47 (by decide) (fun c47 => ?_) (fun c47 => ?_)
          · refine x_iload dX13_branches_63 rfl ?_
            refine x_iload dX13_branches_65 rfl ?_
            refine x_icmp_ge (tgt := 74) dX13_branches_67 (by decide) (fun c67 => ?_) (fun c67 => ?_)
            · refine x_iconst_ (v := (0 : Int32)) dX13_branches_74 (by decide) ?_
              change X _ _ _ _ _ _ [some (.ref m), some (.int f), some (.int a), some (.int b), some (.int t), some (.int q), some (.int (a + (-2147483648 : Int32))), some (.int (b + (-2147483648 : Int32))), none, none] [.int (0 : Int32)]
              try simp only [if_pos c28] at c47 c67 k75 ⊢
              try simp only [if_pos c47] at c67 k75 ⊢
              try simp only [if_pos c67] at k75 ⊢
              exact X.weak (xle_c rfl (xle_c rfl (xle_n (xle_n (xle_c rfl (xle_c rfl (xle_n (xle_n (xle_n (xle_n xle_nil)))))))))) k75
            · refine x_iconst_ (v := (1 : Int32)) dX13_branches_70 (by decide) ?_
              refine x_goto (tgt := 75) dX13_branches_71 (by decide) ?_
              change X _ _ _ _ _ _ [some (.ref m), some (.int f), some (.int a), some (.int b), some (.int t), some (.int q), some (.int (a + (-2147483648 : Int32))), some (.int (b + (-2147483648 : Int32))), none, none] [.int (1 : Int32)]
              try simp only [if_pos c28] at c47 c67 k75 ⊢
              try simp only [if_pos c47] at c67 k75 ⊢
              try simp only [if_neg c67] at k75 ⊢
              exact X.weak (xle_c rfl (xle_c rfl (xle_n (xle_n (xle_c rfl (xle_c rfl (xle_n (xle_n (xle_n (xle_n xle_nil)))))))))) k75
          · refine x_iload_n dX13_branches_50 rfl ?_
            refine x_iload_n dX13_branches_51 rfl ?_
            refine x_icmp_ge (tgt := 59) dX13_branches_52 (by decide) (fun c52 => ?_) (fun c52 => ?_)
            · refine x_iconst_ (v := (0 : Int32)) dX13_branches_59 (by decide) ?_
              refine x_goto (tgt := 75) dX13_branches_60 (by decide) ?_
              change X _ _ _ _ _ _ [some (.ref m), some (.int f), some (.int a), some (.int b), some (.int t), some (.int q), some (.int (a + (-2147483648 : Int32))), some (.int (b + (-2147483648 : Int32))), none, none] [.int (0 : Int32)]
              try simp only [if_pos c28] at c47 c52 k75 ⊢
              try simp only [if_neg c47] at c52 k75 ⊢
              try simp only [if_pos c52] at k75 ⊢
              exact X.weak (xle_c rfl (xle_c rfl (xle_n (xle_n (xle_c rfl (xle_c rfl (xle_n (xle_n (xle_n (xle_n xle_nil)))))))))) k75
            · refine x_iconst_ (v := (1 : Int32)) dX13_branches_55 (by decide) ?_
              refine x_goto (tgt := 75) dX13_branches_56 (by decide) ?_
              change X _ _ _ _ _ _ [some (.ref m), some (.int f), some (.int a), some (.int b), some (.int t), some (.int q), some (.int (a + (-2147483648 : Int32))), some (.int (b + (-2147483648 : Int32))), none, none] [.int (1 : Int32)]
              try simp only [if_pos c28] at c47 c52 k75 ⊢
              try simp only [if_neg c47] at c52 k75 ⊢
              try simp only [if_neg c52] at k75 ⊢
              exact X.weak (xle_c rfl (xle_c rfl (xle_n (xle_n (xle_c rfl (xle_c rfl (xle_n (xle_n (xle_n (xle_n xle_nil)))))))))) k75
        · refine x_iload_n dX13_branches_31 rfl ?_
          refine x_iload_n dX13_branches_32 rfl ?_
          refine x_icmp_ne (tgt := 40) dX13_branches_33 (by decide) (fun c33 => ?_) (fun c33 => ?_)
          · refine x_iconst_ (v := (0 : Int32)) dX13_branches_40 (by decide) ?_
            refine x_goto (tgt := 75) dX13_branches_41 (by decide) ?_
            change X _ _ _ _ _ _ [some (.ref m), some (.int f), some (.int a), some (.int b), some (.int t), some (.int q), some (.int (a + (-2147483648 : Int32))), some (.int (b + (-2147483648 : Int32))), none, none] [.int (0 : Int32)]
            try simp only [if_neg c28] at c33 k75 ⊢
            try simp only [if_neg c33] at k75 ⊢
            exact X.weak (xle_c rfl (xle_c rfl (xle_n (xle_n (xle_c rfl (xle_c rfl (xle_n (xle_n (xle_n (xle_n xle_nil)))))))))) k75
          · refine x_iconst_ (v := (1 : Int32)) dX13_branches_36 (by decide) ?_
            refine x_goto (tgt := 75) dX13_branches_37 (by decide) ?_
            change X _ _ _ _ _ _ [some (.ref m), some (.int f), some (.int a), some (.int b), some (.int t), some (.int q), some (.int (a + (-2147483648 : Int32))), some (.int (b + (-2147483648 : Int32))), none, none] [.int (1 : Int32)]
            try simp only [if_neg c28] at c33 k75 ⊢
            try simp only [if_pos c33] at k75 ⊢
            exact X.weak (xle_c rfl (xle_c rfl (xle_n (xle_n (xle_c rfl (xle_c rfl (xle_n (xle_n (xle_n (xle_n xle_nil)))))))))) k75
      refine x_istore dX13_branches_75 (by decide) ?_
      refine x_iload_n dX13_branches_77 rfl ?_
      refine x_iconst_ (v := (1 : Int32)) dX13_branches_78 (by decide) ?_
      refine x_iand dX13_branches_79 ?_
      refine x_via 98 (A' := (A.wI I)) (lv' := [some (.ref m), none, none, none, some (.int t), some (.int q), none, none, none, none]) (st' := [.int (if (f &&& (1 : Int32)) = 0 then (if (2 : Int32) ≤ f then (if (6 : Int32) ≤ f then (if (b + (-2147483648 : Int32)) ≤ (a + (-2147483648 : Int32)) then (0 : Int32) else (1 : Int32)) else (if b ≤ a then (0 : Int32) else (1 : Int32))) else (if a = b then (1 : Int32) else (0 : Int32))) else (if (if (2 : Int32) ≤ f then (if (6 : Int32) ≤ f then (if (b + (-2147483648 : Int32)) ≤ (a + (-2147483648 : Int32)) then (0 : Int32) else (1 : Int32)) else (if b ≤ a then (0 : Int32) else (1 : Int32))) else (if a = b then (1 : Int32) else (0 : Int32))) = 0 then (1 : Int32) else (0 : Int32)))]) ?_ (fun k98 => ?_)
      rotate_left
      · refine x_if_ne (tgt := 88) dX13_branches_80 (by decide) (fun c80 => ?_) (fun c80 => ?_)
        · refine x_iload dX13_branches_88 rfl ?_
          refine x_if_ne (tgt := 97) dX13_branches_90 (by decide) (fun c90 => ?_) (fun c90 => ?_)
          · refine x_iconst_ (v := (0 : Int32)) dX13_branches_97 (by decide) ?_
            change X _ _ _ _ _ _ [some (.ref m), some (.int f), none, none, some (.int t), some (.int q), none, none, some (.int (if (2 : Int32) ≤ f then (if (6 : Int32) ≤ f then (if (b + (-2147483648 : Int32)) ≤ (a + (-2147483648 : Int32)) then (0 : Int32) else (1 : Int32)) else (if b ≤ a then (0 : Int32) else (1 : Int32))) else (if a = b then (1 : Int32) else (0 : Int32)))), none] [.int (0 : Int32)]
            try simp only [if_neg c80] at c90 k98 ⊢
            try simp only [if_neg c90] at k98 ⊢
            exact X.weak (xle_c rfl (xle_n (xle_n (xle_n (xle_c rfl (xle_c rfl (xle_n (xle_n (xle_n (xle_n xle_nil)))))))))) k98
          · refine x_iconst_ (v := (1 : Int32)) dX13_branches_93 (by decide) ?_
            refine x_goto (tgt := 98) dX13_branches_94 (by decide) ?_
            change X _ _ _ _ _ _ [some (.ref m), some (.int f), none, none, some (.int t), some (.int q), none, none, some (.int (if (2 : Int32) ≤ f then (if (6 : Int32) ≤ f then (if (b + (-2147483648 : Int32)) ≤ (a + (-2147483648 : Int32)) then (0 : Int32) else (1 : Int32)) else (if b ≤ a then (0 : Int32) else (1 : Int32))) else (if a = b then (1 : Int32) else (0 : Int32)))), none] [.int (1 : Int32)]
            try simp only [if_neg c80] at c90 k98 ⊢
            try simp only [if_pos c90] at k98 ⊢
            exact X.weak (xle_c rfl (xle_n (xle_n (xle_n (xle_c rfl (xle_c rfl (xle_n (xle_n (xle_n (xle_n xle_nil)))))))))) k98
        · refine x_iload dX13_branches_83 rfl ?_
          refine x_goto (tgt := 98) dX13_branches_85 (by decide) ?_
          change X _ _ _ _ _ _ [some (.ref m), some (.int f), none, none, some (.int t), some (.int q), none, none, some (.int (if (2 : Int32) ≤ f then (if (6 : Int32) ≤ f then (if (b + (-2147483648 : Int32)) ≤ (a + (-2147483648 : Int32)) then (0 : Int32) else (1 : Int32)) else (if b ≤ a then (0 : Int32) else (1 : Int32))) else (if a = b then (1 : Int32) else (0 : Int32)))), none] [.int (if (2 : Int32) ≤ f then (if (6 : Int32) ≤ f then (if (b + (-2147483648 : Int32)) ≤ (a + (-2147483648 : Int32)) then (0 : Int32) else (1 : Int32)) else (if b ≤ a then (0 : Int32) else (1 : Int32))) else (if a = b then (1 : Int32) else (0 : Int32)))]
          simp only [if_pos c80] at k98 ⊢
          exact X.weak (xle_c rfl (xle_n (xle_n (xle_n (xle_c rfl (xle_c rfl (xle_n (xle_n (xle_n (xle_n xle_nil)))))))))) k98
      refine x_istore dX13_branches_98 (by decide) ?_
      refine x_iload dX13_branches_100 rfl ?_
      refine x_if_ne (tgt := 114) dX13_branches_102 (by decide) (fun c102 => ?_) (fun c102 => ?_)
      · replace h := h.2 c102
        refine x_iload dX13_branches_114 rfl ?_
        refine x_iconst_ (v := (3 : Int32)) dX13_branches_116 (by decide) ?_
        refine x_iand dX13_branches_117 ?_
        refine x_if_eq (tgt := 125) dX13_branches_118 (by decide) (fun c118 => ?_) (fun c118 => ?_)
        · replace h := h.1 c118
          refine x_aload_n dX13_branches_125 rfl ?_
          refine x_iload dX13_branches_126 rfl ?_
          obtain ⟨R1, g1, h⟩ := h
          refine x_callV hG (Ky := kX13_goesOn) (As := [.int t]) dX13_branches_128 (mo_t hM) rfl lk_X13_585 me_X13_goesOn is_X13_goesOn se_X13_goesOn rfl rfl (Nat.le_of_ble_eq_true rfl) (MX.post (m_X13_goesOn hG hM g1) ?_)
          rintro _ _ ⟨v1, I1, rfl, rfl, h1⟩
          replace h := h v1 I1 h1
          change X _ _ _ _ (A.wI I1) _ _ (.int v1 :: _)
          exact x_iret dX13_branches_131 rfl ⟨_, _, rfl, rfl, h⟩
        · replace h := h.2 c118
          refine x_iconst_ (v := (3 : Int32)) dX13_branches_121 (by decide) ?_
          refine x_goto (tgt := 131) dX13_branches_122 (by decide) ?_
          exact x_iret dX13_branches_131 rfl ⟨_, _, rfl, rfl, h⟩
      · replace h := h.1 c102
        refine x_aload_n dX13_branches_105 rfl ?_
        refine x_iload dX13_branches_106 rfl ?_
        refine x_iconst_ (v := (4 : Int32)) dX13_branches_108 (by decide) ?_
        refine x_iadd dX13_branches_109 ?_
        obtain ⟨R2, g2, h⟩ := h
        refine x_callV hG (Ky := kX13_goesOn) (As := [.int (q + (4 : Int32))]) dX13_branches_110 (mo_t hM) rfl lk_X13_585 me_X13_goesOn is_X13_goesOn se_X13_goesOn rfl rfl (Nat.le_of_ble_eq_true rfl) (MX.post (m_X13_goesOn hG hM g2) ?_)
        rintro _ _ ⟨v2, I2, rfl, rfl, h1⟩
        replace h := h v2 I2 h1
        change X _ _ _ _ (A.wI I2) _ _ (.int v2 :: _)
        exact x_iret dX13_branches_113 rfl ⟨_, _, rfl, rfl, h⟩
    · replace h := h.1 c7
      refine x_iconst_ (v := (2 : Int32)) dX13_branches_10 (by decide) ?_
      exact x_iret dX13_branches_11 rfl ⟨_, _, rfl, rfl, h⟩
def w_X13_byteAt (m : Nat) (a : Int32) (Q : Int32 → xII → Prop) (I : xII) : Prop := vp_in (jishr a (2 : Int32)) 4096 ∧ (Q ((jiushr (I (m + 46) (ix (jishr a (2 : Int32)))) ((8 : Int32) * (a &&& (3 : Int32)))) &&& (255 : Int32)) I)
theorem m_X13_byteAt (hG : xOK G) {dp : Nat} {A : xA} {m : Nat} (hM : xMo G A m) {a : Int32} {Q : Int32 → xII → Prop} {I : xII} (h : w_X13_byteAt m a Q I) : MX G (dp + 0) kX13_byteAt [.ref m, .int a] (A.wI I) (oI A Q) := by
  unfold w_X13_byteAt at h
  refine MX.of rfl (Nat.le_of_ble_eq_true rfl) ?_
  change X _ _ _ _ _ _ [some (.ref m), some (.int a)] _
  refine x_aload_n dX13_byteAt_0 rfl ?_
  refine x_get (v := .ref (m + 46)) hG dX13_byteAt_1 f_X13_147_12 (mo_t hM) (congrArg va_rf (mo_P94 hM)) ?_
  refine x_iload_n dX13_byteAt_4 rfl ?_
  refine x_iconst_ (v := (2 : Int32)) dX13_byteAt_5 (by decide) ?_
  refine x_ishr dX13_byteAt_6 ?_
  refine x_eqi (v := (jishr a (2 : Int32))) rfl ?_
  obtain ⟨o1, h⟩ := h
  refine y_iald hG dX13_byteAt_7 (mo_t94 hM) (mo_n94 hM) o1 ?_
  refine x_bipush_ (v := (8 : Int32)) dX13_byteAt_8 (by decide) ?_
  refine x_iload_n dX13_byteAt_10 rfl ?_
  refine x_iconst_ (v := (3 : Int32)) dX13_byteAt_11 (by decide) ?_
  refine x_iand dX13_byteAt_12 ?_
  refine x_imul dX13_byteAt_13 ?_
  refine x_iushr dX13_byteAt_14 ?_
  refine x_eqi (v := (jiushr (I (m + 46) (ix (jishr a (2 : Int32)))) ((8 : Int32) * (a &&& (3 : Int32))))) rfl ?_
  refine x_sipush_ (v := (255 : Int32)) dX13_byteAt_15 (by decide) ?_
  refine x_iand dX13_byteAt_18 ?_
  exact x_iret dX13_byteAt_19 rfl ⟨_, _, rfl, rfl, h⟩
def w_X13_putByte (m : Nat) (a : Int32) (v : Int32) (Q : xII → Prop) (I : xII) : Prop := vp_in (jishr a (2 : Int32)) 4096 ∧ (∀ I2 : xII, I2 = xup I (m + 46) (ix (jishr a (2 : Int32))) (((I (m + 46) (ix (jishr a (2 : Int32)))) &&& ((jishl (255 : Int32) ((8 : Int32) * (a &&& (3 : Int32)))) ^^^ (-1 : Int32))) ||| (jishl (v &&& (255 : Int32)) ((8 : Int32) * (a &&& (3 : Int32))))) → (Q I2))
theorem m_X13_putByte (hG : xOK G) {dp : Nat} {A : xA} {m : Nat} (hM : xMo G A m) {a : Int32} {v : Int32} {Q : xII → Prop} {I : xII} (h : w_X13_putByte m a v Q I) : MX G (dp + 0) kX13_putByte [.ref m, .int a, .int v] (A.wI I) (oV A Q) := by
  unfold w_X13_putByte at h
  refine MX.of rfl (Nat.le_of_ble_eq_true rfl) ?_
  change X _ _ _ _ _ _ [some (.ref m), some (.int a), some (.int v), none] _
  refine x_bipush_ (v := (8 : Int32)) dX13_putByte_0 (by decide) ?_
  refine x_iload_n dX13_putByte_2 rfl ?_
  refine x_iconst_ (v := (3 : Int32)) dX13_putByte_3 (by decide) ?_
  refine x_iand dX13_putByte_4 ?_
  refine x_imul dX13_putByte_5 ?_
  refine x_istore_n dX13_putByte_6 (by decide) ?_
  refine x_aload_n dX13_putByte_7 rfl ?_
  refine x_get (v := .ref (m + 46)) hG dX13_putByte_8 f_X13_147_12 (mo_t hM) (congrArg va_rf (mo_P94 hM)) ?_
  refine x_iload_n dX13_putByte_11 rfl ?_
  refine x_iconst_ (v := (2 : Int32)) dX13_putByte_12 (by decide) ?_
  refine x_ishr dX13_putByte_13 ?_
  refine x_eqi (v := (jishr a (2 : Int32))) rfl ?_
  refine x_aload_n dX13_putByte_14 rfl ?_
  refine x_get (v := .ref (m + 46)) hG dX13_putByte_15 f_X13_147_12 (mo_t hM) (congrArg va_rf (mo_P94 hM)) ?_
  refine x_iload_n dX13_putByte_18 rfl ?_
  refine x_iconst_ (v := (2 : Int32)) dX13_putByte_19 (by decide) ?_
  refine x_ishr dX13_putByte_20 ?_
  refine x_eqi (v := (jishr a (2 : Int32))) rfl ?_
  obtain ⟨o1, h⟩ := h
  refine y_iald hG dX13_putByte_21 (mo_t94 hM) (mo_n94 hM) o1 ?_
  refine x_sipush_ (v := (255 : Int32)) dX13_putByte_22 (by decide) ?_
  refine x_iload_n dX13_putByte_25 rfl ?_
  refine x_ishl dX13_putByte_26 ?_
  refine x_eqi (v := (jishl (255 : Int32) ((8 : Int32) * (a &&& (3 : Int32))))) rfl ?_
  refine x_iconst_ (v := (-1 : Int32)) dX13_putByte_27 (by decide) ?_
  refine x_ixor dX13_putByte_28 ?_
  refine x_iand dX13_putByte_29 ?_
  refine x_iload_n dX13_putByte_30 rfl ?_
  refine x_sipush_ (v := (255 : Int32)) dX13_putByte_31 (by decide) ?_
  refine x_iand dX13_putByte_34 ?_
  refine x_iload_n dX13_putByte_35 rfl ?_
  refine x_ishl dX13_putByte_36 ?_
  refine x_eqi (v := (jishl (v &&& (255 : Int32)) ((8 : Int32) * (a &&& (3 : Int32))))) rfl ?_
  refine x_ior dX13_putByte_37 ?_
  refine y_iast hG dX13_putByte_38 (mo_t94 hM) (mo_aN hM) (mo_n94 hM) o1 (fun I2 e2 => ?_)
  replace h := h I2 e2
  exact x_vret dX13_putByte_39 rfl ⟨_, rfl, rfl, h⟩
def w_X13_loads (m : Nat) (f : Int32) (d : Int32) (a : Int32) (q : Int32) (Q : Int32 → xII → Prop) (I : xII) : Prop := ((f = (3 : Int32) → Q (2 : Int32) I) ∧ (¬ f = (3 : Int32) → ((f ≤ (5 : Int32) → (((a &&& ((if f = (2 : Int32) then (4 : Int32) else (if (f &&& (3 : Int32)) = (1 : Int32) then (2 : Int32) else (1 : Int32))) - (1 : Int32))) = 0 → (((f_X13_isOut a) = 0 → ∃ L1 : Nat → Int32 → Int32 → xII → Prop, (∃ n1 : Nat, L1 n1 (0 : Int32) ((if f = (2 : Int32) then (4 : Int32) else (if (f &&& (3 : Int32)) = (1 : Int32) then (2 : Int32) else (1 : Int32))) - (1 : Int32)) I) ∧ (∀ (n1 : Nat) (y1_6 : Int32) (y1_7 : Int32) (I1 : xII), L1 n1 y1_6 y1_7 I1 → ((y1_7 < 0 → ∃ R2 : xII → Prop, w_X13_gives m d (if f = 0 then y1_6.toInt8.toInt32 else (if f = (1 : Int32) then y1_6.toInt16.toInt32 else y1_6)) R2 I1 ∧ (∀ I2 : xII, R2 I2 → (∃ R3 : Int32 → xII → Prop, w_X13_goesOn m (q + (4 : Int32)) R3 I2 ∧ (∀ (v3 : Int32) (I3 : xII), R3 v3 I3 → (Q v3 I3))))) ∧ (¬ y1_7 < 0 → ∃ R4 : Int32 → xII → Prop, w_X13_byteAt m (a + y1_7) R4 I1 ∧ (∀ (v4 : Int32) (I4 : xII), R4 v4 I4 → ((∃ q1 : Nat, q1 < n1 ∧ L1 q1 ((jishl y1_6 (8 : Int32)) ||| v4) (y1_7 + (-1 : Int32)) I4))))))) ∧ (¬ (f_X13_isOut a) = 0 → Q (5 : Int32) I))) ∧ (¬ (a &&& ((if f = (2 : Int32) then (4 : Int32) else (if (f &&& (3 : Int32)) = (1 : Int32) then (2 : Int32) else (1 : Int32))) - (1 : Int32))) = 0 → Q (4 : Int32) I))) ∧ (¬ f ≤ (5 : Int32) → Q (2 : Int32) I))))
theorem m_X13_loads (hG : xOK G) {dp : Nat} {A : xA} {m : Nat} (hM : xMo G A m) {f : Int32} {d : Int32} {a : Int32} {q : Int32} {Q : Int32 → xII → Prop} {I : xII} (h : w_X13_loads m f d a q Q I) : MX G (dp + 1) kX13_loads [.ref m, .int f, .int d, .int a, .int q] (A.wI I) (oI A Q) := by
  unfold w_X13_loads at h
  refine MX.of rfl (Nat.le_of_ble_eq_true rfl) ?_
  change X _ _ _ _ _ _ [some (.ref m), some (.int f), some (.int d), some (.int a), some (.int q), none, none, none] _
  refine x_iload_n dX13_loads_0 rfl ?_
  refine x_iconst_ (v := (3 : Int32)) dX13_loads_1 (by decide) ?_
  refine x_icmp_eq (tgt := 10) dX13_loads_2 (by decide) (fun c2 => ?_) (fun c2 => ?_)
  · replace h := h.1 c2
    refine x_iconst_ (v := (2 : Int32)) dX13_loads_10 (by decide) ?_
    exact x_iret dX13_loads_11 rfl ⟨_, _, rfl, rfl, h⟩
  · replace h := h.2 c2
    refine x_iload_n dX13_loads_5 rfl ?_
    refine x_iconst_ (v := (5 : Int32)) dX13_loads_6 (by decide) ?_
    refine x_icmp_le (tgt := 12) dX13_loads_7 (by decide) (fun c7 => ?_) (fun c7 => ?_)
    · replace h := h.1 c7
      refine x_iload_n dX13_loads_12 rfl ?_
      refine x_iconst_ (v := (2 : Int32)) dX13_loads_13 (by decide) ?_
      refine x_via 33 (A' := (A.wI I)) (lv' := [some (.ref m), some (.int f), some (.int d), some (.int a), some (.int q), none, none, none]) (st' := [.int (if f = (2 : Int32) then (4 : Int32) else (if (f &&& (3 : Int32)) = (1 : Int32) then (2 : Int32) else (1 : Int32)))]) ?_ (fun k33 => ?_)
      rotate_left
      · refine x_icmp_ne (tgt := 21) dX13_loads_14 (by decide) (fun c14 => ?_) (fun c14 => ?_)
        · refine x_iload_n dX13_loads_21 rfl ?_
          refine x_iconst_ (v := (3 : Int32)) dX13_loads_22 (by decide) ?_
          refine x_iand dX13_loads_23 ?_
          refine x_iconst_ (v := (1 : Int32)) dX13_loads_24 (by decide) ?_
          refine x_icmp_ne (tgt := 32) dX13_loads_25 (by decide) (fun c25 => ?_) (fun c25 => ?_)
          · refine x_iconst_ (v := (1 : Int32)) dX13_loads_32 (by decide) ?_
            change X _ _ _ _ _ _ [some (.ref m), some (.int f), some (.int d), some (.int a), some (.int q), none, none, none] [.int (1 : Int32)]
            try simp only [if_neg c14] at c25 k33 ⊢
            try simp only [if_neg c25] at k33 ⊢
            exact X.weak (xle_c rfl (xle_c rfl (xle_c rfl (xle_c rfl (xle_c rfl (xle_n (xle_n (xle_n xle_nil)))))))) k33
          · refine x_iconst_ (v := (2 : Int32)) dX13_loads_28 (by decide) ?_
            refine x_goto (tgt := 33) dX13_loads_29 (by decide) ?_
            change X _ _ _ _ _ _ [some (.ref m), some (.int f), some (.int d), some (.int a), some (.int q), none, none, none] [.int (2 : Int32)]
            try simp only [if_neg c14] at c25 k33 ⊢
            try simp only [if_pos c25] at k33 ⊢
            exact X.weak (xle_c rfl (xle_c rfl (xle_c rfl (xle_c rfl (xle_c rfl (xle_n (xle_n (xle_n xle_nil)))))))) k33
        · refine x_iconst_ (v := (4 : Int32)) dX13_loads_17 (by decide) ?_
          refine x_goto (tgt := 33) dX13_loads_18 (by decide) ?_
          change X _ _ _ _ _ _ [some (.ref m), some (.int f), some (.int d), some (.int a), some (.int q), none, none, none] [.int (4 : Int32)]
          simp only [if_pos c14] at k33 ⊢
          exact X.weak (xle_c rfl (xle_c rfl (xle_c rfl (xle_c rfl (xle_c rfl (xle_n (xle_n (xle_n xle_nil)))))))) k33
      refine x_istore dX13_loads_33 (by decide) ?_
      refine x_iload_n dX13_loads_35 rfl ?_
      refine x_iload dX13_loads_36 rfl ?_
      refine x_iconst_ (v := (1 : Int32)) dX13_loads_38 (by decide) ?_
      refine x_isub dX13_loads_39 ?_
      refine x_iand dX13_loads_40 ?_
      refine x_if_eq (tgt := 46) dX13_loads_41 (by decide) (fun c41 => ?_) (fun c41 => ?_)
      · replace h := h.1 c41
        refine x_iload_n dX13_loads_46 rfl ?_
        refine x_callS hG (Ky := kX13_isOut) (As := [.int a]) dX13_loads_47 lk_X13_576 me_X13_isOut st_X13_isOut rfl rfl (Nat.le_of_ble_eq_true rfl) (MX.post (m_X13_isOut hG) ?_)
        rintro _ _ ⟨rfl, rfl⟩
        change X _ _ _ _ _ _ _ (.int (f_X13_isOut a) :: _)
        refine x_if_eq (tgt := 55) dX13_loads_50 (by decide) (fun c50 => ?_) (fun c50 => ?_)
        · replace h := h.1 c50
          refine x_iconst_ (v := (0 : Int32)) dX13_loads_55 (by decide) ?_
          refine x_istore dX13_loads_56 (by decide) ?_
          refine x_iload dX13_loads_58 rfl ?_
          refine x_iconst_ (v := (1 : Int32)) dX13_loads_60 (by decide) ?_
          refine x_isub dX13_loads_61 ?_
          refine x_istore dX13_loads_62 (by decide) ?_
          obtain ⟨L1, ⟨n1, i1⟩, g1⟩ := h
          have kl1 : ∀ n1 : Nat, ∀ (y1_6 : Int32) (y1_7 : Int32) (I1 : xII), L1 n1 y1_6 y1_7 I1 → X G (dp + 1) kX13_loads (oI A Q) (A.wI I1) 64 [some (.ref m), some (.int f), some (.int d), some (.int a), some (.int q), none, some (.int y1_6), some (.int y1_7)] [] := by
            intro n1
            induction n1 using Nat.strongRecOn with
            | ind n1 ih1 =>
              intro y1_6 y1_7 I1 h
              replace h := g1 n1 y1_6 y1_7 I1 h
              refine x_iload dX13_loads_64 rfl ?_
              refine x_if_lt (tgt := 91) dX13_loads_66 (by decide) (fun c66 => ?_) (fun c66 => ?_)
              · replace h := h.1 c66
                refine x_aload_n dX13_loads_91 rfl ?_
                refine x_iload_n dX13_loads_92 rfl ?_
                refine x_iload_n dX13_loads_93 rfl ?_
                refine x_via 116 (A' := (A.wI I1)) (lv' := [some (.ref m), none, none, none, some (.int q), none, none, none]) (st' := [.int (if f = 0 then y1_6.toInt8.toInt32 else (if f = (1 : Int32) then y1_6.toInt16.toInt32 else y1_6)), .int d, .ref m]) ?_ (fun k116 => ?_)
                rotate_left
                · refine x_if_ne (tgt := 103) dX13_loads_94 (by decide) (fun c94 => ?_) (fun c94 => ?_)
                  · refine x_iload_n dX13_loads_103 rfl ?_
                    refine x_iconst_ (v := (1 : Int32)) dX13_loads_104 (by decide) ?_
                    refine x_icmp_ne (tgt := 114) dX13_loads_105 (by decide) (fun c105 => ?_) (fun c105 => ?_)
                    · refine x_iload dX13_loads_114 rfl ?_
                      change X _ _ _ _ _ _ [some (.ref m), some (.int f), some (.int d), some (.int a), some (.int q), none, some (.int y1_6), some (.int y1_7)] [.int y1_6, .int d, .ref m]
                      try simp only [if_neg c94] at c105 k116 ⊢
                      try simp only [if_neg c105] at k116 ⊢
                      exact X.weak (xle_c rfl (xle_n (xle_n (xle_n (xle_c rfl (xle_n (xle_n (xle_n xle_nil)))))))) k116
                    · refine x_iload dX13_loads_108 rfl ?_
                      refine x_i2s dX13_loads_110 ?_
                      refine x_goto (tgt := 116) dX13_loads_111 (by decide) ?_
                      change X _ _ _ _ _ _ [some (.ref m), some (.int f), some (.int d), some (.int a), some (.int q), none, some (.int y1_6), some (.int y1_7)] [.int y1_6.toInt16.toInt32, .int d, .ref m]
                      try simp only [if_neg c94] at c105 k116 ⊢
                      try simp only [if_pos c105] at k116 ⊢
                      exact X.weak (xle_c rfl (xle_n (xle_n (xle_n (xle_c rfl (xle_n (xle_n (xle_n xle_nil)))))))) k116
                  · refine x_iload dX13_loads_97 rfl ?_
                    refine x_i2b dX13_loads_99 ?_
                    refine x_goto (tgt := 116) dX13_loads_100 (by decide) ?_
                    change X _ _ _ _ _ _ [some (.ref m), some (.int f), some (.int d), some (.int a), some (.int q), none, some (.int y1_6), some (.int y1_7)] [.int y1_6.toInt8.toInt32, .int d, .ref m]
                    simp only [if_pos c94] at k116 ⊢
                    exact X.weak (xle_c rfl (xle_n (xle_n (xle_n (xle_c rfl (xle_n (xle_n (xle_n xle_nil)))))))) k116
                obtain ⟨R2, g2, h⟩ := h
                refine x_callV hG (Ky := kX13_gives) (As := [.int d, .int (if f = 0 then y1_6.toInt8.toInt32 else (if f = (1 : Int32) then y1_6.toInt16.toInt32 else y1_6))]) dX13_loads_116 (mo_t hM) rfl lk_X13_582 me_X13_gives is_X13_gives se_X13_gives rfl rfl (Nat.le_of_ble_eq_true rfl) (MX.post (m_X13_gives hG hM g2) ?_)
                rintro _ _ ⟨I2, rfl, rfl, h1⟩
                replace h := h I2 h1
                change X _ _ _ _ (A.wI I2) _ _ _
                refine x_aload_n dX13_loads_119 rfl ?_
                refine x_iload dX13_loads_120 rfl ?_
                refine x_iconst_ (v := (4 : Int32)) dX13_loads_122 (by decide) ?_
                refine x_iadd dX13_loads_123 ?_
                obtain ⟨R3, g3, h⟩ := h
                refine x_callV hG (Ky := kX13_goesOn) (As := [.int (q + (4 : Int32))]) dX13_loads_124 (mo_t hM) rfl lk_X13_585 me_X13_goesOn is_X13_goesOn se_X13_goesOn rfl rfl (Nat.le_of_ble_eq_true rfl) (MX.post (m_X13_goesOn hG hM g3) ?_)
                rintro _ _ ⟨v3, I3, rfl, rfl, h1⟩
                replace h := h v3 I3 h1
                change X _ _ _ _ (A.wI I3) _ _ (.int v3 :: _)
                exact x_iret dX13_loads_127 rfl ⟨_, _, rfl, rfl, h⟩
              · replace h := h.2 c66
                refine x_iload dX13_loads_69 rfl ?_
                refine x_bipush_ (v := (8 : Int32)) dX13_loads_71 (by decide) ?_
                refine x_ishl dX13_loads_73 ?_
                refine x_eqi (v := (jishl y1_6 (8 : Int32))) rfl ?_
                refine x_aload_n dX13_loads_74 rfl ?_
                refine x_iload_n dX13_loads_75 rfl ?_
                refine x_iload dX13_loads_76 rfl ?_
                refine x_iadd dX13_loads_78 ?_
                obtain ⟨R4, g4, h⟩ := h
                refine x_callV hG (Ky := kX13_byteAt) (As := [.int (a + y1_7)]) dX13_loads_79 (mo_t hM) rfl lk_X13_611 me_X13_byteAt is_X13_byteAt se_X13_byteAt rfl rfl (Nat.le_of_ble_eq_true rfl) (MX.post (m_X13_byteAt hG hM g4) ?_)
                rintro _ _ ⟨v4, I4, rfl, rfl, h1⟩
                replace h := h v4 I4 h1
                change X _ _ _ _ (A.wI I4) _ _ (.int v4 :: _)
                refine x_ior dX13_loads_82 ?_
                refine x_istore dX13_loads_83 (by decide) ?_
                refine x_iinc (v := (y1_7 + (-1 : Int32))) dX13_loads_85 rfl rfl (by decide) ?_
                refine x_goto (tgt := 64) dX13_loads_88 (by decide) ?_
                obtain ⟨q1, l1, h⟩ := h
                change X _ _ _ _ _ _ [some (.ref m), some (.int f), some (.int d), some (.int a), some (.int q), none, some (.int ((jishl y1_6 (8 : Int32)) ||| v4)), some (.int (y1_7 + (-1 : Int32)))] []
                exact X.weak (xle_c rfl (xle_c rfl (xle_c rfl (xle_c rfl (xle_c rfl (xle_n (xle_c rfl (xle_c rfl xle_nil)))))))) (ih1 q1 l1 ((jishl y1_6 (8 : Int32)) ||| v4) (y1_7 + (-1 : Int32)) I4 h)
          change X _ _ _ _ _ _ [some (.ref m), some (.int f), some (.int d), some (.int a), some (.int q), some (.int (if f = (2 : Int32) then (4 : Int32) else (if (f &&& (3 : Int32)) = (1 : Int32) then (2 : Int32) else (1 : Int32)))), some (.int (0 : Int32)), some (.int ((if f = (2 : Int32) then (4 : Int32) else (if (f &&& (3 : Int32)) = (1 : Int32) then (2 : Int32) else (1 : Int32))) - (1 : Int32)))] []
          exact X.weak (xle_c rfl (xle_c rfl (xle_c rfl (xle_c rfl (xle_c rfl (xle_n (xle_c rfl (xle_c rfl xle_nil)))))))) (kl1 n1 (0 : Int32) ((if f = (2 : Int32) then (4 : Int32) else (if (f &&& (3 : Int32)) = (1 : Int32) then (2 : Int32) else (1 : Int32))) - (1 : Int32)) I i1)
        · replace h := h.2 c50
          refine x_iconst_ (v := (5 : Int32)) dX13_loads_53 (by decide) ?_
          exact x_iret dX13_loads_54 rfl ⟨_, _, rfl, rfl, h⟩
      · replace h := h.2 c41
        refine x_iconst_ (v := (4 : Int32)) dX13_loads_44 (by decide) ?_
        exact x_iret dX13_loads_45 rfl ⟨_, _, rfl, rfl, h⟩
    · replace h := h.2 c7
      refine x_iconst_ (v := (2 : Int32)) dX13_loads_10 (by decide) ?_
      exact x_iret dX13_loads_11 rfl ⟨_, _, rfl, rfl, h⟩
def w_X13_stores (m : Nat) (f : Int32) (a : Int32) (v : Int32) (q : Int32) (Q : Int32 → xII → Prop) (I : xII) : Prop := ((f ≤ (2 : Int32) → (((a &&& ((jishl (1 : Int32) f) - (1 : Int32))) = 0 → (((f_X13_isOut a) = 0 → ∃ L1 : Nat → Int32 → xII → Prop, (∃ n1 : Nat, L1 n1 (0 : Int32) I) ∧ (∀ (n1 : Nat) (y1_6 : Int32) (I1 : xII), L1 n1 y1_6 I1 → (((jishl (1 : Int32) f) ≤ y1_6 → ∃ R2 : Int32 → xII → Prop, w_X13_goesOn m (q + (4 : Int32)) R2 I1 ∧ (∀ (v2 : Int32) (I2 : xII), R2 v2 I2 → (Q v2 I2))) ∧ (¬ (jishl (1 : Int32) f) ≤ y1_6 → ∃ R3 : xII → Prop, w_X13_putByte m (a + y1_6) (jishr v ((8 : Int32) * y1_6)) R3 I1 ∧ (∀ I3 : xII, R3 I3 → ((∃ q1 : Nat, q1 < n1 ∧ L1 q1 (y1_6 + (1 : Int32)) I3))))))) ∧ (¬ (f_X13_isOut a) = 0 → Q (5 : Int32) I))) ∧ (¬ (a &&& ((jishl (1 : Int32) f) - (1 : Int32))) = 0 → Q (4 : Int32) I))) ∧ (¬ f ≤ (2 : Int32) → Q (2 : Int32) I))
theorem m_X13_stores (hG : xOK G) {dp : Nat} {A : xA} {m : Nat} (hM : xMo G A m) {f : Int32} {a : Int32} {v : Int32} {q : Int32} {Q : Int32 → xII → Prop} {I : xII} (h : w_X13_stores m f a v q Q I) : MX G (dp + 1) kX13_stores [.ref m, .int f, .int a, .int v, .int q] (A.wI I) (oI A Q) := by
  unfold w_X13_stores at h
  refine MX.of rfl (Nat.le_of_ble_eq_true rfl) ?_
  change X _ _ _ _ _ _ [some (.ref m), some (.int f), some (.int a), some (.int v), some (.int q), none, none] _
  refine x_iload_n dX13_stores_0 rfl ?_
  refine x_iconst_ (v := (2 : Int32)) dX13_stores_1 (by decide) ?_
  refine x_icmp_le (tgt := 7) dX13_stores_2 (by decide) (fun c2 => ?_) (fun c2 => ?_)
  · replace h := h.1 c2
    refine x_iconst_ (v := (1 : Int32)) dX13_stores_7 (by decide) ?_
    refine x_iload_n dX13_stores_8 rfl ?_
    refine x_ishl dX13_stores_9 ?_
    refine x_eqi (v := (jishl (1 : Int32) f)) rfl ?_
    refine x_istore dX13_stores_10 (by decide) ?_
    refine x_iload_n dX13_stores_12 rfl ?_
    refine x_iload dX13_stores_13 rfl ?_
    refine x_iconst_ (v := (1 : Int32)) dX13_stores_15 (by decide) ?_
    refine x_isub dX13_stores_16 ?_
    refine x_iand dX13_stores_17 ?_
    refine x_if_eq (tgt := 23) dX13_stores_18 (by decide) (fun c18 => ?_) (fun c18 => ?_)
    · replace h := h.1 c18
      refine x_iload_n dX13_stores_23 rfl ?_
      refine x_callS hG (Ky := kX13_isOut) (As := [.int a]) dX13_stores_24 lk_X13_576 me_X13_isOut st_X13_isOut rfl rfl (Nat.le_of_ble_eq_true rfl) (MX.post (m_X13_isOut hG) ?_)
      rintro _ _ ⟨rfl, rfl⟩
      change X _ _ _ _ _ _ _ (.int (f_X13_isOut a) :: _)
      refine x_if_eq (tgt := 32) dX13_stores_27 (by decide) (fun c27 => ?_) (fun c27 => ?_)
      · replace h := h.1 c27
        refine x_iconst_ (v := (0 : Int32)) dX13_stores_32 (by decide) ?_
        refine x_istore dX13_stores_33 (by decide) ?_
        obtain ⟨L1, ⟨n1, i1⟩, g1⟩ := h
        have kl1 : ∀ n1 : Nat, ∀ (y1_6 : Int32) (I1 : xII), L1 n1 y1_6 I1 → X G (dp + 1) kX13_stores (oI A Q) (A.wI I1) 35 [some (.ref m), none, some (.int a), some (.int v), some (.int q), some (.int (jishl (1 : Int32) f)), some (.int y1_6)] [] := by
          intro n1
          induction n1 using Nat.strongRecOn with
          | ind n1 ih1 =>
            intro y1_6 I1 h
            replace h := g1 n1 y1_6 I1 h
            refine x_iload dX13_stores_35 rfl ?_
            refine x_iload dX13_stores_37 rfl ?_
            refine x_icmp_ge (tgt := 63) dX13_stores_39 (by decide) (fun c39 => ?_) (fun c39 => ?_)
            · replace h := h.1 c39
              refine x_aload_n dX13_stores_63 rfl ?_
              refine x_iload dX13_stores_64 rfl ?_
              refine x_iconst_ (v := (4 : Int32)) dX13_stores_66 (by decide) ?_
              refine x_iadd dX13_stores_67 ?_
              obtain ⟨R2, g2, h⟩ := h
              refine x_callV hG (Ky := kX13_goesOn) (As := [.int (q + (4 : Int32))]) dX13_stores_68 (mo_t hM) rfl lk_X13_585 me_X13_goesOn is_X13_goesOn se_X13_goesOn rfl rfl (Nat.le_of_ble_eq_true rfl) (MX.post (m_X13_goesOn hG hM g2) ?_)
              rintro _ _ ⟨v2, I2, rfl, rfl, h1⟩
              replace h := h v2 I2 h1
              change X _ _ _ _ (A.wI I2) _ _ (.int v2 :: _)
              exact x_iret dX13_stores_71 rfl ⟨_, _, rfl, rfl, h⟩
            · replace h := h.2 c39
              refine x_aload_n dX13_stores_42 rfl ?_
              refine x_iload_n dX13_stores_43 rfl ?_
              refine x_iload dX13_stores_44 rfl ?_
              refine x_iadd dX13_stores_46 ?_
              refine x_iload_n dX13_stores_47 rfl ?_
              refine x_bipush_ (v := (8 : Int32)) dX13_stores_48 (by decide) ?_
              refine x_iload dX13_stores_50 rfl ?_
              refine x_imul dX13_stores_52 ?_
              refine x_ishr dX13_stores_53 ?_
              refine x_eqi (v := (jishr v ((8 : Int32) * y1_6))) rfl ?_
              obtain ⟨R3, g3, h⟩ := h
              refine x_callV hG (Ky := kX13_putByte) (As := [.int (a + y1_6), .int (jishr v ((8 : Int32) * y1_6))]) dX13_stores_54 (mo_t hM) rfl lk_X13_614 me_X13_putByte is_X13_putByte se_X13_putByte rfl rfl (Nat.le_of_ble_eq_true rfl) (MX.post (m_X13_putByte hG hM g3) ?_)
              rintro _ _ ⟨I3, rfl, rfl, h1⟩
              replace h := h I3 h1
              change X _ _ _ _ (A.wI I3) _ _ _
              refine x_iinc (v := (y1_6 + (1 : Int32))) dX13_stores_57 rfl rfl (by decide) ?_
              refine x_goto (tgt := 35) dX13_stores_60 (by decide) ?_
              obtain ⟨q1, l1, h⟩ := h
              change X _ _ _ _ _ _ [some (.ref m), none, some (.int a), some (.int v), some (.int q), some (.int (jishl (1 : Int32) f)), some (.int (y1_6 + (1 : Int32)))] []
              exact X.weak (xle_c rfl (xle_n (xle_c rfl (xle_c rfl (xle_c rfl (xle_c rfl (xle_c rfl xle_nil))))))) (ih1 q1 l1 (y1_6 + (1 : Int32)) I3 h)
        change X _ _ _ _ _ _ [some (.ref m), some (.int f), some (.int a), some (.int v), some (.int q), some (.int (jishl (1 : Int32) f)), some (.int (0 : Int32))] []
        exact X.weak (xle_c rfl (xle_n (xle_c rfl (xle_c rfl (xle_c rfl (xle_c rfl (xle_c rfl xle_nil))))))) (kl1 n1 (0 : Int32) I i1)
      · replace h := h.2 c27
        refine x_iconst_ (v := (5 : Int32)) dX13_stores_30 (by decide) ?_
        exact x_iret dX13_stores_31 rfl ⟨_, _, rfl, rfl, h⟩
    · replace h := h.2 c18
      refine x_iconst_ (v := (4 : Int32)) dX13_stores_21 (by decide) ?_
      exact x_iret dX13_stores_22 rfl ⟨_, _, rfl, rfl, h⟩
  · replace h := h.2 c2
    refine x_iconst_ (v := (2 : Int32)) dX13_stores_5 (by decide) ?_
    exact x_iret dX13_stores_6 rfl ⟨_, _, rfl, rfl, h⟩
def w_X13_immediate (m : Nat) (f : Int32) (g : Int32) (d : Int32) (a : Int32) (i : Int32) (n : Int32) (q : Int32) (Q : Int32 → xII → Prop) (I : xII) : Prop := ((f = (1 : Int32) → ((g = 0 → ∃ J13 : Int32 → Prop, (∀ (y13_8 : Int32), J13 y13_8 → ∃ R14 : xII → Prop, w_X13_gives m d y13_8 R14 I ∧ (∀ I14 : xII, R14 I14 → (∃ R15 : Int32 → xII → Prop, w_X13_goesOn m (q + (4 : Int32)) R15 I14 ∧ (∀ (v15 : Int32) (I15 : xII), R15 v15 I15 → (Q v15 I15))))) ∧ (((f = (0 : Int32)) → J13 (a + i)) ∧ ((f = (1 : Int32)) → J13 (jishl a n)) ∧ ((f = (2 : Int32)) → J13 (if i ≤ a then (0 : Int32) else (1 : Int32))) ∧ ((f = (3 : Int32)) → J13 (if (i + (-2147483648 : Int32)) ≤ (a + (-2147483648 : Int32)) then (0 : Int32) else (1 : Int32))) ∧ ((f = (4 : Int32)) → J13 (a ^^^ i)) ∧ ((f = (5 : Int32)) → J13 (jiushr a n)) ∧ ((f = (6 : Int32)) → J13 (a ||| i)) ∧ ((¬ f = (0 : Int32) ∧ ¬ f = (1 : Int32) ∧ ¬ f = (2 : Int32) ∧ ¬ f = (3 : Int32) ∧ ¬ f = (4 : Int32) ∧ ¬ f = (5 : Int32) ∧ ¬ f = (6 : Int32)) → J13 (a &&& i)))) ∧ (¬ g = 0 → Q (2 : Int32) I))) ∧ (¬ f = (1 : Int32) → ((f = (5 : Int32) → ((g = 0 → ∃ J5 : Int32 → Prop, (∀ (y5_8 : Int32), J5 y5_8 → ∃ R6 : xII → Prop, w_X13_gives m d y5_8 R6 I ∧ (∀ I6 : xII, R6 I6 → (∃ R7 : Int32 → xII → Prop, w_X13_goesOn m (q + (4 : Int32)) R7 I6 ∧ (∀ (v7 : Int32) (I7 : xII), R7 v7 I7 → (Q v7 I7))))) ∧ (((f = (0 : Int32)) → J5 (a + i)) ∧ ((f = (1 : Int32)) → J5 (jishl a n)) ∧ ((f = (2 : Int32)) → J5 (if i ≤ a then (0 : Int32) else (1 : Int32))) ∧ ((f = (3 : Int32)) → J5 (if (i + (-2147483648 : Int32)) ≤ (a + (-2147483648 : Int32)) then (0 : Int32) else (1 : Int32))) ∧ ((f = (4 : Int32)) → J5 (a ^^^ i)) ∧ ((f = (5 : Int32)) → J5 (jiushr a n)) ∧ ((f = (6 : Int32)) → J5 (a ||| i)) ∧ ((¬ f = (0 : Int32) ∧ ¬ f = (1 : Int32) ∧ ¬ f = (2 : Int32) ∧ ¬ f = (3 : Int32) ∧ ¬ f = (4 : Int32) ∧ ¬ f = (5 : Int32) ∧ ¬ f = (6 : Int32)) → J5 (a &&& i)))) ∧ (¬ g = 0 → ((g = (32 : Int32) → ∃ J9 : Int32 → Prop, (∀ (y9_8 : Int32), J9 y9_8 → ∃ R10 : xII → Prop, w_X13_gives m d y9_8 R10 I ∧ (∀ I10 : xII, R10 I10 → (∃ R11 : Int32 → xII → Prop, w_X13_goesOn m (q + (4 : Int32)) R11 I10 ∧ (∀ (v11 : Int32) (I11 : xII), R11 v11 I11 → (Q v11 I11))))) ∧ (((f = (0 : Int32)) → J9 (a + i)) ∧ ((f = (1 : Int32)) → J9 (jishl a n)) ∧ ((f = (2 : Int32)) → J9 (if i ≤ a then (0 : Int32) else (1 : Int32))) ∧ ((f = (3 : Int32)) → J9 (if (i + (-2147483648 : Int32)) ≤ (a + (-2147483648 : Int32)) then (0 : Int32) else (1 : Int32))) ∧ ((f = (4 : Int32)) → J9 (a ^^^ i)) ∧ ((f = (5 : Int32)) → J9 (jishr a n)) ∧ ((f = (6 : Int32)) → J9 (a ||| i)) ∧ ((¬ f = (0 : Int32) ∧ ¬ f = (1 : Int32) ∧ ¬ f = (2 : Int32) ∧ ¬ f = (3 : Int32) ∧ ¬ f = (4 : Int32) ∧ ¬ f = (5 : Int32) ∧ ¬ f = (6 : Int32)) → J9 (a &&& i)))) ∧ (¬ g = (32 : Int32) → Q (2 : Int32) I))))) ∧ (¬ f = (5 : Int32) → ∃ J1 : Int32 → Prop, (∀ (y1_8 : Int32), J1 y1_8 → ∃ R2 : xII → Prop, w_X13_gives m d y1_8 R2 I ∧ (∀ I2 : xII, R2 I2 → (∃ R3 : Int32 → xII → Prop, w_X13_goesOn m (q + (4 : Int32)) R3 I2 ∧ (∀ (v3 : Int32) (I3 : xII), R3 v3 I3 → (Q v3 I3))))) ∧ (((f = (0 : Int32)) → J1 (a + i)) ∧ ((f = (1 : Int32)) → J1 (jishl a n)) ∧ ((f = (2 : Int32)) → J1 (if i ≤ a then (0 : Int32) else (1 : Int32))) ∧ ((f = (3 : Int32)) → J1 (if (i + (-2147483648 : Int32)) ≤ (a + (-2147483648 : Int32)) then (0 : Int32) else (1 : Int32))) ∧ ((f = (4 : Int32)) → J1 (a ^^^ i)) ∧ ((f = (5 : Int32)) → J1 (if g = 0 then (jiushr a n) else (jishr a n))) ∧ ((f = (6 : Int32)) → J1 (a ||| i)) ∧ ((¬ f = (0 : Int32) ∧ ¬ f = (1 : Int32) ∧ ¬ f = (2 : Int32) ∧ ¬ f = (3 : Int32) ∧ ¬ f = (4 : Int32) ∧ ¬ f = (5 : Int32) ∧ ¬ f = (6 : Int32)) → J1 (a &&& i)))))))
theorem m_X13_immediate (hG : xOK G) {dp : Nat} {A : xA} {m : Nat} (hM : xMo G A m) {f : Int32} {g : Int32} {d : Int32} {a : Int32} {i : Int32} {n : Int32} {q : Int32} {Q : Int32 → xII → Prop} {I : xII} (h : w_X13_immediate m f g d a i n q Q I) : MX G (dp + 1) kX13_immediate [.ref m, .int f, .int g, .int d, .int a, .int i, .int n, .int q] (A.wI I) (oI A Q) := by
  unfold w_X13_immediate at h
  refine MX.of rfl (Nat.le_of_ble_eq_true rfl) ?_
  change X _ _ _ _ _ _ [some (.ref m), some (.int f), some (.int g), some (.int d), some (.int a), some (.int i), some (.int n), some (.int q), none] _
  refine x_iload_n dX13_immediate_0 rfl ?_
  refine x_iconst_ (v := (1 : Int32)) dX13_immediate_1 (by decide) ?_
  refine x_icmp_ne (tgt := 9) dX13_immediate_2 (by decide) (fun c2 => ?_) (fun c2 => ?_)
  · replace h := h.2 c2
    refine x_iload_n dX13_immediate_9 rfl ?_
    refine x_iconst_ (v := (5 : Int32)) dX13_immediate_10 (by decide) ?_
    refine x_icmp_ne (tgt := 26) dX13_immediate_11 (by decide) (fun c11 => ?_) (fun c11 => ?_)
    · replace h := h.2 c11
      refine x_iload_n dX13_immediate_26 rfl ?_
      obtain ⟨J1, g1, h⟩ := h
      have kj1 : ∀ (y1_8 : Int32), J1 y1_8 → X G (dp + 1) kX13_immediate (oI A Q) (A.wI I) 179 [some (.ref m), none, none, some (.int d), none, none, none, some (.int q), some (.int y1_8)] [] := by
        intro y1_8 h
        replace h := g1 y1_8 h
        refine x_aload_n dX13_immediate_179 rfl ?_
        refine x_iload_n dX13_immediate_180 rfl ?_
        refine x_iload dX13_immediate_181 rfl ?_
        obtain ⟨R2, g2, h⟩ := h
        refine x_callV hG (Ky := kX13_gives) (As := [.int d, .int y1_8]) dX13_immediate_183 (mo_t hM) rfl lk_X13_582 me_X13_gives is_X13_gives se_X13_gives rfl rfl (Nat.le_of_ble_eq_true rfl) (MX.post (m_X13_gives hG hM g2) ?_)
        rintro _ _ ⟨I2, rfl, rfl, h1⟩
        replace h := h I2 h1
        change X _ _ _ _ (A.wI I2) _ _ _
        refine x_aload_n dX13_immediate_186 rfl ?_
        refine x_iload dX13_immediate_187 rfl ?_
        refine x_iconst_ (v := (4 : Int32)) dX13_immediate_189 (by decide) ?_
        refine x_iadd dX13_immediate_190 ?_
        obtain ⟨R3, g3, h⟩ := h
        refine x_callV hG (Ky := kX13_goesOn) (As := [.int (q + (4 : Int32))]) dX13_immediate_191 (mo_t hM) rfl lk_X13_585 me_X13_goesOn is_X13_goesOn se_X13_goesOn rfl rfl (Nat.le_of_ble_eq_true rfl) (MX.post (m_X13_goesOn hG hM g3) ?_)
        rintro _ _ ⟨v3, I3, rfl, rfl, h1⟩
        replace h := h v3 I3 h1
        change X _ _ _ _ (A.wI I3) _ _ (.int v3 :: _)
        exact x_iret dX13_immediate_194 rfl ⟨_, _, rfl, rfl, h⟩
      have kt4_0 : (f = (0 : Int32)) → X G (dp + 1) kX13_immediate (oI A Q) (A.wI I) 68 [some (.ref m), some (.int f), some (.int g), some (.int d), some (.int a), some (.int i), some (.int n), some (.int q), none] [] := by
        intro c27
        replace h := h.1 c27
        refine x_iload dX13_immediate_68 rfl ?_
        refine x_iload dX13_immediate_70 rfl ?_
        refine x_iadd dX13_immediate_72 ?_
        refine x_istore dX13_immediate_73 (by decide) ?_
        refine x_goto (tgt := 179) dX13_immediate_75 (by decide) ?_
        change X _ _ _ _ _ _ [some (.ref m), some (.int f), some (.int g), some (.int d), some (.int a), some (.int i), some (.int n), some (.int q), some (.int (a + i))] []
        exact X.weak (xle_c rfl (xle_n (xle_n (xle_c rfl (xle_n (xle_n (xle_n (xle_c rfl (xle_c rfl xle_nil))))))))) (kj1 (a + i) h)
      have kt4_1 : (f = (1 : Int32)) → X G (dp + 1) kX13_immediate (oI A Q) (A.wI I) 78 [some (.ref m), some (.int f), some (.int g), some (.int d), some (.int a), some (.int i), some (.int n), some (.int q), none] [] := by
        intro c27
        replace h := h.2.1 c27
        refine x_iload dX13_immediate_78 rfl ?_
        refine x_iload dX13_immediate_80 rfl ?_
        refine x_ishl dX13_immediate_82 ?_
        refine x_eqi (v := (jishl a n)) rfl ?_
        refine x_istore dX13_immediate_83 (by decide) ?_
        refine x_goto (tgt := 179) dX13_immediate_85 (by decide) ?_
        change X _ _ _ _ _ _ [some (.ref m), some (.int f), some (.int g), some (.int d), some (.int a), some (.int i), some (.int n), some (.int q), some (.int (jishl a n))] []
        exact X.weak (xle_c rfl (xle_n (xle_n (xle_c rfl (xle_n (xle_n (xle_n (xle_c rfl (xle_c rfl xle_nil))))))))) (kj1 (jishl a n) h)
      have kt4_2 : (f = (2 : Int32)) → X G (dp + 1) kX13_immediate (oI A Q) (A.wI I) 88 [some (.ref m), some (.int f), some (.int g), some (.int d), some (.int a), some (.int i), some (.int n), some (.int q), none] [] := by
        intro c27
        replace h := h.2.2.1 c27
        refine x_iload dX13_immediate_88 rfl ?_
        refine x_iload dX13_immediate_90 rfl ?_
        refine x_via 100 (A' := (A.wI I)) (lv' := [some (.ref m), none, none, some (.int d), none, none, none, some (.int q), none]) (st' := [.int (if i ≤ a then (0 : Int32) else (1 : Int32))]) ?_ (fun k100 => ?_)
        rotate_left
        · refine x_icmp_ge (tgt := 99) dX13_immediate_92 (by decide) (fun c92 => ?_) (fun c92 => ?_)
          · refine x_iconst_ (v := (0 : Int32)) dX13_immediate_99 (by decide) ?_
            change X _ _ _ _ _ _ [some (.ref m), some (.int f), some (.int g), some (.int d), some (.int a), some (.int i), some (.int n), some (.int q), none] [.int (0 : Int32)]
            simp only [if_pos c92] at k100 ⊢
            exact X.weak (xle_c rfl (xle_n (xle_n (xle_c rfl (xle_n (xle_n (xle_n (xle_c rfl (xle_n xle_nil))))))))) k100
          · refine x_iconst_ (v := (1 : Int32)) dX13_immediate_95 (by decide) ?_
            refine x_goto (tgt := 100) dX13_immediate_96 (by decide) ?_
            change X _ _ _ _ _ _ [some (.ref m), some (.int f), some (.int g), some (.int d), some (.int a), some (.int i), some (.int n), some (.int q), none] [.int (1 : Int32)]
            simp only [if_neg c92] at k100 ⊢
            exact X.weak (xle_c rfl (xle_n (xle_n (xle_c rfl (xle_n (xle_n (xle_n (xle_c rfl (xle_n xle_nil))))))))) k100
        refine x_istore dX13_immediate_100 (by decide) ?_
        refine x_goto (tgt := 179) dX13_immediate_102 (by decide) ?_
        change X _ _ _ _ _ _ [some (.ref m), none, none, some (.int d), none, none, none, some (.int q), some (.int (if i ≤ a then (0 : Int32) else (1 : Int32)))] []
        exact X.weak (xle_c rfl (xle_n (xle_n (xle_c rfl (xle_n (xle_n (xle_n (xle_c rfl (xle_c rfl xle_nil))))))))) (kj1 (if i ≤ a then (0 : Int32) else (1 : Int32)) h)
      have kt4_3 : (f = (3 : Int32)) → X G (dp + 1) kX13_immediate (oI A Q) (A.wI I) 105 [some (.ref m), some (.int f), some (.int g), some (.int d), some (.int a), some (.int i), some (.int n), some (.int q), none] [] := by
        intro c27
        replace h := h.2.2.2.1 c27
        refine x_iload dX13_immediate_105 rfl ?_
        refine x_ldcw hG dX13_immediate_107 q3487 ?_
        refine x_iadd dX13_immediate_110 ?_
        refine x_iload dX13_immediate_111 rfl ?_
        refine x_ldcw hG dX13_immediate_113 q3487 ?_
        refine x_iadd dX13_immediate_116 ?_
        refine x_via 125 (A' := (A.wI I)) (lv' := [some (.ref m), none, none, some (.int d), none, none, none, some (.int q), none]) (st' := [.int (if (i + (-2147483648 : Int32)) ≤ (a + (-2147483648 : Int32)) then (0 : Int32) else (1 : Int32))]) ?_ (fun k125 => ?_)
        rotate_left
        · refine x_icmp_ge (tgt := 124) dX13_immediate_117 (by decide) (fun c117 => ?_) (fun c117 => ?_)
          · refine x_iconst_ (v := (0 : Int32)) dX13_immediate_124 (by decide) ?_
            change X _ _ _ _ _ _ [some (.ref m), some (.int f), some (.int g), some (.int d), some (.int a), some (.int i), some (.int n), some (.int q), none] [.int (0 : Int32)]
            simp only [if_pos c117] at k125 ⊢
            exact X.weak (xle_c rfl (xle_n (xle_n (xle_c rfl (xle_n (xle_n (xle_n (xle_c rfl (xle_n xle_nil))))))))) k125
          · refine x_iconst_ (v := (1 : Int32)) dX13_immediate_120 (by decide) ?_
            refine x_goto (tgt := 125) dX13_immediate_121 (by decide) ?_
            change X _ _ _ _ _ _ [some (.ref m), some (.int f), some (.int g), some (.int d), some (.int a), some (.int i), some (.int n), some (.int q), none] [.int (1 : Int32)]
            simp only [if_neg c117] at k125 ⊢
            exact X.weak (xle_c rfl (xle_n (xle_n (xle_c rfl (xle_n (xle_n (xle_n (xle_c rfl (xle_n xle_nil))))))))) k125
        refine x_istore dX13_immediate_125 (by decide) ?_
        refine x_goto (tgt := 179) dX13_immediate_127 (by decide) ?_
        change X _ _ _ _ _ _ [some (.ref m), none, none, some (.int d), none, none, none, some (.int q), some (.int (if (i + (-2147483648 : Int32)) ≤ (a + (-2147483648 : Int32)) then (0 : Int32) else (1 : Int32)))] []
        exact X.weak (xle_c rfl (xle_n (xle_n (xle_c rfl (xle_n (xle_n (xle_n (xle_c rfl (xle_c rfl xle_nil))))))))) (kj1 (if (i + (-2147483648 : Int32)) ≤ (a + (-2147483648 : Int32)) then (0 : Int32) else (1 : Int32)) h)
      have kt4_4 : (f = (4 : Int32)) → X G (dp + 1) kX13_immediate (oI A Q) (A.wI I) 130 [some (.ref m), some (.int f), some (.int g), some (.int d), some (.int a), some (.int i), some (.int n), some (.int q), none] [] := by
        intro c27
        replace h := h.2.2.2.2.1 c27
        refine x_iload dX13_immediate_130 rfl ?_
        refine x_iload dX13_immediate_132 rfl ?_
        refine x_ixor dX13_immediate_134 ?_
        refine x_istore dX13_immediate_135 (by decide) ?_
        refine x_goto (tgt := 179) dX13_immediate_137 (by decide) ?_
        change X _ _ _ _ _ _ [some (.ref m), some (.int f), some (.int g), some (.int d), some (.int a), some (.int i), some (.int n), some (.int q), some (.int (a ^^^ i))] []
        exact X.weak (xle_c rfl (xle_n (xle_n (xle_c rfl (xle_n (xle_n (xle_n (xle_c rfl (xle_c rfl xle_nil))))))))) (kj1 (a ^^^ i) h)
      have kt4_5 : (f = (5 : Int32)) → X G (dp + 1) kX13_immediate (oI A Q) (A.wI I) 140 [some (.ref m), some (.int f), some (.int g), some (.int d), some (.int a), some (.int i), some (.int n), some (.int q), none] [] := by
        intro c27
        replace h := h.2.2.2.2.2.1 c27
        refine x_iload_n dX13_immediate_140 rfl ?_
        refine x_via 157 (A' := (A.wI I)) (lv' := [some (.ref m), none, none, some (.int d), none, none, none, some (.int q), none]) (st' := [.int (if g = 0 then (jiushr a n) else (jishr a n))]) ?_ (fun k157 => ?_)
        rotate_left
        · refine x_if_ne (tgt := 152) dX13_immediate_141 (by decide) (fun c141 => ?_) (fun c141 => ?_)
          · refine x_iload dX13_immediate_152 rfl ?_
            refine x_iload dX13_immediate_154 rfl ?_
            refine x_ishr dX13_immediate_156 ?_
            refine x_eqi (v := (jishr a n)) rfl ?_
            change X _ _ _ _ _ _ [some (.ref m), some (.int f), some (.int g), some (.int d), some (.int a), some (.int i), some (.int n), some (.int q), none] [.int (jishr a n)]
            simp only [if_neg c141] at k157 ⊢
            exact X.weak (xle_c rfl (xle_n (xle_n (xle_c rfl (xle_n (xle_n (xle_n (xle_c rfl (xle_n xle_nil))))))))) k157
          · refine x_iload dX13_immediate_144 rfl ?_
            refine x_iload dX13_immediate_146 rfl ?_
            refine x_iushr dX13_immediate_148 ?_
            refine x_eqi (v := (jiushr a n)) rfl ?_
            refine x_goto (tgt := 157) dX13_immediate_149 (by decide) ?_
            change X _ _ _ _ _ _ [some (.ref m), some (.int f), some (.int g), some (.int d), some (.int a), some (.int i), some (.int n), some (.int q), none] [.int (jiushr a n)]
            simp only [if_pos c141] at k157 ⊢
            exact X.weak (xle_c rfl (xle_n (xle_n (xle_c rfl (xle_n (xle_n (xle_n (xle_c rfl (xle_n xle_nil))))))))) k157
        refine x_istore dX13_immediate_157 (by decide) ?_
        refine x_goto (tgt := 179) dX13_immediate_159 (by decide) ?_
        change X _ _ _ _ _ _ [some (.ref m), none, none, some (.int d), none, none, none, some (.int q), some (.int (if g = 0 then (jiushr a n) else (jishr a n)))] []
        exact X.weak (xle_c rfl (xle_n (xle_n (xle_c rfl (xle_n (xle_n (xle_n (xle_c rfl (xle_c rfl xle_nil))))))))) (kj1 (if g = 0 then (jiushr a n) else (jishr a n)) h)
      have kt4_6 : (f = (6 : Int32)) → X G (dp + 1) kX13_immediate (oI A Q) (A.wI I) 162 [some (.ref m), some (.int f), some (.int g), some (.int d), some (.int a), some (.int i), some (.int n), some (.int q), none] [] := by
        intro c27
        replace h := h.2.2.2.2.2.2.1 c27
        refine x_iload dX13_immediate_162 rfl ?_
        refine x_iload dX13_immediate_164 rfl ?_
        refine x_ior dX13_immediate_166 ?_
        refine x_istore dX13_immediate_167 (by decide) ?_
        refine x_goto (tgt := 179) dX13_immediate_169 (by decide) ?_
        change X _ _ _ _ _ _ [some (.ref m), some (.int f), some (.int g), some (.int d), some (.int a), some (.int i), some (.int n), some (.int q), some (.int (a ||| i))] []
        exact X.weak (xle_c rfl (xle_n (xle_n (xle_c rfl (xle_n (xle_n (xle_n (xle_c rfl (xle_c rfl xle_nil))))))))) (kj1 (a ||| i) h)
      have kd4 : (¬ f = (0 : Int32) ∧ ¬ f = (1 : Int32) ∧ ¬ f = (2 : Int32) ∧ ¬ f = (3 : Int32) ∧ ¬ f = (4 : Int32) ∧ ¬ f = (5 : Int32) ∧ ¬ f = (6 : Int32)) → X G (dp + 1) kX13_immediate (oI A Q) (A.wI I) 172 [some (.ref m), some (.int f), some (.int g), some (.int d), some (.int a), some (.int i), some (.int n), some (.int q), none] [] := by
        intro c27
        replace h := h.2.2.2.2.2.2.2 c27
        refine x_iload dX13_immediate_172 rfl ?_
        refine x_iload dX13_immediate_174 rfl ?_
        refine x_iand dX13_immediate_176 ?_
        refine x_istore dX13_immediate_177 (by decide) ?_
        change X _ _ _ _ _ _ [some (.ref m), some (.int f), some (.int g), some (.int d), some (.int a), some (.int i), some (.int n), some (.int q), some (.int (a &&& i))] []
        exact X.weak (xle_c rfl (xle_n (xle_n (xle_c rfl (xle_n (xle_n (xle_n (xle_c rfl (xle_c rfl xle_nil))))))))) (kj1 (a &&& i) h)
      refine x_sw (0 : Int32) (fun s27_0 => ?_) (fun s27_0 => ?_)
      · refine x_tableIn (off := 41) (tgt := 68) dX13_immediate_27 (by rw [s27_0]; decide) (by rw [s27_0]; decide) (by rw [s27_0]; rfl) (by decide) ?_
        exact kt4_0 s27_0
      refine x_sw (1 : Int32) (fun s27_1 => ?_) (fun s27_1 => ?_)
      · refine x_tableIn (off := 51) (tgt := 78) dX13_immediate_27 (by rw [s27_1]; decide) (by rw [s27_1]; decide) (by rw [s27_1]; rfl) (by decide) ?_
        exact kt4_1 s27_1
      refine x_sw (2 : Int32) (fun s27_2 => ?_) (fun s27_2 => ?_)
      · refine x_tableIn (off := 61) (tgt := 88) dX13_immediate_27 (by rw [s27_2]; decide) (by rw [s27_2]; decide) (by rw [s27_2]; rfl) (by decide) ?_
        exact kt4_2 s27_2
      refine x_sw (3 : Int32) (fun s27_3 => ?_) (fun s27_3 => ?_)
      · refine x_tableIn (off := 78) (tgt := 105) dX13_immediate_27 (by rw [s27_3]; decide) (by rw [s27_3]; decide) (by rw [s27_3]; rfl) (by decide) ?_
        exact kt4_3 s27_3
      refine x_sw (4 : Int32) (fun s27_4 => ?_) (fun s27_4 => ?_)
      · refine x_tableIn (off := 103) (tgt := 130) dX13_immediate_27 (by rw [s27_4]; decide) (by rw [s27_4]; decide) (by rw [s27_4]; rfl) (by decide) ?_
        exact kt4_4 s27_4
      refine x_sw (5 : Int32) (fun s27_5 => ?_) (fun s27_5 => ?_)
      · refine x_tableIn (off := 113) (tgt := 140) dX13_immediate_27 (by rw [s27_5]; decide) (by rw [s27_5]; decide) (by rw [s27_5]; rfl) (by decide) ?_
        exact kt4_5 s27_5
      refine x_sw (6 : Int32) (fun s27_6 => ?_) (fun s27_6 => ?_)
      · refine x_tableIn (off := 135) (tgt := 162) dX13_immediate_27 (by rw [s27_6]; decide) (by rw [s27_6]; decide) (by rw [s27_6]; rfl) (by decide) ?_
        exact kt4_6 s27_6
      have t27_0 := lv_neT s27_0 (a := 0) (by decide)
      have t27_1 := lv_neT s27_1 (a := 1) (by decide)
      have t27_2 := lv_neT s27_2 (a := 2) (by decide)
      have t27_3 := lv_neT s27_3 (a := 3) (by decide)
      have t27_4 := lv_neT s27_4 (a := 4) (by decide)
      have t27_5 := lv_neT s27_5 (a := 5) (by decide)
      have t27_6 := lv_neT s27_6 (a := 6) (by decide)
      refine x_tableOut (tgt := 172) dX13_immediate_27 (by omega) (by decide) ?_
      exact kd4 ⟨s27_0, s27_1, s27_2, s27_3, s27_4, s27_5, s27_6⟩
    · replace h := h.1 c11
      refine x_iload_n dX13_immediate_14 rfl ?_
      refine x_if_eq (tgt := 26) dX13_immediate_15 (by decide) (fun c15 => ?_) (fun c15 => ?_)
      · replace h := h.1 c15
        refine x_iload_n dX13_immediate_26 rfl ?_
        obtain ⟨J5, g5, h⟩ := h
        have kj5 : ∀ (y5_8 : Int32), J5 y5_8 → X G (dp + 1) kX13_immediate (oI A Q) (A.wI I) 179 [some (.ref m), none, none, some (.int d), none, none, none, some (.int q), some (.int y5_8)] [] := by
          intro y5_8 h
          replace h := g5 y5_8 h
          refine x_aload_n dX13_immediate_179 rfl ?_
          refine x_iload_n dX13_immediate_180 rfl ?_
          refine x_iload dX13_immediate_181 rfl ?_
          obtain ⟨R6, g6, h⟩ := h
          refine x_callV hG (Ky := kX13_gives) (As := [.int d, .int y5_8]) dX13_immediate_183 (mo_t hM) rfl lk_X13_582 me_X13_gives is_X13_gives se_X13_gives rfl rfl (Nat.le_of_ble_eq_true rfl) (MX.post (m_X13_gives hG hM g6) ?_)
          rintro _ _ ⟨I6, rfl, rfl, h1⟩
          replace h := h I6 h1
          change X _ _ _ _ (A.wI I6) _ _ _
          refine x_aload_n dX13_immediate_186 rfl ?_
          refine x_iload dX13_immediate_187 rfl ?_
          refine x_iconst_ (v := (4 : Int32)) dX13_immediate_189 (by decide) ?_
          refine x_iadd dX13_immediate_190 ?_
          obtain ⟨R7, g7, h⟩ := h
          refine x_callV hG (Ky := kX13_goesOn) (As := [.int (q + (4 : Int32))]) dX13_immediate_191 (mo_t hM) rfl lk_X13_585 me_X13_goesOn is_X13_goesOn se_X13_goesOn rfl rfl (Nat.le_of_ble_eq_true rfl) (MX.post (m_X13_goesOn hG hM g7) ?_)
          rintro _ _ ⟨v7, I7, rfl, rfl, h1⟩
          replace h := h v7 I7 h1
          change X _ _ _ _ (A.wI I7) _ _ (.int v7 :: _)
          exact x_iret dX13_immediate_194 rfl ⟨_, _, rfl, rfl, h⟩
        have kt8_0 : (f = (0 : Int32)) → X G (dp + 1) kX13_immediate (oI A Q) (A.wI I) 68 [some (.ref m), some (.int f), some (.int g), some (.int d), some (.int a), some (.int i), some (.int n), some (.int q), none] [] := by
          intro c27
          replace h := h.1 c27
          refine x_iload dX13_immediate_68 rfl ?_
          refine x_iload dX13_immediate_70 rfl ?_
          refine x_iadd dX13_immediate_72 ?_
          refine x_istore dX13_immediate_73 (by decide) ?_
          refine x_goto (tgt := 179) dX13_immediate_75 (by decide) ?_
          change X _ _ _ _ _ _ [some (.ref m), some (.int f), some (.int g), some (.int d), some (.int a), some (.int i), some (.int n), some (.int q), some (.int (a + i))] []
          exact X.weak (xle_c rfl (xle_n (xle_n (xle_c rfl (xle_n (xle_n (xle_n (xle_c rfl (xle_c rfl xle_nil))))))))) (kj5 (a + i) h)
        have kt8_1 : (f = (1 : Int32)) → X G (dp + 1) kX13_immediate (oI A Q) (A.wI I) 78 [some (.ref m), some (.int f), some (.int g), some (.int d), some (.int a), some (.int i), some (.int n), some (.int q), none] [] := by
          intro c27
          replace h := h.2.1 c27
          refine x_iload dX13_immediate_78 rfl ?_
          refine x_iload dX13_immediate_80 rfl ?_
          refine x_ishl dX13_immediate_82 ?_
          refine x_eqi (v := (jishl a n)) rfl ?_
          refine x_istore dX13_immediate_83 (by decide) ?_
          refine x_goto (tgt := 179) dX13_immediate_85 (by decide) ?_
          change X _ _ _ _ _ _ [some (.ref m), some (.int f), some (.int g), some (.int d), some (.int a), some (.int i), some (.int n), some (.int q), some (.int (jishl a n))] []
          exact X.weak (xle_c rfl (xle_n (xle_n (xle_c rfl (xle_n (xle_n (xle_n (xle_c rfl (xle_c rfl xle_nil))))))))) (kj5 (jishl a n) h)
        have kt8_2 : (f = (2 : Int32)) → X G (dp + 1) kX13_immediate (oI A Q) (A.wI I) 88 [some (.ref m), some (.int f), some (.int g), some (.int d), some (.int a), some (.int i), some (.int n), some (.int q), none] [] := by
          intro c27
          replace h := h.2.2.1 c27
          refine x_iload dX13_immediate_88 rfl ?_
          refine x_iload dX13_immediate_90 rfl ?_
          refine x_via 100 (A' := (A.wI I)) (lv' := [some (.ref m), none, none, some (.int d), none, none, none, some (.int q), none]) (st' := [.int (if i ≤ a then (0 : Int32) else (1 : Int32))]) ?_ (fun k100 => ?_)
          rotate_left
          · refine x_icmp_ge (tgt := 99) dX13_immediate_92 (by decide) (fun c92 => ?_) (fun c92 => ?_)
            · refine x_iconst_ (v := (0 : Int32)) dX13_immediate_99 (by decide) ?_
              change X _ _ _ _ _ _ [some (.ref m), some (.int f), some (.int g), some (.int d), some (.int a), some (.int i), some (.int n), some (.int q), none] [.int (0 : Int32)]
              simp only [if_pos c92] at k100 ⊢
              exact X.weak (xle_c rfl (xle_n (xle_n (xle_c rfl (xle_n (xle_n (xle_n (xle_c rfl (xle_n xle_nil))))))))) k100
            · refine x_iconst_ (v := (1 : Int32)) dX13_immediate_95 (by decide) ?_
              refine x_goto (tgt := 100) dX13_immediate_96 (by decide) ?_
              change X _ _ _ _ _ _ [some (.ref m), some (.int f), some (.int g), some (.int d), some (.int a), some (.int i), some (.int n), some (.int q), none] [.int (1 : Int32)]
              simp only [if_neg c92] at k100 ⊢
              exact X.weak (xle_c rfl (xle_n (xle_n (xle_c rfl (xle_n (xle_n (xle_n (xle_c rfl (xle_n xle_nil))))))))) k100
          refine x_istore dX13_immediate_100 (by decide) ?_
          refine x_goto (tgt := 179) dX13_immediate_102 (by decide) ?_
          change X _ _ _ _ _ _ [some (.ref m), none, none, some (.int d), none, none, none, some (.int q), some (.int (if i ≤ a then (0 : Int32) else (1 : Int32)))] []
          exact X.weak (xle_c rfl (xle_n (xle_n (xle_c rfl (xle_n (xle_n (xle_n (xle_c rfl (xle_c rfl xle_nil))))))))) (kj5 (if i ≤ a then (0 : Int32) else (1 : Int32)) h)
        have kt8_3 : (f = (3 : Int32)) → X G (dp + 1) kX13_immediate (oI A Q) (A.wI I) 105 [some (.ref m), some (.int f), some (.int g), some (.int d), some (.int a), some (.int i), some (.int n), some (.int q), none] [] := by
          intro c27
          replace h := h.2.2.2.1 c27
          refine x_iload dX13_immediate_105 rfl ?_
          refine x_ldcw hG dX13_immediate_107 q3487 ?_
          refine x_iadd dX13_immediate_110 ?_
          refine x_iload dX13_immediate_111 rfl ?_
          refine x_ldcw hG dX13_immediate_113 q3487 ?_
          refine x_iadd dX13_immediate_116 ?_
          refine x_via 125 (A' := (A.wI I)) (lv' := [some (.ref m), none, none, some (.int d), none, none, none, some (.int q), none]) (st' := [.int (if (i + (-2147483648 : Int32)) ≤ (a + (-2147483648 : Int32)) then (0 : Int32) else (1 : Int32))]) ?_ (fun k125 => ?_)
          rotate_left
          · refine x_icmp_ge (tgt := 124) dX13_immediate_117 (by decide) (fun c117 => ?_) (fun c117 => ?_)
            · refine x_iconst_ (v := (0 : Int32)) dX13_immediate_124 (by decide) ?_
              change X _ _ _ _ _ _ [some (.ref m), some (.int f), some (.int g), some (.int d), some (.int a), some (.int i), some (.int n), some (.int q), none] [.int (0 : Int32)]
              simp only [if_pos c117] at k125 ⊢
              exact X.weak (xle_c rfl (xle_n (xle_n (xle_c rfl (xle_n (xle_n (xle_n (xle_c rfl (xle_n xle_nil))))))))) k125
            · refine x_iconst_ (v := (1 : Int32)) dX13_immediate_120 (by decide) ?_
              refine x_goto (tgt := 125) dX13_immediate_121 (by decide) ?_
              change X _ _ _ _ _ _ [some (.ref m), some (.int f), some (.int g), some (.int d), some (.int a), some (.int i), some (.int n), some (.int q), none] [.int (1 : Int32)]
              simp only [if_neg c117] at k125 ⊢
              exact X.weak (xle_c rfl (xle_n (xle_n (xle_c rfl (xle_n (xle_n (xle_n (xle_c rfl (xle_n xle_nil))))))))) k125
          refine x_istore dX13_immediate_125 (by decide) ?_
          refine x_goto (tgt := 179) dX13_immediate_127 (by decide) ?_
          change X _ _ _ _ _ _ [some (.ref m), none, none, some (.int d), none, none, none, some (.int q), some (.int (if (i + (-2147483648 : Int32)) ≤ (a + (-2147483648 : Int32)) then (0 : Int32) else (1 : Int32)))] []
          exact X.weak (xle_c rfl (xle_n (xle_n (xle_c rfl (xle_n (xle_n (xle_n (xle_c rfl (xle_c rfl xle_nil))))))))) (kj5 (if (i + (-2147483648 : Int32)) ≤ (a + (-2147483648 : Int32)) then (0 : Int32) else (1 : Int32)) h)
        have kt8_4 : (f = (4 : Int32)) → X G (dp + 1) kX13_immediate (oI A Q) (A.wI I) 130 [some (.ref m), some (.int f), some (.int g), some (.int d), some (.int a), some (.int i), some (.int n), some (.int q), none] [] := by
          intro c27
          replace h := h.2.2.2.2.1 c27
          refine x_iload dX13_immediate_130 rfl ?_
          refine x_iload dX13_immediate_132 rfl ?_
          refine x_ixor dX13_immediate_134 ?_
          refine x_istore dX13_immediate_135 (by decide) ?_
          refine x_goto (tgt := 179) dX13_immediate_137 (by decide) ?_
          change X _ _ _ _ _ _ [some (.ref m), some (.int f), some (.int g), some (.int d), some (.int a), some (.int i), some (.int n), some (.int q), some (.int (a ^^^ i))] []
          exact X.weak (xle_c rfl (xle_n (xle_n (xle_c rfl (xle_n (xle_n (xle_n (xle_c rfl (xle_c rfl xle_nil))))))))) (kj5 (a ^^^ i) h)
        have kt8_5 : (f = (5 : Int32)) → X G (dp + 1) kX13_immediate (oI A Q) (A.wI I) 140 [some (.ref m), some (.int f), some (.int g), some (.int d), some (.int a), some (.int i), some (.int n), some (.int q), none] [] := by
          intro c27
          replace h := h.2.2.2.2.2.1 c27
          refine x_iload_n dX13_immediate_140 rfl ?_
          refine x_if_ne (tgt := 152) dX13_immediate_141 (by decide) (fun h => absurd c15 h) (fun _ => ?_)
          refine x_iload dX13_immediate_144 rfl ?_
          refine x_iload dX13_immediate_146 rfl ?_
          refine x_iushr dX13_immediate_148 ?_
          refine x_eqi (v := (jiushr a n)) rfl ?_
          refine x_goto (tgt := 157) dX13_immediate_149 (by decide) ?_
          refine x_istore dX13_immediate_157 (by decide) ?_
          refine x_goto (tgt := 179) dX13_immediate_159 (by decide) ?_
          change X _ _ _ _ _ _ [some (.ref m), some (.int f), some (.int g), some (.int d), some (.int a), some (.int i), some (.int n), some (.int q), some (.int (jiushr a n))] []
          exact X.weak (xle_c rfl (xle_n (xle_n (xle_c rfl (xle_n (xle_n (xle_n (xle_c rfl (xle_c rfl xle_nil))))))))) (kj5 (jiushr a n) h)
        have kt8_6 : (f = (6 : Int32)) → X G (dp + 1) kX13_immediate (oI A Q) (A.wI I) 162 [some (.ref m), some (.int f), some (.int g), some (.int d), some (.int a), some (.int i), some (.int n), some (.int q), none] [] := by
          intro c27
          replace h := h.2.2.2.2.2.2.1 c27
          refine x_iload dX13_immediate_162 rfl ?_
          refine x_iload dX13_immediate_164 rfl ?_
          refine x_ior dX13_immediate_166 ?_
          refine x_istore dX13_immediate_167 (by decide) ?_
          refine x_goto (tgt := 179) dX13_immediate_169 (by decide) ?_
          change X _ _ _ _ _ _ [some (.ref m), some (.int f), some (.int g), some (.int d), some (.int a), some (.int i), some (.int n), some (.int q), some (.int (a ||| i))] []
          exact X.weak (xle_c rfl (xle_n (xle_n (xle_c rfl (xle_n (xle_n (xle_n (xle_c rfl (xle_c rfl xle_nil))))))))) (kj5 (a ||| i) h)
        have kd8 : (¬ f = (0 : Int32) ∧ ¬ f = (1 : Int32) ∧ ¬ f = (2 : Int32) ∧ ¬ f = (3 : Int32) ∧ ¬ f = (4 : Int32) ∧ ¬ f = (5 : Int32) ∧ ¬ f = (6 : Int32)) → X G (dp + 1) kX13_immediate (oI A Q) (A.wI I) 172 [some (.ref m), some (.int f), some (.int g), some (.int d), some (.int a), some (.int i), some (.int n), some (.int q), none] [] := by
          intro c27
          replace h := h.2.2.2.2.2.2.2 c27
          refine x_iload dX13_immediate_172 rfl ?_
          refine x_iload dX13_immediate_174 rfl ?_
          refine x_iand dX13_immediate_176 ?_
          refine x_istore dX13_immediate_177 (by decide) ?_
          change X _ _ _ _ _ _ [some (.ref m), some (.int f), some (.int g), some (.int d), some (.int a), some (.int i), some (.int n), some (.int q), some (.int (a &&& i))] []
          exact X.weak (xle_c rfl (xle_n (xle_n (xle_c rfl (xle_n (xle_n (xle_n (xle_c rfl (xle_c rfl xle_nil))))))))) (kj5 (a &&& i) h)
        refine x_sw (0 : Int32) (fun s27_0 => ?_) (fun s27_0 => ?_)
        · refine x_tableIn (off := 41) (tgt := 68) dX13_immediate_27 (by rw [s27_0]; decide) (by rw [s27_0]; decide) (by rw [s27_0]; rfl) (by decide) ?_
          exact kt8_0 s27_0
        refine x_sw (1 : Int32) (fun s27_1 => ?_) (fun s27_1 => ?_)
        · refine x_tableIn (off := 51) (tgt := 78) dX13_immediate_27 (by rw [s27_1]; decide) (by rw [s27_1]; decide) (by rw [s27_1]; rfl) (by decide) ?_
          exact kt8_1 s27_1
        refine x_sw (2 : Int32) (fun s27_2 => ?_) (fun s27_2 => ?_)
        · refine x_tableIn (off := 61) (tgt := 88) dX13_immediate_27 (by rw [s27_2]; decide) (by rw [s27_2]; decide) (by rw [s27_2]; rfl) (by decide) ?_
          exact kt8_2 s27_2
        refine x_sw (3 : Int32) (fun s27_3 => ?_) (fun s27_3 => ?_)
        · refine x_tableIn (off := 78) (tgt := 105) dX13_immediate_27 (by rw [s27_3]; decide) (by rw [s27_3]; decide) (by rw [s27_3]; rfl) (by decide) ?_
          exact kt8_3 s27_3
        refine x_sw (4 : Int32) (fun s27_4 => ?_) (fun s27_4 => ?_)
        · refine x_tableIn (off := 103) (tgt := 130) dX13_immediate_27 (by rw [s27_4]; decide) (by rw [s27_4]; decide) (by rw [s27_4]; rfl) (by decide) ?_
          exact kt8_4 s27_4
        refine x_sw (5 : Int32) (fun s27_5 => ?_) (fun s27_5 => ?_)
        · refine x_tableIn (off := 113) (tgt := 140) dX13_immediate_27 (by rw [s27_5]; decide) (by rw [s27_5]; decide) (by rw [s27_5]; rfl) (by decide) ?_
          exact kt8_5 s27_5
        refine x_sw (6 : Int32) (fun s27_6 => ?_) (fun s27_6 => ?_)
        · refine x_tableIn (off := 135) (tgt := 162) dX13_immediate_27 (by rw [s27_6]; decide) (by rw [s27_6]; decide) (by rw [s27_6]; rfl) (by decide) ?_
          exact kt8_6 s27_6
        have t27_0 := lv_neT s27_0 (a := 0) (by decide)
        have t27_1 := lv_neT s27_1 (a := 1) (by decide)
        have t27_2 := lv_neT s27_2 (a := 2) (by decide)
        have t27_3 := lv_neT s27_3 (a := 3) (by decide)
        have t27_4 := lv_neT s27_4 (a := 4) (by decide)
        have t27_5 := lv_neT s27_5 (a := 5) (by decide)
        have t27_6 := lv_neT s27_6 (a := 6) (by decide)
        refine x_tableOut (tgt := 172) dX13_immediate_27 (by omega) (by decide) ?_
        exact kd8 ⟨s27_0, s27_1, s27_2, s27_3, s27_4, s27_5, s27_6⟩
      · replace h := h.2 c15
        refine x_iload_n dX13_immediate_18 rfl ?_
        refine x_bipush_ (v := (32 : Int32)) dX13_immediate_19 (by decide) ?_
        refine x_icmp_eq (tgt := 26) dX13_immediate_21 (by decide) (fun c21 => ?_) (fun c21 => ?_)
        · replace h := h.1 c21
          refine x_iload_n dX13_immediate_26 rfl ?_
          obtain ⟨J9, g9, h⟩ := h
          have kj9 : ∀ (y9_8 : Int32), J9 y9_8 → X G (dp + 1) kX13_immediate (oI A Q) (A.wI I) 179 [some (.ref m), none, none, some (.int d), none, none, none, some (.int q), some (.int y9_8)] [] := by
            intro y9_8 h
            replace h := g9 y9_8 h
            refine x_aload_n dX13_immediate_179 rfl ?_
            refine x_iload_n dX13_immediate_180 rfl ?_
            refine x_iload dX13_immediate_181 rfl ?_
            obtain ⟨R10, g10, h⟩ := h
            refine x_callV hG (Ky := kX13_gives) (As := [.int d, .int y9_8]) dX13_immediate_183 (mo_t hM) rfl lk_X13_582 me_X13_gives is_X13_gives se_X13_gives rfl rfl (Nat.le_of_ble_eq_true rfl) (MX.post (m_X13_gives hG hM g10) ?_)
            rintro _ _ ⟨I10, rfl, rfl, h1⟩
            replace h := h I10 h1
            change X _ _ _ _ (A.wI I10) _ _ _
            refine x_aload_n dX13_immediate_186 rfl ?_
            refine x_iload dX13_immediate_187 rfl ?_
            refine x_iconst_ (v := (4 : Int32)) dX13_immediate_189 (by decide) ?_
            refine x_iadd dX13_immediate_190 ?_
            obtain ⟨R11, g11, h⟩ := h
            refine x_callV hG (Ky := kX13_goesOn) (As := [.int (q + (4 : Int32))]) dX13_immediate_191 (mo_t hM) rfl lk_X13_585 me_X13_goesOn is_X13_goesOn se_X13_goesOn rfl rfl (Nat.le_of_ble_eq_true rfl) (MX.post (m_X13_goesOn hG hM g11) ?_)
            rintro _ _ ⟨v11, I11, rfl, rfl, h1⟩
            replace h := h v11 I11 h1
            change X _ _ _ _ (A.wI I11) _ _ (.int v11 :: _)
            exact x_iret dX13_immediate_194 rfl ⟨_, _, rfl, rfl, h⟩
          have kt12_0 : (f = (0 : Int32)) → X G (dp + 1) kX13_immediate (oI A Q) (A.wI I) 68 [some (.ref m), some (.int f), some (.int g), some (.int d), some (.int a), some (.int i), some (.int n), some (.int q), none] [] := by
            intro c27
            replace h := h.1 c27
            refine x_iload dX13_immediate_68 rfl ?_
            refine x_iload dX13_immediate_70 rfl ?_
            refine x_iadd dX13_immediate_72 ?_
            refine x_istore dX13_immediate_73 (by decide) ?_
            refine x_goto (tgt := 179) dX13_immediate_75 (by decide) ?_
            change X _ _ _ _ _ _ [some (.ref m), some (.int f), some (.int g), some (.int d), some (.int a), some (.int i), some (.int n), some (.int q), some (.int (a + i))] []
            exact X.weak (xle_c rfl (xle_n (xle_n (xle_c rfl (xle_n (xle_n (xle_n (xle_c rfl (xle_c rfl xle_nil))))))))) (kj9 (a + i) h)
          have kt12_1 : (f = (1 : Int32)) → X G (dp + 1) kX13_immediate (oI A Q) (A.wI I) 78 [some (.ref m), some (.int f), some (.int g), some (.int d), some (.int a), some (.int i), some (.int n), some (.int q), none] [] := by
            intro c27
            replace h := h.2.1 c27
            refine x_iload dX13_immediate_78 rfl ?_
            refine x_iload dX13_immediate_80 rfl ?_
            refine x_ishl dX13_immediate_82 ?_
            refine x_eqi (v := (jishl a n)) rfl ?_
            refine x_istore dX13_immediate_83 (by decide) ?_
            refine x_goto (tgt := 179) dX13_immediate_85 (by decide) ?_
            change X _ _ _ _ _ _ [some (.ref m), some (.int f), some (.int g), some (.int d), some (.int a), some (.int i), some (.int n), some (.int q), some (.int (jishl a n))] []
            exact X.weak (xle_c rfl (xle_n (xle_n (xle_c rfl (xle_n (xle_n (xle_n (xle_c rfl (xle_c rfl xle_nil))))))))) (kj9 (jishl a n) h)
          have kt12_2 : (f = (2 : Int32)) → X G (dp + 1) kX13_immediate (oI A Q) (A.wI I) 88 [some (.ref m), some (.int f), some (.int g), some (.int d), some (.int a), some (.int i), some (.int n), some (.int q), none] [] := by
            intro c27
            replace h := h.2.2.1 c27
            refine x_iload dX13_immediate_88 rfl ?_
            refine x_iload dX13_immediate_90 rfl ?_
            refine x_via 100 (A' := (A.wI I)) (lv' := [some (.ref m), none, none, some (.int d), none, none, none, some (.int q), none]) (st' := [.int (if i ≤ a then (0 : Int32) else (1 : Int32))]) ?_ (fun k100 => ?_)
            rotate_left
            · refine x_icmp_ge (tgt := 99) dX13_immediate_92 (by decide) (fun c92 => ?_) (fun c92 => ?_)
              · refine x_iconst_ (v := (0 : Int32)) dX13_immediate_99 (by decide) ?_
                change X _ _ _ _ _ _ [some (.ref m), some (.int f), some (.int g), some (.int d), some (.int a), some (.int i), some (.int n), some (.int q), none] [.int (0 : Int32)]
                simp only [if_pos c92] at k100 ⊢
                exact X.weak (xle_c rfl (xle_n (xle_n (xle_c rfl (xle_n (xle_n (xle_n (xle_c rfl (xle_n xle_nil))))))))) k100
              · refine x_iconst_ (v := (1 : Int32)) dX13_immediate_95 (by decide) ?_
                refine x_goto (tgt := 100) dX13_immediate_96 (by decide) ?_
                change X _ _ _ _ _ _ [some (.ref m), some (.int f), some (.int g), some (.int d), some (.int a), some (.int i), some (.int n), some (.int q), none] [.int (1 : Int32)]
                simp only [if_neg c92] at k100 ⊢
                exact X.weak (xle_c rfl (xle_n (xle_n (xle_c rfl (xle_n (xle_n (xle_n (xle_c rfl (xle_n xle_nil))))))))) k100
            refine x_istore dX13_immediate_100 (by decide) ?_
            refine x_goto (tgt := 179) dX13_immediate_102 (by decide) ?_
            change X _ _ _ _ _ _ [some (.ref m), none, none, some (.int d), none, none, none, some (.int q), some (.int (if i ≤ a then (0 : Int32) else (1 : Int32)))] []
            exact X.weak (xle_c rfl (xle_n (xle_n (xle_c rfl (xle_n (xle_n (xle_n (xle_c rfl (xle_c rfl xle_nil))))))))) (kj9 (if i ≤ a then (0 : Int32) else (1 : Int32)) h)
          have kt12_3 : (f = (3 : Int32)) → X G (dp + 1) kX13_immediate (oI A Q) (A.wI I) 105 [some (.ref m), some (.int f), some (.int g), some (.int d), some (.int a), some (.int i), some (.int n), some (.int q), none] [] := by
            intro c27
            replace h := h.2.2.2.1 c27
            refine x_iload dX13_immediate_105 rfl ?_
            refine x_ldcw hG dX13_immediate_107 q3487 ?_
            refine x_iadd dX13_immediate_110 ?_
            refine x_iload dX13_immediate_111 rfl ?_
            refine x_ldcw hG dX13_immediate_113 q3487 ?_
            refine x_iadd dX13_immediate_116 ?_
            refine x_via 125 (A' := (A.wI I)) (lv' := [some (.ref m), none, none, some (.int d), none, none, none, some (.int q), none]) (st' := [.int (if (i + (-2147483648 : Int32)) ≤ (a + (-2147483648 : Int32)) then (0 : Int32) else (1 : Int32))]) ?_ (fun k125 => ?_)
            rotate_left
            · refine x_icmp_ge (tgt := 124) dX13_immediate_117 (by decide) (fun c117 => ?_) (fun c117 => ?_)
              · refine x_iconst_ (v := (0 : Int32)) dX13_immediate_124 (by decide) ?_
                change X _ _ _ _ _ _ [some (.ref m), some (.int f), some (.int g), some (.int d), some (.int a), some (.int i), some (.int n), some (.int q), none] [.int (0 : Int32)]
                simp only [if_pos c117] at k125 ⊢
                exact X.weak (xle_c rfl (xle_n (xle_n (xle_c rfl (xle_n (xle_n (xle_n (xle_c rfl (xle_n xle_nil))))))))) k125
              · refine x_iconst_ (v := (1 : Int32)) dX13_immediate_120 (by decide) ?_
                refine x_goto (tgt := 125) dX13_immediate_121 (by decide) ?_
                change X _ _ _ _ _ _ [some (.ref m), some (.int f), some (.int g), some (.int d), some (.int a), some (.int i), some (.int n), some (.int q), none] [.int (1 : Int32)]
                simp only [if_neg c117] at k125 ⊢
                exact X.weak (xle_c rfl (xle_n (xle_n (xle_c rfl (xle_n (xle_n (xle_n (xle_c rfl (xle_n xle_nil))))))))) k125
            refine x_istore dX13_immediate_125 (by decide) ?_
            refine x_goto (tgt := 179) dX13_immediate_127 (by decide) ?_
            change X _ _ _ _ _ _ [some (.ref m), none, none, some (.int d), none, none, none, some (.int q), some (.int (if (i + (-2147483648 : Int32)) ≤ (a + (-2147483648 : Int32)) then (0 : Int32) else (1 : Int32)))] []
            exact X.weak (xle_c rfl (xle_n (xle_n (xle_c rfl (xle_n (xle_n (xle_n (xle_c rfl (xle_c rfl xle_nil))))))))) (kj9 (if (i + (-2147483648 : Int32)) ≤ (a + (-2147483648 : Int32)) then (0 : Int32) else (1 : Int32)) h)
          have kt12_4 : (f = (4 : Int32)) → X G (dp + 1) kX13_immediate (oI A Q) (A.wI I) 130 [some (.ref m), some (.int f), some (.int g), some (.int d), some (.int a), some (.int i), some (.int n), some (.int q), none] [] := by
            intro c27
            replace h := h.2.2.2.2.1 c27
            refine x_iload dX13_immediate_130 rfl ?_
            refine x_iload dX13_immediate_132 rfl ?_
            refine x_ixor dX13_immediate_134 ?_
            refine x_istore dX13_immediate_135 (by decide) ?_
            refine x_goto (tgt := 179) dX13_immediate_137 (by decide) ?_
            change X _ _ _ _ _ _ [some (.ref m), some (.int f), some (.int g), some (.int d), some (.int a), some (.int i), some (.int n), some (.int q), some (.int (a ^^^ i))] []
            exact X.weak (xle_c rfl (xle_n (xle_n (xle_c rfl (xle_n (xle_n (xle_n (xle_c rfl (xle_c rfl xle_nil))))))))) (kj9 (a ^^^ i) h)
          have kt12_5 : (f = (5 : Int32)) → X G (dp + 1) kX13_immediate (oI A Q) (A.wI I) 140 [some (.ref m), some (.int f), some (.int g), some (.int d), some (.int a), some (.int i), some (.int n), some (.int q), none] [] := by
            intro c27
            replace h := h.2.2.2.2.2.1 c27
            refine x_iload_n dX13_immediate_140 rfl ?_
            refine x_if_ne (tgt := 152) dX13_immediate_141 (by decide) (fun _ => ?_) (fun h => absurd h c15)
            refine x_iload dX13_immediate_152 rfl ?_
            refine x_iload dX13_immediate_154 rfl ?_
            refine x_ishr dX13_immediate_156 ?_
            refine x_eqi (v := (jishr a n)) rfl ?_
            refine x_istore dX13_immediate_157 (by decide) ?_
            refine x_goto (tgt := 179) dX13_immediate_159 (by decide) ?_
            change X _ _ _ _ _ _ [some (.ref m), some (.int f), some (.int g), some (.int d), some (.int a), some (.int i), some (.int n), some (.int q), some (.int (jishr a n))] []
            exact X.weak (xle_c rfl (xle_n (xle_n (xle_c rfl (xle_n (xle_n (xle_n (xle_c rfl (xle_c rfl xle_nil))))))))) (kj9 (jishr a n) h)
          have kt12_6 : (f = (6 : Int32)) → X G (dp + 1) kX13_immediate (oI A Q) (A.wI I) 162 [some (.ref m), some (.int f), some (.int g), some (.int d), some (.int a), some (.int i), some (.int n), some (.int q), none] [] := by
            intro c27
            replace h := h.2.2.2.2.2.2.1 c27
            refine x_iload dX13_immediate_162 rfl ?_
            refine x_iload dX13_immediate_164 rfl ?_
            refine x_ior dX13_immediate_166 ?_
            refine x_istore dX13_immediate_167 (by decide) ?_
            refine x_goto (tgt := 179) dX13_immediate_169 (by decide) ?_
            change X _ _ _ _ _ _ [some (.ref m), some (.int f), some (.int g), some (.int d), some (.int a), some (.int i), some (.int n), some (.int q), some (.int (a ||| i))] []
            exact X.weak (xle_c rfl (xle_n (xle_n (xle_c rfl (xle_n (xle_n (xle_n (xle_c rfl (xle_c rfl xle_nil))))))))) (kj9 (a ||| i) h)
          have kd12 : (¬ f = (0 : Int32) ∧ ¬ f = (1 : Int32) ∧ ¬ f = (2 : Int32) ∧ ¬ f = (3 : Int32) ∧ ¬ f = (4 : Int32) ∧ ¬ f = (5 : Int32) ∧ ¬ f = (6 : Int32)) → X G (dp + 1) kX13_immediate (oI A Q) (A.wI I) 172 [some (.ref m), some (.int f), some (.int g), some (.int d), some (.int a), some (.int i), some (.int n), some (.int q), none] [] := by
            intro c27
            replace h := h.2.2.2.2.2.2.2 c27
            refine x_iload dX13_immediate_172 rfl ?_
            refine x_iload dX13_immediate_174 rfl ?_
            refine x_iand dX13_immediate_176 ?_
            refine x_istore dX13_immediate_177 (by decide) ?_
            change X _ _ _ _ _ _ [some (.ref m), some (.int f), some (.int g), some (.int d), some (.int a), some (.int i), some (.int n), some (.int q), some (.int (a &&& i))] []
            exact X.weak (xle_c rfl (xle_n (xle_n (xle_c rfl (xle_n (xle_n (xle_n (xle_c rfl (xle_c rfl xle_nil))))))))) (kj9 (a &&& i) h)
          refine x_sw (0 : Int32) (fun s27_0 => ?_) (fun s27_0 => ?_)
          · refine x_tableIn (off := 41) (tgt := 68) dX13_immediate_27 (by rw [s27_0]; decide) (by rw [s27_0]; decide) (by rw [s27_0]; rfl) (by decide) ?_
            exact kt12_0 s27_0
          refine x_sw (1 : Int32) (fun s27_1 => ?_) (fun s27_1 => ?_)
          · refine x_tableIn (off := 51) (tgt := 78) dX13_immediate_27 (by rw [s27_1]; decide) (by rw [s27_1]; decide) (by rw [s27_1]; rfl) (by decide) ?_
            exact kt12_1 s27_1
          refine x_sw (2 : Int32) (fun s27_2 => ?_) (fun s27_2 => ?_)
          · refine x_tableIn (off := 61) (tgt := 88) dX13_immediate_27 (by rw [s27_2]; decide) (by rw [s27_2]; decide) (by rw [s27_2]; rfl) (by decide) ?_
            exact kt12_2 s27_2
          refine x_sw (3 : Int32) (fun s27_3 => ?_) (fun s27_3 => ?_)
          · refine x_tableIn (off := 78) (tgt := 105) dX13_immediate_27 (by rw [s27_3]; decide) (by rw [s27_3]; decide) (by rw [s27_3]; rfl) (by decide) ?_
            exact kt12_3 s27_3
          refine x_sw (4 : Int32) (fun s27_4 => ?_) (fun s27_4 => ?_)
          · refine x_tableIn (off := 103) (tgt := 130) dX13_immediate_27 (by rw [s27_4]; decide) (by rw [s27_4]; decide) (by rw [s27_4]; rfl) (by decide) ?_
            exact kt12_4 s27_4
          refine x_sw (5 : Int32) (fun s27_5 => ?_) (fun s27_5 => ?_)
          · refine x_tableIn (off := 113) (tgt := 140) dX13_immediate_27 (by rw [s27_5]; decide) (by rw [s27_5]; decide) (by rw [s27_5]; rfl) (by decide) ?_
            exact kt12_5 s27_5
          refine x_sw (6 : Int32) (fun s27_6 => ?_) (fun s27_6 => ?_)
          · refine x_tableIn (off := 135) (tgt := 162) dX13_immediate_27 (by rw [s27_6]; decide) (by rw [s27_6]; decide) (by rw [s27_6]; rfl) (by decide) ?_
            exact kt12_6 s27_6
          have t27_0 := lv_neT s27_0 (a := 0) (by decide)
          have t27_1 := lv_neT s27_1 (a := 1) (by decide)
          have t27_2 := lv_neT s27_2 (a := 2) (by decide)
          have t27_3 := lv_neT s27_3 (a := 3) (by decide)
          have t27_4 := lv_neT s27_4 (a := 4) (by decide)
          have t27_5 := lv_neT s27_5 (a := 5) (by decide)
          have t27_6 := lv_neT s27_6 (a := 6) (by decide)
          refine x_tableOut (tgt := 172) dX13_immediate_27 (by omega) (by decide) ?_
          exact kd12 ⟨s27_0, s27_1, s27_2, s27_3, s27_4, s27_5, s27_6⟩
        · replace h := h.2 c21
          refine x_iconst_ (v := (2 : Int32)) dX13_immediate_24 (by decide) ?_
          exact x_iret dX13_immediate_25 rfl ⟨_, _, rfl, rfl, h⟩
  · replace h := h.1 c2
    refine x_iload_n dX13_immediate_5 rfl ?_
    refine x_if_ne (tgt := 24) dX13_immediate_6 (by decide) (fun c6 => ?_) (fun c6 => ?_)
    · replace h := h.2 c6
      refine x_iconst_ (v := (2 : Int32)) dX13_immediate_24 (by decide) ?_
      exact x_iret dX13_immediate_25 rfl ⟨_, _, rfl, rfl, h⟩
    · replace h := h.1 c6
      refine x_iload_n dX13_immediate_9 rfl ?_
      refine x_iconst_ (v := (5 : Int32)) dX13_immediate_10 (by decide) ?_
      refine x_icmp_ne (tgt := 26) dX13_immediate_11 (by decide) (fun _ => ?_) (fun h => absurd h (by rw [c2]; decide))
      refine x_iload_n dX13_immediate_26 rfl ?_
      obtain ⟨J13, g13, h⟩ := h
      have kj13 : ∀ (y13_8 : Int32), J13 y13_8 → X G (dp + 1) kX13_immediate (oI A Q) (A.wI I) 179 [some (.ref m), none, none, some (.int d), none, none, none, some (.int q), some (.int y13_8)] [] := by
        intro y13_8 h
        replace h := g13 y13_8 h
        refine x_aload_n dX13_immediate_179 rfl ?_
        refine x_iload_n dX13_immediate_180 rfl ?_
        refine x_iload dX13_immediate_181 rfl ?_
        obtain ⟨R14, g14, h⟩ := h
        refine x_callV hG (Ky := kX13_gives) (As := [.int d, .int y13_8]) dX13_immediate_183 (mo_t hM) rfl lk_X13_582 me_X13_gives is_X13_gives se_X13_gives rfl rfl (Nat.le_of_ble_eq_true rfl) (MX.post (m_X13_gives hG hM g14) ?_)
        rintro _ _ ⟨I14, rfl, rfl, h1⟩
        replace h := h I14 h1
        change X _ _ _ _ (A.wI I14) _ _ _
        refine x_aload_n dX13_immediate_186 rfl ?_
        refine x_iload dX13_immediate_187 rfl ?_
        refine x_iconst_ (v := (4 : Int32)) dX13_immediate_189 (by decide) ?_
        refine x_iadd dX13_immediate_190 ?_
        obtain ⟨R15, g15, h⟩ := h
        refine x_callV hG (Ky := kX13_goesOn) (As := [.int (q + (4 : Int32))]) dX13_immediate_191 (mo_t hM) rfl lk_X13_585 me_X13_goesOn is_X13_goesOn se_X13_goesOn rfl rfl (Nat.le_of_ble_eq_true rfl) (MX.post (m_X13_goesOn hG hM g15) ?_)
        rintro _ _ ⟨v15, I15, rfl, rfl, h1⟩
        replace h := h v15 I15 h1
        change X _ _ _ _ (A.wI I15) _ _ (.int v15 :: _)
        exact x_iret dX13_immediate_194 rfl ⟨_, _, rfl, rfl, h⟩
      have kt16_0 : (f = (0 : Int32)) → X G (dp + 1) kX13_immediate (oI A Q) (A.wI I) 68 [some (.ref m), some (.int f), some (.int g), some (.int d), some (.int a), some (.int i), some (.int n), some (.int q), none] [] := by
        intro c27
        replace h := h.1 c27
        refine x_iload dX13_immediate_68 rfl ?_
        refine x_iload dX13_immediate_70 rfl ?_
        refine x_iadd dX13_immediate_72 ?_
        refine x_istore dX13_immediate_73 (by decide) ?_
        refine x_goto (tgt := 179) dX13_immediate_75 (by decide) ?_
        change X _ _ _ _ _ _ [some (.ref m), some (.int f), some (.int g), some (.int d), some (.int a), some (.int i), some (.int n), some (.int q), some (.int (a + i))] []
        exact X.weak (xle_c rfl (xle_n (xle_n (xle_c rfl (xle_n (xle_n (xle_n (xle_c rfl (xle_c rfl xle_nil))))))))) (kj13 (a + i) h)
      have kt16_1 : (f = (1 : Int32)) → X G (dp + 1) kX13_immediate (oI A Q) (A.wI I) 78 [some (.ref m), some (.int f), some (.int g), some (.int d), some (.int a), some (.int i), some (.int n), some (.int q), none] [] := by
        intro c27
        replace h := h.2.1 c27
        refine x_iload dX13_immediate_78 rfl ?_
        refine x_iload dX13_immediate_80 rfl ?_
        refine x_ishl dX13_immediate_82 ?_
        refine x_eqi (v := (jishl a n)) rfl ?_
        refine x_istore dX13_immediate_83 (by decide) ?_
        refine x_goto (tgt := 179) dX13_immediate_85 (by decide) ?_
        change X _ _ _ _ _ _ [some (.ref m), some (.int f), some (.int g), some (.int d), some (.int a), some (.int i), some (.int n), some (.int q), some (.int (jishl a n))] []
        exact X.weak (xle_c rfl (xle_n (xle_n (xle_c rfl (xle_n (xle_n (xle_n (xle_c rfl (xle_c rfl xle_nil))))))))) (kj13 (jishl a n) h)
      have kt16_2 : (f = (2 : Int32)) → X G (dp + 1) kX13_immediate (oI A Q) (A.wI I) 88 [some (.ref m), some (.int f), some (.int g), some (.int d), some (.int a), some (.int i), some (.int n), some (.int q), none] [] := by
        intro c27
        replace h := h.2.2.1 c27
        refine x_iload dX13_immediate_88 rfl ?_
        refine x_iload dX13_immediate_90 rfl ?_
        refine x_via 100 (A' := (A.wI I)) (lv' := [some (.ref m), none, none, some (.int d), none, none, none, some (.int q), none]) (st' := [.int (if i ≤ a then (0 : Int32) else (1 : Int32))]) ?_ (fun k100 => ?_)
        rotate_left
        · refine x_icmp_ge (tgt := 99) dX13_immediate_92 (by decide) (fun c92 => ?_) (fun c92 => ?_)
          · refine x_iconst_ (v := (0 : Int32)) dX13_immediate_99 (by decide) ?_
            change X _ _ _ _ _ _ [some (.ref m), some (.int f), some (.int g), some (.int d), some (.int a), some (.int i), some (.int n), some (.int q), none] [.int (0 : Int32)]
            simp only [if_pos c92] at k100 ⊢
            exact X.weak (xle_c rfl (xle_n (xle_n (xle_c rfl (xle_n (xle_n (xle_n (xle_c rfl (xle_n xle_nil))))))))) k100
          · refine x_iconst_ (v := (1 : Int32)) dX13_immediate_95 (by decide) ?_
            refine x_goto (tgt := 100) dX13_immediate_96 (by decide) ?_
            change X _ _ _ _ _ _ [some (.ref m), some (.int f), some (.int g), some (.int d), some (.int a), some (.int i), some (.int n), some (.int q), none] [.int (1 : Int32)]
            simp only [if_neg c92] at k100 ⊢
            exact X.weak (xle_c rfl (xle_n (xle_n (xle_c rfl (xle_n (xle_n (xle_n (xle_c rfl (xle_n xle_nil))))))))) k100
        refine x_istore dX13_immediate_100 (by decide) ?_
        refine x_goto (tgt := 179) dX13_immediate_102 (by decide) ?_
        change X _ _ _ _ _ _ [some (.ref m), none, none, some (.int d), none, none, none, some (.int q), some (.int (if i ≤ a then (0 : Int32) else (1 : Int32)))] []
        exact X.weak (xle_c rfl (xle_n (xle_n (xle_c rfl (xle_n (xle_n (xle_n (xle_c rfl (xle_c rfl xle_nil))))))))) (kj13 (if i ≤ a then (0 : Int32) else (1 : Int32)) h)
      have kt16_3 : (f = (3 : Int32)) → X G (dp + 1) kX13_immediate (oI A Q) (A.wI I) 105 [some (.ref m), some (.int f), some (.int g), some (.int d), some (.int a), some (.int i), some (.int n), some (.int q), none] [] := by
        intro c27
        replace h := h.2.2.2.1 c27
        refine x_iload dX13_immediate_105 rfl ?_
        refine x_ldcw hG dX13_immediate_107 q3487 ?_
        refine x_iadd dX13_immediate_110 ?_
        refine x_iload dX13_immediate_111 rfl ?_
        refine x_ldcw hG dX13_immediate_113 q3487 ?_
        refine x_iadd dX13_immediate_116 ?_
        refine x_via 125 (A' := (A.wI I)) (lv' := [some (.ref m), none, none, some (.int d), none, none, none, some (.int q), none]) (st' := [.int (if (i + (-2147483648 : Int32)) ≤ (a + (-2147483648 : Int32)) then (0 : Int32) else (1 : Int32))]) ?_ (fun k125 => ?_)
        rotate_left
        · refine x_icmp_ge (tgt := 124) dX13_immediate_117 (by decide) (fun c117 => ?_) (fun c117 => ?_)
          · refine x_iconst_ (v := (0 : Int32)) dX13_immediate_124 (by decide) ?_
            change X _ _ _ _ _ _ [some (.ref m), some (.int f), some (.int g), some (.int d), some (.int a), some (.int i), some (.int n), some (.int q), none] [.int (0 : Int32)]
            simp only [if_pos c117] at k125 ⊢
            exact X.weak (xle_c rfl (xle_n (xle_n (xle_c rfl (xle_n (xle_n (xle_n (xle_c rfl (xle_n xle_nil))))))))) k125
          · refine x_iconst_ (v := (1 : Int32)) dX13_immediate_120 (by decide) ?_
            refine x_goto (tgt := 125) dX13_immediate_121 (by decide) ?_
            change X _ _ _ _ _ _ [some (.ref m), some (.int f), some (.int g), some (.int d), some (.int a), some (.int i), some (.int n), some (.int q), none] [.int (1 : Int32)]
            simp only [if_neg c117] at k125 ⊢
            exact X.weak (xle_c rfl (xle_n (xle_n (xle_c rfl (xle_n (xle_n (xle_n (xle_c rfl (xle_n xle_nil))))))))) k125
        refine x_istore dX13_immediate_125 (by decide) ?_
        refine x_goto (tgt := 179) dX13_immediate_127 (by decide) ?_
        change X _ _ _ _ _ _ [some (.ref m), none, none, some (.int d), none, none, none, some (.int q), some (.int (if (i + (-2147483648 : Int32)) ≤ (a + (-2147483648 : Int32)) then (0 : Int32) else (1 : Int32)))] []
        exact X.weak (xle_c rfl (xle_n (xle_n (xle_c rfl (xle_n (xle_n (xle_n (xle_c rfl (xle_c rfl xle_nil))))))))) (kj13 (if (i + (-2147483648 : Int32)) ≤ (a + (-2147483648 : Int32)) then (0 : Int32) else (1 : Int32)) h)
      have kt16_4 : (f = (4 : Int32)) → X G (dp + 1) kX13_immediate (oI A Q) (A.wI I) 130 [some (.ref m), some (.int f), some (.int g), some (.int d), some (.int a), some (.int i), some (.int n), some (.int q), none] [] := by
        intro c27
        replace h := h.2.2.2.2.1 c27
        refine x_iload dX13_immediate_130 rfl ?_
        refine x_iload dX13_immediate_132 rfl ?_
        refine x_ixor dX13_immediate_134 ?_
        refine x_istore dX13_immediate_135 (by decide) ?_
        refine x_goto (tgt := 179) dX13_immediate_137 (by decide) ?_
        change X _ _ _ _ _ _ [some (.ref m), some (.int f), some (.int g), some (.int d), some (.int a), some (.int i), some (.int n), some (.int q), some (.int (a ^^^ i))] []
        exact X.weak (xle_c rfl (xle_n (xle_n (xle_c rfl (xle_n (xle_n (xle_n (xle_c rfl (xle_c rfl xle_nil))))))))) (kj13 (a ^^^ i) h)
      have kt16_5 : (f = (5 : Int32)) → X G (dp + 1) kX13_immediate (oI A Q) (A.wI I) 140 [some (.ref m), some (.int f), some (.int g), some (.int d), some (.int a), some (.int i), some (.int n), some (.int q), none] [] := by
        intro c27
        replace h := h.2.2.2.2.2.1 c27
        refine x_iload_n dX13_immediate_140 rfl ?_
        refine x_if_ne (tgt := 152) dX13_immediate_141 (by decide) (fun h => absurd c6 h) (fun _ => ?_)
        refine x_iload dX13_immediate_144 rfl ?_
        refine x_iload dX13_immediate_146 rfl ?_
        refine x_iushr dX13_immediate_148 ?_
        refine x_eqi (v := (jiushr a n)) rfl ?_
        refine x_goto (tgt := 157) dX13_immediate_149 (by decide) ?_
        refine x_istore dX13_immediate_157 (by decide) ?_
        refine x_goto (tgt := 179) dX13_immediate_159 (by decide) ?_
        change X _ _ _ _ _ _ [some (.ref m), some (.int f), some (.int g), some (.int d), some (.int a), some (.int i), some (.int n), some (.int q), some (.int (jiushr a n))] []
        exact X.weak (xle_c rfl (xle_n (xle_n (xle_c rfl (xle_n (xle_n (xle_n (xle_c rfl (xle_c rfl xle_nil))))))))) (kj13 (jiushr a n) h)
      have kt16_6 : (f = (6 : Int32)) → X G (dp + 1) kX13_immediate (oI A Q) (A.wI I) 162 [some (.ref m), some (.int f), some (.int g), some (.int d), some (.int a), some (.int i), some (.int n), some (.int q), none] [] := by
        intro c27
        replace h := h.2.2.2.2.2.2.1 c27
        refine x_iload dX13_immediate_162 rfl ?_
        refine x_iload dX13_immediate_164 rfl ?_
        refine x_ior dX13_immediate_166 ?_
        refine x_istore dX13_immediate_167 (by decide) ?_
        refine x_goto (tgt := 179) dX13_immediate_169 (by decide) ?_
        change X _ _ _ _ _ _ [some (.ref m), some (.int f), some (.int g), some (.int d), some (.int a), some (.int i), some (.int n), some (.int q), some (.int (a ||| i))] []
        exact X.weak (xle_c rfl (xle_n (xle_n (xle_c rfl (xle_n (xle_n (xle_n (xle_c rfl (xle_c rfl xle_nil))))))))) (kj13 (a ||| i) h)
      have kd16 : (¬ f = (0 : Int32) ∧ ¬ f = (1 : Int32) ∧ ¬ f = (2 : Int32) ∧ ¬ f = (3 : Int32) ∧ ¬ f = (4 : Int32) ∧ ¬ f = (5 : Int32) ∧ ¬ f = (6 : Int32)) → X G (dp + 1) kX13_immediate (oI A Q) (A.wI I) 172 [some (.ref m), some (.int f), some (.int g), some (.int d), some (.int a), some (.int i), some (.int n), some (.int q), none] [] := by
        intro c27
        replace h := h.2.2.2.2.2.2.2 c27
        refine x_iload dX13_immediate_172 rfl ?_
        refine x_iload dX13_immediate_174 rfl ?_
        refine x_iand dX13_immediate_176 ?_
        refine x_istore dX13_immediate_177 (by decide) ?_
        change X _ _ _ _ _ _ [some (.ref m), some (.int f), some (.int g), some (.int d), some (.int a), some (.int i), some (.int n), some (.int q), some (.int (a &&& i))] []
        exact X.weak (xle_c rfl (xle_n (xle_n (xle_c rfl (xle_n (xle_n (xle_n (xle_c rfl (xle_c rfl xle_nil))))))))) (kj13 (a &&& i) h)
      refine x_sw (0 : Int32) (fun s27_0 => ?_) (fun s27_0 => ?_)
      · refine x_tableIn (off := 41) (tgt := 68) dX13_immediate_27 (by rw [s27_0]; decide) (by rw [s27_0]; decide) (by rw [s27_0]; rfl) (by decide) ?_
        exact kt16_0 s27_0
      refine x_sw (1 : Int32) (fun s27_1 => ?_) (fun s27_1 => ?_)
      · refine x_tableIn (off := 51) (tgt := 78) dX13_immediate_27 (by rw [s27_1]; decide) (by rw [s27_1]; decide) (by rw [s27_1]; rfl) (by decide) ?_
        exact kt16_1 s27_1
      refine x_sw (2 : Int32) (fun s27_2 => ?_) (fun s27_2 => ?_)
      · refine x_tableIn (off := 61) (tgt := 88) dX13_immediate_27 (by rw [s27_2]; decide) (by rw [s27_2]; decide) (by rw [s27_2]; rfl) (by decide) ?_
        exact kt16_2 s27_2
      refine x_sw (3 : Int32) (fun s27_3 => ?_) (fun s27_3 => ?_)
      · refine x_tableIn (off := 78) (tgt := 105) dX13_immediate_27 (by rw [s27_3]; decide) (by rw [s27_3]; decide) (by rw [s27_3]; rfl) (by decide) ?_
        exact kt16_3 s27_3
      refine x_sw (4 : Int32) (fun s27_4 => ?_) (fun s27_4 => ?_)
      · refine x_tableIn (off := 103) (tgt := 130) dX13_immediate_27 (by rw [s27_4]; decide) (by rw [s27_4]; decide) (by rw [s27_4]; rfl) (by decide) ?_
        exact kt16_4 s27_4
      refine x_sw (5 : Int32) (fun s27_5 => ?_) (fun s27_5 => ?_)
      · refine x_tableIn (off := 113) (tgt := 140) dX13_immediate_27 (by rw [s27_5]; decide) (by rw [s27_5]; decide) (by rw [s27_5]; rfl) (by decide) ?_
        exact kt16_5 s27_5
      refine x_sw (6 : Int32) (fun s27_6 => ?_) (fun s27_6 => ?_)
      · refine x_tableIn (off := 135) (tgt := 162) dX13_immediate_27 (by rw [s27_6]; decide) (by rw [s27_6]; decide) (by rw [s27_6]; rfl) (by decide) ?_
        exact kt16_6 s27_6
      have t27_0 := lv_neT s27_0 (a := 0) (by decide)
      have t27_1 := lv_neT s27_1 (a := 1) (by decide)
      have t27_2 := lv_neT s27_2 (a := 2) (by decide)
      have t27_3 := lv_neT s27_3 (a := 3) (by decide)
      have t27_4 := lv_neT s27_4 (a := 4) (by decide)
      have t27_5 := lv_neT s27_5 (a := 5) (by decide)
      have t27_6 := lv_neT s27_6 (a := 6) (by decide)
      refine x_tableOut (tgt := 172) dX13_immediate_27 (by omega) (by decide) ?_
      exact kd16 ⟨s27_0, s27_1, s27_2, s27_3, s27_4, s27_5, s27_6⟩
def w_X13_both (m : Nat) (f : Int32) (g : Int32) (d : Int32) (a : Int32) (b : Int32) (q : Int32) (Q : Int32 → xII → Prop) (I : xII) : Prop := ((g = 0 → ∃ R1 : xII → Prop, w_X13_gives m d (if f = 0 then (a + b) else (if f = (1 : Int32) then (jishl a (b &&& (31 : Int32))) else (if f = (2 : Int32) then (f_X13_doing (36 : Int32) a b) else (if f = (3 : Int32) then (f_X13_doing (36 : Int32) (a + (-2147483648 : Int32)) (b + (-2147483648 : Int32))) else (if f = (4 : Int32) then (a ^^^ b) else (if f = (5 : Int32) then (jiushr a (b &&& (31 : Int32))) else (if f = (6 : Int32) then (a ||| b) else (a &&& b)))))))) R1 I ∧ (∀ I1 : xII, R1 I1 → (∃ R2 : Int32 → xII → Prop, w_X13_goesOn m (q + (4 : Int32)) R2 I1 ∧ (∀ (v2 : Int32) (I2 : xII), R2 v2 I2 → (Q v2 I2))))) ∧ (¬ g = 0 → ((g = (1 : Int32) → ∃ R3 : xII → Prop, w_X13_gives m d (f_X13_product f a b) R3 I ∧ (∀ I3 : xII, R3 I3 → (∃ R4 : Int32 → xII → Prop, w_X13_goesOn m (q + (4 : Int32)) R4 I3 ∧ (∀ (v4 : Int32) (I4 : xII), R4 v4 I4 → (Q v4 I4))))) ∧ (¬ g = (1 : Int32) → ((g = (32 : Int32) → ((f = 0 → ∃ R5 : xII → Prop, w_X13_gives m d (a - b) R5 I ∧ (∀ I5 : xII, R5 I5 → (∃ R6 : Int32 → xII → Prop, w_X13_goesOn m (q + (4 : Int32)) R6 I5 ∧ (∀ (v6 : Int32) (I6 : xII), R6 v6 I6 → (Q v6 I6))))) ∧ (¬ f = 0 → ((f = (5 : Int32) → ∃ R7 : xII → Prop, w_X13_gives m d (jishr a (b &&& (31 : Int32))) R7 I ∧ (∀ I7 : xII, R7 I7 → (∃ R8 : Int32 → xII → Prop, w_X13_goesOn m (q + (4 : Int32)) R8 I7 ∧ (∀ (v8 : Int32) (I8 : xII), R8 v8 I8 → (Q v8 I8))))) ∧ (¬ f = (5 : Int32) → Q (2 : Int32) I))))) ∧ (¬ g = (32 : Int32) → Q (2 : Int32) I))))))
theorem m_X13_both (hG : xOK G) {dp : Nat} {A : xA} {m : Nat} (hM : xMo G A m) {f : Int32} {g : Int32} {d : Int32} {a : Int32} {b : Int32} {q : Int32} {Q : Int32 → xII → Prop} {I : xII} (h : w_X13_both m f g d a b q Q I) : MX G (dp + 2) kX13_both [.ref m, .int f, .int g, .int d, .int a, .int b, .int q] (A.wI I) (oI A Q) := by
  unfold w_X13_both at h
  refine MX.of rfl (Nat.le_of_ble_eq_true rfl) ?_
  change X _ _ _ _ _ _ [some (.ref m), some (.int f), some (.int g), some (.int d), some (.int a), some (.int b), some (.int q)] _
  refine x_iload_n dX13_both_0 rfl ?_
  refine x_if_eq (tgt := 26) dX13_both_1 (by decide) (fun c1 => ?_) (fun c1 => ?_)
  · replace h := h.1 c1
    refine x_aload_n dX13_both_26 rfl ?_
    refine x_iload_n dX13_both_27 rfl ?_
    refine x_iload_n dX13_both_28 rfl ?_
    refine x_iconst_ (v := (1 : Int32)) dX13_both_29 (by decide) ?_
    refine x_icmp_ne (tgt := 44) dX13_both_30 (by decide) (fun _ => ?_) (fun h => absurd h (by rw [c1]; decide))
    refine x_iload_n dX13_both_44 rfl ?_
    refine x_bipush_ (v := (32 : Int32)) dX13_both_45 (by decide) ?_
    refine x_icmp_ne (tgt := 73) dX13_both_47 (by decide) (fun _ => ?_) (fun h => absurd h (by rw [c1]; decide))
    refine x_iload_n dX13_both_73 rfl ?_
    refine x_via 191 (A' := (A.wI I)) (lv' := [some (.ref m), none, none, none, none, none, some (.int q)]) (st' := [.int (if f = 0 then (a + b) else (if f = (1 : Int32) then (jishl a (b &&& (31 : Int32))) else (if f = (2 : Int32) then (f_X13_doing (36 : Int32) a b) else (if f = (3 : Int32) then (f_X13_doing (36 : Int32) (a + (-2147483648 : Int32)) (b + (-2147483648 : Int32))) else (if f = (4 : Int32) then (a ^^^ b) else (if f = (5 : Int32) then (jiushr a (b &&& (31 : Int32))) else (if f = (6 : Int32) then (a ||| b) else (a &&& b)))))))), .int d, .ref m]) ?_ (fun k191 => ?_)
    rotate_left
    · refine x_if_ne (tgt := 85) dX13_both_74 (by decide) (fun c74 => ?_) (fun c74 => ?_)
      · refine x_iload_n dX13_both_85 rfl ?_
        refine x_iconst_ (v := (1 : Int32)) dX13_both_86 (by decide) ?_
        refine x_icmp_ne (tgt := 101) dX13_both_87 (by decide) (fun c87 => ?_) (fun c87 => ?_)
        · refine x_iload_n dX13_both_101 rfl ?_
          refine x_iconst_ (v := (2 : Int32)) dX13_both_102 (by decide) ?_
          refine x_icmp_ne (tgt := 118) dX13_both_103 (by decide) (fun c103 => ?_) (fun c103 => ?_)
          · refine x_iload_n dX13_both_118 rfl ?_
            refine x_iconst_ (v := (3 : Int32)) dX13_both_119 (by decide) ?_
            refine x_icmp_ne (tgt := 143) dX13_both_120 (by decide) (fun c120 => ?_) (fun c120 => ?_)
            · refine x_iload_n dX13_both_143 rfl ?_
              refine x_iconst_ (v := (4 : Int32)) dX13_both_144 (by decide) ?_
              refine x_icmp_ne (tgt := 156) dX13_both_145 (by decide) (fun c145 => ?_) (fun c145 => ?_)
              · refine x_iload_n dX13_both_156 rfl ?_
                refine x_iconst_ (v := (5 : Int32)) dX13_both_157 (by decide) ?_
                refine x_icmp_ne (tgt := 172) dX13_both_158 (by decide) (fun c158 => ?_) (fun c158 => ?_)
                · refine x_iload_n dX13_both_172 rfl ?_
                  refine x_bipush_ (v := (6 : Int32)) dX13_both_173 (by decide) ?_
                  refine x_icmp_ne (tgt := 186) dX13_both_175 (by decide) (fun c175 => ?_) (fun c175 => ?_)
                  · refine x_iload dX13_both_186 rfl ?_
                    refine x_iload dX13_both_188 rfl ?_
                    refine x_iand dX13_both_190 ?_
                    change X _ _ _ _ _ _ [some (.ref m), some (.int f), some (.int g), some (.int d), some (.int a), some (.int b), some (.int q)] [.int (a &&& b), .int d, .ref m]
                    try simp only [if_neg c74] at c87 c103 c120 c145 c158 c175 k191 ⊢
                    try simp only [if_neg c87] at c103 c120 c145 c158 c175 k191 ⊢
                    try simp only [if_neg c103] at c120 c145 c158 c175 k191 ⊢
                    try simp only [if_neg c120] at c145 c158 c175 k191 ⊢
                    try simp only [if_neg c145] at c158 c175 k191 ⊢
                    try simp only [if_neg c158] at c175 k191 ⊢
                    try simp only [if_neg c175] at k191 ⊢
                    exact X.weak (xle_c rfl (xle_n (xle_n (xle_n (xle_n (xle_n (xle_c rfl xle_nil))))))) k191
                  · refine x_iload dX13_both_178 rfl ?_
                    refine x_iload dX13_both_180 rfl ?_
                    refine x_ior dX13_both_182 ?_
                    refine x_goto (tgt := 191) dX13_both_183 (by decide) ?_
                    change X _ _ _ _ _ _ [some (.ref m), some (.int f), some (.int g), some (.int d), some (.int a), some (.int b), some (.int q)] [.int (a ||| b), .int d, .ref m]
                    try simp only [if_neg c74] at c87 c103 c120 c145 c158 c175 k191 ⊢
                    try simp only [if_neg c87] at c103 c120 c145 c158 c175 k191 ⊢
                    try simp only [if_neg c103] at c120 c145 c158 c175 k191 ⊢
                    try simp only [if_neg c120] at c145 c158 c175 k191 ⊢
                    try simp only [if_neg c145] at c158 c175 k191 ⊢
                    try simp only [if_neg c158] at c175 k191 ⊢
                    try simp only [if_pos c175] at k191 ⊢
                    exact X.weak (xle_c rfl (xle_n (xle_n (xle_n (xle_n (xle_n (xle_c rfl xle_nil))))))) k191
                · refine x_iload dX13_both_161 rfl ?_
                  refine x_iload dX13_both_163 rfl ?_
                  refine x_bipush_ (v := (31 : Int32)) dX13_both_165 (by decide) ?_
                  refine x_iand dX13_both_167 ?_
                  refine x_iushr dX13_both_168 ?_
                  refine x_eqi (v := (jiushr a (b &&& (31 : Int32)))) rfl ?_
                  refine x_goto (tgt := 191) dX13_both_169 (by decide) ?_
                  change X _ _ _ _ _ _ [some (.ref m), some (.int f), some (.int g), some (.int d), some (.int a), some (.int b), some (.int q)] [.int (jiushr a (b &&& (31 : Int32))), .int d, .ref m]
                  try simp only [if_neg c74] at c87 c103 c120 c145 c158 k191 ⊢
                  try simp only [if_neg c87] at c103 c120 c145 c158 k191 ⊢
                  try simp only [if_neg c103] at c120 c145 c158 k191 ⊢
                  try simp only [if_neg c120] at c145 c158 k191 ⊢
                  try simp only [if_neg c145] at c158 k191 ⊢
                  try simp only [if_pos c158] at k191 ⊢
                  exact X.weak (xle_c rfl (xle_n (xle_n (xle_n (xle_n (xle_n (xle_c rfl xle_nil))))))) k191
              · refine x_iload dX13_both_148 rfl ?_
                refine x_iload dX13_both_150 rfl ?_
                refine x_ixor dX13_both_152 ?_
                refine x_goto (tgt := 191) dX13_both_153 (by decide) ?_
                change X _ _ _ _ _ _ [some (.ref m), some (.int f), some (.int g), some (.int d), some (.int a), some (.int b), some (.int q)] [.int (a ^^^ b), .int d, .ref m]
                try simp only [if_neg c74] at c87 c103 c120 c145 k191 ⊢
                try simp only [if_neg c87] at c103 c120 c145 k191 ⊢
                try simp only [if_neg c103] at c120 c145 k191 ⊢
                try simp only [if_neg c120] at c145 k191 ⊢
                try simp only [if_pos c145] at k191 ⊢
                exact X.weak (xle_c rfl (xle_n (xle_n (xle_n (xle_n (xle_n (xle_c rfl xle_nil))))))) k191
            · refine x_bipush_ (v := (36 : Int32)) dX13_both_123 (by decide) ?_
              refine x_iload dX13_both_125 rfl ?_
              refine x_ldcw hG dX13_both_127 q3487 ?_
              refine x_iadd dX13_both_130 ?_
              refine x_iload dX13_both_131 rfl ?_
              refine x_ldcw hG dX13_both_133 q3487 ?_
              refine x_iadd dX13_both_136 ?_
              refine x_callS hG (Ky := kX13_doing) (As := [.int (36 : Int32), .int (a + (-2147483648 : Int32)), .int (b + (-2147483648 : Int32))]) dX13_both_137 lk_X13_500 me_X13_doing st_X13_doing rfl rfl (Nat.le_of_ble_eq_true rfl) (MX.post (m_X13_doing hG pp_X13_doing) ?_)
              rintro _ _ ⟨rfl, rfl⟩
              change X _ _ _ _ _ _ _ (.int (f_X13_doing (36 : Int32) (a + (-2147483648 : Int32)) (b + (-2147483648 : Int32))) :: _)
              refine x_goto (tgt := 191) dX13_both_140 (by decide) ?_
              change X _ _ _ _ _ _ [some (.ref m), some (.int f), some (.int g), some (.int d), some (.int a), some (.int b), some (.int q)] [.int (f_X13_doing (36 : Int32) (a + (-2147483648 : Int32)) (b + (-2147483648 : Int32))), .int d, .ref m]
              try simp only [if_neg c74] at c87 c103 c120 k191 ⊢
              try simp only [if_neg c87] at c103 c120 k191 ⊢
              try simp only [if_neg c103] at c120 k191 ⊢
              try simp only [if_pos c120] at k191 ⊢
              exact X.weak (xle_c rfl (xle_n (xle_n (xle_n (xle_n (xle_n (xle_c rfl xle_nil))))))) k191
          · refine x_bipush_ (v := (36 : Int32)) dX13_both_106 (by decide) ?_
            refine x_iload dX13_both_108 rfl ?_
            refine x_iload dX13_both_110 rfl ?_
            refine x_callS hG (Ky := kX13_doing) (As := [.int (36 : Int32), .int a, .int b]) dX13_both_112 lk_X13_500 me_X13_doing st_X13_doing rfl rfl (Nat.le_of_ble_eq_true rfl) (MX.post (m_X13_doing hG pp_X13_doing) ?_)
            rintro _ _ ⟨rfl, rfl⟩
            change X _ _ _ _ _ _ _ (.int (f_X13_doing (36 : Int32) a b) :: _)
            refine x_goto (tgt := 191) dX13_both_115 (by decide) ?_
            change X _ _ _ _ _ _ [some (.ref m), some (.int f), some (.int g), some (.int d), some (.int a), some (.int b), some (.int q)] [.int (f_X13_doing (36 : Int32) a b), .int d, .ref m]
            try simp only [if_neg c74] at c87 c103 k191 ⊢
            try simp only [if_neg c87] at c103 k191 ⊢
            try simp only [if_pos c103] at k191 ⊢
            exact X.weak (xle_c rfl (xle_n (xle_n (xle_n (xle_n (xle_n (xle_c rfl xle_nil))))))) k191
        · refine x_iload dX13_both_90 rfl ?_
          refine x_iload dX13_both_92 rfl ?_
          refine x_bipush_ (v := (31 : Int32)) dX13_both_94 (by decide) ?_
          refine x_iand dX13_both_96 ?_
          refine x_ishl dX13_both_97 ?_
          refine x_eqi (v := (jishl a (b &&& (31 : Int32)))) rfl ?_
          refine x_goto (tgt := 191) dX13_both_98 (by decide) ?_
          change X _ _ _ _ _ _ [some (.ref m), some (.int f), some (.int g), some (.int d), some (.int a), some (.int b), some (.int q)] [.int (jishl a (b &&& (31 : Int32))), .int d, .ref m]
          try simp only [if_neg c74] at c87 k191 ⊢
          try simp only [if_pos c87] at k191 ⊢
          exact X.weak (xle_c rfl (xle_n (xle_n (xle_n (xle_n (xle_n (xle_c rfl xle_nil))))))) k191
      · refine x_iload dX13_both_77 rfl ?_
        refine x_iload dX13_both_79 rfl ?_
        refine x_iadd dX13_both_81 ?_
        refine x_goto (tgt := 191) dX13_both_82 (by decide) ?_
        change X _ _ _ _ _ _ [some (.ref m), some (.int f), some (.int g), some (.int d), some (.int a), some (.int b), some (.int q)] [.int (a + b), .int d, .ref m]
        simp only [if_pos c74] at k191 ⊢
        exact X.weak (xle_c rfl (xle_n (xle_n (xle_n (xle_n (xle_n (xle_c rfl xle_nil))))))) k191
    obtain ⟨R1, g1, h⟩ := h
    refine x_callV hG (Ky := kX13_gives) (As := [.int d, .int (if f = 0 then (a + b) else (if f = (1 : Int32) then (jishl a (b &&& (31 : Int32))) else (if f = (2 : Int32) then (f_X13_doing (36 : Int32) a b) else (if f = (3 : Int32) then (f_X13_doing (36 : Int32) (a + (-2147483648 : Int32)) (b + (-2147483648 : Int32))) else (if f = (4 : Int32) then (a ^^^ b) else (if f = (5 : Int32) then (jiushr a (b &&& (31 : Int32))) else (if f = (6 : Int32) then (a ||| b) else (a &&& b))))))))]) dX13_both_191 (mo_t hM) rfl lk_X13_582 me_X13_gives is_X13_gives se_X13_gives rfl rfl (Nat.le_of_ble_eq_true rfl) (MX.post (m_X13_gives hG hM g1) ?_)
    rintro _ _ ⟨I1, rfl, rfl, h1⟩
    replace h := h I1 h1
    change X _ _ _ _ (A.wI I1) _ _ _
    refine x_aload_n dX13_both_194 rfl ?_
    refine x_iload dX13_both_195 rfl ?_
    refine x_iconst_ (v := (4 : Int32)) dX13_both_197 (by decide) ?_
    refine x_iadd dX13_both_198 ?_
    obtain ⟨R2, g2, h⟩ := h
    refine x_callV hG (Ky := kX13_goesOn) (As := [.int (q + (4 : Int32))]) dX13_both_199 (mo_t hM) rfl lk_X13_585 me_X13_goesOn is_X13_goesOn se_X13_goesOn rfl rfl (Nat.le_of_ble_eq_true rfl) (MX.post (m_X13_goesOn hG hM g2) ?_)
    rintro _ _ ⟨v2, I2, rfl, rfl, h1⟩
    replace h := h v2 I2 h1
    change X _ _ _ _ (A.wI I2) _ _ (.int v2 :: _)
    exact x_iret dX13_both_202 rfl ⟨_, _, rfl, rfl, h⟩
  · replace h := h.2 c1
    refine x_iload_n dX13_both_4 rfl ?_
    refine x_iconst_ (v := (1 : Int32)) dX13_both_5 (by decide) ?_
    refine x_icmp_eq (tgt := 26) dX13_both_6 (by decide) (fun c6 => ?_) (fun c6 => ?_)
    · replace h := h.1 c6
      refine x_aload_n dX13_both_26 rfl ?_
      refine x_iload_n dX13_both_27 rfl ?_
      refine x_iload_n dX13_both_28 rfl ?_
      refine x_iconst_ (v := (1 : Int32)) dX13_both_29 (by decide) ?_
      refine x_icmp_ne (tgt := 44) dX13_both_30 (by decide) (fun h => absurd c6 h) (fun _ => ?_)
      refine x_iload_n dX13_both_33 rfl ?_
      refine x_iload dX13_both_34 rfl ?_
      refine x_iload dX13_both_36 rfl ?_
      refine x_callS hG (Ky := kX13_product) (As := [.int f, .int a, .int b]) dX13_both_38 lk_X13_617 me_X13_product st_X13_product rfl rfl (Nat.le_of_ble_eq_true rfl) (MX.post (m_X13_product hG pp_X13_product) ?_)
      rintro _ _ ⟨rfl, rfl⟩
      change X _ _ _ _ _ _ _ (.int (f_X13_product f a b) :: _)
      refine x_goto (tgt := 191) dX13_both_41 (by decide) ?_
      obtain ⟨R3, g3, h⟩ := h
      refine x_callV hG (Ky := kX13_gives) (As := [.int d, .int (f_X13_product f a b)]) dX13_both_191 (mo_t hM) rfl lk_X13_582 me_X13_gives is_X13_gives se_X13_gives rfl rfl (Nat.le_of_ble_eq_true rfl) (MX.post (m_X13_gives hG hM g3) ?_)
      rintro _ _ ⟨I3, rfl, rfl, h1⟩
      replace h := h I3 h1
      change X _ _ _ _ (A.wI I3) _ _ _
      refine x_aload_n dX13_both_194 rfl ?_
      refine x_iload dX13_both_195 rfl ?_
      refine x_iconst_ (v := (4 : Int32)) dX13_both_197 (by decide) ?_
      refine x_iadd dX13_both_198 ?_
      obtain ⟨R4, g4, h⟩ := h
      refine x_callV hG (Ky := kX13_goesOn) (As := [.int (q + (4 : Int32))]) dX13_both_199 (mo_t hM) rfl lk_X13_585 me_X13_goesOn is_X13_goesOn se_X13_goesOn rfl rfl (Nat.le_of_ble_eq_true rfl) (MX.post (m_X13_goesOn hG hM g4) ?_)
      rintro _ _ ⟨v4, I4, rfl, rfl, h1⟩
      replace h := h v4 I4 h1
      change X _ _ _ _ (A.wI I4) _ _ (.int v4 :: _)
      exact x_iret dX13_both_202 rfl ⟨_, _, rfl, rfl, h⟩
    · replace h := h.2 c6
      refine x_iload_n dX13_both_9 rfl ?_
      refine x_bipush_ (v := (32 : Int32)) dX13_both_10 (by decide) ?_
      refine x_icmp_ne (tgt := 24) dX13_both_12 (by decide) (fun c12 => ?_) (fun c12 => ?_)
      · replace h := h.2 c12
        refine x_iconst_ (v := (2 : Int32)) dX13_both_24 (by decide) ?_
        exact x_iret dX13_both_25 rfl ⟨_, _, rfl, rfl, h⟩
      · replace h := h.1 c12
        refine x_iload_n dX13_both_15 rfl ?_
        refine x_if_eq (tgt := 26) dX13_both_16 (by decide) (fun c16 => ?_) (fun c16 => ?_)
        · replace h := h.1 c16
          refine x_aload_n dX13_both_26 rfl ?_
          refine x_iload_n dX13_both_27 rfl ?_
          refine x_iload_n dX13_both_28 rfl ?_
          refine x_iconst_ (v := (1 : Int32)) dX13_both_29 (by decide) ?_
          refine x_icmp_ne (tgt := 44) dX13_both_30 (by decide) (fun _ => ?_) (fun h => absurd h c6)
          refine x_iload_n dX13_both_44 rfl ?_
          refine x_bipush_ (v := (32 : Int32)) dX13_both_45 (by decide) ?_
          refine x_icmp_ne (tgt := 73) dX13_both_47 (by decide) (fun h => absurd c12 h) (fun _ => ?_)
          refine x_iload_n dX13_both_50 rfl ?_
          refine x_if_ne (tgt := 62) dX13_both_51 (by decide) (fun h => absurd c16 h) (fun _ => ?_)
          refine x_iload dX13_both_54 rfl ?_
          refine x_iload dX13_both_56 rfl ?_
          refine x_isub dX13_both_58 ?_
          refine x_goto (tgt := 191) dX13_both_59 (by decide) ?_
          obtain ⟨R5, g5, h⟩ := h
          refine x_callV hG (Ky := kX13_gives) (As := [.int d, .int (a - b)]) dX13_both_191 (mo_t hM) rfl lk_X13_582 me_X13_gives is_X13_gives se_X13_gives rfl rfl (Nat.le_of_ble_eq_true rfl) (MX.post (m_X13_gives hG hM g5) ?_)
          rintro _ _ ⟨I5, rfl, rfl, h1⟩
          replace h := h I5 h1
          change X _ _ _ _ (A.wI I5) _ _ _
          refine x_aload_n dX13_both_194 rfl ?_
          refine x_iload dX13_both_195 rfl ?_
          refine x_iconst_ (v := (4 : Int32)) dX13_both_197 (by decide) ?_
          refine x_iadd dX13_both_198 ?_
          obtain ⟨R6, g6, h⟩ := h
          refine x_callV hG (Ky := kX13_goesOn) (As := [.int (q + (4 : Int32))]) dX13_both_199 (mo_t hM) rfl lk_X13_585 me_X13_goesOn is_X13_goesOn se_X13_goesOn rfl rfl (Nat.le_of_ble_eq_true rfl) (MX.post (m_X13_goesOn hG hM g6) ?_)
          rintro _ _ ⟨v6, I6, rfl, rfl, h1⟩
          replace h := h v6 I6 h1
          change X _ _ _ _ (A.wI I6) _ _ (.int v6 :: _)
          exact x_iret dX13_both_202 rfl ⟨_, _, rfl, rfl, h⟩
        · replace h := h.2 c16
          refine x_iload_n dX13_both_19 rfl ?_
          refine x_iconst_ (v := (5 : Int32)) dX13_both_20 (by decide) ?_
          refine x_icmp_eq (tgt := 26) dX13_both_21 (by decide) (fun c21 => ?_) (fun c21 => ?_)
          · replace h := h.1 c21
            refine x_aload_n dX13_both_26 rfl ?_
            refine x_iload_n dX13_both_27 rfl ?_
            refine x_iload_n dX13_both_28 rfl ?_
            refine x_iconst_ (v := (1 : Int32)) dX13_both_29 (by decide) ?_
            refine x_icmp_ne (tgt := 44) dX13_both_30 (by decide) (fun _ => ?_) (fun h => absurd h c6)
            refine x_iload_n dX13_both_44 rfl ?_
            refine x_bipush_ (v := (32 : Int32)) dX13_both_45 (by decide) ?_
            refine x_icmp_ne (tgt := 73) dX13_both_47 (by decide) (fun h => absurd c12 h) (fun _ => ?_)
            refine x_iload_n dX13_both_50 rfl ?_
            refine x_if_ne (tgt := 62) dX13_both_51 (by decide) (fun _ => ?_) (fun h => absurd h c16)
            refine x_iload dX13_both_62 rfl ?_
            refine x_iload dX13_both_64 rfl ?_
            refine x_bipush_ (v := (31 : Int32)) dX13_both_66 (by decide) ?_
            refine x_iand dX13_both_68 ?_
            refine x_ishr dX13_both_69 ?_
            refine x_eqi (v := (jishr a (b &&& (31 : Int32)))) rfl ?_
            refine x_goto (tgt := 191) dX13_both_70 (by decide) ?_
            obtain ⟨R7, g7, h⟩ := h
            refine x_callV hG (Ky := kX13_gives) (As := [.int d, .int (jishr a (b &&& (31 : Int32)))]) dX13_both_191 (mo_t hM) rfl lk_X13_582 me_X13_gives is_X13_gives se_X13_gives rfl rfl (Nat.le_of_ble_eq_true rfl) (MX.post (m_X13_gives hG hM g7) ?_)
            rintro _ _ ⟨I7, rfl, rfl, h1⟩
            replace h := h I7 h1
            change X _ _ _ _ (A.wI I7) _ _ _
            refine x_aload_n dX13_both_194 rfl ?_
            refine x_iload dX13_both_195 rfl ?_
            refine x_iconst_ (v := (4 : Int32)) dX13_both_197 (by decide) ?_
            refine x_iadd dX13_both_198 ?_
            obtain ⟨R8, g8, h⟩ := h
            refine x_callV hG (Ky := kX13_goesOn) (As := [.int (q + (4 : Int32))]) dX13_both_199 (mo_t hM) rfl lk_X13_585 me_X13_goesOn is_X13_goesOn se_X13_goesOn rfl rfl (Nat.le_of_ble_eq_true rfl) (MX.post (m_X13_goesOn hG hM g8) ?_)
            rintro _ _ ⟨v8, I8, rfl, rfl, h1⟩
            replace h := h v8 I8 h1
            change X _ _ _ _ (A.wI I8) _ _ (.int v8 :: _)
            exact x_iret dX13_both_202 rfl ⟨_, _, rfl, rfl, h⟩
          · replace h := h.2 c21
            refine x_iconst_ (v := (2 : Int32)) dX13_both_24 (by decide) ?_
            exact x_iret dX13_both_25 rfl ⟨_, _, rfl, rfl, h⟩
def w_X13_put (m : Nat) (a : Int32) (w : Int32) (Q : Int32 → xII → Prop) (I : xII) : Prop := (((a &&& (3 : Int32)) = 0 → ((a < 0 → Q (0 : Int32) I) ∧ (¬ a < 0 → ((a ≤ (16380 : Int32) → vp_in (jishr a (2 : Int32)) 4096 ∧ (∀ I2 : xII, I2 = xup I (m + 46) (ix (jishr a (2 : Int32))) w → (Q (1 : Int32) I2))) ∧ (¬ a ≤ (16380 : Int32) → Q (0 : Int32) I))))) ∧ (¬ (a &&& (3 : Int32)) = 0 → Q (0 : Int32) I))
theorem m_X13_put (hG : xOK G) {dp : Nat} {A : xA} {m : Nat} (hM : xMo G A m) {a : Int32} {w : Int32} {Q : Int32 → xII → Prop} {I : xII} (h : w_X13_put m a w Q I) : MX G (dp + 0) kX13_put [.ref m, .int a, .int w] (A.wI I) (oZ A Q) := by
  unfold w_X13_put at h
  refine MX.of rfl (Nat.le_of_ble_eq_true rfl) ?_
  change X _ _ _ _ _ _ [some (.ref m), some (.int a), some (.int w)] _
  refine x_iload_n dX13_put_0 rfl ?_
  refine x_iconst_ (v := (3 : Int32)) dX13_put_1 (by decide) ?_
  refine x_iand dX13_put_2 ?_
  refine x_if_ne (tgt := 17) dX13_put_3 (by decide) (fun c3 => ?_) (fun c3 => ?_)
  · replace h := h.2 c3
    refine x_iconst_ (v := (0 : Int32)) dX13_put_17 (by decide) ?_
    exact x_zret dX13_put_18 rfl (by decide) ⟨_, _, rfl, rfl, (by decide), h⟩
  · replace h := h.1 c3
    refine x_iload_n dX13_put_6 rfl ?_
    refine x_if_lt (tgt := 17) dX13_put_7 (by decide) (fun c7 => ?_) (fun c7 => ?_)
    · replace h := h.1 c7
      refine x_iconst_ (v := (0 : Int32)) dX13_put_17 (by decide) ?_
      exact x_zret dX13_put_18 rfl (by decide) ⟨_, _, rfl, rfl, (by decide), h⟩
    · replace h := h.2 c7
      refine x_iload_n dX13_put_10 rfl ?_
      refine x_sipush_ (v := (16380 : Int32)) dX13_put_11 (by decide) ?_
      refine x_icmp_le (tgt := 19) dX13_put_14 (by decide) (fun c14 => ?_) (fun c14 => ?_)
      · replace h := h.1 c14
        refine x_aload_n dX13_put_19 rfl ?_
        refine x_get (v := .ref (m + 46)) hG dX13_put_20 f_X13_147_12 (mo_t hM) (congrArg va_rf (mo_P94 hM)) ?_
        refine x_iload_n dX13_put_23 rfl ?_
        refine x_iconst_ (v := (2 : Int32)) dX13_put_24 (by decide) ?_
        refine x_ishr dX13_put_25 ?_
        refine x_eqi (v := (jishr a (2 : Int32))) rfl ?_
        refine x_iload_n dX13_put_26 rfl ?_
        obtain ⟨o1, h⟩ := h
        refine y_iast hG dX13_put_27 (mo_t94 hM) (mo_aN hM) (mo_n94 hM) o1 (fun I2 e2 => ?_)
        replace h := h I2 e2
        refine x_iconst_ (v := (1 : Int32)) dX13_put_28 (by decide) ?_
        exact x_zret dX13_put_29 rfl (by decide) ⟨_, _, rfl, rfl, (by decide), h⟩
      · replace h := h.2 c14
        refine x_iconst_ (v := (0 : Int32)) dX13_put_17 (by decide) ?_
        exact x_zret dX13_put_18 rfl (by decide) ⟨_, _, rfl, rfl, (by decide), h⟩
def w_X13_set (m : Nat) (r : Int32) (n : Int32) (Q : Int32 → xII → Prop) (I : xII) : Prop := ((r < (1 : Int32) → Q (0 : Int32) I) ∧ (¬ r < (1 : Int32) → ((r ≤ (32 : Int32) → vp_in r 33 ∧ (∀ I2 : xII, I2 = xup I (m + 47) (ix r) n → (Q (1 : Int32) I2))) ∧ (¬ r ≤ (32 : Int32) → Q (0 : Int32) I))))
theorem m_X13_set (hG : xOK G) {dp : Nat} {A : xA} {m : Nat} (hM : xMo G A m) {r : Int32} {n : Int32} {Q : Int32 → xII → Prop} {I : xII} (h : w_X13_set m r n Q I) : MX G (dp + 0) kX13_set [.ref m, .int r, .int n] (A.wI I) (oZ A Q) := by
  unfold w_X13_set at h
  refine MX.of rfl (Nat.le_of_ble_eq_true rfl) ?_
  change X _ _ _ _ _ _ [some (.ref m), some (.int r), some (.int n)] _
  refine x_iload_n dX13_set_0 rfl ?_
  refine x_iconst_ (v := (1 : Int32)) dX13_set_1 (by decide) ?_
  refine x_icmp_lt (tgt := 11) dX13_set_2 (by decide) (fun c2 => ?_) (fun c2 => ?_)
  · replace h := h.1 c2
    refine x_iconst_ (v := (0 : Int32)) dX13_set_11 (by decide) ?_
    exact x_zret dX13_set_12 rfl (by decide) ⟨_, _, rfl, rfl, (by decide), h⟩
  · replace h := h.2 c2
    refine x_iload_n dX13_set_5 rfl ?_
    refine x_bipush_ (v := (32 : Int32)) dX13_set_6 (by decide) ?_
    refine x_icmp_le (tgt := 13) dX13_set_8 (by decide) (fun c8 => ?_) (fun c8 => ?_)
    · replace h := h.1 c8
      refine x_aload_n dX13_set_13 rfl ?_
      refine x_get (v := .ref (m + 47)) hG dX13_set_14 f_X13_150_12 (mo_t hM) (congrArg va_rf (mo_P95 hM)) ?_
      refine x_iload_n dX13_set_17 rfl ?_
      refine x_iload_n dX13_set_18 rfl ?_
      obtain ⟨o1, h⟩ := h
      refine y_iast hG dX13_set_19 (mo_t95 hM) (mo_aN hM) (mo_n95 hM) o1 (fun I2 e2 => ?_)
      replace h := h I2 e2
      refine x_iconst_ (v := (1 : Int32)) dX13_set_20 (by decide) ?_
      exact x_zret dX13_set_21 rfl (by decide) ⟨_, _, rfl, rfl, (by decide), h⟩
    · replace h := h.2 c8
      refine x_iconst_ (v := (0 : Int32)) dX13_set_11 (by decide) ?_
      exact x_zret dX13_set_12 rfl (by decide) ⟨_, _, rfl, rfl, (by decide), h⟩
def w_X13_board (m : Nat) (i : Int32) (Q : Int32 → xII → Prop) (I : xII) : Prop := ((i < 0 → ((i = (33 : Int32) → Q (I m 96) I) ∧ (¬ i = (33 : Int32) → ((i < (100 : Int32) → Q (-1 : Int32) I) ∧ (¬ i < (100 : Int32) → (((4196 : Int32) ≤ i → Q (-1 : Int32) I) ∧ (¬ (4196 : Int32) ≤ i → vp_in (i - (100 : Int32)) 4096 ∧ (Q (I (m + 46) (ix (i - (100 : Int32)))) I)))))))) ∧ (¬ i < 0 → (((33 : Int32) ≤ i → ((i = (33 : Int32) → Q (I m 96) I) ∧ (¬ i = (33 : Int32) → ((i < (100 : Int32) → Q (-1 : Int32) I) ∧ (¬ i < (100 : Int32) → (((4196 : Int32) ≤ i → Q (-1 : Int32) I) ∧ (¬ (4196 : Int32) ≤ i → vp_in (i - (100 : Int32)) 4096 ∧ (Q (I (m + 46) (ix (i - (100 : Int32)))) I)))))))) ∧ (¬ (33 : Int32) ≤ i → vp_in i 33 ∧ (Q (I (m + 47) (ix i)) I)))))
theorem m_X13_board (hG : xOK G) {dp : Nat} {A : xA} {m : Nat} (hM : xMo G A m) {i : Int32} {Q : Int32 → xII → Prop} {I : xII} (h : w_X13_board m i Q I) : MX G (dp + 0) kX13_board [.ref m, .int i] (A.wI I) (oI A Q) := by
  unfold w_X13_board at h
  refine MX.of rfl (Nat.le_of_ble_eq_true rfl) ?_
  change X _ _ _ _ _ _ [some (.ref m), some (.int i)] _
  refine x_iload_n dX13_board_0 rfl ?_
  refine x_if_lt (tgt := 19) dX13_board_1 (by decide) (fun c1 => ?_) (fun c1 => ?_)
  · replace h := h.1 c1
    refine x_iload_n dX13_board_19 rfl ?_
    refine x_bipush_ (v := (33 : Int32)) dX13_board_20 (by decide) ?_
    refine x_icmp_ne (tgt := 32) dX13_board_22 (by decide) (fun c22 => ?_) (fun c22 => ?_)
    · replace h := h.2 c22
      refine x_iload_n dX13_board_32 rfl ?_
      refine x_bipush_ (v := (100 : Int32)) dX13_board_33 (by decide) ?_
      refine x_icmp_lt (tgt := 57) dX13_board_35 (by decide) (fun c35 => ?_) (fun c35 => ?_)
      · replace h := h.1 c35
        refine x_iconst_ (v := (-1 : Int32)) dX13_board_57 (by decide) ?_
        exact x_iret dX13_board_58 rfl ⟨_, _, rfl, rfl, h⟩
      · replace h := h.2 c35
        refine x_iload_n dX13_board_38 rfl ?_
        refine x_sipush_ (v := (4196 : Int32)) dX13_board_39 (by decide) ?_
        refine x_icmp_ge (tgt := 57) dX13_board_42 (by decide) (fun c42 => ?_) (fun c42 => ?_)
        · replace h := h.1 c42
          refine x_iconst_ (v := (-1 : Int32)) dX13_board_57 (by decide) ?_
          exact x_iret dX13_board_58 rfl ⟨_, _, rfl, rfl, h⟩
        · replace h := h.2 c42
          refine x_aload_n dX13_board_45 rfl ?_
          refine x_get (v := .ref (m + 46)) hG dX13_board_46 f_X13_147_12 (mo_t hM) (congrArg va_rf (mo_P94 hM)) ?_
          refine x_iload_n dX13_board_49 rfl ?_
          refine x_bipush_ (v := (100 : Int32)) dX13_board_50 (by decide) ?_
          refine x_isub dX13_board_52 ?_
          obtain ⟨o1, h⟩ := h
          refine y_iald hG dX13_board_53 (mo_t94 hM) (mo_n94 hM) o1 ?_
          refine x_goto (tgt := 58) dX13_board_54 (by decide) ?_
          exact x_iret dX13_board_58 rfl ⟨_, _, rfl, rfl, h⟩
    · replace h := h.1 c22
      refine x_aload_n dX13_board_25 rfl ?_
      refine x_get (v := .int (I m 96)) hG dX13_board_26 f_X13_570_12 (mo_t hM) rfl ?_
      refine x_goto (tgt := 58) dX13_board_29 (by decide) ?_
      exact x_iret dX13_board_58 rfl ⟨_, _, rfl, rfl, h⟩
  · replace h := h.2 c1
    refine x_iload_n dX13_board_4 rfl ?_
    refine x_bipush_ (v := (33 : Int32)) dX13_board_5 (by decide) ?_
    refine x_icmp_ge (tgt := 19) dX13_board_7 (by decide) (fun c7 => ?_) (fun c7 => ?_)
    · replace h := h.1 c7
      refine x_iload_n dX13_board_19 rfl ?_
      refine x_bipush_ (v := (33 : Int32)) dX13_board_20 (by decide) ?_
      refine x_icmp_ne (tgt := 32) dX13_board_22 (by decide) (fun c22 => ?_) (fun c22 => ?_)
      · replace h := h.2 c22
        refine x_iload_n dX13_board_32 rfl ?_
        refine x_bipush_ (v := (100 : Int32)) dX13_board_33 (by decide) ?_
        refine x_icmp_lt (tgt := 57) dX13_board_35 (by decide) (fun c35 => ?_) (fun c35 => ?_)
        · replace h := h.1 c35
          refine x_iconst_ (v := (-1 : Int32)) dX13_board_57 (by decide) ?_
          exact x_iret dX13_board_58 rfl ⟨_, _, rfl, rfl, h⟩
        · replace h := h.2 c35
          refine x_iload_n dX13_board_38 rfl ?_
          refine x_sipush_ (v := (4196 : Int32)) dX13_board_39 (by decide) ?_
          refine x_icmp_ge (tgt := 57) dX13_board_42 (by decide) (fun c42 => ?_) (fun c42 => ?_)
          · replace h := h.1 c42
            refine x_iconst_ (v := (-1 : Int32)) dX13_board_57 (by decide) ?_
            exact x_iret dX13_board_58 rfl ⟨_, _, rfl, rfl, h⟩
          · replace h := h.2 c42
            refine x_aload_n dX13_board_45 rfl ?_
            refine x_get (v := .ref (m + 46)) hG dX13_board_46 f_X13_147_12 (mo_t hM) (congrArg va_rf (mo_P94 hM)) ?_
            refine x_iload_n dX13_board_49 rfl ?_
            refine x_bipush_ (v := (100 : Int32)) dX13_board_50 (by decide) ?_
            refine x_isub dX13_board_52 ?_
            obtain ⟨o2, h⟩ := h
            refine y_iald hG dX13_board_53 (mo_t94 hM) (mo_n94 hM) o2 ?_
            refine x_goto (tgt := 58) dX13_board_54 (by decide) ?_
            exact x_iret dX13_board_58 rfl ⟨_, _, rfl, rfl, h⟩
      · replace h := h.1 c22
        refine x_aload_n dX13_board_25 rfl ?_
        refine x_get (v := .int (I m 96)) hG dX13_board_26 f_X13_570_12 (mo_t hM) rfl ?_
        refine x_goto (tgt := 58) dX13_board_29 (by decide) ?_
        exact x_iret dX13_board_58 rfl ⟨_, _, rfl, rfl, h⟩
    · replace h := h.2 c7
      refine x_aload_n dX13_board_10 rfl ?_
      refine x_get (v := .ref (m + 47)) hG dX13_board_11 f_X13_150_12 (mo_t hM) (congrArg va_rf (mo_P95 hM)) ?_
      refine x_iload_n dX13_board_14 rfl ?_
      obtain ⟨o3, h⟩ := h
      refine y_iald hG dX13_board_15 (mo_t95 hM) (mo_n95 hM) o3 ?_
      refine x_goto (tgt := 58) dX13_board_16 (by decide) ?_
      exact x_iret dX13_board_58 rfl ⟨_, _, rfl, rfl, h⟩
def w_X13_oneWord (m : Nat) (Q : Int32 → xII → Prop) (I : xII) : Prop := vp_in (32 : Int32) 33 ∧ (((((I (m + 47) 32) &&& (3 : Int32)) = 0 → (((f_X13_isOut (I (m + 47) 32)) = 0 → vp_in (jishr (I (m + 47) 32) (2 : Int32)) 4096 ∧ (vp_in (f_X13_part (I (m + 46) (ix (jishr (I (m + 47) 32) (2 : Int32)))) (15 : Int32) (5 : Int32)) 33 ∧ (vp_in (f_X13_part (I (m + 46) (ix (jishr (I (m + 47) 32) (2 : Int32)))) (20 : Int32) (5 : Int32)) 33 ∧ (((((f_X13_part (I (m + 46) (ix (jishr (I (m + 47) 32) (2 : Int32)))) (0 : Int32) (7 : Int32)) = (55 : Int32)) → ∃ R6 : xII → Prop, w_X13_gives m (f_X13_part (I (m + 46) (ix (jishr (I (m + 47) 32) (2 : Int32)))) (7 : Int32) (5 : Int32)) ((I (m + 46) (ix (jishr (I (m + 47) 32) (2 : Int32)))) &&& (-4096 : Int32)) R6 I ∧ (∀ I6 : xII, R6 I6 → (∃ R7 : Int32 → xII → Prop, w_X13_goesOn m ((I (m + 47) 32) + (4 : Int32)) R7 I6 ∧ (∀ (v7 : Int32) (I7 : xII), R7 v7 I7 → (Q v7 I7))))) ∧ (((f_X13_part (I (m + 46) (ix (jishr (I (m + 47) 32) (2 : Int32)))) (0 : Int32) (7 : Int32)) = (23 : Int32)) → ∃ R8 : xII → Prop, w_X13_gives m (f_X13_part (I (m + 46) (ix (jishr (I (m + 47) 32) (2 : Int32)))) (7 : Int32) (5 : Int32)) ((I (m + 47) 32) + ((I (m + 46) (ix (jishr (I (m + 47) 32) (2 : Int32)))) &&& (-4096 : Int32))) R8 I ∧ (∀ I8 : xII, R8 I8 → (∃ R9 : Int32 → xII → Prop, w_X13_goesOn m ((I (m + 47) 32) + (4 : Int32)) R9 I8 ∧ (∀ (v9 : Int32) (I9 : xII), R9 v9 I9 → (Q v9 I9))))) ∧ (((f_X13_part (I (m + 46) (ix (jishr (I (m + 47) 32) (2 : Int32)))) (0 : Int32) (7 : Int32)) = (111 : Int32)) → ∃ R10 : Int32 → xII → Prop, w_X13_jumps m (f_X13_part (I (m + 46) (ix (jishr (I (m + 47) 32) (2 : Int32)))) (7 : Int32) (5 : Int32)) ((I (m + 47) 32) + ((((jishl (jishr (I (m + 46) (ix (jishr (I (m + 47) 32) (2 : Int32)))) (31 : Int32)) (20 : Int32)) ||| (jishl (f_X13_part (I (m + 46) (ix (jishr (I (m + 47) 32) (2 : Int32)))) (12 : Int32) (8 : Int32)) (12 : Int32))) ||| (jishl (f_X13_part (I (m + 46) (ix (jishr (I (m + 47) 32) (2 : Int32)))) (20 : Int32) (1 : Int32)) (11 : Int32))) ||| (jishl (f_X13_part (I (m + 46) (ix (jishr (I (m + 47) 32) (2 : Int32)))) (21 : Int32) (10 : Int32)) (1 : Int32)))) (I (m + 47) 32) R10 I ∧ (∀ (v10 : Int32) (I10 : xII), R10 v10 I10 → (Q v10 I10))) ∧ (((f_X13_part (I (m + 46) (ix (jishr (I (m + 47) 32) (2 : Int32)))) (0 : Int32) (7 : Int32)) = (103 : Int32)) → (((f_X13_part (I (m + 46) (ix (jishr (I (m + 47) 32) (2 : Int32)))) (12 : Int32) (3 : Int32)) = 0 → ∃ R11 : Int32 → xII → Prop, w_X13_jumps m (f_X13_part (I (m + 46) (ix (jishr (I (m + 47) 32) (2 : Int32)))) (7 : Int32) (5 : Int32)) (((I (m + 47) (ix (f_X13_part (I (m + 46) (ix (jishr (I (m + 47) 32) (2 : Int32)))) (15 : Int32) (5 : Int32)))) + (jishr (I (m + 46) (ix (jishr (I (m + 47) 32) (2 : Int32)))) (20 : Int32))) &&& (-2 : Int32)) (I (m + 47) 32) R11 I ∧ (∀ (v11 : Int32) (I11 : xII), R11 v11 I11 → (Q v11 I11))) ∧ (¬ (f_X13_part (I (m + 46) (ix (jishr (I (m + 47) 32) (2 : Int32)))) (12 : Int32) (3 : Int32)) = 0 → Q (2 : Int32) I))) ∧ (((f_X13_part (I (m + 46) (ix (jishr (I (m + 47) 32) (2 : Int32)))) (0 : Int32) (7 : Int32)) = (99 : Int32)) → ∃ R12 : Int32 → xII → Prop, w_X13_branches m (f_X13_part (I (m + 46) (ix (jishr (I (m + 47) 32) (2 : Int32)))) (12 : Int32) (3 : Int32)) (I (m + 47) (ix (f_X13_part (I (m + 46) (ix (jishr (I (m + 47) 32) (2 : Int32)))) (15 : Int32) (5 : Int32)))) (I (m + 47) (ix (f_X13_part (I (m + 46) (ix (jishr (I (m + 47) 32) (2 : Int32)))) (20 : Int32) (5 : Int32)))) ((I (m + 47) 32) + ((((jishl (jishr (I (m + 46) (ix (jishr (I (m + 47) 32) (2 : Int32)))) (31 : Int32)) (12 : Int32)) ||| (jishl (f_X13_part (I (m + 46) (ix (jishr (I (m + 47) 32) (2 : Int32)))) (7 : Int32) (1 : Int32)) (11 : Int32))) ||| (jishl (f_X13_part (I (m + 46) (ix (jishr (I (m + 47) 32) (2 : Int32)))) (25 : Int32) (6 : Int32)) (5 : Int32))) ||| (jishl (f_X13_part (I (m + 46) (ix (jishr (I (m + 47) 32) (2 : Int32)))) (8 : Int32) (4 : Int32)) (1 : Int32)))) (I (m + 47) 32) R12 I ∧ (∀ (v12 : Int32) (I12 : xII), R12 v12 I12 → (Q v12 I12))) ∧ (((f_X13_part (I (m + 46) (ix (jishr (I (m + 47) 32) (2 : Int32)))) (0 : Int32) (7 : Int32)) = (3 : Int32)) → ∃ R13 : Int32 → xII → Prop, w_X13_loads m (f_X13_part (I (m + 46) (ix (jishr (I (m + 47) 32) (2 : Int32)))) (12 : Int32) (3 : Int32)) (f_X13_part (I (m + 46) (ix (jishr (I (m + 47) 32) (2 : Int32)))) (7 : Int32) (5 : Int32)) ((I (m + 47) (ix (f_X13_part (I (m + 46) (ix (jishr (I (m + 47) 32) (2 : Int32)))) (15 : Int32) (5 : Int32)))) + (jishr (I (m + 46) (ix (jishr (I (m + 47) 32) (2 : Int32)))) (20 : Int32))) (I (m + 47) 32) R13 I ∧ (∀ (v13 : Int32) (I13 : xII), R13 v13 I13 → (Q v13 I13))) ∧ (((f_X13_part (I (m + 46) (ix (jishr (I (m + 47) 32) (2 : Int32)))) (0 : Int32) (7 : Int32)) = (35 : Int32)) → ∃ R14 : Int32 → xII → Prop, w_X13_stores m (f_X13_part (I (m + 46) (ix (jishr (I (m + 47) 32) (2 : Int32)))) (12 : Int32) (3 : Int32)) ((I (m + 47) (ix (f_X13_part (I (m + 46) (ix (jishr (I (m + 47) 32) (2 : Int32)))) (15 : Int32) (5 : Int32)))) + ((jishl (jishr (I (m + 46) (ix (jishr (I (m + 47) 32) (2 : Int32)))) (25 : Int32)) (5 : Int32)) ||| (f_X13_part (I (m + 46) (ix (jishr (I (m + 47) 32) (2 : Int32)))) (7 : Int32) (5 : Int32)))) (I (m + 47) (ix (f_X13_part (I (m + 46) (ix (jishr (I (m + 47) 32) (2 : Int32)))) (20 : Int32) (5 : Int32)))) (I (m + 47) 32) R14 I ∧ (∀ (v14 : Int32) (I14 : xII), R14 v14 I14 → (Q v14 I14))) ∧ (((f_X13_part (I (m + 46) (ix (jishr (I (m + 47) 32) (2 : Int32)))) (0 : Int32) (7 : Int32)) = (19 : Int32)) → ∃ R15 : Int32 → xII → Prop, w_X13_immediate m (f_X13_part (I (m + 46) (ix (jishr (I (m + 47) 32) (2 : Int32)))) (12 : Int32) (3 : Int32)) (f_X13_part (I (m + 46) (ix (jishr (I (m + 47) 32) (2 : Int32)))) (25 : Int32) (7 : Int32)) (f_X13_part (I (m + 46) (ix (jishr (I (m + 47) 32) (2 : Int32)))) (7 : Int32) (5 : Int32)) (I (m + 47) (ix (f_X13_part (I (m + 46) (ix (jishr (I (m + 47) 32) (2 : Int32)))) (15 : Int32) (5 : Int32)))) (jishr (I (m + 46) (ix (jishr (I (m + 47) 32) (2 : Int32)))) (20 : Int32)) (f_X13_part (I (m + 46) (ix (jishr (I (m + 47) 32) (2 : Int32)))) (20 : Int32) (5 : Int32)) (I (m + 47) 32) R15 I ∧ (∀ (v15 : Int32) (I15 : xII), R15 v15 I15 → (Q v15 I15))) ∧ (((f_X13_part (I (m + 46) (ix (jishr (I (m + 47) 32) (2 : Int32)))) (0 : Int32) (7 : Int32)) = (51 : Int32)) → ∃ R16 : Int32 → xII → Prop, w_X13_both m (f_X13_part (I (m + 46) (ix (jishr (I (m + 47) 32) (2 : Int32)))) (12 : Int32) (3 : Int32)) (f_X13_part (I (m + 46) (ix (jishr (I (m + 47) 32) (2 : Int32)))) (25 : Int32) (7 : Int32)) (f_X13_part (I (m + 46) (ix (jishr (I (m + 47) 32) (2 : Int32)))) (7 : Int32) (5 : Int32)) (I (m + 47) (ix (f_X13_part (I (m + 46) (ix (jishr (I (m + 47) 32) (2 : Int32)))) (15 : Int32) (5 : Int32)))) (I (m + 47) (ix (f_X13_part (I (m + 46) (ix (jishr (I (m + 47) 32) (2 : Int32)))) (20 : Int32) (5 : Int32)))) (I (m + 47) 32) R16 I ∧ (∀ (v16 : Int32) (I16 : xII), R16 v16 I16 → (Q v16 I16))) ∧ (((f_X13_part (I (m + 46) (ix (jishr (I (m + 47) 32) (2 : Int32)))) (0 : Int32) (7 : Int32)) = (15 : Int32)) → (((f_X13_part (I (m + 46) (ix (jishr (I (m + 47) 32) (2 : Int32)))) (12 : Int32) (3 : Int32)) = 0 → ∃ R17 : Int32 → xII → Prop, w_X13_goesOn m ((I (m + 47) 32) + (4 : Int32)) R17 I ∧ (∀ (v17 : Int32) (I17 : xII), R17 v17 I17 → (Q v17 I17))) ∧ (¬ (f_X13_part (I (m + 46) (ix (jishr (I (m + 47) 32) (2 : Int32)))) (12 : Int32) (3 : Int32)) = 0 → Q (2 : Int32) I))) ∧ ((¬ (f_X13_part (I (m + 46) (ix (jishr (I (m + 47) 32) (2 : Int32)))) (0 : Int32) (7 : Int32)) = (55 : Int32) ∧ ¬ (f_X13_part (I (m + 46) (ix (jishr (I (m + 47) 32) (2 : Int32)))) (0 : Int32) (7 : Int32)) = (23 : Int32) ∧ ¬ (f_X13_part (I (m + 46) (ix (jishr (I (m + 47) 32) (2 : Int32)))) (0 : Int32) (7 : Int32)) = (111 : Int32) ∧ ¬ (f_X13_part (I (m + 46) (ix (jishr (I (m + 47) 32) (2 : Int32)))) (0 : Int32) (7 : Int32)) = (103 : Int32) ∧ ¬ (f_X13_part (I (m + 46) (ix (jishr (I (m + 47) 32) (2 : Int32)))) (0 : Int32) (7 : Int32)) = (99 : Int32) ∧ ¬ (f_X13_part (I (m + 46) (ix (jishr (I (m + 47) 32) (2 : Int32)))) (0 : Int32) (7 : Int32)) = (3 : Int32) ∧ ¬ (f_X13_part (I (m + 46) (ix (jishr (I (m + 47) 32) (2 : Int32)))) (0 : Int32) (7 : Int32)) = (35 : Int32) ∧ ¬ (f_X13_part (I (m + 46) (ix (jishr (I (m + 47) 32) (2 : Int32)))) (0 : Int32) (7 : Int32)) = (19 : Int32) ∧ ¬ (f_X13_part (I (m + 46) (ix (jishr (I (m + 47) 32) (2 : Int32)))) (0 : Int32) (7 : Int32)) = (51 : Int32) ∧ ¬ (f_X13_part (I (m + 46) (ix (jishr (I (m + 47) 32) (2 : Int32)))) (0 : Int32) (7 : Int32)) = (15 : Int32)) → (((I (m + 46) (ix (jishr (I (m + 47) 32) (2 : Int32)))) = (115 : Int32) → ∃ R18 : Int32 → xII → Prop, w_X13_goesOn m ((I (m + 47) 32) + (4 : Int32)) R18 I ∧ (∀ (v18 : Int32) (I18 : xII), R18 v18 I18 → (Q (v18 + (6 : Int32)) I18))) ∧ (¬ (I (m + 46) (ix (jishr (I (m + 47) 32) (2 : Int32)))) = (115 : Int32) → (((I (m + 46) (ix (jishr (I (m + 47) 32) (2 : Int32)))) = (1048691 : Int32) → ∃ R19 : Int32 → xII → Prop, w_X13_goesOn m ((I (m + 47) 32) + (4 : Int32)) R19 I ∧ (∀ (v19 : Int32) (I19 : xII), R19 v19 I19 → (Q (v19 + (7 : Int32)) I19))) ∧ (¬ (I (m + 46) (ix (jishr (I (m + 47) 32) (2 : Int32)))) = (1048691 : Int32) → Q (2 : Int32) I)))))))))) ∧ (¬ (f_X13_isOut (I (m + 47) 32)) = 0 → Q (1 : Int32) I))) ∧ (¬ ((I (m + 47) 32) &&& (3 : Int32)) = 0 → Q (1 : Int32) I)))
theorem m_X13_oneWord (hG : xOK G) {dp : Nat} {A : xA} {m : Nat} (hM : xMo G A m) {Q : Int32 → xII → Prop} {I : xII} (h : w_X13_oneWord m Q I) : MX G (dp + 3) kX13_oneWord [.ref m] (A.wI I) (oI A Q) := by
  unfold w_X13_oneWord at h
  refine MX.of rfl (Nat.le_of_ble_eq_true rfl) ?_
  change X _ _ _ _ _ _ [some (.ref m), none, none, none, none, none, none, none, none] _
  refine x_aload_n dX13_oneWord_0 rfl ?_
  refine x_get (v := .ref (m + 47)) hG dX13_oneWord_1 f_X13_150_12 (mo_t hM) (congrArg va_rf (mo_P95 hM)) ?_
  refine x_bipush_ (v := (32 : Int32)) dX13_oneWord_4 (by decide) ?_
  obtain ⟨o1, h⟩ := h
  refine y_iald hG dX13_oneWord_6 (mo_t95 hM) (mo_n95 hM) o1 ?_
  refine x_eqi (v := (I (m + 47) 32)) rfl ?_
  refine x_istore_n dX13_oneWord_7 (by decide) ?_
  refine x_iload_n dX13_oneWord_8 rfl ?_
  refine x_iconst_ (v := (3 : Int32)) dX13_oneWord_9 (by decide) ?_
  refine x_iand dX13_oneWord_10 ?_
  refine x_if_ne (tgt := 21) dX13_oneWord_11 (by decide) (fun c11 => ?_) (fun c11 => ?_)
  · replace h := h.2 c11
    refine x_iconst_ (v := (1 : Int32)) dX13_oneWord_21 (by decide) ?_
    exact x_iret dX13_oneWord_22 rfl ⟨_, _, rfl, rfl, h⟩
  · replace h := h.1 c11
    refine x_iload_n dX13_oneWord_14 rfl ?_
    refine x_callS hG (Ky := kX13_isOut) (As := [.int (I (m + 47) 32)]) dX13_oneWord_15 lk_X13_576 me_X13_isOut st_X13_isOut rfl rfl (Nat.le_of_ble_eq_true rfl) (MX.post (m_X13_isOut hG) ?_)
    rintro _ _ ⟨rfl, rfl⟩
    change X _ _ _ _ _ _ _ (.int (f_X13_isOut (I (m + 47) 32)) :: _)
    refine x_if_eq (tgt := 23) dX13_oneWord_18 (by decide) (fun c18 => ?_) (fun c18 => ?_)
    · replace h := h.1 c18
      refine x_aload_n dX13_oneWord_23 rfl ?_
      refine x_get (v := .ref (m + 46)) hG dX13_oneWord_24 f_X13_147_12 (mo_t hM) (congrArg va_rf (mo_P94 hM)) ?_
      refine x_iload_n dX13_oneWord_27 rfl ?_
      refine x_iconst_ (v := (2 : Int32)) dX13_oneWord_28 (by decide) ?_
      refine x_ishr dX13_oneWord_29 ?_
      refine x_eqi (v := (jishr (I (m + 47) 32) (2 : Int32))) rfl ?_
      obtain ⟨o2, h⟩ := h
      refine y_iald hG dX13_oneWord_30 (mo_t94 hM) (mo_n94 hM) o2 ?_
      refine x_istore_n dX13_oneWord_31 (by decide) ?_
      refine x_iload_n dX13_oneWord_32 rfl ?_
      refine x_bipush_ (v := (7 : Int32)) dX13_oneWord_33 (by decide) ?_
      refine x_iconst_ (v := (5 : Int32)) dX13_oneWord_35 (by decide) ?_
      refine x_callS hG (Ky := kX13_part) (As := [.int (I (m + 46) (ix (jishr (I (m + 47) 32) (2 : Int32)))), .int (7 : Int32), .int (5 : Int32)]) dX13_oneWord_36 lk_X13_579 me_X13_part st_X13_part rfl rfl (Nat.le_of_ble_eq_true rfl) (MX.post (m_X13_part hG) ?_)
      rintro _ _ ⟨rfl, rfl⟩
      change X _ _ _ _ _ _ _ (.int (f_X13_part (I (m + 46) (ix (jishr (I (m + 47) 32) (2 : Int32)))) (7 : Int32) (5 : Int32)) :: _)
      refine x_istore_n dX13_oneWord_39 (by decide) ?_
      refine x_iload_n dX13_oneWord_40 rfl ?_
      refine x_bipush_ (v := (12 : Int32)) dX13_oneWord_41 (by decide) ?_
      refine x_iconst_ (v := (3 : Int32)) dX13_oneWord_43 (by decide) ?_
      refine x_callS hG (Ky := kX13_part) (As := [.int (I (m + 46) (ix (jishr (I (m + 47) 32) (2 : Int32)))), .int (12 : Int32), .int (3 : Int32)]) dX13_oneWord_44 lk_X13_579 me_X13_part st_X13_part rfl rfl (Nat.le_of_ble_eq_true rfl) (MX.post (m_X13_part hG) ?_)
      rintro _ _ ⟨rfl, rfl⟩
      change X _ _ _ _ _ _ _ (.int (f_X13_part (I (m + 46) (ix (jishr (I (m + 47) 32) (2 : Int32)))) (12 : Int32) (3 : Int32)) :: _)
      refine x_istore dX13_oneWord_47 (by decide) ?_
      refine x_iload_n dX13_oneWord_49 rfl ?_
      refine x_bipush_ (v := (25 : Int32)) dX13_oneWord_50 (by decide) ?_
      refine x_bipush_ (v := (7 : Int32)) dX13_oneWord_52 (by decide) ?_
      refine x_callS hG (Ky := kX13_part) (As := [.int (I (m + 46) (ix (jishr (I (m + 47) 32) (2 : Int32)))), .int (25 : Int32), .int (7 : Int32)]) dX13_oneWord_54 lk_X13_579 me_X13_part st_X13_part rfl rfl (Nat.le_of_ble_eq_true rfl) (MX.post (m_X13_part hG) ?_)
      rintro _ _ ⟨rfl, rfl⟩
      change X _ _ _ _ _ _ _ (.int (f_X13_part (I (m + 46) (ix (jishr (I (m + 47) 32) (2 : Int32)))) (25 : Int32) (7 : Int32)) :: _)
      refine x_istore dX13_oneWord_57 (by decide) ?_
      refine x_aload_n dX13_oneWord_59 rfl ?_
      refine x_get (v := .ref (m + 47)) hG dX13_oneWord_60 f_X13_150_12 (mo_t hM) (congrArg va_rf (mo_P95 hM)) ?_
      refine x_iload_n dX13_oneWord_63 rfl ?_
      refine x_bipush_ (v := (15 : Int32)) dX13_oneWord_64 (by decide) ?_
      refine x_iconst_ (v := (5 : Int32)) dX13_oneWord_66 (by decide) ?_
      refine x_callS hG (Ky := kX13_part) (As := [.int (I (m + 46) (ix (jishr (I (m + 47) 32) (2 : Int32)))), .int (15 : Int32), .int (5 : Int32)]) dX13_oneWord_67 lk_X13_579 me_X13_part st_X13_part rfl rfl (Nat.le_of_ble_eq_true rfl) (MX.post (m_X13_part hG) ?_)
      rintro _ _ ⟨rfl, rfl⟩
      change X _ _ _ _ _ _ _ (.int (f_X13_part (I (m + 46) (ix (jishr (I (m + 47) 32) (2 : Int32)))) (15 : Int32) (5 : Int32)) :: _)
      obtain ⟨o3, h⟩ := h
      refine y_iald hG dX13_oneWord_70 (mo_t95 hM) (mo_n95 hM) o3 ?_
      refine x_istore dX13_oneWord_71 (by decide) ?_
      refine x_aload_n dX13_oneWord_73 rfl ?_
      refine x_get (v := .ref (m + 47)) hG dX13_oneWord_74 f_X13_150_12 (mo_t hM) (congrArg va_rf (mo_P95 hM)) ?_
      refine x_iload_n dX13_oneWord_77 rfl ?_
      refine x_bipush_ (v := (20 : Int32)) dX13_oneWord_78 (by decide) ?_
      refine x_iconst_ (v := (5 : Int32)) dX13_oneWord_80 (by decide) ?_
      refine x_callS hG (Ky := kX13_part) (As := [.int (I (m + 46) (ix (jishr (I (m + 47) 32) (2 : Int32)))), .int (20 : Int32), .int (5 : Int32)]) dX13_oneWord_81 lk_X13_579 me_X13_part st_X13_part rfl rfl (Nat.le_of_ble_eq_true rfl) (MX.post (m_X13_part hG) ?_)
      rintro _ _ ⟨rfl, rfl⟩
      change X _ _ _ _ _ _ _ (.int (f_X13_part (I (m + 46) (ix (jishr (I (m + 47) 32) (2 : Int32)))) (20 : Int32) (5 : Int32)) :: _)
      obtain ⟨o4, h⟩ := h
      refine y_iald hG dX13_oneWord_84 (mo_t95 hM) (mo_n95 hM) o4 ?_
      refine x_istore dX13_oneWord_85 (by decide) ?_
      refine x_iload_n dX13_oneWord_87 rfl ?_
      refine x_bipush_ (v := (20 : Int32)) dX13_oneWord_88 (by decide) ?_
      refine x_ishr dX13_oneWord_90 ?_
      refine x_eqi (v := (jishr (I (m + 46) (ix (jishr (I (m + 47) 32) (2 : Int32)))) (20 : Int32))) rfl ?_
      refine x_istore dX13_oneWord_91 (by decide) ?_
      refine x_iload_n dX13_oneWord_93 rfl ?_
      refine x_iconst_ (v := (0 : Int32)) dX13_oneWord_94 (by decide) ?_
      refine x_bipush_ (v := (7 : Int32)) dX13_oneWord_95 (by decide) ?_
      refine x_callS hG (Ky := kX13_part) (As := [.int (I (m + 46) (ix (jishr (I (m + 47) 32) (2 : Int32)))), .int (0 : Int32), .int (7 : Int32)]) dX13_oneWord_97 lk_X13_579 me_X13_part st_X13_part rfl rfl (Nat.le_of_ble_eq_true rfl) (MX.post (m_X13_part hG) ?_)
      rintro _ _ ⟨rfl, rfl⟩
      change X _ _ _ _ _ _ _ (.int (f_X13_part (I (m + 46) (ix (jishr (I (m + 47) 32) (2 : Int32)))) (0 : Int32) (7 : Int32)) :: _)
      have kt5_0 : ((f_X13_part (I (m + 46) (ix (jishr (I (m + 47) 32) (2 : Int32)))) (0 : Int32) (7 : Int32)) = (55 : Int32)) → X G (dp + 3) kX13_oneWord (oI A Q) (A.wI I) 192 [some (.ref m), some (.int (I (m + 47) 32)), some (.int (I (m + 46) (ix (jishr (I (m + 47) 32) (2 : Int32))))), some (.int (f_X13_part (I (m + 46) (ix (jishr (I (m + 47) 32) (2 : Int32)))) (7 : Int32) (5 : Int32))), some (.int (f_X13_part (I (m + 46) (ix (jishr (I (m + 47) 32) (2 : Int32)))) (12 : Int32) (3 : Int32))), some (.int (f_X13_part (I (m + 46) (ix (jishr (I (m + 47) 32) (2 : Int32)))) (25 : Int32) (7 : Int32))), some (.int (I (m + 47) (ix (f_X13_part (I (m + 46) (ix (jishr (I (m + 47) 32) (2 : Int32)))) (15 : Int32) (5 : Int32))))), some (.int (I (m + 47) (ix (f_X13_part (I (m + 46) (ix (jishr (I (m + 47) 32) (2 : Int32)))) (20 : Int32) (5 : Int32))))), some (.int (jishr (I (m + 46) (ix (jishr (I (m + 47) 32) (2 : Int32)))) (20 : Int32)))] [] := by
        intro c100
        replace h := h.1 c100
        refine x_aload_n dX13_oneWord_192 rfl ?_
        refine x_iload_n dX13_oneWord_193 rfl ?_
        refine x_iload_n dX13_oneWord_194 rfl ?_
        refine x_sipush_ (v := (-4096 : Int32)) dX13_oneWord_195 (by decide) ?_
        refine x_iand dX13_oneWord_198 ?_
        obtain ⟨R6, g6, h⟩ := h
        refine x_callV hG (Ky := kX13_gives) (As := [.int (f_X13_part (I (m + 46) (ix (jishr (I (m + 47) 32) (2 : Int32)))) (7 : Int32) (5 : Int32)), .int ((I (m + 46) (ix (jishr (I (m + 47) 32) (2 : Int32)))) &&& (-4096 : Int32))]) dX13_oneWord_199 (mo_t hM) rfl lk_X13_582 me_X13_gives is_X13_gives se_X13_gives rfl rfl (Nat.le_of_ble_eq_true rfl) (MX.post (m_X13_gives hG hM g6) ?_)
        rintro _ _ ⟨I6, rfl, rfl, h1⟩
        replace h := h I6 h1
        change X _ _ _ _ (A.wI I6) _ _ _
        refine x_aload_n dX13_oneWord_202 rfl ?_
        refine x_iload_n dX13_oneWord_203 rfl ?_
        refine x_iconst_ (v := (4 : Int32)) dX13_oneWord_204 (by decide) ?_
        refine x_iadd dX13_oneWord_205 ?_
        obtain ⟨R7, g7, h⟩ := h
        refine x_callV hG (Ky := kX13_goesOn) (As := [.int ((I (m + 47) 32) + (4 : Int32))]) dX13_oneWord_206 (mo_t hM) rfl lk_X13_585 me_X13_goesOn is_X13_goesOn se_X13_goesOn rfl rfl (Nat.le_of_ble_eq_true rfl) (MX.post (m_X13_goesOn hG hM g7) ?_)
        rintro _ _ ⟨v7, I7, rfl, rfl, h1⟩
        replace h := h v7 I7 h1
        change X _ _ _ _ (A.wI I7) _ _ (.int v7 :: _)
        exact x_iret dX13_oneWord_209 rfl ⟨_, _, rfl, rfl, h⟩
      have kt5_1 : ((f_X13_part (I (m + 46) (ix (jishr (I (m + 47) 32) (2 : Int32)))) (0 : Int32) (7 : Int32)) = (23 : Int32)) → X G (dp + 3) kX13_oneWord (oI A Q) (A.wI I) 210 [some (.ref m), some (.int (I (m + 47) 32)), some (.int (I (m + 46) (ix (jishr (I (m + 47) 32) (2 : Int32))))), some (.int (f_X13_part (I (m + 46) (ix (jishr (I (m + 47) 32) (2 : Int32)))) (7 : Int32) (5 : Int32))), some (.int (f_X13_part (I (m + 46) (ix (jishr (I (m + 47) 32) (2 : Int32)))) (12 : Int32) (3 : Int32))), some (.int (f_X13_part (I (m + 46) (ix (jishr (I (m + 47) 32) (2 : Int32)))) (25 : Int32) (7 : Int32))), some (.int (I (m + 47) (ix (f_X13_part (I (m + 46) (ix (jishr (I (m + 47) 32) (2 : Int32)))) (15 : Int32) (5 : Int32))))), some (.int (I (m + 47) (ix (f_X13_part (I (m + 46) (ix (jishr (I (m + 47) 32) (2 : Int32)))) (20 : Int32) (5 : Int32))))), some (.int (jishr (I (m + 46) (ix (jishr (I (m + 47) 32) (2 : Int32)))) (20 : Int32)))] [] := by
        intro c100
        replace h := h.2.1 c100
        refine x_aload_n dX13_oneWord_210 rfl ?_
        refine x_iload_n dX13_oneWord_211 rfl ?_
        refine x_iload_n dX13_oneWord_212 rfl ?_
        refine x_iload_n dX13_oneWord_213 rfl ?_
        refine x_sipush_ (v := (-4096 : Int32)) dX13_oneWord_214 (by decide) ?_
        refine x_iand dX13_oneWord_217 ?_
        refine x_iadd dX13_oneWord_218 ?_
        obtain ⟨R8, g8, h⟩ := h
        refine x_callV hG (Ky := kX13_gives) (As := [.int (f_X13_part (I (m + 46) (ix (jishr (I (m + 47) 32) (2 : Int32)))) (7 : Int32) (5 : Int32)), .int ((I (m + 47) 32) + ((I (m + 46) (ix (jishr (I (m + 47) 32) (2 : Int32)))) &&& (-4096 : Int32)))]) dX13_oneWord_219 (mo_t hM) rfl lk_X13_582 me_X13_gives is_X13_gives se_X13_gives rfl rfl (Nat.le_of_ble_eq_true rfl) (MX.post (m_X13_gives hG hM g8) ?_)
        rintro _ _ ⟨I8, rfl, rfl, h1⟩
        replace h := h I8 h1
        change X _ _ _ _ (A.wI I8) _ _ _
        refine x_aload_n dX13_oneWord_222 rfl ?_
        refine x_iload_n dX13_oneWord_223 rfl ?_
        refine x_iconst_ (v := (4 : Int32)) dX13_oneWord_224 (by decide) ?_
        refine x_iadd dX13_oneWord_225 ?_
        obtain ⟨R9, g9, h⟩ := h
        refine x_callV hG (Ky := kX13_goesOn) (As := [.int ((I (m + 47) 32) + (4 : Int32))]) dX13_oneWord_226 (mo_t hM) rfl lk_X13_585 me_X13_goesOn is_X13_goesOn se_X13_goesOn rfl rfl (Nat.le_of_ble_eq_true rfl) (MX.post (m_X13_goesOn hG hM g9) ?_)
        rintro _ _ ⟨v9, I9, rfl, rfl, h1⟩
        replace h := h v9 I9 h1
        change X _ _ _ _ (A.wI I9) _ _ (.int v9 :: _)
        exact x_iret dX13_oneWord_229 rfl ⟨_, _, rfl, rfl, h⟩
      have kt5_2 : ((f_X13_part (I (m + 46) (ix (jishr (I (m + 47) 32) (2 : Int32)))) (0 : Int32) (7 : Int32)) = (111 : Int32)) → X G (dp + 3) kX13_oneWord (oI A Q) (A.wI I) 230 [some (.ref m), some (.int (I (m + 47) 32)), some (.int (I (m + 46) (ix (jishr (I (m + 47) 32) (2 : Int32))))), some (.int (f_X13_part (I (m + 46) (ix (jishr (I (m + 47) 32) (2 : Int32)))) (7 : Int32) (5 : Int32))), some (.int (f_X13_part (I (m + 46) (ix (jishr (I (m + 47) 32) (2 : Int32)))) (12 : Int32) (3 : Int32))), some (.int (f_X13_part (I (m + 46) (ix (jishr (I (m + 47) 32) (2 : Int32)))) (25 : Int32) (7 : Int32))), some (.int (I (m + 47) (ix (f_X13_part (I (m + 46) (ix (jishr (I (m + 47) 32) (2 : Int32)))) (15 : Int32) (5 : Int32))))), some (.int (I (m + 47) (ix (f_X13_part (I (m + 46) (ix (jishr (I (m + 47) 32) (2 : Int32)))) (20 : Int32) (5 : Int32))))), some (.int (jishr (I (m + 46) (ix (jishr (I (m + 47) 32) (2 : Int32)))) (20 : Int32)))] [] := by
        intro c100
        replace h := h.2.2.1 c100
        refine x_aload_n dX13_oneWord_230 rfl ?_
        refine x_iload_n dX13_oneWord_231 rfl ?_
        refine x_iload_n dX13_oneWord_232 rfl ?_
        refine x_iload_n dX13_oneWord_233 rfl ?_
        refine x_bipush_ (v := (31 : Int32)) dX13_oneWord_234 (by decide) ?_
        refine x_ishr dX13_oneWord_236 ?_
        refine x_eqi (v := (jishr (I (m + 46) (ix (jishr (I (m + 47) 32) (2 : Int32)))) (31 : Int32))) rfl ?_
        refine x_bipush_ (v := (20 : Int32)) dX13_oneWord_237 (by decide) ?_
        refine x_ishl dX13_oneWord_239 ?_
        refine x_eqi (v := (jishl (jishr (I (m + 46) (ix (jishr (I (m + 47) 32) (2 : Int32)))) (31 : Int32)) (20 : Int32))) rfl ?_
        refine x_iload_n dX13_oneWord_240 rfl ?_
        refine x_bipush_ (v := (12 : Int32)) dX13_oneWord_241 (by decide) ?_
        refine x_bipush_ (v := (8 : Int32)) dX13_oneWord_243 (by decide) ?_
        refine x_callS hG (Ky := kX13_part) (As := [.int (I (m + 46) (ix (jishr (I (m + 47) 32) (2 : Int32)))), .int (12 : Int32), .int (8 : Int32)]) dX13_oneWord_245 lk_X13_579 me_X13_part st_X13_part rfl rfl (Nat.le_of_ble_eq_true rfl) (MX.post (m_X13_part hG) ?_)
        rintro _ _ ⟨rfl, rfl⟩
        change X _ _ _ _ _ _ _ (.int (f_X13_part (I (m + 46) (ix (jishr (I (m + 47) 32) (2 : Int32)))) (12 : Int32) (8 : Int32)) :: _)
        refine x_bipush_ (v := (12 : Int32)) dX13_oneWord_248 (by decide) ?_
        refine x_ishl dX13_oneWord_250 ?_
        refine x_eqi (v := (jishl (f_X13_part (I (m + 46) (ix (jishr (I (m + 47) 32) (2 : Int32)))) (12 : Int32) (8 : Int32)) (12 : Int32))) rfl ?_
        refine x_ior dX13_oneWord_251 ?_
        refine x_iload_n dX13_oneWord_252 rfl ?_
        refine x_bipush_ (v := (20 : Int32)) dX13_oneWord_253 (by decide) ?_
        refine x_iconst_ (v := (1 : Int32)) dX13_oneWord_255 (by decide) ?_
        refine x_callS hG (Ky := kX13_part) (As := [.int (I (m + 46) (ix (jishr (I (m + 47) 32) (2 : Int32)))), .int (20 : Int32), .int (1 : Int32)]) dX13_oneWord_256 lk_X13_579 me_X13_part st_X13_part rfl rfl (Nat.le_of_ble_eq_true rfl) (MX.post (m_X13_part hG) ?_)
        rintro _ _ ⟨rfl, rfl⟩
        change X _ _ _ _ _ _ _ (.int (f_X13_part (I (m + 46) (ix (jishr (I (m + 47) 32) (2 : Int32)))) (20 : Int32) (1 : Int32)) :: _)
        refine x_bipush_ (v := (11 : Int32)) dX13_oneWord_259 (by decide) ?_
        refine x_ishl dX13_oneWord_261 ?_
        refine x_eqi (v := (jishl (f_X13_part (I (m + 46) (ix (jishr (I (m + 47) 32) (2 : Int32)))) (20 : Int32) (1 : Int32)) (11 : Int32))) rfl ?_
        refine x_ior dX13_oneWord_262 ?_
        refine x_iload_n dX13_oneWord_263 rfl ?_
        refine x_bipush_ (v := (21 : Int32)) dX13_oneWord_264 (by decide) ?_
        refine x_bipush_ (v := (10 : Int32)) dX13_oneWord_266 (by decide) ?_
        refine x_callS hG (Ky := kX13_part) (As := [.int (I (m + 46) (ix (jishr (I (m + 47) 32) (2 : Int32)))), .int (21 : Int32), .int (10 : Int32)]) dX13_oneWord_268 lk_X13_579 me_X13_part st_X13_part rfl rfl (Nat.le_of_ble_eq_true rfl) (MX.post (m_X13_part hG) ?_)
        rintro _ _ ⟨rfl, rfl⟩
        change X _ _ _ _ _ _ _ (.int (f_X13_part (I (m + 46) (ix (jishr (I (m + 47) 32) (2 : Int32)))) (21 : Int32) (10 : Int32)) :: _)
        refine x_iconst_ (v := (1 : Int32)) dX13_oneWord_271 (by decide) ?_
        refine x_ishl dX13_oneWord_272 ?_
        refine x_eqi (v := (jishl (f_X13_part (I (m + 46) (ix (jishr (I (m + 47) 32) (2 : Int32)))) (21 : Int32) (10 : Int32)) (1 : Int32))) rfl ?_
        refine x_ior dX13_oneWord_273 ?_
        refine x_iadd dX13_oneWord_274 ?_
        refine x_iload_n dX13_oneWord_275 rfl ?_
        obtain ⟨R10, g10, h⟩ := h
        refine x_callV hG (Ky := kX13_jumps) (As := [.int (f_X13_part (I (m + 46) (ix (jishr (I (m + 47) 32) (2 : Int32)))) (7 : Int32) (5 : Int32)), .int ((I (m + 47) 32) + ((((jishl (jishr (I (m + 46) (ix (jishr (I (m + 47) 32) (2 : Int32)))) (31 : Int32)) (20 : Int32)) ||| (jishl (f_X13_part (I (m + 46) (ix (jishr (I (m + 47) 32) (2 : Int32)))) (12 : Int32) (8 : Int32)) (12 : Int32))) ||| (jishl (f_X13_part (I (m + 46) (ix (jishr (I (m + 47) 32) (2 : Int32)))) (20 : Int32) (1 : Int32)) (11 : Int32))) ||| (jishl (f_X13_part (I (m + 46) (ix (jishr (I (m + 47) 32) (2 : Int32)))) (21 : Int32) (10 : Int32)) (1 : Int32)))), .int (I (m + 47) 32)]) dX13_oneWord_276 (mo_t hM) rfl lk_X13_588 me_X13_jumps is_X13_jumps se_X13_jumps rfl rfl (Nat.le_of_ble_eq_true rfl) (MX.post (m_X13_jumps hG hM g10) ?_)
        rintro _ _ ⟨v10, I10, rfl, rfl, h1⟩
        replace h := h v10 I10 h1
        change X _ _ _ _ (A.wI I10) _ _ (.int v10 :: _)
        exact x_iret dX13_oneWord_279 rfl ⟨_, _, rfl, rfl, h⟩
      have kt5_3 : ((f_X13_part (I (m + 46) (ix (jishr (I (m + 47) 32) (2 : Int32)))) (0 : Int32) (7 : Int32)) = (103 : Int32)) → X G (dp + 3) kX13_oneWord (oI A Q) (A.wI I) 280 [some (.ref m), some (.int (I (m + 47) 32)), some (.int (I (m + 46) (ix (jishr (I (m + 47) 32) (2 : Int32))))), some (.int (f_X13_part (I (m + 46) (ix (jishr (I (m + 47) 32) (2 : Int32)))) (7 : Int32) (5 : Int32))), some (.int (f_X13_part (I (m + 46) (ix (jishr (I (m + 47) 32) (2 : Int32)))) (12 : Int32) (3 : Int32))), some (.int (f_X13_part (I (m + 46) (ix (jishr (I (m + 47) 32) (2 : Int32)))) (25 : Int32) (7 : Int32))), some (.int (I (m + 47) (ix (f_X13_part (I (m + 46) (ix (jishr (I (m + 47) 32) (2 : Int32)))) (15 : Int32) (5 : Int32))))), some (.int (I (m + 47) (ix (f_X13_part (I (m + 46) (ix (jishr (I (m + 47) 32) (2 : Int32)))) (20 : Int32) (5 : Int32))))), some (.int (jishr (I (m + 46) (ix (jishr (I (m + 47) 32) (2 : Int32)))) (20 : Int32)))] [] := by
        intro c100
        replace h := h.2.2.2.1 c100
        refine x_iload dX13_oneWord_280 rfl ?_
        refine x_if_ne (tgt := 302) dX13_oneWord_282 (by decide) (fun c282 => ?_) (fun c282 => ?_)
        · replace h := h.2 c282
          refine x_iconst_ (v := (2 : Int32)) dX13_oneWord_302 (by decide) ?_
          exact x_iret dX13_oneWord_303 rfl ⟨_, _, rfl, rfl, h⟩
        · replace h := h.1 c282
          refine x_aload_n dX13_oneWord_285 rfl ?_
          refine x_iload_n dX13_oneWord_286 rfl ?_
          refine x_iload dX13_oneWord_287 rfl ?_
          refine x_iload dX13_oneWord_289 rfl ?_
          refine x_iadd dX13_oneWord_291 ?_
          refine x_bipush_ (v := (-2 : Int32)) dX13_oneWord_292 (by decide) ?_
          refine x_iand dX13_oneWord_294 ?_
          refine x_iload_n dX13_oneWord_295 rfl ?_
          obtain ⟨R11, g11, h⟩ := h
          refine x_callV hG (Ky := kX13_jumps) (As := [.int (f_X13_part (I (m + 46) (ix (jishr (I (m + 47) 32) (2 : Int32)))) (7 : Int32) (5 : Int32)), .int (((I (m + 47) (ix (f_X13_part (I (m + 46) (ix (jishr (I (m + 47) 32) (2 : Int32)))) (15 : Int32) (5 : Int32)))) + (jishr (I (m + 46) (ix (jishr (I (m + 47) 32) (2 : Int32)))) (20 : Int32))) &&& (-2 : Int32)), .int (I (m + 47) 32)]) dX13_oneWord_296 (mo_t hM) rfl lk_X13_588 me_X13_jumps is_X13_jumps se_X13_jumps rfl rfl (Nat.le_of_ble_eq_true rfl) (MX.post (m_X13_jumps hG hM g11) ?_)
          rintro _ _ ⟨v11, I11, rfl, rfl, h1⟩
          replace h := h v11 I11 h1
          change X _ _ _ _ (A.wI I11) _ _ (.int v11 :: _)
          refine x_goto (tgt := 303) dX13_oneWord_299 (by decide) ?_
          exact x_iret dX13_oneWord_303 rfl ⟨_, _, rfl, rfl, h⟩
      have kt5_4 : ((f_X13_part (I (m + 46) (ix (jishr (I (m + 47) 32) (2 : Int32)))) (0 : Int32) (7 : Int32)) = (99 : Int32)) → X G (dp + 3) kX13_oneWord (oI A Q) (A.wI I) 304 [some (.ref m), some (.int (I (m + 47) 32)), some (.int (I (m + 46) (ix (jishr (I (m + 47) 32) (2 : Int32))))), some (.int (f_X13_part (I (m + 46) (ix (jishr (I (m + 47) 32) (2 : Int32)))) (7 : Int32) (5 : Int32))), some (.int (f_X13_part (I (m + 46) (ix (jishr (I (m + 47) 32) (2 : Int32)))) (12 : Int32) (3 : Int32))), some (.int (f_X13_part (I (m + 46) (ix (jishr (I (m + 47) 32) (2 : Int32)))) (25 : Int32) (7 : Int32))), some (.int (I (m + 47) (ix (f_X13_part (I (m + 46) (ix (jishr (I (m + 47) 32) (2 : Int32)))) (15 : Int32) (5 : Int32))))), some (.int (I (m + 47) (ix (f_X13_part (I (m + 46) (ix (jishr (I (m + 47) 32) (2 : Int32)))) (20 : Int32) (5 : Int32))))), some (.int (jishr (I (m + 46) (ix (jishr (I (m + 47) 32) (2 : Int32)))) (20 : Int32)))] [] := by
        intro c100
        replace h := h.2.2.2.2.1 c100
        refine x_aload_n dX13_oneWord_304 rfl ?_
        refine x_iload dX13_oneWord_305 rfl ?_
        refine x_iload dX13_oneWord_307 rfl ?_
        refine x_iload dX13_oneWord_309 rfl ?_
        refine x_iload_n dX13_oneWord_311 rfl ?_
        refine x_iload_n dX13_oneWord_312 rfl ?_
        refine x_bipush_ (v := (31 : Int32)) dX13_oneWord_313 (by decide) ?_
        refine x_ishr dX13_oneWord_315 ?_
        refine x_eqi (v := (jishr (I (m + 46) (ix (jishr (I (m + 47) 32) (2 : Int32)))) (31 : Int32))) rfl ?_
        refine x_bipush_ (v := (12 : Int32)) dX13_oneWord_316 (by decide) ?_
        refine x_ishl dX13_oneWord_318 ?_
        refine x_eqi (v := (jishl (jishr (I (m + 46) (ix (jishr (I (m + 47) 32) (2 : Int32)))) (31 : Int32)) (12 : Int32))) rfl ?_
        refine x_iload_n dX13_oneWord_319 rfl ?_
        refine x_bipush_ (v := (7 : Int32)) dX13_oneWord_320 (by decide) ?_
        refine x_iconst_ (v := (1 : Int32)) dX13_oneWord_322 (by decide) ?_
        refine x_callS hG (Ky := kX13_part) (As := [.int (I (m + 46) (ix (jishr (I (m + 47) 32) (2 : Int32)))), .int (7 : Int32), .int (1 : Int32)]) dX13_oneWord_323 lk_X13_579 me_X13_part st_X13_part rfl rfl (Nat.le_of_ble_eq_true rfl) (MX.post (m_X13_part hG) ?_)
        rintro _ _ ⟨rfl, rfl⟩
        change X _ _ _ _ _ _ _ (.int (f_X13_part (I (m + 46) (ix (jishr (I (m + 47) 32) (2 : Int32)))) (7 : Int32) (1 : Int32)) :: _)
        refine x_bipush_ (v := (11 : Int32)) dX13_oneWord_326 (by decide) ?_
        refine x_ishl dX13_oneWord_328 ?_
        refine x_eqi (v := (jishl (f_X13_part (I (m + 46) (ix (jishr (I (m + 47) 32) (2 : Int32)))) (7 : Int32) (1 : Int32)) (11 : Int32))) rfl ?_
        refine x_ior dX13_oneWord_329 ?_
        refine x_iload_n dX13_oneWord_330 rfl ?_
        refine x_bipush_ (v := (25 : Int32)) dX13_oneWord_331 (by decide) ?_
        refine x_bipush_ (v := (6 : Int32)) dX13_oneWord_333 (by decide) ?_
        refine x_callS hG (Ky := kX13_part) (As := [.int (I (m + 46) (ix (jishr (I (m + 47) 32) (2 : Int32)))), .int (25 : Int32), .int (6 : Int32)]) dX13_oneWord_335 lk_X13_579 me_X13_part st_X13_part rfl rfl (Nat.le_of_ble_eq_true rfl) (MX.post (m_X13_part hG) ?_)
        rintro _ _ ⟨rfl, rfl⟩
        change X _ _ _ _ _ _ _ (.int (f_X13_part (I (m + 46) (ix (jishr (I (m + 47) 32) (2 : Int32)))) (25 : Int32) (6 : Int32)) :: _)
        refine x_iconst_ (v := (5 : Int32)) dX13_oneWord_338 (by decide) ?_
        refine x_ishl dX13_oneWord_339 ?_
        refine x_eqi (v := (jishl (f_X13_part (I (m + 46) (ix (jishr (I (m + 47) 32) (2 : Int32)))) (25 : Int32) (6 : Int32)) (5 : Int32))) rfl ?_
        refine x_ior dX13_oneWord_340 ?_
        refine x_iload_n dX13_oneWord_341 rfl ?_
        refine x_bipush_ (v := (8 : Int32)) dX13_oneWord_342 (by decide) ?_
        refine x_iconst_ (v := (4 : Int32)) dX13_oneWord_344 (by decide) ?_
        refine x_callS hG (Ky := kX13_part) (As := [.int (I (m + 46) (ix (jishr (I (m + 47) 32) (2 : Int32)))), .int (8 : Int32), .int (4 : Int32)]) dX13_oneWord_345 lk_X13_579 me_X13_part st_X13_part rfl rfl (Nat.le_of_ble_eq_true rfl) (MX.post (m_X13_part hG) ?_)
        rintro _ _ ⟨rfl, rfl⟩
        change X _ _ _ _ _ _ _ (.int (f_X13_part (I (m + 46) (ix (jishr (I (m + 47) 32) (2 : Int32)))) (8 : Int32) (4 : Int32)) :: _)
        refine x_iconst_ (v := (1 : Int32)) dX13_oneWord_348 (by decide) ?_
        refine x_ishl dX13_oneWord_349 ?_
        refine x_eqi (v := (jishl (f_X13_part (I (m + 46) (ix (jishr (I (m + 47) 32) (2 : Int32)))) (8 : Int32) (4 : Int32)) (1 : Int32))) rfl ?_
        refine x_ior dX13_oneWord_350 ?_
        refine x_iadd dX13_oneWord_351 ?_
        refine x_iload_n dX13_oneWord_352 rfl ?_
        obtain ⟨R12, g12, h⟩ := h
        refine x_callV hG (Ky := kX13_branches) (As := [.int (f_X13_part (I (m + 46) (ix (jishr (I (m + 47) 32) (2 : Int32)))) (12 : Int32) (3 : Int32)), .int (I (m + 47) (ix (f_X13_part (I (m + 46) (ix (jishr (I (m + 47) 32) (2 : Int32)))) (15 : Int32) (5 : Int32)))), .int (I (m + 47) (ix (f_X13_part (I (m + 46) (ix (jishr (I (m + 47) 32) (2 : Int32)))) (20 : Int32) (5 : Int32)))), .int ((I (m + 47) 32) + ((((jishl (jishr (I (m + 46) (ix (jishr (I (m + 47) 32) (2 : Int32)))) (31 : Int32)) (12 : Int32)) ||| (jishl (f_X13_part (I (m + 46) (ix (jishr (I (m + 47) 32) (2 : Int32)))) (7 : Int32) (1 : Int32)) (11 : Int32))) ||| (jishl (f_X13_part (I (m + 46) (ix (jishr (I (m + 47) 32) (2 : Int32)))) (25 : Int32) (6 : Int32)) (5 : Int32))) ||| (jishl (f_X13_part (I (m + 46) (ix (jishr (I (m + 47) 32) (2 : Int32)))) (8 : Int32) (4 : Int32)) (1 : Int32)))), .int (I (m + 47) 32)]) dX13_oneWord_353 (mo_t hM) rfl lk_X13_591 me_X13_branches is_X13_branches se_X13_branches rfl rfl (Nat.le_of_ble_eq_true rfl) (MX.post (m_X13_branches hG hM g12) ?_)
        rintro _ _ ⟨v12, I12, rfl, rfl, h1⟩
        replace h := h v12 I12 h1
        change X _ _ _ _ (A.wI I12) _ _ (.int v12 :: _)
        exact x_iret dX13_oneWord_356 rfl ⟨_, _, rfl, rfl, h⟩
      have kt5_5 : ((f_X13_part (I (m + 46) (ix (jishr (I (m + 47) 32) (2 : Int32)))) (0 : Int32) (7 : Int32)) = (3 : Int32)) → X G (dp + 3) kX13_oneWord (oI A Q) (A.wI I) 357 [some (.ref m), some (.int (I (m + 47) 32)), some (.int (I (m + 46) (ix (jishr (I (m + 47) 32) (2 : Int32))))), some (.int (f_X13_part (I (m + 46) (ix (jishr (I (m + 47) 32) (2 : Int32)))) (7 : Int32) (5 : Int32))), some (.int (f_X13_part (I (m + 46) (ix (jishr (I (m + 47) 32) (2 : Int32)))) (12 : Int32) (3 : Int32))), some (.int (f_X13_part (I (m + 46) (ix (jishr (I (m + 47) 32) (2 : Int32)))) (25 : Int32) (7 : Int32))), some (.int (I (m + 47) (ix (f_X13_part (I (m + 46) (ix (jishr (I (m + 47) 32) (2 : Int32)))) (15 : Int32) (5 : Int32))))), some (.int (I (m + 47) (ix (f_X13_part (I (m + 46) (ix (jishr (I (m + 47) 32) (2 : Int32)))) (20 : Int32) (5 : Int32))))), some (.int (jishr (I (m + 46) (ix (jishr (I (m + 47) 32) (2 : Int32)))) (20 : Int32)))] [] := by
        intro c100
        replace h := h.2.2.2.2.2.1 c100
        refine x_aload_n dX13_oneWord_357 rfl ?_
        refine x_iload dX13_oneWord_358 rfl ?_
        refine x_iload_n dX13_oneWord_360 rfl ?_
        refine x_iload dX13_oneWord_361 rfl ?_
        refine x_iload dX13_oneWord_363 rfl ?_
        refine x_iadd dX13_oneWord_365 ?_
        refine x_iload_n dX13_oneWord_366 rfl ?_
        obtain ⟨R13, g13, h⟩ := h
        refine x_callV hG (Ky := kX13_loads) (As := [.int (f_X13_part (I (m + 46) (ix (jishr (I (m + 47) 32) (2 : Int32)))) (12 : Int32) (3 : Int32)), .int (f_X13_part (I (m + 46) (ix (jishr (I (m + 47) 32) (2 : Int32)))) (7 : Int32) (5 : Int32)), .int ((I (m + 47) (ix (f_X13_part (I (m + 46) (ix (jishr (I (m + 47) 32) (2 : Int32)))) (15 : Int32) (5 : Int32)))) + (jishr (I (m + 46) (ix (jishr (I (m + 47) 32) (2 : Int32)))) (20 : Int32))), .int (I (m + 47) 32)]) dX13_oneWord_367 (mo_t hM) rfl lk_X13_595 me_X13_loads is_X13_loads se_X13_loads rfl rfl (Nat.le_of_ble_eq_true rfl) (MX.post (m_X13_loads hG hM g13) ?_)
        rintro _ _ ⟨v13, I13, rfl, rfl, h1⟩
        replace h := h v13 I13 h1
        change X _ _ _ _ (A.wI I13) _ _ (.int v13 :: _)
        exact x_iret dX13_oneWord_370 rfl ⟨_, _, rfl, rfl, h⟩
      have kt5_6 : ((f_X13_part (I (m + 46) (ix (jishr (I (m + 47) 32) (2 : Int32)))) (0 : Int32) (7 : Int32)) = (35 : Int32)) → X G (dp + 3) kX13_oneWord (oI A Q) (A.wI I) 371 [some (.ref m), some (.int (I (m + 47) 32)), some (.int (I (m + 46) (ix (jishr (I (m + 47) 32) (2 : Int32))))), some (.int (f_X13_part (I (m + 46) (ix (jishr (I (m + 47) 32) (2 : Int32)))) (7 : Int32) (5 : Int32))), some (.int (f_X13_part (I (m + 46) (ix (jishr (I (m + 47) 32) (2 : Int32)))) (12 : Int32) (3 : Int32))), some (.int (f_X13_part (I (m + 46) (ix (jishr (I (m + 47) 32) (2 : Int32)))) (25 : Int32) (7 : Int32))), some (.int (I (m + 47) (ix (f_X13_part (I (m + 46) (ix (jishr (I (m + 47) 32) (2 : Int32)))) (15 : Int32) (5 : Int32))))), some (.int (I (m + 47) (ix (f_X13_part (I (m + 46) (ix (jishr (I (m + 47) 32) (2 : Int32)))) (20 : Int32) (5 : Int32))))), some (.int (jishr (I (m + 46) (ix (jishr (I (m + 47) 32) (2 : Int32)))) (20 : Int32)))] [] := by
        intro c100
        replace h := h.2.2.2.2.2.2.1 c100
        refine x_aload_n dX13_oneWord_371 rfl ?_
        refine x_iload dX13_oneWord_372 rfl ?_
        refine x_iload dX13_oneWord_374 rfl ?_
        refine x_iload_n dX13_oneWord_376 rfl ?_
        refine x_bipush_ (v := (25 : Int32)) dX13_oneWord_377 (by decide) ?_
        refine x_ishr dX13_oneWord_379 ?_
        refine x_eqi (v := (jishr (I (m + 46) (ix (jishr (I (m + 47) 32) (2 : Int32)))) (25 : Int32))) rfl ?_
        refine x_iconst_ (v := (5 : Int32)) dX13_oneWord_380 (by decide) ?_
        refine x_ishl dX13_oneWord_381 ?_
        refine x_eqi (v := (jishl (jishr (I (m + 46) (ix (jishr (I (m + 47) 32) (2 : Int32)))) (25 : Int32)) (5 : Int32))) rfl ?_
        refine x_iload_n dX13_oneWord_382 rfl ?_
        refine x_ior dX13_oneWord_383 ?_
        refine x_iadd dX13_oneWord_384 ?_
        refine x_iload dX13_oneWord_385 rfl ?_
        refine x_iload_n dX13_oneWord_387 rfl ?_
        obtain ⟨R14, g14, h⟩ := h
        refine x_callV hG (Ky := kX13_stores) (As := [.int (f_X13_part (I (m + 46) (ix (jishr (I (m + 47) 32) (2 : Int32)))) (12 : Int32) (3 : Int32)), .int ((I (m + 47) (ix (f_X13_part (I (m + 46) (ix (jishr (I (m + 47) 32) (2 : Int32)))) (15 : Int32) (5 : Int32)))) + ((jishl (jishr (I (m + 46) (ix (jishr (I (m + 47) 32) (2 : Int32)))) (25 : Int32)) (5 : Int32)) ||| (f_X13_part (I (m + 46) (ix (jishr (I (m + 47) 32) (2 : Int32)))) (7 : Int32) (5 : Int32)))), .int (I (m + 47) (ix (f_X13_part (I (m + 46) (ix (jishr (I (m + 47) 32) (2 : Int32)))) (20 : Int32) (5 : Int32)))), .int (I (m + 47) 32)]) dX13_oneWord_388 (mo_t hM) rfl lk_X13_599 me_X13_stores is_X13_stores se_X13_stores rfl rfl (Nat.le_of_ble_eq_true rfl) (MX.post (m_X13_stores hG hM g14) ?_)
        rintro _ _ ⟨v14, I14, rfl, rfl, h1⟩
        replace h := h v14 I14 h1
        change X _ _ _ _ (A.wI I14) _ _ (.int v14 :: _)
        exact x_iret dX13_oneWord_391 rfl ⟨_, _, rfl, rfl, h⟩
      have kt5_7 : ((f_X13_part (I (m + 46) (ix (jishr (I (m + 47) 32) (2 : Int32)))) (0 : Int32) (7 : Int32)) = (19 : Int32)) → X G (dp + 3) kX13_oneWord (oI A Q) (A.wI I) 392 [some (.ref m), some (.int (I (m + 47) 32)), some (.int (I (m + 46) (ix (jishr (I (m + 47) 32) (2 : Int32))))), some (.int (f_X13_part (I (m + 46) (ix (jishr (I (m + 47) 32) (2 : Int32)))) (7 : Int32) (5 : Int32))), some (.int (f_X13_part (I (m + 46) (ix (jishr (I (m + 47) 32) (2 : Int32)))) (12 : Int32) (3 : Int32))), some (.int (f_X13_part (I (m + 46) (ix (jishr (I (m + 47) 32) (2 : Int32)))) (25 : Int32) (7 : Int32))), some (.int (I (m + 47) (ix (f_X13_part (I (m + 46) (ix (jishr (I (m + 47) 32) (2 : Int32)))) (15 : Int32) (5 : Int32))))), some (.int (I (m + 47) (ix (f_X13_part (I (m + 46) (ix (jishr (I (m + 47) 32) (2 : Int32)))) (20 : Int32) (5 : Int32))))), some (.int (jishr (I (m + 46) (ix (jishr (I (m + 47) 32) (2 : Int32)))) (20 : Int32)))] [] := by
        intro c100
        replace h := h.2.2.2.2.2.2.2.1 c100
        refine x_aload_n dX13_oneWord_392 rfl ?_
        refine x_iload dX13_oneWord_393 rfl ?_
        refine x_iload dX13_oneWord_395 rfl ?_
        refine x_iload_n dX13_oneWord_397 rfl ?_
        refine x_iload dX13_oneWord_398 rfl ?_
        refine x_iload dX13_oneWord_400 rfl ?_
        refine x_iload_n dX13_oneWord_402 rfl ?_
        refine x_bipush_ (v := (20 : Int32)) dX13_oneWord_403 (by decide) ?_
        refine x_iconst_ (v := (5 : Int32)) dX13_oneWord_405 (by decide) ?_
        refine x_callS hG (Ky := kX13_part) (As := [.int (I (m + 46) (ix (jishr (I (m + 47) 32) (2 : Int32)))), .int (20 : Int32), .int (5 : Int32)]) dX13_oneWord_406 lk_X13_579 me_X13_part st_X13_part rfl rfl (Nat.le_of_ble_eq_true rfl) (MX.post (m_X13_part hG) ?_)
        rintro _ _ ⟨rfl, rfl⟩
        change X _ _ _ _ _ _ _ (.int (f_X13_part (I (m + 46) (ix (jishr (I (m + 47) 32) (2 : Int32)))) (20 : Int32) (5 : Int32)) :: _)
        refine x_iload_n dX13_oneWord_409 rfl ?_
        obtain ⟨R15, g15, h⟩ := h
        refine x_callV hG (Ky := kX13_immediate) (As := [.int (f_X13_part (I (m + 46) (ix (jishr (I (m + 47) 32) (2 : Int32)))) (12 : Int32) (3 : Int32)), .int (f_X13_part (I (m + 46) (ix (jishr (I (m + 47) 32) (2 : Int32)))) (25 : Int32) (7 : Int32)), .int (f_X13_part (I (m + 46) (ix (jishr (I (m + 47) 32) (2 : Int32)))) (7 : Int32) (5 : Int32)), .int (I (m + 47) (ix (f_X13_part (I (m + 46) (ix (jishr (I (m + 47) 32) (2 : Int32)))) (15 : Int32) (5 : Int32)))), .int (jishr (I (m + 46) (ix (jishr (I (m + 47) 32) (2 : Int32)))) (20 : Int32)), .int (f_X13_part (I (m + 46) (ix (jishr (I (m + 47) 32) (2 : Int32)))) (20 : Int32) (5 : Int32)), .int (I (m + 47) 32)]) dX13_oneWord_410 (mo_t hM) rfl lk_X13_602 me_X13_immediate is_X13_immediate se_X13_immediate rfl rfl (Nat.le_of_ble_eq_true rfl) (MX.post (m_X13_immediate hG hM g15) ?_)
        rintro _ _ ⟨v15, I15, rfl, rfl, h1⟩
        replace h := h v15 I15 h1
        change X _ _ _ _ (A.wI I15) _ _ (.int v15 :: _)
        exact x_iret dX13_oneWord_413 rfl ⟨_, _, rfl, rfl, h⟩
      have kt5_8 : ((f_X13_part (I (m + 46) (ix (jishr (I (m + 47) 32) (2 : Int32)))) (0 : Int32) (7 : Int32)) = (51 : Int32)) → X G (dp + 3) kX13_oneWord (oI A Q) (A.wI I) 414 [some (.ref m), some (.int (I (m + 47) 32)), some (.int (I (m + 46) (ix (jishr (I (m + 47) 32) (2 : Int32))))), some (.int (f_X13_part (I (m + 46) (ix (jishr (I (m + 47) 32) (2 : Int32)))) (7 : Int32) (5 : Int32))), some (.int (f_X13_part (I (m + 46) (ix (jishr (I (m + 47) 32) (2 : Int32)))) (12 : Int32) (3 : Int32))), some (.int (f_X13_part (I (m + 46) (ix (jishr (I (m + 47) 32) (2 : Int32)))) (25 : Int32) (7 : Int32))), some (.int (I (m + 47) (ix (f_X13_part (I (m + 46) (ix (jishr (I (m + 47) 32) (2 : Int32)))) (15 : Int32) (5 : Int32))))), some (.int (I (m + 47) (ix (f_X13_part (I (m + 46) (ix (jishr (I (m + 47) 32) (2 : Int32)))) (20 : Int32) (5 : Int32))))), some (.int (jishr (I (m + 46) (ix (jishr (I (m + 47) 32) (2 : Int32)))) (20 : Int32)))] [] := by
        intro c100
        replace h := h.2.2.2.2.2.2.2.2.1 c100
        refine x_aload_n dX13_oneWord_414 rfl ?_
        refine x_iload dX13_oneWord_415 rfl ?_
        refine x_iload dX13_oneWord_417 rfl ?_
        refine x_iload_n dX13_oneWord_419 rfl ?_
        refine x_iload dX13_oneWord_420 rfl ?_
        refine x_iload dX13_oneWord_422 rfl ?_
        refine x_iload_n dX13_oneWord_424 rfl ?_
        obtain ⟨R16, g16, h⟩ := h
        refine x_callV hG (Ky := kX13_both) (As := [.int (f_X13_part (I (m + 46) (ix (jishr (I (m + 47) 32) (2 : Int32)))) (12 : Int32) (3 : Int32)), .int (f_X13_part (I (m + 46) (ix (jishr (I (m + 47) 32) (2 : Int32)))) (25 : Int32) (7 : Int32)), .int (f_X13_part (I (m + 46) (ix (jishr (I (m + 47) 32) (2 : Int32)))) (7 : Int32) (5 : Int32)), .int (I (m + 47) (ix (f_X13_part (I (m + 46) (ix (jishr (I (m + 47) 32) (2 : Int32)))) (15 : Int32) (5 : Int32)))), .int (I (m + 47) (ix (f_X13_part (I (m + 46) (ix (jishr (I (m + 47) 32) (2 : Int32)))) (20 : Int32) (5 : Int32)))), .int (I (m + 47) 32)]) dX13_oneWord_425 (mo_t hM) rfl lk_X13_606 me_X13_both is_X13_both se_X13_both rfl rfl (Nat.le_of_ble_eq_true rfl) (MX.post (m_X13_both hG hM g16) ?_)
        rintro _ _ ⟨v16, I16, rfl, rfl, h1⟩
        replace h := h v16 I16 h1
        change X _ _ _ _ (A.wI I16) _ _ (.int v16 :: _)
        exact x_iret dX13_oneWord_428 rfl ⟨_, _, rfl, rfl, h⟩
      have kt5_9 : ((f_X13_part (I (m + 46) (ix (jishr (I (m + 47) 32) (2 : Int32)))) (0 : Int32) (7 : Int32)) = (15 : Int32)) → X G (dp + 3) kX13_oneWord (oI A Q) (A.wI I) 429 [some (.ref m), some (.int (I (m + 47) 32)), some (.int (I (m + 46) (ix (jishr (I (m + 47) 32) (2 : Int32))))), some (.int (f_X13_part (I (m + 46) (ix (jishr (I (m + 47) 32) (2 : Int32)))) (7 : Int32) (5 : Int32))), some (.int (f_X13_part (I (m + 46) (ix (jishr (I (m + 47) 32) (2 : Int32)))) (12 : Int32) (3 : Int32))), some (.int (f_X13_part (I (m + 46) (ix (jishr (I (m + 47) 32) (2 : Int32)))) (25 : Int32) (7 : Int32))), some (.int (I (m + 47) (ix (f_X13_part (I (m + 46) (ix (jishr (I (m + 47) 32) (2 : Int32)))) (15 : Int32) (5 : Int32))))), some (.int (I (m + 47) (ix (f_X13_part (I (m + 46) (ix (jishr (I (m + 47) 32) (2 : Int32)))) (20 : Int32) (5 : Int32))))), some (.int (jishr (I (m + 46) (ix (jishr (I (m + 47) 32) (2 : Int32)))) (20 : Int32)))] [] := by
        intro c100
        replace h := h.2.2.2.2.2.2.2.2.2.1 c100
        refine x_iload dX13_oneWord_429 rfl ?_
        refine x_if_ne (tgt := 444) dX13_oneWord_431 (by decide) (fun c431 => ?_) (fun c431 => ?_)
        · replace h := h.2 c431
          refine x_iconst_ (v := (2 : Int32)) dX13_oneWord_444 (by decide) ?_
          exact x_iret dX13_oneWord_445 rfl ⟨_, _, rfl, rfl, h⟩
        · replace h := h.1 c431
          refine x_aload_n dX13_oneWord_434 rfl ?_
          refine x_iload_n dX13_oneWord_435 rfl ?_
          refine x_iconst_ (v := (4 : Int32)) dX13_oneWord_436 (by decide) ?_
          refine x_iadd dX13_oneWord_437 ?_
          obtain ⟨R17, g17, h⟩ := h
          refine x_callV hG (Ky := kX13_goesOn) (As := [.int ((I (m + 47) 32) + (4 : Int32))]) dX13_oneWord_438 (mo_t hM) rfl lk_X13_585 me_X13_goesOn is_X13_goesOn se_X13_goesOn rfl rfl (Nat.le_of_ble_eq_true rfl) (MX.post (m_X13_goesOn hG hM g17) ?_)
          rintro _ _ ⟨v17, I17, rfl, rfl, h1⟩
          replace h := h v17 I17 h1
          change X _ _ _ _ (A.wI I17) _ _ (.int v17 :: _)
          refine x_goto (tgt := 445) dX13_oneWord_441 (by decide) ?_
          exact x_iret dX13_oneWord_445 rfl ⟨_, _, rfl, rfl, h⟩
      have kd5 : (¬ (f_X13_part (I (m + 46) (ix (jishr (I (m + 47) 32) (2 : Int32)))) (0 : Int32) (7 : Int32)) = (55 : Int32) ∧ ¬ (f_X13_part (I (m + 46) (ix (jishr (I (m + 47) 32) (2 : Int32)))) (0 : Int32) (7 : Int32)) = (23 : Int32) ∧ ¬ (f_X13_part (I (m + 46) (ix (jishr (I (m + 47) 32) (2 : Int32)))) (0 : Int32) (7 : Int32)) = (111 : Int32) ∧ ¬ (f_X13_part (I (m + 46) (ix (jishr (I (m + 47) 32) (2 : Int32)))) (0 : Int32) (7 : Int32)) = (103 : Int32) ∧ ¬ (f_X13_part (I (m + 46) (ix (jishr (I (m + 47) 32) (2 : Int32)))) (0 : Int32) (7 : Int32)) = (99 : Int32) ∧ ¬ (f_X13_part (I (m + 46) (ix (jishr (I (m + 47) 32) (2 : Int32)))) (0 : Int32) (7 : Int32)) = (3 : Int32) ∧ ¬ (f_X13_part (I (m + 46) (ix (jishr (I (m + 47) 32) (2 : Int32)))) (0 : Int32) (7 : Int32)) = (35 : Int32) ∧ ¬ (f_X13_part (I (m + 46) (ix (jishr (I (m + 47) 32) (2 : Int32)))) (0 : Int32) (7 : Int32)) = (19 : Int32) ∧ ¬ (f_X13_part (I (m + 46) (ix (jishr (I (m + 47) 32) (2 : Int32)))) (0 : Int32) (7 : Int32)) = (51 : Int32) ∧ ¬ (f_X13_part (I (m + 46) (ix (jishr (I (m + 47) 32) (2 : Int32)))) (0 : Int32) (7 : Int32)) = (15 : Int32)) → X G (dp + 3) kX13_oneWord (oI A Q) (A.wI I) 446 [some (.ref m), some (.int (I (m + 47) 32)), some (.int (I (m + 46) (ix (jishr (I (m + 47) 32) (2 : Int32))))), some (.int (f_X13_part (I (m + 46) (ix (jishr (I (m + 47) 32) (2 : Int32)))) (7 : Int32) (5 : Int32))), some (.int (f_X13_part (I (m + 46) (ix (jishr (I (m + 47) 32) (2 : Int32)))) (12 : Int32) (3 : Int32))), some (.int (f_X13_part (I (m + 46) (ix (jishr (I (m + 47) 32) (2 : Int32)))) (25 : Int32) (7 : Int32))), some (.int (I (m + 47) (ix (f_X13_part (I (m + 46) (ix (jishr (I (m + 47) 32) (2 : Int32)))) (15 : Int32) (5 : Int32))))), some (.int (I (m + 47) (ix (f_X13_part (I (m + 46) (ix (jishr (I (m + 47) 32) (2 : Int32)))) (20 : Int32) (5 : Int32))))), some (.int (jishr (I (m + 46) (ix (jishr (I (m + 47) 32) (2 : Int32)))) (20 : Int32)))] [] := by
        intro c100
        replace h := h.2.2.2.2.2.2.2.2.2.2 c100
        refine x_iload_n dX13_oneWord_446 rfl ?_
        refine x_bipush_ (v := (115 : Int32)) dX13_oneWord_447 (by decide) ?_
        refine x_icmp_eq (tgt := 461) dX13_oneWord_449 (by decide) (fun c449 => ?_) (fun c449 => ?_)
        · replace h := h.1 c449
          refine x_aload_n dX13_oneWord_461 rfl ?_
          refine x_iload_n dX13_oneWord_462 rfl ?_
          refine x_iconst_ (v := (4 : Int32)) dX13_oneWord_463 (by decide) ?_
          refine x_iadd dX13_oneWord_464 ?_
          obtain ⟨R18, g18, h⟩ := h
          refine x_callV hG (Ky := kX13_goesOn) (As := [.int ((I (m + 47) 32) + (4 : Int32))]) dX13_oneWord_465 (mo_t hM) rfl lk_X13_585 me_X13_goesOn is_X13_goesOn se_X13_goesOn rfl rfl (Nat.le_of_ble_eq_true rfl) (MX.post (m_X13_goesOn hG hM g18) ?_)
          rintro _ _ ⟨v18, I18, rfl, rfl, h1⟩
          replace h := h v18 I18 h1
          change X _ _ _ _ (A.wI I18) _ _ (.int v18 :: _)
          refine x_iload_n dX13_oneWord_468 rfl ?_
          refine x_bipush_ (v := (115 : Int32)) dX13_oneWord_469 (by decide) ?_
          refine x_icmp_ne (tgt := 479) dX13_oneWord_471 (by decide) (fun h => absurd c449 h) (fun _ => ?_)
          refine x_bipush_ (v := (6 : Int32)) dX13_oneWord_474 (by decide) ?_
          refine x_goto (tgt := 481) dX13_oneWord_476 (by decide) ?_
          refine x_iadd dX13_oneWord_481 ?_
          exact x_iret dX13_oneWord_482 rfl ⟨_, _, rfl, rfl, h⟩
        · replace h := h.2 c449
          refine x_iload_n dX13_oneWord_452 rfl ?_
          refine x_ldcw hG dX13_oneWord_453 q3701 ?_
          refine x_icmp_eq (tgt := 461) dX13_oneWord_456 (by decide) (fun c456 => ?_) (fun c456 => ?_)
          · replace h := h.1 c456
            refine x_aload_n dX13_oneWord_461 rfl ?_
            refine x_iload_n dX13_oneWord_462 rfl ?_
            refine x_iconst_ (v := (4 : Int32)) dX13_oneWord_463 (by decide) ?_
            refine x_iadd dX13_oneWord_464 ?_
            obtain ⟨R19, g19, h⟩ := h
            refine x_callV hG (Ky := kX13_goesOn) (As := [.int ((I (m + 47) 32) + (4 : Int32))]) dX13_oneWord_465 (mo_t hM) rfl lk_X13_585 me_X13_goesOn is_X13_goesOn se_X13_goesOn rfl rfl (Nat.le_of_ble_eq_true rfl) (MX.post (m_X13_goesOn hG hM g19) ?_)
            rintro _ _ ⟨v19, I19, rfl, rfl, h1⟩
            replace h := h v19 I19 h1
            change X _ _ _ _ (A.wI I19) _ _ (.int v19 :: _)
            refine x_iload_n dX13_oneWord_468 rfl ?_
            refine x_bipush_ (v := (115 : Int32)) dX13_oneWord_469 (by decide) ?_
            refine x_icmp_ne (tgt := 479) dX13_oneWord_471 (by decide) (fun _ => ?_) (fun h => absurd h c449)
            refine x_bipush_ (v := (7 : Int32)) dX13_oneWord_479 (by decide) ?_
            refine x_iadd dX13_oneWord_481 ?_
            exact x_iret dX13_oneWord_482 rfl ⟨_, _, rfl, rfl, h⟩
          · replace h := h.2 c456
            refine x_iconst_ (v := (2 : Int32)) dX13_oneWord_459 (by decide) ?_
            exact x_iret dX13_oneWord_460 rfl ⟨_, _, rfl, rfl, h⟩
      refine x_sw (3 : Int32) (fun s100_0 => ?_) (fun s100_0 => ?_)
      · refine x_lookup (off := 257) (tgt := 357) dX13_oneWord_100 (by decide) (by rw [s100_0]; rfl) (by decide) ?_
        exact kt5_5 s100_0
      refine x_sw (15 : Int32) (fun s100_1 => ?_) (fun s100_1 => ?_)
      · refine x_lookup (off := 329) (tgt := 429) dX13_oneWord_100 (by decide) (by rw [s100_1]; rfl) (by decide) ?_
        exact kt5_9 s100_1
      refine x_sw (19 : Int32) (fun s100_2 => ?_) (fun s100_2 => ?_)
      · refine x_lookup (off := 292) (tgt := 392) dX13_oneWord_100 (by decide) (by rw [s100_2]; rfl) (by decide) ?_
        exact kt5_7 s100_2
      refine x_sw (23 : Int32) (fun s100_3 => ?_) (fun s100_3 => ?_)
      · refine x_lookup (off := 110) (tgt := 210) dX13_oneWord_100 (by decide) (by rw [s100_3]; rfl) (by decide) ?_
        exact kt5_1 s100_3
      refine x_sw (35 : Int32) (fun s100_4 => ?_) (fun s100_4 => ?_)
      · refine x_lookup (off := 271) (tgt := 371) dX13_oneWord_100 (by decide) (by rw [s100_4]; rfl) (by decide) ?_
        exact kt5_6 s100_4
      refine x_sw (51 : Int32) (fun s100_5 => ?_) (fun s100_5 => ?_)
      · refine x_lookup (off := 314) (tgt := 414) dX13_oneWord_100 (by decide) (by rw [s100_5]; rfl) (by decide) ?_
        exact kt5_8 s100_5
      refine x_sw (55 : Int32) (fun s100_6 => ?_) (fun s100_6 => ?_)
      · refine x_lookup (off := 92) (tgt := 192) dX13_oneWord_100 (by decide) (by rw [s100_6]; rfl) (by decide) ?_
        exact kt5_0 s100_6
      refine x_sw (99 : Int32) (fun s100_7 => ?_) (fun s100_7 => ?_)
      · refine x_lookup (off := 204) (tgt := 304) dX13_oneWord_100 (by decide) (by rw [s100_7]; rfl) (by decide) ?_
        exact kt5_4 s100_7
      refine x_sw (103 : Int32) (fun s100_8 => ?_) (fun s100_8 => ?_)
      · refine x_lookup (off := 180) (tgt := 280) dX13_oneWord_100 (by decide) (by rw [s100_8]; rfl) (by decide) ?_
        exact kt5_3 s100_8
      refine x_sw (111 : Int32) (fun s100_9 => ?_) (fun s100_9 => ?_)
      · refine x_lookup (off := 130) (tgt := 230) dX13_oneWord_100 (by decide) (by rw [s100_9]; rfl) (by decide) ?_
        exact kt5_2 s100_9
      refine x_lookup (off := 346) (tgt := 446) dX13_oneWord_100 (by decide) (by show Op.lookupswitch.offset [(3, 257), (15, 329), (19, 292), (23, 110), (35, 271), (51, 314), (55, 92), (99, 204), (103, 180), (111, 130)] _ _ = _; rw [lv_osw s100_0 (by decide), lv_osw s100_1 (by decide), lv_osw s100_2 (by decide), lv_osw s100_3 (by decide), lv_osw s100_4 (by decide), lv_osw s100_5 (by decide), lv_osw s100_6 (by decide), lv_osw s100_7 (by decide), lv_osw s100_8 (by decide), lv_osw s100_9 (by decide)]; rfl) (by decide) ?_
      exact kd5 ⟨s100_6, s100_3, s100_9, s100_8, s100_7, s100_0, s100_4, s100_2, s100_5, s100_1⟩
    · replace h := h.2 c18
      refine x_iconst_ (v := (1 : Int32)) dX13_oneWord_21 (by decide) ?_
      exact x_iret dX13_oneWord_22 rfl ⟨_, _, rfl, rfl, h⟩
def w_X13_go (m : Nat) (n : Int32) (Q : Int32 → xII → Prop) (I : xII) : Prop := ((n < (1 : Int32) → Q (-1 : Int32) I) ∧ (¬ n < (1 : Int32) → ((n ≤ (1000 : Int32) → ∃ L1 : Nat → Int32 → Int32 → xII → Prop, (∃ n1 : Nat, L1 n1 (0 : Int32) (0 : Int32) I) ∧ (∀ (n1 : Nat) (y1_2 : Int32) (y1_3 : Int32) (I1 : xII), L1 n1 y1_2 y1_3 I1 → ((n ≤ y1_3 → Q y1_2 I1) ∧ (¬ n ≤ y1_3 → ((y1_2 = 0 → ∃ R2 : Int32 → xII → Prop, w_X13_oneWord m R2 I1 ∧ (∀ (v2 : Int32) (I2 : xII), R2 v2 I2 → ((∃ q1 : Nat, q1 < n1 ∧ L1 q1 v2 (y1_3 + (1 : Int32)) I2)))) ∧ (¬ y1_2 = 0 → Q y1_2 I1)))))) ∧ (¬ n ≤ (1000 : Int32) → Q (-1 : Int32) I))))
theorem m_X13_go (hG : xOK G) {dp : Nat} {A : xA} {m : Nat} (hM : xMo G A m) {n : Int32} {Q : Int32 → xII → Prop} {I : xII} (h : w_X13_go m n Q I) : MX G (dp + 4) kX13_go [.ref m, .int n] (A.wI I) (oI A Q) := by
  unfold w_X13_go at h
  refine MX.of rfl (Nat.le_of_ble_eq_true rfl) ?_
  change X _ _ _ _ _ _ [some (.ref m), some (.int n), none, none] _
  refine x_iload_n dX13_go_0 rfl ?_
  refine x_iconst_ (v := (1 : Int32)) dX13_go_1 (by decide) ?_
  refine x_icmp_lt (tgt := 12) dX13_go_2 (by decide) (fun c2 => ?_) (fun c2 => ?_)
  · replace h := h.1 c2
    refine x_iconst_ (v := (-1 : Int32)) dX13_go_12 (by decide) ?_
    exact x_iret dX13_go_13 rfl ⟨_, _, rfl, rfl, h⟩
  · replace h := h.2 c2
    refine x_iload_n dX13_go_5 rfl ?_
    refine x_sipush_ (v := (1000 : Int32)) dX13_go_6 (by decide) ?_
    refine x_icmp_le (tgt := 14) dX13_go_9 (by decide) (fun c9 => ?_) (fun c9 => ?_)
    · replace h := h.1 c9
      refine x_iconst_ (v := (0 : Int32)) dX13_go_14 (by decide) ?_
      refine x_istore_n dX13_go_15 (by decide) ?_
      refine x_iconst_ (v := (0 : Int32)) dX13_go_16 (by decide) ?_
      refine x_istore_n dX13_go_17 (by decide) ?_
      obtain ⟨L1, ⟨n1, i1⟩, g1⟩ := h
      have kl1 : ∀ n1 : Nat, ∀ (y1_2 : Int32) (y1_3 : Int32) (I1 : xII), L1 n1 y1_2 y1_3 I1 → X G (dp + 4) kX13_go (oI A Q) (A.wI I1) 18 [some (.ref m), some (.int n), some (.int y1_2), some (.int y1_3)] [] := by
        intro n1
        induction n1 using Nat.strongRecOn with
        | ind n1 ih1 =>
          intro y1_2 y1_3 I1 h
          replace h := g1 n1 y1_2 y1_3 I1 h
          refine x_iload_n dX13_go_18 rfl ?_
          refine x_iload_n dX13_go_19 rfl ?_
          refine x_icmp_ge (tgt := 38) dX13_go_20 (by decide) (fun c20 => ?_) (fun c20 => ?_)
          · replace h := h.1 c20
            refine x_iload_n dX13_go_38 rfl ?_
            exact x_iret dX13_go_39 rfl ⟨_, _, rfl, rfl, h⟩
          · replace h := h.2 c20
            refine x_iload_n dX13_go_23 rfl ?_
            refine x_if_ne (tgt := 38) dX13_go_24 (by decide) (fun c24 => ?_) (fun c24 => ?_)
            · replace h := h.2 c24
              refine x_iload_n dX13_go_38 rfl ?_
              exact x_iret dX13_go_39 rfl ⟨_, _, rfl, rfl, h⟩
            · replace h := h.1 c24
              refine x_aload_n dX13_go_27 rfl ?_
              obtain ⟨R2, g2, h⟩ := h
              refine x_callV hG (Ky := kX13_oneWord) (As := []) dX13_go_28 (mo_t hM) rfl lk_X13_573 me_X13_oneWord is_X13_oneWord se_X13_oneWord rfl rfl (Nat.le_of_ble_eq_true rfl) (MX.post (m_X13_oneWord hG hM g2) ?_)
              rintro _ _ ⟨v2, I2, rfl, rfl, h1⟩
              replace h := h v2 I2 h1
              change X _ _ _ _ (A.wI I2) _ _ (.int v2 :: _)
              refine x_istore_n dX13_go_31 (by decide) ?_
              refine x_iinc (v := (y1_3 + (1 : Int32))) dX13_go_32 rfl rfl (by decide) ?_
              refine x_goto (tgt := 18) dX13_go_35 (by decide) ?_
              obtain ⟨q1, l1, h⟩ := h
              change X _ _ _ _ _ _ [some (.ref m), some (.int n), some (.int v2), some (.int (y1_3 + (1 : Int32)))] []
              exact X.weak (xle_c rfl (xle_c rfl (xle_c rfl (xle_c rfl xle_nil)))) (ih1 q1 l1 v2 (y1_3 + (1 : Int32)) I2 h)
      change X _ _ _ _ _ _ [some (.ref m), some (.int n), some (.int (0 : Int32)), some (.int (0 : Int32))] []
      exact X.weak (xle_c rfl (xle_c rfl (xle_c rfl (xle_c rfl xle_nil)))) (kl1 n1 (0 : Int32) (0 : Int32) I i1)
    · replace h := h.2 c9
      refine x_iconst_ (v := (-1 : Int32)) dX13_go_12 (by decide) ?_
      exact x_iret dX13_go_13 rfl ⟨_, _, rfl, rfl, h⟩
end W032
