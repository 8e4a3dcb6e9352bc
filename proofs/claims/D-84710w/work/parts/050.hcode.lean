/-! ===== 050.hcode (tools/h045.py) ===== -/
set_option maxRecDepth 100000
section W050
variable {G : xG}
def w_X37_init (G : xG) (p : Nat) (t : Int32) (d : Int32) (a : Int64) (b : Int64) (Q : xA → Prop) (A : xA) : Prop := xok G A → A.tg p = 36 ∧ (∀ A2 : xA, A2 = A.setI p 0 t → (∀ A3 : xA, A3 = A2.setI p 1 d → (∀ A4 : xA, A4 = A3.setL p 2 a → (∀ A5 : xA, A5 = A4.setL p 3 b → (Q A5)))))
theorem m_X37_init (hG : xOK G) (hO : xHO G) {dp : Nat} {p : Nat} {t : Int32} {d : Int32} {a : Int64} {b : Int64} {Q : xA → Prop} {A : xA} (h : w_X37_init G p t d a b Q A) : MX G (dp + 1) kX37_init [.ref p, .int t, .int d, .long a, .long b] A (hV Q) := by
  unfold w_X37_init at h
  refine MX.of rfl (Nat.le_of_ble_eq_true rfl) ?_
  change X _ _ _ _ _ _ [some (.ref p), some (.int t), some (.int d), some (.long a), none, some (.long b), none] _
  refine X.xok (fun w0 => ?_)
  replace h := h w0
  refine x_aload_n dX37_init_0 rfl ?_
  refine x_objInit hG dX37_init_1 q1909 q261 q262 (Nat.le_of_ble_eq_true rfl) ?_
  refine x_aload_n dX37_init_4 rfl ?_
  refine x_iload_n dX37_init_5 rfl ?_
  obtain ⟨o1, h⟩ := h
  refine z_putI hG hO.1 dX37_init_6 f_X37_9_35 ⟨_, rfl, Or.inl rfl⟩ o1 (by decide) rfl rfl ⟨_, rfl⟩ (fun A2 e2 => ?_)
  replace h := h A2 e2
  refine x_aload_n dX37_init_9 rfl ?_
  refine x_iload_n dX37_init_10 rfl ?_
  refine z_putI hG hO.1 dX37_init_11 f_X37_15_35 ⟨_, rfl, Or.inl rfl⟩ (kI e2 o1) (by decide) rfl rfl ⟨_, rfl⟩ (fun A3 e3 => ?_)
  replace h := h A3 e3
  refine x_aload_n dX37_init_14 rfl ?_
  refine x_lload_n dX37_init_15 rfl ?_
  refine z_putL hG hO.1 dX37_init_16 f_X37_18_35 ⟨_, rfl, Or.inl rfl⟩ (kI e3 (kI e2 o1)) (by decide) rfl rfl ⟨_, rfl⟩ (fun A4 e4 => ?_)
  replace h := h A4 e4
  refine x_aload_n dX37_init_19 rfl ?_
  refine x_lload dX37_init_20 rfl ?_
  refine z_putL hG hO.1 dX37_init_22 f_X37_22_35 ⟨_, rfl, Or.inl rfl⟩ (kL e4 (kI e3 (kI e2 o1))) (by decide) rfl rfl ⟨_, rfl⟩ (fun A5 e5 => ?_)
  replace h := h A5 e5
  exact x_vret dX37_init_25 rfl ⟨rfl, h⟩
def w_X37_isPure (G : xG) (p : Nat) (Q : Int32 → xA → Prop) (A : xA) : Prop := xok G A → A.tg p = 36 ∧ (Q (if (A.I p 0) ≤ (16 : Int32) then (1 : Int32) else (if (A.I p 0) = (20 : Int32) then (1 : Int32) else (if (A.I p 0) = (21 : Int32) then (1 : Int32) else (if (A.I p 0) = (22 : Int32) then (1 : Int32) else (if (A.I p 0) = (32 : Int32) then (1 : Int32) else (0 : Int32)))))) A)
theorem m_X37_isPure (hG : xOK G) (hO : xHO G) {dp : Nat} {p : Nat} {Q : Int32 → xA → Prop} {A : xA} (h : w_X37_isPure G p Q A) : MX G (dp + 0) kX37_isPure [.ref p] A (hZ Q) := by
  unfold w_X37_isPure at h
  refine MX.of rfl (Nat.le_of_ble_eq_true rfl) ?_
  change X _ _ _ _ _ _ [some (.ref p)] _
  refine X.xok (fun w0 => ?_)
  replace h := h w0
  refine x_aload_n dX37_isPure_0 rfl ?_
  obtain ⟨o1, h⟩ := h
  refine x_get (v := .int (A.I p 0)) hG dX37_isPure_1 f_X37_9_35 o1 rfl ?_
  refine x_bipush_ (v := (16 : Int32)) dX37_isPure_4 (by decide) ?_
  refine x_via 50 (A' := A) (lv' := [none]) (st' := [.int (if (A.I p 0) ≤ (16 : Int32) then (1 : Int32) else (if (A.I p 0) = (20 : Int32) then (1 : Int32) else (if (A.I p 0) = (21 : Int32) then (1 : Int32) else (if (A.I p 0) = (22 : Int32) then (1 : Int32) else (if (A.I p 0) = (32 : Int32) then (1 : Int32) else (0 : Int32))))))]) ?_ (fun k50 => ?_)
  rotate_left
  · refine x_icmp_le (tgt := 45) dX37_isPure_6 (by decide) (fun c6 => ?_) (fun c6 => ?_)
    · refine x_iconst_ (v := (1 : Int32)) dX37_isPure_45 (by decide) ?_
      refine x_goto (tgt := 50) dX37_isPure_46 (by decide) ?_
      change X _ _ _ _ _ _ [some (.ref p)] [.int (1 : Int32)]
      simp only [if_pos c6] at k50 ⊢
      exact X.weak (xle_n xle_nil) k50
    · refine x_aload_n dX37_isPure_9 rfl ?_
      refine x_get (v := .int (A.I p 0)) hG dX37_isPure_10 f_X37_9_35 o1 rfl ?_
      refine x_bipush_ (v := (20 : Int32)) dX37_isPure_13 (by decide) ?_
      refine x_icmp_eq (tgt := 45) dX37_isPure_15 (by decide) (fun c15 => ?_) (fun c15 => ?_)
      · refine x_iconst_ (v := (1 : Int32)) dX37_isPure_45 (by decide) ?_
        refine x_goto (tgt := 50) dX37_isPure_46 (by decide) ?_
        change X _ _ _ _ _ _ [some (.ref p)] [.int (1 : Int32)]
        try simp only [if_neg c6] at c15 k50 ⊢
        try simp only [if_pos c15] at k50 ⊢
        exact X.weak (xle_n xle_nil) k50
      · refine x_aload_n dX37_isPure_18 rfl ?_
        refine x_get (v := .int (A.I p 0)) hG dX37_isPure_19 f_X37_9_35 o1 rfl ?_
        refine x_bipush_ (v := (21 : Int32)) dX37_isPure_22 (by decide) ?_
        refine x_icmp_eq (tgt := 45) dX37_isPure_24 (by decide) (fun c24 => ?_) (fun c24 => ?_)
        · refine x_iconst_ (v := (1 : Int32)) dX37_isPure_45 (by decide) ?_
          refine x_goto (tgt := 50) dX37_isPure_46 (by decide) ?_
          change X _ _ _ _ _ _ [some (.ref p)] [.int (1 : Int32)]
          try simp only [if_neg c6] at c15 c24 k50 ⊢
          try simp only [if_neg c15] at c24 k50 ⊢
          try simp only [if_pos c24] at k50 ⊢
          exact X.weak (xle_n xle_nil) k50
        · refine x_aload_n dX37_isPure_27 rfl ?_
          refine x_get (v := .int (A.I p 0)) hG dX37_isPure_28 f_X37_9_35 o1 rfl ?_
          refine x_bipush_ (v := (22 : Int32)) dX37_isPure_31 (by decide) ?_
          refine x_icmp_eq (tgt := 45) dX37_isPure_33 (by decide) (fun c33 => ?_) (fun c33 => ?_)
          · refine x_iconst_ (v := (1 : Int32)) dX37_isPure_45 (by decide) ?_
            refine x_goto (tgt := 50) dX37_isPure_46 (by decide) ?_
            change X _ _ _ _ _ _ [some (.ref p)] [.int (1 : Int32)]
            try simp only [if_neg c6] at c15 c24 c33 k50 ⊢
            try simp only [if_neg c15] at c24 c33 k50 ⊢
            try simp only [if_neg c24] at c33 k50 ⊢
            try simp only [if_pos c33] at k50 ⊢
            exact X.weak (xle_n xle_nil) k50
          · refine x_aload_n dX37_isPure_36 rfl ?_
            refine x_get (v := .int (A.I p 0)) hG dX37_isPure_37 f_X37_9_35 o1 rfl ?_
            refine x_bipush_ (v := (32 : Int32)) dX37_isPure_40 (by decide) ?_
            refine x_icmp_ne (tgt := 49) dX37_isPure_42 (by decide) (fun c42 => ?_) (fun c42 => ?_)
            · refine x_iconst_ (v := (0 : Int32)) dX37_isPure_49 (by decide) ?_
              change X _ _ _ _ _ _ [some (.ref p)] [.int (0 : Int32)]
              try simp only [if_neg c6] at c15 c24 c33 c42 k50 ⊢
              try simp only [if_neg c15] at c24 c33 c42 k50 ⊢
              try simp only [if_neg c24] at c33 c42 k50 ⊢
              try simp only [if_neg c33] at c42 k50 ⊢
              try simp only [if_neg c42] at k50 ⊢
              exact X.weak (xle_n xle_nil) k50
            · refine x_iconst_ (v := (1 : Int32)) dX37_isPure_45 (by decide) ?_
              refine x_goto (tgt := 50) dX37_isPure_46 (by decide) ?_
              change X _ _ _ _ _ _ [some (.ref p)] [.int (1 : Int32)]
              try simp only [if_neg c6] at c15 c24 c33 c42 k50 ⊢
              try simp only [if_neg c15] at c24 c33 c42 k50 ⊢
              try simp only [if_neg c24] at c33 c42 k50 ⊢
              try simp only [if_neg c33] at c42 k50 ⊢
              try simp only [if_pos c42] at k50 ⊢
              exact X.weak (xle_n xle_nil) k50
  exact x_zret dX37_isPure_50 rfl (by (repeat' split) <;> decide) ⟨_, rfl, (by (repeat' split) <;> decide), h⟩
def w_X37_isLoad (G : xG) (p : Nat) (Q : Int32 → xA → Prop) (A : xA) : Prop := xok G A → A.tg p = 36 ∧ (Q (if (A.I p 0) = (21 : Int32) then (1 : Int32) else (if (A.I p 0) = (22 : Int32) then (1 : Int32) else (0 : Int32))) A)
theorem m_X37_isLoad (hG : xOK G) (hO : xHO G) {dp : Nat} {p : Nat} {Q : Int32 → xA → Prop} {A : xA} (h : w_X37_isLoad G p Q A) : MX G (dp + 0) kX37_isLoad [.ref p] A (hZ Q) := by
  unfold w_X37_isLoad at h
  refine MX.of rfl (Nat.le_of_ble_eq_true rfl) ?_
  change X _ _ _ _ _ _ [some (.ref p)] _
  refine X.xok (fun w0 => ?_)
  replace h := h w0
  refine x_aload_n dX37_isLoad_0 rfl ?_
  obtain ⟨o1, h⟩ := h
  refine x_get (v := .int (A.I p 0)) hG dX37_isLoad_1 f_X37_9_35 o1 rfl ?_
  refine x_bipush_ (v := (21 : Int32)) dX37_isLoad_4 (by decide) ?_
  refine x_via 23 (A' := A) (lv' := [none]) (st' := [.int (if (A.I p 0) = (21 : Int32) then (1 : Int32) else (if (A.I p 0) = (22 : Int32) then (1 : Int32) else (0 : Int32)))]) ?_ (fun k23 => ?_)
  rotate_left
  · refine x_icmp_eq (tgt := 18) dX37_isLoad_6 (by decide) (fun c6 => ?_) (fun c6 => ?_)
    · refine x_iconst_ (v := (1 : Int32)) dX37_isLoad_18 (by decide) ?_
      refine x_goto (tgt := 23) dX37_isLoad_19 (by decide) ?_
      change X _ _ _ _ _ _ [some (.ref p)] [.int (1 : Int32)]
      simp only [if_pos c6] at k23 ⊢
      exact X.weak (xle_n xle_nil) k23
    · refine x_aload_n dX37_isLoad_9 rfl ?_
      refine x_get (v := .int (A.I p 0)) hG dX37_isLoad_10 f_X37_9_35 o1 rfl ?_
      refine x_bipush_ (v := (22 : Int32)) dX37_isLoad_13 (by decide) ?_
      refine x_icmp_ne (tgt := 22) dX37_isLoad_15 (by decide) (fun c15 => ?_) (fun c15 => ?_)
      · refine x_iconst_ (v := (0 : Int32)) dX37_isLoad_22 (by decide) ?_
        change X _ _ _ _ _ _ [some (.ref p)] [.int (0 : Int32)]
        try simp only [if_neg c6] at c15 k23 ⊢
        try simp only [if_neg c15] at k23 ⊢
        exact X.weak (xle_n xle_nil) k23
      · refine x_iconst_ (v := (1 : Int32)) dX37_isLoad_18 (by decide) ?_
        refine x_goto (tgt := 23) dX37_isLoad_19 (by decide) ?_
        change X _ _ _ _ _ _ [some (.ref p)] [.int (1 : Int32)]
        try simp only [if_neg c6] at c15 k23 ⊢
        try simp only [if_pos c15] at k23 ⊢
        exact X.weak (xle_n xle_nil) k23
  exact x_zret dX37_isLoad_23 rfl (by (repeat' split) <;> decide) ⟨_, rfl, (by (repeat' split) <;> decide), h⟩
def w_X37_isStore (G : xG) (p : Nat) (Q : Int32 → xA → Prop) (A : xA) : Prop := xok G A → A.tg p = 36 ∧ (Q (if (A.I p 0) = (23 : Int32) then (1 : Int32) else (if (A.I p 0) = (24 : Int32) then (1 : Int32) else (0 : Int32))) A)
theorem m_X37_isStore (hG : xOK G) (hO : xHO G) {dp : Nat} {p : Nat} {Q : Int32 → xA → Prop} {A : xA} (h : w_X37_isStore G p Q A) : MX G (dp + 0) kX37_isStore [.ref p] A (hZ Q) := by
  unfold w_X37_isStore at h
  refine MX.of rfl (Nat.le_of_ble_eq_true rfl) ?_
  change X _ _ _ _ _ _ [some (.ref p)] _
  refine X.xok (fun w0 => ?_)
  replace h := h w0
  refine x_aload_n dX37_isStore_0 rfl ?_
  obtain ⟨o1, h⟩ := h
  refine x_get (v := .int (A.I p 0)) hG dX37_isStore_1 f_X37_9_35 o1 rfl ?_
  refine x_bipush_ (v := (23 : Int32)) dX37_isStore_4 (by decide) ?_
  refine x_via 23 (A' := A) (lv' := [none]) (st' := [.int (if (A.I p 0) = (23 : Int32) then (1 : Int32) else (if (A.I p 0) = (24 : Int32) then (1 : Int32) else (0 : Int32)))]) ?_ (fun k23 => ?_)
  rotate_left
  · refine x_icmp_eq (tgt := 18) dX37_isStore_6 (by decide) (fun c6 => ?_) (fun c6 => ?_)
    · refine x_iconst_ (v := (1 : Int32)) dX37_isStore_18 (by decide) ?_
      refine x_goto (tgt := 23) dX37_isStore_19 (by decide) ?_
      change X _ _ _ _ _ _ [some (.ref p)] [.int (1 : Int32)]
      simp only [if_pos c6] at k23 ⊢
      exact X.weak (xle_n xle_nil) k23
    · refine x_aload_n dX37_isStore_9 rfl ?_
      refine x_get (v := .int (A.I p 0)) hG dX37_isStore_10 f_X37_9_35 o1 rfl ?_
      refine x_bipush_ (v := (24 : Int32)) dX37_isStore_13 (by decide) ?_
      refine x_icmp_ne (tgt := 22) dX37_isStore_15 (by decide) (fun c15 => ?_) (fun c15 => ?_)
      · refine x_iconst_ (v := (0 : Int32)) dX37_isStore_22 (by decide) ?_
        change X _ _ _ _ _ _ [some (.ref p)] [.int (0 : Int32)]
        try simp only [if_neg c6] at c15 k23 ⊢
        try simp only [if_neg c15] at k23 ⊢
        exact X.weak (xle_n xle_nil) k23
      · refine x_iconst_ (v := (1 : Int32)) dX37_isStore_18 (by decide) ?_
        refine x_goto (tgt := 23) dX37_isStore_19 (by decide) ?_
        change X _ _ _ _ _ _ [some (.ref p)] [.int (1 : Int32)]
        try simp only [if_neg c6] at c15 k23 ⊢
        try simp only [if_pos c15] at k23 ⊢
        exact X.weak (xle_n xle_nil) k23
  exact x_zret dX37_isStore_23 rfl (by (repeat' split) <;> decide) ⟨_, rfl, (by (repeat' split) <;> decide), h⟩
def w_X36_init (G : xG) (p : Nat) (Q : xA → Prop) (A : xA) : Prop := xok G A → rmO G A 3 ∧ (∀ A2 : xA, A2 = A.new 37 0 3 0 → (∃ R3 : xA → Prop, w_J5_init_2 G A.n (2 : Int32) R3 A2 ∧ (∀ A3 : xA, xok G A3 → R3 A3 → (A3.tg p = 35 ∧ (∀ A5 : xA, A5 = A3.setP p 0 (some A.n) → (Q A5))))))
theorem m_X36_init (hG : xOK G) (hO : xHO G) {dp : Nat} {p : Nat} {Q : xA → Prop} {A : xA} (h : w_X36_init G p Q A) : MX G (dp + 4) kX36_init [.ref p] A (hV Q) := by
  unfold w_X36_init at h
  refine MX.of rfl (Nat.le_of_ble_eq_true rfl) ?_
  change X _ _ _ _ _ _ [some (.ref p)] _
  refine X.xok (fun w0 => ?_)
  replace h := h w0
  refine x_aload_n dX36_init_0 rfl ?_
  refine x_objInit hG dX36_init_1 q1789 q261 q262 (Nat.le_of_ble_eq_true rfl) ?_
  refine x_aload_n dX36_init_4 rfl ?_
  obtain ⟨o1, h⟩ := h
  refine z_new hG (c := 36) dX36_init_5 rfl q1790 (by decide) rfl o1 (fun A2 e2 w2 => ?_)
  replace h := h A2 e2
  refine x_dup dX36_init_8 rfl ?_
  refine x_iconst_ (v := (2 : Int32)) dX36_init_9 (by decide) ?_
  obtain ⟨R3, g3, h⟩ := h
  refine x_callI hG (Ky := kJ5_init_2) (As := [.int (2 : Int32)]) dX36_init_10 lk_X36_11 me_J5_init_2 is_J5_init_2 rfl rfl rfl rfl rfl (Nat.le_of_ble_eq_true rfl) (MX.post (m_w_J5_init_2 hG hO g3) ?_)
  rintro _ A3 ⟨rfl, h1⟩
  refine X.xok (fun w3 => ?_)
  replace h := h A3 w3 h1
  change X _ _ _ _ A3 _ _ [.ref A.n, .ref p]
  obtain ⟨o4, h⟩ := h
  refine z_putP hG hO.1 (some A.n) dX36_init_13 f_X36_14_34 ⟨_, rfl, Or.inr ⟨rfl, rfl, rfl⟩⟩ o4 (by decide) (Or.inl ⟨_, rfl⟩) (fun A5 e5 => ?_)
  replace h := h A5 e5
  exact x_vret dX36_init_16 rfl ⟨rfl, h⟩
def w_X36_ends (G : xG) (p : Nat) (q : Int32) (v : Int64) (t : Option Nat) (Q : xA → Prop) (A : xA) : Prop := xok G A → A.tg p = 35 ∧ (∀ A2 : xA, A2 = A.setI p 1 q → (∀ A3 : xA, A3 = A2.setL p 3 v → (∀ A4 : xA, A4 = A3.setP p 5 t → (∀ A5 : xA, A5 = A4.setP p 6 (none : Option Nat) → (Q A5)))))
theorem m_X36_ends (hG : xOK G) (hO : xHO G) {dp : Nat} {p : Nat} {q : Int32} {v : Int64} {t : Option Nat} {Q : xA → Prop} {A : xA} (h : w_X36_ends G p q v t Q A) : MX G (dp + 0) kX36_ends [.ref p, .int q, .long v, va_rf t] A (hV Q) := by
  unfold w_X36_ends at h
  refine MX.of rfl (by cases t <;> exact Nat.le_of_ble_eq_true rfl) ?_
  refine X.lvs (lv' := [some (.ref p), some (.int q), some (.long v), none, some (va_rf t)]) (by cases t <;> rfl) ?_
  refine X.xok (fun w0 => ?_)
  replace h := h w0
  refine x_aload_n dX36_ends_0 rfl ?_
  refine x_iload_n dX36_ends_1 rfl ?_
  obtain ⟨o1, h⟩ := h
  refine z_putI hG hO.1 dX36_ends_2 f_X36_20_34 ⟨_, rfl, Or.inl rfl⟩ o1 (by decide) rfl rfl ⟨_, rfl⟩ (fun A2 e2 => ?_)
  replace h := h A2 e2
  refine x_aload_n dX36_ends_5 rfl ?_
  refine x_lload_n dX36_ends_6 rfl ?_
  refine z_putL hG hO.1 dX36_ends_7 f_X36_24_34 ⟨_, rfl, Or.inl rfl⟩ (kI e2 o1) (by decide) rfl rfl ⟨_, rfl⟩ (fun A3 e3 => ?_)
  replace h := h A3 e3
  refine x_aload_n dX36_ends_10 rfl ?_
  refine x_aloadq dX36_ends_11 rfl ?_
  refine z_putP hG hO.1 t dX36_ends_13 f_X36_28_34 ⟨_, rfl, Or.inl rfl⟩ (kL e3 (kI e2 o1)) (by decide) (Or.inl ⟨_, rfl⟩) (fun A4 e4 => ?_)
  replace h := h A4 e4
  refine x_aload_n dX36_ends_16 rfl ?_
  refine x_null dX36_ends_17 ?_
  refine z_putP hG hO.1 (none : Option Nat) dX36_ends_18 f_X36_32_34 ⟨_, rfl, Or.inl rfl⟩ (kP e4 (kL e3 (kI e2 o1))) (by decide) (Or.inl ⟨_, rfl⟩) (fun A5 e5 => ?_)
  replace h := h A5 e5
  exact x_vret dX36_ends_21 rfl ⟨rfl, h⟩
def w_X36_settle (G : xG) (p : Nat) (i : Int32) (Q : xA → Prop) (A : xA) : Prop := xok G A → ∃ J1 : Option Nat → Prop, (∀ (y1_s0 : Option Nat), J1 y1_s0 → A.tg p = 35 ∧ (∃ R2 : xA → Prop, w_X36_ends G p (1 : Int32) (0 : Int64) y1_s0 R2 A ∧ (∀ A2 : xA, xok G A2 → R2 A2 → (Q A2)))) ∧ ((i = 0 → A.tg p = 35 ∧ (J1 (A.P p 6))) ∧ (¬ i = 0 → A.tg p = 35 ∧ (J1 (A.P p 5))))
theorem m_X36_settle (hG : xOK G) (hO : xHO G) {dp : Nat} {p : Nat} {i : Int32} {Q : xA → Prop} {A : xA} (h : w_X36_settle G p i Q A) : MX G (dp + 1) kX36_settle [.ref p, .int i] A (hV Q) := by
  unfold w_X36_settle at h
  refine MX.of rfl (Nat.le_of_ble_eq_true rfl) ?_
  change X _ _ _ _ _ _ [some (.ref p), some (.int i)] _
  refine X.xok (fun w0 => ?_)
  replace h := h w0
  refine x_aload_n dX36_settle_0 rfl ?_
  refine x_iconst_ (v := (1 : Int32)) dX36_settle_1 (by decide) ?_
  refine x_lconst_ (v := (0 : Int64)) dX36_settle_2 (by decide) ?_
  refine x_iload_n dX36_settle_3 rfl ?_
  obtain ⟨J1, g1, h⟩ := h
  have kj1 : ∀ (y1_s0 : Option Nat), J1 y1_s0 → X G (dp + 1) kX36_settle (hV Q) A 18 [none, none] [va_rf y1_s0, .long (0 : Int64), .int (1 : Int32), .ref p] := by
    intro y1_s0 h
    replace h := g1 y1_s0 h
    obtain ⟨o3, h⟩ := h
    obtain ⟨R2, g2, h⟩ := h
    refine x_callV hG (Ky := kX36_ends) (As := [.int (1 : Int32), .long (0 : Int64), va_rf y1_s0]) dX36_settle_18 o3 rfl lk_X36_35 me_X36_ends is_X36_ends se_X36_ends rfl rfl (Nat.le_of_ble_eq_true rfl) (MX.post (m_X36_ends hG hO g2) ?_)
    rintro _ A2 ⟨rfl, h1⟩
    refine X.xok (fun w2 => ?_)
    replace h := h A2 w2 h1
    change X _ _ _ _ A2 _ _ []
    exact x_vret dX36_settle_21 rfl ⟨rfl, h⟩
  refine x_if_eq (tgt := 14) dX36_settle_4 (by decide) (fun c4 => ?_) (fun c4 => ?_)
  · replace h := h.1 c4
    refine x_aload_n dX36_settle_14 rfl ?_
    obtain ⟨o4, h⟩ := h
    refine x_get (v := va_rf (A.P p 6)) hG dX36_settle_15 f_X36_32_34 o4 rfl ?_
    change X _ _ _ _ _ _ [some (.ref p), some (.int i)] [va_rf (A.P p 6), .long (0 : Int64), .int (1 : Int32), .ref p]
    exact X.weak (xle_n (xle_n xle_nil)) (kj1 (A.P p 6) h)
  · replace h := h.2 c4
    refine x_aload_n dX36_settle_7 rfl ?_
    obtain ⟨o5, h⟩ := h
    refine x_get (v := va_rf (A.P p 5)) hG dX36_settle_8 f_X36_28_34 o5 rfl ?_
    refine x_goto (tgt := 18) dX36_settle_11 (by decide) ?_
    change X _ _ _ _ _ _ [some (.ref p), some (.int i)] [va_rf (A.P p 5), .long (0 : Int64), .int (1 : Int32), .ref p]
    exact X.weak (xle_n (xle_n xle_nil)) (kj1 (A.P p 5) h)
def w_X35_init (G : xG) (p : Nat) (t : Option Nat) (Q : xA → Prop) (A : xA) : Prop := xok G A → rmO G A 3 ∧ (∀ A2 : xA, A2 = A.new 37 0 3 0 → (∃ R3 : xA → Prop, w_J5_init G A.n R3 A2 ∧ (∀ A3 : xA, xok G A3 → R3 A3 → (A3.tg p = 34 ∧ (∀ A5 : xA, A5 = A3.setP p 1 (some A.n) → (rmO G A5 3 ∧ (∀ A7 : xA, A7 = A5.new 37 0 3 0 → (∃ R8 : xA → Prop, w_J5_init_2 G A5.n (4 : Int32) R8 A7 ∧ (∀ A8 : xA, xok G A8 → R8 A8 → (A8.tg p = 34 ∧ (∀ A10 : xA, A10 = A8.setP p 4 (some A5.n) → (∀ A11 : xA, A11 = A10.setP p 0 t → (Q A11)))))))))))))
theorem m_X35_init (hG : xOK G) (hO : xHO G) {dp : Nat} {p : Nat} {t : Option Nat} {Q : xA → Prop} {A : xA} (h : w_X35_init G p t Q A) : MX G (dp + 4) kX35_init [.ref p, va_rf t] A (hV Q) := by
  unfold w_X35_init at h
  refine MX.of rfl (by cases t <;> exact Nat.le_of_ble_eq_true rfl) ?_
  refine X.lvs (lv' := [some (.ref p), some (va_rf t)]) (by cases t <;> rfl) ?_
  refine X.xok (fun w0 => ?_)
  replace h := h w0
  refine x_aload_n dX35_init_0 rfl ?_
  refine x_objInit hG dX35_init_1 q1747 q261 q262 (Nat.le_of_ble_eq_true rfl) ?_
  refine x_aload_n dX35_init_4 rfl ?_
  obtain ⟨o1, h⟩ := h
  refine z_new hG (c := 36) dX35_init_5 rfl q1748 (by decide) rfl o1 (fun A2 e2 w2 => ?_)
  replace h := h A2 e2
  refine x_dup dX35_init_8 rfl ?_
  obtain ⟨R3, g3, h⟩ := h
  refine x_callI hG (Ky := kJ5_init) (As := []) dX35_init_9 lk_X35_9 me_J5_init is_J5_init rfl rfl rfl rfl rfl (Nat.le_of_ble_eq_true rfl) (MX.post (m_w_J5_init hG hO g3) ?_)
  rintro _ A3 ⟨rfl, h1⟩
  refine X.xok (fun w3 => ?_)
  replace h := h A3 w3 h1
  change X _ _ _ _ A3 _ _ [.ref A.n, .ref p]
  obtain ⟨o4, h⟩ := h
  refine z_putP hG hO.1 (some A.n) dX35_init_12 f_X35_10_33 ⟨_, rfl, Or.inr ⟨rfl, rfl, rfl⟩⟩ o4 (by decide) (Or.inl ⟨_, rfl⟩) (fun A5 e5 => ?_)
  replace h := h A5 e5
  refine x_aload_n dX35_init_15 rfl ?_
  obtain ⟨o6, h⟩ := h
  refine z_new hG (c := 36) dX35_init_16 rfl q1748 (by decide) rfl o6 (fun A7 e7 w7 => ?_)
  replace h := h A7 e7
  refine x_dup dX35_init_19 rfl ?_
  refine x_iconst_ (v := (4 : Int32)) dX35_init_20 (by decide) ?_
  obtain ⟨R8, g8, h⟩ := h
  refine x_callI hG (Ky := kJ5_init_2) (As := [.int (4 : Int32)]) dX35_init_21 lk_X35_16 me_J5_init_2 is_J5_init_2 rfl rfl rfl rfl rfl (Nat.le_of_ble_eq_true rfl) (MX.post (m_w_J5_init_2 hG hO g8) ?_)
  rintro _ A8 ⟨rfl, h1⟩
  refine X.xok (fun w8 => ?_)
  replace h := h A8 w8 h1
  change X _ _ _ _ A8 _ _ [.ref A5.n, .ref p]
  obtain ⟨o9, h⟩ := h
  refine z_putP hG hO.1 (some A5.n) dX35_init_24 f_X35_19_33 ⟨_, rfl, Or.inr ⟨rfl, rfl, rfl⟩⟩ o9 (by decide) (Or.inl ⟨_, rfl⟩) (fun A10 e10 => ?_)
  replace h := h A10 e10
  refine x_aload_n dX35_init_27 rfl ?_
  refine x_aloadq_n dX35_init_28 rfl ?_
  refine z_putP hG hO.1 t dX35_init_29 f_X35_22_33 ⟨_, rfl, Or.inr ⟨rfl, rfl, rfl⟩⟩ (kP e10 o9) (by decide) (Or.inl ⟨_, rfl⟩) (fun A11 e11 => ?_)
  replace h := h A11 e11
  exact x_vret dX35_init_32 rfl ⟨rfl, h⟩
def w_X34_init (G : xG) (p : Nat) (n : Int32) (k : Int32) (v : Int32) (Q : xA → Prop) (A : xA) : Prop := xok G A → A.tg p = 33 ∧ (∀ A2 : xA, A2 = A.setI p 0 n → (∀ A3 : xA, A3 = A2.setI p 1 k → (∀ A4 : xA, A4 = A3.setI p 2 v → (Q A4))))
theorem m_X34_init (hG : xOK G) (hO : xHO G) {dp : Nat} {p : Nat} {n : Int32} {k : Int32} {v : Int32} {Q : xA → Prop} {A : xA} (h : w_X34_init G p n k v Q A) : MX G (dp + 1) kX34_init [.ref p, .int n, .int k, .int v] A (hV Q) := by
  unfold w_X34_init at h
  refine MX.of rfl (Nat.le_of_ble_eq_true rfl) ?_
  change X _ _ _ _ _ _ [some (.ref p), some (.int n), some (.int k), some (.int v)] _
  refine X.xok (fun w0 => ?_)
  replace h := h w0
  refine x_aload_n dX34_init_0 rfl ?_
  refine x_objInit hG dX34_init_1 q1694 q261 q262 (Nat.le_of_ble_eq_true rfl) ?_
  refine x_aload_n dX34_init_4 rfl ?_
  refine x_iload_n dX34_init_5 rfl ?_
  obtain ⟨o1, h⟩ := h
  refine z_putI hG hO.1 dX34_init_6 f_X34_9_32 ⟨_, rfl, Or.inr ⟨rfl, rfl, rfl⟩⟩ o1 (by decide) rfl rfl ⟨_, rfl⟩ (fun A2 e2 => ?_)
  replace h := h A2 e2
  refine x_aload_n dX34_init_9 rfl ?_
  refine x_iload_n dX34_init_10 rfl ?_
  refine z_putI hG hO.1 dX34_init_11 f_X34_15_32 ⟨_, rfl, Or.inr ⟨rfl, rfl, rfl⟩⟩ (kI e2 o1) (by decide) rfl rfl ⟨_, rfl⟩ (fun A3 e3 => ?_)
  replace h := h A3 e3
  refine x_aload_n dX34_init_14 rfl ?_
  refine x_iload_n dX34_init_15 rfl ?_
  refine z_putI hG hO.1 dX34_init_16 f_X34_18_32 ⟨_, rfl, Or.inr ⟨rfl, rfl, rfl⟩⟩ (kI e3 (kI e2 o1)) (by decide) rfl rfl ⟨_, rfl⟩ (fun A4 e4 => ?_)
  replace h := h A4 e4
  exact x_vret dX34_init_19 rfl ⟨rfl, h⟩
def w_X34_isArray (G : xG) (p : Nat) (Q : Int32 → xA → Prop) (A : xA) : Prop := xok G A → A.tg p = 33 ∧ (Q (if (A.I p 1) = (2 : Int32) then (1 : Int32) else (if (A.I p 1) = (4 : Int32) then (1 : Int32) else (if (A.I p 1) = (5 : Int32) then (1 : Int32) else (0 : Int32)))) A)
theorem m_X34_isArray (hG : xOK G) (hO : xHO G) {dp : Nat} {p : Nat} {Q : Int32 → xA → Prop} {A : xA} (h : w_X34_isArray G p Q A) : MX G (dp + 0) kX34_isArray [.ref p] A (hZ Q) := by
  unfold w_X34_isArray at h
  refine MX.of rfl (Nat.le_of_ble_eq_true rfl) ?_
  change X _ _ _ _ _ _ [some (.ref p)] _
  refine X.xok (fun w0 => ?_)
  replace h := h w0
  refine x_aload_n dX34_isArray_0 rfl ?_
  obtain ⟨o1, h⟩ := h
  refine x_get (v := .int (A.I p 1)) hG dX34_isArray_1 f_X34_15_32 o1 rfl ?_
  refine x_iconst_ (v := (2 : Int32)) dX34_isArray_4 (by decide) ?_
  refine x_via 29 (A' := A) (lv' := [none]) (st' := [.int (if (A.I p 1) = (2 : Int32) then (1 : Int32) else (if (A.I p 1) = (4 : Int32) then (1 : Int32) else (if (A.I p 1) = (5 : Int32) then (1 : Int32) else (0 : Int32))))]) ?_ (fun k29 => ?_)
  rotate_left
  · refine x_icmp_eq (tgt := 24) dX34_isArray_5 (by decide) (fun c5 => ?_) (fun c5 => ?_)
    · refine x_iconst_ (v := (1 : Int32)) dX34_isArray_24 (by decide) ?_
      refine x_goto (tgt := 29) dX34_isArray_25 (by decide) ?_
      change X _ _ _ _ _ _ [some (.ref p)] [.int (1 : Int32)]
      simp only [if_pos c5] at k29 ⊢
      exact X.weak (xle_n xle_nil) k29
    · refine x_aload_n dX34_isArray_8 rfl ?_
      refine x_get (v := .int (A.I p 1)) hG dX34_isArray_9 f_X34_15_32 o1 rfl ?_
      refine x_iconst_ (v := (4 : Int32)) dX34_isArray_12 (by decide) ?_
      refine x_icmp_eq (tgt := 24) dX34_isArray_13 (by decide) (fun c13 => ?_) (fun c13 => ?_)
      · refine x_iconst_ (v := (1 : Int32)) dX34_isArray_24 (by decide) ?_
        refine x_goto (tgt := 29) dX34_isArray_25 (by decide) ?_
        change X _ _ _ _ _ _ [some (.ref p)] [.int (1 : Int32)]
        try simp only [if_neg c5] at c13 k29 ⊢
        try simp only [if_pos c13] at k29 ⊢
        exact X.weak (xle_n xle_nil) k29
      · refine x_aload_n dX34_isArray_16 rfl ?_
        refine x_get (v := .int (A.I p 1)) hG dX34_isArray_17 f_X34_15_32 o1 rfl ?_
        refine x_iconst_ (v := (5 : Int32)) dX34_isArray_20 (by decide) ?_
        refine x_icmp_ne (tgt := 28) dX34_isArray_21 (by decide) (fun c21 => ?_) (fun c21 => ?_)
        · refine x_iconst_ (v := (0 : Int32)) dX34_isArray_28 (by decide) ?_
          change X _ _ _ _ _ _ [some (.ref p)] [.int (0 : Int32)]
          try simp only [if_neg c5] at c13 c21 k29 ⊢
          try simp only [if_neg c13] at c21 k29 ⊢
          try simp only [if_neg c21] at k29 ⊢
          exact X.weak (xle_n xle_nil) k29
        · refine x_iconst_ (v := (1 : Int32)) dX34_isArray_24 (by decide) ?_
          refine x_goto (tgt := 29) dX34_isArray_25 (by decide) ?_
          change X _ _ _ _ _ _ [some (.ref p)] [.int (1 : Int32)]
          try simp only [if_neg c5] at c13 c21 k29 ⊢
          try simp only [if_neg c13] at c21 k29 ⊢
          try simp only [if_pos c21] at k29 ⊢
          exact X.weak (xle_n xle_nil) k29
  exact x_zret dX34_isArray_29 rfl (by (repeat' split) <;> decide) ⟨_, rfl, (by (repeat' split) <;> decide), h⟩
def w_X14_init (G : xG) (p : Nat) (k : Int32) (q : Int32) (n : Int32) (Q : xA → Prop) (A : xA) : Prop := xok G A → A.tg p = 14 ∧ (∀ A2 : xA, A2 = A.setI p 0 k → (∀ A3 : xA, A3 = A2.setI p 2 q → (∀ A4 : xA, A4 = A3.setI p 1 n → (Q A4))))
theorem m_X14_init (hG : xOK G) (hO : xHO G) {dp : Nat} {p : Nat} {k : Int32} {q : Int32} {n : Int32} {Q : xA → Prop} {A : xA} (h : w_X14_init G p k q n Q A) : MX G (dp + 1) kX14_init [.ref p, .int k, .int q, .int n] A (hV Q) := by
  unfold w_X14_init at h
  refine MX.of rfl (Nat.le_of_ble_eq_true rfl) ?_
  change X _ _ _ _ _ _ [some (.ref p), some (.int k), some (.int q), some (.int n)] _
  refine X.xok (fun w0 => ?_)
  replace h := h w0
  refine x_aload_n dX14_init_0 rfl ?_
  refine x_objInit hG dX14_init_1 q1105 q261 q262 (Nat.le_of_ble_eq_true rfl) ?_
  refine x_aload_n dX14_init_4 rfl ?_
  refine x_iload_n dX14_init_5 rfl ?_
  obtain ⟨o1, h⟩ := h
  refine z_putI hG hO.1 dX14_init_6 f_X14_7_13 ⟨_, rfl, Or.inr ⟨rfl, rfl, rfl⟩⟩ o1 (by decide) rfl rfl ⟨_, rfl⟩ (fun A2 e2 => ?_)
  replace h := h A2 e2
  refine x_aload_n dX14_init_9 rfl ?_
  refine x_iload_n dX14_init_10 rfl ?_
  refine z_putI hG hO.1 dX14_init_11 f_X14_13_13 ⟨_, rfl, Or.inr ⟨rfl, rfl, rfl⟩⟩ (kI e2 o1) (by decide) rfl rfl ⟨_, rfl⟩ (fun A3 e3 => ?_)
  replace h := h A3 e3
  refine x_aload_n dX14_init_14 rfl ?_
  refine x_iload_n dX14_init_15 rfl ?_
  refine z_putI hG hO.1 dX14_init_16 f_X14_16_13 ⟨_, rfl, Or.inr ⟨rfl, rfl, rfl⟩⟩ (kI e3 (kI e2 o1)) (by decide) rfl rfl ⟨_, rfl⟩ (fun A4 e4 => ?_)
  replace h := h A4 e4
  exact x_vret dX14_init_19 rfl ⟨rfl, h⟩
def w_X14_words (G : xG) (p : Nat) (Q : Int32 → xA → Prop) (A : xA) : Prop := xok G A → ∃ L1 : Nat → Int32 → Int32 → xA → Prop, (∃ n1 : Nat, L1 n1 (0 : Int32) (0 : Int32) A) ∧ (∀ (n1 : Nat) (y1_1 : Int32) (y1_2 : Int32) (A1 : xA), L1 n1 y1_1 y1_2 A1 → A1.tg p = 14 ∧ (∃ b4 : Nat, (A1.P p 8) = some b4 ∧ (A1.tg b4 = 37 ∧ (∃ R3 : Int32 → xA → Prop, w_J5_size G b4 R3 A1 ∧ (∀ (v3 : Int32) (A3 : xA), xok G A3 → R3 v3 A3 → (((v3 ≤ y1_2 → Q y1_1 A3) ∧ (¬ v3 ≤ y1_2 → A3.tg p = 14 ∧ (∃ b8 : Nat, (A3.P p 8) = some b8 ∧ (A3.tg b8 = 37 ∧ (∃ R7 : Option Nat → xA → Prop, w_J5_get G b8 y1_2 R7 A3 ∧ (∀ (v7 : Option Nat) (A7 : xA), xok G A7 → R7 v7 A7 → (∃ b10 : Nat, v7 = some b10 ∧ (A7.tg b10 = 23 ∧ ((∃ q1 : Nat, q1 < n1 ∧ L1 q1 (y1_1 + (if (A7.I b10 3) = 0 then (1 : Int32) else (2 : Int32))) (y1_2 + (1 : Int32)) A7))))))))))))))))
theorem m_X14_words (hG : xOK G) (hO : xHO G) {dp : Nat} {p : Nat} {Q : Int32 → xA → Prop} {A : xA} (h : w_X14_words G p Q A) : MX G (dp + 3) kX14_words [.ref p] A (hI Q) := by
  unfold w_X14_words at h
  refine MX.of rfl (Nat.le_of_ble_eq_true rfl) ?_
  change X _ _ _ _ _ _ [some (.ref p), none, none] _
  refine X.xok (fun w0 => ?_)
  replace h := h w0
  refine x_iconst_ (v := (0 : Int32)) dX14_words_0 (by decide) ?_
  refine x_istore_n dX14_words_1 (by decide) ?_
  refine x_iconst_ (v := (0 : Int32)) dX14_words_2 (by decide) ?_
  refine x_istore_n dX14_words_3 (by decide) ?_
  obtain ⟨L1, ⟨n1, i1⟩, g1⟩ := h
  have kl1 : ∀ n1 : Nat, ∀ (y1_1 : Int32) (y1_2 : Int32) (A1 : xA), L1 n1 y1_1 y1_2 A1 → X G (dp + 3) kX14_words (hI Q) A1 4 [some (.ref p), some (.int y1_1), some (.int y1_2)] [] := by
    intro n1
    induction n1 using Nat.strongRecOn with
    | ind n1 ih1 =>
      intro y1_1 y1_2 A1 h
      replace h := g1 n1 y1_1 y1_2 A1 h
      refine x_iload_n dX14_words_4 rfl ?_
      refine x_aload_n dX14_words_5 rfl ?_
      obtain ⟨o2, h⟩ := h
      refine x_get (v := va_rf (A1.P p 8)) hG dX14_words_6 f_X14_19_13 o2 rfl ?_
      obtain ⟨b4, e4, h⟩ := h
      rw [e4]
      obtain ⟨o5, h⟩ := h
      obtain ⟨R3, g3, h⟩ := h
      refine x_callV hG (Ky := kJ5_size) (As := []) dX14_words_9 o5 rfl lk_X14_23 me_J5_size is_J5_size se_J5_size rfl rfl (Nat.le_of_ble_eq_true rfl) (MX.post (m_w_J5_size hG hO g3) ?_)
      rintro _ A3 ⟨v3, rfl, h1⟩
      refine X.xok (fun w3 => ?_)
      replace h := h v3 A3 w3 h1
      change X _ _ _ _ A3 _ _ [.int v3, .int y1_2]
      refine x_icmp_ge (tgt := 46) dX14_words_12 (by decide) (fun c12 => ?_) (fun c12 => ?_)
      · replace h := h.1 c12
        refine x_iload_n dX14_words_46 rfl ?_
        exact x_iret dX14_words_47 rfl ⟨_, rfl, h⟩
      · replace h := h.2 c12
        refine x_iload_n dX14_words_15 rfl ?_
        refine x_aload_n dX14_words_16 rfl ?_
        obtain ⟨o6, h⟩ := h
        refine x_get (v := va_rf (A3.P p 8)) hG dX14_words_17 f_X14_19_13 o6 rfl ?_
        refine x_iload_n dX14_words_20 rfl ?_
        obtain ⟨b8, e8, h⟩ := h
        rw [e8]
        obtain ⟨o9, h⟩ := h
        obtain ⟨R7, g7, h⟩ := h
        refine x_callV hG (Ky := kJ5_get) (As := [.int y1_2]) dX14_words_21 o9 rfl lk_X14_29 me_J5_get is_J5_get se_J5_get rfl rfl (Nat.le_of_ble_eq_true rfl) (MX.post (m_w_J5_get hG hO g7) ?_)
        rintro _ A7 ⟨v7, rfl, h1⟩
        refine X.xok (fun w7 => ?_)
        replace h := h v7 A7 w7 h1
        change X _ _ _ _ A7 _ _ [va_rf v7, .int y1_1]
        obtain ⟨b10, e10, h⟩ := h
        rw [e10]
        obtain ⟨o11, h⟩ := h
        refine x_cast hG dX14_words_24 q2033 o11 rfl (Or.inl rfl) ?_
        refine x_get (v := .int (A7.I b10 3)) hG dX14_words_27 f_X14_35_22 o11 rfl ?_
        refine x_via 38 (A' := A7) (lv' := [some (.ref p), none, some (.int y1_2)]) (st' := [.int (if (A7.I b10 3) = 0 then (1 : Int32) else (2 : Int32)), .int y1_1]) ?_ (fun k38 => ?_)
        rotate_left
        · refine x_if_eq (tgt := 37) dX14_words_30 (by decide) (fun c30 => ?_) (fun c30 => ?_)
          · refine x_iconst_ (v := (1 : Int32)) dX14_words_37 (by decide) ?_
            change X _ _ _ _ _ _ [some (.ref p), some (.int y1_1), some (.int y1_2)] [.int (1 : Int32), .int y1_1]
            simp only [if_pos c30] at k38 ⊢
            exact X.weak (xle_c rfl (xle_n (xle_c rfl xle_nil))) k38
          · refine x_iconst_ (v := (2 : Int32)) dX14_words_33 (by decide) ?_
            refine x_goto (tgt := 38) dX14_words_34 (by decide) ?_
            change X _ _ _ _ _ _ [some (.ref p), some (.int y1_1), some (.int y1_2)] [.int (2 : Int32), .int y1_1]
            simp only [if_neg c30] at k38 ⊢
            exact X.weak (xle_c rfl (xle_n (xle_c rfl xle_nil))) k38
        refine x_iadd dX14_words_38 ?_
        refine x_istore_n dX14_words_39 (by decide) ?_
        refine x_iinc (v := (y1_2 + (1 : Int32))) dX14_words_40 rfl rfl (by decide) ?_
        refine x_goto (tgt := 4) dX14_words_43 (by decide) ?_
        obtain ⟨q1, l1, h⟩ := h
        change X _ _ _ _ _ _ [some (.ref p), some (.int (y1_1 + (if (A7.I b10 3) = 0 then (1 : Int32) else (2 : Int32)))), some (.int (y1_2 + (1 : Int32)))] []
        exact X.weak (xle_c rfl (xle_c rfl (xle_c rfl xle_nil))) (ih1 q1 l1 (y1_1 + (if (A7.I b10 3) = 0 then (1 : Int32) else (2 : Int32))) (y1_2 + (1 : Int32)) A7 h)
  change X _ _ _ _ _ _ [some (.ref p), some (.int (0 : Int32)), some (.int (0 : Int32))] []
  exact X.weak (xle_c rfl (xle_c rfl (xle_c rfl xle_nil))) (kl1 n1 (0 : Int32) (0 : Int32) A i1)
def w_X24_init (G : xG) (p : Nat) (f : Int32) (q : Int32) (n : Int32) (a : Int32) (b : Int32) (Q : xA → Prop) (A : xA) : Prop := xok G A → A.tg p = 23 ∧ (∀ A2 : xA, A2 = A.setI p 2 f → (∀ A3 : xA, A3 = A2.setI p 1 q → (∀ A4 : xA, A4 = A3.setI p 0 n → ((a = 0 ∨ a = 1) ∧ (∀ A6 : xA, A6 = A4.setI p 3 a → ((b = 0 ∨ b = 1) ∧ (∀ A8 : xA, A8 = A6.setI p 4 b → (Q A8))))))))
theorem m_X24_init (hG : xOK G) (hO : xHO G) {dp : Nat} {p : Nat} {f : Int32} {q : Int32} {n : Int32} {a : Int32} {b : Int32} {Q : xA → Prop} {A : xA} (h : w_X24_init G p f q n a b Q A) : MX G (dp + 1) kX24_init [.ref p, .int f, .int q, .int n, .int a, .int b] A (hV Q) := by
  unfold w_X24_init at h
  refine MX.of rfl (Nat.le_of_ble_eq_true rfl) ?_
  change X _ _ _ _ _ _ [some (.ref p), some (.int f), some (.int q), some (.int n), some (.int a), some (.int b)] _
  refine X.xok (fun w0 => ?_)
  replace h := h w0
  refine x_aload_n dX24_init_0 rfl ?_
  refine x_objInit hG dX24_init_1 q1481 q261 q262 (Nat.le_of_ble_eq_true rfl) ?_
  refine x_aload_n dX24_init_4 rfl ?_
  refine x_iload_n dX24_init_5 rfl ?_
  obtain ⟨o1, h⟩ := h
  refine z_putI hG hO.1 dX24_init_6 f_X24_7_22 ⟨_, rfl, Or.inr ⟨rfl, rfl, rfl⟩⟩ o1 (by decide) rfl rfl ⟨_, rfl⟩ (fun A2 e2 => ?_)
  replace h := h A2 e2
  refine x_aload_n dX24_init_9 rfl ?_
  refine x_iload_n dX24_init_10 rfl ?_
  refine z_putI hG hO.1 dX24_init_11 f_X24_13_22 ⟨_, rfl, Or.inr ⟨rfl, rfl, rfl⟩⟩ (kI e2 o1) (by decide) rfl rfl ⟨_, rfl⟩ (fun A3 e3 => ?_)
  replace h := h A3 e3
  refine x_aload_n dX24_init_14 rfl ?_
  refine x_iload_n dX24_init_15 rfl ?_
  refine z_putI hG hO.1 dX24_init_16 f_X24_16_22 ⟨_, rfl, Or.inr ⟨rfl, rfl, rfl⟩⟩ (kI e3 (kI e2 o1)) (by decide) rfl rfl ⟨_, rfl⟩ (fun A4 e4 => ?_)
  replace h := h A4 e4
  refine x_aload_n dX24_init_19 rfl ?_
  refine x_iload dX24_init_20 rfl ?_
  obtain ⟨o5, h⟩ := h
  refine z_putI hG hO.1 dX24_init_22 f_X24_19_22 ⟨_, rfl, Or.inr ⟨rfl, rfl, rfl⟩⟩ (kI e4 (kI e3 (kI e2 o1))) (by decide) (narrow01 o5) (fits01 o5) ⟨_, rfl⟩ (fun A6 e6 => ?_)
  replace h := h A6 e6
  refine x_aload_n dX24_init_25 rfl ?_
  refine x_iload dX24_init_26 rfl ?_
  obtain ⟨o7, h⟩ := h
  refine z_putI hG hO.1 dX24_init_28 f_X24_23_22 ⟨_, rfl, Or.inr ⟨rfl, rfl, rfl⟩⟩ (kI e6 (kI e4 (kI e3 (kI e2 o1)))) (by decide) (narrow01 o7) (fits01 o7) ⟨_, rfl⟩ (fun A8 e8 => ?_)
  replace h := h A8 e8
  exact x_vret dX24_init_31 rfl ⟨rfl, h⟩
def w_X0_roomFor (G : xG) (r : Option Nat) (n : Int32) (Q : Option Nat → xA → Prop) (A : xA) : Prop := xok G A → ∃ b1 : Nat, r = some b1 ∧ (A.tg b1 = 200 ∧ ((((nI (A.ln b1)) < n → rmA G A (f_J11_max n ((2 : Int32) * (nI (A.ln b1)))) ∧ (∀ A4 : xA, A4 = A.new 200 (ix (f_J11_max n ((2 : Int32) * (nI (A.ln b1))))) (ix (f_J11_max n ((2 : Int32) * (nI (A.ln b1))))) 0 → (Q (some A.n) A4))) ∧ (¬ (nI (A.ln b1)) < n → Q (some b1) A))))
theorem m_X0_roomFor (hG : xOK G) (hO : xHO G) {dp : Nat} {r : Option Nat} {n : Int32} {Q : Option Nat → xA → Prop} {A : xA} (h : w_X0_roomFor G r n Q A) : MX G (dp + 1) kX0_roomFor [va_rf r, .int n] A (hR Q) := by
  unfold w_X0_roomFor at h
  refine MX.of rfl (by cases r <;> exact Nat.le_of_ble_eq_true rfl) ?_
  refine X.lvs (lv' := [some (va_rf r), some (.int n)]) (by cases r <;> rfl) ?_
  refine X.xok (fun w0 => ?_)
  replace h := h w0
  refine x_aloadq_n dX0_roomFor_0 rfl ?_
  obtain ⟨b1, e1, h⟩ := h
  rw [e1]
  obtain ⟨o2, h⟩ := h
  refine x_alen hG (j := 0) dX0_roomFor_1 o2 ?_
  refine x_iload_n dX0_roomFor_2 rfl ?_
  refine x_icmp_lt (tgt := 10) dX0_roomFor_3 (by decide) (fun c3 => ?_) (fun c3 => ?_)
  · replace h := h.1 c3
    refine x_iload_n dX0_roomFor_10 rfl ?_
    refine x_iconst_ (v := (2 : Int32)) dX0_roomFor_11 (by decide) ?_
    refine x_aload_n dX0_roomFor_12 rfl ?_
    refine x_alen hG (j := 0) dX0_roomFor_13 o2 ?_
    refine x_imul dX0_roomFor_14 ?_
    refine x_callS hG (Ky := kJ11_max) (As := [.int n, .int ((2 : Int32) * (nI (A.ln b1)))]) dX0_roomFor_15 lk_X0_3 me_J11_max st_J11_max rfl rfl (Nat.le_of_ble_eq_true rfl) (MX.post (m_J11_max hG) ?_)
    rintro _ _ ⟨rfl, rfl⟩
    change X _ _ _ _ _ _ _ (.int (f_J11_max n ((2 : Int32) * (nI (A.ln b1)))) :: _)
    obtain ⟨o3, h⟩ := h
    refine z_newa hG (j := 0) dX0_roomFor_18 (by decide) rfl o3 q378 (fun A4 e4 w4 => ?_)
    replace h := h A4 e4
    exact x_aret (r := (some A.n)) dX0_roomFor_20 rfl (Or.inr ⟨_, rfl⟩) ⟨_, rfl, h⟩
  · replace h := h.2 c3
    refine x_aload_n dX0_roomFor_6 rfl ?_
    refine x_goto (tgt := 20) dX0_roomFor_7 (by decide) ?_
    exact x_aret (r := (some b1)) dX0_roomFor_20 rfl (Or.inr ⟨_, rfl⟩) ⟨_, rfl, h⟩
def w_X0_roomFor_2 (G : xG) (r : Option Nat) (n : Int32) (Q : Option Nat → xA → Prop) (A : xA) : Prop := xok G A → ∃ b1 : Nat, r = some b1 ∧ (A.tg b1 = 201 ∧ ((((nI (A.ln b1)) < n → rmA G A (f_J11_max n ((2 : Int32) * (nI (A.ln b1)))) ∧ (∀ A4 : xA, A4 = A.new 201 (ix (f_J11_max n ((2 : Int32) * (nI (A.ln b1))))) (ix (f_J11_max n ((2 : Int32) * (nI (A.ln b1))))) 0 → (Q (some A.n) A4))) ∧ (¬ (nI (A.ln b1)) < n → Q (some b1) A))))
theorem m_X0_roomFor_2 (hG : xOK G) (hO : xHO G) {dp : Nat} {r : Option Nat} {n : Int32} {Q : Option Nat → xA → Prop} {A : xA} (h : w_X0_roomFor_2 G r n Q A) : MX G (dp + 1) kX0_roomFor_2 [va_rf r, .int n] A (hR Q) := by
  unfold w_X0_roomFor_2 at h
  refine MX.of rfl (by cases r <;> exact Nat.le_of_ble_eq_true rfl) ?_
  refine X.lvs (lv' := [some (va_rf r), some (.int n)]) (by cases r <;> rfl) ?_
  refine X.xok (fun w0 => ?_)
  replace h := h w0
  refine x_aloadq_n dX0_roomFor_2_0 rfl ?_
  obtain ⟨b1, e1, h⟩ := h
  rw [e1]
  obtain ⟨o2, h⟩ := h
  refine x_alen hG (j := 1) dX0_roomFor_2_1 o2 ?_
  refine x_iload_n dX0_roomFor_2_2 rfl ?_
  refine x_icmp_lt (tgt := 10) dX0_roomFor_2_3 (by decide) (fun c3 => ?_) (fun c3 => ?_)
  · replace h := h.1 c3
    refine x_iload_n dX0_roomFor_2_10 rfl ?_
    refine x_iconst_ (v := (2 : Int32)) dX0_roomFor_2_11 (by decide) ?_
    refine x_aload_n dX0_roomFor_2_12 rfl ?_
    refine x_alen hG (j := 1) dX0_roomFor_2_13 o2 ?_
    refine x_imul dX0_roomFor_2_14 ?_
    refine x_callS hG (Ky := kJ11_max) (As := [.int n, .int ((2 : Int32) * (nI (A.ln b1)))]) dX0_roomFor_2_15 lk_X0_3 me_J11_max st_J11_max rfl rfl (Nat.le_of_ble_eq_true rfl) (MX.post (m_J11_max hG) ?_)
    rintro _ _ ⟨rfl, rfl⟩
    change X _ _ _ _ _ _ _ (.int (f_J11_max n ((2 : Int32) * (nI (A.ln b1)))) :: _)
    obtain ⟨o3, h⟩ := h
    refine z_newa hG (j := 1) dX0_roomFor_2_18 (by decide) rfl o3 q599 (fun A4 e4 w4 => ?_)
    replace h := h A4 e4
    exact x_aret (r := (some A.n)) dX0_roomFor_2_20 rfl (Or.inr ⟨_, rfl⟩) ⟨_, rfl, h⟩
  · replace h := h.2 c3
    refine x_aload_n dX0_roomFor_2_6 rfl ?_
    refine x_goto (tgt := 20) dX0_roomFor_2_7 (by decide) ?_
    exact x_aret (r := (some b1)) dX0_roomFor_2_20 rfl (Or.inr ⟨_, rfl⟩) ⟨_, rfl, h⟩
def w_X0_roomFor_3 (G : xG) (r : Option Nat) (n : Int32) (Q : Option Nat → xA → Prop) (A : xA) : Prop := xok G A → ∃ b1 : Nat, r = some b1 ∧ (A.tg b1 = 203 ∧ ((((nI (A.ln b1)) < n → rmA G A (f_J11_max n ((2 : Int32) * (nI (A.ln b1)))) ∧ (∀ A4 : xA, A4 = A.new 203 (ix (f_J11_max n ((2 : Int32) * (nI (A.ln b1))))) (ix (f_J11_max n ((2 : Int32) * (nI (A.ln b1))))) 0 → (Q (some A.n) A4))) ∧ (¬ (nI (A.ln b1)) < n → Q (some b1) A))))
theorem m_X0_roomFor_3 (hG : xOK G) (hO : xHO G) {dp : Nat} {r : Option Nat} {n : Int32} {Q : Option Nat → xA → Prop} {A : xA} (h : w_X0_roomFor_3 G r n Q A) : MX G (dp + 1) kX0_roomFor_3 [va_rf r, .int n] A (hR Q) := by
  unfold w_X0_roomFor_3 at h
  refine MX.of rfl (by cases r <;> exact Nat.le_of_ble_eq_true rfl) ?_
  refine X.lvs (lv' := [some (va_rf r), some (.int n)]) (by cases r <;> rfl) ?_
  refine X.xok (fun w0 => ?_)
  replace h := h w0
  refine x_aloadq_n dX0_roomFor_3_0 rfl ?_
  obtain ⟨b1, e1, h⟩ := h
  rw [e1]
  obtain ⟨o2, h⟩ := h
  refine x_alen hG (j := 3) dX0_roomFor_3_1 o2 ?_
  refine x_iload_n dX0_roomFor_3_2 rfl ?_
  refine x_icmp_lt (tgt := 10) dX0_roomFor_3_3 (by decide) (fun c3 => ?_) (fun c3 => ?_)
  · replace h := h.1 c3
    refine x_iload_n dX0_roomFor_3_10 rfl ?_
    refine x_iconst_ (v := (2 : Int32)) dX0_roomFor_3_11 (by decide) ?_
    refine x_aload_n dX0_roomFor_3_12 rfl ?_
    refine x_alen hG (j := 3) dX0_roomFor_3_13 o2 ?_
    refine x_imul dX0_roomFor_3_14 ?_
    refine x_callS hG (Ky := kJ11_max) (As := [.int n, .int ((2 : Int32) * (nI (A.ln b1)))]) dX0_roomFor_3_15 lk_X0_3 me_J11_max st_J11_max rfl rfl (Nat.le_of_ble_eq_true rfl) (MX.post (m_J11_max hG) ?_)
    rintro _ _ ⟨rfl, rfl⟩
    change X _ _ _ _ _ _ _ (.int (f_J11_max n ((2 : Int32) * (nI (A.ln b1)))) :: _)
    obtain ⟨o3, h⟩ := h
    refine z_newa hG (j := 3) dX0_roomFor_3_18 (by decide) rfl o3 q756 (fun A4 e4 w4 => ?_)
    replace h := h A4 e4
    exact x_aret (r := (some A.n)) dX0_roomFor_3_20 rfl (Or.inr ⟨_, rfl⟩) ⟨_, rfl, h⟩
  · replace h := h.2 c3
    refine x_aload_n dX0_roomFor_3_6 rfl ?_
    refine x_goto (tgt := 20) dX0_roomFor_3_7 (by decide) ?_
    exact x_aret (r := (some b1)) dX0_roomFor_3_20 rfl (Or.inr ⟨_, rfl⟩) ⟨_, rfl, h⟩
def w_X0_cut (G : xG) (r : Option Nat) (n : Int32) (Q : xA → Prop) (A : xA) : Prop := xok G A → ∃ L1 : Nat → xA → Prop, (∃ n1 : Nat, L1 n1 A) ∧ (∀ (n1 : Nat) (A1 : xA), L1 n1 A1 → ∃ b3 : Nat, r = some b3 ∧ (A1.tg b3 = 37 ∧ (∃ R2 : Int32 → xA → Prop, w_J5_size G b3 R2 A1 ∧ (∀ (v2 : Int32) (A2 : xA), xok G A2 → R2 v2 A2 → (((v2 ≤ n → Q A2) ∧ (¬ v2 ≤ n → A2.tg b3 = 37 ∧ (∃ R5 : Int32 → xA → Prop, w_J5_size G b3 R5 A2 ∧ (∀ (v5 : Int32) (A5 : xA), xok G A5 → R5 v5 A5 → (A5.tg b3 = 37 ∧ (∃ R7 : Option Nat → xA → Prop, w_J5_remove G b3 (v5 - (1 : Int32)) R7 A5 ∧ (∀ (v7 : Option Nat) (A7 : xA), xok G A7 → R7 v7 A7 → ((∃ q1 : Nat, q1 < n1 ∧ L1 q1 A7))))))))))))))
theorem m_X0_cut (hG : xOK G) (hO : xHO G) {dp : Nat} {r : Option Nat} {n : Int32} {Q : xA → Prop} {A : xA} (h : w_X0_cut G r n Q A) : MX G (dp + 3) kX0_cut [va_rf r, .int n] A (hV Q) := by
  unfold w_X0_cut at h
  refine MX.of rfl (by cases r <;> exact Nat.le_of_ble_eq_true rfl) ?_
  refine X.lvs (lv' := [some (va_rf r), some (.int n)]) (by cases r <;> rfl) ?_
  refine X.xok (fun w0 => ?_)
  replace h := h w0
  obtain ⟨L1, ⟨n1, i1⟩, g1⟩ := h
  have kl1 : ∀ n1 : Nat, ∀ (A1 : xA), L1 n1 A1 → X G (dp + 3) kX0_cut (hV Q) A1 0 [some (va_rf r), some (.int n)] [] := by
    intro n1
    induction n1 using Nat.strongRecOn with
    | ind n1 ih1 =>
      intro A1 h
      replace h := g1 n1 A1 h
      refine x_aloadq_n dX0_cut_0 rfl ?_
      obtain ⟨b3, e3, h⟩ := h
      rw [e3]
      obtain ⟨o4, h⟩ := h
      obtain ⟨R2, g2, h⟩ := h
      refine x_callV hG (Ky := kJ5_size) (As := []) dX0_cut_1 o4 rfl lk_X0_9 me_J5_size is_J5_size se_J5_size rfl rfl (Nat.le_of_ble_eq_true rfl) (MX.post (m_w_J5_size hG hO g2) ?_)
      rintro _ A2 ⟨v2, rfl, h1⟩
      refine X.xok (fun w2 => ?_)
      replace h := h v2 A2 w2 h1
      change X _ _ _ _ A2 _ _ [.int v2]
      refine x_iload_n dX0_cut_4 rfl ?_
      refine x_icmp_le (tgt := 22) dX0_cut_5 (by decide) (fun c5 => ?_) (fun c5 => ?_)
      · replace h := h.1 c5
        exact x_vret dX0_cut_22 rfl ⟨rfl, h⟩
      · replace h := h.2 c5
        refine x_aload_n dX0_cut_8 rfl ?_
        refine x_aload_n dX0_cut_9 rfl ?_
        obtain ⟨o6, h⟩ := h
        obtain ⟨R5, g5, h⟩ := h
        refine x_callV hG (Ky := kJ5_size) (As := []) dX0_cut_10 o6 rfl lk_X0_9 me_J5_size is_J5_size se_J5_size rfl rfl (Nat.le_of_ble_eq_true rfl) (MX.post (m_w_J5_size hG hO g5) ?_)
        rintro _ A5 ⟨v5, rfl, h1⟩
        refine X.xok (fun w5 => ?_)
        replace h := h v5 A5 w5 h1
        change X _ _ _ _ A5 _ _ [.int v5, .ref b3]
        refine x_iconst_ (v := (1 : Int32)) dX0_cut_13 (by decide) ?_
        refine x_isub dX0_cut_14 ?_
        obtain ⟨o8, h⟩ := h
        obtain ⟨R7, g7, h⟩ := h
        refine x_callV hG (Ky := kJ5_remove) (As := [.int (v5 - (1 : Int32))]) dX0_cut_15 o8 rfl lk_X0_15 me_J5_remove is_J5_remove se_J5_remove rfl rfl (Nat.le_of_ble_eq_true rfl) (MX.post (m_w_J5_remove hG hO g7) ?_)
        rintro _ A7 ⟨v7, rfl, h1⟩
        refine X.xok (fun w7 => ?_)
        replace h := h v7 A7 w7 h1
        change X _ _ _ _ A7 _ _ [va_rf v7]
        refine x_pop dX0_cut_18 (va_rf_cat _) ?_
        refine x_goto (tgt := 0) dX0_cut_19 (by decide) ?_
        obtain ⟨q1, l1, h⟩ := h
        change X _ _ _ _ _ _ [some (.ref b3), some (.int n)] []
        exact X.weak (xle_c (congrArg (fun z => some (va_rf z)) e3.symm) (xle_c rfl xle_nil)) (ih1 q1 l1 A7 h)
  change X _ _ _ _ _ _ [some (va_rf r), some (.int n)] []
  exact X.weak (xle_c rfl (xle_c rfl xle_nil)) (kl1 n1 A i1)
end W050
