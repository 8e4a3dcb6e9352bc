/-! ===== 091.hmakeB (tools/h045.py) ===== -/
set_option maxRecDepth 100000
section W091
variable {G : xG}
def xRC_B (G : xG) (D : Nat) (r0 : Nat → Int32 → Int64 → Int64 → Option Nat → Option Nat → (xA → Prop) → xA → Prop) : Prop := (∀ {p : Nat} {a0 : Int32} {a1 : Int64} {a2 : Int64} {a3 : Option Nat} {a4 : Option Nat} {Q : xA → Prop} {A : xA}, r0 p a0 a1 a2 a3 a4 Q A → MX G D kX6_branch [.ref p, .int a0, .long a1, .long a2, va_rf a3, va_rf a4] A (hV Q))
def w_X6_branch (G : xG) (r0 : Nat → Int32 → Int64 → Int64 → Option Nat → Option Nat → (xA → Prop) → xA → Prop) (p : Nat) (t : Int32) (a : Int64) (b : Int64) (y : Option Nat) (n : Option Nat) (Q : xA → Prop) (A : xA) : Prop := xok G A → ((t = (14 : Int32) → A.tg p = 6 ∧ (∃ R1 : xA → Prop, r0 p (13 : Int32) b a y n R1 A ∧ (∀ A1 : xA, xok G A1 → R1 A1 → (Q A1)))) ∧ (¬ t = (14 : Int32) → ((t = (15 : Int32) → A.tg p = 6 ∧ (∃ R13 : xA → Prop, r0 p (16 : Int32) b a y n R13 A ∧ (∀ A13 : xA, xok G A13 → R13 A13 → (Q A13)))) ∧ (¬ t = (15 : Int32) → A.tg p = 6 ∧ (∃ b4 : Nat, (A.P p 10) = some b4 ∧ (A.tg b4 = 35 ∧ ((((A.I b4 1) = 0 → ∃ R6 : xA → Prop, w_X36_ends G b4 (2 : Int32) a y R6 A ∧ (∀ A6 : xA, xok G A6 → R6 A6 → (A6.tg p = 6 ∧ (∃ b8 : Nat, (A6.P p 10) = some b8 ∧ (A6.tg b8 = 35 ∧ (∀ A10 : xA, A10 = A6.setI b8 2 t → (∀ A11 : xA, A11 = A10.setL b8 4 b → (∀ A12 : xA, A12 = A11.setP b8 6 n → (Q A12))))))))) ∧ (¬ (A.I b4 1) = 0 → Q A)))))))))
theorem m_X6_branch (hG : xOK G) (hO : xHO G) {dp : Nat} {r0 : Nat → Int32 → Int64 → Int64 → Option Nat → Option Nat → (xA → Prop) → xA → Prop} (hK : xRC_B G (dp + 12) r0) {p : Nat} {t : Int32} {a : Int64} {b : Int64} {y : Option Nat} {n : Option Nat} {Q : xA → Prop} {A : xA} (h : w_X6_branch G r0 p t a b y n Q A) : MX G (dp + 13) kX6_branch [.ref p, .int t, .long a, .long b, va_rf y, va_rf n] A (hV Q) := by
  unfold w_X6_branch at h
  refine MX.of rfl (by cases y <;> cases n <;> exact Nat.le_of_ble_eq_true rfl) ?_
  refine X.lvs (lv' := [some (.ref p), some (.int t), some (.long a), none, some (.long b), none, some (va_rf y), some (va_rf n)]) (by cases y <;> cases n <;> rfl) ?_
  refine X.xok (fun w0 => ?_)
  replace h := h w0
  refine x_iload_n dX6_branch_0 rfl ?_
  refine x_bipush_ (v := (14 : Int32)) dX6_branch_1 (by decide) ?_
  refine x_icmp_eq (tgt := 12) dX6_branch_3 (by decide) (fun c3 => ?_) (fun c3 => ?_)
  · replace h := h.1 c3
    refine x_aload_n dX6_branch_12 rfl ?_
    refine x_iload_n dX6_branch_13 rfl ?_
    refine x_bipush_ (v := (14 : Int32)) dX6_branch_14 (by decide) ?_
    refine x_icmp_ne (tgt := 24) dX6_branch_16 (by decide) (fun h => absurd c3 h) (fun _ => ?_)
    refine x_bipush_ (v := (13 : Int32)) dX6_branch_19 (by decide) ?_
    refine x_goto (tgt := 26) dX6_branch_21 (by decide) ?_
    refine x_lload dX6_branch_26 rfl ?_
    refine x_lload_n dX6_branch_28 rfl ?_
    refine x_aloadq dX6_branch_29 rfl ?_
    refine x_aloadq dX6_branch_31 rfl ?_
    obtain ⟨o2, h⟩ := h
    obtain ⟨R1, g1, h⟩ := h
    refine x_callV hG (Ky := kX6_branch) (As := [.int (13 : Int32), .long b, .long a, va_rf y, va_rf n]) dX6_branch_33 o2 rfl lk_X6_349 me_X6_branch is_X6_branch se_X6_branch rfl rfl (Nat.le_of_ble_eq_true rfl) (MX.post (hK g1) ?_)
    rintro _ A1 ⟨rfl, h1⟩
    refine X.xok (fun w1 => ?_)
    replace h := h A1 w1 h1
    change X _ _ _ _ A1 _ _ []
    exact x_vret dX6_branch_36 rfl ⟨rfl, h⟩
  · replace h := h.2 c3
    refine x_iload_n dX6_branch_6 rfl ?_
    refine x_bipush_ (v := (15 : Int32)) dX6_branch_7 (by decide) ?_
    refine x_icmp_ne (tgt := 37) dX6_branch_9 (by decide) (fun c9 => ?_) (fun c9 => ?_)
    · replace h := h.2 c9
      refine x_aload_n dX6_branch_37 rfl ?_
      obtain ⟨o3, h⟩ := h
      refine x_get (v := va_rf (A.P p 10)) hG dX6_branch_38 f_X6_224_5 o3 rfl ?_
      obtain ⟨b4, e4, h⟩ := h
      rw [e4]
      obtain ⟨o5, h⟩ := h
      refine x_get (v := .int (A.I b4 1)) hG dX6_branch_41 f_X6_227_34 o5 rfl ?_
      refine x_if_eq (tgt := 48) dX6_branch_44 (by decide) (fun c44 => ?_) (fun c44 => ?_)
      · replace h := h.1 c44
        refine x_aload_n dX6_branch_48 rfl ?_
        refine x_get (v := .ref b4) hG dX6_branch_49 f_X6_224_5 o3 (congrArg va_rf e4) ?_
        refine x_iconst_ (v := (2 : Int32)) dX6_branch_52 (by decide) ?_
        refine x_lload_n dX6_branch_53 rfl ?_
        refine x_aloadq dX6_branch_54 rfl ?_
        obtain ⟨R6, g6, h⟩ := h
        refine x_callV hG (Ky := kX36_ends) (As := [.int (2 : Int32), .long a, va_rf y]) dX6_branch_56 o5 rfl lk_X6_235 me_X36_ends is_X36_ends se_X36_ends rfl rfl (Nat.le_of_ble_eq_true rfl) (MX.post (m_X36_ends hG hO g6) ?_)
        rintro _ A6 ⟨rfl, h1⟩
        refine X.xok (fun w6 => ?_)
        replace h := h A6 w6 h1
        change X _ _ _ _ A6 _ _ []
        refine x_aload_n dX6_branch_59 rfl ?_
        obtain ⟨o7, h⟩ := h
        refine x_get (v := va_rf (A6.P p 10)) hG dX6_branch_60 f_X6_224_5 o7 rfl ?_
        refine x_iload_n dX6_branch_63 rfl ?_
        obtain ⟨b8, e8, h⟩ := h
        rw [e8]
        obtain ⟨o9, h⟩ := h
        refine z_putI hG hO.1 dX6_branch_64 f_X6_353_34 ⟨_, rfl, Or.inl rfl⟩ o9 (by decide) rfl rfl ⟨_, rfl⟩ (fun A10 e10 => ?_)
        replace h := h A10 e10
        refine x_aload_n dX6_branch_67 rfl ?_
        refine x_get (v := .ref b8) hG dX6_branch_68 f_X6_224_5 (kI e10 o7) (congrArg va_rf ((sI_P e10).trans e8)) ?_
        refine x_lload dX6_branch_71 rfl ?_
        refine z_putL hG hO.1 dX6_branch_73 f_X6_355_34 ⟨_, rfl, Or.inl rfl⟩ (kI e10 o9) (by decide) rfl rfl ⟨_, rfl⟩ (fun A11 e11 => ?_)
        replace h := h A11 e11
        refine x_aload_n dX6_branch_76 rfl ?_
        refine x_get (v := .ref b8) hG dX6_branch_77 f_X6_224_5 (kL e11 (kI e10 o7)) (congrArg va_rf (((sL_P e11).trans (sI_P e10)).trans e8)) ?_
        refine x_aloadq dX6_branch_80 rfl ?_
        refine z_putP hG hO.1 n dX6_branch_82 f_X6_358_34 ⟨_, rfl, Or.inl rfl⟩ (kL e11 (kI e10 o9)) (by decide) (Or.inl ⟨_, rfl⟩) (fun A12 e12 => ?_)
        replace h := h A12 e12
        exact x_vret dX6_branch_85 rfl ⟨rfl, h⟩
      · replace h := h.2 c44
        exact x_vret dX6_branch_47 rfl ⟨rfl, h⟩
    · replace h := h.1 c9
      refine x_aload_n dX6_branch_12 rfl ?_
      refine x_iload_n dX6_branch_13 rfl ?_
      refine x_bipush_ (v := (14 : Int32)) dX6_branch_14 (by decide) ?_
      refine x_icmp_ne (tgt := 24) dX6_branch_16 (by decide) (fun _ => ?_) (fun h => absurd h c3)
      refine x_bipush_ (v := (16 : Int32)) dX6_branch_24 (by decide) ?_
      refine x_lload dX6_branch_26 rfl ?_
      refine x_lload_n dX6_branch_28 rfl ?_
      refine x_aloadq dX6_branch_29 rfl ?_
      refine x_aloadq dX6_branch_31 rfl ?_
      obtain ⟨o14, h⟩ := h
      obtain ⟨R13, g13, h⟩ := h
      refine x_callV hG (Ky := kX6_branch) (As := [.int (16 : Int32), .long b, .long a, va_rf y, va_rf n]) dX6_branch_33 o14 rfl lk_X6_349 me_X6_branch is_X6_branch se_X6_branch rfl rfl (Nat.le_of_ble_eq_true rfl) (MX.post (hK g13) ?_)
      rintro _ A13 ⟨rfl, h1⟩
      refine X.xok (fun w13 => ?_)
      replace h := h A13 w13 h1
      change X _ _ _ _ A13 _ _ []
      exact x_vret dX6_branch_36 rfl ⟨rfl, h⟩
def rk_B (G : xG) : Nat → (Nat → Int32 → Int64 → Int64 → Option Nat → Option Nat → (xA → Prop) → xA → Prop)
  | 0 => (fun _ _ _ _ _ _ _ _ => False)
  | n + 1 => (fun p a0 a1 a2 a3 a4 Q A => w_X6_branch G (rk_B G n) p a0 a1 a2 a3 a4 Q A)
theorem rc_B (hG : xOK G) (hO : xHO G) {dp : Nat} : ∀ n, xRC_B G (dp + n + 12) (rk_B G n)
  | 0 => fun h => False.elim h
  | n + 1 => fun h => m_X6_branch (dp := dp + n) hG hO (rc_B hG hO n) h
def g_B_0 (G : xG) : Nat → Int32 → Int64 → Int64 → Option Nat → Option Nat → (xA → Prop) → xA → Prop := (rk_B G 3)
end W091
