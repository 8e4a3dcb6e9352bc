/-! ===== 090.hmakeA (tools/h045.py) ===== -/
set_option maxRecDepth 100000
section W090
variable {G : xG}
def xRC_A (G : xG) (D : Nat) (r0 : Nat → Int32 → Int64 → Int64 → (Int64 → xA → Prop) → xA → Prop) : Prop := (∀ {p : Nat} {a0 : Int32} {a1 : Int64} {a2 : Int64} {Q : Int64 → xA → Prop} {A : xA}, r0 p a0 a1 a2 Q A → MX G D kX6_act [.ref p, .int a0, .long a1, .long a2] A (hL Q))
def w_X6_act (G : xG) (r0 : Nat → Int32 → Int64 → Int64 → (Int64 → xA → Prop) → xA → Prop) (p : Nat) (t : Int32) (a : Int64) (b : Int64) (Q : Int64 → xA → Prop) (A : xA) : Prop := xok G A → ((t = (14 : Int32) → A.tg p = 6 ∧ (∃ R1 : Int64 → xA → Prop, r0 p (13 : Int32) b a R1 A ∧ (∀ (v1 : Int64) (A1 : xA), xok G A1 → R1 v1 A1 → (Q v1 A1)))) ∧ (¬ t = (14 : Int32) → ((t = (15 : Int32) → A.tg p = 6 ∧ (∃ R15 : Int64 → xA → Prop, r0 p (16 : Int32) b a R15 A ∧ (∀ (v15 : Int64) (A15 : xA), xok G A15 → R15 v15 A15 → (Q v15 A15)))) ∧ (¬ t = (15 : Int32) → (((f_X0_isConstant a) = 0 → A.tg p = 6 ∧ (∃ R3 : Int32 → xA → Prop, w_X6_register G p R3 A ∧ (∀ (v3 : Int32) (A3 : xA), xok G A3 → R3 v3 A3 → (A3.tg p = 6 ∧ (∃ R5 : Option Nat → xA → Prop, w_X6_emit G p t v3 a b R5 A3 ∧ (∀ (v5 : Option Nat) (A5 : xA), xok G A5 → R5 v5 A5 → (∃ b7 : Nat, v5 = some b7 ∧ (A5.tg b7 = 36 ∧ (Q (A5.I b7 1).toInt64 A5))))))))) ∧ (¬ (f_X0_isConstant a) = 0 → (((f_X0_isConstant b) = 0 → A.tg p = 6 ∧ (∃ R9 : Int32 → xA → Prop, w_X6_register G p R9 A ∧ (∀ (v9 : Int32) (A9 : xA), xok G A9 → R9 v9 A9 → (A9.tg p = 6 ∧ (∃ R11 : Option Nat → xA → Prop, w_X6_emit G p t v9 a b R11 A9 ∧ (∀ (v11 : Option Nat) (A11 : xA), xok G A11 → R11 v11 A11 → (∃ b13 : Nat, v11 = some b13 ∧ (A11.tg b13 = 36 ∧ (Q (A11.I b13 1).toInt64 A11))))))))) ∧ (¬ (f_X0_isConstant b) = 0 → Q (f_X6_constant (f_X0_done t a.toInt32 b.toInt32)) A))))))))
theorem m_X6_act (hG : xOK G) (hO : xHO G) {dp : Nat} {r0 : Nat → Int32 → Int64 → Int64 → (Int64 → xA → Prop) → xA → Prop} (hK : xRC_A G (dp + 12) r0) {p : Nat} {t : Int32} {a : Int64} {b : Int64} {Q : Int64 → xA → Prop} {A : xA} (h : w_X6_act G r0 p t a b Q A) : MX G (dp + 13) kX6_act [.ref p, .int t, .long a, .long b] A (hL Q) := by
  unfold w_X6_act at h
  refine MX.of rfl (Nat.le_of_ble_eq_true rfl) ?_
  change X _ _ _ _ _ _ [some (.ref p), some (.int t), some (.long a), none, some (.long b), none] _
  refine X.xok (fun w0 => ?_)
  replace h := h w0
  refine x_iload_n dX6_act_0 rfl ?_
  refine x_bipush_ (v := (14 : Int32)) dX6_act_1 (by decide) ?_
  refine x_icmp_eq (tgt := 12) dX6_act_3 (by decide) (fun c3 => ?_) (fun c3 => ?_)
  · replace h := h.1 c3
    refine x_aload_n dX6_act_12 rfl ?_
    refine x_iload_n dX6_act_13 rfl ?_
    refine x_bipush_ (v := (14 : Int32)) dX6_act_14 (by decide) ?_
    refine x_icmp_ne (tgt := 24) dX6_act_16 (by decide) (fun h => absurd c3 h) (fun _ => ?_)
    refine x_bipush_ (v := (13 : Int32)) dX6_act_19 (by decide) ?_
    refine x_goto (tgt := 26) dX6_act_21 (by decide) ?_
    refine x_lload dX6_act_26 rfl ?_
    refine x_lload_n dX6_act_28 rfl ?_
    obtain ⟨o2, h⟩ := h
    obtain ⟨R1, g1, h⟩ := h
    refine x_callV hG (Ky := kX6_act) (As := [.int (13 : Int32), .long b, .long a]) dX6_act_29 o2 rfl lk_X6_299 me_X6_act is_X6_act se_X6_act rfl rfl (Nat.le_of_ble_eq_true rfl) (MX.post (hK g1) ?_)
    rintro _ A1 ⟨v1, rfl, h1⟩
    refine X.xok (fun w1 => ?_)
    replace h := h v1 A1 w1 h1
    change X _ _ _ _ A1 _ _ [.long v1]
    exact x_lret dX6_act_32 rfl ⟨_, rfl, h⟩
  · replace h := h.2 c3
    refine x_iload_n dX6_act_6 rfl ?_
    refine x_bipush_ (v := (15 : Int32)) dX6_act_7 (by decide) ?_
    refine x_icmp_ne (tgt := 33) dX6_act_9 (by decide) (fun c9 => ?_) (fun c9 => ?_)
    · replace h := h.2 c9
      refine x_lload_n dX6_act_33 rfl ?_
      refine x_callS hG (Ky := kX0_isConstant) (As := [.long a]) dX6_act_34 lk_X6_303 me_X0_isConstant st_X0_isConstant rfl rfl (Nat.le_of_ble_eq_true rfl) (MX.post (m_X0_isConstant hG) ?_)
      rintro _ _ ⟨rfl, rfl⟩
      change X _ _ _ _ _ _ _ (.int (f_X0_isConstant a) :: _)
      refine x_if_eq (tgt := 61) dX6_act_37 (by decide) (fun c37 => ?_) (fun c37 => ?_)
      · replace h := h.1 c37
        refine x_aload_n dX6_act_61 rfl ?_
        refine x_iload_n dX6_act_62 rfl ?_
        refine x_aload_n dX6_act_63 rfl ?_
        obtain ⟨o4, h⟩ := h
        obtain ⟨R3, g3, h⟩ := h
        refine x_callV hG (Ky := kX6_register) (As := []) dX6_act_64 o4 rfl lk_X6_254 me_X6_register is_X6_register se_X6_register rfl rfl (Nat.le_of_ble_eq_true rfl) (MX.post (m_X6_register hG hO g3) ?_)
        rintro _ A3 ⟨v3, rfl, h1⟩
        refine X.xok (fun w3 => ?_)
        replace h := h v3 A3 w3 h1
        change X _ _ _ _ A3 _ _ [.int v3, .int t, .ref p]
        refine x_lload_n dX6_act_67 rfl ?_
        refine x_lload dX6_act_68 rfl ?_
        obtain ⟨o6, h⟩ := h
        obtain ⟨R5, g5, h⟩ := h
        refine x_callV hG (Ky := kX6_emit) (As := [.int t, .int v3, .long a, .long b]) dX6_act_70 o6 rfl lk_X6_260 me_X6_emit is_X6_emit se_X6_emit rfl rfl (Nat.le_of_ble_eq_true rfl) (MX.post (m_X6_emit hG hO g5) ?_)
        rintro _ A5 ⟨v5, rfl, h1⟩
        refine X.xok (fun w5 => ?_)
        replace h := h v5 A5 w5 h1
        change X _ _ _ _ A5 _ _ [va_rf v5]
        obtain ⟨b7, e7, h⟩ := h
        rw [e7]
        obtain ⟨o8, h⟩ := h
        refine x_get (v := .int (A5.I b7 1)) hG dX6_act_73 f_X6_311_35 o8 rfl ?_
        refine x_i2l dX6_act_76 ?_
        exact x_lret dX6_act_77 rfl ⟨_, rfl, h⟩
      · replace h := h.2 c37
        refine x_lload dX6_act_40 rfl ?_
        refine x_callS hG (Ky := kX0_isConstant) (As := [.long b]) dX6_act_42 lk_X6_303 me_X0_isConstant st_X0_isConstant rfl rfl (Nat.le_of_ble_eq_true rfl) (MX.post (m_X0_isConstant hG) ?_)
        rintro _ _ ⟨rfl, rfl⟩
        change X _ _ _ _ _ _ _ (.int (f_X0_isConstant b) :: _)
        refine x_if_eq (tgt := 61) dX6_act_45 (by decide) (fun c45 => ?_) (fun c45 => ?_)
        · replace h := h.1 c45
          refine x_aload_n dX6_act_61 rfl ?_
          refine x_iload_n dX6_act_62 rfl ?_
          refine x_aload_n dX6_act_63 rfl ?_
          obtain ⟨o10, h⟩ := h
          obtain ⟨R9, g9, h⟩ := h
          refine x_callV hG (Ky := kX6_register) (As := []) dX6_act_64 o10 rfl lk_X6_254 me_X6_register is_X6_register se_X6_register rfl rfl (Nat.le_of_ble_eq_true rfl) (MX.post (m_X6_register hG hO g9) ?_)
          rintro _ A9 ⟨v9, rfl, h1⟩
          refine X.xok (fun w9 => ?_)
          replace h := h v9 A9 w9 h1
          change X _ _ _ _ A9 _ _ [.int v9, .int t, .ref p]
          refine x_lload_n dX6_act_67 rfl ?_
          refine x_lload dX6_act_68 rfl ?_
          obtain ⟨o12, h⟩ := h
          obtain ⟨R11, g11, h⟩ := h
          refine x_callV hG (Ky := kX6_emit) (As := [.int t, .int v9, .long a, .long b]) dX6_act_70 o12 rfl lk_X6_260 me_X6_emit is_X6_emit se_X6_emit rfl rfl (Nat.le_of_ble_eq_true rfl) (MX.post (m_X6_emit hG hO g11) ?_)
          rintro _ A11 ⟨v11, rfl, h1⟩
          refine X.xok (fun w11 => ?_)
          replace h := h v11 A11 w11 h1
          change X _ _ _ _ A11 _ _ [va_rf v11]
          obtain ⟨b13, e13, h⟩ := h
          rw [e13]
          obtain ⟨o14, h⟩ := h
          refine x_get (v := .int (A11.I b13 1)) hG dX6_act_73 f_X6_311_35 o14 rfl ?_
          refine x_i2l dX6_act_76 ?_
          exact x_lret dX6_act_77 rfl ⟨_, rfl, h⟩
        · replace h := h.2 c45
          refine x_iload_n dX6_act_48 rfl ?_
          refine x_lload_n dX6_act_49 rfl ?_
          refine x_l2i dX6_act_50 ?_
          refine x_lload dX6_act_51 rfl ?_
          refine x_l2i dX6_act_53 ?_
          refine x_callS hG (Ky := kX0_done) (As := [.int t, .int a.toInt32, .int b.toInt32]) dX6_act_54 lk_X6_307 me_X0_done st_X0_done rfl rfl (Nat.le_of_ble_eq_true rfl) (MX.post (m_X0_done hG pp_X0_done) ?_)
          rintro _ _ ⟨rfl, rfl⟩
          change X _ _ _ _ _ _ _ (.int (f_X0_done t a.toInt32 b.toInt32) :: _)
          refine x_callS hG (Ky := kX6_constant) (As := [.int (f_X0_done t a.toInt32 b.toInt32)]) dX6_act_57 lk_X6_232 me_X6_constant st_X6_constant rfl rfl (Nat.le_of_ble_eq_true rfl) (MX.post (m_X6_constant hG) ?_)
          rintro _ _ ⟨rfl, rfl⟩
          change X _ _ _ _ _ _ _ (.long (f_X6_constant (f_X0_done t a.toInt32 b.toInt32)) :: _)
          exact x_lret dX6_act_60 rfl ⟨_, rfl, h⟩
    · replace h := h.1 c9
      refine x_aload_n dX6_act_12 rfl ?_
      refine x_iload_n dX6_act_13 rfl ?_
      refine x_bipush_ (v := (14 : Int32)) dX6_act_14 (by decide) ?_
      refine x_icmp_ne (tgt := 24) dX6_act_16 (by decide) (fun _ => ?_) (fun h => absurd h c3)
      refine x_bipush_ (v := (16 : Int32)) dX6_act_24 (by decide) ?_
      refine x_lload dX6_act_26 rfl ?_
      refine x_lload_n dX6_act_28 rfl ?_
      obtain ⟨o16, h⟩ := h
      obtain ⟨R15, g15, h⟩ := h
      refine x_callV hG (Ky := kX6_act) (As := [.int (16 : Int32), .long b, .long a]) dX6_act_29 o16 rfl lk_X6_299 me_X6_act is_X6_act se_X6_act rfl rfl (Nat.le_of_ble_eq_true rfl) (MX.post (hK g15) ?_)
      rintro _ A15 ⟨v15, rfl, h1⟩
      refine X.xok (fun w15 => ?_)
      replace h := h v15 A15 w15 h1
      change X _ _ _ _ A15 _ _ [.long v15]
      exact x_lret dX6_act_32 rfl ⟨_, rfl, h⟩
def rk_A (G : xG) : Nat → (Nat → Int32 → Int64 → Int64 → (Int64 → xA → Prop) → xA → Prop)
  | 0 => (fun _ _ _ _ _ _ => False)
  | n + 1 => (fun p a0 a1 a2 Q A => w_X6_act G (rk_A G n) p a0 a1 a2 Q A)
theorem rc_A (hG : xOK G) (hO : xHO G) {dp : Nat} : ∀ n, xRC_A G (dp + n + 12) (rk_A G n)
  | 0 => fun h => False.elim h
  | n + 1 => fun h => m_X6_act (dp := dp + n) hG hO (rc_A hG hO n) h
def g_A_0 (G : xG) : Nat → Int32 → Int64 → Int64 → (Int64 → xA → Prop) → xA → Prop := (rk_A G 3)
end W090
