/-! ===== 030.mpure (tools/w030.py) ===== -/
set_option maxRecDepth 100000
section W030
variable {G : xG}
def f_J11_min (a b : Int32) : Int32 := if b < a then b else a
theorem low_bits (b : Int32) : (b.toBitVec.signExtend 64 &&& 4294967295#64).setWidth 32 = b.toBitVec := by
  apply BitVec.eq_of_getLsbD_eq
  intro i hi
  have : (4294967295#64).getLsbD i = true := by
    rw [BitVec.getLsbD_ofNat, show (4294967295 : Nat) = 2 ^ 32 - 1 by decide, Nat.testBit_two_pow_sub_one]
    simp; omega
  have h64 : i < 64 := by omega
  rw [BitVec.getLsbD_setWidth, BitVec.getLsbD_and, this, BitVec.getLsbD_signExtend]
  simp only [hi, h64, decide_true, Bool.true_and, Bool.and_true, if_true]
theorem low_ne {b : Int32} (h : ¬ b = 0) : ¬ (b.toInt64 &&& (4294967295 : Int64)) = 0 := by
  intro e
  apply h
  have e1 := congrArg Int64.toBitVec e
  have e2 : b.toInt64.toBitVec = b.toBitVec.signExtend 64 := rfl
  have e3 : (b.toBitVec.signExtend 64 &&& 4294967295#64) = 0#64 := by rw [← e2]; exact e1
  have e4 := low_bits b
  rw [e3] at e4
  apply Int32.toBitVec_inj.mp
  rw [← e4]
  rfl
def f_X13_isLetter (c : Int32) : Int32 := (if c < (97 : Int32) then (if c < (65 : Int32) then (if c = (95 : Int32) then (1 : Int32) else (0 : Int32)) else (if c ≤ (90 : Int32) then (1 : Int32) else (if c = (95 : Int32) then (1 : Int32) else (0 : Int32)))) else (if c ≤ (122 : Int32) then (1 : Int32) else (if c < (65 : Int32) then (if c = (95 : Int32) then (1 : Int32) else (0 : Int32)) else (if c ≤ (90 : Int32) then (1 : Int32) else (if c = (95 : Int32) then (1 : Int32) else (0 : Int32))))))
theorem m_X13_isLetter (hG : xOK G) {d : Nat} {A : xA} {c : Int32} : MX G (d + 0) kX13_isLetter [.int c] A (xIs (some (.int (f_X13_isLetter c))) A) := by
  refine MX.of rfl (Nat.le_of_ble_eq_true rfl) ?_
  change X _ _ _ _ _ _ [some (.int c)] _
  refine x_iload_n dX13_isLetter_0 rfl ?_
  refine x_bipush_ (v := (97 : Int32)) dX13_isLetter_1 (by decide) ?_
  refine x_via 35 (A' := A) (lv' := [some (.int c)]) (st' := [.int (if c < (97 : Int32) then (if c < (65 : Int32) then (if c = (95 : Int32) then (1 : Int32) else (0 : Int32)) else (if c ≤ (90 : Int32) then (1 : Int32) else (if c = (95 : Int32) then (1 : Int32) else (0 : Int32)))) else (if c ≤ (122 : Int32) then (1 : Int32) else (if c < (65 : Int32) then (if c = (95 : Int32) then (1 : Int32) else (0 : Int32)) else (if c ≤ (90 : Int32) then (1 : Int32) else (if c = (95 : Int32) then (1 : Int32) else (0 : Int32))))))]) ?_ (fun k35 => ?_)
  · refine x_zret dX13_isLetter_35 rfl (by (repeat' split) <;> decide) ?_
    exact ⟨by simp only [f_X13_isLetter], rfl⟩
  · refine x_icmp_lt (tgt := 12) dX13_isLetter_3 (by decide) (fun c3 => ?_) (fun c3 => ?_)
    · refine x_iload_n dX13_isLetter_12 rfl ?_
      refine x_bipush_ (v := (65 : Int32)) dX13_isLetter_13 (by decide) ?_
      refine x_icmp_lt (tgt := 24) dX13_isLetter_15 (by decide) (fun c15 => ?_) (fun c15 => ?_)
      · refine x_iload_n dX13_isLetter_24 rfl ?_
        refine x_bipush_ (v := (95 : Int32)) dX13_isLetter_25 (by decide) ?_
        refine x_icmp_ne (tgt := 34) dX13_isLetter_27 (by decide) (fun c27 => ?_) (fun c27 => ?_)
        · refine x_iconst_ (v := (0 : Int32)) dX13_isLetter_34 (by decide) ?_
          simp only [if_pos c3, if_pos c15, if_neg c27] at k35 ⊢
          first | exact k35 | exact X.weak (by simp [xle]) k35
        · refine x_iconst_ (v := (1 : Int32)) dX13_isLetter_30 (by decide) ?_
          refine x_goto (tgt := 35) dX13_isLetter_31 (by decide) ?_
          simp only [if_pos c3, if_pos c15, if_pos c27] at k35 ⊢
          first | exact k35 | exact X.weak (by simp [xle]) k35
      · refine x_iload_n dX13_isLetter_18 rfl ?_
        refine x_bipush_ (v := (90 : Int32)) dX13_isLetter_19 (by decide) ?_
        refine x_icmp_le (tgt := 30) dX13_isLetter_21 (by decide) (fun c21 => ?_) (fun c21 => ?_)
        · refine x_iconst_ (v := (1 : Int32)) dX13_isLetter_30 (by decide) ?_
          refine x_goto (tgt := 35) dX13_isLetter_31 (by decide) ?_
          simp only [if_pos c3, if_neg c15, if_pos c21] at k35 ⊢
          first | exact k35 | exact X.weak (by simp [xle]) k35
        · refine x_iload_n dX13_isLetter_24 rfl ?_
          refine x_bipush_ (v := (95 : Int32)) dX13_isLetter_25 (by decide) ?_
          refine x_icmp_ne (tgt := 34) dX13_isLetter_27 (by decide) (fun c27 => ?_) (fun c27 => ?_)
          · refine x_iconst_ (v := (0 : Int32)) dX13_isLetter_34 (by decide) ?_
            simp only [if_pos c3, if_neg c15, if_neg c21, if_neg c27] at k35 ⊢
            first | exact k35 | exact X.weak (by simp [xle]) k35
          · refine x_iconst_ (v := (1 : Int32)) dX13_isLetter_30 (by decide) ?_
            refine x_goto (tgt := 35) dX13_isLetter_31 (by decide) ?_
            simp only [if_pos c3, if_neg c15, if_neg c21, if_pos c27] at k35 ⊢
            first | exact k35 | exact X.weak (by simp [xle]) k35
    · refine x_iload_n dX13_isLetter_6 rfl ?_
      refine x_bipush_ (v := (122 : Int32)) dX13_isLetter_7 (by decide) ?_
      refine x_icmp_le (tgt := 30) dX13_isLetter_9 (by decide) (fun c9 => ?_) (fun c9 => ?_)
      · refine x_iconst_ (v := (1 : Int32)) dX13_isLetter_30 (by decide) ?_
        refine x_goto (tgt := 35) dX13_isLetter_31 (by decide) ?_
        simp only [if_neg c3, if_pos c9] at k35 ⊢
        first | exact k35 | exact X.weak (by simp [xle]) k35
      · refine x_iload_n dX13_isLetter_12 rfl ?_
        refine x_bipush_ (v := (65 : Int32)) dX13_isLetter_13 (by decide) ?_
        refine x_icmp_lt (tgt := 24) dX13_isLetter_15 (by decide) (fun c15 => ?_) (fun c15 => ?_)
        · refine x_iload_n dX13_isLetter_24 rfl ?_
          refine x_bipush_ (v := (95 : Int32)) dX13_isLetter_25 (by decide) ?_
          refine x_icmp_ne (tgt := 34) dX13_isLetter_27 (by decide) (fun c27 => ?_) (fun c27 => ?_)
          · refine x_iconst_ (v := (0 : Int32)) dX13_isLetter_34 (by decide) ?_
            simp only [if_neg c3, if_neg c9, if_pos c15, if_neg c27] at k35 ⊢
            first | exact k35 | exact X.weak (by simp [xle]) k35
          · refine x_iconst_ (v := (1 : Int32)) dX13_isLetter_30 (by decide) ?_
            refine x_goto (tgt := 35) dX13_isLetter_31 (by decide) ?_
            simp only [if_neg c3, if_neg c9, if_pos c15, if_pos c27] at k35 ⊢
            first | exact k35 | exact X.weak (by simp [xle]) k35
        · refine x_iload_n dX13_isLetter_18 rfl ?_
          refine x_bipush_ (v := (90 : Int32)) dX13_isLetter_19 (by decide) ?_
          refine x_icmp_le (tgt := 30) dX13_isLetter_21 (by decide) (fun c21 => ?_) (fun c21 => ?_)
          · refine x_iconst_ (v := (1 : Int32)) dX13_isLetter_30 (by decide) ?_
            refine x_goto (tgt := 35) dX13_isLetter_31 (by decide) ?_
            simp only [if_neg c3, if_neg c9, if_neg c15, if_pos c21] at k35 ⊢
            first | exact k35 | exact X.weak (by simp [xle]) k35
          · refine x_iload_n dX13_isLetter_24 rfl ?_
            refine x_bipush_ (v := (95 : Int32)) dX13_isLetter_25 (by decide) ?_
            refine x_icmp_ne (tgt := 34) dX13_isLetter_27 (by decide) (fun c27 => ?_) (fun c27 => ?_)
            · refine x_iconst_ (v := (0 : Int32)) dX13_isLetter_34 (by decide) ?_
              simp only [if_neg c3, if_neg c9, if_neg c15, if_neg c21, if_neg c27] at k35 ⊢
              first | exact k35 | exact X.weak (by simp [xle]) k35
            · refine x_iconst_ (v := (1 : Int32)) dX13_isLetter_30 (by decide) ?_
              refine x_goto (tgt := 35) dX13_isLetter_31 (by decide) ?_
              simp only [if_neg c3, if_neg c9, if_neg c15, if_neg c21, if_pos c27] at k35 ⊢
              first | exact k35 | exact X.weak (by simp [xle]) k35
theorem z_X13_isLetter {c : Int32} : f_X13_isLetter c = 0 ∨ f_X13_isLetter c = 1 := by
  unfold f_X13_isLetter
  (repeat' split) <;> decide
def f_X13_isDigit (c : Int32) : Int32 := (if c < (48 : Int32) then (0 : Int32) else (if (57 : Int32) < c then (0 : Int32) else (1 : Int32)))
theorem m_X13_isDigit (hG : xOK G) {d : Nat} {A : xA} {c : Int32} : MX G (d + 0) kX13_isDigit [.int c] A (xIs (some (.int (f_X13_isDigit c))) A) := by
  refine MX.of rfl (Nat.le_of_ble_eq_true rfl) ?_
  change X _ _ _ _ _ _ [some (.int c)] _
  refine x_iload_n dX13_isDigit_0 rfl ?_
  refine x_bipush_ (v := (48 : Int32)) dX13_isDigit_1 (by decide) ?_
  refine x_via 17 (A' := A) (lv' := [some (.int c)]) (st' := [.int (if c < (48 : Int32) then (0 : Int32) else (if (57 : Int32) < c then (0 : Int32) else (1 : Int32)))]) ?_ (fun k17 => ?_)
  · refine x_zret dX13_isDigit_17 rfl (by (repeat' split) <;> decide) ?_
    exact ⟨by simp only [f_X13_isDigit], rfl⟩
  · refine x_icmp_lt (tgt := 16) dX13_isDigit_3 (by decide) (fun c3 => ?_) (fun c3 => ?_)
    · refine x_iconst_ (v := (0 : Int32)) dX13_isDigit_16 (by decide) ?_
      simp only [if_pos c3] at k17 ⊢
      first | exact k17 | exact X.weak (by simp [xle]) k17
    · refine x_iload_n dX13_isDigit_6 rfl ?_
      refine x_bipush_ (v := (57 : Int32)) dX13_isDigit_7 (by decide) ?_
      refine x_icmp_gt (tgt := 16) dX13_isDigit_9 (by decide) (fun c9 => ?_) (fun c9 => ?_)
      · refine x_iconst_ (v := (0 : Int32)) dX13_isDigit_16 (by decide) ?_
        simp only [if_neg c3, if_pos c9] at k17 ⊢
        first | exact k17 | exact X.weak (by simp [xle]) k17
      · refine x_iconst_ (v := (1 : Int32)) dX13_isDigit_12 (by decide) ?_
        refine x_goto (tgt := 17) dX13_isDigit_13 (by decide) ?_
        simp only [if_neg c3, if_neg c9] at k17 ⊢
        first | exact k17 | exact X.weak (by simp [xle]) k17
theorem z_X13_isDigit {c : Int32} : f_X13_isDigit c = 0 ∨ f_X13_isDigit c = 1 := by
  unfold f_X13_isDigit
  (repeat' split) <;> decide
def f_X13_isInner (c : Int32) : Int32 := (if (f_X13_isLetter c) = 0 then (if (f_X13_isDigit c) = 0 then (0 : Int32) else (1 : Int32)) else (1 : Int32))
theorem m_X13_isInner (hG : xOK G) {d : Nat} {A : xA} {c : Int32} : MX G (d + 1) kX13_isInner [.int c] A (xIs (some (.int (f_X13_isInner c))) A) := by
  refine MX.of rfl (Nat.le_of_ble_eq_true rfl) ?_
  change X _ _ _ _ _ _ [some (.int c)] _
  refine x_iload_n dX13_isInner_0 rfl ?_
  refine x_callS hG (Ky := kX13_isLetter) (As := [.int c]) dX13_isInner_1 lk_X13_160 me_X13_isLetter st_X13_isLetter rfl rfl (Nat.le_of_ble_eq_true rfl) (MX.post (m_X13_isLetter hG) ?_)
  rintro _ _ ⟨rfl, rfl⟩
  change X _ _ _ _ A _ _ (.int (f_X13_isLetter c) :: _)
  refine x_via 19 (A' := A) (lv' := [some (.int c)]) (st' := [.int (if (f_X13_isLetter c) = 0 then (if (f_X13_isDigit c) = 0 then (0 : Int32) else (1 : Int32)) else (1 : Int32))]) ?_ (fun k19 => ?_)
  · refine x_zret dX13_isInner_19 rfl (by (repeat' split) <;> decide) ?_
    exact ⟨by simp only [f_X13_isInner], rfl⟩
  · refine x_if_ne (tgt := 14) dX13_isInner_4 (by decide) (fun c4 => ?_) (fun c4 => ?_)
    · refine x_iconst_ (v := (1 : Int32)) dX13_isInner_14 (by decide) ?_
      refine x_goto (tgt := 19) dX13_isInner_15 (by decide) ?_
      simp only [if_neg c4] at k19 ⊢
      first | exact k19 | exact X.weak (by simp [xle]) k19
    · refine x_iload_n dX13_isInner_7 rfl ?_
      refine x_callS hG (Ky := kX13_isDigit) (As := [.int c]) dX13_isInner_8 lk_X13_164 me_X13_isDigit st_X13_isDigit rfl rfl (Nat.le_of_ble_eq_true rfl) (MX.post (m_X13_isDigit hG) ?_)
      rintro _ _ ⟨rfl, rfl⟩
      change X _ _ _ _ A _ _ (.int (f_X13_isDigit c) :: _)
      refine x_if_eq (tgt := 18) dX13_isInner_11 (by decide) (fun c11 => ?_) (fun c11 => ?_)
      · refine x_iconst_ (v := (0 : Int32)) dX13_isInner_18 (by decide) ?_
        simp only [if_pos c4, if_pos c11] at k19 ⊢
        first | exact k19 | exact X.weak (by simp [xle]) k19
      · refine x_iconst_ (v := (1 : Int32)) dX13_isInner_14 (by decide) ?_
        refine x_goto (tgt := 19) dX13_isInner_15 (by decide) ?_
        simp only [if_pos c4, if_neg c11] at k19 ⊢
        first | exact k19 | exact X.weak (by simp [xle]) k19
theorem z_X13_isInner {c : Int32} : f_X13_isInner c = 0 ∨ f_X13_isInner c = 1 := by
  unfold f_X13_isInner
  (repeat' split) <;> decide
def f_X13_hex (c : Int32) : Int32 := (if (f_X13_isDigit c) = 0 then (if c < (97 : Int32) then (if c < (65 : Int32) then (99 : Int32) else (if (70 : Int32) < c then (99 : Int32) else ((c - (65 : Int32)) + (10 : Int32)))) else (if (102 : Int32) < c then (if c < (65 : Int32) then (99 : Int32) else (if (70 : Int32) < c then (99 : Int32) else ((c - (65 : Int32)) + (10 : Int32)))) else ((c - (97 : Int32)) + (10 : Int32)))) else (c - (48 : Int32)))
theorem m_X13_hex (hG : xOK G) {d : Nat} {A : xA} {c : Int32} : MX G (d + 1) kX13_hex [.int c] A (xIs (some (.int (f_X13_hex c))) A) := by
  refine MX.of rfl (Nat.le_of_ble_eq_true rfl) ?_
  change X _ _ _ _ _ _ [some (.int c)] _
  refine x_iload_n dX13_hex_0 rfl ?_
  refine x_callS hG (Ky := kX13_isDigit) (As := [.int c]) dX13_hex_1 lk_X13_164 me_X13_isDigit st_X13_isDigit rfl rfl (Nat.le_of_ble_eq_true rfl) (MX.post (m_X13_isDigit hG) ?_)
  rintro _ _ ⟨rfl, rfl⟩
  change X _ _ _ _ A _ _ (.int (f_X13_isDigit c) :: _)
  refine x_via 60 (A' := A) (lv' := [some (.int c)]) (st' := [.int (if (f_X13_isDigit c) = 0 then (if c < (97 : Int32) then (if c < (65 : Int32) then (99 : Int32) else (if (70 : Int32) < c then (99 : Int32) else ((c - (65 : Int32)) + (10 : Int32)))) else (if (102 : Int32) < c then (if c < (65 : Int32) then (99 : Int32) else (if (70 : Int32) < c then (99 : Int32) else ((c - (65 : Int32)) + (10 : Int32)))) else ((c - (97 : Int32)) + (10 : Int32)))) else (c - (48 : Int32)))]) ?_ (fun k60 => ?_)
  · refine x_iret dX13_hex_60 rfl ?_
    exact ⟨by simp only [f_X13_hex], rfl⟩
  · refine x_if_eq (tgt := 14) dX13_hex_4 (by decide) (fun c4 => ?_) (fun c4 => ?_)
    · refine x_iload_n dX13_hex_14 rfl ?_
      refine x_bipush_ (v := (97 : Int32)) dX13_hex_15 (by decide) ?_
      refine x_icmp_lt (tgt := 36) dX13_hex_17 (by decide) (fun c17 => ?_) (fun c17 => ?_)
      · refine x_iload_n dX13_hex_36 rfl ?_
        refine x_bipush_ (v := (65 : Int32)) dX13_hex_37 (by decide) ?_
        refine x_icmp_lt (tgt := 58) dX13_hex_39 (by decide) (fun c39 => ?_) (fun c39 => ?_)
        · refine x_bipush_ (v := (99 : Int32)) dX13_hex_58 (by decide) ?_
          simp only [if_pos c4, if_pos c17, if_pos c39] at k60 ⊢
          first | exact k60 | exact X.weak (by simp [xle]) k60
        · refine x_iload_n dX13_hex_42 rfl ?_
          refine x_bipush_ (v := (70 : Int32)) dX13_hex_43 (by decide) ?_
          refine x_icmp_gt (tgt := 58) dX13_hex_45 (by decide) (fun c45 => ?_) (fun c45 => ?_)
          · refine x_bipush_ (v := (99 : Int32)) dX13_hex_58 (by decide) ?_
            simp only [if_pos c4, if_pos c17, if_neg c39, if_pos c45] at k60 ⊢
            first | exact k60 | exact X.weak (by simp [xle]) k60
          · refine x_iload_n dX13_hex_48 rfl ?_
            refine x_bipush_ (v := (65 : Int32)) dX13_hex_49 (by decide) ?_
            refine x_isub dX13_hex_51 ?_
            refine x_bipush_ (v := (10 : Int32)) dX13_hex_52 (by decide) ?_
            refine x_iadd dX13_hex_54 ?_
            refine x_goto (tgt := 60) dX13_hex_55 (by decide) ?_
            simp only [if_pos c4, if_pos c17, if_neg c39, if_neg c45] at k60 ⊢
            first | exact k60 | exact X.weak (by simp [xle]) k60
      · refine x_iload_n dX13_hex_20 rfl ?_
        refine x_bipush_ (v := (102 : Int32)) dX13_hex_21 (by decide) ?_
        refine x_icmp_gt (tgt := 36) dX13_hex_23 (by decide) (fun c23 => ?_) (fun c23 => ?_)
        · refine x_iload_n dX13_hex_36 rfl ?_
          refine x_bipush_ (v := (65 : Int32)) dX13_hex_37 (by decide) ?_
          refine x_icmp_lt (tgt := 58) dX13_hex_39 (by decide) (fun c39 => ?_) (fun c39 => ?_)
          · refine x_bipush_ (v := (99 : Int32)) dX13_hex_58 (by decide) ?_
            simp only [if_pos c4, if_neg c17, if_pos c23, if_pos c39] at k60 ⊢
            first | exact k60 | exact X.weak (by simp [xle]) k60
          · refine x_iload_n dX13_hex_42 rfl ?_
            refine x_bipush_ (v := (70 : Int32)) dX13_hex_43 (by decide) ?_
            refine x_icmp_gt (tgt := 58) dX13_hex_45 (by decide) (fun c45 => ?_) (fun c45 => ?_)
            · refine x_bipush_ (v := (99 : Int32)) dX13_hex_58 (by decide) ?_
              simp only [if_pos c4, if_neg c17, if_pos c23, if_neg c39, if_pos c45] at k60 ⊢
              first | exact k60 | exact X.weak (by simp [xle]) k60
            · refine x_iload_n dX13_hex_48 rfl ?_
              refine x_bipush_ (v := (65 : Int32)) dX13_hex_49 (by decide) ?_
              refine x_isub dX13_hex_51 ?_
              refine x_bipush_ (v := (10 : Int32)) dX13_hex_52 (by decide) ?_
              refine x_iadd dX13_hex_54 ?_
              refine x_goto (tgt := 60) dX13_hex_55 (by decide) ?_
              simp only [if_pos c4, if_neg c17, if_pos c23, if_neg c39, if_neg c45] at k60 ⊢
              first | exact k60 | exact X.weak (by simp [xle]) k60
        · refine x_iload_n dX13_hex_26 rfl ?_
          refine x_bipush_ (v := (97 : Int32)) dX13_hex_27 (by decide) ?_
          refine x_isub dX13_hex_29 ?_
          refine x_bipush_ (v := (10 : Int32)) dX13_hex_30 (by decide) ?_
          refine x_iadd dX13_hex_32 ?_
          refine x_goto (tgt := 60) dX13_hex_33 (by decide) ?_
          simp only [if_pos c4, if_neg c17, if_neg c23] at k60 ⊢
          first | exact k60 | exact X.weak (by simp [xle]) k60
    · refine x_iload_n dX13_hex_7 rfl ?_
      refine x_bipush_ (v := (48 : Int32)) dX13_hex_8 (by decide) ?_
      refine x_isub dX13_hex_10 ?_
      refine x_goto (tgt := 60) dX13_hex_11 (by decide) ?_
      simp only [if_neg c4] at k60 ⊢
      first | exact k60 | exact X.weak (by simp [xle]) k60
def f_X13_rank (c : Int32) : Int32 := (if c = (7 : Int32) then (11 : Int32) else ((2 : Int32) * c))
theorem m_X13_rank (hG : xOK G) {d : Nat} {A : xA} {c : Int32} : MX G (d + 0) kX13_rank [.int c] A (xIs (some (.int (f_X13_rank c))) A) := by
  refine MX.of rfl (Nat.le_of_ble_eq_true rfl) ?_
  change X _ _ _ _ _ _ [some (.int c)] _
  refine x_iload_n dX13_rank_0 rfl ?_
  refine x_bipush_ (v := (7 : Int32)) dX13_rank_1 (by decide) ?_
  refine x_via 14 (A' := A) (lv' := [some (.int c)]) (st' := [.int (if c = (7 : Int32) then (11 : Int32) else ((2 : Int32) * c))]) ?_ (fun k14 => ?_)
  · refine x_iret dX13_rank_14 rfl ?_
    exact ⟨by simp only [f_X13_rank], rfl⟩
  · refine x_icmp_ne (tgt := 11) dX13_rank_3 (by decide) (fun c3 => ?_) (fun c3 => ?_)
    · refine x_iconst_ (v := (2 : Int32)) dX13_rank_11 (by decide) ?_
      refine x_iload_n dX13_rank_12 rfl ?_
      refine x_imul dX13_rank_13 ?_
      simp only [if_neg c3] at k14 ⊢
      first | exact k14 | exact X.weak (by simp [xle]) k14
    · refine x_bipush_ (v := (11 : Int32)) dX13_rank_6 (by decide) ?_
      refine x_goto (tgt := 14) dX13_rank_8 (by decide) ?_
      simp only [if_pos c3] at k14 ⊢
      first | exact k14 | exact X.weak (by simp [xle]) k14
def f_X13_over (a : Int32) (b : Int32) : Int32 := (if b = 0 then (-1 : Int32) else (if a = (-2147483648 : Int32) then (if b = (-1 : Int32) then a else (a / b)) else (a / b)))
def p_X13_over (a : Int32) (b : Int32) : Prop := (((¬ b = 0 → (((a = (-2147483648 : Int32) → (((¬ b = (-1 : Int32) → ((¬ b = 0)))))) ∧ (¬ a = (-2147483648 : Int32) → ((¬ b = 0))))))))
theorem m_X13_over (hG : xOK G) {d : Nat} {A : xA} {a : Int32} {b : Int32} (h : p_X13_over a b) : MX G (d + 0) kX13_over [.int a, .int b] A (xIs (some (.int (f_X13_over a b))) A) := by
  unfold p_X13_over at h
  refine MX.of rfl (Nat.le_of_ble_eq_true rfl) ?_
  change X _ _ _ _ _ _ [some (.int a), some (.int b)] _
  refine x_iload_n dX13_over_0 rfl ?_
  refine x_via 27 (A' := A) (lv' := [some (.int a), some (.int b)]) (st' := [.int (if b = 0 then (-1 : Int32) else (if a = (-2147483648 : Int32) then (if b = (-1 : Int32) then a else (a / b)) else (a / b)))]) ?_ (fun k27 => ?_)
  · refine x_iret dX13_over_27 rfl ?_
    exact ⟨by simp only [f_X13_over], rfl⟩
  · refine x_if_ne (tgt := 8) dX13_over_1 (by decide) (fun c1 => ?_) (fun c1 => ?_)
    · refine x_iload_n dX13_over_8 rfl ?_
      refine x_ldcw hG dX13_over_9 q3487 ?_
      refine x_icmp_ne (tgt := 24) dX13_over_12 (by decide) (fun c12 => ?_) (fun c12 => ?_)
      · refine x_iload_n dX13_over_24 rfl ?_
        refine x_iload_n dX13_over_25 rfl ?_
        refine x_idiv dX13_over_26 (((h c1).2 c12)) ?_
        simp only [if_neg c1, if_neg c12] at k27 ⊢
        first | exact k27 | exact X.weak (by simp [xle]) k27
      · refine x_iload_n dX13_over_15 rfl ?_
        refine x_iconst_ (v := (-1 : Int32)) dX13_over_16 (by decide) ?_
        refine x_icmp_ne (tgt := 24) dX13_over_17 (by decide) (fun c17 => ?_) (fun c17 => ?_)
        · refine x_iload_n dX13_over_24 rfl ?_
          refine x_iload_n dX13_over_25 rfl ?_
          refine x_idiv dX13_over_26 ((((h c1).1 c12) c17)) ?_
          simp only [if_neg c1, if_pos c12, if_neg c17] at k27 ⊢
          first | exact k27 | exact X.weak (by simp [xle]) k27
        · refine x_iload_n dX13_over_20 rfl ?_
          refine x_goto (tgt := 27) dX13_over_21 (by decide) ?_
          simp only [if_neg c1, if_pos c12, if_pos c17] at k27 ⊢
          first | exact k27 | exact X.weak (by simp [xle]) k27
    · refine x_iconst_ (v := (-1 : Int32)) dX13_over_4 (by decide) ?_
      refine x_goto (tgt := 27) dX13_over_5 (by decide) ?_
      simp only [if_pos c1] at k27 ⊢
      first | exact k27 | exact X.weak (by simp [xle]) k27
theorem pp_X13_over {a : Int32} {b : Int32} : p_X13_over a b := fun h => ⟨fun _ _ => h, fun _ => h⟩
def f_X13_rest (a : Int32) (b : Int32) : Int32 := (if b = 0 then a else (if a = (-2147483648 : Int32) then (if b = (-1 : Int32) then (0 : Int32) else (a - a / b * b)) else (a - a / b * b)))
def p_X13_rest (a : Int32) (b : Int32) : Prop := (((¬ b = 0 → (((a = (-2147483648 : Int32) → (((¬ b = (-1 : Int32) → ((¬ b = 0)))))) ∧ (¬ a = (-2147483648 : Int32) → ((¬ b = 0))))))))
theorem m_X13_rest (hG : xOK G) {d : Nat} {A : xA} {a : Int32} {b : Int32} (h : p_X13_rest a b) : MX G (d + 0) kX13_rest [.int a, .int b] A (xIs (some (.int (f_X13_rest a b))) A) := by
  unfold p_X13_rest at h
  refine MX.of rfl (Nat.le_of_ble_eq_true rfl) ?_
  change X _ _ _ _ _ _ [some (.int a), some (.int b)] _
  refine x_iload_n dX13_rest_0 rfl ?_
  refine x_via 27 (A' := A) (lv' := [some (.int a), some (.int b)]) (st' := [.int (if b = 0 then a else (if a = (-2147483648 : Int32) then (if b = (-1 : Int32) then (0 : Int32) else (a - a / b * b)) else (a - a / b * b)))]) ?_ (fun k27 => ?_)
  · refine x_iret dX13_rest_27 rfl ?_
    exact ⟨by simp only [f_X13_rest], rfl⟩
  · refine x_if_ne (tgt := 8) dX13_rest_1 (by decide) (fun c1 => ?_) (fun c1 => ?_)
    · refine x_iload_n dX13_rest_8 rfl ?_
      refine x_ldcw hG dX13_rest_9 q3487 ?_
      refine x_icmp_ne (tgt := 24) dX13_rest_12 (by decide) (fun c12 => ?_) (fun c12 => ?_)
      · refine x_iload_n dX13_rest_24 rfl ?_
        refine x_iload_n dX13_rest_25 rfl ?_
        refine x_irem dX13_rest_26 (((h c1).2 c12)) ?_
        simp only [if_neg c1, if_neg c12] at k27 ⊢
        first | exact k27 | exact X.weak (by simp [xle]) k27
      · refine x_iload_n dX13_rest_15 rfl ?_
        refine x_iconst_ (v := (-1 : Int32)) dX13_rest_16 (by decide) ?_
        refine x_icmp_ne (tgt := 24) dX13_rest_17 (by decide) (fun c17 => ?_) (fun c17 => ?_)
        · refine x_iload_n dX13_rest_24 rfl ?_
          refine x_iload_n dX13_rest_25 rfl ?_
          refine x_irem dX13_rest_26 ((((h c1).1 c12) c17)) ?_
          simp only [if_neg c1, if_pos c12, if_neg c17] at k27 ⊢
          first | exact k27 | exact X.weak (by simp [xle]) k27
        · refine x_iconst_ (v := (0 : Int32)) dX13_rest_20 (by decide) ?_
          refine x_goto (tgt := 27) dX13_rest_21 (by decide) ?_
          simp only [if_neg c1, if_pos c12, if_pos c17] at k27 ⊢
          first | exact k27 | exact X.weak (by simp [xle]) k27
    · refine x_iload_n dX13_rest_4 rfl ?_
      refine x_goto (tgt := 27) dX13_rest_5 (by decide) ?_
      simp only [if_pos c1] at k27 ⊢
      first | exact k27 | exact X.weak (by simp [xle]) k27
theorem pp_X13_rest {a : Int32} {b : Int32} : p_X13_rest a b := fun h => ⟨fun _ _ => h, fun _ => h⟩
def f_X13_doing (s : Int32) (a : Int32) (b : Int32) : Int32 := (if s = (1 : Int32) then (jiushr a (b &&& (31 : Int32))) else (if s = (2 : Int32) then (f_X13_rest a b) else (if s = (3 : Int32) then (f_X13_rest a b) else (if s = (4 : Int32) then (f_X13_rest a b) else (if s = (5 : Int32) then (f_X13_rest a b) else (if s = (6 : Int32) then (f_X13_rest a b) else (if s = (7 : Int32) then (f_X13_rest a b) else (if s = (8 : Int32) then (f_X13_rest a b) else (if s = (9 : Int32) then (f_X13_rest a b) else (if s = (10 : Int32) then (f_X13_rest a b) else (if s = (11 : Int32) then (f_X13_rest a b) else (if s = (12 : Int32) then (f_X13_rest a b) else (if s = (13 : Int32) then (f_X13_rest a b) else (if s = (14 : Int32) then (f_X13_rest a b) else (if s = (15 : Int32) then (f_X13_rest a b) else (if s = (16 : Int32) then (if a = b then (1 : Int32) else (0 : Int32)) else (if s = (17 : Int32) then (if a = b then (0 : Int32) else (1 : Int32)) else (if s = (18 : Int32) then (if b < a then (0 : Int32) else (1 : Int32)) else (if s = (19 : Int32) then (if a < b then (0 : Int32) else (1 : Int32)) else (if s = (20 : Int32) then (jishl a (b &&& (31 : Int32))) else (if s = (21 : Int32) then (jishr a (b &&& (31 : Int32))) else (if s = (22 : Int32) then (f_X13_rest a b) else (if s = (23 : Int32) then (f_X13_rest a b) else (if s = (24 : Int32) then (f_X13_rest a b) else (if s = (25 : Int32) then (f_X13_rest a b) else (if s = (26 : Int32) then (f_X13_rest a b) else (if s = (27 : Int32) then (f_X13_rest a b) else (if s = (28 : Int32) then (f_X13_rest a b) else (if s = (29 : Int32) then (f_X13_rest a b) else (if s = (30 : Int32) then (f_X13_rest a b) else (if s = (31 : Int32) then (f_X13_rest a b) else (if s = (32 : Int32) then (f_X13_rest a b) else (if s = (33 : Int32) then (a ||| b) else (if s = (34 : Int32) then (a ^^^ b) else (if s = (35 : Int32) then (a &&& b) else (if s = (36 : Int32) then (if b ≤ a then (0 : Int32) else (1 : Int32)) else (if s = (37 : Int32) then (if a ≤ b then (0 : Int32) else (1 : Int32)) else (if s = (38 : Int32) then (a + b) else (if s = (39 : Int32) then (a - b) else (if s = (40 : Int32) then (a * b) else (if s = (41 : Int32) then (f_X13_over a b) else (f_X13_rest a b))))))))))))))))))))))))))))))))))))))))))
def p_X13_doing (s : Int32) (a : Int32) (b : Int32) : Prop := (((¬ s = (1 : Int32) → (((s = (2 : Int32) → ((p_X13_rest a b))) ∧ (¬ s = (2 : Int32) → (((s = (3 : Int32) → ((p_X13_rest a b))) ∧ (¬ s = (3 : Int32) → (((s = (4 : Int32) → ((p_X13_rest a b))) ∧ (¬ s = (4 : Int32) → (((s = (5 : Int32) → ((p_X13_rest a b))) ∧ (¬ s = (5 : Int32) → (((s = (6 : Int32) → ((p_X13_rest a b))) ∧ (¬ s = (6 : Int32) → (((s = (7 : Int32) → ((p_X13_rest a b))) ∧ (¬ s = (7 : Int32) → (((s = (8 : Int32) → ((p_X13_rest a b))) ∧ (¬ s = (8 : Int32) → (((s = (9 : Int32) → ((p_X13_rest a b))) ∧ (¬ s = (9 : Int32) → (((s = (10 : Int32) → ((p_X13_rest a b))) ∧ (¬ s = (10 : Int32) → (((s = (11 : Int32) → ((p_X13_rest a b))) ∧ (¬ s = (11 : Int32) → (((s = (12 : Int32) → ((p_X13_rest a b))) ∧ (¬ s = (12 : Int32) → (((s = (13 : Int32) → ((p_X13_rest a b))) ∧ (¬ s = (13 : Int32) → (((s = (14 : Int32) → ((p_X13_rest a b))) ∧ (¬ s = (14 : Int32) → (((s = (15 : Int32) → ((p_X13_rest a b))) ∧ (¬ s = (15 : Int32) → (((¬ s = (16 : Int32) → (((¬ s = (17 : Int32) → (((¬ s = (18 : Int32) → (((¬ s = (19 : Int32) → (((¬ s = (20 : Int32) → (((¬ s = (21 : Int32) → (((s = (22 : Int32) → ((p_X13_rest a b))) ∧ (¬ s = (22 : Int32) → (((s = (23 : Int32) → ((p_X13_rest a b))) ∧ (¬ s = (23 : Int32) → (((s = (24 : Int32) → ((p_X13_rest a b))) ∧ (¬ s = (24 : Int32) → (((s = (25 : Int32) → ((p_X13_rest a b))) ∧ (¬ s = (25 : Int32) → (((s = (26 : Int32) → ((p_X13_rest a b))) ∧ (¬ s = (26 : Int32) → (((s = (27 : Int32) → ((p_X13_rest a b))) ∧ (¬ s = (27 : Int32) → (((s = (28 : Int32) → ((p_X13_rest a b))) ∧ (¬ s = (28 : Int32) → (((s = (29 : Int32) → ((p_X13_rest a b))) ∧ (¬ s = (29 : Int32) → (((s = (30 : Int32) → ((p_X13_rest a b))) ∧ (¬ s = (30 : Int32) → (((s = (31 : Int32) → ((p_X13_rest a b))) ∧ (¬ s = (31 : Int32) → (((s = (32 : Int32) → ((p_X13_rest a b))) ∧ (¬ s = (32 : Int32) → (((¬ s = (33 : Int32) → (((¬ s = (34 : Int32) → (((¬ s = (35 : Int32) → (((¬ s = (36 : Int32) → (((¬ s = (37 : Int32) → (((¬ s = (38 : Int32) → (((¬ s = (39 : Int32) → (((¬ s = (40 : Int32) → (((s = (41 : Int32) → ((p_X13_over a b))) ∧ (¬ s = (41 : Int32) → ((p_X13_rest a b)))))))))))))))))))))))))))))))))))))))))))))))))))))))))))))))))))))))))))))))))))))))))))))))))))))))))))))))))))))))))))))
theorem m_X13_doing (hG : xOK G) {d : Nat} {A : xA} {s : Int32} {a : Int32} {b : Int32} (h : p_X13_doing s a b) : MX G (d + 1) kX13_doing [.int s, .int a, .int b] A (xIs (some (.int (f_X13_doing s a b))) A) := by
  unfold p_X13_doing at h
  refine MX.of rfl (Nat.le_of_ble_eq_true rfl) ?_
  change X _ _ _ _ _ _ [some (.int s), some (.int a), some (.int b)] _
  refine x_iload_n dX13_doing_0 rfl ?_
  refine x_sw (1 : Int32) (fun s1_0 => ?_) (fun s1_0 => ?_)
  · refine x_tableIn (off := 271) (tgt := 272) dX13_doing_1 (by rw [s1_0]; decide) (by rw [s1_0]; decide) (by rw [s1_0]; rfl) (by decide) ?_
    refine x_iload_n dX13_doing_272 rfl ?_
    refine x_iload_n dX13_doing_273 rfl ?_
    refine x_bipush_ (v := (31 : Int32)) dX13_doing_274 (by decide) ?_
    refine x_iand dX13_doing_276 ?_
    refine x_iushr dX13_doing_277 ?_
    refine x_eqi (v := (jiushr a (b &&& (31 : Int32)))) rfl ?_
    refine x_iret dX13_doing_278 rfl ?_
    exact ⟨by simp only [f_X13_doing, if_pos s1_0], rfl⟩
  refine x_sw (2 : Int32) (fun s1_1 => ?_) (fun s1_1 => ?_)
  · refine x_tableIn (off := 296) (tgt := 297) dX13_doing_1 (by rw [s1_1]; decide) (by rw [s1_1]; decide) (by rw [s1_1]; rfl) (by decide) ?_
    refine x_iload_n dX13_doing_297 rfl ?_
    refine x_iload_n dX13_doing_298 rfl ?_
    refine x_callS hG (Ky := kX13_rest) (As := [.int a, .int b]) dX13_doing_299 lk_X13_494 me_X13_rest st_X13_rest rfl rfl (Nat.le_of_ble_eq_true rfl) (MX.post (m_X13_rest hG (((h s1_0).1 s1_1))) ?_)
    rintro _ _ ⟨rfl, rfl⟩
    change X _ _ _ _ A _ _ (.int (f_X13_rest a b) :: _)
    refine x_iret dX13_doing_302 rfl ?_
    exact ⟨by simp only [f_X13_doing, if_neg s1_0, if_pos s1_1], rfl⟩
  refine x_sw (3 : Int32) (fun s1_2 => ?_) (fun s1_2 => ?_)
  · refine x_tableIn (off := 296) (tgt := 297) dX13_doing_1 (by rw [s1_2]; decide) (by rw [s1_2]; decide) (by rw [s1_2]; rfl) (by decide) ?_
    refine x_iload_n dX13_doing_297 rfl ?_
    refine x_iload_n dX13_doing_298 rfl ?_
    refine x_callS hG (Ky := kX13_rest) (As := [.int a, .int b]) dX13_doing_299 lk_X13_494 me_X13_rest st_X13_rest rfl rfl (Nat.le_of_ble_eq_true rfl) (MX.post (m_X13_rest hG ((((h s1_0).2 s1_1).1 s1_2))) ?_)
    rintro _ _ ⟨rfl, rfl⟩
    change X _ _ _ _ A _ _ (.int (f_X13_rest a b) :: _)
    refine x_iret dX13_doing_302 rfl ?_
    exact ⟨by simp only [f_X13_doing, if_neg s1_0, if_neg s1_1, if_pos s1_2], rfl⟩
  refine x_sw (4 : Int32) (fun s1_3 => ?_) (fun s1_3 => ?_)
  · refine x_tableIn (off := 296) (tgt := 297) dX13_doing_1 (by rw [s1_3]; decide) (by rw [s1_3]; decide) (by rw [s1_3]; rfl) (by decide) ?_
    refine x_iload_n dX13_doing_297 rfl ?_
    refine x_iload_n dX13_doing_298 rfl ?_
    refine x_callS hG (Ky := kX13_rest) (As := [.int a, .int b]) dX13_doing_299 lk_X13_494 me_X13_rest st_X13_rest rfl rfl (Nat.le_of_ble_eq_true rfl) (MX.post (m_X13_rest hG (((((h s1_0).2 s1_1).2 s1_2).1 s1_3))) ?_)
    rintro _ _ ⟨rfl, rfl⟩
    change X _ _ _ _ A _ _ (.int (f_X13_rest a b) :: _)
    refine x_iret dX13_doing_302 rfl ?_
    exact ⟨by simp only [f_X13_doing, if_neg s1_0, if_neg s1_1, if_neg s1_2, if_pos s1_3], rfl⟩
  refine x_sw (5 : Int32) (fun s1_4 => ?_) (fun s1_4 => ?_)
  · refine x_tableIn (off := 296) (tgt := 297) dX13_doing_1 (by rw [s1_4]; decide) (by rw [s1_4]; decide) (by rw [s1_4]; rfl) (by decide) ?_
    refine x_iload_n dX13_doing_297 rfl ?_
    refine x_iload_n dX13_doing_298 rfl ?_
    refine x_callS hG (Ky := kX13_rest) (As := [.int a, .int b]) dX13_doing_299 lk_X13_494 me_X13_rest st_X13_rest rfl rfl (Nat.le_of_ble_eq_true rfl) (MX.post (m_X13_rest hG ((((((h s1_0).2 s1_1).2 s1_2).2 s1_3).1 s1_4))) ?_)
    rintro _ _ ⟨rfl, rfl⟩
    change X _ _ _ _ A _ _ (.int (f_X13_rest a b) :: _)
    refine x_iret dX13_doing_302 rfl ?_
    exact ⟨by simp only [f_X13_doing, if_neg s1_0, if_neg s1_1, if_neg s1_2, if_neg s1_3, if_pos s1_4], rfl⟩
  refine x_sw (6 : Int32) (fun s1_5 => ?_) (fun s1_5 => ?_)
  · refine x_tableIn (off := 296) (tgt := 297) dX13_doing_1 (by rw [s1_5]; decide) (by rw [s1_5]; decide) (by rw [s1_5]; rfl) (by decide) ?_
    refine x_iload_n dX13_doing_297 rfl ?_
    refine x_iload_n dX13_doing_298 rfl ?_
    refine x_callS hG (Ky := kX13_rest) (As := [.int a, .int b]) dX13_doing_299 lk_X13_494 me_X13_rest st_X13_rest rfl rfl (Nat.le_of_ble_eq_true rfl) (MX.post (m_X13_rest hG (((((((h s1_0).2 s1_1).2 s1_2).2 s1_3).2 s1_4).1 s1_5))) ?_)
    rintro _ _ ⟨rfl, rfl⟩
    change X _ _ _ _ A _ _ (.int (f_X13_rest a b) :: _)
    refine x_iret dX13_doing_302 rfl ?_
    exact ⟨by simp only [f_X13_doing, if_neg s1_0, if_neg s1_1, if_neg s1_2, if_neg s1_3, if_neg s1_4, if_pos s1_5], rfl⟩
  refine x_sw (7 : Int32) (fun s1_6 => ?_) (fun s1_6 => ?_)
  · refine x_tableIn (off := 296) (tgt := 297) dX13_doing_1 (by rw [s1_6]; decide) (by rw [s1_6]; decide) (by rw [s1_6]; rfl) (by decide) ?_
    refine x_iload_n dX13_doing_297 rfl ?_
    refine x_iload_n dX13_doing_298 rfl ?_
    refine x_callS hG (Ky := kX13_rest) (As := [.int a, .int b]) dX13_doing_299 lk_X13_494 me_X13_rest st_X13_rest rfl rfl (Nat.le_of_ble_eq_true rfl) (MX.post (m_X13_rest hG ((((((((h s1_0).2 s1_1).2 s1_2).2 s1_3).2 s1_4).2 s1_5).1 s1_6))) ?_)
    rintro _ _ ⟨rfl, rfl⟩
    change X _ _ _ _ A _ _ (.int (f_X13_rest a b) :: _)
    refine x_iret dX13_doing_302 rfl ?_
    exact ⟨by simp only [f_X13_doing, if_neg s1_0, if_neg s1_1, if_neg s1_2, if_neg s1_3, if_neg s1_4, if_neg s1_5, if_pos s1_6], rfl⟩
  refine x_sw (8 : Int32) (fun s1_7 => ?_) (fun s1_7 => ?_)
  · refine x_tableIn (off := 296) (tgt := 297) dX13_doing_1 (by rw [s1_7]; decide) (by rw [s1_7]; decide) (by rw [s1_7]; rfl) (by decide) ?_
    refine x_iload_n dX13_doing_297 rfl ?_
    refine x_iload_n dX13_doing_298 rfl ?_
    refine x_callS hG (Ky := kX13_rest) (As := [.int a, .int b]) dX13_doing_299 lk_X13_494 me_X13_rest st_X13_rest rfl rfl (Nat.le_of_ble_eq_true rfl) (MX.post (m_X13_rest hG (((((((((h s1_0).2 s1_1).2 s1_2).2 s1_3).2 s1_4).2 s1_5).2 s1_6).1 s1_7))) ?_)
    rintro _ _ ⟨rfl, rfl⟩
    change X _ _ _ _ A _ _ (.int (f_X13_rest a b) :: _)
    refine x_iret dX13_doing_302 rfl ?_
    exact ⟨by simp only [f_X13_doing, if_neg s1_0, if_neg s1_1, if_neg s1_2, if_neg s1_3, if_neg s1_4, if_neg s1_5, if_neg s1_6, if_pos s1_7], rfl⟩
  refine x_sw (9 : Int32) (fun s1_8 => ?_) (fun s1_8 => ?_)
  · refine x_tableIn (off := 296) (tgt := 297) dX13_doing_1 (by rw [s1_8]; decide) (by rw [s1_8]; decide) (by rw [s1_8]; rfl) (by decide) ?_
    refine x_iload_n dX13_doing_297 rfl ?_
    refine x_iload_n dX13_doing_298 rfl ?_
    refine x_callS hG (Ky := kX13_rest) (As := [.int a, .int b]) dX13_doing_299 lk_X13_494 me_X13_rest st_X13_rest rfl rfl (Nat.le_of_ble_eq_true rfl) (MX.post (m_X13_rest hG ((((((((((h s1_0).2 s1_1).2 s1_2).2 s1_3).2 s1_4).2 s1_5).2 s1_6).2 s1_7).1 s1_8))) ?_)
    rintro _ _ ⟨rfl, rfl⟩
    change X _ _ _ _ A _ _ (.int (f_X13_rest a b) :: _)
    refine x_iret dX13_doing_302 rfl ?_
    exact ⟨by simp only [f_X13_doing, if_neg s1_0, if_neg s1_1, if_neg s1_2, if_neg s1_3, if_neg s1_4, if_neg s1_5, if_neg s1_6, if_neg s1_7, if_pos s1_8], rfl⟩
  refine x_sw (10 : Int32) (fun s1_9 => ?_) (fun s1_9 => ?_)
  · refine x_tableIn (off := 296) (tgt := 297) dX13_doing_1 (by rw [s1_9]; decide) (by rw [s1_9]; decide) (by rw [s1_9]; rfl) (by decide) ?_
    refine x_iload_n dX13_doing_297 rfl ?_
    refine x_iload_n dX13_doing_298 rfl ?_
    refine x_callS hG (Ky := kX13_rest) (As := [.int a, .int b]) dX13_doing_299 lk_X13_494 me_X13_rest st_X13_rest rfl rfl (Nat.le_of_ble_eq_true rfl) (MX.post (m_X13_rest hG (((((((((((h s1_0).2 s1_1).2 s1_2).2 s1_3).2 s1_4).2 s1_5).2 s1_6).2 s1_7).2 s1_8).1 s1_9))) ?_)
    rintro _ _ ⟨rfl, rfl⟩
    change X _ _ _ _ A _ _ (.int (f_X13_rest a b) :: _)
    refine x_iret dX13_doing_302 rfl ?_
    exact ⟨by simp only [f_X13_doing, if_neg s1_0, if_neg s1_1, if_neg s1_2, if_neg s1_3, if_neg s1_4, if_neg s1_5, if_neg s1_6, if_neg s1_7, if_neg s1_8, if_pos s1_9], rfl⟩
  refine x_sw (11 : Int32) (fun s1_10 => ?_) (fun s1_10 => ?_)
  · refine x_tableIn (off := 296) (tgt := 297) dX13_doing_1 (by rw [s1_10]; decide) (by rw [s1_10]; decide) (by rw [s1_10]; rfl) (by decide) ?_
    refine x_iload_n dX13_doing_297 rfl ?_
    refine x_iload_n dX13_doing_298 rfl ?_
    refine x_callS hG (Ky := kX13_rest) (As := [.int a, .int b]) dX13_doing_299 lk_X13_494 me_X13_rest st_X13_rest rfl rfl (Nat.le_of_ble_eq_true rfl) (MX.post (m_X13_rest hG ((((((((((((h s1_0).2 s1_1).2 s1_2).2 s1_3).2 s1_4).2 s1_5).2 s1_6).2 s1_7).2 s1_8).2 s1_9).1 s1_10))) ?_)
    rintro _ _ ⟨rfl, rfl⟩
    change X _ _ _ _ A _ _ (.int (f_X13_rest a b) :: _)
    refine x_iret dX13_doing_302 rfl ?_
    exact ⟨by simp only [f_X13_doing, if_neg s1_0, if_neg s1_1, if_neg s1_2, if_neg s1_3, if_neg s1_4, if_neg s1_5, if_neg s1_6, if_neg s1_7, if_neg s1_8, if_neg s1_9, if_pos s1_10], rfl⟩
  refine x_sw (12 : Int32) (fun s1_11 => ?_) (fun s1_11 => ?_)
  · refine x_tableIn (off := 296) (tgt := 297) dX13_doing_1 (by rw [s1_11]; decide) (by rw [s1_11]; decide) (by rw [s1_11]; rfl) (by decide) ?_
    refine x_iload_n dX13_doing_297 rfl ?_
    refine x_iload_n dX13_doing_298 rfl ?_
    refine x_callS hG (Ky := kX13_rest) (As := [.int a, .int b]) dX13_doing_299 lk_X13_494 me_X13_rest st_X13_rest rfl rfl (Nat.le_of_ble_eq_true rfl) (MX.post (m_X13_rest hG (((((((((((((h s1_0).2 s1_1).2 s1_2).2 s1_3).2 s1_4).2 s1_5).2 s1_6).2 s1_7).2 s1_8).2 s1_9).2 s1_10).1 s1_11))) ?_)
    rintro _ _ ⟨rfl, rfl⟩
    change X _ _ _ _ A _ _ (.int (f_X13_rest a b) :: _)
    refine x_iret dX13_doing_302 rfl ?_
    exact ⟨by simp only [f_X13_doing, if_neg s1_0, if_neg s1_1, if_neg s1_2, if_neg s1_3, if_neg s1_4, if_neg s1_5, if_neg s1_6, if_neg s1_7, if_neg s1_8, if_neg s1_9, if_neg s1_10, if_pos s1_11], rfl⟩
  refine x_sw (13 : Int32) (fun s1_12 => ?_) (fun s1_12 => ?_)
  · refine x_tableIn (off := 296) (tgt := 297) dX13_doing_1 (by rw [s1_12]; decide) (by rw [s1_12]; decide) (by rw [s1_12]; rfl) (by decide) ?_
    refine x_iload_n dX13_doing_297 rfl ?_
    refine x_iload_n dX13_doing_298 rfl ?_
    refine x_callS hG (Ky := kX13_rest) (As := [.int a, .int b]) dX13_doing_299 lk_X13_494 me_X13_rest st_X13_rest rfl rfl (Nat.le_of_ble_eq_true rfl) (MX.post (m_X13_rest hG ((((((((((((((h s1_0).2 s1_1).2 s1_2).2 s1_3).2 s1_4).2 s1_5).2 s1_6).2 s1_7).2 s1_8).2 s1_9).2 s1_10).2 s1_11).1 s1_12))) ?_)
    rintro _ _ ⟨rfl, rfl⟩
    change X _ _ _ _ A _ _ (.int (f_X13_rest a b) :: _)
    refine x_iret dX13_doing_302 rfl ?_
    exact ⟨by simp only [f_X13_doing, if_neg s1_0, if_neg s1_1, if_neg s1_2, if_neg s1_3, if_neg s1_4, if_neg s1_5, if_neg s1_6, if_neg s1_7, if_neg s1_8, if_neg s1_9, if_neg s1_10, if_neg s1_11, if_pos s1_12], rfl⟩
  refine x_sw (14 : Int32) (fun s1_13 => ?_) (fun s1_13 => ?_)
  · refine x_tableIn (off := 296) (tgt := 297) dX13_doing_1 (by rw [s1_13]; decide) (by rw [s1_13]; decide) (by rw [s1_13]; rfl) (by decide) ?_
    refine x_iload_n dX13_doing_297 rfl ?_
    refine x_iload_n dX13_doing_298 rfl ?_
    refine x_callS hG (Ky := kX13_rest) (As := [.int a, .int b]) dX13_doing_299 lk_X13_494 me_X13_rest st_X13_rest rfl rfl (Nat.le_of_ble_eq_true rfl) (MX.post (m_X13_rest hG (((((((((((((((h s1_0).2 s1_1).2 s1_2).2 s1_3).2 s1_4).2 s1_5).2 s1_6).2 s1_7).2 s1_8).2 s1_9).2 s1_10).2 s1_11).2 s1_12).1 s1_13))) ?_)
    rintro _ _ ⟨rfl, rfl⟩
    change X _ _ _ _ A _ _ (.int (f_X13_rest a b) :: _)
    refine x_iret dX13_doing_302 rfl ?_
    exact ⟨by simp only [f_X13_doing, if_neg s1_0, if_neg s1_1, if_neg s1_2, if_neg s1_3, if_neg s1_4, if_neg s1_5, if_neg s1_6, if_neg s1_7, if_neg s1_8, if_neg s1_9, if_neg s1_10, if_neg s1_11, if_neg s1_12, if_pos s1_13], rfl⟩
  refine x_sw (15 : Int32) (fun s1_14 => ?_) (fun s1_14 => ?_)
  · refine x_tableIn (off := 296) (tgt := 297) dX13_doing_1 (by rw [s1_14]; decide) (by rw [s1_14]; decide) (by rw [s1_14]; rfl) (by decide) ?_
    refine x_iload_n dX13_doing_297 rfl ?_
    refine x_iload_n dX13_doing_298 rfl ?_
    refine x_callS hG (Ky := kX13_rest) (As := [.int a, .int b]) dX13_doing_299 lk_X13_494 me_X13_rest st_X13_rest rfl rfl (Nat.le_of_ble_eq_true rfl) (MX.post (m_X13_rest hG ((((((((((((((((h s1_0).2 s1_1).2 s1_2).2 s1_3).2 s1_4).2 s1_5).2 s1_6).2 s1_7).2 s1_8).2 s1_9).2 s1_10).2 s1_11).2 s1_12).2 s1_13).1 s1_14))) ?_)
    rintro _ _ ⟨rfl, rfl⟩
    change X _ _ _ _ A _ _ (.int (f_X13_rest a b) :: _)
    refine x_iret dX13_doing_302 rfl ?_
    exact ⟨by simp only [f_X13_doing, if_neg s1_0, if_neg s1_1, if_neg s1_2, if_neg s1_3, if_neg s1_4, if_neg s1_5, if_neg s1_6, if_neg s1_7, if_neg s1_8, if_neg s1_9, if_neg s1_10, if_neg s1_11, if_neg s1_12, if_neg s1_13, if_pos s1_14], rfl⟩
  refine x_sw (16 : Int32) (fun s1_15 => ?_) (fun s1_15 => ?_)
  · refine x_tableIn (off := 191) (tgt := 192) dX13_doing_1 (by rw [s1_15]; decide) (by rw [s1_15]; decide) (by rw [s1_15]; rfl) (by decide) ?_
    refine x_iload_n dX13_doing_192 rfl ?_
    refine x_iload_n dX13_doing_193 rfl ?_
    refine x_via 202 (A' := A) (lv' := [some (.int s), some (.int a), some (.int b)]) (st' := [.int (if a = b then (1 : Int32) else (0 : Int32))]) ?_ (fun k202 => ?_)
    · refine x_iret dX13_doing_202 rfl ?_
      exact ⟨by simp only [f_X13_doing, if_neg s1_0, if_neg s1_1, if_neg s1_2, if_neg s1_3, if_neg s1_4, if_neg s1_5, if_neg s1_6, if_neg s1_7, if_neg s1_8, if_neg s1_9, if_neg s1_10, if_neg s1_11, if_neg s1_12, if_neg s1_13, if_neg s1_14, if_pos s1_15], rfl⟩
    · refine x_icmp_ne (tgt := 201) dX13_doing_194 (by decide) (fun c194 => ?_) (fun c194 => ?_)
      · refine x_iconst_ (v := (0 : Int32)) dX13_doing_201 (by decide) ?_
        simp only [if_neg c194] at k202 ⊢
        first | exact k202 | exact X.weak (by simp [xle]) k202
      · refine x_iconst_ (v := (1 : Int32)) dX13_doing_197 (by decide) ?_
        refine x_goto (tgt := 202) dX13_doing_198 (by decide) ?_
        simp only [if_pos c194] at k202 ⊢
        first | exact k202 | exact X.weak (by simp [xle]) k202
  refine x_sw (17 : Int32) (fun s1_16 => ?_) (fun s1_16 => ?_)
  · refine x_tableIn (off := 202) (tgt := 203) dX13_doing_1 (by rw [s1_16]; decide) (by rw [s1_16]; decide) (by rw [s1_16]; rfl) (by decide) ?_
    refine x_iload_n dX13_doing_203 rfl ?_
    refine x_iload_n dX13_doing_204 rfl ?_
    refine x_via 213 (A' := A) (lv' := [some (.int s), some (.int a), some (.int b)]) (st' := [.int (if a = b then (0 : Int32) else (1 : Int32))]) ?_ (fun k213 => ?_)
    · refine x_iret dX13_doing_213 rfl ?_
      exact ⟨by simp only [f_X13_doing, if_neg s1_0, if_neg s1_1, if_neg s1_2, if_neg s1_3, if_neg s1_4, if_neg s1_5, if_neg s1_6, if_neg s1_7, if_neg s1_8, if_neg s1_9, if_neg s1_10, if_neg s1_11, if_neg s1_12, if_neg s1_13, if_neg s1_14, if_neg s1_15, if_pos s1_16], rfl⟩
    · refine x_icmp_eq (tgt := 212) dX13_doing_205 (by decide) (fun c205 => ?_) (fun c205 => ?_)
      · refine x_iconst_ (v := (0 : Int32)) dX13_doing_212 (by decide) ?_
        simp only [if_pos c205] at k213 ⊢
        first | exact k213 | exact X.weak (by simp [xle]) k213
      · refine x_iconst_ (v := (1 : Int32)) dX13_doing_208 (by decide) ?_
        refine x_goto (tgt := 213) dX13_doing_209 (by decide) ?_
        simp only [if_neg c205] at k213 ⊢
        first | exact k213 | exact X.weak (by simp [xle]) k213
  refine x_sw (18 : Int32) (fun s1_17 => ?_) (fun s1_17 => ?_)
  · refine x_tableIn (off := 224) (tgt := 225) dX13_doing_1 (by rw [s1_17]; decide) (by rw [s1_17]; decide) (by rw [s1_17]; rfl) (by decide) ?_
    refine x_iload_n dX13_doing_225 rfl ?_
    refine x_iload_n dX13_doing_226 rfl ?_
    refine x_via 235 (A' := A) (lv' := [some (.int s), some (.int a), some (.int b)]) (st' := [.int (if b < a then (0 : Int32) else (1 : Int32))]) ?_ (fun k235 => ?_)
    · refine x_iret dX13_doing_235 rfl ?_
      exact ⟨by simp only [f_X13_doing, if_neg s1_0, if_neg s1_1, if_neg s1_2, if_neg s1_3, if_neg s1_4, if_neg s1_5, if_neg s1_6, if_neg s1_7, if_neg s1_8, if_neg s1_9, if_neg s1_10, if_neg s1_11, if_neg s1_12, if_neg s1_13, if_neg s1_14, if_neg s1_15, if_neg s1_16, if_pos s1_17], rfl⟩
    · refine x_icmp_gt (tgt := 234) dX13_doing_227 (by decide) (fun c227 => ?_) (fun c227 => ?_)
      · refine x_iconst_ (v := (0 : Int32)) dX13_doing_234 (by decide) ?_
        simp only [if_pos c227] at k235 ⊢
        first | exact k235 | exact X.weak (by simp [xle]) k235
      · refine x_iconst_ (v := (1 : Int32)) dX13_doing_230 (by decide) ?_
        refine x_goto (tgt := 235) dX13_doing_231 (by decide) ?_
        simp only [if_neg c227] at k235 ⊢
        first | exact k235 | exact X.weak (by simp [xle]) k235
  refine x_sw (19 : Int32) (fun s1_18 => ?_) (fun s1_18 => ?_)
  · refine x_tableIn (off := 246) (tgt := 247) dX13_doing_1 (by rw [s1_18]; decide) (by rw [s1_18]; decide) (by rw [s1_18]; rfl) (by decide) ?_
    refine x_iload_n dX13_doing_247 rfl ?_
    refine x_iload_n dX13_doing_248 rfl ?_
    refine x_via 257 (A' := A) (lv' := [some (.int s), some (.int a), some (.int b)]) (st' := [.int (if a < b then (0 : Int32) else (1 : Int32))]) ?_ (fun k257 => ?_)
    · refine x_iret dX13_doing_257 rfl ?_
      exact ⟨by simp only [f_X13_doing, if_neg s1_0, if_neg s1_1, if_neg s1_2, if_neg s1_3, if_neg s1_4, if_neg s1_5, if_neg s1_6, if_neg s1_7, if_neg s1_8, if_neg s1_9, if_neg s1_10, if_neg s1_11, if_neg s1_12, if_neg s1_13, if_neg s1_14, if_neg s1_15, if_neg s1_16, if_neg s1_17, if_pos s1_18], rfl⟩
    · refine x_icmp_lt (tgt := 256) dX13_doing_249 (by decide) (fun c249 => ?_) (fun c249 => ?_)
      · refine x_iconst_ (v := (0 : Int32)) dX13_doing_256 (by decide) ?_
        simp only [if_pos c249] at k257 ⊢
        first | exact k257 | exact X.weak (by simp [xle]) k257
      · refine x_iconst_ (v := (1 : Int32)) dX13_doing_252 (by decide) ?_
        refine x_goto (tgt := 257) dX13_doing_253 (by decide) ?_
        simp only [if_neg c249] at k257 ⊢
        first | exact k257 | exact X.weak (by simp [xle]) k257
  refine x_sw (20 : Int32) (fun s1_19 => ?_) (fun s1_19 => ?_)
  · refine x_tableIn (off := 257) (tgt := 258) dX13_doing_1 (by rw [s1_19]; decide) (by rw [s1_19]; decide) (by rw [s1_19]; rfl) (by decide) ?_
    refine x_iload_n dX13_doing_258 rfl ?_
    refine x_iload_n dX13_doing_259 rfl ?_
    refine x_bipush_ (v := (31 : Int32)) dX13_doing_260 (by decide) ?_
    refine x_iand dX13_doing_262 ?_
    refine x_ishl dX13_doing_263 ?_
    refine x_eqi (v := (jishl a (b &&& (31 : Int32)))) rfl ?_
    refine x_iret dX13_doing_264 rfl ?_
    exact ⟨by simp only [f_X13_doing, if_neg s1_0, if_neg s1_1, if_neg s1_2, if_neg s1_3, if_neg s1_4, if_neg s1_5, if_neg s1_6, if_neg s1_7, if_neg s1_8, if_neg s1_9, if_neg s1_10, if_neg s1_11, if_neg s1_12, if_neg s1_13, if_neg s1_14, if_neg s1_15, if_neg s1_16, if_neg s1_17, if_neg s1_18, if_pos s1_19], rfl⟩
  refine x_sw (21 : Int32) (fun s1_20 => ?_) (fun s1_20 => ?_)
  · refine x_tableIn (off := 264) (tgt := 265) dX13_doing_1 (by rw [s1_20]; decide) (by rw [s1_20]; decide) (by rw [s1_20]; rfl) (by decide) ?_
    refine x_iload_n dX13_doing_265 rfl ?_
    refine x_iload_n dX13_doing_266 rfl ?_
    refine x_bipush_ (v := (31 : Int32)) dX13_doing_267 (by decide) ?_
    refine x_iand dX13_doing_269 ?_
    refine x_ishr dX13_doing_270 ?_
    refine x_eqi (v := (jishr a (b &&& (31 : Int32)))) rfl ?_
    refine x_iret dX13_doing_271 rfl ?_
    exact ⟨by simp only [f_X13_doing, if_neg s1_0, if_neg s1_1, if_neg s1_2, if_neg s1_3, if_neg s1_4, if_neg s1_5, if_neg s1_6, if_neg s1_7, if_neg s1_8, if_neg s1_9, if_neg s1_10, if_neg s1_11, if_neg s1_12, if_neg s1_13, if_neg s1_14, if_neg s1_15, if_neg s1_16, if_neg s1_17, if_neg s1_18, if_neg s1_19, if_pos s1_20], rfl⟩
  refine x_sw (22 : Int32) (fun s1_21 => ?_) (fun s1_21 => ?_)
  · refine x_tableIn (off := 296) (tgt := 297) dX13_doing_1 (by rw [s1_21]; decide) (by rw [s1_21]; decide) (by rw [s1_21]; rfl) (by decide) ?_
    refine x_iload_n dX13_doing_297 rfl ?_
    refine x_iload_n dX13_doing_298 rfl ?_
    refine x_callS hG (Ky := kX13_rest) (As := [.int a, .int b]) dX13_doing_299 lk_X13_494 me_X13_rest st_X13_rest rfl rfl (Nat.le_of_ble_eq_true rfl) (MX.post (m_X13_rest hG (((((((((((((((((((((((h s1_0).2 s1_1).2 s1_2).2 s1_3).2 s1_4).2 s1_5).2 s1_6).2 s1_7).2 s1_8).2 s1_9).2 s1_10).2 s1_11).2 s1_12).2 s1_13).2 s1_14) s1_15) s1_16) s1_17) s1_18) s1_19) s1_20).1 s1_21))) ?_)
    rintro _ _ ⟨rfl, rfl⟩
    change X _ _ _ _ A _ _ (.int (f_X13_rest a b) :: _)
    refine x_iret dX13_doing_302 rfl ?_
    exact ⟨by simp only [f_X13_doing, if_neg s1_0, if_neg s1_1, if_neg s1_2, if_neg s1_3, if_neg s1_4, if_neg s1_5, if_neg s1_6, if_neg s1_7, if_neg s1_8, if_neg s1_9, if_neg s1_10, if_neg s1_11, if_neg s1_12, if_neg s1_13, if_neg s1_14, if_neg s1_15, if_neg s1_16, if_neg s1_17, if_neg s1_18, if_neg s1_19, if_neg s1_20, if_pos s1_21], rfl⟩
  refine x_sw (23 : Int32) (fun s1_22 => ?_) (fun s1_22 => ?_)
  · refine x_tableIn (off := 296) (tgt := 297) dX13_doing_1 (by rw [s1_22]; decide) (by rw [s1_22]; decide) (by rw [s1_22]; rfl) (by decide) ?_
    refine x_iload_n dX13_doing_297 rfl ?_
    refine x_iload_n dX13_doing_298 rfl ?_
    refine x_callS hG (Ky := kX13_rest) (As := [.int a, .int b]) dX13_doing_299 lk_X13_494 me_X13_rest st_X13_rest rfl rfl (Nat.le_of_ble_eq_true rfl) (MX.post (m_X13_rest hG ((((((((((((((((((((((((h s1_0).2 s1_1).2 s1_2).2 s1_3).2 s1_4).2 s1_5).2 s1_6).2 s1_7).2 s1_8).2 s1_9).2 s1_10).2 s1_11).2 s1_12).2 s1_13).2 s1_14) s1_15) s1_16) s1_17) s1_18) s1_19) s1_20).2 s1_21).1 s1_22))) ?_)
    rintro _ _ ⟨rfl, rfl⟩
    change X _ _ _ _ A _ _ (.int (f_X13_rest a b) :: _)
    refine x_iret dX13_doing_302 rfl ?_
    exact ⟨by simp only [f_X13_doing, if_neg s1_0, if_neg s1_1, if_neg s1_2, if_neg s1_3, if_neg s1_4, if_neg s1_5, if_neg s1_6, if_neg s1_7, if_neg s1_8, if_neg s1_9, if_neg s1_10, if_neg s1_11, if_neg s1_12, if_neg s1_13, if_neg s1_14, if_neg s1_15, if_neg s1_16, if_neg s1_17, if_neg s1_18, if_neg s1_19, if_neg s1_20, if_neg s1_21, if_pos s1_22], rfl⟩
  refine x_sw (24 : Int32) (fun s1_23 => ?_) (fun s1_23 => ?_)
  · refine x_tableIn (off := 296) (tgt := 297) dX13_doing_1 (by rw [s1_23]; decide) (by rw [s1_23]; decide) (by rw [s1_23]; rfl) (by decide) ?_
    refine x_iload_n dX13_doing_297 rfl ?_
    refine x_iload_n dX13_doing_298 rfl ?_
    refine x_callS hG (Ky := kX13_rest) (As := [.int a, .int b]) dX13_doing_299 lk_X13_494 me_X13_rest st_X13_rest rfl rfl (Nat.le_of_ble_eq_true rfl) (MX.post (m_X13_rest hG (((((((((((((((((((((((((h s1_0).2 s1_1).2 s1_2).2 s1_3).2 s1_4).2 s1_5).2 s1_6).2 s1_7).2 s1_8).2 s1_9).2 s1_10).2 s1_11).2 s1_12).2 s1_13).2 s1_14) s1_15) s1_16) s1_17) s1_18) s1_19) s1_20).2 s1_21).2 s1_22).1 s1_23))) ?_)
    rintro _ _ ⟨rfl, rfl⟩
    change X _ _ _ _ A _ _ (.int (f_X13_rest a b) :: _)
    refine x_iret dX13_doing_302 rfl ?_
    exact ⟨by simp only [f_X13_doing, if_neg s1_0, if_neg s1_1, if_neg s1_2, if_neg s1_3, if_neg s1_4, if_neg s1_5, if_neg s1_6, if_neg s1_7, if_neg s1_8, if_neg s1_9, if_neg s1_10, if_neg s1_11, if_neg s1_12, if_neg s1_13, if_neg s1_14, if_neg s1_15, if_neg s1_16, if_neg s1_17, if_neg s1_18, if_neg s1_19, if_neg s1_20, if_neg s1_21, if_neg s1_22, if_pos s1_23], rfl⟩
  refine x_sw (25 : Int32) (fun s1_24 => ?_) (fun s1_24 => ?_)
  · refine x_tableIn (off := 296) (tgt := 297) dX13_doing_1 (by rw [s1_24]; decide) (by rw [s1_24]; decide) (by rw [s1_24]; rfl) (by decide) ?_
    refine x_iload_n dX13_doing_297 rfl ?_
    refine x_iload_n dX13_doing_298 rfl ?_
    refine x_callS hG (Ky := kX13_rest) (As := [.int a, .int b]) dX13_doing_299 lk_X13_494 me_X13_rest st_X13_rest rfl rfl (Nat.le_of_ble_eq_true rfl) (MX.post (m_X13_rest hG ((((((((((((((((((((((((((h s1_0).2 s1_1).2 s1_2).2 s1_3).2 s1_4).2 s1_5).2 s1_6).2 s1_7).2 s1_8).2 s1_9).2 s1_10).2 s1_11).2 s1_12).2 s1_13).2 s1_14) s1_15) s1_16) s1_17) s1_18) s1_19) s1_20).2 s1_21).2 s1_22).2 s1_23).1 s1_24))) ?_)
    rintro _ _ ⟨rfl, rfl⟩
    change X _ _ _ _ A _ _ (.int (f_X13_rest a b) :: _)
    refine x_iret dX13_doing_302 rfl ?_
    exact ⟨by simp only [f_X13_doing, if_neg s1_0, if_neg s1_1, if_neg s1_2, if_neg s1_3, if_neg s1_4, if_neg s1_5, if_neg s1_6, if_neg s1_7, if_neg s1_8, if_neg s1_9, if_neg s1_10, if_neg s1_11, if_neg s1_12, if_neg s1_13, if_neg s1_14, if_neg s1_15, if_neg s1_16, if_neg s1_17, if_neg s1_18, if_neg s1_19, if_neg s1_20, if_neg s1_21, if_neg s1_22, if_neg s1_23, if_pos s1_24], rfl⟩
  refine x_sw (26 : Int32) (fun s1_25 => ?_) (fun s1_25 => ?_)
  · refine x_tableIn (off := 296) (tgt := 297) dX13_doing_1 (by rw [s1_25]; decide) (by rw [s1_25]; decide) (by rw [s1_25]; rfl) (by decide) ?_
    refine x_iload_n dX13_doing_297 rfl ?_
    refine x_iload_n dX13_doing_298 rfl ?_
    refine x_callS hG (Ky := kX13_rest) (As := [.int a, .int b]) dX13_doing_299 lk_X13_494 me_X13_rest st_X13_rest rfl rfl (Nat.le_of_ble_eq_true rfl) (MX.post (m_X13_rest hG (((((((((((((((((((((((((((h s1_0).2 s1_1).2 s1_2).2 s1_3).2 s1_4).2 s1_5).2 s1_6).2 s1_7).2 s1_8).2 s1_9).2 s1_10).2 s1_11).2 s1_12).2 s1_13).2 s1_14) s1_15) s1_16) s1_17) s1_18) s1_19) s1_20).2 s1_21).2 s1_22).2 s1_23).2 s1_24).1 s1_25))) ?_)
    rintro _ _ ⟨rfl, rfl⟩
    change X _ _ _ _ A _ _ (.int (f_X13_rest a b) :: _)
    refine x_iret dX13_doing_302 rfl ?_
    exact ⟨by simp only [f_X13_doing, if_neg s1_0, if_neg s1_1, if_neg s1_2, if_neg s1_3, if_neg s1_4, if_neg s1_5, if_neg s1_6, if_neg s1_7, if_neg s1_8, if_neg s1_9, if_neg s1_10, if_neg s1_11, if_neg s1_12, if_neg s1_13, if_neg s1_14, if_neg s1_15, if_neg s1_16, if_neg s1_17, if_neg s1_18, if_neg s1_19, if_neg s1_20, if_neg s1_21, if_neg s1_22, if_neg s1_23, if_neg s1_24, if_pos s1_25], rfl⟩
  refine x_sw (27 : Int32) (fun s1_26 => ?_) (fun s1_26 => ?_)
  · refine x_tableIn (off := 296) (tgt := 297) dX13_doing_1 (by rw [s1_26]; decide) (by rw [s1_26]; decide) (by rw [s1_26]; rfl) (by decide) ?_
    refine x_iload_n dX13_doing_297 rfl ?_
    refine x_iload_n dX13_doing_298 rfl ?_
    refine x_callS hG (Ky := kX13_rest) (As := [.int a, .int b]) dX13_doing_299 lk_X13_494 me_X13_rest st_X13_rest rfl rfl (Nat.le_of_ble_eq_true rfl) (MX.post (m_X13_rest hG ((((((((((((((((((((((((((((h s1_0).2 s1_1).2 s1_2).2 s1_3).2 s1_4).2 s1_5).2 s1_6).2 s1_7).2 s1_8).2 s1_9).2 s1_10).2 s1_11).2 s1_12).2 s1_13).2 s1_14) s1_15) s1_16) s1_17) s1_18) s1_19) s1_20).2 s1_21).2 s1_22).2 s1_23).2 s1_24).2 s1_25).1 s1_26))) ?_)
    rintro _ _ ⟨rfl, rfl⟩
    change X _ _ _ _ A _ _ (.int (f_X13_rest a b) :: _)
    refine x_iret dX13_doing_302 rfl ?_
    exact ⟨by simp only [f_X13_doing, if_neg s1_0, if_neg s1_1, if_neg s1_2, if_neg s1_3, if_neg s1_4, if_neg s1_5, if_neg s1_6, if_neg s1_7, if_neg s1_8, if_neg s1_9, if_neg s1_10, if_neg s1_11, if_neg s1_12, if_neg s1_13, if_neg s1_14, if_neg s1_15, if_neg s1_16, if_neg s1_17, if_neg s1_18, if_neg s1_19, if_neg s1_20, if_neg s1_21, if_neg s1_22, if_neg s1_23, if_neg s1_24, if_neg s1_25, if_pos s1_26], rfl⟩
  refine x_sw (28 : Int32) (fun s1_27 => ?_) (fun s1_27 => ?_)
  · refine x_tableIn (off := 296) (tgt := 297) dX13_doing_1 (by rw [s1_27]; decide) (by rw [s1_27]; decide) (by rw [s1_27]; rfl) (by decide) ?_
    refine x_iload_n dX13_doing_297 rfl ?_
    refine x_iload_n dX13_doing_298 rfl ?_
    refine x_callS hG (Ky := kX13_rest) (As := [.int a, .int b]) dX13_doing_299 lk_X13_494 me_X13_rest st_X13_rest rfl rfl (Nat.le_of_ble_eq_true rfl) (MX.post (m_X13_rest hG (((((((((((((((((((((((((((((h s1_0).2 s1_1).2 s1_2).2 s1_3).2 s1_4).2 s1_5).2 s1_6).2 s1_7).2 s1_8).2 s1_9).2 s1_10).2 s1_11).2 s1_12).2 s1_13).2 s1_14) s1_15) s1_16) s1_17) s1_18) s1_19) s1_20).2 s1_21).2 s1_22).2 s1_23).2 s1_24).2 s1_25).2 s1_26).1 s1_27))) ?_)
    rintro _ _ ⟨rfl, rfl⟩
    change X _ _ _ _ A _ _ (.int (f_X13_rest a b) :: _)
    refine x_iret dX13_doing_302 rfl ?_
    exact ⟨by simp only [f_X13_doing, if_neg s1_0, if_neg s1_1, if_neg s1_2, if_neg s1_3, if_neg s1_4, if_neg s1_5, if_neg s1_6, if_neg s1_7, if_neg s1_8, if_neg s1_9, if_neg s1_10, if_neg s1_11, if_neg s1_12, if_neg s1_13, if_neg s1_14, if_neg s1_15, if_neg s1_16, if_neg s1_17, if_neg s1_18, if_neg s1_19, if_neg s1_20, if_neg s1_21, if_neg s1_22, if_neg s1_23, if_neg s1_24, if_neg s1_25, if_neg s1_26, if_pos s1_27], rfl⟩
  refine x_sw (29 : Int32) (fun s1_28 => ?_) (fun s1_28 => ?_)
  · refine x_tableIn (off := 296) (tgt := 297) dX13_doing_1 (by rw [s1_28]; decide) (by rw [s1_28]; decide) (by rw [s1_28]; rfl) (by decide) ?_
    refine x_iload_n dX13_doing_297 rfl ?_
    refine x_iload_n dX13_doing_298 rfl ?_
    refine x_callS hG (Ky := kX13_rest) (As := [.int a, .int b]) dX13_doing_299 lk_X13_494 me_X13_rest st_X13_rest rfl rfl (Nat.le_of_ble_eq_true rfl) (MX.post (m_X13_rest hG ((((((((((((((((((((((((((((((h s1_0).2 s1_1).2 s1_2).2 s1_3).2 s1_4).2 s1_5).2 s1_6).2 s1_7).2 s1_8).2 s1_9).2 s1_10).2 s1_11).2 s1_12).2 s1_13).2 s1_14) s1_15) s1_16) s1_17) s1_18) s1_19) s1_20).2 s1_21).2 s1_22).2 s1_23).2 s1_24).2 s1_25).2 s1_26).2 s1_27).1 s1_28))) ?_)
    rintro _ _ ⟨rfl, rfl⟩
    change X _ _ _ _ A _ _ (.int (f_X13_rest a b) :: _)
    refine x_iret dX13_doing_302 rfl ?_
    exact ⟨by simp only [f_X13_doing, if_neg s1_0, if_neg s1_1, if_neg s1_2, if_neg s1_3, if_neg s1_4, if_neg s1_5, if_neg s1_6, if_neg s1_7, if_neg s1_8, if_neg s1_9, if_neg s1_10, if_neg s1_11, if_neg s1_12, if_neg s1_13, if_neg s1_14, if_neg s1_15, if_neg s1_16, if_neg s1_17, if_neg s1_18, if_neg s1_19, if_neg s1_20, if_neg s1_21, if_neg s1_22, if_neg s1_23, if_neg s1_24, if_neg s1_25, if_neg s1_26, if_neg s1_27, if_pos s1_28], rfl⟩
  refine x_sw (30 : Int32) (fun s1_29 => ?_) (fun s1_29 => ?_)
  · refine x_tableIn (off := 296) (tgt := 297) dX13_doing_1 (by rw [s1_29]; decide) (by rw [s1_29]; decide) (by rw [s1_29]; rfl) (by decide) ?_
    refine x_iload_n dX13_doing_297 rfl ?_
    refine x_iload_n dX13_doing_298 rfl ?_
    refine x_callS hG (Ky := kX13_rest) (As := [.int a, .int b]) dX13_doing_299 lk_X13_494 me_X13_rest st_X13_rest rfl rfl (Nat.le_of_ble_eq_true rfl) (MX.post (m_X13_rest hG (((((((((((((((((((((((((((((((h s1_0).2 s1_1).2 s1_2).2 s1_3).2 s1_4).2 s1_5).2 s1_6).2 s1_7).2 s1_8).2 s1_9).2 s1_10).2 s1_11).2 s1_12).2 s1_13).2 s1_14) s1_15) s1_16) s1_17) s1_18) s1_19) s1_20).2 s1_21).2 s1_22).2 s1_23).2 s1_24).2 s1_25).2 s1_26).2 s1_27).2 s1_28).1 s1_29))) ?_)
    rintro _ _ ⟨rfl, rfl⟩
    change X _ _ _ _ A _ _ (.int (f_X13_rest a b) :: _)
    refine x_iret dX13_doing_302 rfl ?_
    exact ⟨by simp only [f_X13_doing, if_neg s1_0, if_neg s1_1, if_neg s1_2, if_neg s1_3, if_neg s1_4, if_neg s1_5, if_neg s1_6, if_neg s1_7, if_neg s1_8, if_neg s1_9, if_neg s1_10, if_neg s1_11, if_neg s1_12, if_neg s1_13, if_neg s1_14, if_neg s1_15, if_neg s1_16, if_neg s1_17, if_neg s1_18, if_neg s1_19, if_neg s1_20, if_neg s1_21, if_neg s1_22, if_neg s1_23, if_neg s1_24, if_neg s1_25, if_neg s1_26, if_neg s1_27, if_neg s1_28, if_pos s1_29], rfl⟩
  refine x_sw (31 : Int32) (fun s1_30 => ?_) (fun s1_30 => ?_)
  · refine x_tableIn (off := 296) (tgt := 297) dX13_doing_1 (by rw [s1_30]; decide) (by rw [s1_30]; decide) (by rw [s1_30]; rfl) (by decide) ?_
    refine x_iload_n dX13_doing_297 rfl ?_
    refine x_iload_n dX13_doing_298 rfl ?_
    refine x_callS hG (Ky := kX13_rest) (As := [.int a, .int b]) dX13_doing_299 lk_X13_494 me_X13_rest st_X13_rest rfl rfl (Nat.le_of_ble_eq_true rfl) (MX.post (m_X13_rest hG ((((((((((((((((((((((((((((((((h s1_0).2 s1_1).2 s1_2).2 s1_3).2 s1_4).2 s1_5).2 s1_6).2 s1_7).2 s1_8).2 s1_9).2 s1_10).2 s1_11).2 s1_12).2 s1_13).2 s1_14) s1_15) s1_16) s1_17) s1_18) s1_19) s1_20).2 s1_21).2 s1_22).2 s1_23).2 s1_24).2 s1_25).2 s1_26).2 s1_27).2 s1_28).2 s1_29).1 s1_30))) ?_)
    rintro _ _ ⟨rfl, rfl⟩
    change X _ _ _ _ A _ _ (.int (f_X13_rest a b) :: _)
    refine x_iret dX13_doing_302 rfl ?_
    exact ⟨by simp only [f_X13_doing, if_neg s1_0, if_neg s1_1, if_neg s1_2, if_neg s1_3, if_neg s1_4, if_neg s1_5, if_neg s1_6, if_neg s1_7, if_neg s1_8, if_neg s1_9, if_neg s1_10, if_neg s1_11, if_neg s1_12, if_neg s1_13, if_neg s1_14, if_neg s1_15, if_neg s1_16, if_neg s1_17, if_neg s1_18, if_neg s1_19, if_neg s1_20, if_neg s1_21, if_neg s1_22, if_neg s1_23, if_neg s1_24, if_neg s1_25, if_neg s1_26, if_neg s1_27, if_neg s1_28, if_neg s1_29, if_pos s1_30], rfl⟩
  refine x_sw (32 : Int32) (fun s1_31 => ?_) (fun s1_31 => ?_)
  · refine x_tableIn (off := 296) (tgt := 297) dX13_doing_1 (by rw [s1_31]; decide) (by rw [s1_31]; decide) (by rw [s1_31]; rfl) (by decide) ?_
    refine x_iload_n dX13_doing_297 rfl ?_
    refine x_iload_n dX13_doing_298 rfl ?_
    refine x_callS hG (Ky := kX13_rest) (As := [.int a, .int b]) dX13_doing_299 lk_X13_494 me_X13_rest st_X13_rest rfl rfl (Nat.le_of_ble_eq_true rfl) (MX.post (m_X13_rest hG (((((((((((((((((((((((((((((((((h s1_0).2 s1_1).2 s1_2).2 s1_3).2 s1_4).2 s1_5).2 s1_6).2 s1_7).2 s1_8).2 s1_9).2 s1_10).2 s1_11).2 s1_12).2 s1_13).2 s1_14) s1_15) s1_16) s1_17) s1_18) s1_19) s1_20).2 s1_21).2 s1_22).2 s1_23).2 s1_24).2 s1_25).2 s1_26).2 s1_27).2 s1_28).2 s1_29).2 s1_30).1 s1_31))) ?_)
    rintro _ _ ⟨rfl, rfl⟩
    change X _ _ _ _ A _ _ (.int (f_X13_rest a b) :: _)
    refine x_iret dX13_doing_302 rfl ?_
    exact ⟨by simp only [f_X13_doing, if_neg s1_0, if_neg s1_1, if_neg s1_2, if_neg s1_3, if_neg s1_4, if_neg s1_5, if_neg s1_6, if_neg s1_7, if_neg s1_8, if_neg s1_9, if_neg s1_10, if_neg s1_11, if_neg s1_12, if_neg s1_13, if_neg s1_14, if_neg s1_15, if_neg s1_16, if_neg s1_17, if_neg s1_18, if_neg s1_19, if_neg s1_20, if_neg s1_21, if_neg s1_22, if_neg s1_23, if_neg s1_24, if_neg s1_25, if_neg s1_26, if_neg s1_27, if_neg s1_28, if_neg s1_29, if_neg s1_30, if_pos s1_31], rfl⟩
  refine x_sw (33 : Int32) (fun s1_32 => ?_) (fun s1_32 => ?_)
  · refine x_tableIn (off := 179) (tgt := 180) dX13_doing_1 (by rw [s1_32]; decide) (by rw [s1_32]; decide) (by rw [s1_32]; rfl) (by decide) ?_
    refine x_iload_n dX13_doing_180 rfl ?_
    refine x_iload_n dX13_doing_181 rfl ?_
    refine x_ior dX13_doing_182 ?_
    refine x_iret dX13_doing_183 rfl ?_
    exact ⟨by simp only [f_X13_doing, if_neg s1_0, if_neg s1_1, if_neg s1_2, if_neg s1_3, if_neg s1_4, if_neg s1_5, if_neg s1_6, if_neg s1_7, if_neg s1_8, if_neg s1_9, if_neg s1_10, if_neg s1_11, if_neg s1_12, if_neg s1_13, if_neg s1_14, if_neg s1_15, if_neg s1_16, if_neg s1_17, if_neg s1_18, if_neg s1_19, if_neg s1_20, if_neg s1_21, if_neg s1_22, if_neg s1_23, if_neg s1_24, if_neg s1_25, if_neg s1_26, if_neg s1_27, if_neg s1_28, if_neg s1_29, if_neg s1_30, if_neg s1_31, if_pos s1_32], rfl⟩
  refine x_sw (34 : Int32) (fun s1_33 => ?_) (fun s1_33 => ?_)
  · refine x_tableIn (off := 183) (tgt := 184) dX13_doing_1 (by rw [s1_33]; decide) (by rw [s1_33]; decide) (by rw [s1_33]; rfl) (by decide) ?_
    refine x_iload_n dX13_doing_184 rfl ?_
    refine x_iload_n dX13_doing_185 rfl ?_
    refine x_ixor dX13_doing_186 ?_
    refine x_iret dX13_doing_187 rfl ?_
    exact ⟨by simp only [f_X13_doing, if_neg s1_0, if_neg s1_1, if_neg s1_2, if_neg s1_3, if_neg s1_4, if_neg s1_5, if_neg s1_6, if_neg s1_7, if_neg s1_8, if_neg s1_9, if_neg s1_10, if_neg s1_11, if_neg s1_12, if_neg s1_13, if_neg s1_14, if_neg s1_15, if_neg s1_16, if_neg s1_17, if_neg s1_18, if_neg s1_19, if_neg s1_20, if_neg s1_21, if_neg s1_22, if_neg s1_23, if_neg s1_24, if_neg s1_25, if_neg s1_26, if_neg s1_27, if_neg s1_28, if_neg s1_29, if_neg s1_30, if_neg s1_31, if_neg s1_32, if_pos s1_33], rfl⟩
  refine x_sw (35 : Int32) (fun s1_34 => ?_) (fun s1_34 => ?_)
  · refine x_tableIn (off := 187) (tgt := 188) dX13_doing_1 (by rw [s1_34]; decide) (by rw [s1_34]; decide) (by rw [s1_34]; rfl) (by decide) ?_
    refine x_iload_n dX13_doing_188 rfl ?_
    refine x_iload_n dX13_doing_189 rfl ?_
    refine x_iand dX13_doing_190 ?_
    refine x_iret dX13_doing_191 rfl ?_
    exact ⟨by simp only [f_X13_doing, if_neg s1_0, if_neg s1_1, if_neg s1_2, if_neg s1_3, if_neg s1_4, if_neg s1_5, if_neg s1_6, if_neg s1_7, if_neg s1_8, if_neg s1_9, if_neg s1_10, if_neg s1_11, if_neg s1_12, if_neg s1_13, if_neg s1_14, if_neg s1_15, if_neg s1_16, if_neg s1_17, if_neg s1_18, if_neg s1_19, if_neg s1_20, if_neg s1_21, if_neg s1_22, if_neg s1_23, if_neg s1_24, if_neg s1_25, if_neg s1_26, if_neg s1_27, if_neg s1_28, if_neg s1_29, if_neg s1_30, if_neg s1_31, if_neg s1_32, if_neg s1_33, if_pos s1_34], rfl⟩
  refine x_sw (36 : Int32) (fun s1_35 => ?_) (fun s1_35 => ?_)
  · refine x_tableIn (off := 213) (tgt := 214) dX13_doing_1 (by rw [s1_35]; decide) (by rw [s1_35]; decide) (by rw [s1_35]; rfl) (by decide) ?_
    refine x_iload_n dX13_doing_214 rfl ?_
    refine x_iload_n dX13_doing_215 rfl ?_
    refine x_via 224 (A' := A) (lv' := [some (.int s), some (.int a), some (.int b)]) (st' := [.int (if b ≤ a then (0 : Int32) else (1 : Int32))]) ?_ (fun k224 => ?_)
    · refine x_iret dX13_doing_224 rfl ?_
      exact ⟨by simp only [f_X13_doing, if_neg s1_0, if_neg s1_1, if_neg s1_2, if_neg s1_3, if_neg s1_4, if_neg s1_5, if_neg s1_6, if_neg s1_7, if_neg s1_8, if_neg s1_9, if_neg s1_10, if_neg s1_11, if_neg s1_12, if_neg s1_13, if_neg s1_14, if_neg s1_15, if_neg s1_16, if_neg s1_17, if_neg s1_18, if_neg s1_19, if_neg s1_20, if_neg s1_21, if_neg s1_22, if_neg s1_23, if_neg s1_24, if_neg s1_25, if_neg s1_26, if_neg s1_27, if_neg s1_28, if_neg s1_29, if_neg s1_30, if_neg s1_31, if_neg s1_32, if_neg s1_33, if_neg s1_34, if_pos s1_35], rfl⟩
    · refine x_icmp_ge (tgt := 223) dX13_doing_216 (by decide) (fun c216 => ?_) (fun c216 => ?_)
      · refine x_iconst_ (v := (0 : Int32)) dX13_doing_223 (by decide) ?_
        simp only [if_pos c216] at k224 ⊢
        first | exact k224 | exact X.weak (by simp [xle]) k224
      · refine x_iconst_ (v := (1 : Int32)) dX13_doing_219 (by decide) ?_
        refine x_goto (tgt := 224) dX13_doing_220 (by decide) ?_
        simp only [if_neg c216] at k224 ⊢
        first | exact k224 | exact X.weak (by simp [xle]) k224
  refine x_sw (37 : Int32) (fun s1_36 => ?_) (fun s1_36 => ?_)
  · refine x_tableIn (off := 235) (tgt := 236) dX13_doing_1 (by rw [s1_36]; decide) (by rw [s1_36]; decide) (by rw [s1_36]; rfl) (by decide) ?_
    refine x_iload_n dX13_doing_236 rfl ?_
    refine x_iload_n dX13_doing_237 rfl ?_
    refine x_via 246 (A' := A) (lv' := [some (.int s), some (.int a), some (.int b)]) (st' := [.int (if a ≤ b then (0 : Int32) else (1 : Int32))]) ?_ (fun k246 => ?_)
    · refine x_iret dX13_doing_246 rfl ?_
      exact ⟨by simp only [f_X13_doing, if_neg s1_0, if_neg s1_1, if_neg s1_2, if_neg s1_3, if_neg s1_4, if_neg s1_5, if_neg s1_6, if_neg s1_7, if_neg s1_8, if_neg s1_9, if_neg s1_10, if_neg s1_11, if_neg s1_12, if_neg s1_13, if_neg s1_14, if_neg s1_15, if_neg s1_16, if_neg s1_17, if_neg s1_18, if_neg s1_19, if_neg s1_20, if_neg s1_21, if_neg s1_22, if_neg s1_23, if_neg s1_24, if_neg s1_25, if_neg s1_26, if_neg s1_27, if_neg s1_28, if_neg s1_29, if_neg s1_30, if_neg s1_31, if_neg s1_32, if_neg s1_33, if_neg s1_34, if_neg s1_35, if_pos s1_36], rfl⟩
    · refine x_icmp_le (tgt := 245) dX13_doing_238 (by decide) (fun c238 => ?_) (fun c238 => ?_)
      · refine x_iconst_ (v := (0 : Int32)) dX13_doing_245 (by decide) ?_
        simp only [if_pos c238] at k246 ⊢
        first | exact k246 | exact X.weak (by simp [xle]) k246
      · refine x_iconst_ (v := (1 : Int32)) dX13_doing_241 (by decide) ?_
        refine x_goto (tgt := 246) dX13_doing_242 (by decide) ?_
        simp only [if_neg c238] at k246 ⊢
        first | exact k246 | exact X.weak (by simp [xle]) k246
  refine x_sw (38 : Int32) (fun s1_37 => ?_) (fun s1_37 => ?_)
  · refine x_tableIn (off := 278) (tgt := 279) dX13_doing_1 (by rw [s1_37]; decide) (by rw [s1_37]; decide) (by rw [s1_37]; rfl) (by decide) ?_
    refine x_iload_n dX13_doing_279 rfl ?_
    refine x_iload_n dX13_doing_280 rfl ?_
    refine x_iadd dX13_doing_281 ?_
    refine x_iret dX13_doing_282 rfl ?_
    exact ⟨by simp only [f_X13_doing, if_neg s1_0, if_neg s1_1, if_neg s1_2, if_neg s1_3, if_neg s1_4, if_neg s1_5, if_neg s1_6, if_neg s1_7, if_neg s1_8, if_neg s1_9, if_neg s1_10, if_neg s1_11, if_neg s1_12, if_neg s1_13, if_neg s1_14, if_neg s1_15, if_neg s1_16, if_neg s1_17, if_neg s1_18, if_neg s1_19, if_neg s1_20, if_neg s1_21, if_neg s1_22, if_neg s1_23, if_neg s1_24, if_neg s1_25, if_neg s1_26, if_neg s1_27, if_neg s1_28, if_neg s1_29, if_neg s1_30, if_neg s1_31, if_neg s1_32, if_neg s1_33, if_neg s1_34, if_neg s1_35, if_neg s1_36, if_pos s1_37], rfl⟩
  refine x_sw (39 : Int32) (fun s1_38 => ?_) (fun s1_38 => ?_)
  · refine x_tableIn (off := 282) (tgt := 283) dX13_doing_1 (by rw [s1_38]; decide) (by rw [s1_38]; decide) (by rw [s1_38]; rfl) (by decide) ?_
    refine x_iload_n dX13_doing_283 rfl ?_
    refine x_iload_n dX13_doing_284 rfl ?_
    refine x_isub dX13_doing_285 ?_
    refine x_iret dX13_doing_286 rfl ?_
    exact ⟨by simp only [f_X13_doing, if_neg s1_0, if_neg s1_1, if_neg s1_2, if_neg s1_3, if_neg s1_4, if_neg s1_5, if_neg s1_6, if_neg s1_7, if_neg s1_8, if_neg s1_9, if_neg s1_10, if_neg s1_11, if_neg s1_12, if_neg s1_13, if_neg s1_14, if_neg s1_15, if_neg s1_16, if_neg s1_17, if_neg s1_18, if_neg s1_19, if_neg s1_20, if_neg s1_21, if_neg s1_22, if_neg s1_23, if_neg s1_24, if_neg s1_25, if_neg s1_26, if_neg s1_27, if_neg s1_28, if_neg s1_29, if_neg s1_30, if_neg s1_31, if_neg s1_32, if_neg s1_33, if_neg s1_34, if_neg s1_35, if_neg s1_36, if_neg s1_37, if_pos s1_38], rfl⟩
  refine x_sw (40 : Int32) (fun s1_39 => ?_) (fun s1_39 => ?_)
  · refine x_tableIn (off := 286) (tgt := 287) dX13_doing_1 (by rw [s1_39]; decide) (by rw [s1_39]; decide) (by rw [s1_39]; rfl) (by decide) ?_
    refine x_iload_n dX13_doing_287 rfl ?_
    refine x_iload_n dX13_doing_288 rfl ?_
    refine x_imul dX13_doing_289 ?_
    refine x_iret dX13_doing_290 rfl ?_
    exact ⟨by simp only [f_X13_doing, if_neg s1_0, if_neg s1_1, if_neg s1_2, if_neg s1_3, if_neg s1_4, if_neg s1_5, if_neg s1_6, if_neg s1_7, if_neg s1_8, if_neg s1_9, if_neg s1_10, if_neg s1_11, if_neg s1_12, if_neg s1_13, if_neg s1_14, if_neg s1_15, if_neg s1_16, if_neg s1_17, if_neg s1_18, if_neg s1_19, if_neg s1_20, if_neg s1_21, if_neg s1_22, if_neg s1_23, if_neg s1_24, if_neg s1_25, if_neg s1_26, if_neg s1_27, if_neg s1_28, if_neg s1_29, if_neg s1_30, if_neg s1_31, if_neg s1_32, if_neg s1_33, if_neg s1_34, if_neg s1_35, if_neg s1_36, if_neg s1_37, if_neg s1_38, if_pos s1_39], rfl⟩
  refine x_sw (41 : Int32) (fun s1_40 => ?_) (fun s1_40 => ?_)
  · refine x_tableIn (off := 290) (tgt := 291) dX13_doing_1 (by rw [s1_40]; decide) (by rw [s1_40]; decide) (by rw [s1_40]; rfl) (by decide) ?_
    refine x_iload_n dX13_doing_291 rfl ?_
    refine x_iload_n dX13_doing_292 rfl ?_
    refine x_callS hG (Ky := kX13_over) (As := [.int a, .int b]) dX13_doing_293 lk_X13_491 me_X13_over st_X13_over rfl rfl (Nat.le_of_ble_eq_true rfl) (MX.post (m_X13_over hG ((((((((((((((((((((((((((((((((((((((((((h s1_0).2 s1_1).2 s1_2).2 s1_3).2 s1_4).2 s1_5).2 s1_6).2 s1_7).2 s1_8).2 s1_9).2 s1_10).2 s1_11).2 s1_12).2 s1_13).2 s1_14) s1_15) s1_16) s1_17) s1_18) s1_19) s1_20).2 s1_21).2 s1_22).2 s1_23).2 s1_24).2 s1_25).2 s1_26).2 s1_27).2 s1_28).2 s1_29).2 s1_30).2 s1_31) s1_32) s1_33) s1_34) s1_35) s1_36) s1_37) s1_38) s1_39).1 s1_40))) ?_)
    rintro _ _ ⟨rfl, rfl⟩
    change X _ _ _ _ A _ _ (.int (f_X13_over a b) :: _)
    refine x_iret dX13_doing_296 rfl ?_
    exact ⟨by simp only [f_X13_doing, if_neg s1_0, if_neg s1_1, if_neg s1_2, if_neg s1_3, if_neg s1_4, if_neg s1_5, if_neg s1_6, if_neg s1_7, if_neg s1_8, if_neg s1_9, if_neg s1_10, if_neg s1_11, if_neg s1_12, if_neg s1_13, if_neg s1_14, if_neg s1_15, if_neg s1_16, if_neg s1_17, if_neg s1_18, if_neg s1_19, if_neg s1_20, if_neg s1_21, if_neg s1_22, if_neg s1_23, if_neg s1_24, if_neg s1_25, if_neg s1_26, if_neg s1_27, if_neg s1_28, if_neg s1_29, if_neg s1_30, if_neg s1_31, if_neg s1_32, if_neg s1_33, if_neg s1_34, if_neg s1_35, if_neg s1_36, if_neg s1_37, if_neg s1_38, if_neg s1_39, if_pos s1_40], rfl⟩
  have t1_0 := lv_neT s1_0 (a := 1) (by decide)
  have t1_1 := lv_neT s1_1 (a := 2) (by decide)
  have t1_2 := lv_neT s1_2 (a := 3) (by decide)
  have t1_3 := lv_neT s1_3 (a := 4) (by decide)
  have t1_4 := lv_neT s1_4 (a := 5) (by decide)
  have t1_5 := lv_neT s1_5 (a := 6) (by decide)
  have t1_6 := lv_neT s1_6 (a := 7) (by decide)
  have t1_7 := lv_neT s1_7 (a := 8) (by decide)
  have t1_8 := lv_neT s1_8 (a := 9) (by decide)
  have t1_9 := lv_neT s1_9 (a := 10) (by decide)
  have t1_10 := lv_neT s1_10 (a := 11) (by decide)
  have t1_11 := lv_neT s1_11 (a := 12) (by decide)
  have t1_12 := lv_neT s1_12 (a := 13) (by decide)
  have t1_13 := lv_neT s1_13 (a := 14) (by decide)
  have t1_14 := lv_neT s1_14 (a := 15) (by decide)
  have t1_15 := lv_neT s1_15 (a := 16) (by decide)
  have t1_16 := lv_neT s1_16 (a := 17) (by decide)
  have t1_17 := lv_neT s1_17 (a := 18) (by decide)
  have t1_18 := lv_neT s1_18 (a := 19) (by decide)
  have t1_19 := lv_neT s1_19 (a := 20) (by decide)
  have t1_20 := lv_neT s1_20 (a := 21) (by decide)
  have t1_21 := lv_neT s1_21 (a := 22) (by decide)
  have t1_22 := lv_neT s1_22 (a := 23) (by decide)
  have t1_23 := lv_neT s1_23 (a := 24) (by decide)
  have t1_24 := lv_neT s1_24 (a := 25) (by decide)
  have t1_25 := lv_neT s1_25 (a := 26) (by decide)
  have t1_26 := lv_neT s1_26 (a := 27) (by decide)
  have t1_27 := lv_neT s1_27 (a := 28) (by decide)
  have t1_28 := lv_neT s1_28 (a := 29) (by decide)
  have t1_29 := lv_neT s1_29 (a := 30) (by decide)
  have t1_30 := lv_neT s1_30 (a := 31) (by decide)
  have t1_31 := lv_neT s1_31 (a := 32) (by decide)
  have t1_32 := lv_neT s1_32 (a := 33) (by decide)
  have t1_33 := lv_neT s1_33 (a := 34) (by decide)
  have t1_34 := lv_neT s1_34 (a := 35) (by decide)
  have t1_35 := lv_neT s1_35 (a := 36) (by decide)
  have t1_36 := lv_neT s1_36 (a := 37) (by decide)
  have t1_37 := lv_neT s1_37 (a := 38) (by decide)
  have t1_38 := lv_neT s1_38 (a := 39) (by decide)
  have t1_39 := lv_neT s1_39 (a := 40) (by decide)
  have t1_40 := lv_neT s1_40 (a := 41) (by decide)
  refine x_tableOut (tgt := 297) dX13_doing_1 (by omega) (by decide) ?_
  refine x_iload_n dX13_doing_297 rfl ?_
  refine x_iload_n dX13_doing_298 rfl ?_
  refine x_callS hG (Ky := kX13_rest) (As := [.int a, .int b]) dX13_doing_299 lk_X13_494 me_X13_rest st_X13_rest rfl rfl (Nat.le_of_ble_eq_true rfl) (MX.post (m_X13_rest hG ((((((((((((((((((((((((((((((((((((((((((h s1_0).2 s1_1).2 s1_2).2 s1_3).2 s1_4).2 s1_5).2 s1_6).2 s1_7).2 s1_8).2 s1_9).2 s1_10).2 s1_11).2 s1_12).2 s1_13).2 s1_14) s1_15) s1_16) s1_17) s1_18) s1_19) s1_20).2 s1_21).2 s1_22).2 s1_23).2 s1_24).2 s1_25).2 s1_26).2 s1_27).2 s1_28).2 s1_29).2 s1_30).2 s1_31) s1_32) s1_33) s1_34) s1_35) s1_36) s1_37) s1_38) s1_39).2 s1_40))) ?_)
  rintro _ _ ⟨rfl, rfl⟩
  change X _ _ _ _ A _ _ (.int (f_X13_rest a b) :: _)
  refine x_iret dX13_doing_302 rfl ?_
  exact ⟨by simp only [f_X13_doing, if_neg s1_0, if_neg s1_1, if_neg s1_2, if_neg s1_3, if_neg s1_4, if_neg s1_5, if_neg s1_6, if_neg s1_7, if_neg s1_8, if_neg s1_9, if_neg s1_10, if_neg s1_11, if_neg s1_12, if_neg s1_13, if_neg s1_14, if_neg s1_15, if_neg s1_16, if_neg s1_17, if_neg s1_18, if_neg s1_19, if_neg s1_20, if_neg s1_21, if_neg s1_22, if_neg s1_23, if_neg s1_24, if_neg s1_25, if_neg s1_26, if_neg s1_27, if_neg s1_28, if_neg s1_29, if_neg s1_30, if_neg s1_31, if_neg s1_32, if_neg s1_33, if_neg s1_34, if_neg s1_35, if_neg s1_36, if_neg s1_37, if_neg s1_38, if_neg s1_39, if_neg s1_40], rfl⟩
theorem pp_X13_doing {s : Int32} {a : Int32} {b : Int32} : p_X13_doing s a b := by unfold p_X13_doing; simp [pp_X13_rest, pp_X13_over]
def f_X13_alone (s : Int32) (a : Int32) : Int32 := (if s = (39 : Int32) then (-a) else (if s = (43 : Int32) then (a ^^^ (-1 : Int32)) else (if a = 0 then (1 : Int32) else (0 : Int32))))
theorem m_X13_alone (hG : xOK G) {d : Nat} {A : xA} {s : Int32} {a : Int32} : MX G (d + 0) kX13_alone [.int s, .int a] A (xIs (some (.int (f_X13_alone s a))) A) := by
  refine MX.of rfl (Nat.le_of_ble_eq_true rfl) ?_
  change X _ _ _ _ _ _ [some (.int s), some (.int a)] _
  refine x_iload_n dX13_alone_0 rfl ?_
  refine x_bipush_ (v := (39 : Int32)) dX13_alone_1 (by decide) ?_
  refine x_via 32 (A' := A) (lv' := [some (.int s), some (.int a)]) (st' := [.int (if s = (39 : Int32) then (-a) else (if s = (43 : Int32) then (a ^^^ (-1 : Int32)) else (if a = 0 then (1 : Int32) else (0 : Int32))))]) ?_ (fun k32 => ?_)
  · refine x_iret dX13_alone_32 rfl ?_
    exact ⟨by simp only [f_X13_alone], rfl⟩
  · refine x_icmp_ne (tgt := 11) dX13_alone_3 (by decide) (fun c3 => ?_) (fun c3 => ?_)
    · refine x_iload_n dX13_alone_11 rfl ?_
      refine x_bipush_ (v := (43 : Int32)) dX13_alone_12 (by decide) ?_
      refine x_icmp_ne (tgt := 23) dX13_alone_14 (by decide) (fun c14 => ?_) (fun c14 => ?_)
      · refine x_iload_n dX13_alone_23 rfl ?_
        refine x_if_ne (tgt := 31) dX13_alone_24 (by decide) (fun c24 => ?_) (fun c24 => ?_)
        · refine x_iconst_ (v := (0 : Int32)) dX13_alone_31 (by decide) ?_
          simp only [if_neg c3, if_neg c14, if_neg c24] at k32 ⊢
          first | exact k32 | exact X.weak (by simp [xle]) k32
        · refine x_iconst_ (v := (1 : Int32)) dX13_alone_27 (by decide) ?_
          refine x_goto (tgt := 32) dX13_alone_28 (by decide) ?_
          simp only [if_neg c3, if_neg c14, if_pos c24] at k32 ⊢
          first | exact k32 | exact X.weak (by simp [xle]) k32
      · refine x_iload_n dX13_alone_17 rfl ?_
        refine x_iconst_ (v := (-1 : Int32)) dX13_alone_18 (by decide) ?_
        refine x_ixor dX13_alone_19 ?_
        refine x_goto (tgt := 32) dX13_alone_20 (by decide) ?_
        simp only [if_neg c3, if_pos c14] at k32 ⊢
        first | exact k32 | exact X.weak (by simp [xle]) k32
    · refine x_iload_n dX13_alone_6 rfl ?_
      refine x_ineg dX13_alone_7 ?_
      refine x_goto (tgt := 32) dX13_alone_8 (by decide) ?_
      simp only [if_pos c3] at k32 ⊢
      first | exact k32 | exact X.weak (by simp [xle]) k32
def f_X13_isOut (a : Int32) : Int32 := (if a < 0 then (1 : Int32) else (if a ≤ (16383 : Int32) then (0 : Int32) else (1 : Int32)))
theorem m_X13_isOut (hG : xOK G) {d : Nat} {A : xA} {a : Int32} : MX G (d + 0) kX13_isOut [.int a] A (xIs (some (.int (f_X13_isOut a))) A) := by
  refine MX.of rfl (Nat.le_of_ble_eq_true rfl) ?_
  change X _ _ _ _ _ _ [some (.int a)] _
  refine x_iload_n dX13_isOut_0 rfl ?_
  refine x_via 16 (A' := A) (lv' := [some (.int a)]) (st' := [.int (if a < 0 then (1 : Int32) else (if a ≤ (16383 : Int32) then (0 : Int32) else (1 : Int32)))]) ?_ (fun k16 => ?_)
  · refine x_zret dX13_isOut_16 rfl (by (repeat' split) <;> decide) ?_
    exact ⟨by simp only [f_X13_isOut], rfl⟩
  · refine x_if_lt (tgt := 11) dX13_isOut_1 (by decide) (fun c1 => ?_) (fun c1 => ?_)
    · refine x_iconst_ (v := (1 : Int32)) dX13_isOut_11 (by decide) ?_
      refine x_goto (tgt := 16) dX13_isOut_12 (by decide) ?_
      simp only [if_pos c1] at k16 ⊢
      first | exact k16 | exact X.weak (by simp [xle]) k16
    · refine x_iload_n dX13_isOut_4 rfl ?_
      refine x_sipush_ (v := (16383 : Int32)) dX13_isOut_5 (by decide) ?_
      refine x_icmp_le (tgt := 15) dX13_isOut_8 (by decide) (fun c8 => ?_) (fun c8 => ?_)
      · refine x_iconst_ (v := (0 : Int32)) dX13_isOut_15 (by decide) ?_
        simp only [if_neg c1, if_pos c8] at k16 ⊢
        first | exact k16 | exact X.weak (by simp [xle]) k16
      · refine x_iconst_ (v := (1 : Int32)) dX13_isOut_11 (by decide) ?_
        refine x_goto (tgt := 16) dX13_isOut_12 (by decide) ?_
        simp only [if_neg c1, if_neg c8] at k16 ⊢
        first | exact k16 | exact X.weak (by simp [xle]) k16
theorem z_X13_isOut {a : Int32} : f_X13_isOut a = 0 ∨ f_X13_isOut a = 1 := by
  unfold f_X13_isOut
  (repeat' split) <;> decide
def f_X13_part (w : Int32) (f : Int32) (n : Int32) : Int32 := ((jiushr w f) &&& ((jishl (1 : Int32) n) - (1 : Int32)))
theorem m_X13_part (hG : xOK G) {d : Nat} {A : xA} {w : Int32} {f : Int32} {n : Int32} : MX G (d + 0) kX13_part [.int w, .int f, .int n] A (xIs (some (.int (f_X13_part w f n))) A) := by
  refine MX.of rfl (Nat.le_of_ble_eq_true rfl) ?_
  change X _ _ _ _ _ _ [some (.int w), some (.int f), some (.int n)] _
  refine x_iload_n dX13_part_0 rfl ?_
  refine x_iload_n dX13_part_1 rfl ?_
  refine x_iushr dX13_part_2 ?_
  refine x_eqi (v := (jiushr w f)) rfl ?_
  refine x_iconst_ (v := (1 : Int32)) dX13_part_3 (by decide) ?_
  refine x_iload_n dX13_part_4 rfl ?_
  refine x_ishl dX13_part_5 ?_
  refine x_eqi (v := (jishl (1 : Int32) n)) rfl ?_
  refine x_iconst_ (v := (1 : Int32)) dX13_part_6 (by decide) ?_
  refine x_isub dX13_part_7 ?_
  refine x_iand dX13_part_8 ?_
  refine x_iret dX13_part_9 rfl ?_
  exact ⟨by simp only [f_X13_part], rfl⟩
def f_X13_product (f : Int32) (a : Int32) (b : Int32) : Int32 := (if f = (0 : Int32) then (a * b) else (if f = (1 : Int32) then (jlshr (a.toInt64 * b.toInt64) (32 : Int32)).toInt32 else (if f = (2 : Int32) then (jlshr (a.toInt64 * (b.toInt64 &&& (4294967295 : Int64))) (32 : Int32)).toInt32 else (if f = (3 : Int32) then (jlushr ((a.toInt64 &&& (4294967295 : Int64)) * (b.toInt64 &&& (4294967295 : Int64))) (32 : Int32)).toInt32 else (if f = (4 : Int32) then (f_X13_over a b) else (if f = (5 : Int32) then (if b = 0 then (-1 : Int32) else ((a.toInt64 &&& (4294967295 : Int64)) / (b.toInt64 &&& (4294967295 : Int64))).toInt32) else (if f = (6 : Int32) then (f_X13_rest a b) else (if b = 0 then a else (lrem_ (a.toInt64 &&& (4294967295 : Int64)) (b.toInt64 &&& (4294967295 : Int64))).toInt32))))))))
def p_X13_product (f : Int32) (a : Int32) (b : Int32) : Prop := (((¬ f = (0 : Int32) → (((¬ f = (1 : Int32) → (((¬ f = (2 : Int32) → (((¬ f = (3 : Int32) → (((f = (4 : Int32) → ((p_X13_over a b))) ∧ (¬ f = (4 : Int32) → (((f = (5 : Int32) → (((¬ b = 0 → ((¬ (b.toInt64 &&& (4294967295 : Int64)) = 0)))))) ∧ (¬ f = (5 : Int32) → (((f = (6 : Int32) → ((p_X13_rest a b))) ∧ (¬ f = (6 : Int32) → (((¬ b = 0 → ((¬ (b.toInt64 &&& (4294967295 : Int64)) = 0))))))))))))))))))))))))))
theorem m_X13_product (hG : xOK G) {d : Nat} {A : xA} {f : Int32} {a : Int32} {b : Int32} (h : p_X13_product f a b) : MX G (d + 1) kX13_product [.int f, .int a, .int b] A (xIs (some (.int (f_X13_product f a b))) A) := by
  unfold p_X13_product at h
  refine MX.of rfl (Nat.le_of_ble_eq_true rfl) ?_
  change X _ _ _ _ _ _ [some (.int f), some (.int a), some (.int b), none, none, none, none, none, none, none, none] _
  refine x_iload_n dX13_product_0 rfl ?_
  refine x_i2l dX13_product_1 ?_
  refine x_lstore_n dX13_product_2 (by decide) ?_
  refine x_iload_n dX13_product_3 rfl ?_
  refine x_i2l dX13_product_4 ?_
  refine x_lstore dX13_product_5 (by decide) ?_
  refine x_lload_n dX13_product_7 rfl ?_
  refine x_ldc2 hG dX13_product_8 q3356 ?_
  refine x_land dX13_product_11 ?_
  refine x_lstore dX13_product_12 (by decide) ?_
  refine x_lload dX13_product_14 rfl ?_
  refine x_ldc2 hG dX13_product_16 q3356 ?_
  refine x_land dX13_product_19 ?_
  refine x_lstore dX13_product_20 (by decide) ?_
  refine x_iload_n dX13_product_22 rfl ?_
  refine x_sw (0 : Int32) (fun s23_0 => ?_) (fun s23_0 => ?_)
  · refine x_tableIn (off := 41) (tgt := 64) dX13_product_23 (by rw [s23_0]; decide) (by rw [s23_0]; decide) (by rw [s23_0]; rfl) (by decide) ?_
    refine x_iload_n dX13_product_64 rfl ?_
    refine x_iload_n dX13_product_65 rfl ?_
    refine x_imul dX13_product_66 ?_
    refine x_iret dX13_product_67 rfl ?_
    exact ⟨by simp only [f_X13_product, if_pos s23_0], rfl⟩
  refine x_sw (1 : Int32) (fun s23_1 => ?_) (fun s23_1 => ?_)
  · refine x_tableIn (off := 45) (tgt := 68) dX13_product_23 (by rw [s23_1]; decide) (by rw [s23_1]; decide) (by rw [s23_1]; rfl) (by decide) ?_
    refine x_lload_n dX13_product_68 rfl ?_
    refine x_lload dX13_product_69 rfl ?_
    refine x_lmul dX13_product_71 ?_
    refine x_bipush_ (v := (32 : Int32)) dX13_product_72 (by decide) ?_
    refine x_lshr dX13_product_74 ?_
    refine x_eql (v := (jlshr (a.toInt64 * b.toInt64) (32 : Int32))) rfl ?_
    refine x_l2i dX13_product_75 ?_
    refine x_iret dX13_product_76 rfl ?_
    exact ⟨by simp only [f_X13_product, if_neg s23_0, if_pos s23_1], rfl⟩
  refine x_sw (2 : Int32) (fun s23_2 => ?_) (fun s23_2 => ?_)
  · refine x_tableIn (off := 54) (tgt := 77) dX13_product_23 (by rw [s23_2]; decide) (by rw [s23_2]; decide) (by rw [s23_2]; rfl) (by decide) ?_
    refine x_lload_n dX13_product_77 rfl ?_
    refine x_lload dX13_product_78 rfl ?_
    refine x_lmul dX13_product_80 ?_
    refine x_bipush_ (v := (32 : Int32)) dX13_product_81 (by decide) ?_
    refine x_lshr dX13_product_83 ?_
    refine x_eql (v := (jlshr (a.toInt64 * (b.toInt64 &&& (4294967295 : Int64))) (32 : Int32))) rfl ?_
    refine x_l2i dX13_product_84 ?_
    refine x_iret dX13_product_85 rfl ?_
    exact ⟨by simp only [f_X13_product, if_neg s23_0, if_neg s23_1, if_pos s23_2], rfl⟩
  refine x_sw (3 : Int32) (fun s23_3 => ?_) (fun s23_3 => ?_)
  · refine x_tableIn (off := 63) (tgt := 86) dX13_product_23 (by rw [s23_3]; decide) (by rw [s23_3]; decide) (by rw [s23_3]; rfl) (by decide) ?_
    refine x_lload dX13_product_86 rfl ?_
    refine x_lload dX13_product_88 rfl ?_
    refine x_lmul dX13_product_90 ?_
    refine x_bipush_ (v := (32 : Int32)) dX13_product_91 (by decide) ?_
    refine x_lushr dX13_product_93 ?_
    refine x_eql (v := (jlushr ((a.toInt64 &&& (4294967295 : Int64)) * (b.toInt64 &&& (4294967295 : Int64))) (32 : Int32))) rfl ?_
    refine x_l2i dX13_product_94 ?_
    refine x_iret dX13_product_95 rfl ?_
    exact ⟨by simp only [f_X13_product, if_neg s23_0, if_neg s23_1, if_neg s23_2, if_pos s23_3], rfl⟩
  refine x_sw (4 : Int32) (fun s23_4 => ?_) (fun s23_4 => ?_)
  · refine x_tableIn (off := 73) (tgt := 96) dX13_product_23 (by rw [s23_4]; decide) (by rw [s23_4]; decide) (by rw [s23_4]; rfl) (by decide) ?_
    refine x_iload_n dX13_product_96 rfl ?_
    refine x_iload_n dX13_product_97 rfl ?_
    refine x_callS hG (Ky := kX13_over) (As := [.int a, .int b]) dX13_product_98 lk_X13_491 me_X13_over st_X13_over rfl rfl (Nat.le_of_ble_eq_true rfl) (MX.post (m_X13_over hG ((((((h s23_0) s23_1) s23_2) s23_3).1 s23_4))) ?_)
    rintro _ _ ⟨rfl, rfl⟩
    change X _ _ _ _ A _ _ (.int (f_X13_over a b) :: _)
    refine x_iret dX13_product_101 rfl ?_
    exact ⟨by simp only [f_X13_product, if_neg s23_0, if_neg s23_1, if_neg s23_2, if_neg s23_3, if_pos s23_4], rfl⟩
  refine x_sw (5 : Int32) (fun s23_5 => ?_) (fun s23_5 => ?_)
  · refine x_tableIn (off := 79) (tgt := 102) dX13_product_23 (by rw [s23_5]; decide) (by rw [s23_5]; decide) (by rw [s23_5]; rfl) (by decide) ?_
    refine x_iload_n dX13_product_102 rfl ?_
    refine x_via 116 (A' := A) (lv' := [some (.int f), some (.int a), some (.int b), some (.long a.toInt64), none, some (.long b.toInt64), none, some (.long (a.toInt64 &&& (4294967295 : Int64))), none, some (.long (b.toInt64 &&& (4294967295 : Int64))), none]) (st' := [.int (if b = 0 then (-1 : Int32) else ((a.toInt64 &&& (4294967295 : Int64)) / (b.toInt64 &&& (4294967295 : Int64))).toInt32)]) ?_ (fun k116 => ?_)
    · refine x_iret dX13_product_116 rfl ?_
      exact ⟨by simp only [f_X13_product, if_neg s23_0, if_neg s23_1, if_neg s23_2, if_neg s23_3, if_neg s23_4, if_pos s23_5], rfl⟩
    · refine x_if_ne (tgt := 110) dX13_product_103 (by decide) (fun c103 => ?_) (fun c103 => ?_)
      · refine x_lload dX13_product_110 rfl ?_
        refine x_lload dX13_product_112 rfl ?_
        refine x_ldiv dX13_product_114 ((((((((h s23_0) s23_1) s23_2) s23_3).2 s23_4).1 s23_5) c103)) ?_
        refine x_l2i dX13_product_115 ?_
        simp only [if_neg c103] at k116 ⊢
        first | exact k116 | exact X.weak (by simp [xle]) k116
      · refine x_iconst_ (v := (-1 : Int32)) dX13_product_106 (by decide) ?_
        refine x_goto (tgt := 116) dX13_product_107 (by decide) ?_
        simp only [if_pos c103] at k116 ⊢
        first | exact k116 | exact X.weak (by simp [xle]) k116
  refine x_sw (6 : Int32) (fun s23_6 => ?_) (fun s23_6 => ?_)
  · refine x_tableIn (off := 94) (tgt := 117) dX13_product_23 (by rw [s23_6]; decide) (by rw [s23_6]; decide) (by rw [s23_6]; rfl) (by decide) ?_
    refine x_iload_n dX13_product_117 rfl ?_
    refine x_iload_n dX13_product_118 rfl ?_
    refine x_callS hG (Ky := kX13_rest) (As := [.int a, .int b]) dX13_product_119 lk_X13_494 me_X13_rest st_X13_rest rfl rfl (Nat.le_of_ble_eq_true rfl) (MX.post (m_X13_rest hG ((((((((h s23_0) s23_1) s23_2) s23_3).2 s23_4).2 s23_5).1 s23_6))) ?_)
    rintro _ _ ⟨rfl, rfl⟩
    change X _ _ _ _ A _ _ (.int (f_X13_rest a b) :: _)
    refine x_iret dX13_product_122 rfl ?_
    exact ⟨by simp only [f_X13_product, if_neg s23_0, if_neg s23_1, if_neg s23_2, if_neg s23_3, if_neg s23_4, if_neg s23_5, if_pos s23_6], rfl⟩
  have t23_0 := lv_neT s23_0 (a := 0) (by decide)
  have t23_1 := lv_neT s23_1 (a := 1) (by decide)
  have t23_2 := lv_neT s23_2 (a := 2) (by decide)
  have t23_3 := lv_neT s23_3 (a := 3) (by decide)
  have t23_4 := lv_neT s23_4 (a := 4) (by decide)
  have t23_5 := lv_neT s23_5 (a := 5) (by decide)
  have t23_6 := lv_neT s23_6 (a := 6) (by decide)
  refine x_tableOut (tgt := 123) dX13_product_23 (by omega) (by decide) ?_
  refine x_iload_n dX13_product_123 rfl ?_
  refine x_via 137 (A' := A) (lv' := [some (.int f), some (.int a), some (.int b), some (.long a.toInt64), none, some (.long b.toInt64), none, some (.long (a.toInt64 &&& (4294967295 : Int64))), none, some (.long (b.toInt64 &&& (4294967295 : Int64))), none]) (st' := [.int (if b = 0 then a else (lrem_ (a.toInt64 &&& (4294967295 : Int64)) (b.toInt64 &&& (4294967295 : Int64))).toInt32)]) ?_ (fun k137 => ?_)
  · refine x_iret dX13_product_137 rfl ?_
    exact ⟨by simp only [f_X13_product, if_neg s23_0, if_neg s23_1, if_neg s23_2, if_neg s23_3, if_neg s23_4, if_neg s23_5, if_neg s23_6], rfl⟩
  · refine x_if_ne (tgt := 131) dX13_product_124 (by decide) (fun c124 => ?_) (fun c124 => ?_)
    · refine x_lload dX13_product_131 rfl ?_
      refine x_lload dX13_product_133 rfl ?_
      refine x_lrem dX13_product_135 (((((((((h s23_0) s23_1) s23_2) s23_3).2 s23_4).2 s23_5).2 s23_6) c124)) ?_
      refine x_eql (v := (lrem_ (a.toInt64 &&& (4294967295 : Int64)) (b.toInt64 &&& (4294967295 : Int64)))) rfl ?_
      refine x_l2i dX13_product_136 ?_
      simp only [if_neg c124] at k137 ⊢
      first | exact k137 | exact X.weak (by simp [xle]) k137
    · refine x_iload_n dX13_product_127 rfl ?_
      refine x_goto (tgt := 137) dX13_product_128 (by decide) ?_
      simp only [if_pos c124] at k137 ⊢
      first | exact k137 | exact X.weak (by simp [xle]) k137
theorem pp_X13_product {f : Int32} {a : Int32} {b : Int32} : p_X13_product f a b := by unfold p_X13_product; simp only [pp_X13_rest, pp_X13_over, imp_true_iff, true_and, and_true]; exact fun _ _ _ _ _ => ⟨fun _ h => low_ne h, fun _ _ h => low_ne h⟩
end W030
