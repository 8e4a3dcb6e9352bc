/-! ===== 105.hchk (tools/h045.py) ===== -/
set_option maxRecDepth 100000
section W105
variable {G : xG}
def w_q_J8_checkIndex (G : xG) (i : Int32) (n : Int32) (f : Option Nat) (Q : Int32 → xA → Prop) (A : xA) : Prop := xok G A → ((i < 0 → False) ∧ (¬ i < 0 → ((i < n → Q i A) ∧ (¬ i < n → False))))
theorem m_q_J8_checkIndex (hG : xOK G) (hO : xHO G) {dp : Nat} {i : Int32} {n : Int32} {f : Option Nat} {Q : Int32 → xA → Prop} {A : xA} (h : w_q_J8_checkIndex G i n f Q A) : MX G (dp + 0) kJ8_checkIndex [.int i, .int n, va_rf f] A (hI Q) := by
  unfold w_q_J8_checkIndex at h
  refine MX.of rfl (by cases f <;> exact Nat.le_of_ble_eq_true rfl) ?_
  refine X.lvs (lv' := [some (.int i), some (.int n), some (va_rf f)]) (by cases f <;> rfl) ?_
  refine X.xok (fun w0 => ?_)
  replace h := h w0
  refine x_iload_n dJ8_checkIndex_0 rfl ?_
  refine x_if_lt (tgt := 9) dJ8_checkIndex_1 (by decide) (fun c1 => ?_) (fun c1 => ?_)
  · replace h := h.1 c1
    refine x_aloadq_n dJ8_checkIndex_9 rfl ?_
    refine x_iload_n dJ8_checkIndex_10 rfl ?_
    refine x_iload_n dJ8_checkIndex_11 rfl ?_
    exact h.elim
  · replace h := h.2 c1
    refine x_iload_n dJ8_checkIndex_4 rfl ?_
    refine x_iload_n dJ8_checkIndex_5 rfl ?_
    refine x_icmp_lt (tgt := 16) dJ8_checkIndex_6 (by decide) (fun c6 => ?_) (fun c6 => ?_)
    · replace h := h.1 c6
      refine x_iload_n dJ8_checkIndex_16 rfl ?_
      exact x_iret dJ8_checkIndex_17 rfl ⟨_, rfl, h⟩
    · replace h := h.2 c6
      refine x_aloadq_n dJ8_checkIndex_9 rfl ?_
      refine x_iload_n dJ8_checkIndex_10 rfl ?_
      refine x_iload_n dJ8_checkIndex_11 rfl ?_
      exact h.elim
end W105
