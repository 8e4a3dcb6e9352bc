/-! ===== 095.halone (tools/h045.py) ===== -/
set_option maxRecDepth 100000
section W095
variable {G : xG}
def xRC_O (G : xG) (D : Nat) (r0 : Nat → (Option Nat → xA → Prop) → xA → Prop) : Prop := ((∀ {p : Nat} {Q : Option Nat → xA → Prop} {A : xA}, A.tg p = 15 → r0 p Q A → MX G D kX15_alone [.ref p] A (hR Q)) ∧ (∀ {p : Nat} {Q : Option Nat → xA → Prop} {A : xA}, A.tg p = 16 → r0 p Q A → MX G D kX15_alone [.ref p] A (hR Q)) ∧ (∀ {p : Nat} {Q : Option Nat → xA → Prop} {A : xA}, A.tg p = 17 → r0 p Q A → MX G D kX18_alone [.ref p] A (hR Q)) ∧ (∀ {p : Nat} {Q : Option Nat → xA → Prop} {A : xA}, A.tg p = 18 → r0 p Q A → MX G D kX15_alone [.ref p] A (hR Q)) ∧ (∀ {p : Nat} {Q : Option Nat → xA → Prop} {A : xA}, A.tg p = 19 → r0 p Q A → MX G D kX15_alone [.ref p] A (hR Q)) ∧ (∀ {p : Nat} {Q : Option Nat → xA → Prop} {A : xA}, A.tg p = 20 → r0 p Q A → MX G D kX15_alone [.ref p] A (hR Q)) ∧ (∀ {p : Nat} {Q : Option Nat → xA → Prop} {A : xA}, A.tg p = 21 → r0 p Q A → MX G D kX15_alone [.ref p] A (hR Q)) ∧ (∀ {p : Nat} {Q : Option Nat → xA → Prop} {A : xA}, A.tg p = 22 → r0 p Q A → MX G D kX15_alone [.ref p] A (hR Q)))
def w_X15_alone (G : xG) (r0 : Nat → (Option Nat → xA → Prop) → xA → Prop) (p : Nat) (Q : Option Nat → xA → Prop) (A : xA) : Prop := xok G A → Q (none : Option Nat) A
theorem m_X15_alone (hG : xOK G) (hO : xHO G) {dp : Nat} {r0 : Nat → (Option Nat → xA → Prop) → xA → Prop} (hK : xRC_O G (dp + 6) r0) {p : Nat} {Q : Option Nat → xA → Prop} {A : xA} (h : w_X15_alone G r0 p Q A) : MX G (dp + 7) kX15_alone [.ref p] A (hR Q) := by
  unfold w_X15_alone at h
  refine MX.of rfl (Nat.le_of_ble_eq_true rfl) ?_
  change X _ _ _ _ _ _ [some (.ref p)] _
  refine X.xok (fun w0 => ?_)
  replace h := h w0
  refine x_null dX15_alone_0 ?_
  exact x_aret (r := (none : Option Nat)) dX15_alone_1 rfl (Or.inl ⟨_, rfl⟩) ⟨_, rfl, h⟩
def w_X18_alone (G : xG) (r0 : Nat → (Option Nat → xA → Prop) → xA → Prop) (p : Nat) (Q : Option Nat → xA → Prop) (A : xA) : Prop := xok G A → A.tg p = 17 ∧ ((((A.P p 4) = none → (((A.I p 0) = (A.I p 2) → Q (some p) A) ∧ (¬ (A.I p 0) = (A.I p 2) → Q (none : Option Nat) A))) ∧ (∀ b2 : Nat, (A.P p 4) = some b2 → Q (none : Option Nat) A)))
theorem m_X18_alone (hG : xOK G) (hO : xHO G) {dp : Nat} {r0 : Nat → (Option Nat → xA → Prop) → xA → Prop} (hK : xRC_O G (dp + 6) r0) {p : Nat} {Q : Option Nat → xA → Prop} {A : xA} (h : w_X18_alone G r0 p Q A) : MX G (dp + 7) kX18_alone [.ref p] A (hR Q) := by
  unfold w_X18_alone at h
  refine MX.of rfl (Nat.le_of_ble_eq_true rfl) ?_
  change X _ _ _ _ _ _ [some (.ref p)] _
  refine X.xok (fun w0 => ?_)
  replace h := h w0
  refine x_aload_n dX18_alone_0 rfl ?_
  obtain ⟨o1, h⟩ := h
  refine x_get (v := va_rf (A.P p 4)) hG dX18_alone_1 f_X18_18_16 o1 rfl ?_
  refine x_ifnonnull (tgt := 22) dX18_alone_4 (by decide) (fun b2 c4 => ?_) (fun c4 => ?_)
  · replace h := h.2 b2 c4
    refine x_null dX18_alone_22 ?_
    exact x_aret (r := (none : Option Nat)) dX18_alone_23 rfl (Or.inl ⟨_, rfl⟩) ⟨_, rfl, h⟩
  · replace h := h.1 c4
    refine x_aload_n dX18_alone_7 rfl ?_
    refine x_get (v := .int (A.I p 0)) hG dX18_alone_8 f_X18_58_16 o1 rfl ?_
    refine x_aload_n dX18_alone_11 rfl ?_
    refine x_get (v := .int (A.I p 2)) hG dX18_alone_12 f_X18_9_16 o1 rfl ?_
    refine x_icmp_ne (tgt := 22) dX18_alone_15 (by decide) (fun c15 => ?_) (fun c15 => ?_)
    · replace h := h.2 c15
      refine x_null dX18_alone_22 ?_
      exact x_aret (r := (none : Option Nat)) dX18_alone_23 rfl (Or.inl ⟨_, rfl⟩) ⟨_, rfl, h⟩
    · replace h := h.1 c15
      refine x_aload_n dX18_alone_18 rfl ?_
      refine x_goto (tgt := 23) dX18_alone_19 (by decide) ?_
      exact x_aret (r := (some p)) dX18_alone_23 rfl (Or.inl ⟨_, rfl⟩) ⟨_, rfl, h⟩
def rk_O (G : xG) : Nat → (Nat → (Option Nat → xA → Prop) → xA → Prop)
  | 0 => (fun _ _ _ => False)
  | n + 1 => (fun p Q A => (A.tg p = 15 → w_X15_alone G (rk_O G n) p Q A) ∧ (A.tg p = 16 → w_X15_alone G (rk_O G n) p Q A) ∧ (A.tg p = 17 → w_X18_alone G (rk_O G n) p Q A) ∧ (A.tg p = 18 → w_X15_alone G (rk_O G n) p Q A) ∧ (A.tg p = 19 → w_X15_alone G (rk_O G n) p Q A) ∧ (A.tg p = 20 → w_X15_alone G (rk_O G n) p Q A) ∧ (A.tg p = 21 → w_X15_alone G (rk_O G n) p Q A) ∧ (A.tg p = 22 → w_X15_alone G (rk_O G n) p Q A))
theorem rc_O (hG : xOK G) (hO : xHO G) {dp : Nat} : ∀ n, xRC_O G (dp + n + 6) (rk_O G n)
  | 0 => ⟨fun _ h => False.elim h, fun _ h => False.elim h, fun _ h => False.elim h, fun _ h => False.elim h, fun _ h => False.elim h, fun _ h => False.elim h, fun _ h => False.elim h, fun _ h => False.elim h⟩
  | n + 1 => ⟨fun t h => m_X15_alone (dp := dp + n) hG hO (rc_O hG hO n) (h.1 t), fun t h => m_X15_alone (dp := dp + n) hG hO (rc_O hG hO n) (h.2.1 t), fun t h => m_X18_alone (dp := dp + n) hG hO (rc_O hG hO n) (h.2.2.1 t), fun t h => m_X15_alone (dp := dp + n) hG hO (rc_O hG hO n) (h.2.2.2.1 t), fun t h => m_X15_alone (dp := dp + n) hG hO (rc_O hG hO n) (h.2.2.2.2.1 t), fun t h => m_X15_alone (dp := dp + n) hG hO (rc_O hG hO n) (h.2.2.2.2.2.1 t), fun t h => m_X15_alone (dp := dp + n) hG hO (rc_O hG hO n) (h.2.2.2.2.2.2.1 t), fun t h => m_X15_alone (dp := dp + n) hG hO (rc_O hG hO n) (h.2.2.2.2.2.2.2 t)⟩
def g_O_0 (G : xG) : Nat → (Option Nat → xA → Prop) → xA → Prop := (rk_O G 3)
end W095
