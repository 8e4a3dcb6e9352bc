/-! ===== the board on both sides ===== -/
set_option maxRecDepth 100000
theorem rvLoad_cg {mem mem' : Nat → Int32} {len : Nat} (hl : len < 2147483648) (h : ∀ k, k < len → mem k = mem' k) (w f a pc : Int32) : rvLoad mem len w f a pc = rvLoad mem' len w f a pc := by
  unfold rvLoad
  by_cases h1 : f &&& 3 = 3 ∨ f = 6
  · rw [if_pos h1, if_pos h1]
  rw [if_neg h1, if_neg h1]
  by_cases h2 : ¬ a &&& (jishl 1 (f &&& 3) - 1) = 0
  · rw [if_pos h2, if_pos h2]
  rw [if_neg h2, if_neg h2]
  by_cases h3 : ¬ jiushr a 2 < nI len
  · rw [if_pos h3, if_pos h3]
  rw [if_neg h3, if_neg h3]
  obtain ⟨k, e, hk⟩ := jiushr2 a
  have hk' : k < len := by
    rw [e] at h3
    exact (nI_ltI hk hl).mp (Classical.not_not.mp h3)
  rw [e, show ix (nI k) = k from nI_clamp (by omega), h k hk']
theorem rvStore_cg {mem mem' : Nat → Int32} {len : Nat} (hl : len < 2147483648) (h : ∀ k, k < len → mem k = mem' k) (f a v pc : Int32) : rvStore mem len f a v pc = rvStore mem' len f a v pc := by
  unfold rvStore
  by_cases h1 : ¬ f ≤ 2
  · rw [if_pos h1, if_pos h1]
  rw [if_neg h1, if_neg h1]
  by_cases h2 : ¬ a &&& (jishl 1 f - 1) = 0
  · rw [if_pos h2, if_pos h2]
  rw [if_neg h2, if_neg h2]
  by_cases h3 : ¬ jiushr a 2 < nI len
  · rw [if_pos h3, if_pos h3]
  rw [if_neg h3, if_neg h3]
  obtain ⟨k, e, hk⟩ := jiushr2 a
  have hk' : k < len := by
    rw [e] at h3
    exact (nI_ltI hk hl).mp (Classical.not_not.mp h3)
  rw [e, show ix (nI k) = k from nI_clamp (by omega), h k hk']
theorem rv_cg {mem mem' reg reg' : Nat → Int32} {len : Nat} (hl : len < 2147483648) (h : ∀ k, k < len → mem k = mem' k) (hr : ∀ k, k < 32 → reg k = reg' k) (pc : Int32) : rv mem len reg pc = rv mem' len reg' pc := by
  unfold rv
  by_cases hg : pc &&& 3 = 0 ∧ jiushr pc 2 < nI len
  · rw [if_pos hg, if_pos hg]
    obtain ⟨k, e, hk⟩ := jiushr2 pc
    have hk' : k < len := by
      have := hg.2
      rw [e] at this
      exact (nI_ltI hk hl).mp this
    rw [e, show ix (nI k) = k from nI_clamp (by omega), h k hk']
    obtain ⟨a, ha, ea⟩ := and31 (jishr (mem' k) 15)
    obtain ⟨b, hb, eb⟩ := and31 (jishr (mem' k) 20)
    rw [ea, eb, show ix (nI a) = a from nI_clamp (by omega), show ix (nI b) = b from nI_clamp (by omega), hr a ha, hr b hb]
    unfold rvW
    simp only [rvLoad_cg hl h, rvStore_cg hl h]
  · rw [if_neg hg, if_neg hg]
/-- where it does not go on nothing is written -/
def rvN (e : rvE) : Prop := e.2.2.2 = none → e.2.1 = none ∧ e.2.2.1 = none
theorem rvN_ite {c : Prop} [Decidable c] {a b : rvE} (ha : rvN a) (hb : rvN b) : rvN (if c then a else b) := by
  by_cases h : c
  · rw [if_pos h]
    exact ha
  · rw [if_neg h]
    exact hb
theorem rvN_st (k : Int32) : rvN (rvStop k) := fun _ => ⟨rfl, rfl⟩
theorem rvN_so (a : Int32) (b c : Option (Nat × Int32)) (d : Int32) : rvN (a, b, c, some d) := fun h => nomatch h
theorem rvN_mk (w v pc : Int32) : rvN (rvMk w v pc) := rvN_so _ _ _ _
theorem rvN_jp (w t pc : Int32) : rvN (rvJump w t pc) := rvN_ite (rvN_so _ _ _ _) (rvN_st _)
theorem rvN_br (w pc i : Int32) : rvN (rvBr w pc i) := rvN_ite (rvN_so _ _ _ _) (rvN_ite (rvN_so _ _ _ _) (rvN_st _))
theorem rvN_ld (mem : Nat → Int32) (len : Nat) (w f a pc : Int32) : rvN (rvLoad mem len w f a pc) := rvN_ite (rvN_st _) (rvN_ite (rvN_st _) (rvN_ite (rvN_st _) (rvN_mk _ _ _)))
theorem rvN_sto (mem : Nat → Int32) (len : Nat) (f a v pc : Int32) : rvN (rvStore mem len f a v pc) := rvN_ite (rvN_st _) (rvN_ite (rvN_st _) (rvN_ite (rvN_st _) (rvN_so _ _ _ _)))
theorem rvN_imm (w f a pc : Int32) : rvN (rvImm w f a pc) := rvN_ite (rvN_ite (rvN_mk _ _ _) (rvN_st _)) (rvN_ite (rvN_ite (rvN_mk _ _ _) (rvN_ite (rvN_mk _ _ _) (rvN_st _))) (rvN_mk _ _ _))
theorem rvN_op (w f a b pc : Int32) : rvN (rvOp w f a b pc) := rvN_ite (rvN_mk _ _ _) (rvN_ite (rvN_mk _ _ _) (rvN_ite (rvN_ite (rvN_mk _ _ _) (rvN_ite (rvN_mk _ _ _) (rvN_st _))) (rvN_st _)))
theorem rvN_w (mem : Nat → Int32) (len : Nat) (w a b pc : Int32) : rvN (rvW mem len w a b pc) :=
  rvN_ite (rvN_mk _ _ _) (rvN_ite (rvN_mk _ _ _) (rvN_ite (rvN_jp _ _ _) (rvN_ite (rvN_ite (rvN_jp _ _ _) (rvN_st _)) (rvN_ite (rvN_ite (rvN_st _) (rvN_br _ _ _)) (rvN_ite (rvN_ld _ _ _ _ _ _) (rvN_ite (rvN_sto _ _ _ _ _ _) (rvN_ite (rvN_imm _ _ _ _) (rvN_ite (rvN_op _ _ _ _ _) (rvN_ite (rvN_ite (rvN_so _ _ _ _) (rvN_st _)) (rvN_ite (rvN_ite (rvN_so _ _ _ _) (rvN_ite (rvN_so _ _ _ _) (rvN_st _))) (rvN_st _)))))))))))
theorem rv_none {mem reg : Nat → Int32} {len : Nat} {pc : Int32} : rvN (rv mem len reg pc) := rvN_ite (rvN_w _ _ _ _ _ _) (rvN_st _)
/-- the two boards: House's words at p, M, X of J1, the Model's at m of J2 -/
def rB (p M X m : Nat) (J1 J2 : xII) : Prop := (∀ k, k < 4096 → J1 M k = J2 (m + 46) k) ∧ (∀ k, k < 32 → J1 X k = J2 (m + 47) k) ∧ J1 p 2 = J2 (m + 47) 32 ∧ J1 p 3 = J2 m 96
theorem pReg_cg {J1 J2 : xII} {X Y : Nat} {n : Nat} (q : Option (Nat × Int32)) (h : ∀ k, k < n → J1 X k = J2 Y k) : ∀ k, k < n → pReg J1 X q X k = pReg J2 Y q Y k := by
  intro k hk
  cases q with
  | none => exact h k hk
  | some q =>
    by_cases e : k = q.1
    · subst e
      show xup _ _ _ _ _ _ = xup _ _ _ _ _ _
      rw [xup_s, xup_s]
    · show xup _ _ _ _ _ _ = xup _ _ _ _ _ _
      rw [xup_k e, xup_k e]
      exact h k hk
theorem rB_app {p M X m : Nat} {J1 J2 : xII} (h : rB p M X m J1 J2) (hMX : M ≠ X) (hpM : p ≠ M) (hpX : p ≠ X) {e : rvE} (he : e.2.2.2 = none → e.2.1 = none ∧ e.2.2.1 = none) : rB p M X m (pApp J1 p M X e) (mApp J2 m e) := by
  obtain ⟨h1, h2, h3, h4⟩ := h
  obtain ⟨r, a, b, c⟩ := e
  cases c with
  | none =>
    obtain ⟨e1, e2⟩ := he rfl
    change a = none at e1
    change b = none at e2
    subst e1
    subst e2
    exact ⟨h1, h2, h3, h4⟩
  | some c =>
    have hM : ∀ k, k < 4096 → pReg (pReg J1 X a) M b M k = pReg (pReg J2 (m + 47) a) (m + 46) b (m + 46) k := pReg_cg b fun k hk => by
      rw [pReg_at hMX, pReg_at (show m + 46 ≠ m + 47 by omega)]
      exact h1 k hk
    have hX : ∀ k, k < 32 → pReg (pReg J1 X a) M b X k = pReg (pReg J2 (m + 47) a) (m + 46) b (m + 47) k := fun k hk => by
      rw [pReg_at hMX.symm, pReg_at (show m + 47 ≠ m + 46 by omega)]
      exact pReg_cg a h2 k hk
    refine ⟨fun k hk => ?_, fun k hk => ?_, ?_, ?_⟩
    · show xup (xup _ p 2 c) p 3 _ M k = xup (xup _ (m + 47) 32 c) m 96 _ (m + 46) k
      rw [xup_a hpM.symm, xup_a hpM.symm, xup_a (show m + 46 ≠ m by omega), xup_a (show m + 46 ≠ m + 47 by omega)]
      exact hM k hk
    · show xup (xup _ p 2 c) p 3 _ X k = xup (xup _ (m + 47) 32 c) m 96 _ (m + 47) k
      rw [xup_a hpX.symm, xup_a hpX.symm, xup_a (show m + 47 ≠ m by omega), xup_k (show k ≠ 32 by omega)]
      exact hX k hk
    · show xup (xup _ p 2 c) p 3 _ p 2 = xup (xup _ (m + 47) 32 c) m 96 _ (m + 47) 32
      rw [xup_k (show 2 ≠ 3 by decide), xup_s, xup_a (show m + 47 ≠ m by omega), xup_s]
    · show xup (xup _ p 2 c) p 3 _ p 3 = xup (xup _ (m + 47) 32 c) m 96 _ m 96
      rw [xup_s, xup_s, h4]
theorem rB_go {p M X m : Nat} (hMX : M ≠ X) (hpM : p ≠ M) (hpX : p ≠ X) : ∀ (n : Nat) {J1 J2 : xII}, rB p M X m J1 J2 → (rvGo p M X 4096 n J1).1 = (mvGo m n J2).1 ∧ rB p M X m (rvGo p M X 4096 n J1).2 (mvGo m n J2).2
  | 0, _, _, h => ⟨rfl, h⟩
  | n + 1, J1, J2, h => by
    have e : rv (J1 M) 4096 (J1 X) (J1 p 2) = rv (J2 (m + 46)) 4096 (J2 (m + 47)) (J2 (m + 47) 32) := by
      rw [h.2.2.1]
      exact rv_cg (by decide) h.1 h.2.1 _
    rw [rvGo, mvGo, e]
    have ha := rB_app h hMX hpM hpX (e := rv (J2 (m + 46)) 4096 (J2 (m + 47)) (J2 (m + 47) 32)) rv_none
    by_cases hz : (rv (J2 (m + 46)) 4096 (J2 (m + 47)) (J2 (m + 47) 32)).1 = 0
    · rw [if_pos hz, if_pos hz]
      exact rB_go hMX hpM hpX n ha
    · rw [if_neg hz, if_neg hz]
      exact ⟨rfl, ha⟩
theorem pApp_fr {J : xII} {p M X a : Nat} {e : rvE} (h1 : a ≠ p) (h2 : a ≠ M) (h3 : a ≠ X) : pApp J p M X e a = J a := by
  funext k
  obtain ⟨r, x, y, c⟩ := e
  cases c with
  | none =>
    show pReg (pReg J X x) M y a k = _
    rw [pReg_at h2, pReg_at h3]
  | some c =>
    show xup (xup (pReg (pReg J X x) M y) p 2 c) p 3 _ a k = _
    rw [xup_a h1, xup_a h1, pReg_at h2, pReg_at h3]
theorem rvGo_fr {p M X len a : Nat} (h1 : a ≠ p) (h2 : a ≠ M) (h3 : a ≠ X) : ∀ (n : Nat) (J : xII), (rvGo p M X len n J).2 a = J a
  | 0, _ => rfl
  | n + 1, J => by
    rw [rvGo]
    split
    · rw [rvGo_fr h1 h2 h3 n, pApp_fr h1 h2 h3]
    · exact pApp_fr h1 h2 h3
theorem mApp_fr {J : xII} {m a k : Nat} {e : rvE} (h1 : a ≠ m + 46) (h2 : a ≠ m + 47) (h3 : a ≠ m ∨ k ≠ 96) : mApp J m e a k = J a k := by
  obtain ⟨r, x, y, c⟩ := e
  cases c with
  | none => rfl
  | some c =>
    show xup (xup (pReg (pReg J (m + 47) x) (m + 46) y) (m + 47) 32 c) m 96 _ a k = _
    have : xup (xup (pReg (pReg J (m + 47) x) (m + 46) y) (m + 47) 32 c) m 96 (J m 96 + 1) a k = xup (pReg (pReg J (m + 47) x) (m + 46) y) (m + 47) 32 c a k := by
      rcases h3 with h | h
      · exact xup_a h
      · exact xup_k h
    rw [this, xup_a h2, pReg_at h1, pReg_at h2]
theorem mvGo_fr {m a k : Nat} (h1 : a ≠ m + 46) (h2 : a ≠ m + 47) (h3 : a ≠ m ∨ k ≠ 96) : ∀ (n : Nat) (J : xII), (mvGo m n J).2 a k = J a k
  | 0, _ => rfl
  | n + 1, J => by
    rw [mvGo]
    split
    · rw [mvGo_fr h1 h2 h3 n, mApp_fr h1 h2 h3]
    · exact mApp_fr h1 h2 h3
