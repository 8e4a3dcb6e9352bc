/-! ===== the Model's board: the same word ===== -/
set_option maxRecDepth 100000
/-- what a word does, in the Model -/
def mApp (I : xII) (m : Nat) (e : rvE) : xII := match e.2.2.2 with
  | none => I
  | some pc => xup (xup (pReg (pReg I (m + 47) e.2.1) (m + 46) e.2.2.1) (m + 47) 32 pc) m 96 (I m 96 + 1)
theorem and7 (z : Int32) : ∃ k, k < 8 ∧ z &&& 7 = nI k := by
  refine ⟨(z &&& 7).toBitVec.toNat, ?_, ?_⟩
  · show (z.toBitVec &&& 7#32).toNat < 8
    rw [BitVec.toNat_and]
    exact Nat.lt_of_le_of_lt Nat.and_le_right (by decide)
  · apply Int32.toBitVec_inj.mp
    show (z &&& 7).toBitVec = BitVec.ofNat 32 (z &&& 7).toBitVec.toNat
    rw [BitVec.ofNat_toNat, BitVec.setWidth_eq]
theorem and31_in33 (z : Int32) : vp_in (z &&& 31) 33 := by
  obtain ⟨k, hk, e⟩ := and31 z
  rw [e]
  exact vp_in_nI (by omega) (by decide)
theorem nI_and3 {k : Nat} (h : k < 2147483648) : nI k &&& 3 = nI (k % 4) := by
  apply Int32.toBitVec_inj.mp
  show BitVec.ofNat 32 k &&& 3#32 = BitVec.ofNat 32 (k % 4)
  apply BitVec.eq_of_toNat_eq
  rw [BitVec.toNat_and, BitVec.toNat_ofNat]
  show k % 4294967296 &&& (2 ^ 2 - 1) = _
  rw [Nat.and_two_pow_sub_one_eq_mod, BitVec.toNat_ofNat]
  omega
theorem nI_shr2 {k : Nat} (h : k < 2147483648) : jishr (nI k) 2 = nI (k / 4) := by
  apply Int32.toBitVec_inj.mp
  show (BitVec.ofNat 32 k).sshiftRight 2 = BitVec.ofNat 32 (k / 4)
  rw [BitVec.sshiftRight_eq_of_msb_false]
  · apply BitVec.eq_of_toNat_eq
    rw [BitVec.toNat_ushiftRight, BitVec.toNat_ofNat, BitVec.toNat_ofNat, Nat.shiftRight_eq_div_pow]
    omega
  · rw [BitVec.msb_eq_false_iff_two_mul_lt, BitVec.toNat_ofNat]
    omega
theorem nI_ushr2 {k : Nat} (h : k < 2147483648) : jiushr (nI k) 2 = nI (k / 4) := by
  apply Int32.toBitVec_inj.mp
  show (BitVec.ofNat 32 k) >>> 2 = BitVec.ofNat 32 (k / 4)
  apply BitVec.eq_of_toNat_eq
  rw [BitVec.toNat_ushiftRight, BitVec.toNat_ofNat, BitVec.toNat_ofNat, Nat.shiftRight_eq_div_pow]
  omega
theorem nI_mul8 {k : Nat} : (8 : Int32) * nI k = nI (8 * k) := by
  apply Int32.toBitVec_inj.mp
  show 8#32 * BitVec.ofNat 32 k = BitVec.ofNat 32 (8 * k)
  rw [BitVec.ofNat_mul]
theorem in16 {a : Int32} (h : f_X13_isOut a = 0) : ∃ q r, q < 4096 ∧ r < 4 ∧ a = nI (4 * q + r) := by
  unfold f_X13_isOut at h
  by_cases h0 : a < 0
  · rw [if_pos h0] at h
    exact absurd h (by decide)
  · rw [if_neg h0] at h
    by_cases h1 : a ≤ 16383
    · obtain ⟨j, hj, rfl⟩ := nI_of h0
      have h2 : j ≤ 16383 := (nI_leI (a := j) (b := 16383) hj (by decide)).mp h1
      exact ⟨j / 4, j % 4, by omega, by omega, by rw [show 4 * (j / 4) + j % 4 = j by omega]⟩
    · rw [if_neg h1] at h
      exact absurd h (by decide)
theorem out16 {a : Int32} (h : jiushr a 2 < nI 4096) : f_X13_isOut a = 0 := by
  have ha : a.toBitVec.toNat < 16384 := by
    have e : jiushr a 2 = nI (a.toBitVec.toNat / 4) := by
      apply Int32.toBitVec_inj.mp
      show a.toBitVec >>> 2 = BitVec.ofNat 32 (a.toBitVec.toNat / 4)
      apply BitVec.eq_of_toNat_eq
      rw [BitVec.toNat_ushiftRight, BitVec.toNat_ofNat, Nat.shiftRight_eq_div_pow]
      have := a.toBitVec.isLt
      omega
    rw [e] at h
    have := a.toBitVec.isLt
    have := (nI_ltI (a := a.toBitVec.toNat / 4) (b := 4096) (by omega) (by decide)).mp h
    omega
  have e : a = nI a.toBitVec.toNat := by
    apply Int32.toBitVec_inj.mp
    show a.toBitVec = BitVec.ofNat 32 a.toBitVec.toNat
    rw [BitVec.ofNat_toNat, BitVec.setWidth_eq]
  unfold f_X13_isOut
  rw [e, if_neg, if_pos]
  · exact (nI_leI (a := a.toBitVec.toNat) (b := 16383) (by omega) (by decide)).mpr (by omega)
  · intro h
    have := (nI_ltI (a := a.toBitVec.toNat) (b := 0) (by omega) (by decide)).mp h
    omega
theorem out_n {a : Int32} (h : ¬ f_X13_isOut a = 0) : ¬ jiushr a 2 < nI 4096 := fun z => h (out16 z)
theorem in_lt {q r : Nat} (hq : q < 4096) (hr : r < 4) : jiushr (nI (4 * q + r)) 2 < nI 4096 := by
  rw [nI_ushr2 (by omega), show (4 * q + r) / 4 = q by omega]
  exact (nI_ltI (by omega) (by decide)).mpr hq
section MB
variable {m : Nat} {I : xII}
theorem s_X13_gives {w v : Int32} {Q : xII → Prop} (hQ : Q (pReg I (m + 47) (rvReg w v))) : w_X13_gives m (rvD w) v Q I := by
  refine ⟨fun h => ?_, fun h => ⟨and31_in33 _, ?_⟩⟩
  · rw [rvReg, if_pos h] at hQ
    exact hQ
  · rintro _ rfl
    rw [rvReg, if_neg h] at hQ
    exact hQ
theorem s_X13_goesOn {n : Int32} {Q : Int32 → xII → Prop} (hQ : Q 0 (xup (xup I (m + 47) 32 n) m 96 (I m 96 + 1))) : w_X13_goesOn m n Q I := by
  refine ⟨vp_in_nI (n := 32) (by decide) (by decide), ?_⟩
  rintro _ rfl _ rfl
  exact hQ
theorem pReg_96 {q : Option (Nat × Int32)} : pReg I (m + 47) q m 96 = I m 96 := pReg_at (by omega)
/-- a register is given, then it goes on -/
theorem mb_mk {w v pc : Int32} {Q : Int32 → xII → Prop} (hQ : Q 0 (mApp I m (0, rvReg w v, none, some pc))) : ∃ R : xII → Prop, w_X13_gives m (rvD w) v R I ∧ (∀ I1 : xII, R I1 → (∃ R2 : Int32 → xII → Prop, w_X13_goesOn m pc R2 I1 ∧ (∀ (v2 : Int32) (I2 : xII), R2 v2 I2 → (Q v2 I2)))) := by
  refine ⟨_, s_X13_gives (Q := fun J => pReg I (m + 47) (rvReg w v) = J) rfl, ?_⟩
  rintro _ rfl
  refine ⟨_, s_X13_goesOn (Q := fun r J => r = 0 ∧ xup (xup (pReg I (m + 47) (rvReg w v)) (m + 47) 32 pc) m 96 (pReg I (m + 47) (rvReg w v) m 96 + 1) = J) ⟨rfl, rfl⟩, ?_⟩
  rintro _ _ ⟨rfl, rfl⟩
  rw [pReg_96]
  exact hQ
theorem mb_go {pc : Int32} {Q : Int32 → xII → Prop} (hQ : Q 0 (mApp I m (0, none, none, some pc))) : ∃ R2 : Int32 → xII → Prop, w_X13_goesOn m pc R2 I ∧ (∀ (v2 : Int32) (I2 : xII), R2 v2 I2 → (Q v2 I2)) := by
  refine ⟨_, s_X13_goesOn (Q := fun r J => r = 0 ∧ xup (xup I (m + 47) 32 pc) m 96 (I m 96 + 1) = J) ⟨rfl, rfl⟩, ?_⟩
  rintro _ _ ⟨rfl, rfl⟩
  exact hQ
theorem s_X13_jumps {w t pc : Int32} {Q : Int32 → xII → Prop} (hQ : Q (rvJump w t pc).1 (mApp I m (rvJump w t pc))) : w_X13_jumps m (rvD w) t pc Q I := by
  refine ⟨fun h => ?_, fun h => ?_⟩
  · rw [rvJump, if_pos h] at hQ
    exact mb_mk hQ
  · rw [rvJump, if_neg h] at hQ
    exact hQ
theorem goes_eq {f a b : Int32} (h : ∃ k, k < 8 ∧ f = nI k) (h2 : ¬ f = 2) (h3 : ¬ f = 3) : (if (f &&& (1 : Int32)) = 0 then (if (2 : Int32) ≤ f then (if (6 : Int32) ≤ f then (if (b + (-2147483648 : Int32)) ≤ (a + (-2147483648 : Int32)) then (0 : Int32) else (1 : Int32)) else (if b ≤ a then (0 : Int32) else (1 : Int32))) else (if a = b then (1 : Int32) else (0 : Int32))) else (if (if (2 : Int32) ≤ f then (if (6 : Int32) ≤ f then (if (b + (-2147483648 : Int32)) ≤ (a + (-2147483648 : Int32)) then (0 : Int32) else (1 : Int32)) else (if b ≤ a then (0 : Int32) else (1 : Int32))) else (if a = b then (1 : Int32) else (0 : Int32))) = 0 then (1 : Int32) else (0 : Int32))) = f_X12_goes f a b := by
  obtain ⟨k, hk, rfl⟩ := h
  unfold f_X12_goes
  have hx : (if a = b then (1 : Int32) else (0 : Int32)) = 0 ∨ (if a = b then (1 : Int32) else (0 : Int32)) = 1 := by
    by_cases h : a = b <;> simp [h]
  have hy : (if b ≤ a then (0 : Int32) else (1 : Int32)) = 0 ∨ (if b ≤ a then (0 : Int32) else (1 : Int32)) = 1 := by
    by_cases h : b ≤ a <;> simp [h]
  have hz : (if (b + (-2147483648 : Int32)) ≤ (a + (-2147483648 : Int32)) then (0 : Int32) else (1 : Int32)) = 0 ∨ (if (b + (-2147483648 : Int32)) ≤ (a + (-2147483648 : Int32)) then (0 : Int32) else (1 : Int32)) = 1 := by
    by_cases h : (b + (-2147483648 : Int32)) ≤ (a + (-2147483648 : Int32))
    · exact Or.inl (if_pos h)
    · exact Or.inr (if_neg h)
  generalize (if a = b then (1 : Int32) else (0 : Int32)) = x at hx ⊢
  generalize (if b ≤ a then (0 : Int32) else (1 : Int32)) = y at hy ⊢
  generalize (if (b + (-2147483648 : Int32)) ≤ (a + (-2147483648 : Int32)) then (0 : Int32) else (1 : Int32)) = z at hz ⊢
  match k, hk with
  | 0, _ => rcases hx with rfl | rfl <;> rcases hy with rfl | rfl <;> rcases hz with rfl | rfl <;> decide
  | 1, _ => rcases hx with rfl | rfl <;> rcases hy with rfl | rfl <;> rcases hz with rfl | rfl <;> decide
  | 2, _ => exact absurd rfl h2
  | 3, _ => exact absurd rfl h3
  | 4, _ => rcases hx with rfl | rfl <;> rcases hy with rfl | rfl <;> rcases hz with rfl | rfl <;> decide
  | 5, _ => rcases hx with rfl | rfl <;> rcases hy with rfl | rfl <;> rcases hz with rfl | rfl <;> decide
  | 6, _ => rcases hx with rfl | rfl <;> rcases hy with rfl | rfl <;> rcases hz with rfl | rfl <;> decide
  | 7, _ => rcases hx with rfl | rfl <;> rcases hy with rfl | rfl <;> rcases hz with rfl | rfl <;> decide
theorem s_X13_branches {f a b t q : Int32} (hf : ∃ k, k < 8 ∧ f = nI k) {Q : Int32 → xII → Prop} (h1 : f = 2 ∨ f = 3 → Q 2 I)
    (hQ : ¬ (f = 2 ∨ f = 3) → f_X12_goes f a b = 0 → Q 0 (mApp I m (0, none, none, some (q + 4)))) (h3 : ¬ (f = 2 ∨ f = 3) → ¬ f_X12_goes f a b = 0 → t &&& 3 = 0 → Q 0 (mApp I m (0, none, none, some t)))
    (h4 : ¬ (f = 2 ∨ f = 3) → ¬ f_X12_goes f a b = 0 → ¬ t &&& 3 = 0 → Q 3 I) : w_X13_branches m f a b t q Q I := by
  refine ⟨fun h => h1 (Or.inl h), fun h => ⟨fun h' => h1 (Or.inr h'), fun h' => ?_⟩⟩
  have hn : ¬ (f = 2 ∨ f = 3) := by
    rintro (e | e)
    · exact h e
    · exact h' e
  rw [goes_eq hf h h']
  exact ⟨fun hg => mb_go (hQ hn hg), fun hg => ⟨fun ht => mb_go (h3 hn hg ht), fun ht => h4 hn hg ht⟩⟩
theorem s_X13_byteAt {q r : Nat} (hq : q < 4096) (hr : r < 4) {Q : Int32 → xII → Prop} (hQ : Q (rbM (I (m + 46) q) r) I) : w_X13_byteAt m (nI (4 * q + r)) Q I := by
  unfold w_X13_byteAt
  rw [nI_shr2 (by omega), nI_and3 (by omega), nI_mul8, show (4 * q + r) / 4 = q by omega, show (4 * q + r) % 4 = r by omega]
  refine ⟨vp_in_nI hq (by decide), ?_⟩
  rw [show ix (nI q) = q from nI_clamp (by omega)]
  exact hQ
theorem s_X13_putByte {q r : Nat} (hq : q < 4096) (hr : r < 4) {v : Int32} {Q : xII → Prop} (hQ : Q (xup I (m + 46) q (pbM (I (m + 46) q) v r))) : w_X13_putByte m (nI (4 * q + r)) v Q I := by
  unfold w_X13_putByte
  rw [nI_shr2 (by omega), nI_and3 (by omega), nI_mul8, show (4 * q + r) / 4 = q by omega, show (4 * q + r) % 4 = r by omega]
  refine ⟨vp_in_nI hq (by decide), ?_⟩
  rw [show ix (nI q) = q from nI_clamp (by omega)]
  rintro _ rfl
  exact hQ
/-- the bytes k - 1 down to i of a word, from byte r on -/
def accM (w : Int32) (r i : Nat) : Nat → Int32
  | 0 => 0
  | k + 1 => jishl (accM w r (i + 1) k) 8 ||| rbM w (r + i)
theorem nI_and1 {k : Nat} (h : k < 2147483648) : nI k &&& 1 = nI (k % 2) := by
  apply Int32.toBitVec_inj.mp
  show BitVec.ofNat 32 k &&& 1#32 = BitVec.ofNat 32 (k % 2)
  apply BitVec.eq_of_toNat_eq
  rw [BitVec.toNat_and, BitVec.toNat_ofNat]
  show k % 4294967296 &&& (2 ^ 1 - 1) = _
  rw [Nat.and_two_pow_sub_one_eq_mod, BitVec.toNat_ofNat]
  omega
theorem al_fit {q r n : Nat} (hq : q < 4096) (hr : r < 4) (hn : n = 1 ∨ n = 2 ∨ n = 4) (h : nI (4 * q + r) &&& (nI n - 1) = 0) : r + n ≤ 4 := by
  rcases hn with rfl | rfl | rfl
  · omega
  · rw [show nI 2 - 1 = 1 by decide, nI_and1 (by omega), show (4 * q + r) % 2 = r % 2 by omega] at h
    have : r % 2 = 0 := by
      have := congrArg ix h
      rwa [show ix (nI (r % 2)) = r % 2 from nI_clamp (by omega)] at this
    omega
  · rw [show nI 4 - 1 = 3 by decide, nI_and3 (by omega), show (4 * q + r) % 4 = r by omega] at h
    have : r = 0 := by
      have := congrArg ix h
      rwa [show ix (nI r) = r from nI_clamp (by omega)] at this
    omega
theorem nI_dec {i : Nat} (h : 0 < i) : nI i + (-1) = nI (i - 1) := by
  apply Int32.toBitVec_inj.mp
  show BitVec.ofNat 32 i + (-1#32) = BitVec.ofNat 32 (i - 1)
  apply BitVec.eq_of_toNat_eq
  rw [BitVec.toNat_add, BitVec.toNat_ofNat, BitVec.toNat_ofNat]
  show (i % 4294967296 + 4294967295) % 4294967296 = (i - 1) % 4294967296
  omega
theorem nI_sub1 (i : Nat) : nI i - 1 = nI i + (-1) := Int32.sub_eq_add_neg _ _
theorem accM_snoc (w : Int32) (r : Nat) : ∀ k i, 0 < i → accM w r (i - 1) (k + 1) = jishl (accM w r i k) 8 ||| rbM w (r + (i - 1)) := by
  intro k i h
  rw [accM, show i - 1 + 1 = i by omega]
theorem ld_loop {q r n : Nat} (hq : q < 4096) (hr : r + n ≤ 4) {E : Int32 → xII → Prop} (hE : E (accM (I (m + 46) q) r 0 n) I) : ∃ L1 : Nat → Int32 → Int32 → xII → Prop, (∃ n1 : Nat, L1 n1 (0 : Int32) (nI n - 1) I) ∧ (∀ (n1 : Nat) (y1_6 : Int32) (y1_7 : Int32) (I1 : xII), L1 n1 y1_6 y1_7 I1 → ((y1_7 < 0 → E y1_6 I1) ∧ (¬ y1_7 < 0 → ∃ R4 : Int32 → xII → Prop, w_X13_byteAt m (nI (4 * q + r) + y1_7) R4 I1 ∧ (∀ (v4 : Int32) (I4 : xII), R4 v4 I4 → ((∃ q1 : Nat, q1 < n1 ∧ L1 q1 ((jishl y1_6 (8 : Int32)) ||| v4) (y1_7 + (-1 : Int32)) I4)))))) := by
  refine ⟨fun p v k J => I = J ∧ ∃ i, i ≤ n ∧ k = nI i + (-1) ∧ p = i ∧ v = accM (I (m + 46) q) r i (n - i), ⟨n, rfl, n, Nat.le_refl _, nI_sub1 n, rfl, by rw [Nat.sub_self]; rfl⟩, ?_⟩
  rintro p v k J ⟨rfl, i, hi, rfl, rfl, rfl⟩
  rcases Nat.eq_zero_or_pos p with rfl | hp
  · exact ⟨fun _ => hE, fun h => absurd (by decide) h⟩
  · rw [nI_dec hp]
    refine ⟨fun h => absurd h ?_, fun _ => ⟨fun v J => v = rbM (I (m + 46) q) (r + (p - 1)) ∧ I = J, ?_, ?_⟩⟩
    · intro h
      have := (nI_ltI (a := p - 1) (b := 0) (by omega) (by decide)).mp h
      omega
    · rw [nI_add, show 4 * q + r + (p - 1) = 4 * q + (r + (p - 1)) by omega]
      exact s_X13_byteAt hq (by omega) ⟨rfl, rfl⟩
    · rintro _ _ ⟨rfl, rfl⟩
      refine ⟨p - 1, by omega, rfl, p - 1, by omega, rfl, rfl, ?_⟩
      rw [show n - (p - 1) = (n - p) + 1 by omega, accM_snoc _ _ _ _ hp]
theorem ld_case {f w a pc : Int32} {n : Nat} (h3 : ¬ f = 3) (h5 : f ≤ 5) (hN : (if f = (2 : Int32) then (4 : Int32) else (if (f &&& (3 : Int32)) = (1 : Int32) then (2 : Int32) else (1 : Int32))) = nI n) (hs : ¬ (f &&& 3 = 3 ∨ f = 6)) (hal : jishl 1 (f &&& 3) - 1 = nI n - 1) (hn : n = 1 ∨ n = 2 ∨ n = 4)
    (hv : ∀ (u : Int32) (r : Nat), r + n ≤ 4 → (if f = 0 then (accM u r 0 n).toInt8.toInt32 else (if f = (1 : Int32) then (accM u r 0 n).toInt16.toInt32 else accM u r 0 n)) = (if f = 0 then (jiushr u (nI (8 * r))).toInt8.toInt32 else if f = 1 then (jiushr u (nI (8 * r))).toInt16.toInt32 else if f = 2 then (jiushr u (nI (8 * r))) else if f = 4 then (jiushr u (nI (8 * r))) &&& 255 else (jiushr u (nI (8 * r))) &&& 65535))
    {Q : Int32 → xII → Prop} (hQ : Q (rvLoad (I (m + 46)) 4096 w f a pc).1 (mApp I m (rvLoad (I (m + 46)) 4096 w f a pc))) : w_X13_loads m f (rvD w) a pc Q I := by
  unfold w_X13_loads
  rw [hN]
  refine ⟨fun h => absurd h h3, fun _ => ⟨fun _ => ⟨fun ha => ⟨fun ho => ?_, fun ho => ?_⟩, fun ha => ?_⟩, fun h => absurd h5 h⟩⟩
  · obtain ⟨q, r, hq, hr, rfl⟩ := in16 ho
    have hfit := al_fit hq hr hn ha
    refine ld_loop hq hfit (E := fun y J => ∃ R2 : xII → Prop, w_X13_gives m (rvD w) (if f = 0 then y.toInt8.toInt32 else (if f = (1 : Int32) then y.toInt16.toInt32 else y)) R2 J ∧ (∀ I2 : xII, R2 I2 → (∃ R3 : Int32 → xII → Prop, w_X13_goesOn m (pc + (4 : Int32)) R3 I2 ∧ (∀ (v3 : Int32) (I3 : xII), R3 v3 I3 → (Q v3 I3))))) ?_
    refine mb_mk ?_
    rw [rvLoad, if_neg hs, if_neg (by rw [hal]; exact fun z => z ha), if_neg (fun z => z (in_lt hq hr)), rvMk] at hQ
    rw [nI_ushr2 (by omega), nI_and3 (by omega), nI_mul8, show (4 * q + r) / 4 = q by omega, show (4 * q + r) % 4 = r by omega, show ix (nI q) = q from nI_clamp (by omega)] at hQ
    rw [hv _ r hfit]
    exact hQ
  · rw [rvLoad, if_neg hs, if_neg (by rw [hal]; exact fun z => z ha), if_pos (out_n ho)] at hQ
    exact hQ
  · rw [rvLoad, if_neg hs, if_pos (by rw [hal]; exact ha)] at hQ
    exact hQ
theorem ac1 (u : Int32) (r : Nat) (h : r < 4) : accM u r 0 1 = jiushr u (nI (8 * r)) &&& 255 := ld1 u h
theorem ac2 (u : Int32) (r : Nat) (h : r < 3) : accM u r 0 2 = jiushr u (nI (8 * r)) &&& 65535 := ld2 u h
theorem ac4 (u : Int32) : accM u 0 0 4 = u := ld4 u
theorem jiushr0 (u : Int32) : jiushr u 0 = u := by
  apply Int32.toBitVec_inj.mp
  show u.toBitVec >>> 0 = u.toBitVec
  rw [BitVec.ushiftRight_zero]
theorem s_X13_loads {f w a pc : Int32} (hf : ∃ k, k < 8 ∧ f = nI k) {Q : Int32 → xII → Prop} (hQ : Q (rvLoad (I (m + 46)) 4096 w f a pc).1 (mApp I m (rvLoad (I (m + 46)) 4096 w f a pc))) : w_X13_loads m f (rvD w) a pc Q I := by
  obtain ⟨k, hk, rfl⟩ := hf
  match k, hk with
  | 0, _ =>
    refine ld_case (n := 1) (by decide) (by decide) (by decide) (by decide) (by decide) (Or.inl rfl) ?_ hQ
    intro u r hr
    rw [if_pos (by decide), if_pos (by decide), ac1 u r (by omega), i8_and]
  | 1, _ =>
    refine ld_case (n := 2) (by decide) (by decide) (by decide) (by decide) (by decide) (Or.inr (Or.inl rfl)) ?_ hQ
    intro u r hr
    rw [if_neg (by decide), if_pos (by decide), if_neg (by decide), if_pos (by decide), ac2 u r (by omega), i16_and]
  | 2, _ =>
    refine ld_case (n := 4) (by decide) (by decide) (by decide) (by decide) (by decide) (Or.inr (Or.inr rfl)) ?_ hQ
    intro u r hr
    have : r = 0 := by omega
    subst this
    rw [if_neg (by decide), if_neg (by decide), if_neg (by decide), if_neg (by decide), if_pos (by decide), ac4]
    exact (jiushr0 u).symm
  | 3, _ =>
    rw [rvLoad, if_pos (by decide)] at hQ
    exact ⟨fun _ => hQ, fun h => absurd rfl h⟩
  | 4, _ =>
    refine ld_case (n := 1) (by decide) (by decide) (by decide) (by decide) (by decide) (Or.inl rfl) ?_ hQ
    intro u r hr
    rw [if_neg (by decide), if_neg (by decide), if_neg (by decide), if_neg (by decide), if_neg (by decide), if_pos (by decide), ac1 u r (by omega)]
  | 5, _ =>
    refine ld_case (n := 2) (by decide) (by decide) (by decide) (by decide) (by decide) (Or.inr (Or.inl rfl)) ?_ hQ
    intro u r hr
    rw [if_neg (by decide), if_neg (by decide), if_neg (by decide), if_neg (by decide), if_neg (by decide), if_neg (by decide), ac2 u r (by omega)]
  | 6, _ =>
    rw [rvLoad, if_pos (by decide)] at hQ
    exact ⟨fun h => absurd h (by decide), fun _ => ⟨fun h => absurd h (by decide), fun _ => hQ⟩⟩
  | 7, _ =>
    rw [rvLoad, if_pos (by decide)] at hQ
    exact ⟨fun h => absurd h (by decide), fun _ => ⟨fun h => absurd h (by decide), fun _ => hQ⟩⟩
/-- the bytes of a word that is stored, one behind the other -/
def pbs (w v : Int32) (r : Nat) : Nat → Int32
  | 0 => w
  | k + 1 => pbM (pbs w v r k) (jishr v (nI (8 * k))) (r + k)
theorem st_loop {q r n : Nat} {v : Int32} (hq : q < 4096) (hr : r + n ≤ 4) {E : xII → Prop} (hE : E (xup I (m + 46) q (pbs (I (m + 46) q) v r n))) (h0 : 0 < n) : ∃ L1 : Nat → Int32 → xII → Prop, (∃ n1 : Nat, L1 n1 (0 : Int32) I) ∧ (∀ (n1 : Nat) (y1_6 : Int32) (I1 : xII), L1 n1 y1_6 I1 → ((nI n ≤ y1_6 → E I1) ∧ (¬ nI n ≤ y1_6 → ∃ R3 : xII → Prop, w_X13_putByte m (nI (4 * q + r) + y1_6) (jishr v ((8 : Int32) * y1_6)) R3 I1 ∧ (∀ I3 : xII, R3 I3 → ((∃ q1 : Nat, q1 < n1 ∧ L1 q1 (y1_6 + (1 : Int32)) I3)))))) := by
  have hid : xup I (m + 46) q (I (m + 46) q) = I := by
    funext a k
    by_cases h : a = m + 46 ∧ k = q
    · obtain ⟨rfl, rfl⟩ := h
      exact xup_s
    · simp [xup, h]
  refine ⟨fun p k J => ∃ i, i ≤ n ∧ k = nI i ∧ p = n - i ∧ xup I (m + 46) q (pbs (I (m + 46) q) v r i) = J, ⟨n, 0, Nat.zero_le _, rfl, rfl, hid⟩, ?_⟩
  rintro p k J ⟨i, hi, rfl, rfl, rfl⟩
  refine ⟨fun h => ?_, fun h => ⟨fun J => xup I (m + 46) q (pbs (I (m + 46) q) v r (i + 1)) = J, ?_, ?_⟩⟩
  · have : n ≤ i := (nI_leI (by omega) (by omega)).mp h
    rw [show i = n by omega]
    exact hE
  · have : i < n := by
      rcases Nat.lt_or_ge i n with h' | h'
      · exact h'
      · exact absurd ((nI_leI (by omega) (by omega)).mpr h') h
    rw [nI_add, nI_mul8, show 4 * q + r + i = 4 * q + (r + i) by omega]
    refine s_X13_putByte hq (by omega) ?_
    rw [xup_s]
    funext a k
    by_cases h : a = m + 46 ∧ k = q
    · obtain ⟨rfl, rfl⟩ := h
      rw [xup_s, xup_s, pbs]
    · simp [xup, h]
  · rintro _ rfl
    have : i < n := by
      rcases Nat.lt_or_ge i n with h' | h'
      · exact h'
      · exact absurd ((nI_leI (by omega) (by omega)).mpr h') h
    exact ⟨n - (i + 1), by omega, i + 1, by omega, nI_1 i, rfl, rfl⟩
theorem st_case {f a v pc : Int32} {n : Nat} {mask : Int32} (h2 : f ≤ 2) (hN : jishl 1 f = nI n) (hn : n = 1 ∨ n = 2 ∨ n = 4) (hM : (if f = 0 then (255 : Int32) else if f = 1 then 65535 else -1) = mask)
    (hv : ∀ (u : Int32) (r : Nat), r + n ≤ 4 → pbs u v r n = psH u v mask r)
    {Q : Int32 → xII → Prop} (hQ : Q (rvStore (I (m + 46)) 4096 f a v pc).1 (mApp I m (rvStore (I (m + 46)) 4096 f a v pc))) : w_X13_stores m f a v pc Q I := by
  unfold w_X13_stores
  rw [hN]
  refine ⟨fun _ => ⟨fun ha => ⟨fun ho => ?_, fun ho => ?_⟩, fun ha => ?_⟩, fun h => absurd h2 h⟩
  · obtain ⟨q, r, hq, hr, rfl⟩ := in16 ho
    have hfit := al_fit hq hr hn ha
    refine st_loop hq hfit (E := fun J => ∃ R2 : Int32 → xII → Prop, w_X13_goesOn m (pc + (4 : Int32)) R2 J ∧ (∀ (v2 : Int32) (I2 : xII), R2 v2 I2 → (Q v2 I2))) ?_ (by omega)
    rw [rvStore, if_neg (fun z => z h2), if_neg (by rw [hN]; exact fun z => z ha), if_neg (fun z => z (in_lt hq hr))] at hQ
    rw [nI_ushr2 (by omega), nI_and3 (by omega), nI_mul8, show (4 * q + r) / 4 = q by omega, show (4 * q + r) % 4 = r by omega, show ix (nI q) = q from nI_clamp (by omega), hM] at hQ
    refine ⟨_, s_X13_goesOn (Q := fun z J => z = 0 ∧ xup (xup (xup I (m + 46) q (pbs (I (m + 46) q) v r n)) (m + 47) 32 (pc + 4)) m 96 (xup I (m + 46) q (pbs (I (m + 46) q) v r n) m 96 + 1) = J) ⟨rfl, rfl⟩, ?_⟩
    rintro _ _ ⟨rfl, rfl⟩
    rw [hv _ r hfit, xup_a (show m ≠ m + 46 by omega)]
    exact hQ
  · rw [rvStore, if_neg (fun z => z h2), if_neg (by rw [hN]; exact fun z => z ha), if_pos (out_n ho)] at hQ
    exact hQ
  · rw [rvStore, if_neg (fun z => z h2), if_pos (by rw [hN]; exact ha)] at hQ
    exact hQ
theorem s_X13_stores {f a v pc : Int32} (hf : ∃ k, k < 8 ∧ f = nI k) {Q : Int32 → xII → Prop} (hQ : Q (rvStore (I (m + 46)) 4096 f a v pc).1 (mApp I m (rvStore (I (m + 46)) 4096 f a v pc))) : w_X13_stores m f a v pc Q I := by
  obtain ⟨k, hk, rfl⟩ := hf
  match k, hk with
  | 0, _ => exact st_case (n := 1) (mask := 255) (by decide) (by decide) (Or.inl rfl) (by decide) (fun u r h => st1 u v (r := r) (by omega)) hQ
  | 1, _ => exact st_case (n := 2) (mask := 65535) (by decide) (by decide) (Or.inr (Or.inl rfl)) (by decide) (fun u r h => st2 u v (r := r) (by omega)) hQ
  | 2, _ =>
    refine st_case (n := 4) (mask := -1) (by decide) (by decide) (Or.inr (Or.inr rfl)) (by decide) (fun u r h => ?_) hQ
    have : r = 0 := by omega
    subst this
    exact st4 u v
  | k + 3, hk =>
    have hb : ¬ nI (k + 3) ≤ 2 := fun z => by
      have := (nI_leI (a := k + 3) (b := 2) (by omega) (by decide)).mp z
      omega
    rw [rvStore, if_pos hb] at hQ
    exact ⟨fun h => absurd h hb, fun _ => hQ⟩
end MB
