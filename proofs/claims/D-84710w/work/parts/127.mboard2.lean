/-! ===== the Model's board: sums, one word, many ===== -/
set_option maxRecDepth 100000
theorem i32_dm1 (a : Int32) : a / (-1) = -a := by
  apply Int32.toBitVec_inj.mp
  show a.toBitVec.sdiv (-1#32) = -a.toBitVec
  have h1 : (-1#32).msb = true := by decide
  have h2 : (-1#32).neg = 1#32 := by decide
  unfold BitVec.sdiv
  rw [h1, h2]
  cases a.toBitVec.msb
  · show -(a.toBitVec / 1#32) = _
    rw [BitVec.udiv_one]
  · show (-a.toBitVec) / 1#32 = _
    rw [BitVec.udiv_one]
section MC
variable {m : Nat} {I : xII}
theorem over_done (a b : Int32) : f_X13_over a b = f_X0_done 3 a b := by
  show _ = (if b = 0 then (-1 : Int32) else (if b = (-1 : Int32) then (-a) else (a / b)))
  unfold f_X13_over
  by_cases h0 : b = 0
  · rw [if_pos h0, if_pos h0]
  rw [if_neg h0, if_neg h0]
  by_cases h1 : b = -1
  · subst h1
    rw [if_pos rfl]
    by_cases h2 : a = -2147483648
    · subst h2
      decide
    · rw [if_neg h2]
      exact i32_dm1 a
  · by_cases h2 : a = -2147483648
    · rw [if_pos h2, if_neg h1, if_neg h1]
    · rw [if_neg h2, if_neg h1]
theorem rest_done (a b : Int32) : f_X13_rest a b = f_X0_done 4 a b := by
  show _ = (if b = 0 then a else (if b = (-1 : Int32) then (0 : Int32) else (a - a / b * b)))
  unfold f_X13_rest
  by_cases h0 : b = 0
  · rw [if_pos h0, if_pos h0]
  rw [if_neg h0, if_neg h0]
  by_cases h1 : b = -1
  · subst h1
    rw [if_pos rfl]
    by_cases h2 : a = -2147483648
    · subst h2
      decide
    · rw [if_neg h2, i32_dm1 a]
      apply Int32.toBitVec_inj.mp
      show a.toBitVec - (-a.toBitVec) * (-1#32) = 0#32
      rw [BitVec.neg_mul_neg, BitVec.mul_one, BitVec.sub_self]
  · by_cases h2 : a = -2147483648
    · rw [if_pos h2, if_neg h1]
    · rw [if_neg h2, if_neg h1]
theorem product_eq (f a b : Int32) : f_X13_product f a b = f_X12_product f a b := by
  unfold f_X13_product f_X12_product
  rw [over_done, rest_done]
theorem s_X13_immediate {f w a pc : Int32} (hf : ∃ k, k < 8 ∧ f = nI k) {Q : Int32 → xII → Prop} (hQ : Q (rvImm w f a pc).1 (mApp I m (rvImm w f a pc))) : w_X13_immediate m f (jiushr w 25) (rvD w) a (jishr w 20) (jishr w 20 &&& 31) pc Q I := by
  have plain : ∀ {v : Int32}, ¬ f = 1 → ¬ f = 5 → v = f_X12_plain f a (jishr w 20) → ∃ R2 : xII → Prop, w_X13_gives m (rvD w) v R2 I ∧ (∀ I2 : xII, R2 I2 → (∃ R3 : Int32 → xII → Prop, w_X13_goesOn m (pc + (4 : Int32)) R3 I2 ∧ (∀ (v3 : Int32) (I3 : xII), R3 v3 I3 → (Q v3 I3)))) := by
    rintro _ h1 h5 rfl
    rw [rvImm, if_neg h1, if_neg h5] at hQ
    exact mb_mk hQ
  refine ⟨fun h1 => ⟨fun hg => ⟨fun v => v = jishl a (jishr w 20 &&& 31), ?_, ?_⟩, fun hg => ?_⟩, fun h1 => ⟨fun h5 => ⟨fun hg => ⟨fun v => v = jiushr a (jishr w 20 &&& 31), ?_, ?_⟩, fun hg => ⟨fun hh => ⟨fun v => v = jishr a (jishr w 20 &&& 31), ?_, ?_⟩, fun hh => ?_⟩⟩, fun h5 => ⟨fun v => v = f_X12_plain f a (jishr w 20), ?_, ?_⟩⟩⟩
  · rintro _ rfl
    rw [rvImm, if_pos h1, if_pos hg] at hQ
    exact mb_mk hQ
  · subst h1
    exact ⟨fun h => absurd h (by decide), fun _ => rfl, fun h => absurd h (by decide), fun h => absurd h (by decide), fun h => absurd h (by decide), fun h => absurd h (by decide), fun h => absurd h (by decide), fun h => absurd rfl h.2.1⟩
  · rw [rvImm, if_pos h1, if_neg hg] at hQ
    exact hQ
  · rintro _ rfl
    rw [rvImm, if_neg h1, if_pos h5, if_pos hg] at hQ
    exact mb_mk hQ
  · subst h5
    exact ⟨fun h => absurd h (by decide), fun h => absurd h (by decide), fun h => absurd h (by decide), fun h => absurd h (by decide), fun h => absurd h (by decide), fun _ => rfl, fun h => absurd h (by decide), fun h => absurd rfl h.2.2.2.2.2.1⟩
  · rintro _ rfl
    rw [rvImm, if_neg h1, if_pos h5, if_neg hg, if_pos hh] at hQ
    exact mb_mk hQ
  · subst h5
    exact ⟨fun h => absurd h (by decide), fun h => absurd h (by decide), fun h => absurd h (by decide), fun h => absurd h (by decide), fun h => absurd h (by decide), fun _ => rfl, fun h => absurd h (by decide), fun h => absurd rfl h.2.2.2.2.2.1⟩
  · rw [rvImm, if_neg h1, if_pos h5, if_neg hg, if_neg hh] at hQ
    exact hQ
  · intro v hv
    exact plain h1 h5 hv
  · unfold f_X12_plain
    refine ⟨fun h => ?_, fun h => absurd h h1, fun h => ?_, fun h => ?_, fun h => ?_, fun h => absurd h h5, fun h => ?_, fun h => ?_⟩
    · exact (if_pos h).symm
    · rw [if_neg (by rw [h]; decide), if_neg h1, if_pos h]
    · rw [if_neg (by rw [h]; decide), if_neg h1, if_neg (by rw [h]; decide), if_pos h]
    · rw [if_neg (by rw [h]; decide), if_neg h1, if_neg (by rw [h]; decide), if_neg (by rw [h]; decide), if_pos h]
    · rw [if_neg (by rw [h]; decide), if_neg h1, if_neg (by rw [h]; decide), if_neg (by rw [h]; decide), if_neg (by rw [h]; decide), if_neg h5, if_pos h]
    · obtain ⟨n0, n1, n2, n3, n4, n5, n6⟩ := h
      rw [if_neg n0, if_neg n1, if_neg n2, if_neg n3, if_neg n4, if_neg n5, if_neg n6]
theorem dg36 (a b : Int32) : f_X13_doing 36 a b = (if b ≤ a then (0 : Int32) else (1 : Int32)) := by
  unfold f_X13_doing
  rw [if_neg (by decide), if_neg (by decide), if_neg (by decide), if_neg (by decide), if_neg (by decide), if_neg (by decide), if_neg (by decide), if_neg (by decide), if_neg (by decide), if_neg (by decide), if_neg (by decide), if_neg (by decide), if_neg (by decide), if_neg (by decide), if_neg (by decide), if_neg (by decide), if_neg (by decide), if_neg (by decide), if_neg (by decide), if_neg (by decide), if_neg (by decide), if_neg (by decide), if_neg (by decide), if_neg (by decide), if_neg (by decide), if_neg (by decide), if_neg (by decide), if_neg (by decide), if_neg (by decide), if_neg (by decide), if_neg (by decide), if_neg (by decide), if_neg (by decide), if_neg (by decide), if_neg (by decide), if_pos rfl]
theorem s_X13_both {f w a b pc : Int32} {Q : Int32 → xII → Prop} (hQ : Q (rvOp w f a b pc).1 (mApp I m (rvOp w f a b pc))) : w_X13_both m f (jiushr w 25) (rvD w) a b pc Q I := by
  refine ⟨fun h0 => ?_, fun h0 => ⟨fun h1 => ?_, fun h1 => ⟨fun h2 => ⟨fun f0 => ?_, fun f0 => ⟨fun f5 => ?_, fun f5 => ?_⟩⟩, fun h2 => ?_⟩⟩⟩
  · rw [rvOp, if_pos h0] at hQ
    rw [dg36, dg36]
    exact mb_mk hQ
  · rw [rvOp, if_neg h0, if_pos h1, ← product_eq] at hQ
    exact mb_mk hQ
  · rw [rvOp, if_neg h0, if_neg h1, if_pos h2, if_pos f0] at hQ
    exact mb_mk hQ
  · rw [rvOp, if_neg h0, if_neg h1, if_pos h2, if_neg f0, if_pos f5] at hQ
    exact mb_mk hQ
  · rw [rvOp, if_neg h0, if_neg h1, if_pos h2, if_neg f0, if_neg f5] at hQ
    exact hQ
  · rw [rvOp, if_neg h0, if_neg h1, if_neg h2] at hQ
    exact hQ
theorem s_X13_oneWord {Q : Int32 → xII → Prop} (hQ : Q (rv (I (m + 46)) 4096 (I (m + 47)) (I (m + 47) 32)).1 (mApp I m (rv (I (m + 46)) 4096 (I (m + 47)) (I (m + 47) 32)))) : w_X13_oneWord m Q I := by
  refine ⟨vp_in_nI (by decide) (by decide), fun h3 => ⟨fun ho => ?_, fun ho => ?_⟩, fun h3 => ?_⟩
  · obtain ⟨q, r, hq, hr, e⟩ := in16 ho
    have e1 : jishr (I (m + 47) 32) 2 = nI q := by rw [e, nI_shr2 (by omega), show (4 * q + r) / 4 = q by omega]
    have e2 : jiushr (I (m + 47) 32) 2 = nI q := by rw [e, nI_ushr2 (by omega), show (4 * q + r) / 4 = q by omega]
    have e3 : ix (nI q) = q := nI_clamp (by omega)
    have hl : jiushr (I (m + 47) 32) 2 < nI 4096 := by rw [e2]; exact (nI_ltI (by omega) (by decide)).mpr hq
    rw [rv, if_pos ⟨h3, hl⟩, e2, e3] at hQ
    simp only [pt_0, pt_7, pt_12, pt_15, pt_20, pt_20b, pt_21, pt_7b, pt_25b, pt_8, pt_25, pt_12b, e1, e3]
    refine ⟨vp_in_nI hq (by decide), and31_in33 _, and31_in33 _, ?_⟩
    generalize I (m + 46) q = w at hQ ⊢
    have hf := and7 (jishr w 12)
    have n1 : ∀ {a b : Int32}, w &&& 127 = a → ¬ a = b → ¬ w &&& 127 = b := fun h h' z => h' (h.symm.trans z)
    refine ⟨fun h => ?_, fun h => ?_, fun h => ?_, fun h => ?_, fun h => ?_, fun h => ?_, fun h => ?_, fun h => ?_, fun h => ?_, fun h => ?_, fun h => ?_⟩
    · rw [rvW, if_pos h] at hQ
      exact mb_mk hQ
    · rw [rvW, if_neg (n1 h (by decide)), if_pos h] at hQ
      exact mb_mk hQ
    · rw [rvW, if_neg (n1 h (by decide)), if_neg (n1 h (by decide)), if_pos h] at hQ
      exact ⟨_, s_X13_jumps hQ, fun _ _ z => z⟩
    · rw [rvW, if_neg (n1 h (by decide)), if_neg (n1 h (by decide)), if_neg (n1 h (by decide)), if_pos h] at hQ
      refine ⟨fun h0 => ?_, fun h0 => ?_⟩
      · rw [if_pos h0] at hQ
        exact ⟨_, s_X13_jumps hQ, fun _ _ z => z⟩
      · rw [if_neg h0] at hQ
        exact hQ
    · rw [rvW, if_neg (n1 h (by decide)), if_neg (n1 h (by decide)), if_neg (n1 h (by decide)), if_neg (n1 h (by decide)), if_pos h] at hQ
      refine ⟨_, s_X13_branches hf (Q := Q) (fun z => ?_) (fun z g => ?_) (fun z g t => ?_) (fun z g t => ?_), fun _ _ z => z⟩
      · rw [if_pos z] at hQ
        exact hQ
      · rw [if_neg z, rvBr, if_pos g] at hQ
        exact hQ
      · rw [if_neg z, rvBr, if_neg g] at hQ
        dsimp only at hQ
        rw [if_pos t] at hQ
        exact hQ
      · rw [if_neg z, rvBr, if_neg g] at hQ
        dsimp only at hQ
        rw [if_neg t] at hQ
        exact hQ
    · rw [rvW, if_neg (n1 h (by decide)), if_neg (n1 h (by decide)), if_neg (n1 h (by decide)), if_neg (n1 h (by decide)), if_neg (n1 h (by decide)), if_pos h] at hQ
      exact ⟨_, s_X13_loads hf hQ, fun _ _ z => z⟩
    · rw [rvW, if_neg (n1 h (by decide)), if_neg (n1 h (by decide)), if_neg (n1 h (by decide)), if_neg (n1 h (by decide)), if_neg (n1 h (by decide)), if_neg (n1 h (by decide)), if_pos h] at hQ
      exact ⟨_, s_X13_stores hf hQ, fun _ _ z => z⟩
    · rw [rvW, if_neg (n1 h (by decide)), if_neg (n1 h (by decide)), if_neg (n1 h (by decide)), if_neg (n1 h (by decide)), if_neg (n1 h (by decide)), if_neg (n1 h (by decide)), if_neg (n1 h (by decide)), if_pos h] at hQ
      exact ⟨_, s_X13_immediate hf hQ, fun _ _ z => z⟩
    · rw [rvW, if_neg (n1 h (by decide)), if_neg (n1 h (by decide)), if_neg (n1 h (by decide)), if_neg (n1 h (by decide)), if_neg (n1 h (by decide)), if_neg (n1 h (by decide)), if_neg (n1 h (by decide)), if_neg (n1 h (by decide)), if_pos h] at hQ
      exact ⟨_, s_X13_both hQ, fun _ _ z => z⟩
    · rw [rvW, if_neg (n1 h (by decide)), if_neg (n1 h (by decide)), if_neg (n1 h (by decide)), if_neg (n1 h (by decide)), if_neg (n1 h (by decide)), if_neg (n1 h (by decide)), if_neg (n1 h (by decide)), if_neg (n1 h (by decide)), if_neg (n1 h (by decide)), if_pos h] at hQ
      refine ⟨fun h0 => ?_, fun h0 => ?_⟩
      · rw [if_pos h0] at hQ
        exact mb_go hQ
      · rw [if_neg h0] at hQ
        exact hQ
    · obtain ⟨k0, k1, k2, k3, k4, k5, k6, k7, k8, k9⟩ := h
      rw [rvW, if_neg k0, if_neg k1, if_neg k2, if_neg k3, if_neg k4, if_neg k5, if_neg k6, if_neg k7, if_neg k8, if_neg k9] at hQ
      refine ⟨fun h0 => ?_, fun h0 => ⟨fun h1 => ?_, fun h1 => ?_⟩⟩
      · rw [if_pos (by rw [h0]; decide), if_pos h0] at hQ
        exact mb_go (Q := fun v J => Q (v + 6) J) hQ
      · rw [if_pos (by rw [h1]; decide), if_neg h0, if_pos h1] at hQ
        exact mb_go (Q := fun v J => Q (v + 7) J) hQ
      · by_cases h2 : w &&& 127 = 115
        · rw [if_pos h2, if_neg h0, if_neg h1] at hQ
          exact hQ
        · rw [if_neg h2] at hQ
          exact hQ
  · rw [rv, if_neg (fun z => out_n ho z.2)] at hQ
    exact hQ
  · rw [rv, if_neg (fun z => h3 z.1)] at hQ
    exact hQ
end MC
/-- many words of the Model -/
def mvGo (m : Nat) : Nat → xII → Int32 × xII
  | 0, I => (0, I)
  | n + 1, I => if (rv (I (m + 46)) 4096 (I (m + 47)) (I (m + 47) 32)).1 = 0 then mvGo m n (mApp I m (rv (I (m + 46)) 4096 (I (m + 47)) (I (m + 47) 32))) else ((rv (I (m + 46)) 4096 (I (m + 47)) (I (m + 47) 32)).1, mApp I m (rv (I (m + 46)) 4096 (I (m + 47)) (I (m + 47) 32)))
theorem s_X13_go {m : Nat} {I : xII} {n : Nat} (h1 : 1 ≤ n) (h2 : n ≤ 1000) {Q : Int32 → xII → Prop} (hQ : Q (mvGo m n I).1 (mvGo m n I).2) : w_X13_go m (nI n) Q I := by
  refine ⟨fun h => ?_, fun _ => ⟨fun _ => ?_, fun h => ?_⟩⟩
  · have := (nI_ltI (a := n) (b := 1) (by omega) (by decide)).mp h
    omega
  · refine ⟨fun q r y J => ∃ i, i ≤ n ∧ q = n - i ∧ y = nI i ∧ ((r = 0 ∧ mvGo m (n - i) J = mvGo m n I) ∨ (¬ r = 0 ∧ (r, J) = mvGo m n I)), ⟨n, 0, by omega, rfl, rfl, Or.inl ⟨rfl, rfl⟩⟩, ?_⟩
    rintro q r y J ⟨i, hi, rfl, rfl, hJ⟩
    have hle : nI n ≤ nI i ↔ n ≤ i := nI_leI (by omega) (by omega)
    refine ⟨fun hc => ?_, fun hc => ⟨fun hr => ?_, fun hr => ?_⟩⟩
    · have : i = n := by have := hle.mp hc; omega
      subst this
      rcases hJ with ⟨rfl, e⟩ | ⟨-, e⟩
      · rw [Nat.sub_self] at e
        rw [← e] at hQ
        exact hQ
      · rw [← e] at hQ
        exact hQ
    · have hlt : i < n := by
        rcases Nat.lt_or_ge i n with h' | h'
        · exact h'
        · exact absurd (hle.mpr h') hc
      subst hr
      obtain ⟨-, e⟩ : (0 : Int32) = 0 ∧ _ := hJ.resolve_right (fun z => z.1 rfl)
      refine ⟨_, s_X13_oneWord (Q := fun r B => r = (rv (J (m + 46)) 4096 (J (m + 47)) (J (m + 47) 32)).1 ∧ mApp J m (rv (J (m + 46)) 4096 (J (m + 47)) (J (m + 47) 32)) = B) ⟨rfl, rfl⟩, ?_⟩
      rintro _ _ ⟨rfl, rfl⟩
      refine ⟨n - (i + 1), by omega, i + 1, by omega, rfl, nI_1 i, ?_⟩
      rw [show n - i = (n - (i + 1)) + 1 by omega, mvGo] at e
      by_cases hz : (rv (J (m + 46)) 4096 (J (m + 47)) (J (m + 47) 32)).1 = 0
      · rw [if_pos hz] at e
        exact Or.inl ⟨hz, e⟩
      · rw [if_neg hz] at e
        exact Or.inr ⟨hz, e⟩
    · rcases hJ with ⟨e, -⟩ | ⟨-, e⟩
      · exact absurd e hr
      · rw [← e] at hQ
        exact hQ
  · exact absurd ((nI_leI (a := n) (b := 1000) (by omega) (by decide)).mpr h2) h
