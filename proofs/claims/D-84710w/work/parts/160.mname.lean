/-! ===== the Model's tokens: names ===== -/
set_option maxRecDepth 100000
theorem nI_div {a b : Nat} (ha : a < 2147483648) (hb : b < 2147483648) : nI a / nI b = nI (a / b) := by
  refine Int32.toInt_inj.mp ?_
  have h1 : a / b ≤ a := Nat.div_le_self a b
  rw [Int32.toInt_div, nI_toInt ha, nI_toInt hb, nI_toInt (by omega), Int.tdiv_eq_ediv_of_nonneg (by omega)]
  have : (a : Int) / (b : Int) = ((a / b : Nat) : Int) := by simp
  rw [this]
  generalize a / b = c at h1
  exact Int.bmod_eq_of_le (by omega) (by omega)
theorem nI_mul {a b : Nat} : nI a * nI b = nI (a * b) := (Int32.ofNat_mul a b).symm
theorem nI_rem {a b : Nat} (ha : a < 2147483648) (hb : b < 2147483648) : irem_ (nI a) (nI b) = nI (a % b) := by
  have h1 : a / b * b ≤ a := Nat.div_mul_le_self a b
  rw [irem_, nI_div ha hb, nI_mul, nI_sub h1]
  congr 1
  have := Nat.div_add_mod a b
  rw [Nat.mul_comm] at this
  omega
/-- texts of bytes -/
def txB (tx : Nat → Int32) (n : Nat) : Prop := ∀ k, k < n → ∃ c, c < 256 ∧ tx k = nI c
def hsN (tx : Nat → Int32) (p l : Nat) : Nat := ((ix (tx p)) * 7 + (ix (tx (p + l - 1))) * 3 + l) % 64
def chn (J : xII) (m : Nat) : List Nat → Int32 → Prop
  | [], v => v = -1
  | k :: ks, v => v = nI k ∧ chn J m ks (J (m + 8) k)
/-- names, and the chains of them -/
def mNm (J : xII) (m : Nat) (tx : Nat → Int32) (n : Nat) (nm : List (Nat × Nat)) : Prop := J m 13 = nI nm.length ∧ (∀ i z, nm[i]? = some z → J (m + 6) i = nI z.1 ∧ J (m + 7) i = nI z.2 ∧ 1 ≤ z.2 ∧ z.1 + z.2 ≤ n) ∧ (∀ (i j : Nat) (z w : Nat × Nat), i < j → nm[i]? = some z → nm[j]? = some w → isNm tx w.1 w.2 z = false) ∧ ∀ h, h < 64 → ∃ ks, chn J m ks (J (m + 9) h) ∧ ks.length ≤ nm.length ∧ ks.Nodup ∧ ∀ k, k ∈ ks ↔ ∃ z, nm[k]? = some z ∧ hsN tx z.1 z.2 = h
section MN
variable {m n p l : Nat} {I J : xII} {tx : Nat → Int32} {nm : List (Nat × Nat)}
theorem chn.up {J J' : xII} : ∀ {ks : List Nat} {v : Int32}, chn J m ks v → (∀ k ∈ ks, J' (m + 8) k = J (m + 8) k) → chn J' m ks v
  | [], v, h, _ => h
  | k :: ks, v, h, hk => ⟨h.1, by rw [hk k (List.mem_cons_self ..)]; exact chn.up h.2 fun k' hk' => hk k' (List.mem_cons_of_mem _ hk')⟩
theorem isNm_hs {z : Nat × Nat} (hl : 1 ≤ l) (h : isNm tx p l z = true) : hsN tx z.1 z.2 = hsN tx p l := by
  obtain ⟨h1, h2⟩ := of_decide_eq_true h
  rw [hsN, hsN, h1]
  have e1 := h2 0 (by omega)
  have e2 := h2 (l - 1) (by omega)
  rw [show z.1 + l - 1 = z.1 + (l - 1) by omega, show p + l - 1 = p + (l - 1) by omega, e2]
  rw [Nat.add_zero, Nat.add_zero] at e1
  rw [e1]
theorem mNm.nx (h : mNm I m tx n nm) {k : Nat} {z : Nat × Nat} (hk : nm[k]? = some z) (hz : isNm tx p l z = true) (hl : 1 ≤ l) : nIx tx nm p l = some k := by
  have hkl := (List.getElem?_eq_some_iff.mp hk).1
  have hg : ∀ i, i < nm.length → nm[i]? = some (nm.getD i (0, 0)) := fun i hi => by rw [List.getD_eq_getElem?_getD, List.getElem?_eq_getElem hi]; rfl
  have hzz : nm.getD k (0, 0) = z := by have := hg k hkl; rw [hk] at this; exact (Option.some.inj this).symm
  cases hx : nIx tx nm p l with
  | none =>
    have := fst1_none hx k (Nat.zero_le _) (by omega)
    simp only [hzz, hz] at this
    exact absurd this (by decide)
  | some j =>
    obtain ⟨j1, -, j3, j4⟩ := fst1_some hx
    rcases Nat.lt_trichotomy j k with q | q | q
    · have hj := hg j (by omega)
      have := h.2.2.1 j k _ z q hj hk
      -- both are the word
      obtain ⟨a1, a2⟩ := of_decide_eq_true j1
      obtain ⟨b1, b2⟩ := of_decide_eq_true hz
      have : isNm tx z.1 z.2 (nm.getD j (0, 0)) = true := decide_eq_true ⟨by omega, fun i hi => by rw [a2 i (by omega), b2 i (by omega)]⟩
      rw [‹isNm tx z.1 z.2 (nm.getD j (0, 0)) = false›] at this
      exact absurd this (by decide)
    · rw [q]
    · have := j4 k (Nat.zero_le _) q
      simp only [hzz, hz] at this
      exact absurd this (by decide)
theorem s_X13_nameOf (h : mTx I m n tx) (hB : txB tx n) (hN : mNm I m tx n nm) (hl : 1 ≤ l) (hl2 : l ≤ 16) (hp : p + l ≤ n) (hc : nm.length < 2100) : w_X13_nameOf m (nI p) (nI l) (fun v J => (∃ k, nIx tx nm p l = some k ∧ v = nI k ∧ I = J) ∨ (nIx tx nm p l = none ∧ v = nI nm.length ∧ mNm J m tx n (nm ++ [(p, l)]) ∧ ∀ a k, a ≠ m + 6 → a ≠ m + 7 → a ≠ m + 8 → a ≠ m + 9 → ¬ (a = m ∧ k = 13) → J a k = I a k)) I := by
  have hn := h.2.1
  refine ⟨_, s_at h (k := p) rfl (by omega), ?_⟩
  rintro _ _ ⟨rfl, rfl⟩
  refine ⟨_, s_at h (k := p + l - 1) (by rw [nI_add, nI_sub1, nI_dec (by omega)]) (by omega), ?_⟩
  rintro _ _ ⟨rfl, rfl⟩
  rw [mAt_lt (show p < n by omega), mAt_lt (show p + l - 1 < n by omega)]
  obtain ⟨c1, k1, e1⟩ := hB p (by omega)
  obtain ⟨c2, k2, e2⟩ := hB (p + l - 1) (by omega)
  have eh : irem_ (tx p * 7 + tx (p + l - 1) * 3 + nI l) 64 = nI (hsN tx p l) := by
    rw [hsN, e1, e2, show ix (nI c1) = c1 from nI_clamp (by omega), show ix (nI c2) = c2 from nI_clamp (by omega), show (7 : Int32) = nI 7 from rfl, show (3 : Int32) = nI 3 from rfl, show (64 : Int32) = nI 64 from rfl, nI_mul, nI_mul, nI_add, nI_add]
    exact nI_rem (by omega) (by decide)
  have hh : hsN tx p l < 64 := Nat.mod_lt _ (by decide)
  rw [eh, show ix (nI (hsN tx p l)) = hsN tx p l from nI_clamp (by omega)]
  obtain ⟨n1, n2, n3, n4⟩ := hN
  obtain ⟨ks, q1, q2, q3, q4⟩ := n4 _ hh
  refine ⟨vp_in_nI hh (by decide), fun z y J => ∃ ks', chn I m ks' y ∧ ks'.length = z ∧ I = J ∧ (∀ k ∈ ks', k ∈ ks) ∧ ∀ k ∈ ks, k ∈ ks' ∨ ∃ z, nm[k]? = some z ∧ isNm tx p l z = false, ⟨_, ks, q1, rfl, rfl, fun _ hk => hk, fun _ hk => Or.inl hk⟩, ?_⟩
  rintro _ y _ ⟨ks', r1, rfl, rfl, r2, r3⟩
  cases ks' with
  | nil =>
    have hy : y = -1 := r1
    subst hy
    refine ⟨fun _ => ?_, fun z => absurd rfl z⟩
    have hnone : nIx tx nm p l = none := by
      cases hx : nIx tx nm p l with
      | none => rfl
      | some j =>
        exfalso
        obtain ⟨j1, -, j3, -⟩ := fst1_some hx
        have hj : nm[j]? = some (nm.getD j (0, 0)) := by rw [List.getD_eq_getElem?_getD, List.getElem?_eq_getElem (by omega)]; rfl
        rcases r3 j ((q4 j).mpr ⟨_, hj, isNm_hs hl j1⟩) with w | ⟨z, w1, w2⟩
        · exact nomatch w
        · rw [hj] at w1
          cases w1
          rw [j1] at w2
          exact absurd w2 (by decide)
    rw [n1, show ix (nI nm.length) = nm.length from nI_clamp (by omega)]
    refine ⟨vp_in_nI hc (by decide), ?_⟩
    rintro _ rfl _ rfl _ rfl _ rfl _ rfl
    refine Or.inr ⟨hnone, by rw [nI_1, nI_pred], ⟨?_, ?_, ?_, ?_⟩, ?_⟩
    · rw [xup_s, nI_1, List.length_append]
      rfl
    · intro i z hz
      rcases getD_snoc hz with ⟨w1, w2⟩ | ⟨rfl, rfl⟩
      · obtain ⟨g1, g2, g3, g4⟩ := n2 i z w2
        refine ⟨?_, ?_, g3, g4⟩ <;> grind [gX]
      · refine ⟨?_, ?_, hl, hp⟩ <;> grind [gX]
    · intro i j z w hij hz hw
      rcases getD_snoc hw with ⟨w1, w2⟩ | ⟨w1, w2⟩
      · rcases getD_snoc hz with ⟨v1, v2⟩ | ⟨v1, v2⟩
        · exact n3 i j z w hij v2 w2
        · omega
      · rcases getD_snoc hz with ⟨v1, v2⟩ | ⟨v1, v2⟩
        · subst w2
          have := fst1_none hnone i (Nat.zero_le _) (by omega)
          rw [List.getD_eq_getElem?_getD, v2] at this
          exact this
        · omega
    · intro g hg
      obtain ⟨ks2, u1, u2, u3, u4⟩ := n4 g hg
      have hlt : ∀ k ∈ ks2, k < nm.length := fun k hk => by
        obtain ⟨z, hz, -⟩ := (u4 k).mp hk
        exact (List.getElem?_eq_some_iff.mp hz).1
      have hmem : ∀ k, (∃ z, (nm ++ [(p, l)])[k]? = some z ∧ hsN tx z.1 z.2 = g) ↔ (∃ z, nm[k]? = some z ∧ hsN tx z.1 z.2 = g) ∨ (k = nm.length ∧ hsN tx p l = g) := by
        intro k
        constructor
        · rintro ⟨z, hz, hg⟩
          rcases getD_snoc hz with ⟨w1, w2⟩ | ⟨w1, w2⟩
          · exact Or.inl ⟨z, w2, hg⟩
          · subst w2
            exact Or.inr ⟨w1, hg⟩
        · rintro (⟨z, hz, hg⟩ | ⟨rfl, hg⟩)
          · exact ⟨z, by rw [List.getElem?_append_left (List.getElem?_eq_some_iff.mp hz).1]; exact hz, hg⟩
          · exact ⟨(p, l), by simp, hg⟩
      by_cases e : g = hsN tx p l
      · subst e
        refine ⟨nm.length :: ks2, ⟨?_, ?_⟩, by simp only [List.length_cons, List.length_append]; simp; omega, List.nodup_cons.mpr ⟨fun w => absurd (hlt _ w) (Nat.lt_irrefl _), u3⟩, fun k => ?_⟩
        · grind [gX]
        · have : xup (xup (xup (xup (xup I (m + 6) nm.length (nI p)) (m + 7) nm.length (nI l)) (m + 8) nm.length (I (m + 9) (hsN tx p l))) (m + 9) (hsN tx p l) (nI nm.length)) m 13 (nI nm.length + 1) (m + 8) nm.length = I (m + 9) (hsN tx p l) := by grind [gX]
          rw [this]
          refine chn.up u1 fun k hk => ?_
          have := hlt k hk
          rw [xup_a (by omega), xup_a (by omega), xup_k (by omega), xup_a (by omega), xup_a (by omega)]
        · rw [hmem, List.mem_cons, u4]
          constructor
          · rintro (rfl | w)
            · exact Or.inr ⟨rfl, rfl⟩
            · exact Or.inl w
          · rintro (w | ⟨rfl, -⟩)
            · exact Or.inr w
            · exact Or.inl rfl
      · refine ⟨ks2, ?_, by simp only [List.length_append]; omega, u3, fun k => ?_⟩
        · have : xup (xup (xup (xup (xup I (m + 6) nm.length (nI p)) (m + 7) nm.length (nI l)) (m + 8) nm.length (I (m + 9) (hsN tx p l))) (m + 9) (hsN tx p l) (nI nm.length)) m 13 (nI nm.length + 1) (m + 9) g = I (m + 9) g := by grind [gX]
          rw [this]
          refine chn.up u1 fun k hk => ?_
          have := hlt k hk
          rw [xup_a (by omega), xup_a (by omega), xup_k (by omega), xup_a (by omega), xup_a (by omega)]
        · rw [hmem, u4]
          constructor
          · exact Or.inl
          · rintro (w | ⟨-, w⟩)
            · exact w
            · exact absurd w.symm e
    · intro a k a1 a2 a3 a4 a5
      grind [gX]
  | cons k ks' =>
    obtain ⟨rfl, r1'⟩ := r1
    obtain ⟨z, hz, hzh⟩ := (q4 k).mp (r2 k (List.mem_cons_self ..))
    have hkl := (List.getElem?_eq_some_iff.mp hz).1
    obtain ⟨g1, g2, g3, g4⟩ := n2 k z hz
    have hk1 : ¬ nI k = -1 := by
      intro q
      have := congrArg Int32.toInt q
      rw [nI_toInt (by omega)] at this
      have e : (-1 : Int32).toInt = -1 := rfl
      omega
    refine ⟨fun q => absurd q hk1, fun _ => ?_⟩
    rw [show ix (nI k) = k from nI_clamp (by omega), g2]
    refine ⟨vp_in_nI (by omega) (by decide), fun c v w J => ∃ i, i ≤ l ∧ w = nI i ∧ c = l - i ∧ I = J ∧ ((v = 1 ∧ z.2 = l ∧ ∀ i', i' < i → tx (z.1 + i') = tx (p + i')) ∨ (v = 0 ∧ isNm tx p l z = false)), ⟨_, 0, Nat.zero_le _, rfl, rfl, rfl, ?_⟩, ?_⟩
    · by_cases e : z.2 = l
      · exact Or.inl ⟨if_pos (congrArg nI e), e, fun _ w => absurd w (Nat.not_lt_zero _)⟩
      · refine Or.inr ⟨if_neg (fun w => e ((nI_eq (by omega) (by omega)).mp w)), decide_eq_false fun w => e w.1⟩
    · rintro _ v _ _ ⟨i, hi, rfl, rfl, rfl, hv⟩
      have hli : nI l ≤ nI i ↔ l ≤ i := nI_leI (by omega) (by omega)
      refine ⟨(v = 1 ∧ isNm tx p l z = true) ∨ (v = 0 ∧ isNm tx p l z = false), ?_, fun w => ?_, fun w => ⟨fun v0 => ?_, fun v0 => ?_⟩⟩
      · rintro (⟨rfl, w⟩ | ⟨rfl, w⟩)
        · refine ⟨fun q => absurd q (by decide), fun _ => Or.inl ⟨k, mNm.nx ⟨n1, n2, n3, n4⟩ hz w hl, rfl, rfl⟩⟩
        · refine ⟨fun _ => ⟨ks'.length, by simp, ks', r1', rfl, rfl, fun k' hk' => r2 k' (List.mem_cons_of_mem _ hk'), fun k' hk' => ?_⟩, fun q => absurd rfl q⟩
          rcases r3 k' hk' with u | u
          · rcases List.mem_cons.mp u with rfl | u
            · exact Or.inr ⟨z, hz, w⟩
            · exact Or.inl u
          · exact Or.inr u
      · rcases hv with ⟨rfl, u1, u2⟩ | hv
        · exact Or.inl ⟨rfl, decide_eq_true ⟨u1, fun i' hi' => u2 i' (by have := hli.mp w; omega)⟩⟩
        · exact Or.inr hv
      · rcases hv with ⟨rfl, -⟩ | hv
        · exact absurd v0 (by decide)
        · exact Or.inr hv
      · rcases hv with ⟨rfl, u1, u2⟩ | ⟨rfl, -⟩
        · have hil : i < l := by
            rcases Nat.lt_or_ge i l with y | y
            · exact y
            · exact absurd (hli.mpr y) w
          rw [g1]
          refine ⟨_, s_at h (k := z.1 + i) (nI_add _ _) (by omega), ?_⟩
          rintro _ _ ⟨rfl, rfl⟩
          refine ⟨_, s_at h (k := p + i) (nI_add _ _) (by omega), ?_⟩
          rintro _ _ ⟨rfl, rfl⟩
          rw [mAt_lt (show z.1 + i < n by omega), mAt_lt (show p + i < n by omega)]
          refine ⟨l - (i + 1), by omega, i + 1, by omega, nI_1 i, rfl, rfl, ?_⟩
          by_cases e : tx (z.1 + i) = tx (p + i)
          · refine Or.inl ⟨if_pos e, u1, fun i' hi' => ?_⟩
            rcases Nat.lt_or_ge i' i with y | y
            · exact u2 i' y
            · rw [show i' = i by omega]
              exact e
          · exact Or.inr ⟨if_neg e, decide_eq_false fun y => e (y.2 i hil)⟩
        · exact absurd rfl v0
end MN
