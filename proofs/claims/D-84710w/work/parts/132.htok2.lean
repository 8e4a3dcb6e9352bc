/-! ===== the House's tokens: words, names, numbers, signs ===== -/
set_option maxRecDepth 100000
def nmA (J : xII) (x : Nat) (nm : List (Nat × Nat)) : Prop := ∀ i q, nm[i]? = some q → J (x + 9) i = nI q.1 ∧ J (x + 10) i = nI q.2
/-- what is written of a token, but for its kind and place -/
def tFr (J J' : xII) (x mny : Nat) : Prop := ∀ a k, ¬ (a = x + 3 ∧ (k = 9 ∨ k = 11)) → ¬ (a = x + 8 ∧ k = mny) → a ≠ x + 9 → a ≠ x + 10 → J' a k = J a k
def tkP (J J' : xII) (x q mny : Nat) (t : tkT) : Prop :=
  (t.1 = 1 ∧ J = J') ∨ (¬ t.1 = 1 ∧ J' (x + 3) 9 = nI (q + t.2.2.1) ∧ J' (x + 3) 11 = nI t.2.2.2.length ∧ nmA J' x t.2.2.2 ∧ (t.1 = 2 ∨ t.1 = 3 → J' (x + 8) mny = t.2.1) ∧ tFr J J' x mny)
/-- constants of the House's Tokens -/
def xSg (G : xG) (A : xA) (x : Nat) : Prop := (∀ k, k < 15 → A.P (x + 4) k = some (G.cs (100 + k))) ∧ ∀ k, k < 45 → A.P (x + 5) k = some (G.cs (115 + k))
theorem i8_lt {c : Int32} (h0 : 0 < c) (h1 : c < 128) : c.toInt8.toInt32 = c ∧ c &&& 255 = c := by
  obtain ⟨k, hk, rfl⟩ := nI_of (x := c) (fun z => absurd (Int32.lt_trans h0 z) (by decide))
  have : k < 128 := (nI_ltI (a := k) (b := 128) hk (by decide)).mp h1
  revert k
  have : ∀ k, k < 128 → (nI k).toInt8.toInt32 = nI k ∧ nI k &&& 255 = nI k := by decide
  intro k _ _ _ h
  exact this k h
theorem strC_eq {i k : Nat} (hi : i < 60) (hk : k < (strB i).length) : strC i k = (strB i).getD k 0 := by
  have := strB_chr i hi k hk
  exact (i8_lt this.1 this.2).2
theorem strB60 : strB 60 = [109, 97, 105, 110] := rfl
theorem strC_eq61 {i k : Nat} (hi : i < 61) (hk : k < (strB i).length) : strC i k = (strB i).getD k 0 ∧ 0 < (strB i).getD k 0 ∧ (strB i).getD k 0 < 128 := by
  by_cases h : i < 60
  · exact ⟨strC_eq h hk, strB_chr i h k hk⟩
  · have : i = 60 := by omega
    subst this
    have : ∀ k, k < (strB 60).length → strC 60 k = (strB 60).getD k 0 ∧ 0 < (strB 60).getD k 0 ∧ (strB 60).getD k 0 < 128 := by decide
    exact this k hk
section TL
variable {G : xG} {A : xA} {x n q mny : Nat} {tx : Nat → Int32} {nm : List (Nat × Nat)}
theorem s_strlen (hO : xHO G) {i : Nat} (hi : i < 63) {B : xA} : w_J6_length G (G.cs (100 + i)) (fun v C => v = nI (strB i).length ∧ B = C) B := s_J6_length (str_at hO hi).1 ⟨rfl, rfl⟩
theorem s_strat (hO : xHO G) {i k : Nat} (hi : i < 63) (hk : k < (strB i).length) {B : xA} : w_J6_charAt G (G.cs (100 + i)) (nI k) (fun v C => v = strC i k ∧ B = C) B := by
  obtain ⟨h1, h2⟩ := str_at hO hi
  have hm : (strB i).getD k 0 ∈ strB i := by
    rw [List.getD_eq_getElem?_getD, List.getElem?_eq_getElem hk]
    exact List.getElem_mem hk
  obtain ⟨q1, q2⟩ := strB_byte i hi _ hm
  exact s_J6_charAt h1 hk (h2 _ hk) q1 q2 ⟨rfl, rfl⟩
/-- a byte of the text against a byte of a constant -/
theorem raw_eq (h : tJ A.I x n tx) {j : Nat} (hj : j < n) {c : Int32} (h0 : 0 < c) (h1 : c < 128) : A.I (x + 1) j = c ↔ tx j = c := by
  obtain ⟨e1, e2⟩ := h.2.2 j hj
  obtain ⟨f1, f2⟩ := i8_lt h0 h1
  constructor
  · intro z
    rw [z, f2] at e1
    exact e1.symm
  · intro z
    rw [e2, z, f1]
theorem raw_eq2 (h : tJ A.I x n tx) {j k : Nat} (hj : j < n) (hk : k < n) : A.I (x + 1) j = A.I (x + 1) k ↔ tx j = tx k := by
  obtain ⟨e1, e2⟩ := h.2.2 j hj
  obtain ⟨f1, f2⟩ := h.2.2 k hk
  constructor
  · intro z
    rw [← e1, ← f1, z]
  · intro z
    rw [e2, f2, z]
theorem s_X2_isWord (hO : xHO G) (h : xTE G A x n tx) {p l i : Nat} (hp : p + l ≤ n) (hi : i < 61) {Q : Int32 → xA → Prop} (hQ : Q (if isWd tx p l (strB i) = true then 1 else 0) A) : w_X2_isWord G (x + 3) (nI p) (nI l) (some (G.cs (100 + i))) Q A := by
  have hn : n ≤ 4000 := h.2.2.2.1
  have hlen : (strB i).length < 1000 := (str_at hO (show i < 63 by omega)).1.2.2.2.2.2.2
  intro _
  refine ⟨_, rfl, str_oo hO (by omega), _, s_strlen hO (by omega), ?_⟩
  rintro _ _ _ ⟨rfl, rfl⟩
  by_cases hl : (strB i).length = l
  · rw [if_pos (by rw [hl])]
    refine ⟨fun z y w B => ∃ j, j ≤ l ∧ z = l - j ∧ w = nI j ∧ A = B ∧ ((y = 1 ∧ ∀ k, k < j → tx (p + k) = (strB i).getD k 0) ∨ (y = 0 ∧ isWd tx p l (strB i) = false)), ⟨l, 0, by omega, rfl, rfl, rfl, Or.inl ⟨rfl, fun k hk => absurd hk (by omega)⟩⟩, ?_⟩
    rintro _ y _ _ ⟨j, hj, rfl, rfl, rfl, hy⟩
    have hcc : nI l ≤ nI j ↔ l ≤ j := nI_leI (by omega) (by omega)
    have no : y = 0 ∧ isWd tx p l (strB i) = false → (y = 0 ∨ y = 1) ∧ Q y A := by
      rintro ⟨rfl, e⟩
      rw [e] at hQ
      exact ⟨Or.inl rfl, hQ⟩
    refine ⟨fun hc => ?_, fun hc => ⟨fun h0 => ?_, fun h0 => ⟨hs_t3 h.1, _, h.2.1, hs_t1 h.1, ?_, _, s_strat hO (by omega) (by have : ¬ l ≤ j := fun z => hc (hcc.mpr z); omega), ?_⟩⟩⟩
    · rcases hy with ⟨rfl, e⟩ | e
      · refine ⟨Or.inr rfl, ?_⟩
        rw [if_pos (show isWd tx p l (strB i) = true from decide_eq_true ⟨hl, fun k hk => e k (by have := hcc.mp hc; omega)⟩)] at hQ
        exact hQ
      · exact no e
    · rcases hy with ⟨rfl, e⟩ | e
      · exact absurd h0 (by decide)
      · exact no e
    · have : j < l := by have : ¬ l ≤ j := fun z => hc (hcc.mpr z); omega
      rw [nI_add, hs_n1 h.1]
      exact vp_in_nI (by omega) (by decide)
    · rintro _ _ _ ⟨rfl, rfl⟩
      have hjl : j < l := by have : ¬ l ≤ j := fun z => hc (hcc.mpr z); omega
      refine ⟨l - (j + 1), by omega, j + 1, by omega, rfl, nI_1 j, rfl, ?_⟩
      rw [nI_add, show ix (nI (p + j)) = p + j from nI_clamp (by omega)]
      obtain ⟨c1, c2, c3⟩ := strC_eq61 hi (k := j) (by omega)
      rw [c1]
      have hr := raw_eq h.2.2 (j := p + j) (by omega) c2 c3
      rcases hy with ⟨rfl, e⟩ | ⟨rfl, e⟩
      · by_cases ht : A.I (x + 1) (p + j) = (strB i).getD j 0
        · rw [if_pos ht]
          refine Or.inl ⟨rfl, fun k hk => ?_⟩
          by_cases ek : k = j
          · rw [ek]
            exact hr.mp ht
          · exact e k (by omega)
        · rw [if_neg ht]
          refine Or.inr ⟨rfl, decide_eq_false (fun z => ht (hr.mpr (z.2 j hjl)))⟩
      · exact absurd rfl h0
  · have hne : ¬ nI (strB i).length = nI l := fun z => hl (by
      have := congrArg ix z
      rwa [show ix (nI (strB i).length) = (strB i).length from nI_clamp (by omega), show ix (nI l) = l from nI_clamp (by omega)] at this)
    rw [if_neg hne]
    have hf : isWd tx p l (strB i) = false := decide_eq_false (fun z => hl z.1)
    rw [hf] at hQ
    refine ⟨fun z y w B => y = 0 ∧ A = B, ⟨0, rfl, rfl⟩, ?_⟩
    rintro _ _ _ _ ⟨rfl, rfl⟩
    exact ⟨fun _ => ⟨Or.inl rfl, hQ⟩, fun _ => ⟨fun _ => ⟨Or.inl rfl, hQ⟩, fun z => absurd rfl z⟩⟩
theorem s_X2_isName (h : xTE G A x n tx) (h9 : A.I (x + 3) 9 = nI q) {l k : Nat} (hq : q + l ≤ n) (hk : k < 4000) {a s : Nat} (ha : A.I (x + 9) k = nI a) (hs : A.I (x + 10) k = nI s) (has : a + s ≤ n) {Q : Int32 → xA → Prop} (hQ : Q (if isNm tx q l (a, s) = true then 1 else 0) A) : w_X2_isName G (x + 3) (nI k) (nI l) Q A := by
  have hn : n ≤ 4000 := h.2.2.2.1
  have ek : ix (nI k) = k := nI_clamp (by omega)
  intro _
  refine ⟨hs_t3 h.1, _, hs_P3_6 h.1, hs_t10 h.1, by rw [hs_n10 h.1]; exact vp_in_nI hk (by decide), ?_⟩
  rw [ek, hs]
  by_cases hl : s = l
  · subst hl
    rw [if_pos rfl]
    refine ⟨fun z y w => ∃ j, j ≤ s ∧ z = s - j ∧ w = nI j ∧ ((y = 1 ∧ ∀ i, i < j → tx (a + i) = tx (q + i)) ∨ (y = 0 ∧ isNm tx q s (a, s) = false)), ⟨s, 0, by omega, rfl, rfl, Or.inl ⟨rfl, fun k hk => absurd hk (by omega)⟩⟩, ?_⟩
    rintro _ y _ ⟨j, hj, rfl, rfl, hy⟩
    have hcc : nI s ≤ nI j ↔ s ≤ j := nI_leI (by omega) (by omega)
    have no : y = 0 ∧ isNm tx q s (a, s) = false → (y = 0 ∨ y = 1) ∧ Q y A := by
      rintro ⟨rfl, e⟩
      rw [e] at hQ
      exact ⟨Or.inl rfl, hQ⟩
    refine ⟨fun hc => ?_, fun hc => ⟨fun h0 => ?_, fun h0 => ?_⟩⟩
    · rcases hy with ⟨rfl, e⟩ | e
      · refine ⟨Or.inr rfl, ?_⟩
        rw [if_pos (show isNm tx q s (a, s) = true from decide_eq_true ⟨rfl, fun k hk => e k (by have := hcc.mp hc; omega)⟩)] at hQ
        exact hQ
      · exact no e
    · rcases hy with ⟨rfl, e⟩ | e
      · exact absurd h0 (by decide)
      · exact no e
    · have hjl : j < s := by have : ¬ s ≤ j := fun z => hc (hcc.mpr z); omega
      refine ⟨_, hs_P3_5 h.1, hs_t9 h.1, by rw [hs_n9 h.1]; exact vp_in_nI hk (by decide), _, h.2.1, hs_t1 h.1, by rw [ha, nI_add, hs_n1 h.1]; exact vp_in_nI (by omega) (by decide), by rw [h9, nI_add, hs_n1 h.1]; exact vp_in_nI (by omega) (by decide), s - (j + 1), by omega, j + 1, by omega, rfl, nI_1 j, ?_⟩
      rw [ha, h9, nI_add, nI_add, show ix (nI (a + j)) = a + j from nI_clamp (by omega), show ix (nI (q + j)) = q + j from nI_clamp (by omega)]
      have hr := raw_eq2 h.2.2 (j := a + j) (k := q + j) (by omega) (by omega)
      rcases hy with ⟨rfl, e⟩ | ⟨rfl, e⟩
      · by_cases ht : A.I (x + 1) (a + j) = A.I (x + 1) (q + j)
        · rw [if_pos ht]
          refine Or.inl ⟨rfl, fun k hk => ?_⟩
          by_cases ek : k = j
          · rw [ek]
            exact hr.mp ht
          · exact e k (by omega)
        · rw [if_neg ht]
          exact Or.inr ⟨rfl, decide_eq_false (fun z => ht (hr.mpr (z.2 j hjl)))⟩
      · exact absurd rfl h0
  · have hne : ¬ nI s = nI l := fun z => hl (by
      have := congrArg ix z
      rwa [show ix (nI s) = s from nI_clamp (by omega), show ix (nI l) = l from nI_clamp (by omega)] at this)
    rw [if_neg hne]
    have hf : isNm tx q l (a, s) = false := decide_eq_false (fun z => hl z.1)
    rw [hf] at hQ
    refine ⟨fun z y w => y = 0, ⟨0, rfl⟩, ?_⟩
    rintro _ _ _ rfl
    exact ⟨fun _ => ⟨Or.inl rfl, hQ⟩, fun _ => ⟨fun _ => ⟨Or.inl rfl, hQ⟩, fun z => absurd rfl z⟩⟩
theorem s_X2_number (h : xTE G A x n tx) (hq : q < n) (hd : ¬ f_X2_isDigit (tx q) = 0) (h10 : A.I (x + 3) 10 = nI mny) (hm : mny < 4002) {nm : List (Nat × Nat)} (h11 : A.I (x + 3) 11 = nI nm.length) (hnm : nmA A.I x nm) {Q : Int32 → xA → Prop}
    (hQ : ∀ J', tkP (aT A.I x q) J' x q mny (tkOne tx n q nm) → Q (tkOne tx n q nm).1 (A.wI J')) : w_X2_number G (x + 3) Q (A.wI (aT A.I x q)) := by
  have hn : n ≤ 4000 := h.2.2.2.1
  have hN := h.1.1
  have hle : q + rnL tx n q ≤ n := rnL_le (by omega)
  have hT : tkOne tx n q nm = (match nbT tx n q with
    | none => ((1 : Int32), (0 : Int32), 0, nm)
    | some q => (3, q.1, q.2, nm)) := by
    unfold tkOne
    rw [if_pos hd]
    rfl
  have bad : nbT tx n q = none → Q 1 (A.wI (aT A.I x q)) := by
    intro e
    rw [hT, e] at hQ
    exact hQ _ (Or.inl ⟨rfl, rfl⟩)
  intro _
  refine ⟨tg3 h q, _, s_X2_run h (by omega), ?_⟩
  rintro _ _ _ ⟨rfl, rfl⟩
  refine ⟨tg3 h q, _, s_now h (by omega) (k := 0) rfl (by decide), ?_⟩
  rintro _ _ _ ⟨rfl, rfl⟩
  rw [show hNow tx n (q + 0) = tx q from hNow_lt hq]
  refine ⟨fun y B => y = (if sxB tx n q = true then 1 else 0) ∧ A.wI (aT A.I x q) = B, ?_, fun e1 => ⟨tg3 h q, _, s_now h (by omega) (k := 1) rfl (by decide), ?_⟩, fun e1 => ⟨?_, rfl⟩⟩
  · rintro _ _ ⟨rfl, rfl⟩
    have e0 : (if (if sxB tx n q = true then (1 : Int32) else 0) = 0 then (0 : Int32) else 2) = nI (if sxB tx n q = true then 2 else 0) := by
      cases sxB tx n q <;> rfl
    have e1 : (if (if sxB tx n q = true then (1 : Int32) else 0) = 0 then (10 : Int32) else 8) = nI (if sxB tx n q = true then 8 else 10) := by
      cases sxB tx n q <;> rfl
    have hfrom : (if sxB tx n q = true then 2 else 0) ≤ rnL tx n q := by
      cases hs : sxB tx n q with
      | false => exact Nat.zero_le _
      | true =>
        have := of_decide_eq_true hs
        have hq1 : q + 1 < n := by
          by_cases y : q + 1 < n
          · exact y
          · rw [hNow_ge y] at this
            exact absurd this.2 (by decide)
        rw [hNow_lt hq1] at this
        have i1 : inB (tx q) = true := inB_dig hd
        have i2 : inB (tx (q + 1)) = true := by rw [this.2]; decide
        show 2 ≤ rnL tx n q
        rw [rnL, run1_lt hq i1, run1_lt hq1 i2]
        omega
    have hf2 : (if sxB tx n q = true then 2 else 0) ≤ 2 := by cases sxB tx n q <;> decide
    have hl2 : (if sxB tx n q = true then 8 else 10) ≤ 10 := by cases sxB tx n q <;> decide
    rw [e0, e1]
    generalize hfr : (if sxB tx n q = true then 2 else 0) = fr at *
    generalize hlm : (if sxB tx n q = true then 8 else 10) = lm at *
    have hnb : nbT tx n q = (if rnL tx n q = fr ∨ ¬ rnL tx n q - fr ≤ lm then none
  else match dgs tx (sxB tx n q) (rnL tx n q - fr) (q + fr) 0 with
    | none => none
    | some v => if lg_cmp v 4294967295 ≤ 0 then some (v.toInt32, rnL tx n q) else none) := by
      rw [← hfr, ← hlm]
      rfl
    have hs2 : nI (rnL tx n q) - nI fr = nI (rnL tx n q - fr) := by
      apply Int32.toBitVec_inj.mp
      show BitVec.ofNat 32 (rnL tx n q) - BitVec.ofNat 32 fr = BitVec.ofNat 32 (rnL tx n q - fr)
      apply BitVec.eq_of_toNat_eq
      rw [BitVec.toNat_sub, BitVec.toNat_ofNat, BitVec.toNat_ofNat, BitVec.toNat_ofNat]
      omega
    rw [hs2]
    refine ⟨fun e => bad ?_, fun e => ⟨fun c => ?_, fun c => bad ?_⟩⟩
    · have : rnL tx n q = fr := by
        have := congrArg ix e
        rwa [show ix (nI (rnL tx n q)) = rnL tx n q from nI_clamp (by omega), show ix (nI fr) = fr from nI_clamp (by omega)] at this
      rw [hnb, if_pos (Or.inl this)]
    · have c' : rnL tx n q - fr ≤ lm := (nI_leI (by omega) (by omega)).mp c
      have ne : ¬ rnL tx n q = fr := fun z => e (congrArg nI z)
      rw [if_neg (by rintro (z | z); exact ne z; exact z c')] at hnb
      refine ⟨fun z v w B => ∃ j, j ≤ rnL tx n q - fr ∧ z = rnL tx n q - fr - j ∧ w = nI (fr + j) ∧ A.wI (aT A.I x q) = B ∧ dgs tx (sxB tx n q) (rnL tx n q - fr - j) (q + fr + j) v = dgs tx (sxB tx n q) (rnL tx n q - fr) (q + fr) 0, ⟨rnL tx n q - fr, 0, by omega, rfl, rfl, rfl, rfl⟩, ?_⟩
      rintro _ v _ _ ⟨j, hj, rfl, rfl, rfl, hv⟩
      have hcc : nI (rnL tx n q) ≤ nI (fr + j) ↔ rnL tx n q ≤ fr + j := nI_leI (by omega) (by omega)
      refine ⟨fun hc => ?_, fun hc => ⟨tg3 h q, _, s_now h (by omega) (k := fr + j) rfl (by omega), ?_⟩⟩
      · have := hcc.mp hc
        rw [show rnL tx n q - fr - j = 0 by omega, dgs] at hv
        rw [← hv] at hnb
        refine ⟨fun g => ?_, fun g => bad ?_⟩
        · dsimp only at hnb
          rw [if_pos g] at hnb
          rw [hT, hnb] at hQ
          have e10 : (A.wI (aT A.I x q)).I (x + 3) 10 = nI mny := by
            show aT A.I x q (x + 3) 10 = _
            rw [aT_k (by decide)]
            exact h10
          have e9 : (A.wI (aT A.I x q)).I (x + 3) 9 = nI q := aT_9
          rw [e10, e9, nI_add]
          refine ⟨tg3 h q, _, hs_P3_4 h.1, hs_t8 h.1, by omega, ?_, ?_⟩
          · show vp_in _ (A.ln (x + 8))
            rw [hs_n8 h.1]
            exact vp_in_nI hm (by decide)
          · rintro _ rfl _ rfl
            rw [show ix (nI mny) = mny from nI_clamp (by omega)]
            refine hQ (xup (xup (aT A.I x q) (x + 8) mny v.toInt32) (x + 3) 9 (nI (q + rnL tx n q))) (Or.inr ⟨show ¬ (3 : Int32) = 1 by decide, xup_s, ?_, fun i z hz => ?_, fun _ => ?_, fun a k k1 k2 k3 k4 => ?_⟩)
            · rw [xup_k (by decide), xup_a (show x + 3 ≠ x + 8 by omega), aT_k (by decide)]
              exact h11
            · rw [xup_a (show x + 9 ≠ x + 3 by omega), xup_a (show x + 9 ≠ x + 8 by omega), aT_a (show x + 9 ≠ x + 3 by omega), xup_a (show x + 10 ≠ x + 3 by omega), xup_a (show x + 10 ≠ x + 8 by omega), aT_a (show x + 10 ≠ x + 3 by omega)]
              exact hnm i z hz
            · rw [xup_a (show x + 8 ≠ x + 3 by omega), xup_s]
            · have : xup (xup (aT A.I x q) (x + 8) mny v.toInt32) (x + 3) 9 (nI (q + rnL tx n q)) a k = xup (aT A.I x q) (x + 8) mny v.toInt32 a k := by
                by_cases y : a = x + 3
                · exact xup_k (fun z => k1 ⟨y, Or.inl z⟩)
                · exact xup_a y
              rw [this]
              by_cases y : a = x + 8
              · exact xup_k (fun z => k2 ⟨y, z⟩)
              · exact xup_a y
        · dsimp only at hnb
          rw [if_neg g] at hnb
          exact hnb
      · rintro _ _ _ ⟨rfl, rfl⟩
        have hjl : fr + j < rnL tx n q := by have : ¬ rnL tx n q ≤ fr + j := fun z => hc (hcc.mpr z); omega
        rw [hNow_lt (by omega)]
        rw [show rnL tx n q - fr - j = (rnL tx n q - fr - (j + 1)) + 1 by omega, dgs, show q + fr + j = q + (fr + j) by omega] at hv
        have out : (f_X2_digit (tx (q + (fr + j))) < 0 ∨ (sxB tx n q = false ∧ ¬ f_X2_digit (tx (q + (fr + j))) ≤ 9)) → Q 1 (A.wI (aT A.I x q)) := by
          intro g
          rw [if_pos g] at hv
          refine bad ?_
          rw [hnb, ← hv]
        refine ⟨fun g => out (Or.inl g), fun g => ⟨fun z => ⟨fun g9 => ?_, fun g9 => out (Or.inr ⟨?_, g9⟩)⟩, fun z => ?_⟩⟩
        · have hs : sxB tx n q = false := by
            cases hs : sxB tx n q with
            | false => rfl
            | true => rw [hs] at z; exact absurd z (by decide)
          rw [if_neg (by rintro (y | y); exact g y; exact y.2 g9), hs] at hv
          refine ⟨rnL tx n q - fr - (j + 1), by omega, j + 1, by omega, rfl, by rw [nI_1]; rfl, rfl, ?_⟩
          rw [hs, ← hv, show q + fr + (j + 1) = q + (fr + j) + 1 by omega]
          rfl
        · cases hs : sxB tx n q with
          | false => rfl
          | true => rw [hs] at z; exact absurd z (by decide)
        · have hs : sxB tx n q = true := by
            cases hs : sxB tx n q with
            | true => rfl
            | false => rw [hs] at z; exact absurd rfl z
          rw [if_neg (by rintro (y | y); exact g y; rw [hs] at y; exact nomatch y.1), hs] at hv
          refine ⟨rnL tx n q - fr - (j + 1), by omega, j + 1, by omega, rfl, by rw [nI_1]; rfl, rfl, ?_⟩
          rw [hs, ← hv, show q + fr + (j + 1) = q + (fr + j) + 1 by omega]
          rfl
    · have c' : ¬ rnL tx n q - fr ≤ lm := fun z => c ((nI_leI (by omega) (by omega)).mpr z)
      rw [hnb, if_pos (Or.inr c')]
  · rintro _ _ _ ⟨rfl, rfl⟩
    refine ⟨fun e2 => ⟨?_, rfl⟩, fun e2 => ⟨?_, rfl⟩⟩
    · rw [if_pos (show sxB tx n q = true from decide_eq_true ⟨e1, e2⟩)]
    · rw [if_neg (fun z => e2 (of_decide_eq_true z).2)]
  · rw [if_neg (fun z => e1 (of_decide_eq_true z).1)]
end TL
