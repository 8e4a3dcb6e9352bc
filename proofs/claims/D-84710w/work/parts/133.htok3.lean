/-! ===== the House's tokens: names, signs, all ===== -/
set_option maxRecDepth 100000
theorem nI_ne {a b : Nat} (ha : a < 2147483648) (hb : b < 2147483648) (h : a ≠ b) : ¬ nI a = nI b := fun z => h (by
  have := congrArg ix z
  rwa [show ix (nI a) = a from nI_clamp (by omega), show ix (nI b) = b from nI_clamp (by omega)] at this)
section TM
variable {G : xG} {A : xA} {x n q mny : Nat} {tx : Nat → Int32} {nm : List (Nat × Nat)}
/-- names lie in the text -/
def nmIn (n : Nat) (nm : List (Nat × Nat)) : Prop := ∀ z ∈ nm, z.1 + z.2 ≤ n
theorem aT_10 {k : Nat} (h10 : A.I (x + 3) 10 = nI mny) : (A.wI (aT A.I x k)).I (x + 3) 10 = nI mny := (aT_k (by decide)).trans h10
theorem aT_11 {k : Nat} {v : Int32} (h11 : A.I (x + 3) 11 = v) : (A.wI (aT A.I x k)).I (x + 3) 11 = v := (aT_k (by decide)).trans h11
theorem nm_aT {k : Nat} (h : nmA A.I x nm) : nmA (aT A.I x k) x nm := fun i z hz => by
  rw [aT_a (show x + 9 ≠ x + 3 by omega), aT_a (show x + 10 ≠ x + 3 by omega)]
  exact h i z hz
theorem s_X2_name (hO : xHO G) (h : xTE G A x n tx) (hS : xSg G A x) (hq : q < n) (hd : f_X2_isDigit (tx q) = 0) (hl : ¬ f_X2_isLetter (tx q) = 0) (h10 : A.I (x + 3) 10 = nI mny) (hm : mny < 4002) (h11 : A.I (x + 3) 11 = nI nm.length) (hnm : nmA A.I x nm) (hni : nmIn n nm) (hlen : nm.length < 4000) {Q : Int32 → xA → Prop}
    (hQ : ∀ J', tkP (aT A.I x q) J' x q mny (tkOne tx n q nm) → Q (tkOne tx n q nm).1 (A.wI J')) : w_X2_name G (x + 3) Q (A.wI (aT A.I x q)) := by
  have hn : n ≤ 4000 := h.2.2.2.1
  have hN := h.1.1
  have hle : q + rnL tx n q ≤ n := rnL_le (by omega)
  have hT : tkOne tx n q nm = (if ¬ rnL tx n q ≤ 16 then ((1 : Int32), (0 : Int32), 0, nm) else match wIx tx q (rnL tx n q) with
      | some k => (nI (10 + k), 0, rnL tx n q, nm)
      | none => match nIx tx nm q (rnL tx n q) with
        | some k => (2, nI k, rnL tx n q, nm)
        | none => (2, nI nm.length, rnL tx n q, nm ++ [(q, rnL tx n q)])) := by
    unfold tkOne
    rw [if_neg (fun z => z hd), if_pos hl]
    rfl
  intro _
  refine ⟨tg3 h q, _, s_X2_run h (by omega), ?_⟩
  rintro _ _ _ ⟨rfl, rfl⟩
  refine ⟨fun c => ?_, fun c => ?_⟩
  · have c16 : rnL tx n q ≤ 16 := (nI_leI (a := rnL tx n q) (b := 16) (by omega) (by decide)).mp c
    rw [if_neg (fun z => z c16)] at hT
    refine ⟨fun z y B => ∃ k, k ≤ 15 ∧ z = 15 - k ∧ y = nI k ∧ A.wI (aT A.I x q) = B ∧ fst1 (fun k => isWd tx q (rnL tx n q) (strB k)) (15 - k) k = wIx tx q (rnL tx n q), ⟨15, 0, by omega, rfl, rfl, rfl, rfl⟩, ?_⟩
    rintro _ _ _ ⟨k, hk, rfl, rfl, rfl, hf⟩
    refine ⟨tg3 h q, _, hs_P3_0 h.1, hs_t4 h.1, ?_⟩
    have e15 : (A.wI (aT A.I x q)).ln (x + 4) = 15 := hs_n4 h.1
    rw [e15]
    have hcc : nI 15 ≤ nI k ↔ 15 ≤ k := nI_leI (by decide) (by omega)
    refine ⟨fun c => ?_, fun c => ⟨?_, fun v B => v = (if isWd tx q (rnL tx n q) (strB k) = true then 1 else 0) ∧ A.wI (aT A.I x q) = B, ?_, ?_⟩⟩
    · have hk15 : k = 15 := by have := hcc.mp c; omega
      subst hk15
      rw [Nat.sub_self, fst1] at hf
      rw [← hf] at hT
      dsimp only at hT
      refine ⟨fun z y B => ∃ j, j ≤ nm.length ∧ z = nm.length - j ∧ y = nI j ∧ A.wI (aT A.I x q) = B ∧ fst1 (fun k => isNm tx q (rnL tx n q) (nm.getD k (0, 0))) (nm.length - j) j = nIx tx nm q (rnL tx n q), ⟨nm.length, 0, by omega, rfl, rfl, rfl, rfl⟩, ?_⟩
      rintro _ _ _ ⟨j, hj, rfl, rfl, rfl, hg⟩
      refine ⟨tg3 h q, fun B => A.wI (aT A.I x q) = B ∧ ((nIx tx nm q (rnL tx n q) = some j ∧ j < nm.length) ∨ (nIx tx nm q (rnL tx n q) = none ∧ j = nm.length)), ?_, ?_⟩
      · rintro _ ⟨rfl, ho⟩
        have e11 : (A.wI (aT A.I x q)).I (x + 3) 11 = nI nm.length := aT_11 h11
        refine ⟨tg3 h q, fun B => ∃ J, A.wI J = B ∧ J (x + 3) 10 = nI mny ∧ J (x + 3) 9 = nI q ∧ J (x + 3) 11 = nI (tkOne tx n q nm).2.2.2.length ∧ nmA J x (tkOne tx n q nm).2.2.2 ∧ (tkOne tx n q nm).1 = 2 ∧ (tkOne tx n q nm).2.1 = nI j ∧ (tkOne tx n q nm).2.2.1 = rnL tx n q ∧ tFr (aT A.I x q) J x mny, ?_, ?_⟩
        · rintro _ ⟨J, rfl, j10, j9, j11, jn, t1, t2, t3, jf⟩
          have f10 : (A.wI J).I (x + 3) 10 = nI mny := j10
          have f9 : (A.wI J).I (x + 3) 9 = nI q := j9
          rw [f10, f9, nI_add]
          refine ⟨hs_t3 h.1, _, hs_P3_4 h.1, hs_t8 h.1, by omega, ?_, ?_⟩
          · show vp_in _ (A.ln (x + 8))
            rw [hs_n8 h.1]
            exact vp_in_nI hm (by decide)
          · rintro _ rfl _ rfl
            rw [show ix (nI mny) = mny from nI_clamp (by omega)]
            rw [t1] at hQ
            refine hQ (xup (xup J (x + 8) mny (nI j)) (x + 3) 9 (nI (q + rnL tx n q))) (Or.inr ⟨by rw [t1]; decide, ?_, ?_, fun i z hz => ?_, fun _ => ?_, fun a k k1 k2 k3 k4 => ?_⟩)
            · rw [xup_s, t3]
            · rw [xup_k (by decide), xup_a (show x + 3 ≠ x + 8 by omega)]
              exact j11
            · rw [xup_a (show x + 9 ≠ x + 3 by omega), xup_a (show x + 9 ≠ x + 8 by omega), xup_a (show x + 10 ≠ x + 3 by omega), xup_a (show x + 10 ≠ x + 8 by omega)]
              exact jn i z hz
            · rw [xup_a (show x + 8 ≠ x + 3 by omega), xup_s, t2]
            · have : xup (xup J (x + 8) mny (nI j)) (x + 3) 9 (nI (q + rnL tx n q)) a k = xup J (x + 8) mny (nI j) a k := by
                by_cases y : a = x + 3
                · exact xup_k (fun z => k1 ⟨y, Or.inl z⟩)
                · exact xup_a y
              rw [this]
              refine Eq.trans ?_ (jf a k k1 k2 k3 k4)
              by_cases y : a = x + 8
              · exact xup_k (fun z => k2 ⟨y, z⟩)
              · exact xup_a y
        · rw [e11]
          rcases ho with ⟨ho, hjl⟩ | ⟨ho, rfl⟩
          · refine ⟨fun z => ?_, fun _ => ⟨aT A.I x q, rfl, (aT_k (by decide)).trans h10, aT_9, ?_, ?_, ?_, ?_, ?_, fun _ _ _ _ _ _ => rfl⟩⟩
            · have := congrArg ix z
              rw [show ix (nI j) = j from nI_clamp (by omega), show ix (nI nm.length) = nm.length from nI_clamp (by omega)] at this
              omega
            · rw [hT, ho]
              exact (aT_k (by decide)).trans h11
            · rw [hT, ho]
              exact nm_aT hnm
            · rw [hT, ho]
            · rw [hT, ho]
            · rw [hT, ho]
          · refine ⟨fun _ => ⟨_, hs_P3_5 h.1, hs_t9 h.1, by omega, ?_, ?_⟩, fun z => absurd rfl z⟩
            · show vp_in _ (A.ln (x + 9))
              rw [hs_n9 h.1]
              exact vp_in_nI hlen (by decide)
            · rintro _ rfl
              have e9 : (A.wI (aT A.I x q)).I (x + 3) 9 = nI q := aT_9
              rw [show ix (nI nm.length) = nm.length from nI_clamp (by omega), e9]
              refine ⟨_, hs_P3_6 h.1, hs_t10 h.1, by omega, ?_, ?_⟩
              · show vp_in _ (A.ln (x + 10))
                rw [hs_n10 h.1]
                exact vp_in_nI hlen (by decide)
              · rintro _ rfl _ rfl
                have ha : ∀ a k, a ≠ x + 9 → a ≠ x + 10 → ¬ (a = x + 3 ∧ k = 11) → xup (xup (xup (aT A.I x q) (x + 9) nm.length (nI q)) (x + 10) nm.length (nI (rnL tx n q))) (x + 3) 11 (nI nm.length + 1) a k = aT A.I x q a k := by
                  intro a k a1 a2 a3
                  have : xup (xup (xup (aT A.I x q) (x + 9) nm.length (nI q)) (x + 10) nm.length (nI (rnL tx n q))) (x + 3) 11 (nI nm.length + 1) a k = xup (xup (aT A.I x q) (x + 9) nm.length (nI q)) (x + 10) nm.length (nI (rnL tx n q)) a k := by
                    by_cases y : a = x + 3
                    · exact xup_k (fun z => a3 ⟨y, z⟩)
                    · exact xup_a y
                  rw [this, xup_a a2, xup_a a1]
                refine ⟨xup (xup (xup (aT A.I x q) (x + 9) nm.length (nI q)) (x + 10) nm.length (nI (rnL tx n q))) (x + 3) 11 (nI nm.length + 1), rfl, ?_, ?_, ?_, ?_, ?_, ?_, ?_, fun a k k1 k2 k3 k4 => ha a k k3 k4 (fun z => k1 ⟨z.1, Or.inr z.2⟩)⟩
                · rw [ha _ _ (by omega) (by omega) (fun z => absurd z.2 (by decide)), aT_k (by decide)]
                  exact h10
                · rw [ha _ _ (by omega) (by omega) (fun z => absurd z.2 (by decide)), aT_9]
                · rw [xup_s, hT, ho]
                  show _ = nI (nm ++ [_]).length
                  rw [List.length_append, nI_1]
                  rfl
                · rw [hT, ho]
                  intro i z hz
                  change (nm ++ [(q, rnL tx n q)])[i]? = some z at hz
                  rw [xup_a (show x + 9 ≠ x + 3 by omega), xup_a (show x + 9 ≠ x + 10 by omega), xup_a (show x + 10 ≠ x + 3 by omega)]
                  by_cases hi : i < nm.length
                  · rw [List.getElem?_append_left hi] at hz
                    rw [xup_k (show i ≠ nm.length by omega), xup_k (show i ≠ nm.length by omega), xup_a (show x + 10 ≠ x + 9 by omega)]
                    exact nm_aT hnm i z hz
                  · rw [List.getElem?_append_right (by omega)] at hz
                    have : i = nm.length := by
                      by_cases y : i - nm.length = 0
                      · omega
                      · rw [List.getElem?_eq_none (by simp; omega)] at hz
                        exact nomatch hz
                    subst this
                    rw [Nat.sub_self] at hz
                    cases hz
                    exact ⟨xup_s, xup_s⟩
                · rw [hT, ho]
                · rw [hT, ho]
                · rw [hT, ho]
      · have e11 : (A.wI (aT A.I x q)).I (x + 3) 11 = nI nm.length := aT_11 h11
        rw [e11]
        have hcj : nI nm.length ≤ nI j ↔ nm.length ≤ j := nI_leI (by omega) (by omega)
        refine ⟨fun c => ⟨rfl, Or.inr ?_⟩, fun c => ?_⟩
        · have : j = nm.length := by have := hcj.mp c; omega
          subst this
          rw [Nat.sub_self, fst1] at hg
          exact ⟨hg.symm, rfl⟩
        · have hjl : j < nm.length := by have : ¬ nm.length ≤ j := fun z => c (hcj.mpr z); omega
          have hz : nm[j]? = some (nm.getD j (0, 0)) := by
            rw [List.getD_eq_getElem?_getD, List.getElem?_eq_getElem hjl]
            rfl
          obtain ⟨z1, z2⟩ := nm_aT (k := q) hnm j _ hz
          refine ⟨_, s_X2_isName (h.at q) aT_9 hle (by omega) z1 z2 (hni _ (List.mem_of_getElem? hz)) (Q := fun v B => v = (if isNm tx q (rnL tx n q) (nm.getD j (0, 0)) = true then 1 else 0) ∧ A.wI (aT A.I x q) = B) ⟨rfl, rfl⟩, ?_⟩
          rintro _ _ _ _ ⟨rfl, rfl⟩
          rw [show nm.length - j = (nm.length - (j + 1)) + 1 by omega] at hg
          cases hb : isNm tx q (rnL tx n q) (nm.getD j (0, 0)) with
          | false =>
            refine ⟨fun _ => ⟨nm.length - (j + 1), by omega, j + 1, by omega, rfl, nI_1 j, rfl, ?_⟩, fun z => absurd rfl z⟩
            rw [fst1_no hb] at hg
            exact hg
          | true =>
            refine ⟨fun z => absurd z (by decide), fun _ => ⟨rfl, Or.inl ⟨?_, hjl⟩⟩⟩
            rw [fst1_yes hb] at hg
            exact hg.symm
    · exact vp_in_nI (by have : ¬ 15 ≤ k := fun z => c (hcc.mpr z); omega) (by decide)
    · have hk15 : k < 15 := by have : ¬ 15 ≤ k := fun z => c (hcc.mpr z); omega
      have e9 : (A.wI (aT A.I x q)).I (x + 3) 9 = nI q := aT_9
      have eP : (A.wI (aT A.I x q)).P (x + 4) (ix (nI k)) = some (G.cs (100 + k)) := by
        rw [show ix (nI k) = k from nI_clamp (by omega)]
        exact hS.1 k hk15
      rw [e9, eP]
      exact s_X2_isWord hO (h.at q) hle (by omega) (Q := fun v B => v = (if isWd tx q (rnL tx n q) (strB k) = true then 1 else 0) ∧ A.wI (aT A.I x q) = B) ⟨rfl, rfl⟩
    · rintro _ _ _ _ ⟨rfl, rfl⟩
      have hk15 : k < 15 := by have : ¬ 15 ≤ k := fun z => c (hcc.mpr z); omega
      rw [show 15 - k = (15 - (k + 1)) + 1 by omega] at hf
      cases hb : isWd tx q (rnL tx n q) (strB k) with
      | false =>
        refine ⟨fun _ => ⟨15 - (k + 1), by omega, k + 1, by omega, rfl, nI_1 k, rfl, ?_⟩, fun z => absurd rfl z⟩
        rw [fst1_no hb] at hf
        exact hf
      | true =>
        refine ⟨fun z => absurd z (by decide), fun _ => ⟨tg3 h q, ?_⟩⟩
        rw [fst1_yes hb] at hf
        rw [← hf] at hT
        dsimp only at hT
        rintro _ rfl
        rw [aT_set (k := rnL tx n q) rfl, show (10 : Int32) + nI k = nI (10 + k) from nI_add 10 k]
        rw [hT] at hQ
        refine hQ (aT A.I x (q + rnL tx n q)) (Or.inr ⟨?_, aT_9, (aT_k (by decide)).trans h11, nm_aT hnm, fun z => ?_, fun a k k1 k2 k3 k4 => ?_⟩)
        · exact nI_ne (a := 10 + k) (b := 1) (by omega) (by decide) (by omega)
        · exact absurd z (fun z => z.elim (nI_ne (a := 10 + k) (b := 2) (by omega) (by decide) (by omega)) (nI_ne (a := 10 + k) (b := 3) (by omega) (by decide) (by omega)))
        · by_cases y : a = x + 3
          · rw [aT_k (fun z => k1 ⟨y, Or.inl z⟩), aT_k (fun z => k1 ⟨y, Or.inl z⟩)]
          · rw [aT_a y, aT_a y]
  · have c16 : ¬ rnL tx n q ≤ 16 := fun z => c ((nI_leI (a := rnL tx n q) (b := 16) (by omega) (by decide)).mpr z)
    rw [if_pos c16] at hT
    rw [hT] at hQ
    exact hQ _ (Or.inl ⟨rfl, rfl⟩)
theorem k40 {k : Nat} (hk : k < 45) : ¬ nI (40 + k) = 1 ∧ ¬ nI (40 + k) = 2 ∧ ¬ nI (40 + k) = 3 := by
  have : ∀ {c : Nat}, c < 10 → ¬ nI (40 + k) = nI c := by
    intro c hc z
    have := congrArg ix z
    rw [show ix (nI (40 + k)) = 40 + k from nI_clamp (by omega), show ix (nI c) = c from nI_clamp (by omega)] at this
    omega
  exact ⟨this (c := 1) (by decide), this (c := 2) (by decide), this (c := 3) (by decide)⟩
theorem s_X2_sign (hO : xHO G) (h : xTE G A x n tx) (hS : xSg G A x) (hq : q < n) (hd : f_X2_isDigit (tx q) = 0) (hl : f_X2_isLetter (tx q) = 0) (h11 : A.I (x + 3) 11 = nI nm.length) (hnm : nmA A.I x nm) {Q : Int32 → xA → Prop}
    (hQ : ∀ J', tkP (aT A.I x q) J' x q mny (tkOne tx n q nm) → Q (tkOne tx n q nm).1 (A.wI J')) : w_X2_sign G (x + 3) Q (A.wI (aT A.I x q)) := by
  have hn : n ≤ 4000 := h.2.2.2.1
  have hT : tkOne tx n q nm = (match sIx tx n q with
    | some k => (nI (40 + k), (0 : Int32), (strB (15 + k)).length, nm)
    | none => (1, 0, 0, nm)) := by
    unfold tkOne
    rw [if_neg (fun z => z hd), if_neg (fun z => z hl)]
    rfl
  intro _
  refine ⟨fun z y B => ∃ k, k ≤ 45 ∧ z = 45 - k ∧ y = nI k ∧ A.wI (aT A.I x q) = B ∧ fst1 (fun k => isSg tx n q (strB (15 + k))) (45 - k) k = sIx tx n q, ⟨45, 0, by omega, rfl, rfl, rfl, rfl⟩, ?_⟩
  rintro _ _ _ ⟨k, hk, rfl, rfl, rfl, hf⟩
  refine ⟨tg3 h q, _, hs_P3_1 h.1, hs_t5 h.1, ?_⟩
  have e45 : (A.wI (aT A.I x q)).ln (x + 5) = 45 := hs_n5 h.1
  rw [e45]
  have hcc : nI 45 ≤ nI k ↔ 45 ≤ k := nI_leI (by decide) (by omega)
  refine ⟨fun c => ?_, fun c => ?_⟩
  · have hk45 : k = 45 := by have := hcc.mp c; omega
    subst hk45
    rw [Nat.sub_self, fst1] at hf
    rw [hT, ← hf] at hQ
    exact hQ _ (Or.inl ⟨rfl, rfl⟩)
  · have hk45 : k < 45 := by have : ¬ 45 ≤ k := fun z => c (hcc.mpr z); omega
    have hlen := strB_pos (15 + k) (by omega)
    have eP : (A.wI (aT A.I x q)).P (x + 5) (ix (nI k)) = some (G.cs (100 + (15 + k))) := by
      rw [show ix (nI k) = k from nI_clamp (by omega), show 100 + (15 + k) = 115 + k by omega]
      exact hS.2 k hk45
    have vin : vp_in (nI k) ((A.wI (aT A.I x q)).ln (x + 5)) := by
      rw [e45]
      exact vp_in_nI hk45 (by decide)
    refine ⟨fun z y w B => ∃ j, j ≤ (strB (15 + k)).length ∧ z = (strB (15 + k)).length - j ∧ w = nI j ∧ A.wI (aT A.I x q) = B ∧ ((y = 1 ∧ ∀ i, i < j → hNow tx n (q + i) = (strB (15 + k)).getD i 0) ∨ (y = 0 ∧ isSg tx n q (strB (15 + k)) = false)), ⟨(strB (15 + k)).length, 0, by omega, rfl, rfl, rfl, Or.inl ⟨rfl, fun i hi => absurd hi (by omega)⟩⟩, ?_⟩
    rintro _ y _ _ ⟨j, hj, rfl, rfl, rfl, hy⟩
    refine ⟨tg3 h q, _, hs_P3_1 h.1, hs_t5 h.1, vin, _, eP, str_oo hO (by omega), _, s_strlen hO (by omega), ?_⟩
    rintro _ _ _ ⟨rfl, rfl⟩
    have hcl : nI (strB (15 + k)).length ≤ nI j ↔ (strB (15 + k)).length ≤ j := nI_leI (by omega) (by omega)
    rw [show 45 - k = (45 - (k + 1)) + 1 by omega] at hf
    refine ⟨(y = 1 ∧ isSg tx n q (strB (15 + k)) = true) ∨ (y = 0 ∧ isSg tx n q (strB (15 + k)) = false), ?_, fun c => ?_, fun c => ⟨fun y0 => ?_, fun y0 => ?_⟩⟩
    · rintro (⟨rfl, e⟩ | ⟨rfl, e⟩)
      · refine ⟨fun z => absurd z (by decide), fun _ => ⟨tg3 h q, _, hs_P3_1 h.1, hs_t5 h.1, vin, _, eP, str_oo hO (by omega), _, s_strlen hO (by omega), ?_⟩⟩
        rintro _ _ _ ⟨rfl, rfl⟩
        refine ⟨tg3 h q, ?_⟩
        rintro _ rfl
        rw [aT_set (k := (strB (15 + k)).length) rfl, show (40 : Int32) + nI k = nI (40 + k) from nI_add 40 k]
        rw [fst1_yes e] at hf
        rw [hT, ← hf] at hQ
        have hk3 := k40 hk45
        refine hQ (aT A.I x (q + (strB (15 + k)).length)) (Or.inr ⟨hk3.1, aT_9, (aT_k (by decide)).trans h11, nm_aT hnm, fun z => absurd z (fun z => z.elim hk3.2.1 hk3.2.2), fun a k k1 k2 k3 k4 => ?_⟩)
        by_cases y : a = x + 3
        · rw [aT_k (fun z => k1 ⟨y, Or.inl z⟩), aT_k (fun z => k1 ⟨y, Or.inl z⟩)]
        · rw [aT_a y, aT_a y]
      · refine ⟨fun _ => ⟨45 - (k + 1), by omega, k + 1, by omega, rfl, nI_1 k, rfl, ?_⟩, fun z => absurd rfl z⟩
        rw [fst1_no e] at hf
        exact hf
    · rcases hy with ⟨rfl, e⟩ | e
      · exact Or.inl ⟨rfl, decide_eq_true (fun i hi => e i (by have := hcl.mp c; omega))⟩
      · exact Or.inr e
    · rcases hy with ⟨rfl, e⟩ | e
      · exact absurd y0 (by decide)
      · exact Or.inr e
    · have hjl : j < (strB (15 + k)).length := by have : ¬ (strB (15 + k)).length ≤ j := fun z => c (hcl.mpr z); omega
      refine ⟨tg3 h q, _, s_now h (by omega) (k := j) rfl (by omega), ?_⟩
      rintro _ _ _ ⟨rfl, rfl⟩
      refine ⟨tg3 h q, _, hs_P3_1 h.1, hs_t5 h.1, vin, _, eP, str_oo hO (by omega), _, s_strat hO (by omega) hjl, ?_⟩
      rintro _ _ _ ⟨rfl, rfl⟩
      refine ⟨(strB (15 + k)).length - (j + 1), by omega, j + 1, by omega, rfl, nI_1 j, rfl, ?_⟩
      rw [strC_eq (by omega) hjl]
      rcases hy with ⟨rfl, e⟩ | ⟨rfl, e⟩
      · by_cases ht : hNow tx n (q + j) = (strB (15 + k)).getD j 0
        · rw [if_pos ht]
          refine Or.inl ⟨rfl, fun i hi => ?_⟩
          by_cases ei : i = j
          · rw [ei]
            exact ht
          · exact e i (by omega)
        · rw [if_neg ht]
          exact Or.inr ⟨rfl, decide_eq_false (fun z => ht (z j hjl))⟩
      · exact absurd rfl y0
/-- the tokens so far -/
def tkA (J : xII) (x : Nat) (D : tkL) : Prop := ∀ i t, D[i]? = some t → J (x + 6) i = t.1 ∧ (t.1 = 2 ∨ t.1 = 3 → J (x + 8) i = t.2.1) ∧ J (x + 7) i = nI t.2.2
/-- what scan leaves as it was -/
def scFr (J J' : xII) (x : Nat) : Prop := ∀ a k, ¬ (a = x + 3 ∧ 8 ≤ k) → a ≠ x + 6 → a ≠ x + 7 → a ≠ x + 8 → a ≠ x + 9 → a ≠ x + 10 → J' a k = J a k
theorem tkOne_nm (hq : q < n) (hni : nmIn n nm) (h1 : ¬ (tkOne tx n q nm).1 = 1) : nmIn n (tkOne tx n q nm).2.2.2 ∧ (tkOne tx n q nm).2.2.2.length ≤ nm.length + 1 := by
  have hle : q + rnL tx n q ≤ n := rnL_le (by omega)
  unfold tkOne at h1 ⊢
  by_cases hd : ¬ f_X2_isDigit (tx q) = 0
  · rw [if_pos hd]
    cases nbT tx n q with
    | none => exact ⟨hni, Nat.le_succ _⟩
    | some q => exact ⟨hni, Nat.le_succ _⟩
  · rw [if_neg hd]
    by_cases hl : ¬ f_X2_isLetter (tx q) = 0
    · rw [if_pos hl]
      by_cases h16 : ¬ rnL tx n q ≤ 16
      · rw [if_pos h16]
        exact ⟨hni, Nat.le_succ _⟩
      · rw [if_neg h16]
        cases wIx tx q (rnL tx n q) with
        | some k => exact ⟨hni, Nat.le_succ _⟩
        | none =>
          cases nIx tx nm q (rnL tx n q) with
          | some k => exact ⟨hni, Nat.le_succ _⟩
          | none =>
            refine ⟨fun z hz => ?_, ?_⟩
            · rcases List.mem_append.mp hz with hz | hz
              · exact hni z hz
              · rw [List.mem_singleton.mp hz]
                exact hle
            · show (nm ++ [_]).length ≤ _
              rw [List.length_append]
              exact Nat.le_refl _
    · rw [if_neg hl]
      cases sIx tx n q with
      | some k => exact ⟨hni, Nat.le_succ _⟩
      | none => exact ⟨hni, Nat.le_succ _⟩
end TM
