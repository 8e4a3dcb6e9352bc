/-! ===== the House's tokens: all of a text ===== -/
set_option maxRecDepth 100000
section TN
variable {G : xG} {A : xA} {x n q mny : Nat} {tx : Nat → Int32} {nm : List (Nat × Nat)}
theorem s_skip' (h : xTE G A x n tx) (h9 : A.I (x + 3) 9 = nI q) (hq : q ≤ n) {Q : Int32 → xA → Prop} (hQ1 : ∀ b, skR tx n q = (true, b) → Q (nI b) (A.wI (aT A.I x n))) (hQ0 : ∀ b, skR tx n q = (false, b) → Q (-1) (A.wI (aT A.I x b))) : w_X2_skip G (x + 3) Q A := by
  have := s_X2_skip h hq hQ1 hQ0
  rwa [aT_id h9] at this
theorem s_number' (h : xTE G A x n tx) (h9 : A.I (x + 3) 9 = nI q) (hq : q < n) (hd : ¬ f_X2_isDigit (tx q) = 0) (h10 : A.I (x + 3) 10 = nI mny) (hm : mny < 4002) (h11 : A.I (x + 3) 11 = nI nm.length) (hnm : nmA A.I x nm) {Q : Int32 → xA → Prop}
    (hQ : ∀ J', tkP A.I J' x q mny (tkOne tx n q nm) → Q (tkOne tx n q nm).1 (A.wI J')) : w_X2_number G (x + 3) Q A := by
  have := s_X2_number h hq hd h10 hm h11 hnm (Q := Q) (fun J' hJ => hQ J' (by rwa [aT_id h9] at hJ))
  rwa [aT_id h9] at this
theorem s_name' (hO : xHO G) (h : xTE G A x n tx) (hS : xSg G A x) (h9 : A.I (x + 3) 9 = nI q) (hq : q < n) (hd : f_X2_isDigit (tx q) = 0) (hl : ¬ f_X2_isLetter (tx q) = 0) (h10 : A.I (x + 3) 10 = nI mny) (hm : mny < 4002) (h11 : A.I (x + 3) 11 = nI nm.length) (hnm : nmA A.I x nm) (hni : nmIn n nm) (hlen : nm.length < 4000) {Q : Int32 → xA → Prop}
    (hQ : ∀ J', tkP A.I J' x q mny (tkOne tx n q nm) → Q (tkOne tx n q nm).1 (A.wI J')) : w_X2_name G (x + 3) Q A := by
  have := s_X2_name hO h hS hq hd hl h10 hm h11 hnm hni hlen (Q := Q) (fun J' hJ => hQ J' (by rwa [aT_id h9] at hJ))
  rwa [aT_id h9] at this
theorem s_sign' (hO : xHO G) (h : xTE G A x n tx) (hS : xSg G A x) (h9 : A.I (x + 3) 9 = nI q) (hq : q < n) (hd : f_X2_isDigit (tx q) = 0) (hl : f_X2_isLetter (tx q) = 0) (h11 : A.I (x + 3) 11 = nI nm.length) (hnm : nmA A.I x nm) {Q : Int32 → xA → Prop}
    (hQ : ∀ J', tkP A.I J' x q mny (tkOne tx n q nm) → Q (tkOne tx n q nm).1 (A.wI J')) : w_X2_sign G (x + 3) Q A := by
  have := s_X2_sign (mny := mny) hO h hS hq hd hl h11 hnm (Q := Q) (fun J' hJ => hQ J' (by rwa [aT_id h9] at hJ))
  rwa [aT_id h9] at this
theorem tkOne_n0 : ¬ (tkOne tx n q nm).1 = 0 := by
  unfold tkOne
  by_cases hd : ¬ f_X2_isDigit (tx q) = 0
  · rw [if_pos hd]
    cases nbT tx n q with
    | none => exact (by decide : ¬ (1 : Int32) = 0)
    | some q => exact (by decide : ¬ (3 : Int32) = 0)
  · rw [if_neg hd]
    by_cases hl : ¬ f_X2_isLetter (tx q) = 0
    · rw [if_pos hl]
      by_cases h16 : ¬ rnL tx n q ≤ 16
      · rw [if_pos h16]
        exact (by decide : ¬ (1 : Int32) = 0)
      · rw [if_neg h16]
        cases hw : wIx tx q (rnL tx n q) with
        | some k =>
          have := (fst1_some hw).2.2.1
          exact nI_ne (a := 10 + k) (b := 0) (by omega) (by decide) (by omega)
        | none =>
          cases nIx tx nm q (rnL tx n q) with
          | some k => exact (by decide : ¬ (2 : Int32) = 0)
          | none => exact (by decide : ¬ (2 : Int32) = 0)
    · rw [if_neg hl]
      cases hs : sIx tx n q with
      | some k =>
        have := (fst1_some hs).2.2.1
        exact nI_ne (a := 40 + k) (b := 0) (by omega) (by decide) (by omega)
      | none => exact (by decide : ¬ (1 : Int32) = 0)
theorem xHs_37 (h : xHs G A x) {v : Option Nat} : xHs G (A.setP (x + 3) 7 v) x := by
  refine ⟨h.1, h.2.1, h.2.2.1, fun z hz => ?_⟩
  have : ¬ (z.1 = 3 ∧ z.2.1 = 7) := by
    revert hz z
    decide
  show xup A.P (x + 3) 7 v (x + z.1) z.2.1 = _
  by_cases e : z.1 = 3
  · rw [xup_k (fun y => this ⟨e, y⟩)]
    exact h.2.2.2 z hz
  · rw [xup_a (show x + z.1 ≠ x + 3 by omega)]
    exact h.2.2.2 z hz
theorem xSg_37 (h : xSg G A x) {v : Option Nat} : xSg G (A.setP (x + 3) 7 v) x := by
  refine ⟨fun k hk => ?_, fun k hk => ?_⟩
  · exact (xup_a (show x + 4 ≠ x + 3 by omega)).trans (h.1 k hk)
  · exact (xup_a (show x + 5 ≠ x + 3 by omega)).trans (h.2 k hk)
theorem getD_snoc {α : Type} {D : List α} {t u : α} {i : Nat} (h : (D ++ [t])[i]? = some u) : (i < D.length ∧ D[i]? = some u) ∨ (i = D.length ∧ t = u) := by
  by_cases hi : i < D.length
  · rw [List.getElem?_append_left hi] at h
    exact Or.inl ⟨hi, h⟩
  · rw [List.getElem?_append_right (by omega)] at h
    by_cases y : i - D.length = 0
    · rw [y] at h
      exact Or.inr ⟨by omega, Option.some.inj h⟩
    · rw [List.getElem?_eq_none (by simp; omega)] at h
      exact nomatch h
theorem s_X2_scan (hO : xHO G) (hH : xHs G A x) (hS : xSg G A x) (hn : n ≤ 4000) (htx : ∀ k, k < n → A.I (x + 1) k &&& 255 = tx k ∧ A.I (x + 1) k = (tx k).toInt8.toInt32) {Q : xA → Prop}
    (hQ : ∀ J', scFr A.I J' x → tkA J' x (tz tx n 0 []).1 → nmA J' x (tz tx n 0 []).2 → J' (x + 3) 8 = nI n → Q ((A.setP (x + 3) 7 (some (x + 1))).wI J')) : w_X2_scan G (x + 3) (some (x + 1)) (nI n) Q A := by
  have hN := hH.1
  intro _
  refine ⟨hs_t3 hH, ?_⟩
  rintro _ rfl _ rfl _ rfl _ rfl _ rfl
  have hH1 : xHs G (A.setP (x + 3) 7 (some (x + 1))) x := xHs_37 hH
  have hS1 : xSg G (A.setP (x + 3) 7 (some (x + 1))) x := xSg_37 hS
  have hP7 : (A.setP (x + 3) 7 (some (x + 1))).P (x + 3) 7 = some (x + 1) := xup_s
  have hI1 : (A.setP (x + 3) 7 (some (x + 1))).I = A.I := rfl
  refine ⟨fun z y B => ∃ D p nm J, (A.setP (x + 3) 7 (some (x + 1))).wI J = B ∧ J (x + 3) 8 = nI n ∧ J (x + 3) 9 = nI p ∧ J (x + 3) 10 = nI D.length ∧ J (x + 3) 11 = nI nm.length ∧ tkA J x D ∧ nmA J x nm ∧ nmIn n nm ∧ scFr A.I J x ∧ D.length ≤ p + 1 ∧ nm.length ≤ D.length ∧
    ((¬ y = 0 ∧ ¬ y = 1 ∧ p ≤ n ∧ D.length ≤ p ∧ z = n + 1 - p ∧ tz tx n 0 [] = (D ++ (tz tx n p nm).1, (tz tx n p nm).2)) ∨ ((y = 0 ∨ y = 1) ∧ tz tx n 0 [] = (D, nm))), ⟨n + 1, [], 0, [], xup (xup (xup (xup A.I (x + 3) 8 (nI n)) (x + 3) 9 0) (x + 3) 10 0) (x + 3) 11 0, rfl, ?_, ?_, ?_, ?_, ?_, ?_, ?_, ?_, Nat.zero_le _, Nat.le_refl _, Or.inl ⟨by decide, by decide, Nat.zero_le _, Nat.le_refl _, rfl, rfl⟩⟩, ?_⟩
  · rw [xup_k (by decide), xup_k (by decide), xup_k (by decide), xup_s]
  · rw [xup_k (by decide), xup_k (by decide), xup_s]
    rfl
  · rw [xup_k (by decide), xup_s]
    rfl
  · rw [xup_s]
    rfl
  · exact fun i t h => nomatch h
  · exact fun i t h => nomatch h
  · exact fun z hz => nomatch hz
  · intro a k h1 _ _ _ _ _
    have e : ∀ j, 8 ≤ j → ¬ (a = x + 3 ∧ k = j) := fun j hj z => h1 ⟨z.1, by omega⟩
    have st : ∀ (J : xII) (j : Nat) (v : Int32), 8 ≤ j → xup J (x + 3) j v a k = J a k := fun J j v hj => by
      by_cases y : a = x + 3
      · exact xup_k (fun z => e j hj ⟨y, z⟩)
      · exact xup_a y
    rw [st _ _ _ (by decide), st _ _ _ (by decide), st _ _ _ (by decide), st _ _ _ (by decide)]
  rintro _ y _ ⟨D, p, nm, J, rfl, j8, j9, j10, j11, jt, jn, jni, jf, hDp, hnD, hy⟩
  have fin : (y = 0 ∨ y = 1) → Q ((A.setP (x + 3) 7 (some (x + 1))).wI J) := by
    intro h01
    rcases hy with ⟨h0, h1, -⟩ | ⟨-, e⟩
    · exact absurd h01 (fun z => z.elim h0 h1)
    · rw [e] at hQ
      exact hQ J jf jt jn j8
  refine ⟨fun h0 => fin (Or.inl h0), fun h0 => ⟨fun h1 => fin (Or.inr h1), fun h1 => ?_⟩⟩
  obtain ⟨-, -, hp, hDp', rfl, hz⟩ : ¬ y = 0 ∧ ¬ y = 1 ∧ p ≤ n ∧ D.length ≤ p ∧ _ := hy.resolve_right (fun z => z.1.elim h0 h1)
  have hTE : ∀ K : xII, scFr A.I K x → K (x + 3) 8 = nI n → xTE G ((A.setP (x + 3) 7 (some (x + 1))).wI K) x n tx := by
    intro K kf k8
    refine ⟨hH1, hP7, k8, hn, fun k hk => ?_⟩
    show K (x + 1) k &&& 255 = tx k ∧ K (x + 1) k = _
    rw [kf (x + 1) k (fun z => by omega) (by omega) (by omega) (by omega) (by omega) (by omega)]
    exact htx k hk
  have hsk := skR_le (tx := tx) (n := n) (n - p) p (Nat.le_refl _) hp
  generalize hs : (skR tx n p).2 = s at hsk
  have tC : xTE G ((A.setP (x + 3) 7 (some (x + 1))).wI J) x n tx := hTE J jf j8
  refine ⟨hs_t3 hH1, _, s_skip' tC j9 hp (Q := fun v B => ((v = nI s ∧ (skR tx n p).1 = true ∧ ∃ w, (A.setP (x + 3) 7 (some (x + 1))).wI (aT J x w) = B) ∨ (v = -1 ∧ (skR tx n p).1 = false ∧ (A.setP (x + 3) 7 (some (x + 1))).wI (aT J x s) = B))) ?_ ?_, ?_⟩
  · intro b hb
    rw [hb] at hs
    subst hs
    rw [hb]
    exact Or.inl ⟨rfl, rfl, _, rfl⟩
  · intro b hb
    rw [hb] at hs
    subst hs
    rw [hb]
    exact Or.inr ⟨rfl, rfl, rfl⟩
  intro v8 A8 _ h8
  have s0 : ¬ nI s < 0 := nI_pos (by omega)
  refine ⟨fun B => (A.setP (x + 3) 7 (some (x + 1))).wI (aT J x s) = B, ?_, fun hv => ?_, fun hv => ⟨?_, ?_⟩⟩
  · rintro _ rfl
    have i10 : ((A.setP (x + 3) 7 (some (x + 1))).wI (aT J x s)).I (x + 3) 10 = nI D.length := (aT_k (by decide)).trans j10
    have i9 : ((A.setP (x + 3) 7 (some (x + 1))).wI (aT J x s)).I (x + 3) 9 = nI s := aT_9
    have i8 : ((A.setP (x + 3) 7 (some (x + 1))).wI (aT J x s)).I (x + 3) 8 = nI n := (aT_k (by decide)).trans j8
    rw [i10, i9, i8]
    refine ⟨hs_t3 hH1, _, hs_P3_3 hH1, hs_t7 hH1, by omega, ?_, ?_⟩
    · show vp_in _ (A.ln (x + 7))
      rw [hs_n7 hH]
      exact vp_in_nI (by omega) (by decide)
    rintro _ rfl
    rw [show ix (nI D.length) = D.length from nI_clamp (by omega)]
    -- the world with the place
    generalize hK : xup (aT J x s) (x + 7) D.length (nI s) = K
    have eK : ((A.setP (x + 3) 7 (some (x + 1))).wI (aT J x s)).setI (x + 7) D.length (nI s) = (A.setP (x + 3) 7 (some (x + 1))).wI K := by
      rw [← hK]
      rfl
    rw [eK]
    have ka : ∀ a k, a ≠ x + 7 → ¬ (a = x + 3 ∧ k = 9) → K a k = J a k := by
      intro a k k1 k2
      rw [← hK, xup_a k1]
      by_cases e : a = x + 3
      · exact aT_k (fun z => k2 ⟨e, z⟩)
      · exact aT_a e
    have kp : ∀ i, i ≠ D.length → K (x + 7) i = J (x + 7) i := fun i hi => by
      rw [← hK, xup_k hi]
      exact aT_a (by omega)
    have k7 : K (x + 7) D.length = nI s := by rw [← hK, xup_s]
    have k9 : K (x + 3) 9 = nI s := by rw [← hK, xup_a (by omega)]; exact aT_9
    have k8 : K (x + 3) 8 = nI n := (ka _ _ (by omega) (fun z => absurd z.2 (by decide))).trans j8
    have k10 : K (x + 3) 10 = nI D.length := (ka _ _ (by omega) (fun z => absurd z.2 (by decide))).trans j10
    have k11 : K (x + 3) 11 = nI nm.length := (ka _ _ (by omega) (fun z => absurd z.2 (by decide))).trans j11
    have kf : scFr A.I K x := fun a k c1 c2 c3 c4 c5 c6 => (ka a k c3 (fun z => c1 ⟨z.1, by omega⟩)).trans (jf a k c1 c2 c3 c4 c5 c6)
    have kn : nmA K x nm := fun i z hz => by
      rw [ka (x + 9) i (by omega) (fun z => by omega), ka (x + 10) i (by omega) (fun z => by omega)]
      exact jn i z hz
    have tK : xTE G ((A.setP (x + 3) 7 (some (x + 1))).wI K) x n tx := hTE K kf k8
    -- what is laid down in the end: a kind y, and K' which may have a token more
    have lay : ∀ (y : Int32) (K' : xII) (t : Int32 × Int32 × Nat) (p' : Nat) (nm' : List (Nat × Nat)), t.1 = y → t.2.2 = s → (y = 2 ∨ y = 3 → K' (x + 8) D.length = t.2.1) → K' (x + 3) 9 = nI p' → K' (x + 3) 11 = nI nm'.length → nmA K' x nm' → nmIn n nm' → nm'.length ≤ D.length + 1 → tFr K K' x D.length → D.length ≤ p' →
        ((¬ y = 0 ∧ ¬ y = 1 ∧ p' ≤ n ∧ p < p' ∧ tz tx n 0 [] = ((D ++ [t]) ++ (tz tx n p' nm').1, (tz tx n p' nm').2)) ∨ ((y = 0 ∨ y = 1) ∧ tz tx n 0 [] = (D ++ [t], nm'))) →
        ((A.setP (x + 3) 7 (some (x + 1))).wI K').tg (x + 3) = 3 ∧ (∃ b19 : Nat, (((A.setP (x + 3) 7 (some (x + 1))).wI K').P (x + 3) 2) = some b19 ∧ (((A.setP (x + 3) 7 (some (x + 1))).wI K').tg b19 = 200 ∧ (G.N ≤ b19 ∧ (vp_in (((A.setP (x + 3) 7 (some (x + 1))).wI K').I (x + 3) 10) (((A.setP (x + 3) 7 (some (x + 1))).wI K').ln b19) ∧ (∀ A23 : xA, A23 = ((A.setP (x + 3) 7 (some (x + 1))).wI K').setI b19 (ix (((A.setP (x + 3) 7 (some (x + 1))).wI K').I (x + 3) 10)) y → (∀ A24 : xA, A24 = A23.setI (x + 3) 10 ((((A.setP (x + 3) 7 (some (x + 1))).wI K').I (x + 3) 10) + (1 : Int32)) → ((∃ q7 : Nat, q7 < n + 1 - p ∧ ∃ D p nm J, (A.setP (x + 3) 7 (some (x + 1))).wI J = A24 ∧ J (x + 3) 8 = nI n ∧ J (x + 3) 9 = nI p ∧ J (x + 3) 10 = nI D.length ∧ J (x + 3) 11 = nI nm.length ∧ tkA J x D ∧ nmA J x nm ∧ nmIn n nm ∧ scFr A.I J x ∧ D.length ≤ p + 1 ∧ nm.length ≤ D.length ∧
    ((¬ y = 0 ∧ ¬ y = 1 ∧ p ≤ n ∧ D.length ≤ p ∧ q7 = n + 1 - p ∧ tz tx n 0 [] = (D ++ (tz tx n p nm).1, (tz tx n p nm).2)) ∨ ((y = 0 ∨ y = 1) ∧ tz tx n 0 [] = (D, nm))))))))))) := by
      intro y K' t p' nm' t1 t3 t2 g9 g11 gn gni gl gf gp gz
      have g10 : K' (x + 3) 10 = nI D.length := (gf _ _ (fun z => by omega) (fun z => by omega) (by omega) (by omega)).trans k10
      have e10 : ((A.setP (x + 3) 7 (some (x + 1))).wI K').I (x + 3) 10 = nI D.length := g10
      rw [e10]
      refine ⟨hs_t3 hH1, _, hs_P3_2 hH1, hs_t6 hH1, by omega, ?_, ?_⟩
      · show vp_in _ (A.ln (x + 6))
        rw [hs_n6 hH]
        exact vp_in_nI (by omega) (by decide)
      rintro _ rfl _ rfl
      rw [show ix (nI D.length) = D.length from nI_clamp (by omega)]
      have la : ∀ a k, a ≠ x + 6 → ¬ (a = x + 3 ∧ k = 10) → xup (xup K' (x + 6) D.length y) (x + 3) 10 (nI D.length + 1) a k = K' a k := by
        intro a k c1 c2
        have : xup (xup K' (x + 6) D.length y) (x + 3) 10 (nI D.length + 1) a k = xup K' (x + 6) D.length y a k := by
          by_cases e : a = x + 3
          · exact xup_k (fun z => c2 ⟨e, z⟩)
          · exact xup_a e
        rw [this, xup_a c1]
      refine ⟨if y = 0 ∨ y = 1 then 0 else n + 1 - p', ?_, D ++ [t], p', nm', xup (xup K' (x + 6) D.length y) (x + 3) 10 (nI D.length + 1), rfl, ?_, ?_, ?_, ?_, ?_, ?_, gni, ?_, ?_, ?_, ?_⟩
      · by_cases c : y = 0 ∨ y = 1
        · rw [if_pos c]
          omega
        · rw [if_neg c]
          obtain ⟨-, -, c1, c2, -⟩ := gz.resolve_right (fun z => c z.1)
          omega
      · rw [la _ _ (by omega) (fun z => absurd z.2 (by decide)), gf _ _ (fun z => by omega) (fun z => by omega) (by omega) (by omega)]
        exact k8
      · rw [la _ _ (by omega) (fun z => absurd z.2 (by decide))]
        exact g9
      · rw [xup_s, nI_1, List.length_append]
        rfl
      · rw [la _ _ (by omega) (fun z => absurd z.2 (by decide))]
        exact g11
      · intro i u hu
        rw [la (x + 8) i (by omega) (fun z => by omega), la (x + 7) i (by omega) (fun z => by omega), gf (x + 7) i (fun z => by omega) (fun z => by omega) (by omega) (by omega), xup_a (show x + 6 ≠ x + 3 by omega)]
        rcases getD_snoc hu with ⟨hi, hu⟩ | ⟨rfl, rfl⟩
        · obtain ⟨w1, w2, w3⟩ := jt i u hu
          refine ⟨?_, fun c => ?_, ?_⟩
          · rw [xup_k (by omega), gf _ _ (fun z => by omega) (fun z => by omega) (by omega) (by omega), ka _ _ (by omega) (fun z => by omega)]
            exact w1
          · rw [gf _ _ (fun z => by omega) (fun z => by omega) (by omega) (by omega), ka _ _ (by omega) (fun z => by omega)]
            exact w2 c
          · rw [kp i (by omega)]
            exact w3
        · refine ⟨?_, fun c => t2 (by rw [← t1]; exact c), ?_⟩
          · rw [xup_s, t1]
          · rw [k7, t3]
      · intro i u hu
        rw [la (x + 9) i (by omega) (fun z => by omega), la (x + 10) i (by omega) (fun z => by omega)]
        exact gn i u hu
      · intro a k c1 c2 c3 c4 c5 c6
        rw [la a k c2 (fun z => c1 ⟨z.1, by omega⟩), gf a k (fun z => c1 ⟨z.1, by omega⟩) (fun z => c4 z.1) c5 c6]
        exact kf a k c1 c2 c3 c4 c5 c6
      · rw [List.length_append]
        show D.length + 1 ≤ p' + 1
        omega
      · rw [List.length_append]
        exact gl
      · rcases gz with ⟨c1, c2, c3, c4, c5⟩ | gz
        · refine Or.inl ⟨c1, c2, c3, ?_, ?_, c5⟩
          · rw [List.length_append]
            show D.length + 1 ≤ p'
            omega
          · rw [if_neg (fun z => z.elim c1 c2)]
        · exact Or.inr gz
    refine ⟨fun y B => ∃ K' t p' nm', (A.setP (x + 3) 7 (some (x + 1))).wI K' = B ∧ t.1 = y ∧ t.2.2 = s ∧ (y = 2 ∨ y = 3 → K' (x + 8) D.length = t.2.1) ∧ K' (x + 3) 9 = nI p' ∧ K' (x + 3) 11 = nI nm'.length ∧ nmA K' x nm' ∧ nmIn n nm' ∧ nm'.length ≤ D.length + 1 ∧ tFr K K' x D.length ∧ D.length ≤ p' ∧
        ((¬ y = 0 ∧ ¬ y = 1 ∧ p' ≤ n ∧ p < p' ∧ tz tx n 0 [] = ((D ++ [t]) ++ (tz tx n p' nm').1, (tz tx n p' nm').2)) ∨ ((y = 0 ∨ y = 1) ∧ tz tx n 0 [] = (D ++ [t], nm'))), ?_, fun hv => ⟨fun e => ?_, fun e => ?_⟩, fun hv => ?_⟩
    · rintro y _ ⟨K', t, p', nm', rfl, w1, w2, w3, w4, w5, w6, w7, w8, w9, w10, w11⟩
      exact lay y K' t p' nm' w1 w2 w3 w4 w5 w6 w7 w8 w9 w10 w11
    · -- the end
      have hsn : s = n := by
        have := congrArg ix e
        rwa [show ix (nI s) = s from nI_clamp (by omega), show ix (nI n) = n from nI_clamp (by omega)] at this
      have hf : (skR tx n p).1 = false := by
        rcases h8 with ⟨rfl, -⟩ | ⟨-, hf, -⟩
        · exact absurd hv s0
        · exact hf
      refine ⟨K, (0, 0, n), s, nm, rfl, rfl, hsn.symm, fun z => absurd z (by decide), k9, k11, kn, jni, by omega, fun _ _ _ _ _ _ => rfl, by omega, Or.inr ⟨Or.inl rfl, ?_⟩⟩
      rw [hz, tz_end (by rw [hf]; decide) (by rw [hs]; omega)]
    · have hsn : s < n := by
        have : s ≠ n := fun z => e (congrArg nI z)
        omega
      have hf : ¬ (skR tx n p).1 = true := by
        rcases h8 with ⟨rfl, -⟩ | ⟨-, hf, -⟩
        · exact absurd hv s0
        · rw [hf]
          decide
      have key : ∀ K', tkP K K' x s D.length (tkOne tx n s nm) → ∃ K'' t p' nm', (A.setP (x + 3) 7 (some (x + 1))).wI K'' = (A.setP (x + 3) 7 (some (x + 1))).wI K' ∧ t.1 = (tkOne tx n s nm).1 ∧ t.2.2 = s ∧ ((tkOne tx n s nm).1 = 2 ∨ (tkOne tx n s nm).1 = 3 → K'' (x + 8) D.length = t.2.1) ∧ K'' (x + 3) 9 = nI p' ∧ K'' (x + 3) 11 = nI nm'.length ∧ nmA K'' x nm' ∧ nmIn n nm' ∧ nm'.length ≤ D.length + 1 ∧ tFr K K'' x D.length ∧ D.length ≤ p' ∧
        ((¬ (tkOne tx n s nm).1 = 0 ∧ ¬ (tkOne tx n s nm).1 = 1 ∧ p' ≤ n ∧ p < p' ∧ tz tx n 0 [] = ((D ++ [t]) ++ (tz tx n p' nm').1, (tz tx n p' nm').2)) ∨ (((tkOne tx n s nm).1 = 0 ∨ (tkOne tx n s nm).1 = 1) ∧ tz tx n 0 [] = (D ++ [t], nm'))) := by
        rintro K' (⟨e1, rfl⟩ | ⟨e1, r9, r11, rn, r8, rf⟩)
        · refine ⟨K, (1, 0, s), s, nm, rfl, e1.symm, rfl, fun z => ?_, k9, k11, kn, jni, by omega, fun _ _ _ _ _ _ => rfl, by omega, Or.inr ⟨Or.inr e1, ?_⟩⟩
          · rw [e1] at z
            exact absurd z (by decide)
          · rw [hz, tz_none hf (by rw [hs]; exact hsn) (by rw [hs]; exact e1), hs]
        · have hl := tkOne_len (nm := nm) hsn e1
          obtain ⟨m1, m2⟩ := tkOne_nm hsn jni e1
          refine ⟨K', ((tkOne tx n s nm).1, (tkOne tx n s nm).2.1, s), s + (tkOne tx n s nm).2.2.1, (tkOne tx n s nm).2.2.2, rfl, rfl, rfl, r8, r9, r11, rn, m1, by omega, rf, by omega, Or.inl ⟨tkOne_n0, e1, by omega, by omega, ?_⟩⟩
          rw [hz, tz_more hp hf (by rw [hs]; exact hsn) (by rw [hs]; exact e1), hs, List.append_assoc]
          rfl
      refine ⟨_, s_X2_now tK k9 (k := 0) (by omega) (Q := fun v B => v = tx s ∧ (A.setP (x + 3) 7 (some (x + 1))).wI K = B) ⟨hNow_lt hsn, rfl⟩, ?_⟩
      rintro _ _ _ ⟨rfl, rfl⟩
      refine ⟨fun d0 => ⟨hs_t3 hH1, _, s_X2_now tK k9 (k := 0) (by omega) (Q := fun v B => v = tx s ∧ (A.setP (x + 3) 7 (some (x + 1))).wI K = B) ⟨hNow_lt hsn, rfl⟩, ?_⟩, fun d0 => ⟨hs_t3 hH1, _, s_number' tK k9 hsn d0 k10 (by omega) k11 kn (Q := fun y B => ∃ K', tkP K K' x s D.length (tkOne tx n s nm) ∧ y = (tkOne tx n s nm).1 ∧ (A.setP (x + 3) 7 (some (x + 1))).wI K' = B) (fun K' hk => ⟨K', hk, rfl, rfl⟩), ?_⟩⟩
      · rintro _ _ _ ⟨rfl, rfl⟩
        refine ⟨fun l0 => ⟨hs_t3 hH1, _, s_sign' (mny := D.length) hO tK hS1 k9 hsn d0 l0 k11 kn (Q := fun y B => ∃ K', tkP K K' x s D.length (tkOne tx n s nm) ∧ y = (tkOne tx n s nm).1 ∧ (A.setP (x + 3) 7 (some (x + 1))).wI K' = B) (fun K' hk => ⟨K', hk, rfl, rfl⟩), ?_⟩, fun l0 => ⟨hs_t3 hH1, _, s_name' hO tK hS1 k9 hsn d0 l0 k10 (by omega) k11 kn jni (by omega) (Q := fun y B => ∃ K', tkP K K' x s D.length (tkOne tx n s nm) ∧ y = (tkOne tx n s nm).1 ∧ (A.setP (x + 3) 7 (some (x + 1))).wI K' = B) (fun K' hk => ⟨K', hk, rfl, rfl⟩), ?_⟩⟩
        · rintro _ _ _ ⟨K', hk, rfl, rfl⟩
          exact key K' hk
        · rintro _ _ _ ⟨K', hk, rfl, rfl⟩
          exact key K' hk
      · rintro _ _ _ ⟨K', hk, rfl, rfl⟩
        exact key K' hk
    · -- a note that does not end
      have ht : (skR tx n p).1 = true := by
        rcases h8 with ⟨-, ht, -⟩ | ⟨rfl, -⟩
        · exact ht
        · exact absurd (by decide) hv
      refine ⟨K, (1, 0, s), s, nm, rfl, rfl, rfl, fun z => absurd z (by decide), k9, k11, kn, jni, by omega, fun _ _ _ _ _ _ => rfl, by omega, Or.inr ⟨Or.inr rfl, ?_⟩⟩
      rw [hz, tz_bad ht, hs]
  · rcases h8 with ⟨rfl, -⟩ | ⟨-, -, h8⟩
    · exact absurd hv s0
    · exact h8
  · rcases h8 with ⟨-, -, w, rfl⟩ | ⟨-, -, rfl⟩
    · exact hs_t3 hH1
    · exact hs_t3 hH1
  · rcases h8 with ⟨rfl, -, w, rfl⟩ | ⟨rfl, -⟩
    · rintro _ rfl
      show _ = (A.setP (x + 3) 7 (some (x + 1))).wI (xup (aT J x w) (x + 3) 9 (nI s))
      rw [aT, aT, xup_xup]
    · exact absurd (by decide) hv
end TN
