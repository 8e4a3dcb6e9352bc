/-! ===== the grammar: first places, NAMEs alone ===== -/
set_option maxRecDepth 100000
/-- places differ -/
def inD (D : tkL) : Prop := ∀ i j, i < D.length → j < D.length → tP D i = tP D j → i = j
def GP (D : tkL) (t : Nat) (e : Tr) (t1 : Nat) : Prop := (∃ k ds l r, e = nd k (tP D t :: ds) l r) ∧ ∀ f p nm l r, e = nd 2 [f, p, nm] l r → ∃ j, t ≤ j ∧ j < D.length ∧ p = tP D j ∧ (j = t → tK D t = 2 ∧ t1 = t + 1)
section GF
variable {D : tkL} {d t : Nat} {E : Nat → pR}
theorem GP.f {e : Tr} {t1 : Nat} (h : GP D t e t1) : tFst e = tP D t := by
  obtain ⟨⟨k, ds, l, r, rfl⟩, -⟩ := h
  rfl
theorem GP.no {t1 k : Nat} {ds : List Int32} {l r : Tr} (hk : ¬ k = 2) : GP D t (nd k (tP D t :: ds) l r) t1 := ⟨⟨k, ds, l, r, rfl⟩, fun f p nm l r h => by cases h; exact absurd rfl hk⟩
theorem pOpnd_g (hD : wfD D) (hE : ∀ t, t < D.length → ∀ e t1, E t = .ok (e, t1) → GP D t e t1) (ht : t < D.length) {e : Tr} {t1 : Nat} (h : pOpnd D E d t = .ok (e, t1)) : GP D t e t1 := by
  unfold pOpnd at h
  split at h
  · cases h
    exact GP.no (by decide)
  · split at h
    · rename_i hk
      split at h
      · obtain ⟨-, -, h⟩ := pOpen_ok h
        split at h
        · cases h
          exact GP.no (by decide)
        · obtain ⟨a, t2, h2, h3⟩ := pAnd_ok h
          obtain ⟨-, h4⟩ := pNeed_ok h3
          cases h4
          exact GP.no (by decide)
      · unfold pPlace at h
        split at h
        · obtain ⟨-, -, h⟩ := pOpen_ok h
          obtain ⟨a, t2, h2, h3⟩ := pAnd_ok h
          obtain ⟨-, h4⟩ := pNeed_ok h3
          cases h4
          exact GP.no (by decide)
        · cases h
          refine ⟨⟨_, _, _, _, rfl⟩, fun f p nm l r h => ?_⟩
          cases h
          exact ⟨t, Nat.le_refl _, ht, rfl, fun _ => ⟨hk, rfl⟩⟩
    · split at h
      · obtain ⟨-, -, h⟩ := pOpen_ok h
        obtain ⟨-, h4⟩ := pNeed_ok h
        cases h4
        exact GP.no (by decide)
      · obtain ⟨a, t2, h2, h3⟩ := pAnd_ok h
        obtain ⟨hk, -, h⟩ := pOpen_ok h2
        obtain ⟨a', t3, h4, h5⟩ := pAnd_ok h
        have h1 := hD.nx' ht hk
        obtain ⟨⟨k, ds, l, r, rfl⟩, g2⟩ := hE _ h1 _ _ h4
        obtain ⟨-, h6⟩ := pNeed_ok h5
        cases h6
        cases h3
        refine ⟨⟨k, ds, l, r, rfl⟩, fun f p nm l' r' h => ?_⟩
        cases h
        obtain ⟨j, j1, j2, j3, -⟩ := g2 _ _ _ _ _ rfl
        exact ⟨j, by omega, j2, j3, fun z => by omega⟩
theorem pAhead_g (hD : wfD D) (hE : ∀ t, t < D.length → ∀ e t1, E t = .ok (e, t1) → GP D t e t1) (ht : t < D.length) {e : Tr} {t1 : Nat} (h : pAhead D E d t = .ok (e, t1)) : GP D t e t1 := by
  unfold pAhead at h
  split at h
  · exact pOpnd_g hD hE ht h
  · obtain ⟨a, t2, h2, h3⟩ := pAnd_ok h
    cases h3
    exact GP.no (by decide)
theorem pLoop_g {P : Nat → pR} {r : Int32} : ∀ f a u, GP D t a u → ∀ e t1, pLoop D P r f a u = .ok (e, t1) → GP D t e t1
  | 0, a, u, _ => fun e t1 h => nomatch h
  | f + 1, a, u, g => fun e t1 h => by
    unfold pLoop at h
    split at h
    · obtain ⟨b, t2, h2, h3⟩ := pAnd_ok h
      refine pLoop_g f _ t2 ?_ _ _ h3
      unfold pMk
      rw [g.f]
      split
      · exact GP.no (by decide)
      · exact GP.no (by decide)
    · cases h
      exact g
theorem pRow_g (hD : wfD D) (hE : ∀ t, t < D.length → ∀ e t1, E t = .ok (e, t1) → GP D t e t1) (ht : t < D.length) : ∀ k e t1, pRow D E d k t = .ok (e, t1) → GP D t e t1
  | 0, e, t1, h => pAhead_g hD hE ht h
  | k + 1, e, t1, h => by
    obtain ⟨a, t2, h2, h3⟩ := pAnd_ok h
    exact pLoop_g _ _ _ (pRow_g hD hE ht k _ _ h2) _ _ h3
theorem pExpr_g (hD : wfD D) (hE : ∀ t, t < D.length → ∀ e t1, E t = .ok (e, t1) → GP D t e t1) (ht : t < D.length) {e : Tr} {t1 : Nat} (h : pExpr D E d t = .ok (e, t1)) : GP D t e t1 := by
  obtain ⟨a, t2, h2, h3⟩ := pAnd_ok h
  have g := pRow_g hD hE ht 10 _ _ h2
  split at h3
  · split at h3
    · exact nomatch h3
    · obtain ⟨b, t3, h4, h5⟩ := pAnd_ok h3
      obtain ⟨-, h6⟩ := pNeed_ok h5
      obtain ⟨c, t4, h8, h9⟩ := pAnd_ok h6
      cases h9
      rw [g.f]
      exact GP.no (by decide)
  · cases h3
    exact g
theorem pE_g (hD : wfD D) : ∀ d t, t < D.length → ∀ e t1, pE D d t = .ok (e, t1) → GP D t e t1
  | 0, t, ht => fun e t1 h => pExpr_g hD (by intro t _ e t1 h; cases h) ht h
  | d + 1, t, ht => fun e t1 h => pExpr_g hD (fun t ht => pE_g hD d t ht) ht h
/-- what stands alone, by the tree and by the tokens -/
theorem isAl_iff (hD : wfD D) (hi : inD D) (ht : t < D.length) {e : Tr} {t1 : Nat} (h : pE D d t = .ok (e, t1)) (h1 : tK D t1 = 68 ∨ tK D t1 = 63) : isAl D t = isAlone e := by
  have g := pE_g hD d t ht e t1 h
  cases ha : isAl D t with
  | true =>
    rw [pE_al hD.1 ha] at h
    cases h
    show true = decide _
    rw [decide_eq_true rfl]
  | false =>
    cases hb : isAlone e with
    | false => rfl
    | true =>
      unfold isAlone at hb
      split at hb
      · rename_i f p nm v l r
        obtain rfl := of_decide_eq_true hb
        obtain ⟨j, j1, j2, j3, j4⟩ := g.2 _ _ _ _ _ rfl
        have hf : f = tP D t := g.f
        obtain rfl : j = t := hi _ _ j2 ht (j3.symm.trans hf)
        obtain ⟨k1, rfl⟩ := j4 rfl
        have : isAl D j = true := decide_eq_true ⟨k1, h1⟩
        rw [this] at ha
        exact nomatch ha
      · exact nomatch hb
end GF
