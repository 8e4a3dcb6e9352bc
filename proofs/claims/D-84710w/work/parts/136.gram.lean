/-! ===== trees, and the grammar over a row of tokens ===== -/
set_option maxRecDepth 100000
/-- trees: a kind, numbers, two parts -/
abbrev Tr : Type := Std.DTreeMap.Internal.Impl (List Int32) (fun _ => Unit)
abbrev nd (k : Nat) (d : List Int32) (l r : Tr) : Tr := .inner k d () l r
abbrev lf : Tr := .leaf
def tFst : Tr → Int32
  | .inner _ (f :: _) _ _ _ => f
  | _ => 0
def tSet (f : Int32) : Tr → Tr
  | .inner k (_ :: ds) v l r => .inner k (f :: ds) v l r
  | t => t
def tK (D : tkL) (t : Nat) : Int32 := (D.getD t (0, 0, 0)).1
def tV (D : tkL) (t : Nat) : Int32 := (D.getD t (0, 0, 0)).2.1
def tP (D : tkL) (t : Nat) : Int32 := nI (D.getD t (0, 0, 0)).2.2
abbrev pR : Type := Except (Int32 × Int32) (Tr × Nat)
def pWr (D : tkL) (t : Nat) : Int32 × Int32 := (if tK D t = 1 then 1 else 2, tP D t)
def pAnd (r : pR) (f : Tr → Nat → pR) : pR := match r with
  | .error e => .error e
  | .ok (e, t) => f e t
def pNeed (D : tkL) (k : Int32) (t : Nat) (f : pR) : pR := if tK D t = k then f else .error (pWr D t)
def pOpen (D : tkL) (k : Int32) (d t : Nat) (f : pR) : pR := if tK D t = k then (if d = 0 then .error (3, tP D t) else f) else .error (pWr D t)
def pArgs (D : tkL) (E : Nat → pR) : Nat → Nat → pR
  | 0, _ => .error (0, 0)
  | f + 1, t => pAnd (E t) fun a t1 => if tK D t1 = 68 then pAnd (pArgs D E f (t1 + 1)) fun s t2 => .ok (nd 10 [] a s, t2) else .ok (nd 10 [] a lf, t1)
def pCall (D : tkL) (E : Nat → pR) (d : Nat) (p nm : Int32) (t : Nat) : pR :=
  pOpen D 62 d t (if tK D (t + 1) = 63 then .ok (nd 4 [p, p, nm, tP D (t + 1)] lf lf, t + 2) else pAnd (pArgs D E D.length (t + 1)) fun s t1 => pNeed D 63 t1 (.ok (nd 4 [p, p, nm, tP D t1] s lf, t1 + 1)))
def pPlace (D : tkL) (E : Nat → pR) (d : Nat) (p nm : Int32) (t : Nat) : pR :=
  if tK D t = 64 then pOpen D 64 d t (pAnd (E (t + 1)) fun i t1 => pNeed D 65 t1 (.ok (nd 3 [p, p, nm, tP D t] i lf, t1 + 1))) else .ok (nd 2 [p, p, nm] lf lf, t)
def pIn (D : tkL) (E : Nat → pR) (d t : Nat) : pR := pOpen D 62 d t (pAnd (E (t + 1)) fun e t1 => pNeed D 63 t1 (.ok (e, t1 + 1)))
def pOpnd (D : tkL) (E : Nat → pR) (d t : Nat) : pR :=
  if tK D t = 3 then .ok (nd 0 [tP D t, tV D t] lf lf, t + 1)
  else if tK D t = 2 then (if tK D (t + 1) = 62 then pCall D E d (tP D t) (tV D t) (t + 1) else pPlace D E d (tP D t) (tV D t) (t + 1))
  else if tK D t = 23 then pOpen D 62 d (t + 1) (pNeed D 63 (t + 2) (.ok (nd 1 [tP D t, tP D t] lf lf, t + 3)))
  else pAnd (pIn D E d t) fun e t1 => .ok (tSet (tP D t) e, t1)
/-- signs ahead of an operand: how many -/
def isAh (k : Int32) : Bool := decide (k = 79 ∨ k = 83 ∨ k = 84)
def pSg (D : tkL) (t : Nat) : Nat := run1 (fun i => isAh (tK D i)) D.length t
def pAhead (D : tkL) (E : Nat → pR) (d t : Nat) : pR :=
  if pSg D t = 0 then pOpnd D E d t else pAnd (pOpnd D E d (t + pSg D t)) fun e t1 => .ok (nd 5 (tP D t :: (List.range (pSg D t)).map fun i => tK D (t + i)) e lf, t1)
def pMk (r act : Int32) (a e : Tr) : Tr := if (2 : Int32) ≤ r then nd 6 [tFst a, act] a e else nd 7 [tFst a, if r = 1 then 1 else 0] a e
def pLoop (D : tkL) (P : Nat → pR) (r : Int32) : Nat → Tr → Nat → pR
  | 0, _, _ => .error (0, 0)
  | f + 1, a, t => if 0 ≤ f_X1_actOf (tK D t) r then pAnd (P (t + 1)) fun e t1 => pLoop D P r f (pMk r (f_X1_actOf (tK D t) r) a e) t1 else .ok (a, t)
def pRow (D : tkL) (E : Nat → pR) (d : Nat) : Nat → Nat → pR
  | 0, t => pAhead D E d t
  | k + 1, t => pAnd (pRow D E d k t) fun e t1 => pLoop D (pRow D E d k) (nI (9 - k)) D.length e t1
def pExpr (D : tkL) (E : Nat → pR) (d t : Nat) : pR :=
  pAnd (pRow D E d 10 t) fun e t1 => if tK D t1 = 70 then (if d = 0 then .error (3, tP D t1) else pAnd (E (t1 + 1)) fun y t2 => pNeed D 71 t2 (pAnd (E (t2 + 1)) fun n t3 => .ok (nd 8 [tFst e] e (nd 9 [] y n), t3))) else .ok (e, t1)
/-- an expression where d more may be opened -/
def pE (D : tkL) : Nat → Nat → pR
  | 0 => pExpr D (fun _ => .error (0, 0)) 0
  | d + 1 => pExpr D (pE D d) (d + 1)
def pE' (D : tkL) (d : Nat) : Nat → pR := match d with
  | 0 => fun _ => .error (0, 0)
  | d + 1 => pE D d
theorem pE_eq (D : tkL) (d t : Nat) : pE D d t = pExpr D (pE' D d) d t := by cases d <;> rfl
/-! a row of tokens is as it should be -/
def wfD (D : tkL) : Prop := 0 < D.length ∧ D.length ≤ 4001 ∧ (tK D (D.length - 1) = 0 ∨ tK D (D.length - 1) = 1) ∧ ∀ i, i + 1 < D.length → ¬ tK D i = 0 ∧ ¬ tK D i = 1
theorem wfD.nx {D : tkL} (h : wfD D) {t : Nat} (ht : t < D.length) (h0 : ¬ tK D t = 0) (h1 : ¬ tK D t = 1) : t + 1 < D.length := by
  rcases Nat.lt_or_ge (t + 1) D.length with q | q
  · exact q
  · have : t = D.length - 1 := by omega
    subst this
    rcases h.2.2.1 with e | e
    · exact absurd e h0
    · exact absurd e h1
theorem wfD.nx' {D : tkL} (h : wfD D) {t : Nat} {k : Int32} (ht : t < D.length) (hk : tK D t = k) (h0 : ¬ k = 0 ∧ ¬ k = 1 := by decide) : t + 1 < D.length := h.nx ht (by rw [hk]; exact h0.1) (by rw [hk]; exact h0.2)
/-! positions only grow -/
def pUp (D : tkL) (t : Nat) (r : pR) : Prop := ∀ e t1, r = .ok (e, t1) → t < t1 ∧ t1 < D.length
theorem pAnd_ok {r : pR} {f : Tr → Nat → pR} {e : Tr} {t : Nat} (h : pAnd r f = .ok (e, t)) : ∃ e1 t1, r = .ok (e1, t1) ∧ f e1 t1 = .ok (e, t) := by
  unfold pAnd at h
  split at h
  · exact nomatch h
  · exact ⟨_, _, rfl, h⟩
theorem pNeed_ok {D : tkL} {k : Int32} {t : Nat} {f : pR} {e : Tr × Nat} (h : pNeed D k t f = .ok e) : tK D t = k ∧ f = .ok e := by
  unfold pNeed at h
  split at h
  · exact ⟨by assumption, h⟩
  · exact nomatch h
theorem pOpen_ok {D : tkL} {k : Int32} {d t : Nat} {f : pR} {e : Tr × Nat} (h : pOpen D k d t f = .ok e) : tK D t = k ∧ ¬ d = 0 ∧ f = .ok e := by
  unfold pOpen at h
  split at h
  · split at h
    · exact nomatch h
    · exact ⟨by assumption, by assumption, h⟩
  · exact nomatch h
section UP
variable {D : tkL}
theorem pArgs_up (hD : wfD D) {E : Nat → pR} (hE : ∀ t, t < D.length → pUp D t (E t)) : ∀ f t, t < D.length → pUp D t (pArgs D E f t)
  | 0, t, _ => fun e t1 h => nomatch h
  | f + 1, t, ht => fun e t1 h => by
    obtain ⟨a, t2, h2, h3⟩ := pAnd_ok h
    have q := hE t ht _ _ h2
    split at h3
    · rename_i hk
      obtain ⟨s, t4, h4, h5⟩ := pAnd_ok h3
      have := hD.nx' q.2 hk
      have := pArgs_up hD hE f (t2 + 1) this _ _ h4
      cases h5
      omega
    · cases h3
      exact q
theorem pCall_up (hD : wfD D) {E : Nat → pR} (hE : ∀ t, t < D.length → pUp D t (E t)) {d t : Nat} {p nm : Int32} (ht : t < D.length) : pUp D t (pCall D E d p nm t) := by
  intro e t1 h
  obtain ⟨hk, -, h⟩ := pOpen_ok h
  have h1 := hD.nx' ht hk
  split at h
  · rename_i hk2
    have := hD.nx' h1 hk2
    cases h
    omega
  · obtain ⟨a, t2, h2, h3⟩ := pAnd_ok h
    have q := pArgs_up hD hE _ _ h1 _ _ h2
    obtain ⟨hk3, h4⟩ := pNeed_ok h3
    have := hD.nx' q.2 hk3
    cases h4
    omega
theorem pPlace_up (hD : wfD D) {E : Nat → pR} (hE : ∀ t, t < D.length → pUp D t (E t)) {d t : Nat} {p nm : Int32} (ht : t < D.length) {e : Tr} {t1 : Nat} (h : pPlace D E d p nm t = .ok (e, t1)) : t ≤ t1 ∧ t1 < D.length := by
  unfold pPlace at h
  split at h
  · obtain ⟨hk, -, h⟩ := pOpen_ok h
    have h1 := hD.nx' ht hk
    obtain ⟨a, t2, h2, h3⟩ := pAnd_ok h
    have q := hE _ h1 _ _ h2
    obtain ⟨hk3, h4⟩ := pNeed_ok h3
    have := hD.nx' q.2 hk3
    cases h4
    omega
  · cases h
    exact ⟨Nat.le_refl _, ht⟩
theorem pIn_up (hD : wfD D) {E : Nat → pR} (hE : ∀ t, t < D.length → pUp D t (E t)) {d t : Nat} (ht : t < D.length) : pUp D t (pIn D E d t) := by
  intro e t1 h
  obtain ⟨hk, -, h⟩ := pOpen_ok h
  have h1 := hD.nx' ht hk
  obtain ⟨a, t2, h2, h3⟩ := pAnd_ok h
  have q := hE _ h1 _ _ h2
  obtain ⟨hk3, h4⟩ := pNeed_ok h3
  have := hD.nx' q.2 hk3
  cases h4
  omega
theorem pOpnd_up (hD : wfD D) {E : Nat → pR} (hE : ∀ t, t < D.length → pUp D t (E t)) {d t : Nat} (ht : t < D.length) : pUp D t (pOpnd D E d t) := by
  intro e t1 h
  unfold pOpnd at h
  split at h
  · rename_i hk
    have := hD.nx' ht hk
    cases h
    omega
  · split at h
    · rename_i hk
      have h1 := hD.nx' ht hk
      split at h
      · have := pCall_up hD hE h1 _ _ h
        omega
      · have := pPlace_up hD hE h1 h
        omega
    · split at h
      · rename_i hk
        have h1 := hD.nx' ht hk
        obtain ⟨hk2, -, h⟩ := pOpen_ok h
        have h2 := hD.nx' h1 hk2
        obtain ⟨hk3, h⟩ := pNeed_ok h
        have h3 := hD.nx' h2 hk3
        cases h
        omega
      · obtain ⟨a, t2, h2, h3⟩ := pAnd_ok h
        have q := pIn_up hD hE ht _ _ h2
        cases h3
        exact q
theorem isAh_n {k : Int32} (h : isAh k = true) : ¬ k = 0 ∧ ¬ k = 1 := by
  rcases of_decide_eq_true h with rfl | rfl | rfl <;> decide
theorem pSg_lt (hD : wfD D) {t : Nat} (ht : t < D.length) : t + pSg D t < D.length := by
  have h1 := run1_le (P := fun i => isAh (tK D i)) (n := D.length) (D.length - t) rfl (Nat.le_of_lt ht)
  rcases Nat.lt_or_ge (t + pSg D t) D.length with q | q
  · exact q
  · exfalso
    have hp : 0 < pSg D t := by omega
    have h2 := (run1_in (P := fun i => isAh (tK D i)) (n := D.length) (D.length - t) rfl (pSg D t - 1) (by unfold pSg at hp ⊢; omega)).1
    have h3 := isAh_n h2
    have h4 : t + (pSg D t - 1) = D.length - 1 := by
      have : t + pSg D t ≤ D.length := h1
      omega
    simp only [h4] at h3
    rcases hD.2.2.1 with e | e
    · exact h3.1 e
    · exact h3.2 e
theorem pAhead_up (hD : wfD D) {E : Nat → pR} (hE : ∀ t, t < D.length → pUp D t (E t)) {d t : Nat} (ht : t < D.length) : pUp D t (pAhead D E d t) := by
  intro e t1 h
  unfold pAhead at h
  split at h
  · exact pOpnd_up hD hE ht _ _ h
  · obtain ⟨a, t2, h2, h3⟩ := pAnd_ok h
    have := pOpnd_up hD hE (pSg_lt hD ht) _ _ h2
    cases h3
    omega
theorem act_n {k r : Int32} (h : 0 ≤ f_X1_actOf k r) : ¬ k = 0 ∧ ¬ k = 1 := by
  refine ⟨?_, ?_⟩
  · rintro rfl
    have e : f_X1_actOf 0 r = -1 := rfl
    rw [e] at h
    exact absurd h (by decide)
  · rintro rfl
    have e : f_X1_actOf 1 r = -1 := rfl
    rw [e] at h
    exact absurd h (by decide)
theorem pLoop_up (hD : wfD D) {P : Nat → pR} (hP : ∀ t, t < D.length → pUp D t (P t)) {r : Int32} : ∀ f a t, t < D.length → ∀ e t1, pLoop D P r f a t = .ok (e, t1) → t ≤ t1 ∧ t1 < D.length
  | 0, a, t, _ => fun e t1 h => nomatch h
  | f + 1, a, t, ht => fun e t1 h => by
    unfold pLoop at h
    split at h
    · rename_i hk
      obtain ⟨b, t2, h2, h3⟩ := pAnd_ok h
      have h1 := hD.nx ht (act_n hk).1 (act_n hk).2
      have q := hP _ h1 _ _ h2
      have := pLoop_up hD hP f _ _ q.2 _ _ h3
      omega
    · cases h
      exact ⟨Nat.le_refl _, ht⟩
theorem pRow_up (hD : wfD D) {E : Nat → pR} (hE : ∀ t, t < D.length → pUp D t (E t)) {d : Nat} : ∀ k t, t < D.length → pUp D t (pRow D E d k t)
  | 0, t, ht => pAhead_up hD hE ht
  | k + 1, t, ht => fun e t1 h => by
    obtain ⟨a, t2, h2, h3⟩ := pAnd_ok h
    have q := pRow_up hD hE k t ht _ _ h2
    have := pLoop_up hD (fun t ht => pRow_up hD hE k t ht) _ _ _ q.2 _ _ h3
    omega
theorem pExpr_up (hD : wfD D) {E : Nat → pR} (hE : ∀ t, t < D.length → pUp D t (E t)) {d t : Nat} (ht : t < D.length) : pUp D t (pExpr D E d t) := by
  intro e t1 h
  obtain ⟨a, t2, h2, h3⟩ := pAnd_ok h
  have q := pRow_up hD hE 10 t ht _ _ h2
  split at h3
  · rename_i hk
    have h1 := hD.nx' q.2 hk
    split at h3
    · exact nomatch h3
    · obtain ⟨b, t3, h4, h5⟩ := pAnd_ok h3
      have q3 := hE _ h1 _ _ h4
      obtain ⟨hk2, h6⟩ := pNeed_ok h5
      have h7 := hD.nx' q3.2 hk2
      obtain ⟨c, t4, h8, h9⟩ := pAnd_ok h6
      have := hE _ h7 _ _ h8
      cases h9
      omega
  · cases h3
    exact q
theorem pE_up (hD : wfD D) : ∀ d t, t < D.length → pUp D t (pE D d t)
  | 0, t, ht => pExpr_up hD (by intro t _ e t1 h; cases h) ht
  | d + 1, t, ht => pExpr_up hD (fun t ht => pE_up hD d t ht) ht
theorem pE'_up (hD : wfD D) (d t : Nat) (ht : t < D.length) : pUp D t (pE' D d t) := by
  cases d with
  | zero => exact fun _ _ h => nomatch h
  | succ d => exact pE_up hD d t ht
end UP
