/-! ===== tokens: what a text is cut into ===== -/
set_option maxRecDepth 100000
def hNow (tx : Nat → Int32) (n k : Nat) : Int32 := if k < n then tx k else -1
def cnt (P : Nat → Bool) : Nat → Nat → Nat
  | 0, _ => 0
  | f + 1, p => if P p then cnt P f (p + 1) + 1 else 0
/-- how many from p on, below n, are P -/
def run1 (P : Nat → Bool) (n p : Nat) : Nat := cnt P (n - p) p
theorem run1_ge {P : Nat → Bool} {n p : Nat} (h : n ≤ p) : run1 P n p = 0 := by
  rw [run1, Nat.sub_eq_zero_of_le h]
  rfl
theorem run1_lt {P : Nat → Bool} {n p : Nat} (h : p < n) (hP : P p = true) : run1 P n p = run1 P n (p + 1) + 1 := by
  rw [run1, show n - p = (n - (p + 1)) + 1 by omega, cnt, if_pos hP]
  rfl
theorem run1_no {P : Nat → Bool} {n p : Nat} (hP : P p = false) : run1 P n p = 0 := by
  rw [run1]
  cases n - p with
  | zero => rfl
  | succ k => rw [cnt, hP]; rfl
theorem run1_le {P : Nat → Bool} {n : Nat} : ∀ (k : Nat) {p : Nat}, n - p = k → p ≤ n → p + run1 P n p ≤ n := by
  intro k
  induction k with
  | zero =>
    intro p h1 h2
    rw [run1_ge (by omega)]
    omega
  | succ k ih =>
    intro p h1 h2
    cases hP : P p with
    | false =>
      rw [run1_no hP]
      omega
    | true =>
      rw [run1_lt (by omega) hP]
      have := ih (p := p + 1) (by omega) (by omega)
      omega
theorem run1_in {P : Nat → Bool} {n : Nat} : ∀ (k : Nat) {p : Nat}, n - p = k → ∀ i, i < run1 P n p → P (p + i) = true ∧ p + i < n := by
  intro k
  induction k with
  | zero =>
    intro p h1 i hi
    rw [run1_ge (by omega)] at hi
    omega
  | succ k ih =>
    intro p h1 i hi
    cases hP : P p with
    | false =>
      rw [run1_no hP] at hi
      omega
    | true =>
      rw [run1_lt (by omega) hP] at hi
      cases i with
      | zero => exact ⟨hP, by omega⟩
      | succ i =>
        have := ih (p := p + 1) (by omega) i (by omega)
        rw [show p + (i + 1) = p + 1 + i by omega]
        exact this
theorem run1_out {P : Nat → Bool} {n : Nat} : ∀ (k : Nat) {p : Nat}, n - p = k → p + run1 P n p < n → P (p + run1 P n p) = false := by
  intro k
  induction k with
  | zero =>
    intro p h1 h
    omega
  | succ k ih =>
    intro p h1 h
    cases hP : P p with
    | false =>
      rw [run1_no hP]
      exact hP
    | true =>
      rw [run1_lt (by omega) hP] at h ⊢
      have := ih (p := p + 1) (by omega) (by omega)
      rw [show p + (run1 P n (p + 1) + 1) = p + 1 + run1 P n (p + 1) by omega]
      exact this
/-- behind blanks and notes; or where one does not end -/
def skR (tx : Nat → Int32) (n p : Nat) : Bool × Nat :=
  if _h : p < n then
    if tx p = 10 ∨ tx p = 32 then skR tx n (p + 1)
    else if tx p = 47 ∧ hNow tx n (p + 1) = 47 then skR tx n (p + 2 + run1 (fun k => decide (¬ tx k = 10)) n (p + 2))
    else if tx p = 47 ∧ hNow tx n (p + 1) = 42 then
      (if n ≤ p + 2 + run1 (fun k => decide (¬ (tx k = 42 ∧ hNow tx n (k + 1) = 47))) n (p + 2) then (true, p) else skR tx n (p + 2 + run1 (fun k => decide (¬ (tx k = 42 ∧ hNow tx n (k + 1) = 47))) n (p + 2) + 2))
    else (false, p)
  else (false, p)
termination_by n - p
decreasing_by all_goals omega
theorem hNow_lt {tx : Nat → Int32} {n k : Nat} (h : k < n) : hNow tx n k = tx k := if_pos h
theorem hNow_ge {tx : Nat → Int32} {n k : Nat} (h : ¬ k < n) : hNow tx n k = -1 := if_neg h
theorem skR_ge {tx : Nat → Int32} {n p : Nat} (h : ¬ p < n) : skR tx n p = (false, p) := by rw [skR, dif_neg h]
theorem skR_blank {tx : Nat → Int32} {n p : Nat} (h : p < n) (hb : tx p = 10 ∨ tx p = 32) : skR tx n p = skR tx n (p + 1) := by rw [skR, dif_pos h, if_pos hb]
theorem skR_line {tx : Nat → Int32} {n p : Nat} (h : p < n) (h1 : tx p = 47) (h2 : hNow tx n (p + 1) = 47) : skR tx n p = skR tx n (p + 2 + run1 (fun k => decide (¬ tx k = 10)) n (p + 2)) := by
  rw [skR, dif_pos h, if_neg (by rw [h1]; decide), if_pos ⟨h1, h2⟩]
theorem skR_note {tx : Nat → Int32} {n p : Nat} (h : p < n) (h1 : tx p = 47) (h2 : hNow tx n (p + 1) = 42) : skR tx n p = (if n ≤ p + 2 + run1 (fun k => decide (¬ (tx k = 42 ∧ hNow tx n (k + 1) = 47))) n (p + 2) then (true, p) else skR tx n (p + 2 + run1 (fun k => decide (¬ (tx k = 42 ∧ hNow tx n (k + 1) = 47))) n (p + 2) + 2)) := by
  rw [skR, dif_pos h, if_neg (by rw [h1]; decide), if_neg (fun z => absurd z.2 (by rw [h2]; decide)), if_pos ⟨h1, h2⟩]
theorem skR_stop {tx : Nat → Int32} {n p : Nat} (h0 : ¬ (tx p = 10 ∨ tx p = 32)) (h1 : ¬ (tx p = 47 ∧ (hNow tx n (p + 1) = 47 ∨ hNow tx n (p + 1) = 42))) : skR tx n p = (false, p) := by
  by_cases h : p < n
  · rw [skR, dif_pos h, if_neg h0, if_neg (fun z => h1 ⟨z.1, Or.inl z.2⟩), if_neg (fun z => h1 ⟨z.1, Or.inr z.2⟩)]
  · exact skR_ge h
theorem skR_le {tx : Nat → Int32} {n : Nat} : ∀ (k p : Nat), n - p ≤ k → p ≤ n → p ≤ (skR tx n p).2 ∧ (skR tx n p).2 ≤ n ∧ ((skR tx n p).1 = true → (skR tx n p).2 < n) := by
  intro k
  induction k with
  | zero =>
    intro p h1 h2
    rw [skR_ge (by omega)]
    exact ⟨Nat.le_refl _, h2, fun h => nomatch h⟩
  | succ k ih =>
    intro p h1 h2
    by_cases h : p < n
    · by_cases hb : tx p = 10 ∨ tx p = 32
      · rw [skR_blank h hb]
        have := ih (p + 1) (by omega) (by omega)
        exact ⟨by omega, this.2⟩
      · by_cases hl : tx p = 47 ∧ hNow tx n (p + 1) = 47
        · have h3 : p + 2 ≤ n := by
            by_cases q : p + 1 < n
            · omega
            · rw [hNow_ge q] at hl
              exact absurd hl.2 (by decide)
          have := run1_le (P := fun k => decide (¬ tx k = 10)) (n := n) (n - (p + 2)) (p := p + 2) rfl h3
          rw [skR_line h hl.1 hl.2]
          have := ih (p + 2 + run1 (fun k => decide (¬ tx k = 10)) n (p + 2)) (by omega) (by omega)
          exact ⟨by omega, this.2⟩
        · by_cases hs : tx p = 47 ∧ hNow tx n (p + 1) = 42
          · have h3 : p + 2 ≤ n := by
              by_cases q : p + 1 < n
              · omega
              · rw [hNow_ge q] at hs
                exact absurd hs.2 (by decide)
            have h4 := run1_le (P := fun k => decide (¬ (tx k = 42 ∧ hNow tx n (k + 1) = 47))) (n := n) (n - (p + 2)) (p := p + 2) rfl h3
            rw [skR_note h hs.1 hs.2]
            by_cases he : n ≤ p + 2 + run1 (fun k => decide (¬ (tx k = 42 ∧ hNow tx n (k + 1) = 47))) n (p + 2)
            · rw [if_pos he]
              exact ⟨Nat.le_refl _, h2, fun _ => h⟩
            · rw [if_neg he]
              have h5 := run1_out (P := fun k => decide (¬ (tx k = 42 ∧ hNow tx n (k + 1) = 47))) (n := n) (n - (p + 2)) (p := p + 2) rfl (by omega)
              have h6 : p + 2 + run1 (fun k => decide (¬ (tx k = 42 ∧ hNow tx n (k + 1) = 47))) n (p + 2) + 1 < n := by
                have h7 := of_decide_eq_false h5
                have h8 := (Classical.not_not.mp h7).2
                by_cases q : p + 2 + run1 (fun k => decide (¬ (tx k = 42 ∧ hNow tx n (k + 1) = 47))) n (p + 2) + 1 < n
                · exact q
                · rw [hNow_ge q] at h8
                  exact absurd h8 (by decide)
              have := ih (p + 2 + run1 (fun k => decide (¬ (tx k = 42 ∧ hNow tx n (k + 1) = 47))) n (p + 2) + 2) (by omega) (by omega)
              exact ⟨by omega, this.2⟩
          · rw [skR_stop hb (by rintro ⟨q1, q2 | q2⟩; exact hl ⟨q1, q2⟩; exact hs ⟨q1, q2⟩)]
            exact ⟨Nat.le_refl _, h2, fun z => nomatch z⟩
    · rw [skR_ge h]
      exact ⟨Nat.le_refl _, h2, fun h => nomatch h⟩
/-- the first k of c from k0 on that is P -/
def fst1 (P : Nat → Bool) : Nat → Nat → Option Nat
  | 0, _ => none
  | c + 1, k => if P k then some k else fst1 P c (k + 1)
theorem fst1_some {P : Nat → Bool} : ∀ {c k j : Nat}, fst1 P c k = some j → P j = true ∧ k ≤ j ∧ j < k + c ∧ ∀ i, k ≤ i → i < j → P i = false
  | 0, _, _, h => nomatch h
  | c + 1, k, j, h => by
    rw [fst1] at h
    cases hP : P k with
    | true =>
      rw [if_pos hP] at h
      cases h
      exact ⟨hP, Nat.le_refl _, by omega, fun i h1 h2 => absurd h1 (by omega)⟩
    | false =>
      rw [hP] at h
      obtain ⟨q1, q2, q3, q4⟩ := fst1_some (c := c) h
      refine ⟨q1, by omega, by omega, fun i h1 h2 => ?_⟩
      by_cases e : i = k
      · rw [e]
        exact hP
      · exact q4 i (by omega) h2
theorem fst1_none {P : Nat → Bool} : ∀ {c k : Nat}, fst1 P c k = none → ∀ i, k ≤ i → i < k + c → P i = false
  | 0, _, _, i, h1, h2 => absurd h1 (by omega)
  | c + 1, k, h, i, h1, h2 => by
    rw [fst1] at h
    cases hP : P k with
    | true =>
      rw [if_pos hP] at h
      exact nomatch h
    | false =>
      rw [hP] at h
      by_cases e : i = k
      · rw [e]
        exact hP
      · exact fst1_none (c := c) h i (by omega) (by omega)
theorem fst1_no {P : Nat → Bool} {c k : Nat} (h : P k = false) : fst1 P (c + 1) k = fst1 P c (k + 1) := by rw [fst1, h]; rfl
theorem fst1_yes {P : Nat → Bool} {c k : Nat} (h : P k = true) : fst1 P (c + 1) k = some k := by rw [fst1, h]; rfl
/-- letters and digits -/
def inB (c : Int32) : Bool := decide (¬ (f_X2_isLetter c = 0 ∧ f_X2_isDigit c = 0))
def rnL (tx : Nat → Int32) (n p : Nat) : Nat := run1 (fun k => inB (tx k)) n p
/-- the text at p is this word, of so many bytes -/
def isWd (tx : Nat → Int32) (p l : Nat) (w : List Int32) : Bool := decide (w.length = l ∧ ∀ i, i < l → tx (p + i) = w.getD i 0)
def wIx (tx : Nat → Int32) (p l : Nat) : Option Nat := fst1 (fun k => isWd tx p l (strB k)) 15 0
def isNm (tx : Nat → Int32) (p l : Nat) (q : Nat × Nat) : Bool := decide (q.2 = l ∧ ∀ i, i < l → tx (q.1 + i) = tx (p + i))
def nIx (tx : Nat → Int32) (nm : List (Nat × Nat)) (p l : Nat) : Option Nat := fst1 (fun k => isNm tx p l (nm.getD k (0, 0))) nm.length 0
def isSg (tx : Nat → Int32) (n p : Nat) (w : List Int32) : Bool := decide (∀ i, i < w.length → hNow tx n (p + i) = w.getD i 0)
def sIx (tx : Nat → Int32) (n p : Nat) : Option Nat := fst1 (fun k => isSg tx n p (strB (15 + k))) 45 0
def dgs (tx : Nat → Int32) (sx : Bool) : Nat → Nat → Int64 → Option Int64
  | 0, _, v => some v
  | c + 1, p, v => if f_X2_digit (tx p) < 0 ∨ (sx = false ∧ ¬ f_X2_digit (tx p) ≤ 9) then none else dgs tx sx c (p + 1) ((if sx then 16 else 10) * v + (f_X2_digit (tx p)).toInt64)
def sxB (tx : Nat → Int32) (n p : Nat) : Bool := decide (tx p = 48 ∧ hNow tx n (p + 1) = 120)
def nbT (tx : Nat → Int32) (n p : Nat) : Option (Int32 × Nat) :=
  if rnL tx n p = (if sxB tx n p then 2 else 0) ∨ ¬ rnL tx n p - (if sxB tx n p then 2 else 0) ≤ (if sxB tx n p then 8 else 10) then none
  else match dgs tx (sxB tx n p) (rnL tx n p - (if sxB tx n p then 2 else 0)) (p + (if sxB tx n p then 2 else 0)) 0 with
    | none => none
    | some v => if lg_cmp v 4294967295 ≤ 0 then some (v.toInt32, rnL tx n p) else none
/-- one token: its kind (1: none), what it is, how long it is, the names behind it -/
abbrev tkT : Type := Int32 × Int32 × Nat × List (Nat × Nat)
def tkOne (tx : Nat → Int32) (n p : Nat) (nm : List (Nat × Nat)) : tkT :=
  if ¬ f_X2_isDigit (tx p) = 0 then (match nbT tx n p with
    | none => (1, 0, 0, nm)
    | some q => (3, q.1, q.2, nm))
  else if ¬ f_X2_isLetter (tx p) = 0 then
    (if ¬ rnL tx n p ≤ 16 then (1, 0, 0, nm) else match wIx tx p (rnL tx n p) with
      | some k => (nI (10 + k), 0, rnL tx n p, nm)
      | none => match nIx tx nm p (rnL tx n p) with
        | some k => (2, nI k, rnL tx n p, nm)
        | none => (2, nI nm.length, rnL tx n p, nm ++ [(p, rnL tx n p)]))
  else match sIx tx n p with
    | some k => (nI (40 + k), 0, (strB (15 + k)).length, nm)
    | none => (1, 0, 0, nm)
abbrev tkL : Type := List (Int32 × Int32 × Nat)
/-- all tokens from p on, and all names -/
def tz (tx : Nat → Int32) (n p : Nat) (nm : List (Nat × Nat)) : tkL × List (Nat × Nat) :=
  if (skR tx n p).1 = true then ([(1, 0, (skR tx n p).2)], nm)
  else if _h : (skR tx n p).2 < n ∧ p < (skR tx n p).2 + (tkOne tx n (skR tx n p).2 nm).2.2.1 ∧ p < n then
    (if (tkOne tx n (skR tx n p).2 nm).1 = 1 then ([(1, 0, (skR tx n p).2)], nm)
    else (((tkOne tx n (skR tx n p).2 nm).1, (tkOne tx n (skR tx n p).2 nm).2.1, (skR tx n p).2) :: (tz tx n ((skR tx n p).2 + (tkOne tx n (skR tx n p).2 nm).2.2.1) (tkOne tx n (skR tx n p).2 nm).2.2.2).1, (tz tx n ((skR tx n p).2 + (tkOne tx n (skR tx n p).2 nm).2.2.1) (tkOne tx n (skR tx n p).2 nm).2.2.2).2))
  else if (skR tx n p).2 < n then ([(1, 0, (skR tx n p).2)], nm)
  else ([(0, 0, n)], nm)
termination_by n - p
decreasing_by all_goals omega

theorem inB_dig {c : Int32} (h : ¬ f_X2_isDigit c = 0) : inB c = true := decide_eq_true (fun z => h z.2)
theorem inB_let {c : Int32} (h : ¬ f_X2_isLetter c = 0) : inB c = true := decide_eq_true (fun z => h z.1)
theorem strB_pos : ∀ k, k < 60 → 1 ≤ (strB k).length ∧ (strB k).length ≤ 8 := by decide
theorem strB_chr : ∀ k, k < 60 → ∀ i, i < (strB k).length → 0 < (strB k).getD i 0 ∧ (strB k).getD i 0 < 128 := by decide
theorem rnL_le {tx : Nat → Int32} {n p : Nat} (h : p ≤ n) : p + rnL tx n p ≤ n := run1_le _ rfl h
theorem rnL_pos {tx : Nat → Int32} {n p : Nat} (h : p < n) (hb : inB (tx p) = true) : 1 ≤ rnL tx n p := by
  rw [rnL, run1_lt h hb]
  omega
/-- a token that is one has bytes of the text -/
theorem tkOne_len {tx : Nat → Int32} {n p : Nat} {nm : List (Nat × Nat)} (h : p < n) (h1 : ¬ (tkOne tx n p nm).1 = 1) : 1 ≤ (tkOne tx n p nm).2.2.1 ∧ p + (tkOne tx n p nm).2.2.1 ≤ n := by
  unfold tkOne at h1 ⊢
  by_cases hd : ¬ f_X2_isDigit (tx p) = 0
  · rw [if_pos hd] at h1 ⊢
    cases hn : nbT tx n p with
    | none =>
      rw [hn] at h1
      exact absurd rfl h1
    | some q =>
      have : q.2 = rnL tx n p := by
        unfold nbT at hn
        by_cases c1 : rnL tx n p = (if sxB tx n p then 2 else 0) ∨ ¬ rnL tx n p - (if sxB tx n p then 2 else 0) ≤ (if sxB tx n p then 8 else 10)
        · rw [if_pos c1] at hn
          exact nomatch hn
        · rw [if_neg c1] at hn
          cases hg : dgs tx (sxB tx n p) (rnL tx n p - (if sxB tx n p then 2 else 0)) (p + (if sxB tx n p then 2 else 0)) 0 with
          | none =>
            rw [hg] at hn
            exact nomatch hn
          | some v =>
            rw [hg] at hn
            dsimp only at hn
            by_cases c2 : lg_cmp v 4294967295 ≤ 0
            · rw [if_pos c2] at hn
              cases hn
              rfl
            · rw [if_neg c2] at hn
              exact nomatch hn
      show 1 ≤ q.2 ∧ p + q.2 ≤ n
      rw [this]
      exact ⟨rnL_pos h (inB_dig hd), rnL_le (by omega)⟩
  · rw [if_neg hd] at h1 ⊢
    by_cases hl : ¬ f_X2_isLetter (tx p) = 0
    · rw [if_pos hl] at h1 ⊢
      have key : 1 ≤ rnL tx n p ∧ p + rnL tx n p ≤ n := ⟨rnL_pos h (inB_let hl), rnL_le (by omega)⟩
      by_cases h16 : ¬ rnL tx n p ≤ 16
      · rw [if_pos h16] at h1
        exact absurd rfl h1
      · rw [if_neg h16]
        cases wIx tx p (rnL tx n p) with
        | some k => exact key
        | none =>
          cases nIx tx nm p (rnL tx n p) with
          | some k => exact key
          | none => exact key
    · rw [if_neg hl] at h1 ⊢
      cases hs : sIx tx n p with
      | none =>
        rw [hs] at h1
        exact absurd rfl h1
      | some k =>
        show 1 ≤ (strB (15 + k)).length ∧ p + (strB (15 + k)).length ≤ n
        obtain ⟨q1, -, q3, -⟩ := fst1_some hs
        have l1 := strB_pos (15 + k) (by omega)
        refine ⟨l1.1, ?_⟩
        have := of_decide_eq_true q1 ((strB (15 + k)).length - 1) (by omega)
        by_cases hh : p + ((strB (15 + k)).length - 1) < n
        · omega
        · rw [hNow_ge hh] at this
          have l2 := (strB_chr (15 + k) (by omega) ((strB (15 + k)).length - 1) (by omega)).1
          rw [← this] at l2
          exact absurd l2 (by decide)
theorem tz_bad {tx : Nat → Int32} {n p : Nat} {nm : List (Nat × Nat)} (h : (skR tx n p).1 = true) : tz tx n p nm = ([(1, 0, (skR tx n p).2)], nm) := by rw [tz, if_pos h]
theorem tz_end {tx : Nat → Int32} {n p : Nat} {nm : List (Nat × Nat)} (h : ¬ (skR tx n p).1 = true) (h2 : ¬ (skR tx n p).2 < n) : tz tx n p nm = ([(0, 0, n)], nm) := by
  rw [tz, if_neg h, dif_neg (fun z => h2 z.1), if_neg h2]
theorem tz_none {tx : Nat → Int32} {n p : Nat} {nm : List (Nat × Nat)} (h : ¬ (skR tx n p).1 = true) (h2 : (skR tx n p).2 < n) (h3 : (tkOne tx n (skR tx n p).2 nm).1 = 1) : tz tx n p nm = ([(1, 0, (skR tx n p).2)], nm) := by
  rw [tz, if_neg h]
  by_cases hg : (skR tx n p).2 < n ∧ p < (skR tx n p).2 + (tkOne tx n (skR tx n p).2 nm).2.2.1 ∧ p < n
  · rw [dif_pos hg, if_pos h3]
  · rw [dif_neg hg, if_pos h2]
theorem tz_more {tx : Nat → Int32} {n p : Nat} {nm : List (Nat × Nat)} (hp : p ≤ n) (h : ¬ (skR tx n p).1 = true) (h2 : (skR tx n p).2 < n) (h3 : ¬ (tkOne tx n (skR tx n p).2 nm).1 = 1) : tz tx n p nm = (((tkOne tx n (skR tx n p).2 nm).1, (tkOne tx n (skR tx n p).2 nm).2.1, (skR tx n p).2) :: (tz tx n ((skR tx n p).2 + (tkOne tx n (skR tx n p).2 nm).2.2.1) (tkOne tx n (skR tx n p).2 nm).2.2.2).1, (tz tx n ((skR tx n p).2 + (tkOne tx n (skR tx n p).2 nm).2.2.1) (tkOne tx n (skR tx n p).2 nm).2.2.2).2) := by
  have hl := tkOne_len h2 h3
  have hk := skR_le (tx := tx) (n := n) (n - p) p (Nat.le_refl _) hp
  rw [tz, if_neg h, dif_pos ⟨h2, by omega, by omega⟩, if_neg h3]
