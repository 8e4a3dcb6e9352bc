/-! ===== what the Model makes of a tree: notes, steps ===== -/
set_option maxRecDepth 100000
/-- what is told: name, kind, place, scope, byte, cell, size, own -/
abbrev dcl : Type := Int32 × Int32 × Int32 × Int32 × Int32 × Int32 × Int32 × Int32
abbrev dcl.nm (d : dcl) : Int32 := d.1
abbrev dcl.kd (d : dcl) : Int32 := d.2.1
abbrev dcl.pl (d : dcl) : Int32 := d.2.2.1
abbrev dcl.sc (d : dcl) : Int32 := d.2.2.2.1
abbrev dcl.by (d : dcl) : Int32 := d.2.2.2.2.1
abbrev dcl.ce (d : dcl) : Int32 := d.2.2.2.2.2.1
abbrev dcl.sz (d : dcl) : Int32 := d.2.2.2.2.2.2.1
abbrev dcl.lo (d : dcl) : Int32 := d.2.2.2.2.2.2.2
/-- a function: name, place, void, kinds of its formals -/
abbrev fnc : Type := Int32 × Int32 × Int32 × List Int32
/-- the scope that a NAME is found in, from the last told on -/
def mB (nm : Int32) : List dcl → Option dcl → Option dcl
  | [], b => b
  | d :: ds, none => mB nm ds (if d.nm = nm then some d else none)
  | d :: ds, some b => if d.sc = b.sc then mB nm ds (if d.nm = nm then some d else some b) else some b
def fIx (nm : Int32) : List fnc → Nat → Option Nat
  | [], _ => none
  | f :: fs, k => if f.1 = nm then some k else fIx nm fs (k + 1)
/-- what a NAME means: something told, or a function -/
def mean (Γ : List dcl) (fs : List fnc) (nm : Int32) : Option dcl × Option Nat :=
  match mB nm Γ none with
  | none => (none, fIx nm fs 0)
  | some b => if ¬ b.sc = 0 then (some b, none) else match fIx nm fs 0 with
    | none => (some b, none)
    | some f => if b.pl < (fs.getD f (0, 0, 0, [])).2.1 then (some b, none) else (none, some f)
/-- notes: kind, place, rank; the first one of two -/
abbrev nte : Type := Option (Int32 × Int32 × Int32)
def mnN (a b : nte) : nte := match a, b with
  | none, b => b
  | some x, none => some x
  | some x, some y => if x.2.1 < y.2.1 ∨ (x.2.1 = y.2.1 ∧ x.2.2 ≤ y.2.2) then some x else some y
def ntR (k p r : Int32) : nte := some (k, p, r)
def nt (k p : Int32) : nte := some (k, p, f_X13_rank k)
abbrev stp : Type := Int32 × Int32 × Int32 × Int32
def isAlone : Tr → Bool
  | .inner 2 [f, p, _] _ _ _ => decide (f = p)
  | _ => false
def aNm : Tr → Int32
  | .inner 2 [_, _, nm] _ _ _ => nm
  | _ => 0
def sgOf (a : Int32) : Int32 := ([38, 39, 40, 41, 42, 35, 33, 34, 20, 21, 1, 16, 17, 36, 37, 18, 19] : List Int32).getD (ix a) 0
def ahOf (s : Int32) : Int32 := if s = 79 then 39 else if s = 83 then 43 else 44
/-- how many arguments -/
def aLen : Tr → Nat
  | .inner 10 _ _ _ r => aLen r + 1
  | _ => 0
/-- how many steps: c in a constant -/
def lX (c : Bool) : Tr → Nat
  | .leaf => 0
  | .inner k d _ l r =>
    match k, d with
    | 0, [_, _] => 1
    | 1, [_, _] => 1
    | 2, [_, _, _] => 1
    | 3, [_, _, _, _] => lX c l + if c then 1 else 2
    | 4, [_, _, _, _] => lX c l + 2
    | 5, _ :: ss => lX c l + ss.length
    | 6, [_, _] => lX c l + lX c r + 1
    | 7, [_, _] => lX c l + lX c r + 4
    | 8, [_] => match r with
      | .inner 9 _ _ y n => lX c l + lX c y + lX c n + 2
      | _ => 0
    | 10, [] => lX c l + lX c r
    | _, _ => 0
/-- notes of an expression: w whether a call's worth is wanted -/
def nX (Γ : List dcl) (fs : List fnc) (c : Bool) : Bool → Option (List Int32) → Tr → nte
  | _, _, .leaf => none
  | w, ks, .inner k d _ l r =>
    match k, d with
    | 1, [_, p] => if c then nt 10 p else none
    | 2, [_, p, nm] => match mean Γ fs nm with
      | (none, none) => nt 4 p
      | (none, some _) => nt (if c then 10 else 6) p
      | (some b, _) => if c then (if b.kd = 0 then none else nt 10 p) else (if b.kd = 2 then nt 6 p else none)
    | 3, [_, p, nm, _] => mnN (match mean Γ fs nm with
      | (none, none) => nt 4 p
      | (none, some _) => nt (if c then 10 else 6) p
      | (some b, _) => if c then nt 10 p else (if b.kd = 2 then none else nt 6 p)) (nX Γ fs c true none l)
    | 4, [_, p, nm, en] => match mean Γ fs nm with
      | (none, none) => mnN (nt 4 p) (nX Γ fs c true none l)
      | (some _, _) => mnN (nt (if c then 10 else 6) p) (nX Γ fs c true none l)
      | (none, some f) => if c then mnN (nt 10 p) (nX Γ fs c true none l)
        else mnN (if w ∧ ¬ (fs.getD f (0, 0, 0, [])).2.2.1 = 0 then nt 8 p else none) (mnN (nX Γ fs c true (some (fs.getD f (0, 0, 0, [])).2.2.2) l) (if aLen l < (fs.getD f (0, 0, 0, [])).2.2.2.length then nt 7 en else none))
    | 5, _ :: _ => nX Γ fs c true none l
    | 6, [_, _] => mnN (nX Γ fs c true none l) (nX Γ fs c true none r)
    | 7, [_, _] => mnN (nX Γ fs c true none l) (nX Γ fs c true none r)
    | 8, [_] => mnN (nX Γ fs c true none l) (nX Γ fs c true none r)
    | 9, [] => mnN (nX Γ fs c true none l) (nX Γ fs c true none r)
    | 10, [] => match ks with
      | none => mnN (nX Γ fs c true none l) (nX Γ fs c true none r)
      | some [] => mnN (mnN (nt 7 (tFst l)) (nX Γ fs c true none l)) (nX Γ fs c true (some []) r)
      | some (k :: ks) => mnN (if k = 0 then nX Γ fs c true none l else if isAlone l = true then (match mean Γ fs (aNm l) with
          | (none, none) => nt 4 (tFst l)
          | (none, some _) => nt 7 (tFst l)
          | (some b, _) => if b.kd = 2 ∧ b.by = (if k = 2 then 1 else 0) then none else nt 7 (tFst l))
          else mnN (nt 7 (tFst l)) (nX Γ fs c true none l)) (nX Γ fs c true (some ks) r)
    | _, _ => none
/-- whether a constant has no worth -/
def hnX (Γ : List dcl) (fs : List fnc) : Tr → Bool
  | .leaf => false
  | .inner k d _ l r =>
    match k, d with
    | 1, [_, _] => true
    | 2, [_, _, nm] => match (mean Γ fs nm).1 with
      | some b => decide (¬ b.kd = 0 ∨ b.sz = -1)
      | none => true
    | 3, [_, _, _, _] => true
    | 4, [_, _, _, _] => true
    | 5, _ :: _ => hnX Γ fs l
    | 6, [_, _] => hnX Γ fs l || hnX Γ fs r
    | 7, [_, _] => hnX Γ fs l || hnX Γ fs r
    | 8, [_] => hnX Γ fs l || hnX Γ fs r
    | 9, [] => hnX Γ fs l || hnX Γ fs r
    | _, _ => false
/-- the steps of an expression, from step p on -/
def cX (Γ : List dcl) (fs : List fnc) (c : Bool) : Option (List Int32) → Nat → Tr → List stp
  | _, _, .leaf => []
  | ks, p, .inner k d _ l r =>
    match k, d with
    | 0, [_, v] => [(0, v, 0, 0)]
    | 1, [_, _] => [(21, 0, 0, 0)]
    | 2, [_, _, nm] => match (mean Γ fs nm).1 with
      | some b => if b.kd = 0 then [(0, b.ce, 0, 0)] else if c then [(0, 0, 0, 0)] else [(if b.lo = 0 then 3 else 1, b.ce, 0, 0)]
      | none => if c then [(0, 0, 0, 0)] else [(3, 0, 0, 0)]
    | 3, [_, _, nm, row] => cX Γ fs c none p l ++ (if c then ([(6, 0, 1, 2 * row)] : List stp) else match (mean Γ fs nm).1 with
      | some b => [(6, b.ce, b.sz, 2 * row + if b.lo = 0 then 0 else 1), (7, 0, 0, 0)]
      | none => [(6, 0, 1, 2 * row), (7, 0, 0, 0)])
    | 4, [_, pl, nm, _] => cX Γ fs c (if c then none else ((mean Γ fs nm).2.map fun f => (fs.getD f (0, 0, 0, [])).2.2.2)) p l ++ [(15, 0, 0, 0), (16, match (mean Γ fs nm).2 with
      | some f => nI f
      | none => -1, pl, 0)]
    | 5, _ :: ss => cX Γ fs c none p l ++ ss.reverse.map fun s => (11, ahOf s, 0, 0)
    | 6, [_, a] => cX Γ fs c none p l ++ cX Γ fs c none (p + lX c l) r ++ [(10, sgOf a, 0, 0)]
    | 7, [_, a] => cX Γ fs c none p l ++ [(if a = 0 then 14 else 13, nI (p + lX c l + 1 + lX c r + 2), 0, 0)] ++ cX Γ fs c none (p + lX c l + 1) r ++ [(23, 0, 0, 0), (12, nI (p + lX c l + 1 + lX c r + 3), 0, 0), (0, if a = 0 then 1 else 0, 0, 0)]
    | 8, [_] => match r with
      | .inner 9 _ _ y n => cX Γ fs c none p l ++ [(13, nI (p + lX c l + 1 + lX c y + 1), 0, 0)] ++ cX Γ fs c none (p + lX c l + 1) y ++ [(12, nI (p + lX c l + 1 + lX c y + 1 + lX c n), 0, 0)] ++ cX Γ fs c none (p + lX c l + 1 + lX c y + 1) n
      | _ => []
    | 10, [] => (match ks with
      | some (k :: _) => if ¬ k = 0 ∧ isAlone l = true then (match (mean Γ fs (aNm l)).1 with
          | some b => [(5, b.ce, b.sz, if b.lo = 0 then 0 else 1)]
          | none => [(5, 0, 1, 0)]) else cX Γ fs c none p l
      | _ => cX Γ fs c none p l) ++ cX Γ fs c (ks.map List.tail) (p + lX c l) r
    | _, _ => []
theorem isAlone_l {c : Bool} {t : Tr} (h : isAlone t = true) : lX c t = 1 := by
  unfold isAlone at h
  split at h
  · rfl
  · exact absurd h (by decide)
theorem cX_len (Γ : List dcl) (fs : List fnc) (c : Bool) (ks : Option (List Int32)) (p : Nat) (e : Tr) : (cX Γ fs c ks p e).length = lX c e := by
  fun_induction cX Γ fs c ks p e
  all_goals simp_all [lX, isAlone_l]
  all_goals first | omega | grind [isAlone_l]
