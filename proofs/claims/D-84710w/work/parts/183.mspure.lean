/-! ===== what the Model makes of a statement: steps, notes, what is told ===== -/
set_option maxRecDepth 100000
/-- what is told, own words, own cells -/
abbrev env : Type := List dcl × Nat × Nat
/-- what the Model reads off a size -/
def mny (ps : Int32) (Γ : List dcl) (fs : List fnc) (s : Tr) : Int32 := if ps = 0 then 1 else if hnX Γ fs s = true then -1 else if vC Γ fs s < 1 then -1 else if 500 < vC Γ fs s then -1 else vC Γ fs s
def zSz (Γ : List dcl) (fs : List fnc) (s : Tr) : nte := if hnX Γ fs s = true then none else if vC Γ fs s < 1 ∨ 500 < vC Γ fs s then nt 10 (tFst s) else none
/-- told twice -/
def twD (Γ : List dcl) (fs : List fnc) (sc nm p : Int32) : Bool := (Γ.any fun q => decide (q.sc = sc ∧ q.nm = nm)) || (decide (sc = 0) && fs.any fun f => decide (f.1 = nm ∧ f.2.1 < p))
def twN (Γ : List dcl) (fs : List fnc) (sc nm p : Int32) : nte := if twD Γ fs sc nm p = true then nt 5 p else none
def tellD (ps : Int32) (q : dcl) (Γ : List dcl) : List dcl := if ps = 0 then Γ else q :: Γ
/-- a way that is not known yet: 1 of a break, 2 of a continue -/
def isHo (h : Int32) (q : stp) : Bool := decide (q.1 = 12 ∧ q.2.2.2 = h)
def fillH (h v : Int32) (l : List stp) : List stp := l.map fun q => if isHo h q = true then (12, v, 0, 0) else q
/-- the chains of ways that are not known yet -/
def lnk : Nat → Int32 → Int32 → List stp → List stp
  | _, _, _, [] => []
  | st, b, c, q :: l => if isHo 1 q = true then (12, b, 0, 0) :: lnk (st + 1) (nI st) c l else if isHo 2 q = true then (12, c, 0, 0) :: lnk (st + 1) b (nI st) l else q :: lnk (st + 1) b c l
def hdH (h : Int32) : Nat → Int32 → List stp → Int32
  | _, b, [] => b
  | st, b, q :: l => hdH h (st + 1) (if isHo h q = true then nI st else b) l
/-- words that an array takes -/
def aWd (many b : Int32) : Nat := if many = -1 then 0 else if b = 0 then ix many else (ix many + 3) / 4
abbrev mR : Type := List stp × nte × env
/-- a NAME alone that is set: its note, its cell, whether it is own -/
def z0S (Γ : List dcl) (fs : List fnc) (nm p : Int32) : nte := match mean Γ fs nm with
  | (none, none) => nt 4 p
  | (none, some _) => nt 6 p
  | (some b, _) => if b.kd = 1 then none else nt 6 p
def clS (q : Option dcl) : Int32 := match q with
  | some b => b.ce
  | none => 0
def loS (q : Option dcl) : Int32 := match q with
  | some b => b.lo
  | none => 0
def byS (q : Option dcl) : Int32 := match q with
  | some b => if b.by = 0 then 0 else 1
  | none => 0
/-- what is set by a, to e (none: one more, one less) -/
def stE (Γ : List dcl) (fs : List fnc) (p : Nat) (e : Tr) : List stp := match e with
  | .leaf => [(0, 1, 0, 0)]
  | e => cX Γ fs false none p e
def mSet (Γ : List dcl) (fs : List fnc) (a : Int32) (st : Nat) (pl e : Tr) : List stp × nte := match pl with
  | .inner 2 [_, p, nm] _ _ _ =>
    let ld : List stp := if a = -1 then [] else [(if loS (mean Γ fs nm).1 = 0 then 3 else 1, clS (mean Γ fs nm).1, 0, 0)]
    (ld ++ stE Γ fs (st + ld.length) e ++ (if a = -1 then [] else [(10, sgOf a, 0, 0)]) ++ [(if loS (mean Γ fs nm).1 = 0 then 4 else 2, clS (mean Γ fs nm).1, 0, 0)], mnN (z0S Γ fs nm p) (nX Γ fs false true none e))
  | .inner 3 [_, p, nm, row] _ i _ =>
    let ld : List stp := cX Γ fs false none st i ++ [elS (mean Γ fs nm).1 row] ++ (if a = -1 then [] else [(9, 0, 0, 0), (7, 0, 0, 0)])
    (ld ++ stE Γ fs (st + ld.length) e ++ (if a = -1 then [] else [(10, sgOf a, 0, 0)]) ++ [(8, byS (mean Γ fs nm).1, 0, 0)], mnN (mnN (z0N Γ fs true nm p) (nX Γ fs false true none i)) (nX Γ fs false true none e))
  | _ => ([], none)
/-- int NAME = e -/
def mTlI (ps : Int32) (fs : List fnc) (sc st : Nat) (E : env) (p nm : Int32) (e : Tr) : mR :=
  ((match e with
    | .leaf => [(0, 0, 0, 0)]
    | e => cX E.1 fs false none st e) ++ [(2, nI E.2.2, 0, 0)], mnN (mnN (twN E.1 fs (nI sc) nm p) (if 200 < E.2.1 + 1 then nt 11 p else none)) (nX E.1 fs false true none e), (tellD ps (nm, 1, p, nI sc, 0, nI E.2.2, 1, 1) E.1, E.2.1 + 1, E.2.2 + if 200 < E.2.1 + 1 then 0 else 1))
/-- KIND NAME [ s ] -/
def aOwn (ps : Int32) (fs : List fnc) (E : env) (b : Int32) (s : Tr) : Nat := if mny ps E.1 fs s = -1 ∨ 200 < E.2.1 + aWd (mny ps E.1 fs s) b then 0 else ix (mny ps E.1 fs s)
def mTlA (ps : Int32) (fs : List fnc) (sc : Nat) (E : env) (p nm b : Int32) (s : Tr) : mR :=
  ([(22, nI E.2.2, nI (aOwn ps fs E b s), 0)], mnN (mnN (twN E.1 fs (nI sc) nm p) (mnN (nX E.1 fs true true none s) (zSz E.1 fs s))) (if 200 < E.2.1 + aWd (mny ps E.1 fs s) b then nt 11 p else none), (tellD ps (nm, 2, p, nI sc, b, nI E.2.2, if mny ps E.1 fs s = -1 then 1 else mny ps E.1 fs s, 1) E.1, E.2.1 + aWd (mny ps E.1 fs s) b, E.2.2 + aOwn ps fs E b s))
/-- a scope of its own -/
def scO (E : env) (q : mR) : mR := (q.1, q.2.1, (E.1, q.2.2.2))
/-- a statement in scope sc (lp: within a loop; vd: of a function without a worth) -/
def mS (ps : Int32) (fs : List fnc) (vd : Int32) : Tr → Nat → Bool → Nat → env → mR
  | .leaf, _, _, _, E => ([], none, E)
  | .inner k d _ l r, sc, lp, st, E =>
    match k, d with
    | 21, [] => scO E (mS ps fs vd l (sc + 1) lp st E)
    | 22, [] =>
      let q := mS ps fs vd l sc lp st E
      let q2 := mS ps fs vd r sc lp (st + q.1.length) q.2.2
      (q.1 ++ q2.1, mnN q.2.1 q2.2.1, q2.2.2)
    | 23, [p, nm] => mTlI ps fs sc st E p nm l
    | 24, [p, nm, b] => mTlA ps fs sc E p nm b l
    | 25, [] => match r with
      | .inner 32 _ _ y (.inner 35 _ _ _ _) =>
        let p1 := st + lX false l + 1
        let q := mS ps fs vd y (sc + 1) lp p1 E
        (cX E.1 fs false none st l ++ [(13, nI (p1 + q.1.length), 0, 0)] ++ q.1, mnN (nX E.1 fs false true none l) q.2.1, (E.1, q.2.2.2))
      | .inner 32 _ _ y n =>
        let p1 := st + lX false l + 1
        let q := mS ps fs vd y (sc + 1) lp p1 E
        let p2 := p1 + q.1.length + 1
        let q2 := mS ps fs vd n (sc + 1) lp p2 (E.1, q.2.2.2)
        (cX E.1 fs false none st l ++ [(13, nI p2, 0, 0)] ++ q.1 ++ [(12, nI (p2 + q2.1.length), 0, 0)] ++ q2.1, mnN (mnN (nX E.1 fs false true none l) q.2.1) q2.2.1, (E.1, q2.2.2.2))
      | _ => ([], none, E)
    | 26, b :: mks => match l, r with
      | .inner 33 _ _ s c, .inner 32 _ _ sp bd =>
        if mks = [] then (if b = 0 then
          (let p1 := st + lX false c + 2
          let q := mS ps fs vd bd (sc + 1) true p1 E
          (cX E.1 fs false none st c ++ [(13, nI (p1 + q.1.length + 1), 0, 0)] ++ [(15, 0, 0, 0)] ++ fillH 1 (nI (p1 + q.1.length + 1)) (fillH 2 (nI st) q.1) ++ [(12, nI st, 0, 0)], mnN (nX E.1 fs false true none c) q.2.1, (E.1, q.2.2.2)))
          else
          (let q := mS ps fs vd bd (sc + 1) true (st + 1) E
          let p2 := st + 1 + q.1.length
          ([(15, 0, 0, 0)] ++ fillH 1 (nI (p2 + lX false c + 1)) (fillH 2 (nI p2) q.1) ++ cX E.1 fs false none p2 c ++ [(14, nI st, 0, 0)], mnN q.2.1 (nX E.1 fs false true none c), (E.1, q.2.2.2))))
        else
          (let q0 := mS ps fs vd s (sc + 1) lp st E
          let top := st + q0.1.length
          let hc : Nat := match c with
            | .leaf => 0
            | _ => 1
          let more := top + lX false c + hc + 1
          let q1 := mS ps fs vd sp (sc + 1) lp more q0.2.2
          let bp := more + q1.1.length + 1
          let q2 := mS ps fs vd bd (sc + 2) true (bp + 1) q1.2.2
          let en := bp + 1 + q2.1.length + 1
          (q0.1 ++ (cX q0.2.2.1 fs false none top c ++ (if hc = 0 then [] else [(13, nI en, 0, 0)])) ++ [(12, nI bp, 0, 0)] ++ q1.1 ++ [(12, nI top, 0, 0)] ++ [(15, 0, 0, 0)] ++ fillH 1 (nI en) (fillH 2 (nI more) q2.1) ++ [(12, nI more, 0, 0)], mnN (mnN (mnN q0.2.1 (nX q0.2.2.1 fs false true none c)) q1.2.1) q2.2.1, (E.1, q2.2.2.2)))
      | _, _ => ([], none, E)
    | 27, [p, b] => if lp = true then ([(12, 0, 0, if b = 0 then 2 else 1)], none, E) else ([(12, 0, 0, 0)], nt 9 p, E)
    | 28, [p] => match l with
      | .leaf => ([(0, 0, 0, 0), (17, 0, 0, 0)], if vd = 0 then nt 8 p else none, E)
      | l => (cX E.1 fs false none st l ++ [(17, 0, 0, 0)], mnN (if vd = 0 then none else ntR 8 p (f_X13_rank 7)) (nX E.1 fs false true none l), E)
    | 29, [b] => (cX E.1 fs false none st l ++ [(if b = 0 then 20 else 19, 0, 0, 0)], nX E.1 fs false true none l, E)
    | 30, [a] => ((mSet E.1 fs a st l r).1, (mSet E.1 fs a st l r).2, E)
    | 31, [] => (cX E.1 fs false none st l ++ [(18, 0, 0, 0)], nX E.1 fs false false none l, E)
    | _, _ => ([], none, E)
section MSP
variable {st : Nat} {b c v h : Int32} {l l1 l2 : List stp}
theorem lnk_app : ∀ {l1 : List stp} {st : Nat} {b c : Int32}, lnk st b c (l1 ++ l2) = lnk st b c l1 ++ lnk (st + l1.length) (hdH 1 st b l1) (hdH 2 st c l1) l2
  | [], st, b, c => rfl
  | q :: l1, st, b, c => by
    rw [List.cons_append, lnk, lnk, hdH, hdH, show st + (q :: l1).length = st + 1 + l1.length by simp only [List.length_cons]; omega]
    by_cases h1 : isHo 1 q = true
    · have h2 : ¬ isHo 2 q = true := fun z => by
        have a := (of_decide_eq_true h1).2
        have b := (of_decide_eq_true z).2
        rw [a] at b
        exact absurd b (by decide)
      rw [if_pos h1, if_pos h1, if_pos h1, if_neg h2, lnk_app, List.cons_append]
    · rw [if_neg h1, if_neg h1, if_neg h1]
      by_cases h2 : isHo 2 q = true
      · rw [if_pos h2, if_pos h2, if_pos h2, lnk_app, List.cons_append]
      · rw [if_neg h2, if_neg h2, if_neg h2, lnk_app, List.cons_append]
theorem hdH_app : ∀ {l1 : List stp} {st : Nat} {b : Int32}, hdH h st b (l1 ++ l2) = hdH h (st + l1.length) (hdH h st b l1) l2
  | [], st, b => rfl
  | q :: l1, st, b => by
    rw [List.cons_append, hdH, hdH, hdH_app, show st + (q :: l1).length = st + 1 + l1.length by simp only [List.length_cons]; omega]
theorem lnk_len : ∀ {l : List stp} {st : Nat} {b c : Int32}, (lnk st b c l).length = l.length
  | [], st, b, c => rfl
  | q :: l, st, b, c => by
    rw [lnk]
    split
    · rw [List.length_cons, lnk_len, List.length_cons]
    · split
      · rw [List.length_cons, lnk_len, List.length_cons]
      · rw [List.length_cons, lnk_len, List.length_cons]
/-- no ways that are not known -/
def noH (l : List stp) : Prop := ∀ q ∈ l, isHo 1 q = false ∧ isHo 2 q = false
theorem noH.lk : ∀ {l : List stp} {st : Nat} {b c : Int32}, noH l → lnk st b c l = l
  | [], _, _, _, _ => rfl
  | q :: l, st, b, c, h => by
    have hq := h q (List.mem_cons_self ..)
    rw [lnk, if_neg (by rw [hq.1]; decide), if_neg (by rw [hq.2]; decide), noH.lk fun q hq => h q (List.mem_cons_of_mem _ hq)]
theorem noH.hd : ∀ {l : List stp} {st : Nat} {b : Int32}, noH l → hdH 1 st b l = b ∧ hdH 2 st b l = b
  | [], _, _, _ => ⟨rfl, rfl⟩
  | q :: l, st, b, h => by
    have hq := h q (List.mem_cons_self ..)
    have := noH.hd (st := st + 1) (b := b) fun q hq => h q (List.mem_cons_of_mem _ hq)
    rw [hdH, hdH, if_neg (by rw [hq.1]; decide), if_neg (by rw [hq.2]; decide)]
    exact this
theorem noH.app (h1 : noH l1) (h2 : noH l2) : noH (l1 ++ l2) := fun q hq => (List.mem_append.mp hq).elim (h1 q) (h2 q)
theorem cX_noH {Γ : List dcl} {fs : List fnc} {cc : Bool} {ks : Option (List Int32)} {p : Nat} {e : Tr} : noH (cX Γ fs cc ks p e) := by
  fun_induction cX Γ fs cc ks p e
  all_goals unfold noH isHo at *
  all_goals first | (simp; done) | grind
end MSP
