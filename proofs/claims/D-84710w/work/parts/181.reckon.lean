/-! ===== constants: what they are worth, and how the Model reckons ===== -/
set_option maxRecDepth 100000
/-- trees of expressions are as they should be (a: a row of arguments) -/
def wX : Bool → Tr → Prop
  | a, .leaf => a = true
  | a, .inner k d _ l r =>
    match k, d with
    | 0, [_, _] => a = false
    | 1, [_, _] => a = false
    | 2, [_, _, _] => a = false
    | 3, [_, _, _, _] => a = false ∧ wX false l
    | 4, [_, _, _, _] => a = false ∧ wX true l
    | 5, _ :: _ => a = false ∧ wX false l
    | 6, [_, _] => a = false ∧ wX false l ∧ wX false r
    | 7, [_, _] => a = false ∧ wX false l ∧ wX false r
    | 8, [_] => a = false ∧ wX false l ∧ match r with
      | .inner 9 [] _ y n => wX false y ∧ wX false n
      | _ => False
    | 10, [] => a = true ∧ wX false l ∧ wX true r
    | _, _ => False
def orV (a : Int32) (v w : Int32) : Int32 := if a = 0 then (if v = 0 then (if w = 0 then 0 else 1) else 1) else (if v = 0 then 0 else (if w = 0 then 0 else 1))
/-- what a constant is worth -/
def vC (Γ : List dcl) (fs : List fnc) : Tr → Int32
  | .leaf => 0
  | .inner k d _ l r =>
    match k, d with
    | 0, [_, v] => v
    | 2, [_, _, nm] => match (mean Γ fs nm).1 with
      | some b => b.ce
      | none => 0
    | 5, _ :: ss => ss.reverse.foldl (fun v s => f_X13_alone (ahOf s) v) (vC Γ fs l)
    | 6, [_, a] => f_X13_doing (sgOf a) (vC Γ fs l) (vC Γ fs r)
    | 7, [_, a] => orV a (vC Γ fs l) (vC Γ fs r)
    | 8, [_] => match r with
      | .inner 9 _ _ y n => if vC Γ fs l = 0 then vC Γ fs n else vC Γ fs y
      | _ => 0
    | _, _ => 0
/-- a plain step -/
def pl1 (q : stp) (pc : Nat) (s : List Int32) : Option (Int32 × List Int32) :=
  if q.1 = 0 then some (nI (pc + 1), q.2.1 :: s)
  else if q.1 = 12 then some (q.2.1, s)
  else match s with
    | [] => none
    | a :: s => if q.1 = 11 then some (nI (pc + 1), f_X13_alone q.2.1 a :: s)
      else if q.1 = 23 then some (nI (pc + 1), (if a = 0 then 0 else 1) :: s)
      else if q.1 = 14 then some (if a = 0 then nI (pc + 1) else q.2.1, s)
      else if q.1 = 13 then some (if a = 0 then q.2.1 else nI (pc + 1), s)
      else match s with
        | [] => none
        | b :: s => if q.1 = 10 then some (nI (pc + 1), f_X13_doing q.2.1 b a :: s) else none
/-- in n plain steps the row l (at st) ends with v alone -/
def rn (l : List stp) (st : Nat) (v : Int32) : Nat → Nat → List Int32 → Prop
  | 0, pc, s => pc = st + l.length ∧ s = [v]
  | n + 1, pc, s => st ≤ pc ∧ s.length ≤ 9000 ∧ ∃ q pc' s', l[pc - st]? = some q ∧ pl1 q pc s = some (nI pc', s') ∧ rn l st v n pc' s'
section RC
variable {D : tkL} {d t st m : Nat} {E : Nat → pR} {Γ : List dcl} {fs : List fnc} {l pre post : List stp} {v : Int32}
theorem wX.l1 : ∀ {e : Tr}, wX false e → 1 ≤ lX true e
  | .leaf, h => nomatch h
  | .inner k d v l r, h => by
    unfold wX at h
    unfold lX
    split at h
    · exact Nat.le_refl _
    · exact Nat.le_refl _
    · exact Nat.le_refl _
    · exact Nat.le_add_left _ _
    · show 1 ≤ lX true l + 2
      omega
    · have := wX.l1 h.2
      show 1 ≤ lX true l + _
      omega
    · show 1 ≤ lX true l + lX true r + 1
      omega
    · show 1 ≤ lX true l + lX true r + 4
      omega
    · split at h
      · rename_i y n
        show 1 ≤ lX true l + lX true y + lX true n + 2
        omega
      · exact absurd h.2.2 id
    · exact nomatch h.1
    · exact absurd h id
theorem rn1 {q : stp} {n pc pc' : Nat} {s s' : List Int32} (hl : st ≤ pc) (hs : s.length ≤ 9000) (hq : l[pc - st]? = some q) (h1 : pl1 q pc s = some (nI pc', s')) (h : rn l st v n pc' s') : rn l st v (n + 1) pc s := ⟨hl, hs, q, pc', s', hq, h1, h⟩
/-- the row of an expression stands at p within l -/
def inL (l : List stp) (st p : Nat) (c : List stp) : Prop := st ≤ p ∧ ∀ i q, c[i]? = some q → l[p + i - st]? = some q
theorem inL.app {p : Nat} {c1 c2 : List stp} (h : inL l st p (c1 ++ c2)) : inL l st p c1 ∧ inL l st (p + c1.length) c2 := by
  refine ⟨⟨h.1, fun i q hq => h.2 i q ?_⟩, ⟨by have := h.1; omega, fun i q hq => ?_⟩⟩
  · rw [List.getElem?_append_left (List.getElem?_eq_some_iff.mp hq).1]
    exact hq
  · have := h.2 (c1.length + i) q (by rw [List.getElem?_append_right (by omega), Nat.add_sub_cancel_left]; exact hq)
    rw [← Nat.add_assoc] at this
    exact this
theorem inL.hd {p : Nat} {q : stp} {c : List stp} (h : inL l st p (q :: c)) : st ≤ p ∧ l[p - st]? = some q := ⟨h.1, h.2 0 q rfl⟩
theorem one_rn {p n : Nat} : ∀ (ss : List Int32) (a : Int32) (s : List Int32) (p : Nat), inL l st p (ss.map fun s => ((11 : Int32), ahOf s, (0 : Int32), (0 : Int32))) → s.length + 1 ≤ 9000 → ∀ n, rn l st v n (p + ss.length) (ss.foldl (fun v s => f_X13_alone (ahOf s) v) a :: s) → ∃ n', rn l st v n' p (a :: s)
  | [], a, s, p, _, _, n, h => ⟨n, h⟩
  | b :: ss, a, s, p, hl, hs, n, h => by
    have h1 := inL.app (c1 := [((11 : Int32), ahOf b, (0 : Int32), (0 : Int32))]) hl
    obtain ⟨n', h2⟩ := one_rn (p := p) (n := n) ss (f_X13_alone (ahOf b) a) s (p + 1) h1.2 hs n (by
      rw [show p + 1 + ss.length = p + (b :: ss).length by simp only [List.length_cons]; omega]
      exact h)
    exact ⟨n' + 1, rn1 (inL.hd hl).1 hs (inL.hd hl).2 rfl h2⟩
/-- an expression's row comes to its worth -/
theorem cR (hst : st + l.length ≤ 9000) : ∀ (e : Tr) (p : Nat) (s : List Int32), wX false e → hnX Γ fs e = false → inL l st p (cX Γ fs true none p e) → s.length + lX true e ≤ 9000 → p + lX true e ≤ 9000 → ∀ n, rn l st v n (p + lX true e) (vC Γ fs e :: s) → ∃ n', rn l st v n' p s
  | .leaf, p, s, h, _, _, _, _ => nomatch h
  | .inner k dd vv l0 r0, p, s, h, hn, hl, hs, hp => by
    intro n hr
    unfold wX at h
    split at h
    · exact ⟨n + 1, rn1 hl.1 (by omega) (inL.hd hl).2 rfl hr⟩
    · exact nomatch hn
    · rename_i nm
      have hn' : (match (mean Γ fs nm).1 with
        | some b => decide (¬ b.kd = 0 ∨ b.sz = -1)
        | none => true) = false := hn
      have hl' : inL l st p (match (mean Γ fs nm).1 with
        | some b => if b.kd = 0 then [(0, b.ce, 0, 0)] else if true = true then [(0, 0, 0, 0)] else [(if b.lo = 0 then 3 else 1, b.ce, 0, 0)]
        | none => if true = true then [(0, 0, 0, 0)] else [(3, 0, 0, 0)]) := hl
      have hr' : rn l st v n (p + 1) ((match (mean Γ fs nm).1 with
        | some b => b.ce
        | none => 0) :: s) := hr
      cases hq : (mean Γ fs nm).1 with
      | none =>
        rw [hq] at hn'
        exact nomatch hn'
      | some b =>
        rw [hq] at hn' hl' hr'
        have hk : b.kd = 0 := Decidable.byContradiction fun z => by
          have := of_decide_eq_false hn'
          exact this (Or.inl z)
        dsimp only at hl' hr'
        rw [if_pos hk] at hl'
        exact ⟨n + 1, rn1 hl.1 (by omega) (inL.hd hl').2 rfl hr'⟩
    · exact nomatch hn
    · exact nomatch hn
    · rename_i ff ss
      have hl' : inL l st p (cX Γ fs true none p l0 ++ ss.reverse.map fun s => ((11 : Int32), ahOf s, (0 : Int32), (0 : Int32))) := hl
      have hl1 := inL.app hl'
      rw [cX_len] at hl1
      have hw1 := wX.l1 h.2
      have hlx : lX true (.inner 5 (ff :: ss) vv l0 r0) = lX true l0 + ss.length := rfl
      rw [hlx] at hs hp hr
      obtain ⟨n1, h1⟩ := one_rn (p := p) (n := n) ss.reverse (vC Γ fs l0) s (p + lX true l0) hl1.2 (by omega) n (by
        rw [List.length_reverse, Nat.add_assoc]
        exact hr)
      exact cR hst l0 p s h.2 hn hl1.1 (by omega) (by omega) n1 h1
    · rename_i ff a
      have hl' : inL l st p (cX Γ fs true none p l0 ++ cX Γ fs true none (p + lX true l0) r0 ++ [(10, sgOf a, 0, 0)]) := hl
      have hl1 := inL.app hl'
      have hl2 := inL.app hl1.1
      rw [List.length_append, cX_len, cX_len] at hl1
      rw [cX_len] at hl2
      have hw1 := wX.l1 h.2.1
      have hw2 := wX.l1 h.2.2
      have hlx : lX true (.inner 6 [ff, a] vv l0 r0) = lX true l0 + lX true r0 + 1 := rfl
      rw [hlx] at hs hp hr
      have hn' : (hnX Γ fs l0 || hnX Γ fs r0) = false := hn
      rw [Bool.or_eq_false_iff] at hn'
      have h3 : rn l st v (n + 1) (p + lX true l0 + lX true r0) (vC Γ fs r0 :: vC Γ fs l0 :: s) := by
        refine rn1 (by have := hl.1; omega) (by simp only [List.length_cons]; omega) ?_ (q := (10, sgOf a, 0, 0)) rfl (pc' := p + lX true l0 + lX true r0 + 1) (s' := f_X13_doing (sgOf a) (vC Γ fs l0) (vC Γ fs r0) :: s) ?_
        · have := (inL.hd hl1.2).2
          rw [← Nat.add_assoc] at this
          exact this
        · rw [show p + lX true l0 + lX true r0 + 1 = p + (lX true l0 + lX true r0 + 1) by omega]
          exact hr
      obtain ⟨n2, h4⟩ := cR hst r0 (p + lX true l0) (vC Γ fs l0 :: s) h.2.2 hn'.2 hl2.2 (by simp only [List.length_cons]; omega) (by omega) _ h3
      exact cR hst l0 p s h.2.1 hn'.1 hl2.1 (by omega) (by omega) n2 h4
    · rename_i ff a
      have hl' : inL l st p (cX Γ fs true none p l0 ++ [(if a = 0 then 14 else 13, nI (p + lX true l0 + 1 + lX true r0 + 2), 0, 0)] ++ cX Γ fs true none (p + lX true l0 + 1) r0 ++ [(23, 0, 0, 0), (12, nI (p + lX true l0 + 1 + lX true r0 + 3), 0, 0), (0, if a = 0 then 1 else 0, 0, 0)]) := hl
      have hl1 := inL.app hl'
      have hl2 := inL.app hl1.1
      have hl3 := inL.app hl2.1
      rw [List.length_append, List.length_append, cX_len, cX_len] at hl1
      rw [List.length_append, cX_len] at hl2
      rw [cX_len] at hl3
      have hw1 := wX.l1 h.2.1
      have hw2 := wX.l1 h.2.2
      have hlx : lX true (.inner 7 [ff, a] vv l0 r0) = lX true l0 + lX true r0 + 4 := rfl
      rw [hlx] at hs hp hr
      have hn' : (hnX Γ fs l0 || hnX Γ fs r0) = false := hn
      rw [Bool.or_eq_false_iff] at hn'
      have hv : vC Γ fs (.inner 7 [ff, a] vv l0 r0) = orV a (vC Γ fs l0) (vC Γ fs r0) := rfl
      rw [hv] at hr
      have t1 : inL l st (p + (lX true l0 + 1 + lX true r0)) ([(23, 0, 0, 0)] ++ ([(12, nI (p + lX true l0 + 1 + lX true r0 + 3), 0, 0)] ++ [(0, if a = 0 then 1 else 0, 0, 0)])) := hl1.2
      have t2 := inL.app t1
      have t3 := inL.app t2.2
      have hst' := hl.1
      have f1 := (inL.hd t2.1).2
      have f2 := (inL.hd t3.1).2
      have f3 := (inL.hd t3.2).2
      have f4 := (inL.hd hl3.2).2
      have e1 : [((23 : Int32), (0 : Int32), (0 : Int32), (0 : Int32))].length = 1 := rfl
      have e2 : [((12 : Int32), nI (p + lX true l0 + 1 + lX true r0 + 3), (0 : Int32), (0 : Int32))].length = 1 := rfl
      rw [e1] at f2 f3
      rw [e2] at f3
      have hr' : rn l st v n (p + lX true l0 + 1 + lX true r0 + 3) (orV a (vC Γ fs l0) (vC Γ fs r0) :: s) := by
        rw [show p + lX true l0 + 1 + lX true r0 + 3 = p + (lX true l0 + lX true r0 + 4) by omega]
        exact hr
      -- over: the number
      have over : (if a = 0 then (1 : Int32) else 0) = orV a (vC Γ fs l0) (vC Γ fs r0) → rn l st v (n + 1) (p + lX true l0 + 1 + lX true r0 + 2) s := fun z => by
        refine rn1 (by omega) (by omega) ?_ (q := (0, if a = 0 then 1 else 0, 0, 0)) rfl (pc' := p + lX true l0 + 1 + lX true r0 + 3) (s' := (if a = 0 then 1 else 0) :: s) (by rw [z]; exact hr')
        rw [show p + lX true l0 + 1 + lX true r0 + 2 - st = p + (lX true l0 + 1 + lX true r0) + 1 + 1 - st by omega]
        exact f3
      have thru : (if vC Γ fs r0 = 0 then (0 : Int32) else 1) = orV a (vC Γ fs l0) (vC Γ fs r0) → ∃ n', rn l st v n' (p + lX true l0 + 1) s := fun z => by
        have g1 : rn l st v (n + 1) (p + lX true l0 + 1 + lX true r0 + 1) ((if vC Γ fs r0 = 0 then 0 else 1) :: s) := by
          refine rn1 (by omega) (by simp only [List.length_cons]; omega) ?_ (q := (12, nI (p + lX true l0 + 1 + lX true r0 + 3), 0, 0)) (pc' := p + lX true l0 + 1 + lX true r0 + 3) (s' := (if vC Γ fs r0 = 0 then 0 else 1) :: s) rfl (by rw [z]; exact hr')
          · rw [show p + lX true l0 + 1 + lX true r0 + 1 - st = p + (lX true l0 + 1 + lX true r0) + 1 - st by omega]
            exact f2
        have g2 : rn l st v (n + 1 + 1) (p + lX true l0 + 1 + lX true r0) (vC Γ fs r0 :: s) := by
          refine rn1 (by omega) (by simp only [List.length_cons]; omega) ?_ (q := (23, 0, 0, 0)) rfl g1
          rw [show p + lX true l0 + 1 + lX true r0 - st = p + (lX true l0 + 1 + lX true r0) - st by omega]
          exact f1
        refine cR hst r0 (p + lX true l0 + 1) s h.2.2 hn'.2 ?_ (by omega) (by omega) _ g2
        have := hl2.2
        exact this
      have fin : ∃ n', rn l st v n' (p + lX true l0) (vC Γ fs l0 :: s) := by
        by_cases ha : a = 0
        · rw [if_pos ha] at f4
          by_cases hv0 : vC Γ fs l0 = 0
          · obtain ⟨n', g⟩ := thru (by unfold orV; rw [if_pos ha, if_pos hv0])
            refine ⟨n' + 1, rn1 (by omega) (by simp only [List.length_cons]; omega) f4 ?_ g⟩
            show some (if vC Γ fs l0 = 0 then nI (p + lX true l0 + 1) else _, s) = _
            rw [if_pos hv0]
          · refine ⟨n + 1 + 1, rn1 (by omega) (by simp only [List.length_cons]; omega) f4 ?_ (over (by unfold orV; rw [if_pos ha, if_pos ha, if_neg hv0]))⟩
            show some (if vC Γ fs l0 = 0 then nI (p + lX true l0 + 1) else nI (p + lX true l0 + 1 + lX true r0 + 2), s) = _
            rw [if_neg hv0]
        · rw [if_neg ha] at f4
          by_cases hv0 : vC Γ fs l0 = 0
          · refine ⟨n + 1 + 1, rn1 (by omega) (by simp only [List.length_cons]; omega) f4 ?_ (over (by unfold orV; rw [if_neg ha, if_neg ha, if_pos hv0]))⟩
            show some (if vC Γ fs l0 = 0 then nI (p + lX true l0 + 1 + lX true r0 + 2) else nI (p + lX true l0 + 1), s) = _
            rw [if_pos hv0]
          · obtain ⟨n', g⟩ := thru (by unfold orV; rw [if_neg ha, if_neg hv0])
            refine ⟨n' + 1, rn1 (by omega) (by simp only [List.length_cons]; omega) f4 ?_ g⟩
            show some (if vC Γ fs l0 = 0 then _ else nI (p + lX true l0 + 1), s) = _
            rw [if_neg hv0]
      obtain ⟨n4, h4⟩ := fin
      exact cR hst l0 p s h.2.1 hn'.1 hl3.1 (by omega) (by omega) n4 h4
    · split at h
      · rename_i y0 n0
        have hl' : inL l st p (cX Γ fs true none p l0 ++ [(13, nI (p + lX true l0 + 1 + lX true y0 + 1), 0, 0)] ++ cX Γ fs true none (p + lX true l0 + 1) y0 ++ [(12, nI (p + lX true l0 + 1 + lX true y0 + 1 + lX true n0), 0, 0)] ++ cX Γ fs true none (p + lX true l0 + 1 + lX true y0 + 1) n0) := hl
        have hl1 := inL.app hl'
        have hl2 := inL.app hl1.1
        have hl3 := inL.app hl2.1
        have hl4 := inL.app hl3.1
        rw [List.length_append, List.length_append, List.length_append, cX_len, cX_len] at hl1
        rw [List.length_append, List.length_append, cX_len, cX_len] at hl2
        rw [List.length_append, cX_len] at hl3
        rw [cX_len] at hl4
        have hw1 := wX.l1 h.2.1
        have hw2 := wX.l1 h.2.2.1
        have hw3 := wX.l1 h.2.2.2
        have hst' := hl.1
        have f1 := (inL.hd hl2.2).2
        have f2 := (inL.hd hl4.2).2
        have hlx : ∀ ff vu, lX true (.inner 8 [ff] vv l0 (.inner 9 [] vu y0 n0)) = lX true l0 + lX true y0 + lX true n0 + 2 := fun _ _ => rfl
        rw [hlx] at hs hp hr
        have hn' : (hnX Γ fs l0 || (hnX Γ fs y0 || hnX Γ fs n0)) = false := hn
        rw [Bool.or_eq_false_iff, Bool.or_eq_false_iff] at hn'
        have hr' : rn l st v n (p + lX true l0 + 1 + lX true y0 + 1 + lX true n0) ((if vC Γ fs l0 = 0 then vC Γ fs n0 else vC Γ fs y0) :: s) := by
          rw [show p + lX true l0 + 1 + lX true y0 + 1 + lX true n0 = p + (lX true l0 + lX true y0 + lX true n0 + 2) by omega]
          exact hr
        have fin : ∃ n', rn l st v n' (p + lX true l0) (vC Γ fs l0 :: s) := by
          by_cases hv0 : vC Γ fs l0 = 0
          · rw [if_pos hv0] at hr'
            obtain ⟨n', g⟩ := cR hst n0 (p + lX true l0 + 1 + lX true y0 + 1) s h.2.2.2 hn'.2.2 (by
              have := hl1.2
              rw [show p + (lX true l0 + [((13 : Int32), nI (p + lX true l0 + 1 + lX true y0 + 1), (0 : Int32), (0 : Int32))].length + lX true y0 + [((12 : Int32), nI (p + lX true l0 + 1 + lX true y0 + 1 + lX true n0), (0 : Int32), (0 : Int32))].length) = p + lX true l0 + 1 + lX true y0 + 1 by simp only [List.length_cons, List.length_nil]; omega] at this
              exact this) (by omega) (by omega) _ hr'
            refine ⟨n' + 1, rn1 (by omega) (by simp only [List.length_cons]; omega) f2 ?_ g⟩
            show some (if vC Γ fs l0 = 0 then nI (p + lX true l0 + 1 + lX true y0 + 1) else nI (p + lX true l0 + 1), s) = _
            rw [if_pos hv0]
          · rw [if_neg hv0] at hr'
            have g1 : rn l st v (n + 1) (p + lX true l0 + 1 + lX true y0) (vC Γ fs y0 :: s) := by
              refine rn1 (by omega) (by simp only [List.length_cons]; omega) ?_ (q := (12, nI (p + lX true l0 + 1 + lX true y0 + 1 + lX true n0), 0, 0)) (pc' := p + lX true l0 + 1 + lX true y0 + 1 + lX true n0) (s' := vC Γ fs y0 :: s) rfl hr'
              · rw [show p + lX true l0 + 1 + lX true y0 - st = p + (lX true l0 + [((13 : Int32), nI (p + lX true l0 + 1 + lX true y0 + 1), (0 : Int32), (0 : Int32))].length + lX true y0) - st by simp only [List.length_cons, List.length_nil]; omega]
                exact f1
            obtain ⟨n', g⟩ := cR hst y0 (p + lX true l0 + 1) s h.2.2.1 hn'.2.1 hl3.2 (by omega) (by omega) _ g1
            refine ⟨n' + 1, rn1 (by omega) (by simp only [List.length_cons]; omega) f2 ?_ g⟩
            show some (if vC Γ fs l0 = 0 then _ else nI (p + lX true l0 + 1), s) = _
            rw [if_neg hv0]
        obtain ⟨n4, h4⟩ := fin
        exact cR hst l0 p s h.2.1 hn'.1 hl4.1 (by omega) (by omega) n4 h4
      · exact absurd h.2.2 id
    · exact nomatch h.1
    · exact absurd h id
end RC
