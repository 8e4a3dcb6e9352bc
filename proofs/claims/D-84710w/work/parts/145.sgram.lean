/-! ===== the grammar of statements; statements in the heap ===== -/
set_option maxRecDepth 100000
def actS (k : Int32) : Int32 := if k = 72 then -1 else if k = 40 then 10 else if k = 41 then 8 else if k = 42 then 9 else if k < 44 then -2 else if 51 < k then -2 else k - 44
def pSimple (D : tkL) (d t : Nat) : pR :=
  pNeed D 2 t (if tK D (t + 1) = 62 then pAnd (pCall D (pE' D d) d (tP D t) (tV D t) (t + 1)) fun c t1 => .ok (nd 31 [] c lf, t1)
    else pAnd (pPlace D (pE' D d) d (tP D t) (tV D t) (t + 1)) fun pl t1 => if tK D t1 = 52 then .ok (nd 30 [0] pl lf, t1 + 1) else if tK D t1 = 53 then .ok (nd 30 [1] pl lf, t1 + 1)
      else if (-1 : Int32) ≤ actS (tK D t1) then pAnd (pE D d (t1 + 1)) fun e t2 => .ok (nd 30 [actS (tK D t1)] pl e, t2) else .error (pWr D t1))
def pStart (D : tkL) (d t : Nat) : pR := pNeed D 2 t (pNeed D 72 (t + 1) (pAnd (pE D d (t + 2)) fun e t1 => .ok (nd 23 [tP D t, tV D t] e lf, t1)))
def pTell (D : tkL) (d t : Nat) : pR :=
  pNeed D 2 (t + 1) (if tK D t = 11 ∨ tK D (t + 2) = 64 then pOpen D 64 d (t + 2) (pAnd (pE' D d (t + 3)) fun s t1 => pNeed D 65 t1 (pNeed D 69 (t1 + 1) (.ok (nd 24 [tP D (t + 1), tV D (t + 1), if tK D t = 11 then 1 else 0] s lf, t1 + 2))))
    else if tK D (t + 2) = 72 then pAnd (pE D d (t + 3)) fun e t1 => pNeed D 69 t1 (.ok (nd 23 [tP D (t + 1), tV D (t + 1)] e lf, t1 + 1)) else pNeed D 69 (t + 2) (.ok (nd 23 [tP D (t + 1), tV D (t + 1)] lf lf, t + 3)))
def pSts (D : tkL) (S : Nat → pR) : Nat → Nat → pR
  | 0, _ => .error (0, 0)
  | f + 1, t => if tK D t = 67 then .ok (lf, t) else pAnd (S t) fun s t1 => pAnd (pSts D S f t1) fun ss t2 => .ok (nd 22 [] s ss, t2)
def pBlock (D : tkL) (S : Nat → pR) (d t : Nat) : pR := pOpen D 66 d t (pAnd (pSts D S D.length (t + 1)) fun ss t1 => pNeed D 67 t1 (.ok (nd 21 [] ss lf, t1 + 1)))
def pIf (D : tkL) (S : Nat → pR) (d t : Nat) : pR :=
  pOpen D 14 d t (pAnd (pIn D (pE' D (d - 1)) (d - 1) (t + 1)) fun c t1 => pAnd (S t1) fun y t2 => if tK D t2 = 15 then pAnd (S (t2 + 1)) fun n t3 => .ok (nd 25 [] c (nd 32 [] y n), t3) else .ok (nd 25 [] c (nd 32 [] y (nd 35 [] lf lf)), t2))
def pForS (D : tkL) (d t : Nat) : pR := if tK D t = 69 then .ok (nd 35 [] lf lf, t) else if tK D t = 10 then pStart D d (t + 1) else pSimple D d t
def pForC (D : tkL) (d t : Nat) : pR := if tK D t = 69 then .ok (lf, t) else pE D d t
def pForP (D : tkL) (d t : Nat) : pR := if tK D t = 63 then .ok (nd 35 [] lf lf, t) else pSimple D d t
def pLoopS (D : tkL) (S : Nat → pR) (d t : Nat) : pR :=
  pOpen D (tK D t) d t (if tK D t = 17 then pAnd (S (t + 1)) fun b t1 => pNeed D 16 t1 (pAnd (pIn D (pE' D (d - 1)) (d - 1) (t1 + 1)) fun c t2 => pNeed D 69 t2 (.ok (nd 26 [1] (nd 33 [] (nd 35 [] lf lf) c) (nd 32 [] (nd 35 [] lf lf) b), t2 + 1)))
    else if tK D t = 16 then pAnd (pIn D (pE' D (d - 1)) (d - 1) (t + 1)) fun c t1 => pAnd (S t1) fun b t2 => .ok (nd 26 [0] (nd 33 [] (nd 35 [] lf lf) c) (nd 32 [] (nd 35 [] lf lf) b), t2)
    else pOpen D 62 (d - 1) (t + 1) (pAnd (pForS D (d - 2) (t + 2)) fun s t1 => pNeed D 69 t1 (pAnd (pForC D (d - 2) (t1 + 1)) fun c t2 => pNeed D 69 t2 (pAnd (pForP D (d - 2) (t2 + 1)) fun sp t3 => pNeed D 63 t3 (pAnd (S (t3 + 1)) fun b t4 => .ok (nd 26 [0, 1] (nd 33 [] s c) (nd 32 [] sp b), t4))))))
def pPlain (D : tkL) (d t : Nat) : pR :=
  pAnd (if tK D t = 19 then .ok (nd 27 [tP D t, 1] lf lf, t + 1) else if tK D t = 20 then .ok (nd 27 [tP D t, 0] lf lf, t + 1)
    else if tK D t = 21 then (if tK D (t + 1) = 69 then .ok (nd 28 [tP D (t + 1)] lf lf, t + 1) else pAnd (pE D d (t + 1)) fun e t1 => .ok (nd 28 [tP D (t + 1)] e lf, t1))
    else if tK D t = 22 ∨ tK D t = 24 then pAnd (pIn D (pE' D d) d (t + 1)) fun e t1 => .ok (nd 29 [if tK D t = 22 then 1 else 0] e lf, t1)
    else if tK D t = 69 then .ok (nd 20 [] lf lf, t) else pSimple D d t) fun s t1 => pNeed D 69 t1 (.ok (s, t1 + 1))
def pStF (D : tkL) (S : Nat → pR) (d t : Nat) : pR :=
  if tK D t = 66 then pBlock D S d t else if tK D t = 10 ∨ tK D t = 11 then pTell D d t else if tK D t = 14 then pIf D S d t else if tK D t = 16 ∨ tK D t = 17 ∨ tK D t = 18 then pLoopS D S d t else pPlain D d t
/-- a statement where d more may be opened -/
def pS (D : tkL) : Nat → Nat → pR
  | 0 => pStF D (fun _ => .error (0, 0)) 0
  | d + 1 => pStF D (pS D d) (d + 1)
def pS' (D : tkL) (d : Nat) : Nat → pR := match d with
  | 0 => fun _ => .error (0, 0)
  | d + 1 => pS D d
theorem pS_eq (D : tkL) (d t : Nat) : pS D d t = pStF D (pS' D d) d t := by cases d <;> rfl
theorem pS'_s {D : tkL} {d' : Nat} : pS' D (d' + 1) = pS D d' := rfl
/-! in the heap -/
def orX (G : xG) (A : xA) (N : Nat → Prop) (t : Tr) (o : Option Nat) : Prop := (t = lf ∧ o = none) ∨ ∃ f, isE t ∧ o = some f ∧ rX G A N t [] [f]
def rS (G : xG) (A : xA) (x : Nat) (N : Nat → Prop) : Tr → List (Option Nat) → Prop
  | .leaf, es => es = []
  | .inner k d _ l r, es =>
    match k, d with
    | 20, [] => es = [some (x + 12)]
    | 21, [] => ∃ e pl vs, es = [some e] ∧ N e ∧ A.tg e = 5 ∧ A.P e 0 = some pl ∧ N pl ∧ xL G A pl vs ∧ rS G A x N l (vs.map some)
    | 22, [] => ∃ e vs, es = some e :: vs ∧ rS G A x N l [some e] ∧ rS G A x N r vs
    | 23, [p, nm] => ∃ e, es = [some e] ∧ N e ∧ A.tg e = 25 ∧ A.I e 1 = p ∧ A.I e 0 = nm ∧ orX G A N l (A.P e 2)
    | 24, [p, nm, b] => ∃ e s, es = [some e] ∧ N e ∧ A.tg e = 24 ∧ A.I e 1 = p ∧ A.I e 0 = nm ∧ A.I e 2 = b ∧ A.P e 3 = some s ∧ isE l ∧ rX G A N l [] [s]
    | 25, [] => ∃ e c y, es = [some e] ∧ N e ∧ A.tg e = 26 ∧ A.P e 0 = some c ∧ A.P e 1 = some y ∧ isE l ∧ rX G A N l [] [c] ∧ rS G A x N r [some y, A.P e 2]
    | 26, b :: _ => ∃ e y, es = [some e] ∧ N e ∧ A.tg e = 27 ∧ A.I e 4 = b ∧ A.P e 3 = some y ∧ rS G A x N l [A.P e 0, A.P e 2] ∧ rS G A x N r [A.P e 1, some y]
    | 27, [p, b] => ∃ e, es = [some e] ∧ N e ∧ A.tg e = 30 ∧ A.I e 0 = p ∧ A.I e 1 = b
    | 28, [p] => ∃ e, es = [some e] ∧ N e ∧ A.tg e = 31 ∧ A.I e 0 = p ∧ orX G A N l (A.P e 1)
    | 29, [b] => ∃ e o, es = [some e] ∧ N e ∧ A.tg e = 32 ∧ A.I e 1 = b ∧ A.P e 0 = some o ∧ isE l ∧ rX G A N l [] [o]
    | 30, [a] => ∃ e n, es = [some e] ∧ N e ∧ A.tg e = 29 ∧ A.I e 1 = a ∧ A.P e 0 = some n ∧ isE l ∧ rX G A N l [] [n] ∧ orX G A N r (A.P e 2)
    | 31, [] => ∃ e c, es = [some e] ∧ N e ∧ A.tg e = 28 ∧ A.P e 0 = some c ∧ isE l ∧ rX G A N l [] [c]
    | 32, [] => ∃ a b, es = [a, b] ∧ rS G A x N l [a] ∧ rS G A x N r [b]
    | 33, [] => ∃ a b, es = [a, b] ∧ rS G A x N l [a] ∧ orX G A N r b
    | 35, [] => es = [none]
    | _, _ => False
def isS : Tr → Prop
  | .inner k _ _ _ _ => k = 20 ∨ k = 21 ∨ (23 ≤ k ∧ k ≤ 31)
  | .leaf => False
section RS
variable {G : xG} {A B : xA} {N N' : Nat → Prop} {S : Nat → Prop} {x : Nat}
theorem orX.fr (hw : xok G A) (hwB : xok G B) (hf : Fr S A B) (hS : Kp S N A) {t : Tr} {o : Option Nat} (h : orX G A N t o) : orX G B N t o := by
  rcases h with h | ⟨f, h1, h2, h3⟩
  · exact Or.inl h
  · exact Or.inr ⟨f, h1, h2, rX.fr hw hwB hf _ hS h3⟩
theorem orX.mn (hw : xok G A) (hn : ∀ a, N a → a < A.n → N' a) {t : Tr} {o : Option Nat} (h : orX G A N t o) : orX G A N' t o := by
  rcases h with h | ⟨f, h1, h2, h3⟩
  · exact Or.inl h
  · exact Or.inr ⟨f, h1, h2, rX.mn hw _ hn h3⟩
theorem rS.fr (hw : xok G A) (hwB : xok G B) (hf : Fr S A B) (hS : Kp S N A) : ∀ (t : Tr) {es : List (Option Nat)}, rS G A x N t es → rS G B x N t es := by
  intro t
  induction t with
  | leaf => intro es h; exact h
  | inner k d v l r ihl ihr =>
    intro es h
    unfold rS at h ⊢
    split at h
    · exact h
    · obtain ⟨e, pl, vs, h1, h2, h3, h4, h5, h6, h7⟩ := h
      obtain ⟨q1, q2, q3⟩ := hf.ob hw hS h2 h3
      exact ⟨e, pl, vs, h1, h2, q1, by rw [(q3 _).2.2]; exact h4, h5, h6.fr' hw hwB hf hS h5, ihl h7⟩
    · obtain ⟨e, vs, h1, h2, h3⟩ := h
      exact ⟨e, vs, h1, ihl h2, ihr h3⟩
    · obtain ⟨e, h1, h2, h3, h4, h5, h6⟩ := h
      obtain ⟨q1, q2, q3⟩ := hf.ob hw hS h2 h3
      exact ⟨e, h1, h2, q1, by rw [(q3 _).1]; exact h4, by rw [(q3 _).1]; exact h5, by rw [(q3 _).2.2]; exact h6.fr hw hwB hf hS⟩
    · obtain ⟨e, s, h1, h2, h3, h4, h5, h6, h7, h8, h9⟩ := h
      obtain ⟨q1, q2, q3⟩ := hf.ob hw hS h2 h3
      exact ⟨e, s, h1, h2, q1, by rw [(q3 _).1]; exact h4, by rw [(q3 _).1]; exact h5, by rw [(q3 _).1]; exact h6, by rw [(q3 _).2.2]; exact h7, h8, rX.fr hw hwB hf _ hS h9⟩
    · obtain ⟨e, c, y, h1, h2, h3, h4, h5, h6, h7, h8⟩ := h
      obtain ⟨q1, q2, q3⟩ := hf.ob hw hS h2 h3
      exact ⟨e, c, y, h1, h2, q1, by rw [(q3 _).2.2]; exact h4, by rw [(q3 _).2.2]; exact h5, h6, rX.fr hw hwB hf _ hS h7, by rw [(q3 _).2.2]; exact ihr h8⟩
    · obtain ⟨e, y, h1, h2, h3, h4, h5, h6, h7⟩ := h
      obtain ⟨q1, q2, q3⟩ := hf.ob hw hS h2 h3
      exact ⟨e, y, h1, h2, q1, by rw [(q3 _).1]; exact h4, by rw [(q3 _).2.2]; exact h5, by rw [(q3 _).2.2, (q3 _).2.2]; exact ihl h6, by rw [(q3 _).2.2]; exact ihr h7⟩
    · obtain ⟨e, h1, h2, h3, h4, h5⟩ := h
      obtain ⟨q1, q2, q3⟩ := hf.ob hw hS h2 h3
      exact ⟨e, h1, h2, q1, by rw [(q3 _).1]; exact h4, by rw [(q3 _).1]; exact h5⟩
    · obtain ⟨e, h1, h2, h3, h4, h5⟩ := h
      obtain ⟨q1, q2, q3⟩ := hf.ob hw hS h2 h3
      exact ⟨e, h1, h2, q1, by rw [(q3 _).1]; exact h4, by rw [(q3 _).2.2]; exact h5.fr hw hwB hf hS⟩
    · obtain ⟨e, o, h1, h2, h3, h4, h5, h6, h7⟩ := h
      obtain ⟨q1, q2, q3⟩ := hf.ob hw hS h2 h3
      exact ⟨e, o, h1, h2, q1, by rw [(q3 _).1]; exact h4, by rw [(q3 _).2.2]; exact h5, h6, rX.fr hw hwB hf _ hS h7⟩
    · obtain ⟨e, n, h1, h2, h3, h4, h5, h6, h7, h8⟩ := h
      obtain ⟨q1, q2, q3⟩ := hf.ob hw hS h2 h3
      exact ⟨e, n, h1, h2, q1, by rw [(q3 _).1]; exact h4, by rw [(q3 _).2.2]; exact h5, h6, rX.fr hw hwB hf _ hS h7, by rw [(q3 _).2.2]; exact h8.fr hw hwB hf hS⟩
    · obtain ⟨e, c, h1, h2, h3, h4, h5, h6⟩ := h
      obtain ⟨q1, q2, q3⟩ := hf.ob hw hS h2 h3
      exact ⟨e, c, h1, h2, q1, by rw [(q3 _).2.2]; exact h4, h5, rX.fr hw hwB hf _ hS h6⟩
    · obtain ⟨a, b, h1, h2, h3⟩ := h
      exact ⟨a, b, h1, ihl h2, ihr h3⟩
    · obtain ⟨a, b, h1, h2, h3⟩ := h
      exact ⟨a, b, h1, ihl h2, h3.fr hw hwB hf hS⟩
    · exact h
    · exact h
theorem rS.mn (hw : xok G A) (hn : ∀ a, N a → a < A.n → N' a) : ∀ (t : Tr) {es : List (Option Nat)}, rS G A x N t es → rS G A x N' t es := by
  intro t
  induction t with
  | leaf => intro es h; exact h
  | inner k d v l r ihl ihr =>
    intro es h
    unfold rS at h ⊢
    split at h
    · exact h
    · obtain ⟨e, pl, vs, h1, h2, h3, h4, h5, h6, h7⟩ := h
      exact ⟨e, pl, vs, h1, hn _ h2 (hw.1.lt h3), h3, h4, hn _ h5 (hw.1.lt h6.1), h6, ihl h7⟩
    · obtain ⟨e, vs, h1, h2, h3⟩ := h
      exact ⟨e, vs, h1, ihl h2, ihr h3⟩
    · obtain ⟨e, h1, h2, h3, h4, h5, h6⟩ := h
      exact ⟨e, h1, hn _ h2 (hw.1.lt h3), h3, h4, h5, h6.mn hw hn⟩
    · obtain ⟨e, s, h1, h2, h3, h4, h5, h6, h7, h8, h9⟩ := h
      exact ⟨e, s, h1, hn _ h2 (hw.1.lt h3), h3, h4, h5, h6, h7, h8, rX.mn hw _ hn h9⟩
    · obtain ⟨e, c, y, h1, h2, h3, h4, h5, h6, h7, h8⟩ := h
      exact ⟨e, c, y, h1, hn _ h2 (hw.1.lt h3), h3, h4, h5, h6, rX.mn hw _ hn h7, ihr h8⟩
    · obtain ⟨e, y, h1, h2, h3, h4, h5, h6, h7⟩ := h
      exact ⟨e, y, h1, hn _ h2 (hw.1.lt h3), h3, h4, h5, ihl h6, ihr h7⟩
    · obtain ⟨e, h1, h2, h3, h4, h5⟩ := h
      exact ⟨e, h1, hn _ h2 (hw.1.lt h3), h3, h4, h5⟩
    · obtain ⟨e, h1, h2, h3, h4, h5⟩ := h
      exact ⟨e, h1, hn _ h2 (hw.1.lt h3), h3, h4, h5.mn hw hn⟩
    · obtain ⟨e, o, h1, h2, h3, h4, h5, h6, h7⟩ := h
      exact ⟨e, o, h1, hn _ h2 (hw.1.lt h3), h3, h4, h5, h6, rX.mn hw _ hn h7⟩
    · obtain ⟨e, n, h1, h2, h3, h4, h5, h6, h7, h8⟩ := h
      exact ⟨e, n, h1, hn _ h2 (hw.1.lt h3), h3, h4, h5, h6, rX.mn hw _ hn h7, h8.mn hw hn⟩
    · obtain ⟨e, c, h1, h2, h3, h4, h5, h6⟩ := h
      exact ⟨e, c, h1, hn _ h2 (hw.1.lt h3), h3, h4, h5, rX.mn hw _ hn h6⟩
    · obtain ⟨a, b, h1, h2, h3⟩ := h
      exact ⟨a, b, h1, ihl h2, ihr h3⟩
    · obtain ⟨a, b, h1, h2, h3⟩ := h
      exact ⟨a, b, h1, ihl h2, h3.mn hw hn⟩
    · exact h
    · exact h
theorem rS.ob {t : Tr} {e : Nat} (hH : xHs G A x) (hi : isS t) (h : rS G A x N t [some e]) : xS A e := by
  cases t with
  | leaf => exact hi.elim
  | inner k d v l r =>
    unfold rS at h
    split at h
    · cases h
      exact ⟨4, hs_t12 hH, by decide⟩
    · obtain ⟨e, pl, vs, h1, h2, h3, h4⟩ := h
      cases h1
      exact ⟨4, h3, by decide⟩
    · rcases hi with q | q | q <;> exact absurd q (by decide)
    · obtain ⟨e, h1, h2, h3, h4⟩ := h
      cases h1
      exact ⟨24, h3, by decide⟩
    · obtain ⟨e, s, h1, h2, h3, h4⟩ := h
      cases h1
      exact ⟨23, h3, by decide⟩
    · obtain ⟨e, s, y, h1, h2, h3, h4⟩ := h
      cases h1
      exact ⟨25, h3, by decide⟩
    · obtain ⟨e, s, h1, h2, h3, h4⟩ := h
      cases h1
      exact ⟨26, h3, by decide⟩
    · obtain ⟨e, h1, h2, h3, h4⟩ := h
      cases h1
      exact ⟨29, h3, by decide⟩
    · obtain ⟨e, h1, h2, h3, h4⟩ := h
      cases h1
      exact ⟨30, h3, by decide⟩
    · obtain ⟨e, s, h1, h2, h3, h4⟩ := h
      cases h1
      exact ⟨31, h3, by decide⟩
    · obtain ⟨e, s, h1, h2, h3, h4⟩ := h
      cases h1
      exact ⟨28, h3, by decide⟩
    · obtain ⟨e, s, h1, h2, h3, h4⟩ := h
      cases h1
      exact ⟨27, h3, by decide⟩
    · rcases hi with q | q | q <;> exact absurd q (by decide)
    · rcases hi with q | q | q <;> exact absurd q (by decide)
    · rcases hi with q | q | q <;> exact absurd q (by decide)
    · exact h.elim
theorem xS.el {e : Nat} (h : xS A e) : xEl A e := by
  obtain ⟨c, h1, h2⟩ := h
  have : ∀ c ∈ sCl, c < 38 := by decide
  exact xEl_of h1 (this c h2)
end RS
