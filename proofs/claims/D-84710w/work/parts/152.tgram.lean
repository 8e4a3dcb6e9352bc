/-! ===== the grammar of what is told; that in the heap ===== -/
set_option maxRecDepth 100000
def pFm (D : tkL) (t : Nat) : pR :=
  if tK D t = 11 ∨ tK D t = 10 then pNeed D 2 (t + 1) (if tK D t = 11 ∨ tK D (t + 2) = 64 then pOpen D 64 39 (t + 2) (pNeed D 65 (t + 3) (.ok (nd 44 [tP D t, tP D (t + 1), tV D (t + 1), 1, if tK D t = 11 then 1 else 0] lf lf, t + 4))) else .ok (nd 44 [tP D t, tP D (t + 1), tV D (t + 1), 0, 0] lf lf, t + 2))
  else .error (pWr D t)
def tRt : Tr → Tr → Tr
  | .inner k d v l _, r => .inner k d v l r
  | .leaf, _ => .leaf
def pFms (D : tkL) : Nat → Nat → pR
  | 0, _ => .error (0, 0)
  | f + 1, t => pAnd (pFm D t) fun a t1 => if tK D t1 = 68 then pAnd (pFms D f (t1 + 1)) fun s t2 => .ok (tRt a s, t2) else .ok (a, t1)
def pFun (D : tkL) (M : Int32 → Int32) (vd p nm : Int32) (t : Nat) : pR :=
  pOpen D 62 40 t (pAnd (if tK D (t + 1) = 63 then .ok (lf, t + 1) else pFms D D.length (t + 1)) fun fs t1 => pNeed D 63 t1 (pAnd (pBlock D (pS' D 40) 40 (t1 + 1)) fun b t2 => .ok (nd 43 [p, nm, vd, M nm] fs b, t2)))
def pRowT (D : tkL) (b p nm : Int32) (t : Nat) : pR :=
  pOpen D 64 40 t (pAnd (pE D 39 (t + 1)) fun s t1 => pNeed D 65 t1 (pAnd (if tK D (t1 + 1) = 72 then pOpen D 66 40 (t1 + 2) (pAnd (pArgs D (pE D 39) D.length (t1 + 3)) fun vs t2 => pNeed D 67 t2 (.ok (vs, t2 + 1))) else .ok (lf, t1 + 1)) fun vs t3 => pNeed D 69 t3 (.ok (nd 42 [p, nm, b] s vs, t3 + 1))))
def pGlob (D : tkL) (p nm : Int32) (t : Nat) : pR := pAnd (if tK D t = 72 then pE D 40 (t + 1) else .ok (lf, t)) fun e t1 => pNeed D 69 t1 (.ok (nd 41 [p, nm] e lf, t1 + 1))
def pT (D : tkL) (M : Int32 → Int32) (t : Nat) : pR :=
  if tK D t = 13 then pNeed D 10 (t + 1) (pNeed D 2 (t + 2) (pNeed D 72 (t + 3) (pAnd (pE D 40 (t + 4)) fun e t1 => pNeed D 69 t1 (.ok (nd 40 [tP D (t + 2), tV D (t + 2)] e lf, t1 + 1)))))
  else if tK D t = 12 ∨ tK D t = 11 ∨ tK D t = 10 then pNeed D 2 (t + 1) (if ¬ tK D t = 11 ∧ (tK D t = 12 ∨ tK D (t + 2) = 62) then pFun D M (if tK D t = 12 then 1 else 0) (tP D (t + 1)) (tV D (t + 1)) (t + 2)
    else if tK D t = 11 ∨ tK D (t + 2) = 64 then pRowT D (if tK D t = 11 then 1 else 0) (tP D (t + 1)) (tV D (t + 1)) (t + 2) else pGlob D (tP D (t + 1)) (tV D (t + 1)) (t + 2))
  else .error (pWr D t)
def pTs (D : tkL) (M : Int32 → Int32) : Nat → Nat → pR
  | 0, _ => .error (0, 0)
  | f + 1, t => if tK D t = 0 then .ok (lf, t) else pAnd (pT D M t) fun e t1 => pAnd (pTs D M f t1) fun s t2 => .ok (nd 46 [] e s, t2)
/-! in the heap -/
def rF (A : xA) (N : Nat → Prop) : Tr → List Nat → Prop
  | .leaf, vs => vs = []
  | .inner k d _ _ r, vs =>
    match k, d with
    | 44, [fi, p, nm, a, b] => ∃ v ws, vs = v :: ws ∧ N v ∧ A.tg v = 23 ∧ A.I v 2 = fi ∧ A.I v 1 = p ∧ A.I v 0 = nm ∧ A.I v 3 = a ∧ A.I v 4 = b ∧ rF A N r ws
    | _, _ => False
def rT (G : xG) (A : xA) (x : Nat) (N : Nat → Prop) (e : Nat) : Tr → Prop
  | .leaf => False
  | .inner k d _ l r =>
    match k, d with
    | 40, [p, nm] => N e ∧ A.tg e = 14 ∧ A.I e 0 = 0 ∧ A.I e 2 = p ∧ A.I e 1 = nm ∧ ∃ v, A.P e 6 = some v ∧ isE l ∧ rX G A N l [] [v]
    | 41, [p, nm] => N e ∧ A.tg e = 14 ∧ A.I e 0 = 1 ∧ A.I e 2 = p ∧ A.I e 1 = nm ∧ A.I e 3 = 0 ∧ orX G A N l (A.P e 6)
    | 42, [p, nm, b] => N e ∧ A.tg e = 14 ∧ A.I e 0 = 2 ∧ A.I e 2 = p ∧ A.I e 1 = nm ∧ A.I e 3 = b ∧ ∃ s vl vs, A.P e 6 = some s ∧ isE l ∧ rX G A N l [] [s] ∧ A.P e 7 = some vl ∧ N vl ∧ xL G A vl vs ∧ rX G A N r [] vs
    | 43, [p, nm, vd, mn] => N e ∧ A.tg e = 14 ∧ A.I e 0 = 6 ∧ A.I e 2 = p ∧ A.I e 1 = nm ∧ A.I e 4 = vd ∧ A.I e 5 = mn ∧ ∃ fl fs b, A.P e 8 = some fl ∧ N fl ∧ xL G A fl fs ∧ rF A N l fs ∧ A.P e 9 = some b ∧ A.tg b = 5 ∧ rS G A x N r [some b]
    | _, _ => False
section RT
variable {G : xG} {A B : xA} {N N' : Nat → Prop} {S : Nat → Prop} {x e : Nat}
theorem rF.fr (hw : xok G A) (hf : Fr S A B) (hS : Kp S N A) : ∀ (t : Tr) {vs : List Nat}, rF A N t vs → rF B N t vs := by
  intro t
  induction t with
  | leaf => intro vs h; exact h
  | inner k d v l r ihl ihr =>
    intro vs h
    unfold rF at h ⊢
    split at h
    · obtain ⟨v, ws, h1, h2, h3, h4, h5, h6, h7, h8, h9⟩ := h
      obtain ⟨q1, q2, q3⟩ := hf.ob hw hS h2 h3
      exact ⟨v, ws, h1, h2, q1, by rw [(q3 _).1]; exact h4, by rw [(q3 _).1]; exact h5, by rw [(q3 _).1]; exact h6, by rw [(q3 _).1]; exact h7, by rw [(q3 _).1]; exact h8, ihr h9⟩
    · exact h
theorem rF.mn (hw : xok G A) (hn : ∀ a, N a → a < A.n → N' a) : ∀ (t : Tr) {vs : List Nat}, rF A N t vs → rF A N' t vs := by
  intro t
  induction t with
  | leaf => intro vs h; exact h
  | inner k d v l r ihl ihr =>
    intro vs h
    unfold rF at h ⊢
    split at h
    · obtain ⟨v, ws, h1, h2, h3, h⟩ := h
      obtain ⟨h4, h5, h6, h7, h8, h9⟩ := h
      exact ⟨v, ws, h1, hn _ h2 (hw.1.lt h3), h3, h4, h5, h6, h7, h8, ihr h9⟩
    · exact h
theorem rT.fr (hw : xok G A) (hwB : xok G B) (hf : Fr S A B) (hS : Kp S N A) : ∀ {t : Tr}, rT G A x N e t → rT G B x N e t
  | .leaf, h => h
  | .inner k d v l r, h => by
    dsimp only [rT] at h ⊢
    split at h
    · obtain ⟨h1, h2, h3, h4, h5, v, h6, h7, h8⟩ := h
      obtain ⟨q1, q2, q3⟩ := hf.ob hw hS h1 h2
      exact ⟨h1, q1, by rw [(q3 _).1]; exact h3, by rw [(q3 _).1]; exact h4, by rw [(q3 _).1]; exact h5, v, by rw [(q3 _).2.2]; exact h6, h7, rX.fr hw hwB hf _ hS h8⟩
    · obtain ⟨h1, h2, h3, h4, h5, h5', h6⟩ := h
      obtain ⟨q1, q2, q3⟩ := hf.ob hw hS h1 h2
      exact ⟨h1, q1, by rw [(q3 _).1]; exact h3, by rw [(q3 _).1]; exact h4, by rw [(q3 _).1]; exact h5, by rw [(q3 _).1]; exact h5', by rw [(q3 _).2.2]; exact h6.fr hw hwB hf hS⟩
    · obtain ⟨h1, h2, h3, h4, h5, h6, s, vl, vs, h7, h8, h9, h10, h11, h12, h13⟩ := h
      obtain ⟨q1, q2, q3⟩ := hf.ob hw hS h1 h2
      exact ⟨h1, q1, by rw [(q3 _).1]; exact h3, by rw [(q3 _).1]; exact h4, by rw [(q3 _).1]; exact h5, by rw [(q3 _).1]; exact h6, s, vl, vs, by rw [(q3 _).2.2]; exact h7, h8, rX.fr hw hwB hf _ hS h9, by rw [(q3 _).2.2]; exact h10, h11, h12.fr' hw hwB hf hS h11, rX.fr hw hwB hf _ hS h13⟩
    · obtain ⟨h1, h2, h3, h4, h5, h6, h7, fl, fs, b, h8, h9, h10, h11, h12, h13, h14⟩ := h
      obtain ⟨q1, q2, q3⟩ := hf.ob hw hS h1 h2
      exact ⟨h1, q1, by rw [(q3 _).1]; exact h3, by rw [(q3 _).1]; exact h4, by rw [(q3 _).1]; exact h5, by rw [(q3 _).1]; exact h6, by rw [(q3 _).1]; exact h7, fl, fs, b, by rw [(q3 _).2.2]; exact h8, h9, h10.fr' hw hwB hf hS h9, rF.fr hw hf hS _ h11, by rw [(q3 _).2.2]; exact h12, (hf.tg (hw.1.lt h13)).trans h13, rS.fr hw hwB hf hS _ h14⟩
    · exact h
theorem rT.mn (hw : xok G A) (hn : ∀ a, N a → a < A.n → N' a) : ∀ {t : Tr}, rT G A x N e t → rT G A x N' e t
  | .leaf, h => h
  | .inner k d v l r, h => by
    dsimp only [rT] at h ⊢
    split at h
    · obtain ⟨h1, h2, h3, h4, h5, v, h6, h7, h8⟩ := h
      exact ⟨hn _ h1 (hw.1.lt h2), h2, h3, h4, h5, v, h6, h7, rX.mn hw _ hn h8⟩
    · obtain ⟨h1, h2, h3, h4, h5, h5', h6⟩ := h
      exact ⟨hn _ h1 (hw.1.lt h2), h2, h3, h4, h5, h5', h6.mn hw hn⟩
    · obtain ⟨h1, h2, h3, h4, h5, h6, s, vl, vs, h7, h8, h9, h10, h11, h12, h13⟩ := h
      exact ⟨hn _ h1 (hw.1.lt h2), h2, h3, h4, h5, h6, s, vl, vs, h7, h8, rX.mn hw _ hn h9, h10, hn _ h11 (hw.1.lt h12.1), h12, rX.mn hw _ hn h13⟩
    · obtain ⟨h1, h2, h3, h4, h5, h6, h7, fl, fs, b, h8, h9, h10, h11, h12, h13, h14⟩ := h
      exact ⟨hn _ h1 (hw.1.lt h2), h2, h3, h4, h5, h6, h7, fl, fs, b, h8, hn _ h9 (hw.1.lt h10.1), h10, rF.mn hw hn _ h11, h12, h13, rS.mn hw hn _ h14⟩
    · exact h
theorem rT.tg {t : Tr} (h : rT G A x N e t) : N e ∧ A.tg e = 14 := by
  cases t with
  | leaf => exact h.elim
  | inner k d v l r =>
    dsimp only [rT] at h
    split at h
    · exact ⟨h.1, h.2.1⟩
    · exact ⟨h.1, h.2.1⟩
    · exact ⟨h.1, h.2.1⟩
    · exact ⟨h.1, h.2.1⟩
    · exact h.elim
end RT
/-! names and text, which the parser reads alone -/
def nmK (D : tkL) (nm : List (Nat × Nat)) : Prop := ∀ t, tK D t = 2 → ∃ k, k < nm.length ∧ tV D t = nI k
def isM (tx : Nat → Int32) (nm : List (Nat × Nat)) (k : Int32) : Int32 := if isWd tx (nm.getD (ix k) (0, 0)).1 (nm.getD (ix k) (0, 0)).2 (strB 60) = true then 1 else 0
def TC (x : Nat) (D : tkL) (nm : List (Nat × Nat)) (tx : Nat → Int32) (n : Nat) (A : xA) : Prop := A.P (x + 3) 7 = some (x + 1) ∧ tJ A.I x n tx ∧ nmA A.I x nm ∧ nmIn n nm ∧ nm.length ≤ 4000 ∧ nmK D nm
section TCs
variable {G : xG} {A B : xA} {S : Nat → Prop} {x t op : Nat} {D : tkL} {nm : List (Nat × Nat)} {tx : Nat → Int32} {n : Nat}
theorem TC.fr (h : TC x D nm tx n A) (hH : x + 110 ≤ A.n) (hf : Fr S A B) (hS : ∀ a, a < x + 110 → a ≠ x + 2 → ¬ S a) : TC x D nm tx n B := by
  obtain ⟨h1, h2, h3, h4, h5, h6⟩ := h
  have q : ∀ a k, a < x + 110 → a ≠ x + 2 → B.I a k = A.I a k := fun a k ha ha2 => hf.I (by omega) (hS a ha ha2)
  refine ⟨(hf.P (by omega) (hS _ (by omega) (by omega))).trans h1, ⟨(q _ _ (by omega) (by omega)).trans h2.1, h2.2.1, fun k hk => ?_⟩, fun i z hz => ?_, h4, h5, h6⟩
  · rw [q _ _ (by omega) (by omega)]
    exact h2.2.2 k hk
  · rw [q _ _ (by omega) (by omega), q _ _ (by omega) (by omega)]
    exact h3 i z hz
theorem TC.pf (h : TC x D nm tx n A) (hH : x + 110 ≤ A.n) (hf : pf x A B) : TC x D nm tx n B := h.fr hH hf.1 (fun a _ q z => q z)
theorem s_X2_isMain (hO : xHO G) (hH : xHs G A x) (h : TC x D nm tx n A) {k : Int32} (hk : ∃ j, j < nm.length ∧ k = nI j) : w_X2_isMain G (x + 3) k (fun v B => isM tx nm k = v ∧ A = B) A := by
  intro _
  obtain ⟨j, hj, rfl⟩ := hk
  obtain ⟨h1, h2, h3, h4, h5, h6⟩ := h
  have e : ix (nI j) = j := nI_clamp (by omega)
  have hg : nm[j]? = some (nm.getD j (0, 0)) := by rw [List.getD_eq_getElem?_getD, List.getElem?_eq_getElem hj]; rfl
  obtain ⟨g1, g2⟩ := h3 j _ hg
  have hin := h4 _ (List.mem_of_getElem? hg)
  refine ⟨hs_t3 hH, _, hs_P3_5 hH, hs_t9 hH, ?_, _, hs_P3_6 hH, hs_t10 hH, ?_, ?_⟩
  · rw [hs_n9 hH]
    exact vp_in_nI (by omega) (by decide)
  · rw [hs_n10 hH]
    exact vp_in_nI (by omega) (by decide)
  · rw [e, g1, g2]
    refine ⟨_, s_X2_isWord hO ⟨hH, h1, h2⟩ (i := 60) hin (by decide) (Q := fun v B => isM tx nm (nI j) = v ∧ A = B) ⟨?_, rfl⟩, fun v B _ _ q => q⟩
    rw [isM, e]
end TCs
