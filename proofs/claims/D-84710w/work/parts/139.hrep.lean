/-! ===== trees in the heap ===== -/
set_option maxRecDepth 100000
def isE : Tr → Prop
  | .inner k _ _ _ _ => k ≤ 8
  | .leaf => False
/-- a tree lies in the heap, from n0 on; acts and parts of a chain that goes on -/
def rX (G : xG) (A : xA) (N : Nat → Prop) : Tr → List Int32 → List Nat → Prop
  | .leaf, as, es => as = [] ∧ es = []
  | .inner k d _ l r, as, es =>
    match k, d with
    | 0, [f, v] => as = [] ∧ ∃ e, es = [e] ∧ N e ∧ A.tg e = 15 ∧ A.I e 0 = f ∧ A.I e 1 = v
    | 1, [f, p] => as = [] ∧ ∃ e, es = [e] ∧ N e ∧ A.tg e = 18 ∧ A.I e 0 = f ∧ A.I e 1 = p
    | 2, [f, p, nm] => as = [] ∧ ∃ e, es = [e] ∧ N e ∧ A.tg e = 17 ∧ A.I e 0 = f ∧ A.I e 2 = p ∧ A.I e 1 = nm ∧ A.I e 3 = -1 ∧ A.P e 4 = none
    | 3, [f, p, nm, row] => as = [] ∧ ∃ e i, es = [e] ∧ N e ∧ A.tg e = 17 ∧ A.I e 0 = f ∧ A.I e 2 = p ∧ A.I e 1 = nm ∧ A.I e 3 = row ∧ A.P e 4 = some i ∧ rX G A (fun a => N a ∧ a ≠ e) l [] [i]
    | 4, [f, p, nm, en] => as = [] ∧ ∃ e gl vs, es = [e] ∧ N e ∧ A.tg e = 16 ∧ A.I e 0 = f ∧ A.I e 2 = p ∧ A.I e 1 = nm ∧ A.I e 3 = en ∧ A.P e 4 = some gl ∧ N gl ∧ xL G A gl vs ∧ rX G A (fun a => N a ∧ a ≠ e) l [] vs
    | 5, f :: ss => as = [] ∧ ∃ e sa o, es = [e] ∧ N e ∧ A.tg e = 19 ∧ A.I e 0 = f ∧ A.P e 1 = some sa ∧ N sa ∧ A.tg sa = 200 ∧ A.ln sa = ss.length ∧ (∀ i s, ss[i]? = some s → A.I sa i = s) ∧ A.P e 2 = some o ∧ rX G A (fun a => N a ∧ a ≠ e) l [] [o]
    | 6, [f, a] => (∃ bs vs e', as = bs ++ [a] ∧ es = vs ++ [e'] ∧ rX G A N l bs vs ∧ rX G A N r [] [e']) ∨
      (as = [] ∧ ∃ e ar pl bs vs e', es = [e] ∧ N e ∧ A.tg e = 21 ∧ A.I e 0 = f ∧ A.P e 1 = some ar ∧ N ar ∧ A.tg ar = 200 ∧ A.ln ar = bs.length + 1 ∧ (∀ i b, (bs ++ [a])[i]? = some b → A.I ar i = b) ∧ (∀ b ∈ bs, b < 100) ∧ A.P e 2 = some pl ∧ N pl ∧ xL G A pl (vs ++ [e']) ∧ rX G A (fun a => N a ∧ a ≠ e) l bs vs ∧ rX G A (fun a => N a ∧ a ≠ e) r [] [e'])
    | 7, [f, a] => (∃ bs vs e', as = bs ++ [100 + a] ∧ es = vs ++ [e'] ∧ rX G A N l bs vs ∧ rX G A N r [] [e']) ∨
      (as = [] ∧ ∃ e pl bs vs e', es = [e] ∧ N e ∧ A.tg e = 20 ∧ A.I e 0 = f ∧ A.I e 1 = a ∧ (∀ b ∈ bs, b = 100 + a) ∧ A.P e 2 = some pl ∧ N pl ∧ xL G A pl (vs ++ [e']) ∧ rX G A (fun a => N a ∧ a ≠ e) l bs vs ∧ rX G A (fun a => N a ∧ a ≠ e) r [] [e'])
    | 8, [f] => as = [] ∧ ∃ e a y n, es = [e] ∧ N e ∧ A.tg e = 22 ∧ A.I e 0 = f ∧ A.P e 1 = some a ∧ A.P e 2 = some y ∧ A.P e 3 = some n ∧ rX G A (fun a => N a ∧ a ≠ e) l [] [a] ∧ rX G A (fun a => N a ∧ a ≠ e) r [] [y, n]
    | 9, [] => as = [] ∧ ∃ y n, es = [y, n] ∧ rX G A N l [] [y] ∧ rX G A N r [] [n]
    | 10, [] => as = [] ∧ ∃ e vs, es = e :: vs ∧ rX G A N l [] [e] ∧ rX G A N r [] vs
    | _, _ => False
section RX
variable {G : xG} {A B : xA} {N : Nat → Prop} {S : Nat → Prop} {e : Nat}
/-- fields of an object that is not touched -/
theorem Fr.ob {t : Nat} (hf : Fr S A B) (hw : xok G A) (hS : Kp S N A) (he : N e) (ht : A.tg e = t) (h0 : ((0 < t ∧ t ≤ 100) ∨ 200 ≤ t) ∧ t ≠ 204 := by omega) : B.tg e = t ∧ B.ln e = A.ln e ∧ ∀ k, B.I e k = A.I e k ∧ B.L e k = A.L e k ∧ B.P e k = A.P e k := by
  have hl := hw.1.lt ht h0.1
  have hs := hS.1 e hl he (by omega)
  exact ⟨(hf.tg hl).trans ht, hf.ln hl, fun k => ⟨hf.I hl hs, hf.L hl hs, hf.P hl hs⟩⟩
theorem xL.fr' {l : Nat} {vs : List Nat} (h : xL G A l vs) (hw : xok G A) (hwB : xok G B) (hf : Fr S A B) (hS : Kp S N A) (hl : N l) : xL G B l vs :=
  h.fr hw hwB hf (hS.1 l (hw.1.lt h.1) hl (by rw [h.1]; decide)) fun a ha h1 h2 => hS.2 a l ha h1 h2 hl
theorem rX.fr (hw : xok G A) (hwB : xok G B) (hf : Fr S A B) : ∀ (t : Tr) {N : Nat → Prop} {as : List Int32} {es : List Nat}, Kp S N A → rX G A N t as es → rX G B N t as es := by
  intro t
  induction t with
  | leaf => intro N as es _ h; exact h
  | inner k d v l r ihl ihr =>
    intro N as es hS h
    unfold rX at h ⊢
    split at h
    · obtain ⟨h1, e, h2, h3, h4, h5, h6⟩ := h
      obtain ⟨q1, q2, q3⟩ := hf.ob hw hS h3 h4
      exact ⟨h1, e, h2, h3, q1, by rw [(q3 _).1]; exact h5, by rw [(q3 _).1]; exact h6⟩
    · obtain ⟨h1, e, h2, h3, h4, h5, h6⟩ := h
      obtain ⟨q1, q2, q3⟩ := hf.ob hw hS h3 h4
      exact ⟨h1, e, h2, h3, q1, by rw [(q3 _).1]; exact h5, by rw [(q3 _).1]; exact h6⟩
    · obtain ⟨h1, e, h2, h3, h4, h5, h6, h7, h8, h9⟩ := h
      obtain ⟨q1, q2, q3⟩ := hf.ob hw hS h3 h4
      exact ⟨h1, e, h2, h3, q1, by rw [(q3 _).1]; exact h5, by rw [(q3 _).1]; exact h6, by rw [(q3 _).1]; exact h7, by rw [(q3 _).1]; exact h8, by rw [(q3 _).2.2]; exact h9⟩
    · obtain ⟨h1, e, i, h2, h3, h4, h5, h6, h7, h8, h9, h10⟩ := h
      obtain ⟨q1, q2, q3⟩ := hf.ob hw hS h3 h4
      exact ⟨h1, e, i, h2, h3, q1, by rw [(q3 _).1]; exact h5, by rw [(q3 _).1]; exact h6, by rw [(q3 _).1]; exact h7, by rw [(q3 _).1]; exact h8, by rw [(q3 _).2.2]; exact h9, ihl (hS.mn fun _ q => q.1) h10⟩
    · obtain ⟨h1, e, gl, vs, h2, h3, h4, h5, h6, h7, h8, h9, h10, h11, h12⟩ := h
      obtain ⟨q1, q2, q3⟩ := hf.ob hw hS h3 h4
      exact ⟨h1, e, gl, vs, h2, h3, q1, by rw [(q3 _).1]; exact h5, by rw [(q3 _).1]; exact h6, by rw [(q3 _).1]; exact h7, by rw [(q3 _).1]; exact h8, by rw [(q3 _).2.2]; exact h9, h10, h11.fr' hw hwB hf hS h10, ihl (hS.mn fun _ q => q.1) h12⟩
    · obtain ⟨h1, e, sa, o, h2, h3, h4, h5, h6, h7, h8, h9, h10, h11, h12⟩ := h
      obtain ⟨q1, q2, q3⟩ := hf.ob hw hS h3 h4
      obtain ⟨p1, p2, p3⟩ := hf.ob hw hS h7 h8
      exact ⟨h1, e, sa, o, h2, h3, q1, by rw [(q3 _).1]; exact h5, by rw [(q3 _).2.2]; exact h6, h7, p1, by rw [p2]; exact h9, fun i s hs => by rw [(p3 _).1]; exact h10 i s hs, by rw [(q3 _).2.2]; exact h11, ihl (hS.mn fun _ q => q.1) h12⟩
    · rcases h with ⟨bs, vs, e', h1, h2, h3, h4⟩ | ⟨h1, e, ar, pl, bs, vs, e', h2, h3, h4, h5, h6, h7, h8, h9, h10, h11, h12, h13, h14, h15, h16⟩
      · exact Or.inl ⟨bs, vs, e', h1, h2, ihl hS h3, ihr hS h4⟩
      · obtain ⟨q1, q2, q3⟩ := hf.ob hw hS h3 h4
        obtain ⟨p1, p2, p3⟩ := hf.ob hw hS h7 h8
        exact Or.inr ⟨h1, e, ar, pl, bs, vs, e', h2, h3, q1, by rw [(q3 _).1]; exact h5, by rw [(q3 _).2.2]; exact h6, h7, p1, by rw [p2]; exact h9, fun i s hs => by rw [(p3 _).1]; exact h10 i s hs, h11, by rw [(q3 _).2.2]; exact h12, h13, h14.fr' hw hwB hf hS h13, ihl (hS.mn fun _ q => q.1) h15, ihr (hS.mn fun _ q => q.1) h16⟩
    · rcases h with ⟨bs, vs, e', h1, h2, h3, h4⟩ | ⟨h1, e, pl, bs, vs, e', h2, h3, h4, h5, h6, h11, h12, h13, h14, h15, h16⟩
      · exact Or.inl ⟨bs, vs, e', h1, h2, ihl hS h3, ihr hS h4⟩
      · obtain ⟨q1, q2, q3⟩ := hf.ob hw hS h3 h4
        exact Or.inr ⟨h1, e, pl, bs, vs, e', h2, h3, q1, by rw [(q3 _).1]; exact h5, by rw [(q3 _).1]; exact h6, h11, by rw [(q3 _).2.2]; exact h12, h13, h14.fr' hw hwB hf hS h13, ihl (hS.mn fun _ q => q.1) h15, ihr (hS.mn fun _ q => q.1) h16⟩
    · obtain ⟨h1, e, a, y, n, h2, h3, h4, h5, h6, h7, h8, h9, h10⟩ := h
      obtain ⟨q1, q2, q3⟩ := hf.ob hw hS h3 h4
      exact ⟨h1, e, a, y, n, h2, h3, q1, by rw [(q3 _).1]; exact h5, by rw [(q3 _).2.2]; exact h6, by rw [(q3 _).2.2]; exact h7, by rw [(q3 _).2.2]; exact h8, ihl (hS.mn fun _ q => q.1) h9, ihr (hS.mn fun _ q => q.1) h10⟩
    · obtain ⟨h1, y, n, h2, h3, h4⟩ := h
      exact ⟨h1, y, n, h2, ihl hS h3, ihr hS h4⟩
    · obtain ⟨h1, y, n, h2, h3, h4⟩ := h
      exact ⟨h1, y, n, h2, ihl hS h3, ihr hS h4⟩
    · exact h
theorem rX.mn (hw : xok G A) : ∀ (t : Tr) {N N' : Nat → Prop} {as : List Int32} {es : List Nat}, (∀ a, N a → a < A.n → N' a) → rX G A N t as es → rX G A N' t as es := by
  intro t
  induction t with
  | leaf => intro N N' as es _ h; exact h
  | inner k d v l r ihl ihr =>
    intro N N' as es hn h
    have hn' : ∀ e, ∀ a, (N a ∧ a ≠ e) → a < A.n → N' a ∧ a ≠ e := fun e a q ha => ⟨hn a q.1 ha, q.2⟩
    unfold rX at h ⊢
    split at h
    · obtain ⟨h1, e, h2, h3, h⟩ := h
      exact ⟨h1, e, h2, hn _ h3 (hw.1.lt h.1), h⟩
    · obtain ⟨h1, e, h2, h3, h⟩ := h
      exact ⟨h1, e, h2, hn _ h3 (hw.1.lt h.1), h⟩
    · obtain ⟨h1, e, h2, h3, h⟩ := h
      exact ⟨h1, e, h2, hn _ h3 (hw.1.lt h.1), h⟩
    · obtain ⟨h1, e, i, h2, h3, h4, h5, h6, h7, h8, h9, h10⟩ := h
      exact ⟨h1, e, i, h2, hn _ h3 (hw.1.lt h4), h4, h5, h6, h7, h8, h9, ihl (hn' e) h10⟩
    · obtain ⟨h1, e, gl, vs, h2, h3, h4, h5, h6, h7, h8, h9, h10, h11, h12⟩ := h
      exact ⟨h1, e, gl, vs, h2, hn _ h3 (hw.1.lt h4), h4, h5, h6, h7, h8, h9, hn _ h10 (hw.1.lt h11.1), h11, ihl (hn' e) h12⟩
    · obtain ⟨h1, e, sa, o, h2, h3, h4, h5, h6, h7, h8, h9, h10, h11, h12⟩ := h
      exact ⟨h1, e, sa, o, h2, hn _ h3 (hw.1.lt h4), h4, h5, h6, hn _ h7 (hw.1.lt h8), h8, h9, h10, h11, ihl (hn' e) h12⟩
    · rcases h with ⟨bs, vs, e', h1, h2, h3, h4⟩ | ⟨h1, e, ar, pl, bs, vs, e', h2, h3, h4, h5, h6, h7, h8, h9, h10, h11, h12, h13, h14, h15, h16⟩
      · exact Or.inl ⟨bs, vs, e', h1, h2, ihl hn h3, ihr hn h4⟩
      · exact Or.inr ⟨h1, e, ar, pl, bs, vs, e', h2, hn _ h3 (hw.1.lt h4), h4, h5, h6, hn _ h7 (hw.1.lt h8), h8, h9, h10, h11, h12, hn _ h13 (hw.1.lt h14.1), h14, ihl (hn' e) h15, ihr (hn' e) h16⟩
    · rcases h with ⟨bs, vs, e', h1, h2, h3, h4⟩ | ⟨h1, e, pl, bs, vs, e', h2, h3, h4, h5, h6, h11, h12, h13, h14, h15, h16⟩
      · exact Or.inl ⟨bs, vs, e', h1, h2, ihl hn h3, ihr hn h4⟩
      · exact Or.inr ⟨h1, e, pl, bs, vs, e', h2, hn _ h3 (hw.1.lt h4), h4, h5, h6, h11, h12, hn _ h13 (hw.1.lt h14.1), h14, ihl (hn' e) h15, ihr (hn' e) h16⟩
    · obtain ⟨h1, e, a, y, n, h2, h3, h4, h5, h6, h7, h8, h9, h10⟩ := h
      exact ⟨h1, e, a, y, n, h2, hn _ h3 (hw.1.lt h4), h4, h5, h6, h7, h8, ihl (hn' e) h9, ihr (hn' e) h10⟩
    · obtain ⟨h1, y, n, h2, h3, h4⟩ := h
      exact ⟨h1, y, n, h2, ihl hn h3, ihr hn h4⟩
    · obtain ⟨h1, y, n, h2, h3, h4⟩ := h
      exact ⟨h1, y, n, h2, ihl hn h3, ihr hn h4⟩
    · exact h
/-- an expression's own object -/
theorem snoc_ne {α : Type} {l : List α} {a : α} (h : ([] : List α) = l ++ [a]) : False := by
  have := congrArg List.length h
  simp at this
theorem rX.ob : ∀ {t : Tr}, isE t → rX G A N t [] [e] → N e ∧ A.I e 0 = tFst t ∧ xE A e
  | .leaf, h, _ => False.elim h
  | .inner k d v l r, h, hX => by
    unfold rX at hX
    split at hX
    · obtain ⟨h1, e, h2, h3, h4, h5, h6⟩ := hX
      cases h2
      exact ⟨h3, h5, xE_of h4 (by decide)⟩
    · obtain ⟨h1, e, h2, h3, h4, h5, h6⟩ := hX
      cases h2
      exact ⟨h3, h5, xE_of h4 (by decide)⟩
    · obtain ⟨h1, e, h2, h3, h4, h5, h6⟩ := hX
      cases h2
      exact ⟨h3, h5, xE_of h4 (by decide)⟩
    · obtain ⟨h1, e, i, h2, h3, h4, h5, h6⟩ := hX
      cases h2
      exact ⟨h3, h5, xE_of h4 (by decide)⟩
    · obtain ⟨h1, e, gl, vs, h2, h3, h4, h5, h6⟩ := hX
      cases h2
      exact ⟨h3, h5, xE_of h4 (by decide)⟩
    · obtain ⟨h1, e, gl, vs, h2, h3, h4, h5, h6⟩ := hX
      cases h2
      exact ⟨h3, h5, xE_of h4 (by decide)⟩
    · rcases hX with ⟨bs, vs, e', h1, -⟩ | ⟨h1, e, ar, pl, bs, vs, e', h2, h3, h4, h5, h6⟩
      · exact (snoc_ne h1).elim
      · cases h2
        exact ⟨h3, h5, xE_of h4 (by decide)⟩
    · rcases hX with ⟨bs, vs, e', h1, -⟩ | ⟨h1, e, pl, bs, vs, e', h2, h3, h4, h5, h6⟩
      · exact (snoc_ne h1).elim
      · cases h2
        exact ⟨h3, h5, xE_of h4 (by decide)⟩
    · obtain ⟨h1, e, a, y, n, h2, h3, h4, h5, h6⟩ := hX
      cases h2
      exact ⟨h3, h5, xE_of h4 (by decide)⟩
    · exact absurd (show 9 ≤ 8 from h) (by decide)
    · exact absurd (show 10 ≤ 8 from h) (by decide)
    · exact hX.elim
/-- where the first token is set anew -/
theorem rX.set {f : Int32} (hw : xok G A) (hwB : xok G (A.setI e 0 f)) : ∀ {t : Tr}, isE t → rX G A N t [] [e] → isE (tSet f t) ∧ rX G (A.setI e 0 f) N (tSet f t) [] [e]
  | .leaf, h, _ => False.elim h
  | .inner k d v l r, h, hX => by
    have hf : ∀ {c : Tr} {bs : List Int32} {vs : List Nat}, A.tg e ≠ 204 → rX G A (fun a => N a ∧ a ≠ e) c bs vs → rX G (A.setI e 0 f) (fun a => N a ∧ a ≠ e) c bs vs := fun ht hc => rX.fr hw hwB (S := fun a => a = e) (Fr.setI rfl) _ (Kp.one ht (fun q => q.2 rfl)) hc
    have hL : ∀ {l : Nat} {vs : List Nat}, A.tg e ≠ 204 → A.tg e ≠ 37 → xL G A l vs → xL G (A.setI e 0 f) l vs := fun ht ht' hl => hl.fr' hw hwB (S := fun a => a = e) (N := fun a => a ≠ e) (Fr.setI rfl) (Kp.one ht (fun q => q rfl)) (fun q => ht' (q ▸ hl.1))
    have hI : ∀ a j, a ≠ e → (A.setI e 0 f).I a j = A.I a j := fun a j q => xup_a q
    unfold rX at hX
    split at hX
    · obtain ⟨h1, e, h2, h3, h4, h5, h6⟩ := hX
      cases h2
      exact ⟨h, rfl, e, rfl, h3, h4, xup_s, (xup_k (by decide)).trans h6⟩
    · obtain ⟨h1, e, h2, h3, h4, h5, h6⟩ := hX
      cases h2
      exact ⟨h, rfl, e, rfl, h3, h4, xup_s, (xup_k (by decide)).trans h6⟩
    · obtain ⟨h1, e, h2, h3, h4, h5, h6, h7, h8, h9⟩ := hX
      cases h2
      exact ⟨h, rfl, e, rfl, h3, h4, xup_s, (xup_k (by decide)).trans h6, (xup_k (by decide)).trans h7, (xup_k (by decide)).trans h8, h9⟩
    · obtain ⟨h1, e, i, h2, h3, h4, h5, h6, h7, h8, h9, h10⟩ := hX
      cases h2
      exact ⟨h, rfl, e, i, rfl, h3, h4, xup_s, (xup_k (by decide)).trans h6, (xup_k (by decide)).trans h7, (xup_k (by decide)).trans h8, h9, hf (by omega) h10⟩
    · obtain ⟨h1, e, gl, vs, h2, h3, h4, h5, h6, h7, h8, h9, h10, h11, h12⟩ := hX
      cases h2
      exact ⟨h, rfl, e, gl, vs, rfl, h3, h4, xup_s, (xup_k (by decide)).trans h6, (xup_k (by decide)).trans h7, (xup_k (by decide)).trans h8, h9, h10, hL (by omega) (by omega) h11, hf (by omega) h12⟩
    · obtain ⟨h1, e, sa, o, h2, h3, h4, h5, h6, h7, h8, h9, h10, h11, h12⟩ := hX
      cases h2
      exact ⟨h, rfl, e, sa, o, rfl, h3, h4, xup_s, h6, h7, h8, h9, fun i s hs => (hI _ _ (fun q => by rw [q] at h8; omega)).trans (h10 i s hs), h11, hf (by omega) h12⟩
    · rcases hX with ⟨bs, vs, e', h1, -⟩ | ⟨h1, e, ar, pl, bs, vs, e', h2, h3, h4, h5, h6, h7, h8, h9, h10, h11, h12, h13, h14, h15, h16⟩
      · exact (snoc_ne h1).elim
      · cases h2
        exact ⟨h, Or.inr ⟨rfl, e, ar, pl, bs, vs, e', rfl, h3, h4, xup_s, h6, h7, h8, h9, fun i s hs => (hI _ _ (fun q => by rw [q] at h8; omega)).trans (h10 i s hs), h11, h12, h13, hL (by omega) (by omega) h14, hf (by omega) h15, hf (by omega) h16⟩⟩
    · rcases hX with ⟨bs, vs, e', h1, -⟩ | ⟨h1, e, pl, bs, vs, e', h2, h3, h4, h5, h6, h11, h12, h13, h14, h15, h16⟩
      · exact (snoc_ne h1).elim
      · cases h2
        exact ⟨h, Or.inr ⟨rfl, e, pl, bs, vs, e', rfl, h3, h4, xup_s, (xup_k (by decide)).trans h6, h11, h12, h13, hL (by omega) (by omega) h14, hf (by omega) h15, hf (by omega) h16⟩⟩
    · obtain ⟨h1, e, a, y, n, h2, h3, h4, h5, h6, h7, h8, h9, h10⟩ := hX
      cases h2
      exact ⟨h, rfl, e, a, y, n, rfl, h3, h4, xup_s, h6, h7, h8, hf (by omega) h9, hf (by omega) h10⟩
    · exact absurd (show 9 ≤ 8 from h) (by decide)
    · exact absurd (show 10 ≤ 8 from h) (by decide)
    · exact hX.elim
end RX
