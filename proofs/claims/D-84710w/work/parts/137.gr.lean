/-! ===== worlds, read in full (for grind); frames ===== -/
set_option maxRecDepth 100000
section GR
variable {A B C : xA} {a k b j t m w g : Nat}
theorem gI_I {v : Int32} : (A.setI a k v).I b j = if b = a ∧ j = k then v else A.I b j := rfl
theorem gI_L {v : Int32} : (A.setI a k v).L b j = A.L b j := rfl
theorem gI_P {v : Int32} : (A.setI a k v).P b j = A.P b j := rfl
theorem gI_tg {v : Int32} : (A.setI a k v).tg b = A.tg b := rfl
theorem gI_ln {v : Int32} : (A.setI a k v).ln b = A.ln b := rfl
theorem gI_gh {v : Int32} : (A.setI a k v).gh b = A.gh b := rfl
theorem gI_n {v : Int32} : (A.setI a k v).n = A.n := rfl
theorem gI_u {v : Int32} : (A.setI a k v).u = A.u := rfl
theorem gL_I {v : Int64} : (A.setL a k v).I b j = A.I b j := rfl
theorem gL_L {v : Int64} : (A.setL a k v).L b j = if b = a ∧ j = k then v else A.L b j := rfl
theorem gL_P {v : Int64} : (A.setL a k v).P b j = A.P b j := rfl
theorem gL_tg {v : Int64} : (A.setL a k v).tg b = A.tg b := rfl
theorem gL_ln {v : Int64} : (A.setL a k v).ln b = A.ln b := rfl
theorem gL_gh {v : Int64} : (A.setL a k v).gh b = A.gh b := rfl
theorem gL_n {v : Int64} : (A.setL a k v).n = A.n := rfl
theorem gL_u {v : Int64} : (A.setL a k v).u = A.u := rfl
theorem gP_I {v : Option Nat} : (A.setP a k v).I b j = A.I b j := rfl
theorem gP_L {v : Option Nat} : (A.setP a k v).L b j = A.L b j := rfl
theorem gP_P {v : Option Nat} : (A.setP a k v).P b j = if b = a ∧ j = k then v else A.P b j := rfl
theorem gP_tg {v : Option Nat} : (A.setP a k v).tg b = A.tg b := rfl
theorem gP_ln {v : Option Nat} : (A.setP a k v).ln b = A.ln b := rfl
theorem gP_gh {v : Option Nat} : (A.setP a k v).gh b = A.gh b := rfl
theorem gP_n {v : Option Nat} : (A.setP a k v).n = A.n := rfl
theorem gP_u {v : Option Nat} : (A.setP a k v).u = A.u := rfl
theorem gN_I : (A.new t m w g).I b j = if b = A.n then 0 else A.I b j := by
  show xu1 A.I A.n (fun _ => 0) b j = _
  unfold xu1
  split <;> rfl
theorem gN_L : (A.new t m w g).L b j = if b = A.n then 0 else A.L b j := by
  show xu1 A.L A.n (fun _ => 0) b j = _
  unfold xu1
  split <;> rfl
theorem gN_P : (A.new t m w g).P b j = if b = A.n then none else A.P b j := by
  show xu1 A.P A.n (fun _ => none) b j = _
  unfold xu1
  split <;> rfl
theorem gN_tg : (A.new t m w g).tg b = if b = A.n then t else A.tg b := rfl
theorem gN_ln : (A.new t m w g).ln b = if b = A.n then m else A.ln b := rfl
theorem gN_gh : (A.new t m w g).gh b = if b = A.n then g else A.gh b := rfl
theorem gN_n : (A.new t m w g).n = A.n + 1 := rfl
theorem gN_u : (A.new t m w g).u = A.u + w := rfl
theorem gW_I {J : xII} : (A.wI J).I b j = J b j := rfl
theorem gW_L {J : xII} : (A.wI J).L b j = A.L b j := rfl
theorem gW_P {J : xII} : (A.wI J).P b j = A.P b j := rfl
theorem gW_tg {J : xII} : (A.wI J).tg b = A.tg b := rfl
theorem gW_ln {J : xII} : (A.wI J).ln b = A.ln b := rfl
theorem gW_gh {J : xII} : (A.wI J).gh b = A.gh b := rfl
theorem gW_n {J : xII} : (A.wI J).n = A.n := rfl
theorem gW_u {J : xII} : (A.wI J).u = A.u := rfl
theorem gX {α : Type} {f : Nat → Nat → α} {v : α} : xup f a k v b j = if b = a ∧ j = k then v else f b j := rfl
/-- whose a cell is lies ahead of it -/
def gw (A : xA) : Prop := ∀ a l, a < A.n → A.gh a = 1000 + l → l < a ∧ A.tg a = 204
/-- a cell is as it was -/
def sc (A B : xA) (a : Nat) : Prop := ∀ k, B.I a k = A.I a k ∧ B.L a k = A.L a k ∧ B.P a k = A.P a k
def sh (A B : xA) (a : Nat) : Prop := B.tg a = A.tg a ∧ B.ln a = A.ln a ∧ B.gh a = A.gh a
/-- what was there stays but for S -/
def Fr (S : Nat → Prop) (A B : xA) : Prop := A.n ≤ B.n ∧ A.u ≤ B.u ∧ (gw A → gw B) ∧ ∀ a, a < A.n → sh A B a ∧ (¬ S a → sc A B a)
variable {S S' : Nat → Prop}
theorem sc.rf : sc A A a := fun _ => ⟨rfl, rfl, rfl⟩
theorem sc.tr (h : sc A B a) (h' : sc B C a) : sc A C a := fun k => ⟨(h' k).1.trans (h k).1, (h' k).2.1.trans (h k).2.1, (h' k).2.2.trans (h k).2.2⟩
theorem sh.rf : sh A A a := ⟨rfl, rfl, rfl⟩
theorem sh.tr (h : sh A B a) (h' : sh B C a) : sh A C a := ⟨h'.1.trans h.1, h'.2.1.trans h.2.1, h'.2.2.trans h.2.2⟩
theorem Fr.rf : Fr S A A := ⟨Nat.le_refl _, Nat.le_refl _, fun h => h, fun _ _ => ⟨sh.rf, fun _ => sc.rf⟩⟩
theorem Fr.tr (h : Fr S A B) (h' : Fr S' B C) (hs : ∀ a, a < A.n → S' a → S a) : Fr S A C :=
  ⟨Nat.le_trans h.1 h'.1, Nat.le_trans h.2.1 h'.2.1, fun q => h'.2.2.1 (h.2.2.1 q), fun a ha => ⟨(h.2.2.2 a ha).1.tr (h'.2.2.2 a (Nat.lt_of_lt_of_le ha h.1)).1, fun q => ((h.2.2.2 a ha).2 q).tr ((h'.2.2.2 a (Nat.lt_of_lt_of_le ha h.1)).2 fun z => q (hs a ha z))⟩⟩
theorem Fr.mono (h : Fr S' A B) (hs : ∀ a, a < A.n → S' a → S a) : Fr S A B := Fr.tr Fr.rf h hs
theorem Fr.setI {v : Int32} (hs : S a) : Fr S A (A.setI a k v) := ⟨Nat.le_refl _, Nat.le_refl _, fun h => h, fun b _ => ⟨⟨rfl, rfl, rfl⟩, fun q j => ⟨by rw [gI_I, if_neg fun z : b = a ∧ j = k => q (z.1 ▸ hs)], rfl, rfl⟩⟩⟩
theorem Fr.setL {v : Int64} (hs : S a) : Fr S A (A.setL a k v) := ⟨Nat.le_refl _, Nat.le_refl _, fun h => h, fun b _ => ⟨⟨rfl, rfl, rfl⟩, fun q j => ⟨rfl, by rw [gL_L, if_neg fun z : b = a ∧ j = k => q (z.1 ▸ hs)], rfl⟩⟩⟩
theorem Fr.setP {v : Option Nat} (hs : S a) : Fr S A (A.setP a k v) := ⟨Nat.le_refl _, Nat.le_refl _, fun h => h, fun b _ => ⟨⟨rfl, rfl, rfl⟩, fun q j => ⟨rfl, rfl, by rw [gP_P, if_neg fun z : b = a ∧ j = k => q (z.1 ▸ hs)]⟩⟩⟩
theorem Fr.new (hg : g < 1000 ∨ ∃ l, g = 1000 + l ∧ l < A.n ∧ t = 204) : Fr S A (A.new t m w g) := by
  refine ⟨Nat.le_succ _, Nat.le_add_right _ _, fun h a l ha e => ?_, fun b hb => ?_⟩
  · rw [gN_gh] at e
    split at e
    · rename_i ea
      rw [gN_tg, if_pos ea]
      rcases hg with h' | ⟨l', h1, h2, h3⟩ <;> omega
    · rename_i ea
      rw [gN_tg, if_neg ea]
      exact h a l (by rw [gN_n] at ha; omega) e
  · have : ¬ b = A.n := by omega
    exact ⟨⟨by rw [gN_tg, if_neg this], by rw [gN_ln, if_neg this], by rw [gN_gh, if_neg this]⟩, fun _ j => ⟨by rw [gN_I, if_neg this], by rw [gN_L, if_neg this], by rw [gN_P, if_neg this]⟩⟩
theorem Fr.of (h : xFrm S A B) (hg : gw A → gw B) : Fr S A B := ⟨h.1, h.2.1, hg, fun a ha => ⟨(h.2.2 a ha).1, fun q j => by
  obtain ⟨e1, e2, e3⟩ := (h.2.2 a ha).2 q
  exact ⟨congrFun e1 j, congrFun e2 j, congrFun e3 j⟩⟩⟩
theorem Fr.tg (h : Fr S A B) (ha : a < A.n) : B.tg a = A.tg a := (h.2.2.2 a ha).1.1
theorem Fr.ln (h : Fr S A B) (ha : a < A.n) : B.ln a = A.ln a := (h.2.2.2 a ha).1.2.1
theorem Fr.gh (h : Fr S A B) (ha : a < A.n) : B.gh a = A.gh a := (h.2.2.2 a ha).1.2.2
theorem Fr.I (h : Fr S A B) (ha : a < A.n) (hs : ¬ S a) : B.I a k = A.I a k := ((h.2.2.2 a ha).2 hs k).1
theorem Fr.L (h : Fr S A B) (ha : a < A.n) (hs : ¬ S a) : B.L a k = A.L a k := ((h.2.2.2 a ha).2 hs k).2.1
theorem Fr.P (h : Fr S A B) (ha : a < A.n) (hs : ¬ S a) : B.P a k = A.P a k := ((h.2.2.2 a ha).2 hs k).2.2
/-- a list that is not touched -/
theorem xL.fr {G : xG} {l : Nat} {vs : List Nat} (h : xL G A l vs) (hw : xok G A) (hwB : xok G B) (hf : Fr S A B) (hs : ¬ S l) (he : ∀ a, a < A.n → A.tg a = 204 → A.gh a = 1000 + l → ¬ S a) : xL G B l vs := by
  obtain ⟨h1, h2, h3, h4, e, h5, h6, h7, h8, h9, h10, h11⟩ := h
  have hl : l < A.n := hw.1.lt h1
  have hel : e < A.n := hw.1.lt h6
  have hEl : ∀ v ∈ vs, xEl B v := fun v hv => by
    obtain ⟨c, r, q1, q2, q3⟩ := h11 v hv
    have := (xclass_ok c r q2).1
    exact ⟨c, r, (hf.tg (hw.1.lt q1 (by omega))).trans q1, q2, q3⟩
  refine ⟨(hf.tg hl).trans h1, h2, (hf.I hl hs).trans h3, h4, e, (hf.P hl hs).trans h5, (hf.tg hel).trans h6, by rw [hf.ln hel]; exact h7, by rw [hf.ln hel]; exact h8, ?_, ?_, hEl⟩
  · rcases h9 with q | q
    · exact Or.inl (by rw [hf.ln hel]; exact q)
    · exact Or.inr ⟨q.1, (hf.gh hel).trans q.2⟩
  · intro i v hv
    rcases h9 with q | q
    · have : vs.length = 0 := by omega
      have := (List.getElem?_eq_some_iff.mp hv).1
      omega
    · rw [hf.P hel (he e hel h6 q.2)]
      exact h10 i v hv
theorem xcap.fr {G : xG} {l : Nat} {vs : List Nat} (h : xL G A l vs) (hw : xok G A) (hf : Fr S A B) (hs : ¬ S l) : xcap B l = xcap A l := by
  obtain ⟨h1, h2, h3, h4, e, h5, h6, -⟩ := h
  have hl : l < A.n := hw.1.lt h1
  rw [xcap_of ((hf.P hl hs).trans h5), xcap_of h5, hf.ln (hw.1.lt h6)]
/-- what an add leaves, as a frame -/
theorem xAdded.fr {G : xG} {l v : Nat} {vs : List Nat} (h : xAdded G A l v vs B) (hl : l < A.n) : Fr (fun a => a = l ∨ A.gh a = 1000 + l) A B := by
  refine Fr.of h.2.1 fun hg a l' ha e => ?_
  by_cases q : a < A.n
  · rw [(h.2.1.2.2 a q).1.1]
    exact hg a l' q (by rw [← (h.2.1.2.2 a q).1.2.2]; exact e)
  · have := h.2.2.2.2.2 a (by omega) ha
    exact ⟨by omega, this.1⟩
end GR
/-- what a frame must leave alone: objects of N, lists of N -/
def Kp (S N : Nat → Prop) (A : xA) : Prop := (∀ a, a < A.n → N a → A.tg a ≠ 204 → ¬ S a) ∧ ∀ a l, a < A.n → A.tg a = 204 → A.gh a = 1000 + l → N l → ¬ S a
section KP
variable {A : xA} {S N : Nat → Prop} {b l : Nat}
theorem Kp.one (ht : A.tg b ≠ 204) (hN : ¬ N b) : Kp (fun a => a = b) N A := ⟨fun a _ h _ e => hN (e ▸ h), fun a l _ h _ _ e => ht (e ▸ h)⟩
theorem Kp.nw (h : A.n ≤ b) : Kp (fun a => a = b) N A := ⟨fun a ha _ _ e => by omega, fun a l ha _ _ _ e => by omega⟩
theorem Kp.no : Kp (fun _ => False) N A := ⟨fun _ _ _ _ q => q, fun _ _ _ _ _ _ q => q⟩
theorem Kp.li (hg : gw A) (ht : A.tg l = 37) (hN : ¬ N l) : Kp (fun a => a = l ∨ A.gh a = 1000 + l) N A := by
  refine ⟨fun a ha h1 h2 e => ?_, fun a l' ha h1 h2 h3 e => ?_⟩
  · rcases e with e | e
    · exact hN (e ▸ h1)
    · exact h2 (hg a l ha e).2
  · rcases e with e | e
    · rw [e, ht] at h1
      exact absurd h1 (by decide)
    · have : l' = l := by omega
      exact hN (this ▸ h3)
theorem Kp.mn {N' : Nat → Prop} (h : Kp S N A) (hN : ∀ a, N' a → N a) : Kp S N' A := ⟨fun a h1 h2 h3 => h.1 a h1 (hN a h2) h3, fun a l h1 h2 h3 h4 => h.2 a l h1 h2 h3 (hN l h4)⟩
end KP
def rm (G : xG) (A : xA) (c s : Nat) : Prop := A.n + c ≤ G.N + 386503 ∧ A.u + s ≤ hU G.z.heap + 7941971
theorem rm.o {G : xG} {A : xA} {c s w : Nat} (h : rm G A c s) (hc : 1 ≤ c := by omega) (hs : w ≤ s := by omega) : rmO G A w := ⟨by have := h.1; omega, by have := h.2; omega⟩
theorem rm.a {G : xG} {A : xA} {c s n : Nat} (h : rm G A c s) (hn : n ≤ 60000000 := by omega) (hc : 1 ≤ c := by omega) (hs : n ≤ s := by omega) : rmA G A (nI n) := by
  have e : ix (nI n) = n := nI_clamp (by omega)
  refine ⟨nI_pos (by omega), ?_, by have := h.1; omega, ?_⟩
  · rw [e]; exact hn
  · rw [e]; have := h.2; omega
section GF
variable {A B : xA} {n k t m w : Nat}
/-- a new object and its fields -/
theorem Fr.fn : Fr (fun a => a = A.n) A (A.new t m w 0) := Fr.new (Or.inl (by decide))
theorem Fr.fs {v : Int32} (h : Fr (fun a => a = n) A B) : Fr (fun a => a = n) A (B.setI n k v) := h.tr (Fr.setI (S := fun a => a = n) rfl) fun _ _ q => q
theorem Fr.fp {v : Option Nat} (h : Fr (fun a => a = n) A B) : Fr (fun a => a = n) A (B.setP n k v) := h.tr (Fr.setP (S := fun a => a = n) rfl) fun _ _ q => q
theorem Fr.fl {v : Int64} (h : Fr (fun a => a = n) A B) : Fr (fun a => a = n) A (B.setL n k v) := h.tr (Fr.setL (S := fun a => a = n) rfl) fun _ _ q => q
theorem Fr.no (h : Fr (fun a => a = n) A B) (hn : A.n ≤ n) : Fr (fun _ => False) A B := h.mono fun a ha q => by omega
end GF
/-! lists -/
section GL
variable {G : xG} {A : xA} {l v k : Nat} {vs : List Nat}
theorem s_J5_new2 (hw : xok G A) (h : rm G A 2 (3 + k)) (hk : 0 < k) (hk' : k < 1000) : w_J5_init_2 G A.n (nI k) (fun B => Fr (fun _ => False) A B ∧ xL G B A.n [] ∧ B.n = A.n + 2 ∧ B.u = A.u + 3 + k ∧ xcap B A.n = k) (A.new 37 0 3 0) := by
  have h1 := h.1
  have h2 := h.2
  refine ⟨by rw [gN_tg, if_pos rfl], Or.inr ⟨k, hk, hk', rfl, ?_, ?_, ?_⟩⟩
  · show A.n + 1 + 1 ≤ _
    omega
  · show A.u + 3 + k ≤ _
    omega
  · have hN := hw.2.1
    have nn : ((A.new 37 0 3 0).setI A.n 0 0).n = A.n + 1 := rfl
    generalize hB : (((A.new 37 0 3 0).setI A.n 0 0).new 204 k k (1000 + A.n)).setP A.n 1 (some (A.new 37 0 3 0).n) = B
    have e : B.P A.n 1 = some (A.n + 1) := by grind [gI_I, gI_L, gI_P, gI_tg, gI_ln, gI_gh, gI_n, gI_u, gL_I, gL_L, gL_P, gL_tg, gL_ln, gL_gh, gL_n, gL_u, gP_I, gP_L, gP_P, gP_tg, gP_ln, gP_gh, gP_n, gP_u, gN_I, gN_L, gN_P, gN_tg, gN_ln, gN_gh, gN_n, gN_u]
    refine ⟨?_, ⟨?_, hN, ?_, by decide, A.n + 1, e, ?_, Nat.zero_le _, ?_, Or.inr ⟨by omega, ?_⟩, fun i v hv => by simp at hv, fun v hv => by simp at hv⟩, by rw [← hB]; rfl, by rw [← hB]; rfl, ?_⟩
    · rw [← hB]
      have f1 : Fr (fun a => a = A.n) A ((A.new 37 0 3 0).setI A.n 0 0) := Fr.fn.fs
      exact (((f1.tr (Fr.new (S := fun a => a = A.n) (Or.inr ⟨A.n, rfl, Nat.lt_succ_self _, rfl⟩)) fun _ _ q => q).fp)).no (Nat.le_refl _)
    · grind [gI_I, gI_L, gI_P, gI_tg, gI_ln, gI_gh, gI_n, gI_u, gL_I, gL_L, gL_P, gL_tg, gL_ln, gL_gh, gL_n, gL_u, gP_I, gP_L, gP_P, gP_tg, gP_ln, gP_gh, gP_n, gP_u, gN_I, gN_L, gN_P, gN_tg, gN_ln, gN_gh, gN_n, gN_u]
    · have : B.I A.n 2 = 0 := by grind [gI_I, gI_L, gI_P, gI_tg, gI_ln, gI_gh, gI_n, gI_u, gL_I, gL_L, gL_P, gL_tg, gL_ln, gL_gh, gL_n, gL_u, gP_I, gP_L, gP_P, gP_tg, gP_ln, gP_gh, gP_n, gP_u, gN_I, gN_L, gN_P, gN_tg, gN_ln, gN_gh, gN_n, gN_u]
      rw [this]
      rfl
    · grind [gI_I, gI_L, gI_P, gI_tg, gI_ln, gI_gh, gI_n, gI_u, gL_I, gL_L, gL_P, gL_tg, gL_ln, gL_gh, gL_n, gL_u, gP_I, gP_L, gP_P, gP_tg, gP_ln, gP_gh, gP_n, gP_u, gN_I, gN_L, gN_P, gN_tg, gN_ln, gN_gh, gN_n, gN_u]
    · grind [gI_I, gI_L, gI_P, gI_tg, gI_ln, gI_gh, gI_n, gI_u, gL_I, gL_L, gL_P, gL_tg, gL_ln, gL_gh, gL_n, gL_u, gP_I, gP_L, gP_P, gP_tg, gP_ln, gP_gh, gP_n, gP_u, gN_I, gN_L, gN_P, gN_tg, gN_ln, gN_gh, gN_n, gN_u]
    · grind [gI_I, gI_L, gI_P, gI_tg, gI_ln, gI_gh, gI_n, gI_u, gL_I, gL_L, gL_P, gL_tg, gL_ln, gL_gh, gL_n, gL_u, gP_I, gP_L, gP_P, gP_tg, gP_ln, gP_gh, gP_n, gP_u, gN_I, gN_L, gN_P, gN_tg, gN_ln, gN_gh, gN_n, gN_u]
    · rw [xcap_of e]
      grind [gI_I, gI_L, gI_P, gI_tg, gI_ln, gI_gh, gI_n, gI_u, gL_I, gL_L, gL_P, gL_tg, gL_ln, gL_gh, gL_n, gL_u, gP_I, gP_L, gP_P, gP_tg, gP_ln, gP_gh, gP_n, gP_u, gN_I, gN_L, gN_P, gN_tg, gN_ln, gN_gh, gN_n, gN_u]
theorem s_J5_new0 (hO : xHO G) (hw : xok G A) : w_J5_init G A.n (fun B => Fr (fun _ => False) A B ∧ xL G B A.n [] ∧ B.n = A.n + 1 ∧ B.u = A.u + 3 ∧ xcap B A.n = 0) (A.new 37 0 3 0) := by
  have h0 := hO.2.1.1
  have hN := hw.2.1
  have ha := hw.2.2 _ h0.2.1
  have hne : ¬ G.cs 0 = A.n := by have := h0.2.1; omega
  have e : (((A.new 37 0 3 0).setI A.n 0 0).setP A.n 1 (some (G.cs 0))).P A.n 1 = some (G.cs 0) := by rw [gP_P, if_pos ⟨rfl, rfl⟩]
  have e2 : (((A.new 37 0 3 0).setI A.n 0 0).setP A.n 1 (some (G.cs 0))).tg (G.cs 0) = 204 := by
    rw [gP_tg, gI_tg, gN_tg, if_neg hne, ha.1]
    exact h0.2.2.1
  have e3 : (((A.new 37 0 3 0).setI A.n 0 0).setP A.n 1 (some (G.cs 0))).ln (G.cs 0) = 0 := by
    rw [gP_ln, gI_ln, gN_ln, if_neg hne, ha.2.1]
    exact h0.2.2.2
  refine ⟨by rw [gN_tg, if_pos rfl], ?_, ⟨?_, hN, ?_, by decide, G.cs 0, e, e2, Nat.zero_le _, ?_, Or.inl ⟨e3, Or.inl rfl⟩, fun i v hv => by simp at hv, fun v hv => by simp at hv⟩, rfl, rfl, ?_⟩
  · exact (Fr.fn.fs.fp).no (Nat.le_refl _)
  · rw [gP_tg, gI_tg, gN_tg, if_pos rfl]
  · rw [gP_I, gI_I, if_neg (by omega), gN_I, if_pos rfl]
    rfl
  · rw [e3]
    decide
  · rw [xcap_of e, e3]
theorem s_J5_get {i : Nat} (hL : xL G A l vs) (he : vs[i]? = some v) : w_J5_get G l (nI i) (fun o B => some v = o ∧ A = B) A := ⟨vs, i, v, hL, rfl, he, rfl, rfl⟩
theorem s_J5_size (hL : xL G A l vs) : w_J5_size G l (fun o B => nI vs.length = o ∧ A = B) A := ⟨hL.1, hL.2.2.1.symm, rfl⟩
theorem s_J5_add (hL : xL G A l vs) (hv : xEl A v) (hn : vs.length < 1000000) (hr : rm G A 1 (2 * vs.length + 10)) : w_J5_add G l (some v) (fun r B => r = 1 ∧ xAdded G A l v vs B) A := ⟨vs, v, rfl, hL, hn, hv, hr.1, hr.2, fun B hB _ => ⟨rfl, hB⟩⟩
theorem s_J5_add2 (hL : xL G A l vs) (hv : xEl A v) (hn : vs.length < 1000000) (hr : rm G A 1 (2 * vs.length + 10)) : w_J5_add G l (some v) (fun r B => r = 1 ∧ xAdded G A l v vs B ∧ xAd2 A l B) A := ⟨vs, v, rfl, hL, hn, hv, hr.1, hr.2, fun B hB h2 => ⟨rfl, hB, h2⟩⟩
end GL
/-! objects of our classes are Objects -/
theorem xobj : ∀ c, c < 38 → ∃ r : vw_C, xcl[c]? = some r ∧ Cond.castable r.1 "java/lang/Object" ∈ lw_tbl
  | 0, _ => ⟨_, rfl, lw_at lw_m15 173 rfl⟩
  | 1, _ => ⟨_, rfl, lw_at lw_m15 174 rfl⟩
  | 2, _ => ⟨_, rfl, lw_at lw_m15 175 rfl⟩
  | 3, _ => ⟨_, rfl, lw_at lw_m15 176 rfl⟩
  | 4, _ => ⟨_, rfl, lw_at lw_m15 177 rfl⟩
  | 5, _ => ⟨_, rfl, lw_at lw_m15 179 rfl⟩
  | 6, _ => ⟨_, rfl, lw_at lw_m15 180 rfl⟩
  | 7, _ => ⟨_, rfl, lw_at lw_m15 181 rfl⟩
  | 8, _ => ⟨_, rfl, lw_at lw_m15 182 rfl⟩
  | 9, _ => ⟨_, rfl, lw_at lw_m15 183 rfl⟩
  | 10, _ => ⟨_, rfl, lw_at lw_m15 184 rfl⟩
  | 11, _ => ⟨_, rfl, lw_at lw_m15 185 rfl⟩
  | 12, _ => ⟨_, rfl, lw_at lw_m15 186 rfl⟩
  | 13, _ => ⟨_, rfl, lw_at lw_m15 187 rfl⟩
  | 14, _ => ⟨_, rfl, lw_at lw_m15 188 rfl⟩
  | 15, _ => ⟨_, rfl, lw_at lw_m15 189 rfl⟩
  | 16, _ => ⟨_, rfl, lw_at lw_m15 190 rfl⟩
  | 17, _ => ⟨_, rfl, lw_at lw_m15 191 rfl⟩
  | 18, _ => ⟨_, rfl, lw_at lw_m15 192 rfl⟩
  | 19, _ => ⟨_, rfl, lw_at lw_m15 193 rfl⟩
  | 20, _ => ⟨_, rfl, lw_at lw_m15 194 rfl⟩
  | 21, _ => ⟨_, rfl, lw_at lw_m15 195 rfl⟩
  | 22, _ => ⟨_, rfl, lw_at lw_m15 196 rfl⟩
  | 23, _ => ⟨_, rfl, lw_at lw_m15 197 rfl⟩
  | 24, _ => ⟨_, rfl, lw_at lw_m15 198 rfl⟩
  | 25, _ => ⟨_, rfl, lw_at lw_m15 199 rfl⟩
  | 26, _ => ⟨_, rfl, lw_at lw_m15 200 rfl⟩
  | 27, _ => ⟨_, rfl, lw_at lw_m15 201 rfl⟩
  | 28, _ => ⟨_, rfl, lw_at lw_m15 202 rfl⟩
  | 29, _ => ⟨_, rfl, lw_at lw_m15 203 rfl⟩
  | 30, _ => ⟨_, rfl, lw_at lw_m15 204 rfl⟩
  | 31, _ => ⟨_, rfl, lw_at lw_m15 205 rfl⟩
  | 32, _ => ⟨_, rfl, lw_at lw_m15 206 rfl⟩
  | 33, _ => ⟨_, rfl, lw_at lw_m15 207 rfl⟩
  | 34, _ => ⟨_, rfl, lw_at lw_m15 208 rfl⟩
  | 35, _ => ⟨_, rfl, lw_at lw_m15 210 rfl⟩
  | 36, _ => ⟨_, rfl, lw_at lw_m15 178 rfl⟩
  | 37, _ => ⟨_, rfl, lw_at lw_m15 209 rfl⟩
  | n + 38, h => absurd h (by omega)
theorem xEl_of {A : xA} {y c : Nat} (h : A.tg y = c + 1) (hc : c < 38) : xEl A y := by
  obtain ⟨r, h1, h2⟩ := xobj c hc
  exact ⟨c, r, h, h1, h2⟩
/-! worlds that are as they should be stay so -/
section GK
variable {G : xG} {A : xA} {a k t m w g : Nat}
theorem xok.setI {v : Int32} (h : xok G A) (ha : G.N ≤ a) : xok G (A.setI a k v) := ⟨h.1, h.2.1, fun b hb => by
  obtain ⟨h1, h2, h3, h4, h5, h6⟩ := h.2.2 b hb
  exact ⟨h1, h2, h3, by funext j; rw [← h4]; exact xup_a (by omega), h5, h6⟩⟩
theorem xok.setL {v : Int64} (h : xok G A) (ha : G.N ≤ a) : xok G (A.setL a k v) := ⟨h.1, h.2.1, fun b hb => by
  obtain ⟨h1, h2, h3, h4, h5, h6⟩ := h.2.2 b hb
  exact ⟨h1, h2, h3, h4, by funext j; rw [← h5]; exact xup_a (by omega), h6⟩⟩
theorem xok.setP {v : Option Nat} (h : xok G A) (ha : G.N ≤ a) : xok G (A.setP a k v) := ⟨h.1, h.2.1, fun b hb => by
  obtain ⟨h1, h2, h3, h4, h5, h6⟩ := h.2.2 b hb
  exact ⟨h1, h2, h3, h4, h5, by funext j; rw [← h6]; exact xup_a (by omega)⟩⟩
theorem xok.new (h : xok G A) : xok G (A.new t m w g) := by
  refine ⟨fun b hb => ?_, Nat.le_succ_of_le h.2.1, fun b hb => ?_⟩
  · rw [gN_tg] at hb
    show b < A.n + 1
    by_cases e : b = A.n
    · omega
    · rw [if_neg e] at hb
      have := h.1 b hb
      omega
  · have : ¬ b = A.n := by have := h.2.1; omega
    obtain ⟨h1, h2, h3, h4, h5, h6⟩ := h.2.2 b hb
    refine ⟨by rw [gN_tg, if_neg this]; exact h1, by rw [gN_ln, if_neg this]; exact h2, by rw [gN_gh, if_neg this]; exact h3, by funext j; rw [gN_I, if_neg this, h4], by funext j; rw [gN_L, if_neg this, h5], by funext j; rw [gN_P, if_neg this, h6]⟩
theorem nI_sub {a b : Nat} (h : b ≤ a) : nI a - nI b = nI (a - b) := by
  have : nI a = nI (a - b) + nI b := by rw [nI_add, Nat.sub_add_cancel h]
  rw [this, Int32.add_sub_cancel]
end GK
