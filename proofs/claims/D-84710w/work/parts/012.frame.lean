/-! ===== worlds: what is there, what a call leaves as it was ===== -/
set_option maxRecDepth 100000
/-- what has a tag lies in the heap -/
def xwf (A : xA) : Prop := ∀ a, (0 < A.tg a ∧ A.tg a ≤ 100) ∨ 200 ≤ A.tg a → a < A.n
theorem xRel.wf {G : xG} {A : xA} {H : Heap} (h : xRel G A H) : xwf A := by
  intro a ha
  by_cases hN : a < G.N
  · exact Nat.lt_of_lt_of_le hN h.2.2.2.2.2.2
  · rw [← h.1]
    rcases ha with ⟨h1, h2⟩ | h1
    · obtain ⟨r, -, cell, g, -⟩ := h.2.2.2.1 a (A.tg a - 1) (by omega) (by omega) (by omega)
      exact (Array.getElem?_eq_some_iff.mp g).1
    · exact (Array.getElem?_eq_some_iff.mp (h.2.2.2.2.1 a (A.tg a - 200) (by omega) (by omega)).2).1
theorem X.wf {G : xG} {d : Nat} {K : xK} {Q : Outcome → xA → Prop} {A : xA} {pc : Nat} {lv : List (Option Value)} {st : List Value} (k : xwf A → G.N ≤ A.n → (∀ a, a < G.N → xat G.A0 A a) → X G d K Q A pc lv st) : X G d K Q A pc lv st := by
  intro p e s m args below meth cd H ls locs hc hr hl hv T hT X
  have o := stand_old X
  rw [hT] at o
  have h1 := xold hc
  exact k hr.wf (by rw [← hr.1]; omega) hr.2.2.2.2.2.1 p e s m args below meth cd H ls locs hc hr hl hv T hT X
theorem MX.wf {G : xG} {d : Nat} {K : xK} {Q : Outcome → xA → Prop} {A : xA} {as : List Value} (k : xwf A → (∀ a, a < G.N → xat G.A0 A a) → MX G d K as A Q) : MX G d K as A Q := fun H hr => k hr.wf hr.2.2.2.2.2.1 H hr
theorem xwf.lt {A : xA} (h : xwf A) {a t : Nat} (ht : A.tg a = t) (h0 : (0 < t ∧ t ≤ 100) ∨ 200 ≤ t := by omega) : a < A.n := h a (by rw [ht]; exact h0)
/-- B is A with more cells; outside S nothing has changed -/
def xFrm (S : Nat → Prop) (A B : xA) : Prop := A.n ≤ B.n ∧ A.u ≤ B.u ∧ ∀ a, a < A.n → (B.tg a = A.tg a ∧ B.ln a = A.ln a ∧ B.gh a = A.gh a) ∧ (¬ S a → B.I a = A.I a ∧ B.L a = A.L a ∧ B.P a = A.P a)
theorem xFrm.rf {S : Nat → Prop} {A : xA} : xFrm S A A := ⟨Nat.le_refl _, Nat.le_refl _, fun _ _ => ⟨⟨rfl, rfl, rfl⟩, fun _ => ⟨rfl, rfl, rfl⟩⟩⟩
theorem xFrm.mono {S S' : Nat → Prop} {A B : xA} (h : xFrm S A B) (hs : ∀ a, a < A.n → S a → S' a) : xFrm S' A B := ⟨h.1, h.2.1, fun a ha => ⟨(h.2.2 a ha).1, fun q => (h.2.2 a ha).2 fun z => q (hs a ha z)⟩⟩
theorem xFrm.trans {S : Nat → Prop} {A B C : xA} (h : xFrm S A B) (h2 : xFrm S B C) : xFrm S A C := by
  refine ⟨Nat.le_trans h.1 h2.1, Nat.le_trans h.2.1 h2.2.1, fun a ha => ?_⟩
  obtain ⟨⟨e1, e2, e3⟩, e4⟩ := h.2.2 a ha
  obtain ⟨⟨f1, f2, f3⟩, f4⟩ := h2.2.2 a (Nat.lt_of_lt_of_le ha h.1)
  refine ⟨⟨f1.trans e1, f2.trans e2, f3.trans e3⟩, fun hs => ?_⟩
  obtain ⟨g1, g2, g3⟩ := e4 hs
  obtain ⟨k1, k2, k3⟩ := f4 hs
  exact ⟨k1.trans g1, k2.trans g2, k3.trans g3⟩
/-- a second step may also change what the first has made -/
theorem xFrm.trans' {S S2 : Nat → Prop} {A B C : xA} (h : xFrm S A B) (h2 : xFrm S2 B C) (hs : ∀ a, a < A.n → S2 a → S a) : xFrm S A C := by
  refine ⟨Nat.le_trans h.1 h2.1, Nat.le_trans h.2.1 h2.2.1, fun a ha => ?_⟩
  obtain ⟨⟨e1, e2, e3⟩, e4⟩ := h.2.2 a ha
  obtain ⟨⟨f1, f2, f3⟩, f4⟩ := h2.2.2 a (Nat.lt_of_lt_of_le ha h.1)
  refine ⟨⟨f1.trans e1, f2.trans e2, f3.trans e3⟩, fun hn => ?_⟩
  obtain ⟨g1, g2, g3⟩ := e4 hn
  obtain ⟨k1, k2, k3⟩ := f4 fun z => hn (hs a ha z)
  exact ⟨k1.trans g1, k2.trans g2, k3.trans g3⟩
section XF
variable {S : Nat → Prop} {A B : xA}
theorem xFrm.tg (h : xFrm S A B) (hw : xwf A) {a t : Nat} (ht : A.tg a = t) (h0 : (0 < t ∧ t ≤ 100) ∨ 200 ≤ t := by omega) : B.tg a = t := by rw [(h.2.2 a (hw.lt ht h0)).1.1]; exact ht
theorem xFrm.ln (h : xFrm S A B) {a : Nat} (ha : a < A.n) : B.ln a = A.ln a := (h.2.2 a ha).1.2.1
theorem xFrm.gh (h : xFrm S A B) {a : Nat} (ha : a < A.n) : B.gh a = A.gh a := (h.2.2 a ha).1.2.2
theorem xFrm.I (h : xFrm S A B) {a : Nat} (ha : a < A.n) (hs : ¬ S a) : B.I a = A.I a := ((h.2.2 a ha).2 hs).1
theorem xFrm.L (h : xFrm S A B) {a : Nat} (ha : a < A.n) (hs : ¬ S a) : B.L a = A.L a := ((h.2.2 a ha).2 hs).2.1
theorem xFrm.P (h : xFrm S A B) {a : Nat} (ha : a < A.n) (hs : ¬ S a) : B.P a = A.P a := ((h.2.2 a ha).2 hs).2.2
theorem xFrm.setI {a k : Nat} {v : Int32} (hs : S a) : xFrm S A (A.setI a k v) := ⟨Nat.le_refl _, Nat.le_refl _, fun b _ => ⟨⟨rfl, rfl, rfl⟩, fun q => ⟨by
  funext j
  exact xup_a (fun e => q (e ▸ hs)), rfl, rfl⟩⟩⟩
theorem xFrm.setL {a k : Nat} {v : Int64} (hs : S a) : xFrm S A (A.setL a k v) := ⟨Nat.le_refl _, Nat.le_refl _, fun b _ => ⟨⟨rfl, rfl, rfl⟩, fun q => ⟨rfl, by
  funext j
  exact xup_a (fun e => q (e ▸ hs)), rfl⟩⟩⟩
theorem xFrm.setP {a k : Nat} {v : Option Nat} (hs : S a) : xFrm S A (A.setP a k v) := ⟨Nat.le_refl _, Nat.le_refl _, fun b _ => ⟨⟨rfl, rfl, rfl⟩, fun q => ⟨rfl, rfl, by
  funext j
  exact xup_a (fun e => q (e ▸ hs))⟩⟩⟩
theorem xFrm.wP {a : Nat} {f : Nat → Option Nat} (hs : S a) : xFrm S A (A.wP (xu1 A.P a f)) := ⟨Nat.le_refl _, Nat.le_refl _, fun b _ => ⟨⟨rfl, rfl, rfl⟩, fun q => ⟨rfl, rfl, xu1_n (fun e => q (e ▸ hs))⟩⟩⟩
theorem xFrm.new {t m w g : Nat} : xFrm S A (A.new t m w g) := ⟨Nat.le_succ _, Nat.le_add_right _ _, fun b hb => ⟨⟨xu1_n (Nat.ne_of_lt hb), xu1_n (Nat.ne_of_lt hb), xu1_n (Nat.ne_of_lt hb)⟩, fun _ => ⟨xu1_n (Nat.ne_of_lt hb), xu1_n (Nat.ne_of_lt hb), xu1_n (Nat.ne_of_lt hb)⟩⟩⟩
theorem xEl.mono (h : xFrm S A B) (hw : xwf A) {y : Nat} (hy : xEl A y) : xEl B y := by
  obtain ⟨c, r, h1, h2, h3⟩ := hy
  have := (xclass_ok c r h2).1
  exact ⟨c, r, h.tg hw h1 (by omega), h2, h3⟩
end XF
