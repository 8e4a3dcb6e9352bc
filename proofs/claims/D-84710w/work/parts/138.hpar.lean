/-! ===== the House's parser: small methods ===== -/
set_option maxRecDepth 100000
def PS (G : xG) (A : xA) (x : Nat) (D : tkL) (t op : Nat) : Prop := xHs G A x ∧ tkA A.I x D ∧ wfD D ∧ t < D.length ∧ op ≤ 40 ∧ A.I (x + 2) 3 = nI t ∧ A.I (x + 2) 4 = nI op ∧ gw A
def fl (A : xA) (x : Nat) (f : Int32 × Int32) : xA := (A.setI (x + 2) 5 f.1).setI (x + 2) 6 f.2
/-- what the parser leaves as it was -/
def pf (x : Nat) (A B : xA) : Prop := Fr (fun a => a = x + 2) A B ∧ ∀ k, B.P (x + 2) k = A.P (x + 2) k
def pz (x : Nat) (A B : xA) : Prop := pf x A B ∧ B.n = A.n ∧ B.u = A.u
section PA
variable {G : xG} {A B C : xA} {x t op : Nat} {D : tkL} {k : Int32} {E : Nat → xA → Prop}
theorem pf.rf : pf x A A := ⟨Fr.rf, fun _ => rfl⟩
theorem pf.tr (h : pf x A B) (h' : pf x B C) : pf x A C := ⟨h.1.tr h'.1 fun _ _ q => q, fun k => (h'.2 k).trans (h.2 k)⟩
theorem pf.set {j : Nat} {v : Int32} (h : pf x A B) : pf x A (B.setI (x + 2) j v) := h.tr ⟨Fr.setI rfl, fun _ => rfl⟩
theorem pf.flt {f : Int32 × Int32} (h : pf x A B) : pf x A (fl B x f) := h.set.set
theorem pf.new {t m w : Nat} (h : pf x A B) (hx : x + 2 < B.n) : pf x A (B.new t m w 0) := h.tr ⟨Fr.new (Or.inl (by decide)), fun k => by rw [gN_P, if_neg (by omega)]⟩
/-- what was made behind A may be changed -/
theorem pf.own {S : Nat → Prop} (h : pf x A B) (h' : Fr S B C) (hs : ∀ a, a < A.n → ¬ S a) (hx : x + 2 < A.n) : pf x A C := by
  refine ⟨h.1.tr h'  fun a ha q => absurd q (hs a ha), fun k => ?_⟩
  rw [h'.P (Nat.lt_of_lt_of_le hx h.1.1) (hs _ hx)]
  exact h.2 k
theorem pf.ownI {a j : Nat} {v : Int32} (h : pf x A B) (ha : A.n ≤ a) (hx : x + 2 < A.n) : pf x A (B.setI a j v) := h.own (S := fun b => b = a) (Fr.setI rfl) (fun b hb e => by omega) hx
theorem pf.ownP {a j : Nat} {v : Option Nat} (h : pf x A B) (ha : A.n ≤ a) (hx : x + 2 < A.n) : pf x A (B.setP a j v) := h.own (S := fun b => b = a) (Fr.setP rfl) (fun b hb e => by omega) hx
theorem pf.add {l v : Nat} {vs : List Nat} (h : pf x A B) (hg : gw B) (ha : xAdded G B l v vs C) (hl : A.n ≤ l) (hlB : l < B.n) (hx : x + 2 < A.n) : pf x A C :=
  h.own (ha.fr hlB) (fun a h1 q => by
    rcases q with q | q
    · omega
    · have := (hg a l (Nat.lt_of_lt_of_le h1 h.1.1) q).1
      omega) hx
theorem xHs.lt (h : xHs G A x) : x + 110 ≤ A.n := h.2.1
theorem xHs.pf (h : xHs G A x) (hf : pf x A B) : xHs G B x := by
  refine ⟨h.1, Nat.le_trans h.2.1 hf.1.1, fun q hq => ?_, fun q hq => ?_⟩
  · have h1 : ∀ q ∈ hTag, q.1 < 110 := by decide
    have := h1 q hq
    have := h.2.1
    rw [hf.1.tg (by omega), hf.1.ln (by omega)]
    exact h.2.2.1 q hq
  · have h1 : ∀ q ∈ hRef, q.1 < 110 := by decide
    have := h1 q hq
    have := h.2.1
    rw [← h.2.2.2 q hq]
    by_cases e : q.1 = 2
    · rw [e]
      exact hf.2 _
    · exact hf.1.P (by omega) (by omega)
theorem tk_at (h : tkA A.I x D) (ht : t < D.length) : A.I (x + 6) t = tK D t ∧ (tK D t = 2 ∨ tK D t = 3 → A.I (x + 8) t = tV D t) ∧ A.I (x + 7) t = tP D t := by
  have := h t (D.getD t (0, 0, 0)) (by rw [List.getD_eq_getElem?_getD, List.getElem?_eq_getElem ht]; rfl)
  exact this
theorem tkA.same {J J' : xII} (h : tkA J x D) (h6 : ∀ i, J' (x + 6) i = J (x + 6) i) (h7 : ∀ i, J' (x + 7) i = J (x + 7) i) (h8 : ∀ i, J' (x + 8) i = J (x + 8) i) : tkA J' x D := fun i q hq => by
  rw [h6, h7, h8]
  exact h i q hq
theorem PS.le (h : PS G A x D t op) : D.length ≤ 4001 := h.2.2.1.2.1
theorem PS.lt (h : PS G A x D t op) : t < D.length := h.2.2.2.1
theorem PS.a (h : PS G A x D t op) : A.I (x + 2) 3 = nI t := h.2.2.2.2.2.1
theorem PS.o (h : PS G A x D t op) : A.I (x + 2) 4 = nI op := h.2.2.2.2.2.2.1
theorem PS.ol (h : PS G A x D t op) : op ≤ 40 := h.2.2.2.2.1
theorem PS.g (h : PS G A x D t op) : gw A := h.2.2.2.2.2.2.2
theorem PS.xl (h : PS G A x D t op) : x + 2 < A.n := by have := h.1.lt; omega
theorem PS.kd (h : PS G A x D t op) : A.I (x + 6) t = tK D t := (tk_at h.2.1 h.lt).1
theorem PS.setI {j : Nat} {v : Int32} (h : PS G A x D t op) (hj : j ≠ 3) (hj' : j ≠ 4) : PS G (A.setI (x + 2) j v) x D t op :=
  ⟨h.1, h.2.1.same (fun i => xup_a (by omega)) (fun i => xup_a (by omega)) (fun i => xup_a (by omega)), h.2.2.1, h.lt, h.ol, (xup_k (fun e => hj e.symm)).trans h.a, (xup_k (fun e => hj' e.symm)).trans h.o, h.g⟩
theorem PS.at {t1 : Nat} (h : PS G A x D t op) (ht : t1 < D.length) : PS G (A.setI (x + 2) 3 (nI t1)) x D t1 op :=
  ⟨h.1, h.2.1.same (fun i => xup_a (by omega)) (fun i => xup_a (by omega)) (fun i => xup_a (by omega)), h.2.2.1, ht, h.ol, xup_s, (xup_k (by decide)).trans h.o, h.g⟩
theorem PS.opn {o : Nat} (h : PS G A x D t op) (ho : o ≤ 40) : PS G (A.setI (x + 2) 4 (nI o)) x D t o :=
  ⟨h.1, h.2.1.same (fun i => xup_a (by omega)) (fun i => xup_a (by omega)) (fun i => xup_a (by omega)), h.2.2.1, h.lt, ho, (xup_k (by decide)).trans h.a, xup_s, h.g⟩
/-- where nothing of the House changes -/
theorem xHs.fr {S : Nat → Prop} (h : xHs G A x) (h' : Fr S A B) (hs : ∀ a, a < x + 110 → ¬ S a) : xHs G B x := by
  have h1 : ∀ q ∈ hTag, q.1 < 110 := by decide
  have h2 : ∀ q ∈ hRef, q.1 < 110 := by decide
  have h3 := h.2.1
  refine ⟨h.1, Nat.le_trans h.2.1 h'.1, fun q hq => ?_, fun q hq => ?_⟩
  · have := h1 q hq
    rw [h'.tg (by omega), h'.ln (by omega)]
    exact h.2.2.1 q hq
  · have := h2 q hq
    rw [h'.P (by omega) (hs _ (by omega))]
    exact h.2.2.2 q hq
theorem PS.fr {S : Nat → Prop} (h : PS G A x D t op) (h' : Fr S A B) (hs : ∀ a, a < x + 110 → ¬ S a) : PS G B x D t op := by
  have h1 := h.1.lt
  have q : ∀ a k, a < x + 110 → B.I a k = A.I a k := fun a k ha => h'.I (by omega) (hs a ha)
  exact ⟨h.1.fr h' hs, h.2.1.same (fun i => q _ _ (by omega)) (fun i => q _ _ (by omega)) (fun i => q _ _ (by omega)), h.2.2.1, h.lt, h.ol, (q _ _ (by omega)).trans h.a, (q _ _ (by omega)).trans h.o, h'.2.2.1 h.g⟩
theorem PS.ad {l v : Nat} {vs : List Nat} (h : PS G A x D t op) (ha : xAdded G A l v vs B) (hl : x + 110 ≤ l) (hlA : l < A.n) : PS G B x D t op :=
  h.fr (ha.fr hlA) fun a h1 q => by
    have := h.1.lt
    rcases q with q | q
    · omega
    · have := (h.g a l (by omega) q).1
      omega
theorem s_X1_kind (h : PS G A x D t op) : w_X1_kind G (x + 2) (fun v B => tK D t = v ∧ A = B) A := by
  intro _
  have hl := h.le
  have ht := h.lt
  refine ⟨hs_t2 h.1, _, hs_P2_0 h.1, hs_t3 h.1, _, hs_P3_2 h.1, hs_t6 h.1, ?_, ?_, rfl⟩
  · rw [h.a, hs_n6 h.1]
    exact vp_in_nI (by omega) (by decide)
  · rw [h.a, show ix (nI t) = t from nI_clamp (by omega), h.kd]
theorem s_X1_here (h : PS G A x D t op) : w_X1_here G (x + 2) (fun v B => tP D t = v ∧ A = B) A := by
  intro _
  have hl := h.le
  have ht := h.lt
  refine ⟨hs_t2 h.1, _, hs_P2_0 h.1, hs_t3 h.1, _, hs_P3_3 h.1, hs_t7 h.1, ?_, ?_, rfl⟩
  · rw [h.a, hs_n7 h.1]
    exact vp_in_nI (by omega) (by decide)
  · rw [h.a, show ix (nI t) = t from nI_clamp (by omega), (tk_at h.2.1 ht).2.2]
theorem s_X1_is (h : PS G A x D t op) : w_X1_is G (x + 2) k (fun v B => (v = 1 ∧ tK D t = k ∨ v = 0 ∧ ¬ tK D t = k) ∧ A = B) A := by
  intro _
  refine ⟨hs_t2 h.1, _, s_X1_kind h, ?_⟩
  rintro _ _ _ ⟨rfl, rfl⟩
  refine ⟨?_, rfl⟩
  by_cases q : tK D t = k
  · exact Or.inl ⟨if_pos q, q⟩
  · exact Or.inr ⟨if_neg q, q⟩
theorem s_X1_fail (h : PS G A x D t op) : w_X1_fail G (x + 2) k (fun v B => some (x + 11) = v ∧ fl A x (k, tP D t) = B) A := by
  intro _
  refine ⟨hs_t2 h.1, ?_⟩
  rintro _ rfl
  refine ⟨_, s_X1_here (h.setI (by decide) (by decide)), ?_⟩
  rintro _ _ _ ⟨rfl, rfl⟩
  refine ⟨hs_t2 h.1, ?_⟩
  rintro _ rfl
  exact ⟨(hs_P2_1 h.1).symm, rfl⟩
theorem s_X1_wrong (h : PS G A x D t op) : w_X1_wrong G (x + 2) (fun v B => some (x + 11) = v ∧ fl A x (pWr D t) = B) A := by
  intro _
  refine ⟨hs_t2 h.1, _, s_X1_is h, ?_⟩
  rintro v1 _ _ _ ⟨hv, rfl⟩
  refine ⟨hs_t2 h.1, _, s_X1_fail h, ?_⟩
  rintro _ _ _ ⟨rfl, rfl⟩
  refine ⟨rfl, ?_⟩
  rcases hv with ⟨rfl, q⟩ | ⟨rfl, q⟩
  · rw [if_neg (by decide), pWr, if_pos q]
  · rw [if_pos rfl, pWr, if_neg q]
theorem s_X1_takes (h : PS G A x D t op) (hk : ¬ k = 0 ∧ ¬ k = 1 := by decide) : w_X1_takes G (x + 2) k (fun v B => (v = 1 ∧ tK D t = k ∧ PS G B x D (t + 1) op ∧ pz x A B) ∨ (v = 0 ∧ ¬ tK D t = k ∧ A = B)) A := by
  intro _
  refine ⟨hs_t2 h.1, _, s_X1_is h, ?_⟩
  rintro v1 _ _ _ ⟨⟨rfl, q⟩ | ⟨rfl, q⟩, rfl⟩
  · refine ⟨fun q => absurd q (by decide), fun _ => ?_⟩
    refine ⟨hs_t2 h.1, ?_⟩
    rintro _ rfl
    rw [h.a, nI_1]
    exact Or.inl ⟨rfl, q, h.at (h.2.2.1.nx' h.lt q hk), pf.rf.set, rfl, rfl⟩
  · refine ⟨fun _ => ?_, fun q => absurd rfl q⟩
    exact Or.inr ⟨rfl, q, rfl⟩
theorem s_X1_need (h : PS G A x D t op) (hE : ¬ tK D t = k → E (x + 11) (fl A x (pWr D t))) (hk : ¬ k = 0 ∧ ¬ k = 1 := by decide) : w_X1_need G (x + 2) k (fun B => tK D t = k ∧ PS G B x D (t + 1) op ∧ pz x A B) E A := by
  intro _
  refine ⟨hs_t2 h.1, _, s_X1_takes h hk, ?_⟩
  rintro v1 A1 _ _ (⟨rfl, q, p1, z1⟩ | ⟨rfl, q, rfl⟩)
  · refine ⟨fun q => absurd q (by decide), fun _ => ?_⟩
    exact ⟨q, p1, z1⟩
  · refine ⟨fun _ => ?_, fun q => absurd rfl q⟩
    refine ⟨hs_t2 h.1, _, s_X1_wrong h, ?_⟩
    rintro _ _ _ ⟨rfl, rfl⟩
    exact ⟨_, rfl, hE q⟩
theorem s_X1_needName (h : PS G A x D t op) (hE : ¬ tK D t = 2 → E (x + 11) (fl A x (pWr D t))) : w_X1_needName G (x + 2) (fun v B => tK D t = 2 ∧ tV D t = v ∧ PS G B x D (t + 1) op ∧ pz x A B) E A := by
  intro _
  have hl := h.le
  have ht := h.lt
  refine ⟨hs_t2 h.1, _, s_X1_is h, ?_⟩
  rintro v1 _ _ _ ⟨⟨rfl, q⟩ | ⟨rfl, q⟩, rfl⟩
  · refine ⟨fun q => absurd q (by decide), fun _ => ?_⟩
    refine ⟨hs_t2 h.1, ?_⟩
    rintro _ rfl
    have e : A.I (x + 2) 3 + 1 - 1 = nI t := by rw [h.a, nI_1, nI_pred]
    refine ⟨_, hs_P2_0 h.1, hs_t3 h.1, _, hs_P3_4 h.1, hs_t8 h.1, ?_, q, ?_, ?_⟩
    · rw [e]
      show vp_in _ (A.ln (x + 8))
      rw [hs_n8 h.1]
      exact vp_in_nI (by omega) (by decide)
    · rw [e, show ix (nI t) = t from nI_clamp (by omega)]
      exact ((xup_a (by omega)).trans ((tk_at h.2.1 ht).2.1 (Or.inl q))).symm
    · rw [h.a, nI_1]
      exact ⟨h.at (h.2.2.1.nx' h.lt q), pf.rf.set, rfl, rfl⟩
  · refine ⟨fun _ => ?_, fun q => absurd rfl q⟩
    refine ⟨hs_t2 h.1, _, s_X1_wrong h, ?_⟩
    rintro _ _ _ ⟨rfl, rfl⟩
    exact ⟨_, rfl, hE q⟩
theorem s_X1_opens (h : PS G A x D t op) (hE : ¬ tK D t = k → E (x + 11) (fl A x (pWr D t))) (hE3 : tK D t = k → op = 40 → E (x + 11) (fl A x (3, tP D t))) (hk : ¬ k = 0 ∧ ¬ k = 1 := by decide) : w_X1_opens G (x + 2) k (fun B => tK D t = k ∧ op < 40 ∧ PS G B x D (t + 1) (op + 1) ∧ pz x A B) E A := by
  intro _
  have hop := h.ol
  refine ⟨hs_t2 h.1, _, s_X1_is h, ?_⟩
  rintro v1 _ _ _ ⟨⟨rfl, q⟩ | ⟨rfl, q⟩, rfl⟩
  · refine ⟨fun q => absurd q (by decide), fun _ => ?_⟩
    refine ⟨hs_t2 h.1, fun e => ?_, fun e => ?_⟩
    · refine ⟨_, s_X1_fail h, ?_⟩
      rintro _ _ _ ⟨rfl, rfl⟩
      have : op = 40 := by
        rw [h.o] at e
        exact (nI_eq (b := 40) (by omega) (by decide)).mp e
      exact ⟨_, rfl, hE3 q this⟩
    · rintro _ rfl _ rfl
      have : op ≠ 40 := fun z => e (by rw [h.o, z]; rfl)
      rw [h.a, h.o, nI_1, nI_1]
      exact ⟨q, by omega, (h.opn (by omega)).at (h.2.2.1.nx' h.lt q hk), pf.rf.set.set, rfl, rfl⟩
  · refine ⟨fun _ => ?_, fun q => absurd rfl q⟩
    refine ⟨hs_t2 h.1, _, s_X1_wrong h, ?_⟩
    rintro _ _ _ ⟨rfl, rfl⟩
    exact ⟨_, rfl, hE q⟩
theorem s_X1_closes (h : PS G A x D t op) (ho : 0 < op) (hE : ¬ tK D t = k → E (x + 11) (fl A x (pWr D t))) (hk : ¬ k = 0 ∧ ¬ k = 1 := by decide) : w_X1_closes G (x + 2) k (fun B => tK D t = k ∧ PS G B x D (t + 1) (op - 1) ∧ pz x A B) E A := by
  intro _
  have hop := h.ol
  refine ⟨hs_t2 h.1, _, s_X1_need h hE hk, ?_⟩
  rintro A1 _ ⟨q, p1, z1⟩
  refine ⟨hs_t2 p1.1, ?_⟩
  rintro _ rfl
  rw [p1.o, nI_sub1, nI_dec ho]
  exact ⟨q, p1.opn (by omega), z1.1.set, z1.2.1, z1.2.2⟩
end PA
/-! constructors of expressions -/
section PC
variable {G : xG} {A : xA} {p : Nat}
theorem xE_of {t : Nat} (h : A.tg p = t + 1) (ht : t ∈ eCl) : xE A p := ⟨t, h, ht⟩
theorem s_X15_init {f : Int32} (h : xE A p) : w_X15_init G p f (fun B => A.setI p 0 f = B) A := fun _ => ⟨h, fun _ e => e.symm⟩
theorem s_X16_init {f n : Int32} (h : A.tg p = 15) : w_X16_init G p f n (fun B => (A.setI p 0 f).setI p 1 n = B) A := by
  intro _
  refine ⟨_, s_X15_init (xE_of h (by decide)), ?_⟩
  rintro _ _ rfl
  exact ⟨h, fun _ e => e.symm⟩
theorem s_X17_init {q n e : Int32} {g : Option Nat} (h : A.tg p = 16) : w_X17_init G p q n g e (fun B => ((((A.setI p 0 q).setI p 2 q).setI p 1 n).setP p 4 g).setI p 3 e = B) A := by
  intro _
  refine ⟨_, s_X15_init (xE_of h (by decide)), ?_⟩
  rintro _ _ rfl
  refine ⟨h, ?_⟩
  rintro _ rfl _ rfl _ rfl _ rfl
  rfl
theorem s_X18_init {q n r : Int32} {i : Option Nat} (h : A.tg p = 17) : w_X18_init G p q n i r (fun B => ((((A.setI p 0 q).setI p 2 q).setI p 1 n).setP p 4 i).setI p 3 r = B) A := by
  intro _
  refine ⟨_, s_X15_init (xE_of h (by decide)), ?_⟩
  rintro _ _ rfl
  refine ⟨h, ?_⟩
  rintro _ rfl _ rfl _ rfl _ rfl
  rfl
theorem s_X19_init {q : Int32} (h : A.tg p = 18) : w_X19_init G p q (fun B => (A.setI p 0 q).setI p 1 q = B) A := by
  intro _
  refine ⟨_, s_X15_init (xE_of h (by decide)), ?_⟩
  rintro _ _ rfl
  exact ⟨h, fun _ e => e.symm⟩
theorem s_X20_init {f : Int32} {s o : Option Nat} (h : A.tg p = 19) : w_X20_init G p f s o (fun B => ((A.setI p 0 f).setP p 1 s).setP p 2 o = B) A := by
  intro _
  refine ⟨_, s_X15_init (xE_of h (by decide)), ?_⟩
  rintro _ _ rfl
  refine ⟨h, ?_⟩
  rintro _ rfl _ rfl
  rfl
theorem s_X21_init {i : Int32} {l e : Nat} {vs : List Nat} (h : A.tg p = 20) (hi : i = 0 ∨ i = 1) (hl : xL G A l vs) (he : vs[0]? = some e) (hE : xE A e) : w_X21_init G p i (some l) (fun B => ((A.setI p 0 (A.I e 0)).setI p 1 i).setP p 2 (some l) = B) A := by
  intro _
  refine ⟨l, rfl, hl.1, _, s_J5_get (i := 0) hl he, ?_⟩
  rintro _ _ _ ⟨rfl, rfl⟩
  refine ⟨e, rfl, hE, _, s_X15_init (xE_of h (by decide)), ?_⟩
  rintro _ _ rfl
  refine ⟨h, hi, ?_⟩
  rintro _ rfl _ rfl
  rfl
theorem s_X22_init {t : Option Nat} {l e : Nat} {vs : List Nat} (h : A.tg p = 21) (hl : xL G A l vs) (he : vs[0]? = some e) (hE : xE A e) : w_X22_init G p t (some l) (fun B => ((A.setI p 0 (A.I e 0)).setP p 1 t).setP p 2 (some l) = B) A := by
  intro _
  refine ⟨l, rfl, hl.1, _, s_J5_get (i := 0) hl he, ?_⟩
  rintro _ _ _ ⟨rfl, rfl⟩
  refine ⟨e, rfl, hE, _, s_X15_init (xE_of h (by decide)), ?_⟩
  rintro _ _ rfl
  refine ⟨h, ?_⟩
  rintro _ rfl _ rfl
  rfl
theorem s_X23_init {a : Nat} {y n : Option Nat} (h : A.tg p = 22) (hE : xE A a) : w_X23_init G p (some a) y n (fun B => (((A.setI p 0 (A.I a 0)).setP p 1 (some a)).setP p 2 y).setP p 3 n = B) A := by
  intro _
  refine ⟨a, rfl, hE, _, s_X15_init (xE_of h (by decide)), ?_⟩
  rintro _ _ rfl
  refine ⟨h, ?_⟩
  rintro _ rfl _ rfl _ rfl
  rfl
end PC
