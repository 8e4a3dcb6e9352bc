/-! ===== the Model's expressions: what stands, how it goes on ===== -/
set_option maxRecDepth 100000
/-- what stands ahead of an expression -/
def eE (I : xII) (m : Nat) (D : tkL) (Γ : List dcl) (fs : List fnc) (c : Bool) (t o st pe : Nat) (x : nte) : Prop := eT I m D t o ∧ mGm I m Γ fs ∧ I m 54 = (if c = true then 1 else 0) ∧ I m 60 = nI st ∧ I m 70 = nI pe ∧ nFd I m x
/-- steps and signs under way that stay -/
def eK (I J : xII) (m st pe : Nat) : Prop := ∀ a k, (m + 32 ≤ a ∧ a ≤ m + 35 ∧ k < st) ∨ (m + 36 ≤ a ∧ a ≤ m + 38 ∧ k < pe) → J a k = I a k
/-- from I to J: the steps l, notes y, no worth b -/
def eW (I J : xII) (m : Nat) (D : tkL) (Γ : List dcl) (fs : List fnc) (c : Bool) (st pe : Nat) (x : nte) (t' o' : Nat) (l : List stp) (y : nte) (b : Bool) : Prop := eG I J m ∧ eE J m D Γ fs c t' o' (st + l.length) pe (mN (I m 46) x y) ∧ eK I J m st pe ∧ mSt J m st l ∧ J m 55 = (if (c && b) = true then 1 else I m 55)
/-- outside, and all that stood ahead, stays -/
def eH (I J : xII) (m st pe : Nat) : Prop := eG I J m ∧ eK I J m st pe
section MW2
variable {m t o st pe t' o' t2 o2 : Nat} {I J K : xII} {D : tkL} {Γ : List dcl} {fs : List fnc} {c b b2 : Bool} {x y y2 : nte} {l l2 : List stp}
theorem eG.ps (h : eG I J m) : J m 46 = I m 46 := h _ _ (by omega) (by unfold eFk; omega)
theorem eK.rf : eK I I m st pe := fun _ _ _ => rfl
theorem mSt.nil {s : Nat} : mSt J m s [] := fun i q h => by simp at h
theorem mSt.app {s : Nat} : mSt J m s (l ++ l2) ↔ mSt J m s l ∧ mSt J m (s + l.length) l2 := by
  refine ⟨fun h => ⟨fun i q hq => h i q (by rw [List.getElem?_append_left (List.getElem?_eq_some_iff.mp hq).1]; exact hq), fun i q hq => ?_⟩, fun ⟨h1, h2⟩ i q hq => ?_⟩
  · rw [Nat.add_assoc]
    exact h (l.length + i) q (by rw [List.getElem?_append_right (by omega), Nat.add_sub_cancel_left]; exact hq)
  · rcases Nat.lt_or_ge i l.length with z | z
    · rw [List.getElem?_append_left z] at hq
      exact h1 i q hq
    · rw [List.getElem?_append_right z] at hq
      have := h2 _ q hq
      rw [show s + l.length + (i - l.length) = s + i by omega] at this
      exact this
theorem mSt.cong {s : Nat} (h : mSt J m s l) (hf : ∀ a k, m + 32 ≤ a → a ≤ m + 35 → s ≤ k → k < s + l.length → K a k = J a k) : mSt K m s l := fun i q hq => by
  have hi := (List.getElem?_eq_some_iff.mp hq).1
  rw [hf _ _ (by omega) (by omega) (by omega) (by omega), hf _ _ (by omega) (by omega) (by omega) (by omega), hf _ _ (by omega) (by omega) (by omega) (by omega), hf _ _ (by omega) (by omega) (by omega) (by omega)]
  exact h i q hq
theorem eW.rf (h : eE I m D Γ fs c t o st pe x) : eW I I m D Γ fs c st pe x t o [] none false := ⟨eG.rf, by rw [mN_n]; exact h, eK.rf, mSt.nil, by rw [Bool.and_false]; rfl⟩
theorem eW.tr (h : eW I J m D Γ fs c st pe x t' o' l y b) (h2 : eW J K m D Γ fs c (st + l.length) pe (mN (I m 46) x y) t2 o2 l2 y2 b2) : eW I K m D Γ fs c st pe x t2 o2 (l ++ l2) (mnN y y2) (b || b2) := by
  obtain ⟨a1, a2, a3, a4, a5⟩ := h
  obtain ⟨b1, b2', b3, b4, b5⟩ := h2
  refine ⟨a1.tr b1, ?_, fun a k hk => (b3 a k (by omega)).trans (a3 a k hk), mSt.app.mpr ⟨a4.cong fun a k q1 q2 q3 q4 => b3 a k (by omega), b4⟩, ?_⟩
  · rw [a1.ps, mN_as] at b2'
    rw [List.length_append, ← Nat.add_assoc]
    exact b2'
  · rw [b5, a5]
    cases c <;> cases b <;> cases b2 <;> rfl
theorem eW.mv (h : eW I J m D Γ fs c st pe x t' o' l y b) (hq : eQ J K m) (hT : eT K m D t2 o2) : eW I K m D Γ fs c st pe x t2 o2 l y b := by
  obtain ⟨a1, ⟨e1, e2, e3, e4, e5, e6⟩, a3, a4, a5⟩ := h
  have q := fun a k => hq a k
  refine ⟨a1.tr hq.f, ⟨hT, e2.fr hq.f, (hq _ _ (by omega)).trans e3, (hq _ _ (by omega)).trans e4, (hq _ _ (by omega)).trans e5, ?_⟩, fun a k hk => (hq a k (by omega)).trans (a3 a k hk), a4.cong fun a k _ _ _ _ => hq a k (by omega), (hq _ _ (by omega)).trans a5⟩
  generalize mN (I m 46) x y = z at *
  cases z with
  | none => exact (hq _ _ (by omega)).trans e6
  | some z => exact ⟨(hq _ _ (by omega)).trans e6.1, (hq _ _ (by omega)).trans e6.2.1, (hq _ _ (by omega)).trans e6.2.2.1, e6.2.2.2⟩
theorem nFd.fr {z : nte} (h : nFd J m z) (h1 : K m 47 = J m 47) (h2 : K m 48 = J m 48) (h3 : K m 49 = J m 49) : nFd K m z := by
  cases z with
  | none => exact h1.trans h
  | some z => exact ⟨h1.trans h.1, h2.trans h.2.1, h3.trans h.2.2.1, h.2.2.2⟩
theorem eW.st1 (h : eW I J m D Γ fs c st pe x t' o' l y b) {w a d v : Int32} (h0 : K m 60 = nI (st + l.length + 1)) (hS : eS J K m (st + l.length)) (h1 : K (m + 32) (st + l.length) = w) (h2 : K (m + 33) (st + l.length) = a) (h3 : K (m + 34) (st + l.length) = d) (h4 : w = 5 ∨ w = 6 → K (m + 35) (st + l.length) = v) : eW I K m D Γ fs c st pe x t' o' (l ++ [(w, a, d, v)]) y b := by
  obtain ⟨a1, ⟨e1, e2, e3, e4, e5, e6⟩, a3, a4, a5⟩ := h
  refine ⟨a1.tr hS.g, ⟨eS.T e1 hS, e2.fr hS.g, (hS _ _ (by omega) (by omega)).trans e3, ?_, (hS _ _ (by omega) (by omega)).trans e5, e6.fr (hS _ _ (by omega) (by omega)) (hS _ _ (by omega) (by omega)) (hS _ _ (by omega) (by omega))⟩, fun a k hk => (hS a k (by omega) (by omega)).trans (a3 a k hk), mSt.app.mpr ⟨a4.cong fun a k _ _ _ q => hS a k (by omega) (by omega), fun i q hq => ?_⟩, (hS _ _ (by omega) (by omega)).trans a5⟩
  · rw [h0, List.length_append]
    rfl
  · cases i with
    | zero =>
      cases hq
      exact ⟨h1, h2, h3, h4⟩
    | succ i => simp at hq
theorem eW.nt (h : eW I J m D Γ fs c st pe x t' o' l y b) {z : nte} (hN : eN J K m) (hF : nFd K m (mN (J m 46) (mN (I m 46) x y) z)) : eW I K m D Γ fs c st pe x t' o' l (mnN y z) b := by
  obtain ⟨a1, ⟨e1, e2, e3, e4, e5, e6⟩, a3, a4, a5⟩ := h
  rw [a1.ps, mN_as] at hF
  exact ⟨a1.tr hN.g, ⟨eN.T e1 hN, e2.fr hN.g, (hN _ _ (by omega)).trans e3, (hN _ _ (by omega)).trans e4, (hN _ _ (by omega)).trans e5, hF⟩, fun a k hk => (hN a k (by omega)).trans (a3 a k hk), a4.cong fun a k _ _ _ q => hN a k (by omega), (hN _ _ (by omega)).trans a5⟩
theorem eW.mf (h : eW I J m D Γ fs c st pe x t' o' l y b) {z : Int32} (hS : mfS J K m z) : eW I K m D Γ fs c st pe x t' o' l y b := by
  obtain ⟨a1, ⟨e1, e2, e3, e4, e5, e6⟩, a3, a4, a5⟩ := h
  have hf := hS.2
  obtain ⟨f1, f2, f3, f4, f5, f6⟩ := e1
  exact ⟨a1.tr hS.g, ⟨⟨f1.fr hS.g, f2, (hf _ _ (by omega)).trans f3, (hf _ _ (by omega)).trans f4, f5, (hf _ _ (by omega)).trans f6⟩, e2.fr hS.g, (hf _ _ (by omega)).trans e3, (hf _ _ (by omega)).trans e4, (hf _ _ (by omega)).trans e5, e6.fr (hf _ _ (by omega)) (hf _ _ (by omega)) (hf _ _ (by omega))⟩, fun a k hk => (hf a k (by omega)).trans (a3 a k hk), a4.cong fun a k _ _ _ q => hf a k (by omega), (hf _ _ (by omega)).trans a5⟩
theorem eW.hn (h : eW I J m D Γ fs true st pe x t' o' l y b) : eW I (xup J m 55 1) m D Γ fs true st pe x t' o' l y true := by
  obtain ⟨a1, ⟨e1, e2, e3, e4, e5, e6⟩, a3, a4, a5⟩ := h
  have hf : ∀ a k, ¬ (a = m ∧ k = 55) → xup J m 55 1 a k = J a k := fun a k hk => by rw [gX, if_neg hk]
  have hg : eG J (xup J m 55 1) m := fun a k h1 h2 => hf a k (by unfold eFk at h2; omega)
  obtain ⟨f1, f2, f3, f4, f5, f6⟩ := e1
  exact ⟨a1.tr hg, ⟨⟨f1.fr hg, f2, (hf _ _ (by omega)).trans f3, (hf _ _ (by omega)).trans f4, f5, (hf _ _ (by omega)).trans f6⟩, e2.fr hg, (hf _ _ (by omega)).trans e3, (hf _ _ (by omega)).trans e4, (hf _ _ (by omega)).trans e5, e6.fr (hf _ _ (by omega)) (hf _ _ (by omega)) (hf _ _ (by omega))⟩, fun a k hk => (hf a k (by omega)).trans (a3 a k hk), a4.cong fun a k _ _ _ q => hf a k (by omega), xup_s⟩
theorem eS.sc {s : Nat} {v : Int32} (h : eS J K m s) : eS J (xup K (m + 35) s v) m s := fun a k h1 h2 => by rw [gX, if_neg (by omega)]; exact h a k h1 h2
/-- where a step goes to is set -/
theorem eW.sA (h : eW I J m D Γ fs c st pe x t' o' l y b) {v : Int32} {i : Nat} {q : stp} (hq : l[i]? = some q) : eW I (xup J (m + 33) (st + i) v) m D Γ fs c st pe x t' o' (l.set i (q.1, v, q.2.2.1, q.2.2.2)) y b := by
  obtain ⟨a1, ⟨e1, e2, e3, e4, e5, e6⟩, a3, a4, a5⟩ := h
  have hi := (List.getElem?_eq_some_iff.mp hq).1
  have hf : ∀ a k, ¬ (a = m + 33 ∧ k = st + i) → xup J (m + 33) (st + i) v a k = J a k := fun a k hk => by rw [gX, if_neg hk]
  have hg : eG J (xup J (m + 33) (st + i) v) m := fun a k h1 h2 => hf a k (by omega)
  obtain ⟨f1, f2, f3, f4, f5, f6⟩ := e1
  refine ⟨a1.tr hg, ⟨⟨f1.fr hg, f2, (hf _ _ (by omega)).trans f3, (hf _ _ (by omega)).trans f4, f5, (hf _ _ (by omega)).trans f6⟩, e2.fr hg, (hf _ _ (by omega)).trans e3, ?_, (hf _ _ (by omega)).trans e5, e6.fr (hf _ _ (by omega)) (hf _ _ (by omega)) (hf _ _ (by omega))⟩, fun a k hk => (hf a k (by omega)).trans (a3 a k hk), fun j w hw => ?_, (hf _ _ (by omega)).trans a5⟩
  · rw [hf _ _ (by omega), List.length_set]
    exact e4
  · rw [List.getElem?_set] at hw
    split at hw
    · rename_i hij
      subst hij
      cases hw
      obtain ⟨p1, p2, p3, p4⟩ := a4 i q hq
      exact ⟨(hf _ _ (by omega)).trans p1, xup_s, (hf _ _ (by omega)).trans p3, fun z => (hf _ _ (by omega)).trans (p4 z)⟩
    · obtain ⟨p1, p2, p3, p4⟩ := a4 j w hw
      exact ⟨(hf _ _ (by omega)).trans p1, (hf _ _ (by omega)).trans p2, (hf _ _ (by omega)).trans p3, fun z => (hf _ _ (by omega)).trans (p4 z)⟩
theorem eQ.h (h : eQ I J m) : eH I J m st pe := ⟨h.f, fun a k hk => h a k (by omega)⟩
theorem eW.h (h : eW I J m D Γ fs c st pe x t' o' l y b) : eH I J m st pe := ⟨h.1, h.2.2.1⟩
theorem eH.q (h : eH I J m st pe) (q : eQ J K m) : eH I K m st pe := ⟨h.1.tr q.f, fun a k hk => (q a k (by omega)).trans (h.2 a k hk)⟩
theorem eH.tr {st' pe' : Nat} (h : eH I J m st pe) (h' : eH J K m st' pe') (hs : st ≤ st' := by omega) (hp : pe ≤ pe' := by omega) : eH I K m st pe := ⟨h.1.tr h'.1, fun a k hk => (h'.2 a k (by omega)).trans (h.2 a k hk)⟩
end MW2
