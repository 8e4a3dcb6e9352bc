/-! ===== the Model's notes, steps, meanings ===== -/
set_option maxRecDepth 100000
theorem mnN_as (a b c : nte) : mnN (mnN a b) c = mnN a (mnN b c) := by
  cases a with
  | none => rfl
  | some x => cases b with
    | none => rfl
    | some y => cases c with
      | none => unfold mnN; split <;> simp_all
      | some z =>
        simp only [mnN]
        grind
theorem mnN_n (a : nte) : mnN a none = a := by cases a <;> rfl
/-- what is noted -/
def nFd (I : xII) (m : Nat) (x : nte) : Prop := match x with
  | none => I m 47 = 0
  | some y => I m 47 = y.1 ∧ I m 48 = y.2.1 ∧ I m 49 = y.2.2 ∧ 0 < y.1
def mN (ps : Int32) (x y : nte) : nte := if ps = 0 then x else mnN x y
theorem mN_as {ps : Int32} {x a b : nte} : mN ps (mN ps x a) b = mN ps x (mnN a b) := by
  unfold mN
  by_cases h : ps = 0
  · simp only [if_pos h]
  · simp only [if_neg h, mnN_as]
theorem mN_n {ps : Int32} {x : nte} : mN ps x none = x := by
  unfold mN
  by_cases h : ps = 0
  · rw [if_pos h]
  · rw [if_neg h, mnN_n]
/-- only notes may differ -/
def eN (I J : xII) (m : Nat) : Prop := ∀ a k, ¬ (a = m ∧ (k = 47 ∨ k = 48 ∨ k = 49)) → J a k = I a k
section MN
variable {m t o : Nat} {I J K : xII} {D : tkL}
theorem eN.g (h : eN I J m) : eG I J m := fun a k h1 h2 => h a k (by unfold eFk at h2; omega)
theorem eN.T (h : eT I m D t o) (hf : eN I J m) : eT J m D t o := by
  obtain ⟨h1, h2, h3, h4, h5, h6⟩ := h
  exact ⟨h1.fr hf.g, h2, (hf _ _ (by omega)).trans h3, (hf _ _ (by omega)).trans h4, h5, (hf _ _ (by omega)).trans h6⟩
theorem s_X13_noteAs {x : nte} (h : nFd I m x) {k p r : Int32} (hk : 0 < k) : w_X13_noteAs m k p r (fun J => eN I J m ∧ nFd J m (mN (I m 46) x (ntR k p r))) I := by
  unfold w_X13_noteAs
  refine ⟨fun q => ⟨fun _ _ _ => rfl, by rw [mN, if_pos q]; exact h⟩, fun q => ?_⟩
  rw [mN, if_neg q]
  have key : ∀ y : nte, y = ntR k p r → ∀ J, J = xup (xup (xup I m 47 k) m 48 p) m 49 r → eN I J m ∧ nFd J m y := by
    rintro _ rfl _ rfl
    exact ⟨fun a k' h' => by grind [gX], by grind [gX], by grind [gX], by grind [gX], hk⟩
  cases x with
  | none =>
    have h' : I m 47 = 0 := h
    rw [h']
    refine ⟨fun _ => ?_, fun q => absurd (by decide) q⟩
    rintro _ rfl _ rfl _ rfl
    exact key _ rfl _ rfl
  | some y =>
    obtain ⟨h1, h2, h3, h4⟩ := h
    rw [h1, h2, h3]
    refine ⟨fun z => absurd h4 (Int32.not_lt.mpr z), fun _ => ⟨fun z => ?_, fun z => ⟨fun e => ⟨fun z' => ?_, fun z' => ?_⟩, fun e => ?_⟩⟩⟩
    · rw [ntR, mnN.eq_def]
      dsimp only
      rw [if_pos (Or.inl z)]
      exact ⟨fun _ _ _ => rfl, h1, h2, h3, h4⟩
    · rintro _ rfl _ rfl _ rfl
      refine key _ ?_ _ rfl
      rw [ntR, mnN.eq_def]
      dsimp only
      rw [if_neg]
      rintro (w | ⟨-, w⟩)
      · exact z w
      · exact Int32.not_lt.mpr w z'
    · rw [ntR, mnN.eq_def]
      dsimp only
      rw [if_pos (Or.inr ⟨e, Int32.not_lt.mp z'⟩)]
      exact ⟨fun _ _ _ => rfl, h1, h2, h3, h4⟩
    · rintro _ rfl _ rfl _ rfl
      refine key _ ?_ _ rfl
      rw [ntR, mnN.eq_def]
      dsimp only
      rw [if_neg]
      rintro (w | ⟨w, -⟩)
      · exact z w
      · exact e w
theorem s_X13_note {x : nte} (h : nFd I m x) {k p : Int32} (hk : 0 < k) : w_X13_note m k p (fun J => eN I J m ∧ nFd J m (mN (I m 46) x (nt k p))) I := ⟨_, s_X13_noteAs h hk, fun _ z => z⟩
/-- steps: st of them, the row l from s on -/
def mSt (J : xII) (m s : Nat) (l : List stp) : Prop := ∀ i q, l[i]? = some q → J (m + 32) (s + i) = q.1 ∧ J (m + 33) (s + i) = q.2.1 ∧ J (m + 34) (s + i) = q.2.2.1 ∧ (q.1 = 5 ∨ q.1 = 6 → J (m + 35) (s + i) = q.2.2.2)
/-- all but the step at s stands -/
def eS (I J : xII) (m s : Nat) : Prop := ∀ a k, ¬ (a = m ∧ k = 60) → ¬ ((a = m + 32 ∨ a = m + 33 ∨ a = m + 34 ∨ a = m + 35) ∧ s ≤ k) → J a k = I a k
theorem eS.g {s : Nat} (h : eS I J m s) : eG I J m := fun a k h1 h2 => h a k (by unfold eFk at h2; omega) (by omega)
theorem eS.tr {s s' : Nat} (h : eS I J m s) (h' : eS J K m s') (hs : s ≤ s') : eS I K m s := fun a k h1 h2 => (h' a k h1 (by omega)).trans (h a k h1 h2)
theorem eS.T {s : Nat} (h : eT I m D t o) (hf : eS I J m s) : eT J m D t o := by
  obtain ⟨h1, h2, h3, h4, h5, h6⟩ := h
  exact ⟨h1.fr hf.g, h2, (hf _ _ (by omega) (by omega)).trans h3, (hf _ _ (by omega) (by omega)).trans h4, h5, (hf _ _ (by omega) (by omega)).trans h6⟩
theorem s_X13_step {s : Nat} (h : I m 60 = nI s) (hs : s < 9000) {w a b : Int32} : w_X13_step m w a b (fun v J => nI s = v ∧ J m 60 = nI (s + 1) ∧ eS I J m s ∧ J (m + 32) s = w ∧ J (m + 33) s = a ∧ J (m + 34) s = b ∧ ∀ k, J (m + 35) k = I (m + 35) k) I := by
  unfold w_X13_step
  rw [h, show ix (nI s) = s from nI_clamp (by omega)]
  refine ⟨vp_in_nI hs (by decide), ?_⟩
  rintro _ rfl _ rfl _ rfl _ rfl
  refine ⟨?_, ?_, fun a k h1 h2 => ?_, ?_, ?_, ?_, fun k => ?_⟩
  · rw [nI_up]
    exact (nI_sub (a := s + 1) (b := 1) (by omega)).symm
  · rw [xup_s, nI_up]
  all_goals grind [gX]
end MN
