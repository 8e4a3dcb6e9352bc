/-! ===== the Model's statements: small methods ===== -/
set_option maxRecDepth 100000
/-- what a statement may change -/
def sFk (k : Nat) : Prop := eFk k ∨ k = 14 ∨ k = 15 ∨ k = 51 ∨ k = 52 ∨ k = 53 ∨ (63 ≤ k ∧ k ≤ 66) ∨ k = 72
def sG (I J : xII) (m : Nat) : Prop := ∀ a k, (a < m + 10 ∨ (m + 17 < a ∧ a < m + 32) ∨ m + 39 < a) → ¬ (a = m ∧ sFk k) → J a k = I a k
section SPR
variable {m t o st pe d B tk sc : Nat} {I J K : xII} {D : tkL} {Γ : List dcl} {fs : List fnc} {x : nte} {l l1 l2 : List stp} {b c v h : Int32}
theorem sG.rf : sG I I m := fun _ _ _ _ => rfl
theorem sG.tr (h : sG I J m) (h' : sG J K m) : sG I K m := fun a k h1 h2 => (h' a k h1 h2).trans (h a k h1 h2)
theorem eG.s (h : eG I J m) : sG I J m := fun a k h1 h2 => h a k (by omega) (fun z => h2 ⟨z.1, Or.inl z.2⟩)
theorem eG2.s (h : eG2 I J m) : sG I J m := fun a k h1 h2 => h a k (by omega) (fun z => h2 ⟨z.1, by
    rcases z.2 with w | w
    · exact Or.inl w
    · unfold sFk
      omega⟩)
theorem s_X13_begins (h : I m 15 = nI sc) : w_X13_begins m (fun J => J m 15 = nI (sc + 1) ∧ ∀ a k, ¬ (a = m ∧ k = 15) → J a k = I a k) I := by
  rintro _ rfl
  exact ⟨by rw [xup_s, h, nI_up], fun a k hk => by rw [gX, if_neg hk]⟩
theorem s_X13_ends {new : List dcl} (hG : mGm I m (new ++ Γ) fs) (h14 : I m 46 = 0 → I m 14 = 0) (hn : ∀ q ∈ new, ∃ s, s ≤ 1000 ∧ sc < s ∧ q.sc = nI s) (hΓ : ∀ q ∈ Γ, ∃ s, s ≤ sc ∧ q.sc = nI s) (hsc : sc ≤ 1000) : w_X13_ends m (nI sc) (fun J => J m 15 = nI sc ∧ mGm J m Γ fs ∧ (I m 46 = 0 → J m 14 = 0) ∧ ∀ a k, ¬ (a = m ∧ (k = 14 ∨ k = 15)) → J a k = I a k) I := by
  unfold w_X13_ends
  refine ⟨fun n1 I1 => ∃ n', n1 = n'.length ∧ (∀ q ∈ n', ∃ s, s ≤ 1000 ∧ sc < s ∧ q.sc = nI s) ∧ mGm I1 m (n' ++ Γ) fs ∧ (I m 46 = 0 → I1 m 14 = 0) ∧ ∀ a k, ¬ (a = m ∧ k = 14) → I1 a k = I a k, ⟨_, new, rfl, hn, hG, h14, fun _ _ _ => rfl⟩, ?_⟩
  rintro n1 I1 ⟨n', rfl, hn', g1, p1, f1⟩
  have fin : ∀ Δ, mGm I1 m Δ fs → Δ = Γ → ∀ J, J = xup I1 m 15 (nI sc) → (J m 15 = nI sc ∧ mGm J m Γ fs ∧ (I m 46 = 0 → J m 14 = 0) ∧ ∀ a k, ¬ (a = m ∧ (k = 14 ∨ k = 15)) → J a k = I a k) := by
    rintro Δ g rfl J rfl
    exact ⟨xup_s, g.fr2 (by rw [gX, if_neg (by omega)]) (by rw [gX, if_neg (by omega)]) (by rw [gX, if_neg (by omega)]) fun a k q1 q2 => by rw [gX, if_neg (by omega)], fun z => by rw [gX, if_neg (by omega)]; exact p1 z, fun a k hk => by rw [gX, if_neg (by omega)]; exact f1 a k (by omega)⟩
  have p46 : I1 m 46 = I m 46 := f1 _ _ (by omega)
  rcases id g1 with ⟨a1, a2, a3⟩ | ⟨a1, a2, a3, a4, a5, a6, a7⟩
  · rw [p1 (by rw [← p46]; exact a1)]
    refine ⟨fun _ => fin _ g1 ?_, fun z => absurd (by decide) z⟩
    have := List.append_eq_nil_iff.mp a2
    rw [a2, this.2]
  · rw [a2]
    cases hd : n' with
    | nil =>
      subst hd
      rw [List.nil_append] at *
      cases hΓ' : Γ with
      | nil => exact ⟨fun _ => by rw [← hΓ']; exact fin _ g1 rfl, fun z => absurd (by decide) z⟩
      | cons q qs =>
        have hlen : (q :: qs).length = qs.length + 1 := rfl
        rw [hΓ', hlen] at a3
        rw [hlen, nI_m, show ix (nI qs.length) = qs.length from nI_clamp (by omega)]
        have hq := a4 qs.length q (rev_at (pre := []) (by rw [hΓ']; rfl))
        rw [hq.2.2.2.1]
        obtain ⟨s, hs1, hs2⟩ := hΓ q (by rw [hΓ']; exact List.mem_cons_self ..)
        refine ⟨fun z => by rw [← hΓ']; exact fin _ g1 rfl, fun _ => ⟨vp_in_nI (by omega) (by decide), fun _ => by rw [← hΓ']; exact fin _ g1 rfl, fun z => absurd ?_ z⟩⟩
        rw [hs2]
        exact (nI_leI (by omega) (by omega)).mpr hs1
    | cons q qs =>
      subst hd
      have hlen : (q :: qs ++ Γ).length = (qs ++ Γ).length + 1 := rfl
      rw [hlen] at a3
      rw [hlen, nI_m, show ix (nI (qs ++ Γ).length) = (qs ++ Γ).length from nI_clamp (by omega)]
      have hq := a4 (qs ++ Γ).length q (rev_at (pre := []) rfl)
      rw [hq.2.2.2.1]
      obtain ⟨s, hs0, hs1, hs2⟩ := hn' q (List.mem_cons_self ..)
      refine ⟨fun z => absurd ((nI_leI (b := 0) (by omega) (by omega)).mp z) (by omega), fun _ => ⟨vp_in_nI (by omega) (by decide), fun z => ?_, fun _ => ?_⟩⟩
      · rw [hs2] at z
        exact absurd ((nI_leI (by omega) (by omega)).mp z) (by omega)
      · rintro I5 hI5
        refine ⟨qs.length, Nat.lt_succ_self _, qs, rfl, fun q hq => hn' q (List.mem_cons_of_mem _ hq), ?_, fun z => ?_, fun a k hk => by rw [hI5, gX, if_neg hk]; exact f1 a k hk⟩
        · have f5 : ∀ a k, ¬ (a = m ∧ k = 14) → I5 a k = I1 a k := fun a k hk => by rw [hI5, gX, if_neg hk]
          refine Or.inr ⟨by rw [f5 _ _ (by omega)]; exact a1, by rw [hI5, xup_s], by omega, fun i q hi => ?_, by rw [f5 _ _ (by omega)]; exact a5, a6, fun f q hq => (a7 f q hq).fr2 fun a k q1 q2 => f5 a k (by omega)⟩
          refine (a4 i q ?_).fr2 fun a q1 q2 => f5 a i (by omega)
          rw [List.cons_append, List.reverse_cons, List.getElem?_append_left (List.getElem?_eq_some_iff.mp hi).1]
          exact hi
        · rw [← p46, a1] at z
          exact absurd z (by decide)
theorem s_X13_ends_er {w : Int32} (h14 : ∃ k, k ≤ 900 ∧ I m 14 = nI k) : w_X13_ends m w (fun J => (∃ k, k ≤ 900 ∧ J m 14 = nI k) ∧ ∀ a k, ¬ (a = m ∧ (k = 14 ∨ k = 15)) → J a k = I a k) I := by
  unfold w_X13_ends
  obtain ⟨k0, hk0, h0⟩ := h14
  refine ⟨fun n1 I1 => n1 ≤ 900 ∧ I1 m 14 = nI n1 ∧ ∀ a k, ¬ (a = m ∧ k = 14) → I1 a k = I a k, ⟨k0, hk0, h0, fun _ _ _ => rfl⟩, ?_⟩
  rintro n1 I1 ⟨h1, h2, f1⟩
  have fin : ∀ J, J = xup I1 m 15 w → ((∃ k, k ≤ 900 ∧ J m 14 = nI k) ∧ ∀ a k, ¬ (a = m ∧ (k = 14 ∨ k = 15)) → J a k = I a k) := by
    rintro J rfl
    exact ⟨⟨n1, h1, by rw [gX, if_neg (by omega)]; exact h2⟩, fun a k hk => by rw [gX, if_neg (by omega)]; exact f1 a k (by omega)⟩
  rw [h2]
  refine ⟨fun _ => fin, fun z => ?_⟩
  cases n1 with
  | zero => exact absurd (by decide) z
  | succ n1 =>
    rw [nI_m]
    refine ⟨vp_in_nI (by omega) (by decide), fun _ => fin, fun _ => ?_⟩
    rintro I5 hI5
    exact ⟨n1, by omega, by omega, by rw [hI5, xup_s], fun a k hk => by rw [hI5, gX, if_neg hk]; exact f1 a k hk⟩
theorem s_X13_declare (hG : mGm I m Γ fs) (hl : Γ.length < 900) (htk : tk < 4002) {kd by' ce sz lo : Int32} (hb : by' = 0 ∨ by' = 1) (hlo : lo = 0 ∨ lo = 1) : w_X13_declare m (nI tk) kd by' ce sz lo (fun J => mGm J m (tellD (I m 46) (I (m + 4) tk, kd, I (m + 5) tk, I m 15, by', ce, sz, lo) Γ) fs ∧ (I m 46 = 0 → J m 14 = I m 14) ∧ ∀ a k, ¬ (m + 10 ≤ a ∧ a ≤ m + 17) → ¬ (a = m ∧ k = 14) → J a k = I a k) I := by
  unfold w_X13_declare
  rw [show ix (nI tk) = tk from nI_clamp (by omega)]
  refine ⟨fun z => ⟨by rw [tellD, if_pos z]; exact hG, fun _ => rfl, fun _ _ _ _ => rfl⟩, fun z => ?_⟩
  rcases hG with ⟨a1, -⟩ | ⟨a1, a2, a3, a4, a5, a6, a7⟩
  · exact absurd a1 z
  rw [a2, show ix (nI Γ.length) = Γ.length from nI_clamp (by omega)]
  refine ⟨vp_in_nI htk (by decide), vp_in_nI hl (by decide), ?_⟩
  rintro I3 hI3 I4 hI4 I5 hI5 I6 hI6
  refine ⟨hb, ?_⟩
  rintro I8 hI8 I9 hI9 I10 hI10
  refine ⟨hlo, ?_⟩
  rintro I12 hI12 I13 hI13
  have e : I13 = xup (xup (xup (xup (xup (xup (xup (xup (xup I (m + 10) Γ.length (I (m + 4) tk)) (m + 11) Γ.length kd) (m + 12) Γ.length (I (m + 5) tk)) (m + 13) Γ.length (I m 15)) (m + 16) Γ.length by') (m + 14) Γ.length ce) (m + 15) Γ.length sz) (m + 17) Γ.length lo) m 14 (nI Γ.length + 1) := by rw [hI13, hI12, hI10, hI9, hI8, hI6, hI5, hI4, hI3]
  clear hI13 hI12 hI10 hI9 hI8 hI6 hI5 hI4 hI3
  have f : ∀ a k, ¬ (m + 10 ≤ a ∧ a ≤ m + 17 ∧ k = Γ.length) → ¬ (a = m ∧ k = 14) → I13 a k = I a k := fun a k q1 q2 => by
    rw [e, gX, if_neg q2, gX, if_neg (by omega), gX, if_neg (by omega), gX, if_neg (by omega), gX, if_neg (by omega), gX, if_neg (by omega), gX, if_neg (by omega), gX, if_neg (by omega), gX, if_neg (by omega)]
  refine ⟨?_, fun y => absurd y z, fun a k q1 q2 => f a k (by omega) q2⟩
  rw [tellD, if_neg z]
  refine Or.inr ⟨by rw [f _ _ (by omega) (by omega)]; exact a1, by rw [e, xup_s, nI_up]; rfl, hl, fun i q hi => ?_, by rw [f _ _ (by omega) (by omega)]; exact a5, a6, fun ff q hq => (a7 ff q hq).fr2 fun a k q1 q2 => f a k (by omega) (by omega)⟩
  rw [List.reverse_cons] at hi
  rcases Nat.lt_or_ge i Γ.reverse.length with w | w
  · rw [List.getElem?_append_left w] at hi
    rw [List.length_reverse] at w
    exact (a4 i q hi).fr2 fun a q1 q2 => f a i (by omega) (by omega)
  · rw [List.getElem?_append_right w] at hi
    rw [List.length_reverse] at w hi
    have hi0 : i - Γ.length = 0 := by
      have := (List.getElem?_eq_some_iff.mp hi).1
      simp only [List.length_cons, List.length_nil] at this
      omega
    rw [hi0] at hi
    cases hi
    obtain rfl : i = Γ.length := by omega
    subst e
    refine ⟨?_, ?_, ?_, ?_, ?_, ?_, ?_, ?_⟩ <;> simp [gX]
theorem s_X13_twice (hG : mGm I m Γ fs) (hx : nFd I m x) (hsc : I m 15 = nI sc) (hs1 : sc < 1000) (htk : tk < 4002) : w_X13_twice m (nI tk) (fun J => eN I J m ∧ nFd J m (mN (I m 46) x (twN Γ fs (nI sc) (I (m + 4) tk) (I (m + 5) tk)))) I := by
  unfold w_X13_twice
  rw [show ix (nI tk) = tk from nI_clamp (by omega)]
  refine ⟨fun z => ⟨fun _ _ _ => rfl, by rw [mN, if_pos z]; exact hx⟩, fun z => ?_⟩
  rcases hG with ⟨a1, -⟩ | ⟨a1, a2, a3, a4, a5, a6, a7⟩
  · exact absurd a1 z
  rw [a2, a5, hsc]
  have any1 : ∀ {α : Type} (P : α → Bool) (l : List α) (k : Nat) (q : α), l[k]? = some q → (l.take (k + 1)).any P = ((l.take k).any P || P q) := by
    intro α P l k q hq
    rw [List.take_succ, hq, List.any_append]
    simp
  generalize hP : (fun q : dcl => decide (q.sc = nI sc ∧ q.nm = I (m + 4) tk)) = P
  generalize hF : (fun f : fnc => decide (f.1 = I (m + 4) tk ∧ f.2.1 < I (m + 5) tk)) = F
  have hT : twD Γ fs (nI sc) (I (m + 4) tk) (I (m + 5) tk) = (Γ.any P || (decide (nI sc = 0) && fs.any F)) := by rw [← hP, ← hF]; rfl
  refine ⟨fun n1 y2 y3 => ∃ k, k ≤ Γ.length ∧ n1 = Γ.length - k ∧ y3 = nI k ∧ y2 = (if (Γ.reverse.take k).any P = true then 1 else 0), ⟨_, 0, Nat.zero_le _, rfl, rfl, rfl⟩, ?_⟩
  rintro n1 _ _ ⟨k, hk, rfl, rfl, rfl⟩
  rw [nI_leI (by omega) (by omega)]
  refine ⟨fun hk2 => ?_, fun hk2 => ?_⟩
  · obtain rfl : k = Γ.length := by omega
    rw [show Γ.reverse.take Γ.length = Γ.reverse by rw [← List.length_reverse, List.take_length], List.any_reverse]
    refine ⟨fun n2 y2 y3 => ∃ k, k ≤ fs.length ∧ n2 = fs.length - k ∧ y3 = nI k ∧ y2 = (if (Γ.any P || (decide (nI sc = 0) && (fs.take k).any F)) = true then 1 else 0), ⟨_, 0, Nat.zero_le _, rfl, rfl, by rw [List.take_zero, List.any_nil, Bool.and_false, Bool.or_false]⟩, ?_⟩
    rintro n2 _ _ ⟨k, hk3, rfl, rfl, rfl⟩
    refine ⟨(Γ.any P || (decide (nI sc = 0) && (fs.take k).any F)) = twD Γ fs (nI sc) (I (m + 4) tk) (I (m + 5) tk), fun hJ => ?_, ?_⟩
    · rw [hJ]
      refine ⟨fun q => ⟨fun _ _ _ => rfl, ?_⟩, fun q => ⟨vp_in_nI htk (by decide), _, s_X13_note hx (by decide), fun I5 h5 => ⟨h5.1, ?_⟩⟩⟩
      · rw [twN, if_neg, mN_n]
        · exact hx
        · intro w
          rw [w] at q
          exact absurd q (by decide)
      · rw [twN, if_pos]
        · exact h5.2
        · cases hq : twD Γ fs (nI sc) (I (m + 4) tk) (I (m + 5) tk) with
          | true => rfl
          | false =>
            rw [hq] at q
            exact absurd rfl q
    · rw [nI_leI (by omega) (by omega)]
      refine ⟨fun q => ?_, fun q => ⟨fun q0 => ?_, fun q0 => ?_⟩⟩
      · obtain rfl : k = fs.length := by omega
        rw [hT, List.take_length]
      · obtain ⟨f, hf⟩ : ∃ f, fs[k]? = some f := ⟨_, List.getElem?_eq_getElem (by omega)⟩
        have gf := a7 k f hf
        rw [show ix (nI k) = k from nI_clamp (by omega), gf.1, gf.2.1]
        refine ⟨fun y6 => y6 = (if (Γ.any P || (decide (nI sc = 0) && (fs.take (k + 1)).any F)) = true then 1 else 0), fun y6 h6 => ⟨fs.length - (k + 1), by omega, k + 1, by omega, rfl, nI_up, h6⟩, ?_⟩
        rw [any1 F fs k f hf, decide_eq_true q0, Bool.true_and, Bool.true_and, ← Bool.or_assoc]
        cases hq : (Γ.any P || (fs.take k).any F) with
        | true => exact ⟨fun w => absurd w (by decide), fun _ => rfl⟩
        | false =>
          refine ⟨fun _ => ⟨vp_in_nI (by omega) (by decide), vp_in_nI htk (by decide), fun e1 => ⟨fun e2 => ?_, fun e2 => ?_⟩, fun e1 => ?_⟩, fun w => absurd rfl w⟩
          · have hz : F f = false := by rw [← hF]; exact decide_eq_false (fun w => absurd w.2 (Int32.not_lt.mpr e2))
            simp [hz]
          · have hz : F f = true := by rw [← hF]; exact decide_eq_true ⟨e1, Int32.not_le.mp e2⟩
            simp [hz]
          · have hz : F f = false := by rw [← hF]; exact decide_eq_false (fun w => e1 w.1)
            simp [hz]
      · rw [hT, decide_eq_false q0, Bool.false_and, Bool.false_and]
  · obtain ⟨q, hq⟩ : ∃ q, Γ.reverse[k]? = some q := ⟨_, List.getElem?_eq_getElem (by rw [List.length_reverse]; omega)⟩
    have gq := a4 k q hq
    rw [show ix (nI k) = k from nI_clamp (by omega), gq.2.2.2.1, gq.1]
    refine ⟨fun y9 => y9 = (if (Γ.reverse.take (k + 1)).any P = true then 1 else 0), fun y9 h9 => ⟨Γ.length - (k + 1), by omega, k + 1, by omega, rfl, nI_up, h9⟩, ?_⟩
    rw [any1 P _ k q hq]
    cases hh : (Γ.reverse.take k).any P with
    | true => exact ⟨fun w => absurd w (by decide), fun _ => rfl⟩
    | false =>
      refine ⟨fun _ => ⟨vp_in_nI (by omega) (by decide), fun e1 => ⟨vp_in_nI htk (by decide), fun e2 => ?_, fun e2 => ?_⟩, fun e1 => ?_⟩, fun w => absurd rfl w⟩
      · have hz : P q = true := by rw [← hP]; exact decide_eq_true ⟨e1, e2⟩
        simp [hz]
      · have hz : P q = false := by rw [← hP]; exact decide_eq_false (fun w => e2 w.2)
        simp [hz]
      · have hz : P q = false := by rw [← hP]; exact decide_eq_false (fun w => e1 w.1)
        simp [hz]
/-- where a step within goes to -/
theorem mSt.pA {q : stp} {v : Int32} (a4 : mSt J m st (l1 ++ [q] ++ l2)) : mSt (xup J (m + 33) (st + l1.length) v) m st (l1 ++ [(q.1, v, q.2.2.1, q.2.2.2)] ++ l2) := by
  have hf : ∀ a k, ¬ (a = m + 33 ∧ k = st + l1.length) → xup J (m + 33) (st + l1.length) v a k = J a k := fun a k hk => by rw [gX, if_neg hk]
  obtain ⟨g1, g2⟩ := mSt.app.mp a4
  obtain ⟨g3, g4⟩ := mSt.app.mp g1
  have hl1 : (l1 ++ [q]).length = l1.length + 1 := by simp
  have hl2 : (l1 ++ [(q.1, v, q.2.2.1, q.2.2.2)]).length = l1.length + 1 := by simp
  refine mSt.app.mpr ⟨mSt.app.mpr ⟨g3.cong fun a k _ _ q3 q4 => hf a k (by omega), fun i z hz => ?_⟩, ?_⟩
  · cases i with
    | zero =>
      cases hz
      obtain ⟨p1, p2, p3, p4⟩ := g4 0 q rfl
      exact ⟨(hf _ _ (by omega)).trans p1, xup_s, (hf _ _ (by omega)).trans p3, fun z => (hf _ _ (by omega)).trans (p4 z)⟩
    | succ i => simp at hz
  · rw [hl1] at g2
    rw [hl2]
    exact g2.cong fun a k _ _ q3 q4 => hf a k (by omega)
/-- no ways of a kind -/
def no1 (h : Int32) (l : List stp) : Prop := ∀ q ∈ l, isHo h q = false
theorem no1.fill (hn : no1 h l) : fillH h v l = l := by
  unfold fillH
  rw [List.map_congr_left (g := id)]
  · simp
  · intro q hq
    rw [if_neg (by rw [hn q hq]; decide)]
    rfl
theorem no1.ed : ∀ {l : List stp} {st : Nat} {b : Int32}, no1 h l → hdH h st b l = b
  | [], _, _, _ => rfl
  | q :: l, st, b, hn => by
    rw [hdH, if_neg (by rw [hn q (List.mem_cons_self ..)]; decide)]
    exact no1.ed fun q hq => hn q (List.mem_cons_of_mem _ hq)
theorem lnk_b : ∀ {l : List stp} {st : Nat} {b b' c : Int32}, no1 1 l → lnk st b c l = lnk st b' c l
  | [], _, _, _, _, _ => rfl
  | q :: l, st, b, b', c, hn => by
    rw [lnk, lnk, if_neg (c := isHo 1 q = true) (by rw [hn q (List.mem_cons_self ..)]; decide), if_neg (c := isHo 1 q = true) (by rw [hn q (List.mem_cons_self ..)]; decide)]
    have := fun st c => lnk_b (st := st) (b := b) (b' := b') (c := c) (l := l) fun q hq => hn q (List.mem_cons_of_mem _ hq)
    rw [this, this]
theorem lnk_c : ∀ {l : List stp} {st : Nat} {b c c' : Int32}, no1 2 l → lnk st b c l = lnk st b c' l
  | [], _, _, _, _, _ => rfl
  | q :: l, st, b, c, c', hn => by
    rw [lnk, lnk, if_neg (c := isHo 2 q = true) (by rw [hn q (List.mem_cons_self ..)]; decide), if_neg (c := isHo 2 q = true) (by rw [hn q (List.mem_cons_self ..)]; decide)]
    have := fun st b => lnk_c (st := st) (b := b) (c := c) (c' := c') (l := l) fun q hq => hn q (List.mem_cons_of_mem _ hq)
    rw [this, this]
theorem fillH_no {v : Int32} : no1 h (fillH h v l) ∨ h = 0 := by
  by_cases h0 : h = 0
  · exact Or.inr h0
  refine Or.inl fun q hq => ?_
  unfold fillH at hq
  obtain ⟨q', -, rfl⟩ := List.mem_map.mp hq
  by_cases z : isHo h q' = true
  · rw [if_pos z]
    exact decide_eq_false fun w => h0 w.2.symm
  · rw [if_neg z]
    cases hq : isHo h q' with
    | false => rfl
    | true => exact absurd hq z
theorem fillH_app : fillH h v (l1 ++ l2) = fillH h v l1 ++ fillH h v l2 := List.map_append ..
theorem fillH_len : (fillH h v l).length = l.length := List.length_map ..
/-- the last way of a kind -/
theorem last_ho : ∀ (l : List stp), no1 h l ∨ ∃ l1 q l2, l = l1 ++ [q] ++ l2 ∧ isHo h q = true ∧ no1 h l2
  | [] => Or.inl fun q hq => nomatch hq
  | q :: l => by
    rcases last_ho l with hn | ⟨l1, q', l2, rfl, h1, h2⟩
    · by_cases hq : isHo h q = true
      · exact Or.inr ⟨[], q, l, rfl, hq, hn⟩
      · refine Or.inl fun q' hq' => ?_
        rcases List.mem_cons.mp hq' with rfl | z
        · cases hz : isHo h q' with
          | false => rfl
          | true => exact absurd hz hq
        · exact hn q' z
    · exact Or.inr ⟨q :: l1, q', l2, rfl, h1, h2⟩
theorem hdH_last {q : stp} (hq : isHo h q = true) (hn : no1 h l2) : hdH h st b (l1 ++ [q] ++ l2) = nI (st + l1.length) := by
  rw [hdH_app, no1.ed hn, hdH_app, hdH, if_pos hq]
  rfl
theorem s_X13_settle1 (hst : mSt I m st (lnk st (-1) c l)) (h9 : st + l.length ≤ 9000) : w_X13_settle m (hdH 1 st (-1) l) v (fun J => mSt J m st (lnk st (-1) c (fillH 1 v l)) ∧ ∀ a k, ¬ (a = m + 33 ∧ st ≤ k ∧ k < st + l.length) → J a k = I a k) I := by
  unfold w_X13_settle
  refine ⟨fun n y J => ∃ l1 l2, l = l1 ++ l2 ∧ n = l1.length ∧ y = hdH 1 st (-1) l1 ∧ mSt J m st (lnk st (-1) c (l1 ++ fillH 1 v l2)) ∧ ∀ a k, ¬ (a = m + 33 ∧ st ≤ k ∧ k < st + l.length) → J a k = I a k, ⟨_, l, [], (List.append_nil _).symm, rfl, rfl, by rw [show fillH 1 v [] = [] from rfl, List.append_nil]; exact hst, fun _ _ _ => rfl⟩, ?_⟩
  rintro n y J ⟨l1, l2, hl, rfl, rfl, g, f⟩
  rcases last_ho (h := 1) l1 with hn | ⟨l3, q, l4, rfl, hq, hn⟩
  · rw [no1.ed hn]
    refine ⟨fun _ => ⟨?_, f⟩, fun z => absurd rfl z⟩
    rw [hl, fillH_app, hn.fill]
    exact g
  · rw [hdH_last hq hn]
    have hlen : l.length = l3.length + 1 + l4.length + l2.length := by rw [hl]; simp only [List.length_append, List.length_cons, List.length_nil]
    refine ⟨fun z => absurd z (nI_m1 (by omega)), fun _ => ⟨vp_in_nI (by omega) (by decide), ?_⟩⟩
    rw [show ix (nI (st + l3.length)) = st + l3.length from nI_clamp (by omega)]
    rintro I3 hI3
    have e0 : l3 ++ [q] ++ l4 ++ fillH 1 v l2 = l3 ++ ([q] ++ (l4 ++ fillH 1 v l2)) := by simp only [List.append_assoc]
    rw [e0, lnk_app, lnk_app] at g
    have hq1 : ∀ s b' c', lnk s b' c' [q] = [(12, b', 0, 0)] := fun s b' c' => by
      rw [lnk, if_pos hq]
      rfl
    rw [hq1, ← List.append_assoc] at g
    have g3 := mSt.pA (v := v) g
    rw [lnk_len, ← hI3] at g3
    have hat : J (m + 33) (st + l3.length) = hdH 1 st (-1) l3 := by
      have := (mSt.app.mp (mSt.app.mp g).1).2 0 _ rfl
      rw [lnk_len] at this
      exact this.2.1
    rw [hat]
    refine ⟨l3.length, by simp only [List.length_append, List.length_cons, List.length_nil]; omega, l3, [q] ++ l4 ++ l2, by rw [hl]; simp only [List.append_assoc], rfl, rfl, ?_, fun a k hk => by rw [hI3, gX, if_neg (by omega)]; exact f a k hk⟩
    have e1 : fillH 1 v ([q] ++ l4 ++ l2) = [(12, v, 0, 0)] ++ (l4 ++ fillH 1 v l2) := by
      rw [fillH_app, fillH_app, hn.fill]
      show ([if isHo 1 q = true then ((12 : Int32), v, (0 : Int32), (0 : Int32)) else q] ++ l4) ++ _ = _
      rw [if_pos hq, List.append_assoc]
    have hq2 : ∀ s b' c', lnk s b' c' [((12 : Int32), v, (0 : Int32), (0 : Int32))] = [(12, v, 0, 0)] := fun s b' c' => rfl
    have hh : ∀ s b', hdH 1 s b' [((12 : Int32), v, (0 : Int32), (0 : Int32))] = b' ∧ hdH 2 s b' [((12 : Int32), v, (0 : Int32), (0 : Int32))] = b' := fun s b' => ⟨rfl, rfl⟩
    have hnn : no1 1 (l4 ++ fillH 1 v l2) := fun q' hq' => by
      rcases List.mem_append.mp hq' with w | w
      · exact hn q' w
      · exact (fillH_no.resolve_right (by decide)) q' w
    have hoq : ∀ s b', hdH 2 s b' [q] = b' := fun s b' => by
      rw [hdH, if_neg (by intro w; have a1 := (of_decide_eq_true w).2; have a2 := (of_decide_eq_true hq).2; rw [a1] at a2; exact absurd a2 (by decide))]
      rfl
    rw [e1, lnk_app, lnk_app, hq2, (hh _ _).1, (hh _ _).2, ← List.append_assoc]
    rw [hoq] at g3
    rw [lnk_b (b' := _) hnn]
    exact g3
theorem s_X13_settle2 (hst : mSt I m st (lnk st b (-1) l)) (h9 : st + l.length ≤ 9000) : w_X13_settle m (hdH 2 st (-1) l) v (fun J => mSt J m st (lnk st b (-1) (fillH 2 v l)) ∧ ∀ a k, ¬ (a = m + 33 ∧ st ≤ k ∧ k < st + l.length) → J a k = I a k) I := by
  unfold w_X13_settle
  refine ⟨fun n y J => ∃ l1 l2, l = l1 ++ l2 ∧ n = l1.length ∧ y = hdH 2 st (-1) l1 ∧ mSt J m st (lnk st b (-1) (l1 ++ fillH 2 v l2)) ∧ ∀ a k, ¬ (a = m + 33 ∧ st ≤ k ∧ k < st + l.length) → J a k = I a k, ⟨_, l, [], (List.append_nil _).symm, rfl, rfl, by rw [show fillH 2 v [] = [] from rfl, List.append_nil]; exact hst, fun _ _ _ => rfl⟩, ?_⟩
  rintro n y J ⟨l1, l2, hl, rfl, rfl, g, f⟩
  rcases last_ho (h := 2) l1 with hn | ⟨l3, q, l4, rfl, hq, hn⟩
  · rw [no1.ed hn]
    refine ⟨fun _ => ⟨?_, f⟩, fun z => absurd rfl z⟩
    rw [hl, fillH_app, hn.fill]
    exact g
  · rw [hdH_last hq hn]
    have hlen : l.length = l3.length + 1 + l4.length + l2.length := by rw [hl]; simp only [List.length_append, List.length_cons, List.length_nil]
    refine ⟨fun z => absurd z (nI_m1 (by omega)), fun _ => ⟨vp_in_nI (by omega) (by decide), ?_⟩⟩
    rw [show ix (nI (st + l3.length)) = st + l3.length from nI_clamp (by omega)]
    rintro I3 hI3
    have e0 : l3 ++ [q] ++ l4 ++ fillH 2 v l2 = l3 ++ ([q] ++ (l4 ++ fillH 2 v l2)) := by simp only [List.append_assoc]
    rw [e0, lnk_app, lnk_app] at g
    have hq1 : ∀ s b' c', lnk s b' c' [q] = [(12, c', 0, 0)] := fun s b' c' => by
      rw [lnk, if_neg (by intro w; have a1 := (of_decide_eq_true w).2; have a2 := (of_decide_eq_true hq).2; rw [a1] at a2; exact absurd a2 (by decide)), if_pos hq]
      rfl
    rw [hq1, ← List.append_assoc] at g
    have g3 := mSt.pA (v := v) g
    rw [lnk_len, ← hI3] at g3
    have hat : J (m + 33) (st + l3.length) = hdH 2 st (-1) l3 := by
      have := (mSt.app.mp (mSt.app.mp g).1).2 0 _ rfl
      rw [lnk_len] at this
      exact this.2.1
    rw [hat]
    refine ⟨l3.length, by simp only [List.length_append, List.length_cons, List.length_nil]; omega, l3, [q] ++ l4 ++ l2, by rw [hl]; simp only [List.append_assoc], rfl, rfl, ?_, fun a k hk => by rw [hI3, gX, if_neg (by omega)]; exact f a k hk⟩
    have e1 : fillH 2 v ([q] ++ l4 ++ l2) = [(12, v, 0, 0)] ++ (l4 ++ fillH 2 v l2) := by
      rw [fillH_app, fillH_app, hn.fill]
      show ([if isHo 2 q = true then ((12 : Int32), v, (0 : Int32), (0 : Int32)) else q] ++ l4) ++ _ = _
      rw [if_pos hq, List.append_assoc]
    have hq2 : ∀ s b' c', lnk s b' c' [((12 : Int32), v, (0 : Int32), (0 : Int32))] = [(12, v, 0, 0)] := fun s b' c' => rfl
    have hh : ∀ s b', hdH 1 s b' [((12 : Int32), v, (0 : Int32), (0 : Int32))] = b' ∧ hdH 2 s b' [((12 : Int32), v, (0 : Int32), (0 : Int32))] = b' := fun s b' => ⟨rfl, rfl⟩
    have hnn : no1 2 (l4 ++ fillH 2 v l2) := fun q' hq' => by
      rcases List.mem_append.mp hq' with w | w
      · exact hn q' w
      · exact (fillH_no.resolve_right (by decide)) q' w
    have hoq : ∀ s b', hdH 1 s b' [q] = b' := fun s b' => by
      rw [hdH, if_neg (by intro w; have a1 := (of_decide_eq_true w).2; have a2 := (of_decide_eq_true hq).2; rw [a1] at a2; exact absurd a2 (by decide))]
      rfl
    rw [e1, lnk_app, lnk_app, hq2, (hh _ _).1, (hh _ _).2, ← List.append_assoc]
    rw [hoq] at g3
    rw [lnk_c (c' := _) hnn]
    exact g3
end SPR
