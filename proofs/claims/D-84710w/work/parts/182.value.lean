/-! ===== constants: the Model's value ===== -/
set_option maxRecDepth 100000
/-- what the Model's stack holds, the last first -/
def stO (I : xII) (m : Nat) : List Int32 → Prop
  | [] => True
  | a :: s => I (m + 39) s.length = a ∧ stO I m s
def stR (I : xII) (m : Nat) (s : List Int32) : Prop := I m 72 = nI s.length ∧ stO I m s
/-- only the stack may differ -/
def sO (I J : xII) (m : Nat) : Prop := ∀ a k, ¬ (a = m ∧ k = 72) → ¬ a = m + 39 → J a k = I a k
/-- what a constant may change -/
def eG2 (I J : xII) (m : Nat) : Prop := ∀ a k, (a < m + 32 ∨ m + 39 < a) → ¬ (a = m ∧ (eFk k ∨ k = 72)) → J a k = I a k
def vQ (I : xII) (m : Nat) (D : tkL) (Γ : List dcl) (fs : List fnc) (st pe o : Nat) (x : nte) (r : pR) (v : Int32) (J : xII) : Prop := eG2 I J m ∧ eK I J m st pe ∧ match r with
  | .error f => eX J m f ∧ v = 0
  | .ok (e, t1) => eE J m D Γ fs false t1 o st pe (mN (I m 46) x (nX Γ fs true true none e)) ∧ J m 55 = (if hnX Γ fs e = true then 1 else 0) ∧ v = (if I m 46 = 0 ∨ hnX Γ fs e = true then 0 else vC Γ fs e)
section VA
variable {D : tkL} {d t st m pe o : Nat} {E : Nat → pR} {Γ : List dcl} {fs : List fnc} {l : List stp} {v : Int32} {I J K : xII} {x : nte} {c c' : Bool}
theorem wX_set {a : Bool} {p : Int32} {e : Tr} (h : wX a e) : wX a (tSet p e) := by
  cases e with
  | leaf => exact h
  | inner k dd v l r =>
    cases dd with
    | nil => exact h
    | cons f ds =>
      show wX a (.inner k (p :: ds) v l r)
      have h' : wX a (.inner k (f :: ds) v l r) := h
      rcases k with _ | _ | _ | _ | _ | _ | _ | _ | _ | _ | _ | k <;> rcases ds with _ | ⟨a1, _ | ⟨a2, _ | ⟨a3, _ | ⟨a4, ds⟩⟩⟩⟩ <;> first | exact h' | (unfold wX at h' ⊢; exact h')
theorem pArgs_w (hE : ∀ t e t1, E t = .ok (e, t1) → wX false e) : ∀ f t e t1, pArgs D E f t = .ok (e, t1) → wX true e
  | 0, t, e, t1, h => nomatch h
  | f + 1, t, e, t1, h => by
    obtain ⟨a, t2, h2, h3⟩ := pAnd_ok h
    have q := hE _ _ _ h2
    split at h3
    · obtain ⟨s, t4, h4, h5⟩ := pAnd_ok h3
      cases h5
      exact ⟨rfl, q, pArgs_w hE f _ _ _ h4⟩
    · cases h3
      exact ⟨rfl, q, rfl⟩
theorem pCall_w (hE : ∀ t e t1, E t = .ok (e, t1) → wX false e) {p nm : Int32} {e : Tr} {t1 : Nat} (h : pCall D E d p nm t = .ok (e, t1)) : wX false e := by
  obtain ⟨-, -, h⟩ := pOpen_ok h
  split at h
  · cases h
    exact ⟨rfl, rfl⟩
  · obtain ⟨a, t2, h2, h3⟩ := pAnd_ok h
    obtain ⟨-, h4⟩ := pNeed_ok h3
    cases h4
    exact ⟨rfl, pArgs_w hE _ _ _ _ h2⟩
theorem pPlace_w (hE : ∀ t e t1, E t = .ok (e, t1) → wX false e) {p nm : Int32} {e : Tr} {t1 : Nat} (h : pPlace D E d p nm t = .ok (e, t1)) : wX false e := by
  unfold pPlace at h
  split at h
  · obtain ⟨-, -, h⟩ := pOpen_ok h
    obtain ⟨a, t2, h2, h3⟩ := pAnd_ok h
    obtain ⟨-, h4⟩ := pNeed_ok h3
    cases h4
    exact ⟨rfl, hE _ _ _ h2⟩
  · cases h
    exact rfl
theorem pOpnd_w (hE : ∀ t e t1, E t = .ok (e, t1) → wX false e) {e : Tr} {t1 : Nat} (h : pOpnd D E d t = .ok (e, t1)) : wX false e := by
  unfold pOpnd at h
  split at h
  · cases h
    exact rfl
  · split at h
    · split at h
      · exact pCall_w hE h
      · exact pPlace_w hE h
    · split at h
      · obtain ⟨-, -, h⟩ := pOpen_ok h
        obtain ⟨-, h4⟩ := pNeed_ok h
        cases h4
        exact rfl
      · obtain ⟨a, t2, h2, h3⟩ := pAnd_ok h
        obtain ⟨-, -, h⟩ := pOpen_ok h2
        obtain ⟨a', t3, h4, h5⟩ := pAnd_ok h
        obtain ⟨-, h6⟩ := pNeed_ok h5
        cases h6
        cases h3
        exact wX_set (hE _ _ _ h4)
theorem pAhead_w (hE : ∀ t e t1, E t = .ok (e, t1) → wX false e) {e : Tr} {t1 : Nat} (h : pAhead D E d t = .ok (e, t1)) : wX false e := by
  unfold pAhead at h
  split at h
  · exact pOpnd_w hE h
  · obtain ⟨a, t2, h2, h3⟩ := pAnd_ok h
    cases h3
    exact ⟨rfl, pOpnd_w hE h2⟩
theorem wX_mk {r act : Int32} {a e : Tr} (h1 : wX false a) (h2 : wX false e) : wX false (pMk r act a e) := by
  unfold pMk
  split
  · exact ⟨rfl, h1, h2⟩
  · exact ⟨rfl, h1, h2⟩
theorem pLoop_w {P : Nat → pR} (hP : ∀ t e t1, P t = .ok (e, t1) → wX false e) {r : Int32} : ∀ f a u, wX false a → ∀ e t1, pLoop D P r f a u = .ok (e, t1) → wX false e
  | 0, a, u, _ => fun e t1 h => nomatch h
  | f + 1, a, u, g => fun e t1 h => by
    unfold pLoop at h
    split at h
    · obtain ⟨b, t2, h2, h3⟩ := pAnd_ok h
      exact pLoop_w hP f _ t2 (wX_mk g (hP _ _ _ h2)) _ _ h3
    · cases h
      exact g
theorem pRow_w (hE : ∀ t e t1, E t = .ok (e, t1) → wX false e) : ∀ k t e t1, pRow D E d k t = .ok (e, t1) → wX false e
  | 0, t, e, t1, h => pAhead_w hE h
  | k + 1, t, e, t1, h => by
    obtain ⟨a, t2, h2, h3⟩ := pAnd_ok h
    exact pLoop_w (pRow_w hE k) _ _ _ (pRow_w hE k _ _ _ h2) _ _ h3
theorem pExpr_w (hE : ∀ t e t1, E t = .ok (e, t1) → wX false e) {e : Tr} {t1 : Nat} (h : pExpr D E d t = .ok (e, t1)) : wX false e := by
  obtain ⟨a, t2, h2, h3⟩ := pAnd_ok h
  have g := pRow_w hE 10 _ _ _ h2
  split at h3
  · split at h3
    · exact nomatch h3
    · obtain ⟨b, t3, h4, h5⟩ := pAnd_ok h3
      obtain ⟨-, h6⟩ := pNeed_ok h5
      obtain ⟨c, t4, h8, h9⟩ := pAnd_ok h6
      cases h9
      exact ⟨rfl, g, hE _ _ _ h4, hE _ _ _ h8⟩
  · cases h3
    exact g
theorem pE_w : ∀ d t e t1, pE D d t = .ok (e, t1) → wX false e
  | 0, t, e, t1, h => pExpr_w (by intro t e t1 h; cases h) h
  | d + 1, t, e, t1, h => pExpr_w (fun t e t1 h => pE_w d t e t1 h) h
theorem stO.cong : ∀ {s : List Int32}, stO I m s → (∀ k, k < s.length → J (m + 39) k = I (m + 39) k) → stO J m s
  | [], _, _ => trivial
  | a :: s, h, hf => ⟨(hf _ (Nat.lt_succ_self _)).trans h.1, stO.cong h.2 fun k hk => hf k (Nat.lt_succ_of_lt hk)⟩
theorem rn_pc {n pc : Nat} {s : List Int32} (h : rn l st v n pc s) : st ≤ pc ∧ pc ≤ st + l.length := by
  cases n with
  | zero => exact ⟨by rw [h.1]; omega, by rw [h.1]; exact Nat.le_refl _⟩
  | succ n =>
    obtain ⟨h1, -, q, pc', s', hq, -⟩ := h
    have := (List.getElem?_eq_some_iff.mp hq).1
    omega
theorem s_X13_reckon {n : Nat} (hl : mSt I m st l) (h60 : I m 60 = nI (st + l.length)) (h9 : st + l.length ≤ 9000) (hr : rn l st v n st []) : w_X13_reckon m (nI st) (fun w J => v = w ∧ sO I J m) I := by
  unfold w_X13_reckon
  rintro I1 hI1
  refine ⟨fun n2 y2 I2 => ∃ pc s, y2 = nI pc ∧ rn l st v n2 pc s ∧ stR I2 m s ∧ sO I I2 m, ⟨n, st, [], rfl, hr, ⟨by rw [hI1, xup_s]; rfl, trivial⟩, fun a k h1 _ => by rw [hI1, gX, if_neg h1]⟩, ?_⟩
  clear hI1
  rintro n2 _ I2 ⟨pc, s, rfl, hr2, ⟨h72, hs⟩, hf⟩
  have hpc := rn_pc hr2
  have h60' : I2 m 60 = nI (st + l.length) := (hf _ _ (by omega) (by omega)).trans h60
  rw [h60', nI_leI (by omega) (by omega)]
  cases n2 with
  | zero =>
    obtain ⟨rfl, rfl⟩ := hr2
    exact ⟨fun _ => ⟨vp_in_nI (n := 0) (by decide) (by decide), hs.1.symm, hf⟩, fun z => absurd (Nat.le_refl _) z⟩
  | succ n2 =>
    obtain ⟨hst, hsl, q, pc', s', hq, h1, hr3⟩ := hr2
    have hlt : pc - st < l.length := (List.getElem?_eq_some_iff.mp hq).1
    refine ⟨fun z => absurd z (by omega), fun _ => ?_⟩
    obtain ⟨c1, c2, c3, -⟩ := hl (pc - st) q hq
    rw [show st + (pc - st) = pc by omega] at c1 c2
    have d1 : I2 (m + 32) pc = q.1 := (hf _ _ (by omega) (by omega)).trans c1
    have d2 : I2 (m + 33) pc = q.2.1 := (hf _ _ (by omega) (by omega)).trans c2
    refine ⟨fun w J => w = nI pc' ∧ stR J m s' ∧ sO I J m, ?_, ?_⟩
    · unfold w_X13_plainly
      rw [show ix (nI pc) = pc from nI_clamp (by omega), d1, d2, h72]
      simp only [nI_up]
      have sub1 : ∀ k, nI (k + 1) - 1 = nI k := fun _ => nI_m
      have ixk : ∀ k, k ≤ 9001 → ix (nI k) = k := fun k hk => nI_clamp (by omega)
      unfold pl1 at h1
      refine ⟨vp_in_nI (by omega) (by decide), fun e => ?_, fun e => ?_, fun e => ?_, fun e => ?_, fun e => ?_, fun e => ?_, fun e => ?_⟩
      · rw [if_pos e] at h1
        obtain ⟨h2, rfl⟩ := Prod.mk.inj (Option.some.inj h1)
        rw [ixk _ (by omega)]
        refine ⟨vp_in_nI (by omega) (by decide), ?_⟩
        rintro I4 hI4 I5 hI5
        refine ⟨h2, ⟨by rw [hI5, xup_s]; rfl, ⟨by rw [hI5, gX, if_neg (by omega), hI4, xup_s], hs.cong fun k hk => by rw [hI5, gX, if_neg (by omega), hI4, gX, if_neg (by omega)]⟩⟩, fun a k q1 q2 => by rw [hI5, gX, if_neg q1, hI4, gX, if_neg (by omega)]; exact hf a k q1 q2⟩
      · rw [if_neg (by rw [e]; decide), if_neg (by rw [e]; decide)] at h1
        rcases s with _ | ⟨a, s⟩
        · exact nomatch h1
        dsimp only at h1
        rw [if_neg (by rw [e]; decide), if_neg (by rw [e]; decide), if_neg (by rw [e]; decide), if_neg (by rw [e]; decide)] at h1
        rcases s with _ | ⟨b, s⟩
        · exact nomatch h1
        dsimp only at h1
        rw [if_pos e] at h1
        obtain ⟨h2, rfl⟩ := Prod.mk.inj (Option.some.inj h1)
        obtain ⟨s1, s2, s3⟩ := hs
        simp only [List.length_cons] at hsl s1 s2 ⊢
        have hx := ixk s.length (by omega)
        have hx1 := ixk (s.length + 1) (by omega)
        simp only [sub1, hx, hx1, s1, s2]
        rintro I6 hI6
        refine ⟨vp_in_nI (by omega) (by decide), vp_in_nI (by omega) (by decide), ?_⟩
        rintro I9 hI9
        refine ⟨h2, ⟨by rw [hI9, gX, if_neg (by omega), hI6, xup_s]; rfl, ⟨by rw [hI9, xup_s], s3.cong fun k hk => by rw [hI9, gX, if_neg (by omega), hI6, gX, if_neg (by omega)]⟩⟩, fun a k q1 q2 => by rw [hI9, gX, if_neg (by omega), hI6, gX, if_neg q1]; exact hf a k q1 q2⟩
      · rw [if_neg (by rw [e]; decide), if_neg (by rw [e]; decide)] at h1
        rcases s with _ | ⟨a, s⟩
        · exact nomatch h1
        dsimp only at h1
        rw [if_pos e] at h1
        obtain ⟨h2, rfl⟩ := Prod.mk.inj (Option.some.inj h1)
        obtain ⟨s1, s2⟩ := hs
        simp only [List.length_cons] at hsl h72 ⊢
        have hx := ixk s.length (by omega)
        simp only [sub1, hx, s1]
        refine ⟨vp_in_nI (by omega) (by decide), ?_⟩
        rintro I11 hI11
        refine ⟨h2, ⟨by rw [hI11, gX, if_neg (by omega)]; exact h72, ⟨by rw [hI11, xup_s], s2.cong fun k hk => by rw [hI11, gX, if_neg (by omega)]⟩⟩, fun a k q1 q2 => by rw [hI11, gX, if_neg (by omega)]; exact hf a k q1 q2⟩
      · rw [if_neg (by rw [e]; decide), if_neg (by rw [e]; decide)] at h1
        rcases s with _ | ⟨a, s⟩
        · exact nomatch h1
        dsimp only at h1
        rw [if_neg (by rw [e]; decide), if_pos e] at h1
        obtain ⟨h2, rfl⟩ := Prod.mk.inj (Option.some.inj h1)
        obtain ⟨s1, s2⟩ := hs
        simp only [List.length_cons] at hsl h72 ⊢
        have hx := ixk s.length (by omega)
        simp only [sub1, hx, s1]
        refine ⟨vp_in_nI (by omega) (by decide), ?_⟩
        rintro I11 hI11
        refine ⟨h2, ⟨by rw [hI11, gX, if_neg (by omega)]; exact h72, ⟨by rw [hI11, xup_s], s2.cong fun k hk => by rw [hI11, gX, if_neg (by omega)]⟩⟩, fun a k q1 q2 => by rw [hI11, gX, if_neg (by omega)]; exact hf a k q1 q2⟩
      · rw [if_neg (by rw [e]; decide), if_pos e] at h1
        obtain ⟨h2, rfl⟩ := Prod.mk.inj (Option.some.inj h1)
        exact ⟨h2, ⟨h72, hs⟩, hf⟩
      · rw [if_neg (by rw [e]; decide), if_neg (by rw [e]; decide)] at h1
        rcases s with _ | ⟨a, s⟩
        · exact nomatch h1
        dsimp only at h1
        rw [if_neg (by rw [e]; decide), if_neg (by rw [e]; decide), if_pos e] at h1
        obtain ⟨h2, rfl⟩ := Prod.mk.inj (Option.some.inj h1)
        obtain ⟨s1, s2⟩ := hs
        simp only [List.length_cons] at hsl h72 ⊢
        have hx := ixk s.length (by omega)
        simp only [sub1, hx, s1]
        rintro I14 hI14
        refine ⟨vp_in_nI (by omega) (by decide), h2, ⟨by rw [hI14, xup_s], s2.cong fun k hk => by rw [hI14, gX, if_neg (by omega)]⟩, fun a k q1 q2 => by rw [hI14, gX, if_neg q1]; exact hf a k q1 q2⟩
      · obtain ⟨e0, e10, e11, e23, e12, e14⟩ := e
        rw [if_neg e0, if_neg e12] at h1
        rcases s with _ | ⟨a, s⟩
        · exact nomatch h1
        dsimp only at h1
        rw [if_neg e11, if_neg e23, if_neg e14] at h1
        split at h1
        · obtain ⟨h2, rfl⟩ := Prod.mk.inj (Option.some.inj h1)
          obtain ⟨s1, s2⟩ := hs
          simp only [List.length_cons] at hsl h72 ⊢
          have hx := ixk s.length (by omega)
          simp only [sub1, hx, s1]
          rintro I14 hI14
          refine ⟨vp_in_nI (by omega) (by decide), h2, ⟨by rw [hI14, xup_s], s2.cong fun k hk => by rw [hI14, gX, if_neg (by omega)]⟩, fun a k q1 q2 => by rw [hI14, gX, if_neg q1]; exact hf a k q1 q2⟩
        · rcases s with _ | ⟨b, s⟩
          · exact nomatch h1
          dsimp only at h1
          first
            | exact nomatch h1
            | (rw [if_neg e10] at h1; exact nomatch h1)
    · rintro v4 I4 ⟨rfl, r, f⟩
      exact ⟨n2, by omega, pc', s', rfl, hr3, r, f⟩
theorem eG.g2 (h : eG I J m) : eG2 I J m := fun a k h1 h2 => h a k (by omega) (fun z => h2 ⟨z.1, Or.inl z.2⟩)
theorem eG2.tr (h : eG2 I J m) (h' : eG2 J K m) : eG2 I K m := fun a k h1 h2 => (h' a k h1 h2).trans (h a k h1 h2)
/-- frames by what is read alone -/
theorem mD.fr2 (h : mD I m D) (h7 : J m 7 = I m 7) (h8 : J m 8 = I m 8) (hf : ∀ a k, m + 3 ≤ a → a ≤ m + 5 → J a k = I a k) : mD J m D := by
  obtain ⟨h1, h2, h3, h4, h5⟩ := h
  refine ⟨h1, h7.trans h2, fun i hi => ?_, (hf _ _ (by omega) (by omega)).trans h4, ?_⟩
  · rw [hf _ _ (by omega) (by omega), hf _ _ (by omega) (by omega), hf _ _ (by omega) (by omega)]
    exact h3 i hi
  · rw [h8, hf _ _ (by omega) (by omega)]
    exact h5
theorem mDc.fr2 {i : Nat} {q : dcl} (h : mDc I m i q) (hf : ∀ a, m + 10 ≤ a → a ≤ m + 17 → J a i = I a i) : mDc J m i q := by
  obtain ⟨h1, h2, h3, h4, h5, h6, h7, h8⟩ := h
  refine ⟨?_, ?_, ?_, ?_, ?_, ?_, ?_, ?_⟩ <;> rw [hf _ (by omega) (by omega)] <;> assumption
theorem mFn.fr2 {f : Nat} {q : fnc} (h : mFn I m f q) (hf : ∀ a k, m + 18 ≤ a → a ≤ m + 27 → J a k = I a k) : mFn J m f q := by
  obtain ⟨h1, h2, h3, h4, z, h5, h6, h7⟩ := h
  refine ⟨?_, ?_, ?_, ?_, z, ?_, h6, fun i k hi => ?_⟩ <;> rw [hf _ _ (by omega) (by omega)]
  all_goals first | assumption | exact h7 i k hi
theorem mGm.fr2 (h : mGm I m Γ fs) (h46 : J m 46 = I m 46) (h14 : J m 14 = I m 14) (h24 : J m 24 = I m 24) (hf : ∀ a k, m + 10 ≤ a → a ≤ m + 27 → J a k = I a k) : mGm J m Γ fs := by
  rcases h with ⟨h1, h2, h3⟩ | ⟨h1, h2, h3, h4, h5, h6, h7⟩
  · exact Or.inl ⟨h46.trans h1, h2, h3⟩
  · exact Or.inr ⟨h46.trans h1, h14.trans h2, h3, fun i q hi => (h4 i q hi).fr2 fun a q1 q2 => hf a i q1 (by omega), h24.trans h5, h6, fun f q hq => (h7 f q hq).fr2 fun a k q1 q2 => hf a k (by omega) q2⟩
/-- what an expression reads stands -/
theorem eE.fr2 (h : eE I m D Γ fs c t o st pe x) (hf : ∀ a k, (m + 3 ≤ a ∧ a ≤ m + 5) ∨ (m + 10 ≤ a ∧ a ≤ m + 27) ∨ (a = m ∧ (k = 7 ∨ k = 8 ∨ k = 14 ∨ k = 24 ∨ (42 ≤ k ∧ k ≤ 49) ∨ k = 70)) → ¬ (a = m ∧ k = 45) → J a k = I a k) (h54 : J m 54 = (if c' = true then 1 else 0)) {st' : Nat} (h60 : J m 60 = nI st') : eE J m D Γ fs c' t o st' pe x := by
  obtain ⟨⟨t1, t2, t3, t4, t5, t6⟩, e2, e3, e4, e5, e6⟩ := h
  exact ⟨⟨t1.fr2 (hf _ _ (by omega) (by omega)) (hf _ _ (by omega) (by omega)) fun a k q1 q2 => hf a k (by omega) (by omega), t2, (hf _ _ (by omega) (by omega)).trans t3, (hf _ _ (by omega) (by omega)).trans t4, t5, (hf _ _ (by omega) (by omega)).trans t6⟩, e2.fr2 (hf _ _ (by omega) (by omega)) (hf _ _ (by omega) (by omega)) (hf _ _ (by omega) (by omega)) fun a k q1 q2 => hf a k (by omega) (by omega), h54, h60, (hf _ _ (by omega) (by omega)).trans e5, e6.fr (hf _ _ (by omega) (by omega)) (hf _ _ (by omega) (by omega)) (hf _ _ (by omega) (by omega))⟩
theorem s_X13_value {B : Nat} (hi : inD D) (h : eE I m D Γ fs false t o st pe x) (hd : o + d = 40) (hpe : pe ≤ 10 * o) (hB : st + 4 * (D.length - t) ≤ B) (hB9 : B ≤ 9000) : w_X13_value m (vQ I m D Γ fs st pe o x (pE D d t)) I := by
  have h54 : I m 54 = 0 := h.2.2.1
  have h60 : I m 60 = nI st := h.2.2.2.1
  unfold w_X13_value
  rw [h54, h60]
  intro I1 hI1 I2 hI2
  have f2 : ∀ a k, ¬ (a = m ∧ (k = 54 ∨ k = 55)) → I2 a k = I a k := fun a k hk => by rw [hI2, gX, if_neg (by omega), hI1, gX, if_neg (by omega)]
  have E2 : eE I2 m D Γ fs true t o st pe x := h.fr2 (fun a k q1 q2 => f2 a k (by omega)) (by rw [hI2, gX, if_neg (by omega), hI1, xup_s]; rfl) (by rw [f2 _ _ (by omega)]; exact h60)
  have h55 : I2 m 55 = 0 := by rw [hI2, xup_s]
  clear hI2 hI1
  refine ⟨_, ro_X hi d 700 (by omega) I2 t o st pe x B hd E2 hpe hB hB9, ?_⟩
  rintro v3 I3 - ⟨g3, r3⟩
  refine ⟨Or.inl rfl, ?_⟩
  intro I5 hI5
  have f5 : ∀ a k, ¬ (a = m ∧ k = 54) → I5 a k = I3 a k := fun a k hk => by rw [hI5, gX, if_neg hk]
  have p5 : I5 m 54 = 0 := by rw [hI5, xup_s]
  clear hI5
  have G : ∀ J, (∀ a k, ¬ (a = m ∧ (k = 60 ∨ k = 72)) → ¬ a = m + 39 → J a k = I5 a k) → eG2 I J m := fun J hJ a k q1 q2 => by
    by_cases q54 : a = m ∧ k = 54
    · obtain ⟨rfl, rfl⟩ := q54
      rw [hJ _ _ (by omega) (by omega), p5, h54]
    · rw [hJ a k (by unfold eFk at q2; omega) (by omega), f5 a k q54, g3.1 a k (by omega) (fun z => q2 ⟨z.1, Or.inl z.2⟩), f2 a k (by unfold eFk at q2; omega)]
  have GK : ∀ J, (∀ a k, ¬ (a = m ∧ (k = 60 ∨ k = 72)) → ¬ a = m + 39 → J a k = I5 a k) → eK I J m st pe := fun J hJ a k hk => by
    rw [hJ a k (by omega) (by omega), f5 a k (by omega), g3.2 a k hk, f2 a k (by omega)]
  cases hr : pE D d t with
  | error f =>
    rw [hr] at r3
    obtain ⟨-, x1, x2, x3⟩ := r3
    rw [x1]
    refine ⟨fun _ I6 hI6 => ?_, fun z => absurd x3 z⟩
    have f6 : ∀ a k, ¬ (a = m ∧ k = 60) → I6 a k = I5 a k := fun a k hk => by rw [hI6, gX, if_neg hk]
    exact ⟨G I6 fun a k q1 q2 => f6 a k (by omega), GK I6 fun a k q1 q2 => f6 a k (by omega), ⟨by rw [f6 _ _ (by omega), f5 _ _ (by omega)]; exact x1, by rw [f6 _ _ (by omega), f5 _ _ (by omega)]; exact x2, x3⟩, rfl⟩
  | ok et =>
    obtain ⟨e, t1⟩ := et
    rw [hr] at r3
    obtain ⟨-, w3, b3⟩ := r3
    have hwx := pE_w d t e t1 hr
    have hb : st + (cX Γ fs true none st e).length + 4 * (D.length - t1) ≤ B := b3
    have p46 : I2 m 46 = I m 46 := f2 _ _ (by omega)
    have q46 : I3 m 46 = I m 46 := by rw [← p46]; exact w3.1.ps
    have h44 : I3 m 44 = 0 := w3.2.1.1.2.2.2.2.2
    have n55 : I3 m 55 = (if hnX Γ fs e = true then 1 else 0) := by
      have := w3.2.2.2.2
      rw [h55] at this
      exact this
    have E3 := w3.2.1
    rw [p46] at E3
    have fin : ∀ (v : Int32) (J : xII), v = (if I m 46 = 0 ∨ hnX Γ fs e = true then 0 else vC Γ fs e) → (∀ a k, ¬ (a = m ∧ (k = 60 ∨ k = 72)) → ¬ a = m + 39 → J a k = I5 a k) → J m 60 = nI st → vQ I m D Γ fs st pe o x (.ok (e, t1)) v J := by
      intro v J hv hJ hJ60
      refine ⟨G J hJ, GK J hJ, E3.fr2 (fun a k q1 q2 => by rw [hJ a k (by omega) (by omega), f5 a k (by omega)]) (by rw [hJ _ _ (by omega) (by omega), p5]; rfl) hJ60, by rw [hJ _ _ (by omega) (by omega), f5 _ _ (by omega)]; exact n55, hv⟩
    rw [h44, q46]
    refine ⟨fun z => absurd z (by decide), fun _ => ⟨fun hp I7 hI7 => fin _ _ (by rw [if_pos (Or.inl hp)]) (fun a k q1 q2 => by rw [hI7, gX, if_neg (by omega)]) (by rw [hI7, xup_s]), fun hp => ⟨fun e55 => ?_, fun e55 I10 hI10 => ?_⟩⟩⟩
    · have hn : hnX Γ fs e = false := by
        cases hq : hnX Γ fs e with
        | false => rfl
        | true =>
          rw [n55, hq] at e55
          exact absurd e55 (by decide)
      obtain ⟨n, hrn⟩ := cR (l := cX Γ fs true none st e) (v := vC Γ fs e) (st := st) (by omega) e st [] hwx hn ⟨Nat.le_refl _, fun i q hq => by rw [Nat.add_sub_cancel_left]; exact hq⟩ (by rw [← cX_len Γ fs true none st e]; simp only [List.length_nil]; omega) (by rw [← cX_len Γ fs true none st e]; omega) 0 ⟨by rw [cX_len], rfl⟩
      refine ⟨_, s_X13_reckon (l := cX Γ fs true none st e) (w3.2.2.2.1.cong fun a k q1 q2 q3 q4 => f5 a k (by omega)) (by rw [f5 _ _ (by omega)]; exact w3.2.1.2.2.2.1) (by omega) hrn, ?_⟩
      rintro _ I8 ⟨rfl, f8⟩ I9 hI9
      exact fin _ _ (by rw [if_neg]; rintro (z | z); exact hp z; rw [hn] at z; exact nomatch z) (fun a k q1 q2 => by rw [hI9, gX, if_neg (by omega)]; exact f8 a k (by omega) q2) (by rw [hI9, xup_s])
    · refine fin _ _ ?_ (fun a k q1 q2 => by rw [hI10, gX, if_neg (by omega)]) (by rw [hI10, xup_s])
      rw [if_pos]
      refine Or.inr ?_
      cases hq : hnX Γ fs e with
      | true => rfl
      | false =>
        rw [n55, hq] at e55
        exact absurd rfl e55
end VA
