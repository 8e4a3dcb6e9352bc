/-! ===== the Model's statements: choices, bodies of loops ===== -/
set_option maxRecDepth 100000
/-- a loop's body is there: its breaks, and (where a is not known) its continues, still open -/
def bR (I J : xII) (m : Nat) (D : tkL) (fs : List fnc) (st : Nat) (x : nte) (t' o' sc lp f : Nat) (vd b0 c0 a : Int32) (E : env) (q : mR) : Prop := sG I J m ∧ sE J m D fs t' o' (st + 1 + q.1.length) (mN (I m 46) x q.2.1) sc lp (E.1, q.2.2.2) f vd ∧ eK I J m st 0 ∧ mSt J m st ([(15, 0, 0, 0)] ++ lnk (st + 1) (-1) (-1) (if a = -1 then q.1 else fillH 2 a q.1)) ∧ J m 63 = b0 ∧ J m 64 = c0 ∧ J m 65 = hdH 1 (st + 1) (-1) q.1 ∧ (a = -1 → J m 66 = hdH 2 (st + 1) (-1) q.1)
def bP (I : xII) (m : Nat) (D : tkL) (fs : List fnc) (st o : Nat) (x : nte) (sc lp f : Nat) (vd b0 c0 a : Int32) (E : env) (B : Nat) (r : pR) (v : Int32) (J : xII) : Prop := match r with
  | .error fl => v = 0 ∧ sX I J m st b0 c0 fl
  | .ok (e, t') => v = 1 ∧ bR I J m D fs st x t' o sc lp f vd b0 c0 a E (mS (I m 46) fs vd e (sc + 1) true (st + 1) E) ∧ st + 1 + (mS (I m 46) fs vd e (sc + 1) true (st + 1) E).1.length + 4 * (D.length - t') ≤ B
def oBd (Rk : rkT) (m : Nat) (D : tkL) (fs : List fnc) (f : Nat) (vd : Int32) (d : Nat) : Prop := ∀ I t o st x sc lp E b0 c0 B a, o + d = 40 → sE I m D fs t o st x sc lp E f vd → I m 63 = b0 → I m 64 = c0 → sc ≤ 2 * o → lp + 1 ≤ o → st + 1 + 4 * (D.length - t) ≤ B → B ≤ 9000 → Rk 4 a 0 (bP I m D fs st o x sc lp f vd b0 c0 a E B (pS D d t)) I
section SBD
variable {m t o st pe d B sc lp f t1 t' o' t2 o2 sc' lp' : Nat} {I J K : xII} {D : tkL} {Γ : List dcl} {fs : List fnc} {x y : nte} {vd b0 c0 ps : Int32} {E E' : env} {q : mR} {fl : Int32 × Int32} {Rk : rkT} {l l1 l2 : List stp}
theorem s_X13_body {a : Int32} (hSc : oSc Rk m D fs f vd d) (hD : D.length ≤ 1800) (h : sE I m D fs t o st x sc lp E f vd) (hd : o + d = 40) (h63 : I m 63 = b0) (h64 : I m 64 = c0) (hsc : sc ≤ 2 * o) (hlp : lp + 1 ≤ o) (hB : st + 1 + 4 * (D.length - t) ≤ B) (hB9 : B ≤ 9000) : w_X13_body Rk m a (bP I m D fs st o x sc lp f vd b0 c0 a E B (pS D d t)) I := by
  have h51 : I m 51 = nI lp := h.2.2.1.1
  have h15 : I m 15 = nI sc := h.2.1.1
  have ho := h.1.1.2.2.2.2.1
  have hl := h.1.1.2.1
  unfold w_X13_body
  intro I1 hI1 I2 hI2 I3 hI3
  have f3 : ∀ a k, ¬ (a = m ∧ (k = 51 ∨ k = 63 ∨ k = 64)) → I3 a k = I a k := fun a k hk => by rw [hI3, gX, if_neg (by omega), hI2, gX, if_neg (by omega), hI1, gX, if_neg (by omega)]
  have p51 : I3 m 51 = nI (lp + 1) := by rw [hI3, xup_s, h51, nI_up]
  have p63 : I3 m 63 = -1 := by rw [hI3, gX, if_neg (by omega), hI2, gX, if_neg (by omega), hI1, xup_s]
  have p64 : I3 m 64 = -1 := by rw [hI3, gX, if_neg (by omega), hI2, xup_s]
  clear hI1 hI2 hI3
  have p46 : I3 m 46 = I m 46 := f3 _ _ (by omega)
  have E3 : sE I3 m D fs t o st x sc (lp + 1) E f vd := h.fr3 (fun a k q1 q2 => f3 a k (by omega)) (by rw [f3 _ _ (by omega)]; exact h15) p51 (by omega) (by omega) (by omega)
  have G3 : sG I I3 m := fun a k q1 q2 => f3 a k (by unfold sFk at q2; omega)
  have K3 : eK I I3 m st 0 := fun a k hk => f3 a k (by omega)
  refine ⟨_, s_X13_step (s := st) E3.1.2.2.2.1 (by omega), ?_⟩
  rintro _ I4 ⟨rfl, s0, s1, s2, s3, s4, -⟩
  have w4 : sW I3 I4 m D fs st x t o sc (lp + 1) f vd (-1) (-1) ([(15, 0, 0, 0)], none, E) := (sW.rf E3 p63 p64).sp1 (w := 15) (a := 0) (d := 0) (v := 0) isHo_0 s0 s1 s2 s3 s4 (fun z => absurd z (by decide))
  have E4 : sE I4 m D fs t o (st + 1) x sc (lp + 1) E f vd := by
    have := w4.2.1
    rw [mN_n] at this
    exact this
  have p446 : I4 m 46 = I m 46 := by rw [← p46]; exact w4.1.ps
  refine ⟨_, hSc I4 t o (st + 1) x sc (lp + 1) E (-1) (-1) B hd E4 w4.2.2.2.2.1 w4.2.2.2.2.2 hsc (by omega) hB hB9, ?_⟩
  rintro v5 I5 - hP
  rw [p446, show decide (0 < lp + 1) = true from decide_eq_true (by omega)] at hP
  have G4 : sG I I4 m := G3.tr w4.1
  have K4 : eK I I4 m st 0 := K3.tr w4.2.2.1 (Nat.le_refl _)
  intro I6 hI6
  have f6 : ∀ a k, ¬ (a = m ∧ k = 51) → I6 a k = I5 a k := fun a k hk => by rw [hI6, gX, if_neg hk]
  unfold bP
  cases hr : pS D d t with
  | error fl =>
    rw [hr] at hP
    obtain ⟨rfl, x1, x2, x3, x4, l, x5, x6, x7, x8⟩ := hP
    have K5 : eK I I5 m st 0 := K4.tr x4 (by omega)
    refine ⟨fun I7 => (∀ a k, ¬ (a = m ∧ (k = 51 ∨ k = 64 ∨ k = 66)) → ¬ (a = m + 33 ∧ st + 1 ≤ k) → I7 a k = I5 a k) ∧ I7 m 64 = c0, fun I7 hJ7 => ?_, fun ha => ?_, fun ha => ?_⟩
    · obtain ⟨f7, p7⟩ := hJ7
      intro I8 hI8 I9 hI9
      have f9 : ∀ a k, ¬ (a = m ∧ (k = 51 ∨ k = 63 ∨ k = 64 ∨ k = 65 ∨ k = 66)) → ¬ (a = m + 33 ∧ st + 1 ≤ k) → I9 a k = I5 a k := fun a k q1 q2 => by
        rw [hI9, gX, if_neg (by omega), hI8, gX, if_neg (by omega)]
        exact f7 a k (by omega) q2
      obtain ⟨k, hk, h14⟩ := x3
      refine ⟨rfl, fun a k q1 q2 => (f9 a k (by unfold sFk at q2; omega) (by omega)).trans ((G4.tr x1) a k q1 q2), ⟨by rw [f9 _ _ (by omega) (by omega)]; exact x2.1, by rw [f9 _ _ (by omega) (by omega)]; exact x2.2.1, x2.2.2⟩, ⟨k, hk, by rw [f9 _ _ (by omega) (by omega)]; exact h14⟩, fun a k hk => (f9 a k (by omega) (by omega)).trans (K5 a k hk), [], by show st + 0 ≤ 9000; omega, mSt.nil, ?_, ?_⟩
      · rw [hI9, xup_s]
        exact h63
      · rw [hI9, gX, if_neg (by omega), hI8, gX, if_neg (by omega)]
        exact p7
    · intro I10 hI10 I11 hI11
      refine ⟨fun a k q1 q2 => by rw [hI11, gX, if_neg (by omega), hI10, gX, if_neg (by omega)]; exact f6 a k (by omega), by rw [hI11, xup_s]; exact h64⟩
    · rw [x8]
      refine ⟨_, s_X13_settle2 (b := -1) (x6.cong fun a k _ _ _ _ => f6 a k (by omega)) x5, ?_⟩
      rintro I12 ⟨g12, f12⟩ I13 hI13
      refine ⟨fun a k q1 q2 => by rw [hI13, gX, if_neg (by omega), f12 a k (by omega)]; exact f6 a k (by omega), by rw [hI13, xup_s]; exact h64⟩
  | ok et =>
    obtain ⟨e, t2⟩ := et
    rw [hr] at hP
    obtain ⟨rfl, w5, b5⟩ := hP
    dsimp only at w5 b5 ⊢
    unfold scO at w5 b5
    generalize hq : mS (I m 46) fs vd e (sc + 1) true (st + 1) E = q at *
    obtain ⟨a1, a2, a3, a4, a5, a6⟩ := w5
    dsimp only at a2 a4 a5 a6 b5
    rw [p446] at a2
    have K5 : eK I I5 m st 0 := K4.tr a3 (by omega)
    have h65 : I6 m 51 = nI lp := by rw [hI6, xup_s, a2.2.2.1.1, nI_m]
    have m15 : mSt I5 m st [(15, 0, 0, 0)] := w4.2.2.2.1.cong fun a k q1 q2 q3 q4 => a3 a k (by
      have : k < st + 1 := q4
      omega)
    refine ⟨fun I7 => (∀ a k, ¬ (a = m ∧ (k = 51 ∨ k = 64 ∨ k = 66)) → ¬ (a = m + 33 ∧ st + 1 ≤ k) → I7 a k = I5 a k) ∧ I7 m 64 = c0 ∧ I7 m 51 = nI lp ∧ mSt I7 m (st + 1) (lnk (st + 1) (-1) (-1) (if a = -1 then q.1 else fillH 2 a q.1)) ∧ (a = -1 → I7 m 66 = hdH 2 (st + 1) (-1) q.1), fun I7 hJ7 => ?_, fun ha => ?_, fun ha => ?_⟩
    · obtain ⟨f7, p7, o7, m7, n7⟩ := hJ7
      intro I8 hI8 I9 hI9
      have g9 : ∀ a k, ¬ (a = m ∧ (k = 63 ∨ k = 65)) → I9 a k = I7 a k := fun a k q1 => by
        rw [hI9, gX, if_neg (by omega), hI8, gX, if_neg (by omega)]
      have f9 : ∀ a k, ¬ (a = m ∧ (k = 51 ∨ k = 63 ∨ k = 64 ∨ k = 65 ∨ k = 66)) → ¬ (a = m + 33 ∧ st + 1 ≤ k) → I9 a k = I5 a k := fun a k q1 q2 => (g9 a k (by omega)).trans (f7 a k (by omega) q2)
      refine ⟨rfl, ⟨fun a k q1 q2 => (f9 a k (by unfold sFk at q2; omega) (by omega)).trans ((G4.tr a1) a k q1 q2), ?_, fun a k hk => (f9 a k (by omega) (by omega)).trans (K5 a k hk), ?_, ?_, ?_, ?_, fun z => by rw [g9 _ _ (by omega)]; exact n7 z⟩, b5⟩
      · exact a2.fr3 (fun a k q1 q2 => f9 a k (by omega) (by omega)) (by rw [f9 _ _ (by omega) (by omega)]; exact a2.2.1.1) (by rw [g9 _ _ (by omega)]; exact o7) a2.2.1.2 (by omega) (Nat.le_refl _)
      · refine mSt.app.mpr ⟨m15.cong fun a k q1 q2 q3 q4 => f9 a k (by omega) (by
          have : k < st + 1 := q4
          omega), m7.cong fun a k _ _ _ _ => g9 a k (by omega)⟩
      · rw [hI9, xup_s]
        exact h63
      · rw [g9 _ _ (by omega)]
        exact p7
      · rw [hI9, gX, if_neg (by omega), hI8, xup_s, f7 _ _ (by omega) (by omega)]
        exact a5
    · intro I10 hI10 I11 hI11
      have f11 : ∀ a k, ¬ (a = m ∧ (k = 51 ∨ k = 64 ∨ k = 66)) → I11 a k = I5 a k := fun a k q1 => by rw [hI11, gX, if_neg (by omega), hI10, gX, if_neg (by omega)]; exact f6 a k (by omega)
      refine ⟨fun a k q1 q2 => f11 a k q1, by rw [hI11, xup_s]; exact h64, by rw [hI11, gX, if_neg (by omega), hI10, gX, if_neg (by omega)]; exact h65, ?_, fun _ => ?_⟩
      · rw [if_pos ha]
        exact a4.cong fun a k _ _ _ _ => f11 a k (by omega)
      · rw [hI11, gX, if_neg (by omega), hI10, xup_s]
        exact a6
    · rw [a6]
      have hle : st + 1 + q.1.length ≤ 9000 := by omega
      refine ⟨_, s_X13_settle2 (b := -1) (a4.cong fun a k _ _ _ _ => f6 a k (by omega)) hle, ?_⟩
      rintro I12 ⟨g12, f12⟩ I13 hI13
      refine ⟨fun a k q1 q2 => by rw [hI13, gX, if_neg (by omega), f12 a k (by omega)]; exact f6 a k (by omega), by rw [hI13, xup_s]; exact h64, by rw [hI13, gX, if_neg (by omega), f12 _ _ (by omega)]; exact h65, ?_, fun z => absurd z ha⟩
      rw [if_neg ha]
      exact g12.cong fun a k _ _ _ _ => by rw [hI13, gX, if_neg (by omega)]
/-- a statement's tree is none that stands for nothing -/
theorem pS_k {e : Tr} (h : pS D d t = .ok (e, t1)) : ∀ a b l r, ¬ e = .inner 35 a b l r := by
  intro a b l r he
  subst he
  rw [pS_eq] at h
  unfold pStF at h
  split at h
  · obtain ⟨-, -, h⟩ := pOpen_ok h
    obtain ⟨u, v, -, h3⟩ := pAnd_ok h
    obtain ⟨-, h4⟩ := pNeed_ok h3
    cases h4
  · split at h
    · obtain ⟨-, h⟩ := pNeed_ok h
      split at h
      · obtain ⟨-, -, h⟩ := pOpen_ok h
        obtain ⟨u, v, -, h3⟩ := pAnd_ok h
        obtain ⟨-, h4⟩ := pNeed_ok h3
        obtain ⟨-, h4⟩ := pNeed_ok h4
        cases h4
      · split at h
        · obtain ⟨u, v, -, h3⟩ := pAnd_ok h
          obtain ⟨-, h4⟩ := pNeed_ok h3
          cases h4
        · obtain ⟨-, h4⟩ := pNeed_ok h
          cases h4
    · split at h
      · obtain ⟨-, -, h⟩ := pOpen_ok h
        obtain ⟨u, v, -, h3⟩ := pAnd_ok h
        obtain ⟨u2, v2, -, h4⟩ := pAnd_ok h3
        split at h4
        · obtain ⟨u3, v3, -, h5⟩ := pAnd_ok h4
          cases h5
        · cases h4
      · split at h
        · obtain ⟨-, -, h⟩ := pOpen_ok h
          split at h
          · obtain ⟨u, v, -, h3⟩ := pAnd_ok h
            obtain ⟨-, h4⟩ := pNeed_ok h3
            obtain ⟨u2, v2, -, h5⟩ := pAnd_ok h4
            obtain ⟨-, h6⟩ := pNeed_ok h5
            cases h6
          · split at h
            · obtain ⟨u, v, -, h3⟩ := pAnd_ok h
              obtain ⟨u2, v2, -, h5⟩ := pAnd_ok h3
              cases h5
            · obtain ⟨-, -, h⟩ := pOpen_ok h
              obtain ⟨u, v, -, h3⟩ := pAnd_ok h
              obtain ⟨-, h3⟩ := pNeed_ok h3
              obtain ⟨u2, v2, -, h4⟩ := pAnd_ok h3
              obtain ⟨-, h4⟩ := pNeed_ok h4
              obtain ⟨u3, v3, -, h5⟩ := pAnd_ok h4
              obtain ⟨-, h5⟩ := pNeed_ok h5
              obtain ⟨u4, v4, -, h6⟩ := pAnd_ok h5
              cases h6
        · obtain ⟨u, v, h2, h3⟩ := pAnd_ok h
          obtain ⟨-, h4⟩ := pNeed_ok h3
          cases h4
          split at h2
          · cases h2
          · split at h2
            · cases h2
            · split at h2
              · split at h2
                · cases h2
                · obtain ⟨u, v, -, h3⟩ := pAnd_ok h2
                  cases h3
              · split at h2
                · obtain ⟨u, v, -, h3⟩ := pAnd_ok h2
                  cases h3
                · split at h2
                  · cases h2
                  · obtain ⟨-, h2⟩ := pNeed_ok h2
                    split at h2
                    · obtain ⟨u, v, -, h3⟩ := pAnd_ok h2
                      cases h3
                    · obtain ⟨u, v, -, h3⟩ := pAnd_ok h2
                      split at h3
                      · cases h3
                      · split at h3
                        · cases h3
                        · split at h3
                          · obtain ⟨u, v, -, h4⟩ := pAnd_ok h3
                            cases h4
                          · exact nomatch h3
theorem mS_if2 {c y n : Tr} {lb : Bool} (hn : ∀ a b l r, ¬ n = .inner 35 a b l r) : mS ps fs vd (nd 25 [] c (nd 32 [] y n)) sc lb st E = (cX E.1 fs false none st c ++ [(13, nI (st + lX false c + 1 + (mS ps fs vd y (sc + 1) lb (st + lX false c + 1) E).1.length + 1), 0, 0)] ++ (mS ps fs vd y (sc + 1) lb (st + lX false c + 1) E).1 ++ [(12, nI (st + lX false c + 1 + (mS ps fs vd y (sc + 1) lb (st + lX false c + 1) E).1.length + 1 + (mS ps fs vd n (sc + 1) lb (st + lX false c + 1 + (mS ps fs vd y (sc + 1) lb (st + lX false c + 1) E).1.length + 1) (E.1, (mS ps fs vd y (sc + 1) lb (st + lX false c + 1) E).2.2.2)).1.length), 0, 0)] ++ (mS ps fs vd n (sc + 1) lb (st + lX false c + 1 + (mS ps fs vd y (sc + 1) lb (st + lX false c + 1) E).1.length + 1) (E.1, (mS ps fs vd y (sc + 1) lb (st + lX false c + 1) E).2.2.2)).1, mnN (mnN (nX E.1 fs false true none c) (mS ps fs vd y (sc + 1) lb (st + lX false c + 1) E).2.1) (mS ps fs vd n (sc + 1) lb (st + lX false c + 1 + (mS ps fs vd y (sc + 1) lb (st + lX false c + 1) E).1.length + 1) (E.1, (mS ps fs vd y (sc + 1) lb (st + lX false c + 1) E).2.2.2)).2.1, (E.1, (mS ps fs vd n (sc + 1) lb (st + lX false c + 1 + (mS ps fs vd y (sc + 1) lb (st + lX false c + 1) E).1.length + 1) (E.1, (mS ps fs vd y (sc + 1) lb (st + lX false c + 1) E).2.2.2)).2.2.2)) := by
  rw [mS]
  exact fun a b l r h => hn a b l r h
end SBD
