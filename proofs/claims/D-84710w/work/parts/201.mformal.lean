/-! ===== the Model's functions: formals; statements outside loops have no open ways ===== -/
set_option maxRecDepth 100000
def fmK (a b : Int32) : Int32 := if a = 0 then 0 else if b = 0 then 1 else 2
/-- a formal: its note, what is told -/
def fmL (ps : Int32) (fs : List fnc) (p nm a b : Int32) (n : Nat) (E : env) : nte × env := (mnN (twN E.1 fs 1 nm p) (if n = 4 then nt 11 p else none), (tellD ps (nm, if a = 0 then 1 else 2, p, 1, b, nI E.2.2, if a = 0 then 1 else -1, 1) E.1, E.2.1, E.2.2 + if a = 0 then 1 else 2))
def mFm (ps : Int32) (fs : List fnc) : Tr → Nat → env → nte × env
  | .inner 44 [_, p, nm, a, b] _ _ r, n, E => (mnN (fmL ps fs p nm a b n E).1 (mFm ps fs r (n + 1) (fmL ps fs p nm a b n E).2).1, (mFm ps fs r (n + 1) (fmL ps fs p nm a b n E).2).2)
  | _, _, E => (none, E)
def fmKs : Tr → List Int32
  | .inner 44 [_, _, _, a, b] _ _ r => fmK a b :: fmKs r
  | _ => []
section SFM
variable {m t o st d B f n : Nat} {I J K : xII} {D : tkL} {fs : List fnc} {x y : nte} {vd b0 c0 ps : Int32} {E : env} {fl : Int32 × Int32}
theorem s_X13_formalHere (hD : D.length ≤ 1800) (h : sE I m D fs t 1 st x 1 0 E f vd) (h63 : I m 63 = b0) (h64 : I m 64 = c0) (hst : st ≤ 9000) (hn : n ≤ 4000) : w_X13_formalHere m (nI n) (fun v J => match pFm D t with
    | .error fl => sX I J m st b0 c0 fl
    | .ok (e, t1) => ∃ fi p nm a b, e = nd 44 [fi, p, nm, a, b] lf lf ∧ v = fmK a b ∧ (a = 0 ∨ a = 1) ∧ sW I J m D fs st x t1 1 1 0 f vd b0 c0 ([], (fmL (I m 46) fs p nm a b n E).1, (fmL (I m 46) fs p nm a b n E).2)) I := by
  have hT := h.1.1
  have hl := hT.2.1
  have hD4 := hT.1.1.2.1
  have w0 := sW.rf h h63 h64
  have hs0 : st + (([], none, E) : mR).1.length ≤ 9000 := hst
  have n4 : nI n = 4 ↔ n = 4 := ⟨fun z => nIj (b := 4) (by omega) (by omega) z, fun z => by rw [z]; rfl⟩
  have b1 := h.2.2.2.2.2.2.1
  have b2 := h.2.2.2.2.2.2.2.1
  have b3 := h.2.2.2.2.2.2.2.2.1
  unfold w_X13_formalHere
  refine ⟨_, s_X13_isWord hT (k := 11) (by decide), ?_⟩
  rintro _ _ - ⟨rfl, rfl⟩
  -- the NAME is told
  have told : ∀ (I4 : xII) (kd b' sz : Int32) (add : Nat) (tx : Nat), tK D (t + 1) = 2 → t + 2 ≤ tx → (b' = 0 ∨ b' = 1) → add ≤ 2 → sW I I4 m D fs st x tx 1 1 0 f vd b0 c0 ([], mnN (twN E.1 fs 1 (tV D (t + 1)) (tP D (t + 1))) (if n = 4 then nt 11 (tP D (t + 1)) else none), E) → ∃ R8 : xII → Prop, w_X13_declare m (nI (t + 1)) kd b' (I4 m 53) sz 1 R8 I4 ∧ ∀ I8 : xII, R8 I8 → ∀ I9 : xII, I9 = xup I8 m 53 (I8 m 53 + nI add) → sW I I9 m D fs st x tx 1 1 0 f vd b0 c0 ([], mnN (twN E.1 fs 1 (tV D (t + 1)) (tP D (t + 1))) (if n = 4 then nt 11 (tP D (t + 1)) else none), (tellD (I m 46) (tV D (t + 1), kd, tP D (t + 1), 1, b', nI E.2.2, sz, 1) E.1, E.2.1, E.2.2 + add)) := by
    intro I4 kd b' sz add tx k2 htx hb' hadd w4
    have hT4 := w4.2.1.1.1
    have hl4 := hT4.2.1
    have h453 : I4 m 53 = nI E.2.2 := w4.2.1.2.2.2.2.1
    rw [h453]
    refine ⟨_, s_X13_declare w4.2.1.1.2.1 (w4.2.1.len hD) (tk := t + 1) (by omega) hb' (Or.inr rfl), ?_⟩
    rintro I8 ⟨g8, p8, f8⟩ I9 hI9
    have e4 : I4 (m + 4) (t + 1) = tV D (t + 1) := by
      rw [(hT4.1.2.2.1 (t + 1) (by omega)).2.1, k2]
      unfold mkV
      rw [if_pos rfl]
    have e5 : I4 (m + 5) (t + 1) = tP D (t + 1) := hT4.1.at (by omega)
    rw [e4, e5, w4.2.1.2.1.1] at g8
    have w8 := w4.dc g8 p8 f8 rfl (by dsimp only; omega)
    dsimp only at w8
    have h853 : I8 m 53 = nI E.2.2 := w8.2.1.2.2.2.2.1
    have h852 : I8 m 52 = nI E.2.1 := w8.2.1.2.2.2.1
    rw [h853, nI_add] at hI9
    have w9 := w8.oc (K := I9) (ow := E.2.1) (oc := E.2.2 + add) (fun a k hk => by rw [hI9, gX, if_neg (by omega)]) (by rw [hI9, gX, if_neg (by omega)]; exact h852) (by rw [hI9, xup_s]) (by omega) (by omega)
    exact w9
  -- NAME, twice, the fifth one
  have named : ∀ (Q : xII → Prop) (G : Int32 → xII → Prop) (I2 : xII), t + 1 < D.length → sW I I2 m D fs st x (t + 1) 1 1 0 f vd b0 c0 ([], none, E) → (¬ tK D (t + 1) = 2 → ∀ J, sX I J m st b0 c0 (pWr D (t + 1)) → Q J) → (tK D (t + 1) = 2 → ∀ I4, sW I I4 m D fs st x (t + 2) 1 1 0 f vd b0 c0 ([], mnN (twN E.1 fs 1 (tV D (t + 1)) (tP D (t + 1))) (if n = 4 then nt 11 (tP D (t + 1)) else none), E) → G (nI (t + 1)) I4) → ∃ R3 : Int32 → xII → Prop, w_X13_name m R3 I2 ∧ ∀ (v3 : Int32) (I3 : xII), R3 v3 I3 → ((I3 m 44 ≤ 0 → ∃ R4 : xII → Prop, w_X13_twice m v3 R4 I3 ∧ ∀ I4 : xII, R4 I4 → ∃ J5 : xII → Prop, (∀ I5 : xII, J5 I5 → G v3 I5) ∧ ((nI n = 4 → vp_in v3 4002 ∧ ∃ R11 : xII → Prop, w_X13_note m 11 (I4 (m + 5) (ix v3)) R11 I4 ∧ ∀ I11 : xII, R11 I11 → J5 I11) ∧ (¬ nI n = 4 → J5 I4))) ∧ (¬ I3 m 44 ≤ 0 → Q I3)) := by
    intro Q G I2 ht1 w2 hq hg
    refine ⟨_, s_X13_name w2.2.1.1.1, ?_⟩
    rintro v3 I3 ⟨q3, ⟨k2, rfl, x3⟩ | ⟨k2, rfl, T3⟩⟩
    · exact ⟨fun z => absurd z (Int32.not_le.mpr (by rw [x3.1]; exact x3.2.2)), fun _ => hq k2 I3 (eH.sx w2 hD hst q3.h x3)⟩
    refine ⟨fun _ => ?_, fun z => absurd (by rw [T3.2.2.2.2.2]; decide) z⟩
    have w3 := w2.mv q3 T3 (by omega)
    have hl3 := T3.2.1
    have hT3 := w3.2.1.1.1
    have e4 : I3 (m + 4) (t + 1) = tV D (t + 1) := by
      rw [(hT3.1.2.2.1 (t + 1) (by omega)).2.1, k2]
      unfold mkV
      rw [if_pos rfl]
    have e5 : I3 (m + 5) (t + 1) = tP D (t + 1) := hT3.1.at (by omega)
    refine ⟨_, s_X13_twice (sc := 1) w3.2.1.1.2.1 w3.2.1.1.2.2.2.2.2 w3.2.1.2.1.1 (by omega) (tk := t + 1) (by omega), ?_⟩
    rintro I4 ⟨n4', f4⟩
    rw [e4, e5] at f4
    have w4 := w3.nt n4' f4
    have e54 : I4 (m + 5) (t + 1) = tP D (t + 1) := by rw [n4' _ _ (by omega)]; exact e5
    rw [show ix (nI (t + 1)) = t + 1 from nI_clamp (by omega), e54, n4]
    refine ⟨fun I5 => sW I I5 m D fs st x (t + 2) 1 1 0 f vd b0 c0 ([], mnN (twN E.1 fs 1 (tV D (t + 1)) (tP D (t + 1))) (if n = 4 then nt 11 (tP D (t + 1)) else none), E), hg k2, fun z => ⟨vp_in_nI (by omega) (by decide), _, s_X13_note w4.2.1.1.2.2.2.2.2 (by decide), fun I11 h11 => ?_⟩, fun z => ?_⟩
    · rw [if_pos z]
      exact w4.nt h11.1 h11.2
    · rw [if_neg z, mnN_n]
      exact w4
  -- [ ]
  have square : ∀ (Q Q1 : xII → Prop) (b' : Int32) (I5 : xII), tK D (t + 1) = 2 → (b' = 0 ∨ b' = 1) → sW I I5 m D fs st x (t + 2) 1 1 0 f vd b0 c0 ([], mnN (twN E.1 fs 1 (tV D (t + 1)) (tP D (t + 1))) (if n = 4 then nt 11 (tP D (t + 1)) else none), E) → (¬ tK D (t + 2) = 64 → ∀ J, sX I J m st b0 c0 (pWr D (t + 2)) → Q J) → (tK D (t + 2) = 64 → ¬ tK D (t + 3) = 65 → ∀ J, sX I J m st b0 c0 (pWr D (t + 3)) → Q J) → (tK D (t + 2) = 64 → tK D (t + 3) = 65 → ∀ J, sW I J m D fs st x (t + 4) 1 1 0 f vd b0 c0 ([], mnN (twN E.1 fs 1 (tV D (t + 1)) (tP D (t + 1))) (if n = 4 then nt 11 (tP D (t + 1)) else none), (tellD (I m 46) (tV D (t + 1), 2, tP D (t + 1), 1, b', nI E.2.2, -1, 1) E.1, E.2.1, E.2.2 + 2)) → Q1 J) → ∃ R6 : Int32 → xII → Prop, w_X13_openSign m 24 R6 I5 ∧ ∀ (v6 : Int32) (I6 : xII), (v6 = 0 ∨ v6 = 1) → R6 v6 I6 → ((v6 = 0 → Q I6) ∧ (¬ v6 = 0 → ∃ R7 : Int32 → xII → Prop, w_X13_closeSign m 25 R7 I6 ∧ ∀ (v7 : Int32) (I7 : xII), (v7 = 0 ∨ v7 = 1) → R7 v7 I7 → ((v7 = 0 → Q I7) ∧ (¬ v7 = 0 → ∃ R8 : xII → Prop, w_X13_declare m (nI (t + 1)) 2 b' (I7 m 53) (-1) 1 R8 I7 ∧ ∀ I8 : xII, R8 I8 → ∀ I9 : xII, I9 = xup I8 m 53 (I8 m 53 + 2) → Q1 I9)))) := by
    intro Q Q1 b' I5 k2 hb' w5 q1 q2 q3
    refine ⟨_, s_X13_openSign w5.2.1.1.1 (k := 64) (by decide), ?_⟩
    rintro v6 I6 - ⟨g6, ⟨e, rfl, x6⟩ | ⟨e, ho, rfl, x6⟩ | ⟨e, ho, rfl, T6⟩⟩
    · refine ⟨fun _ => ?_, fun q => absurd rfl q⟩
      exact q1 e I6 (eH.sx w5 hD hst g6.h x6)
    · exact absurd ho (by decide)
    refine ⟨fun q => absurd q (by decide), fun _ => ?_⟩
    have w6 := w5.mv g6 T6 (by omega)
    refine ⟨_, s_X13_closeSign (o := 1) w6.2.1.1.1 (k := 65) (by decide), ?_⟩
    rintro v7 I7 - ⟨g7, ⟨e7, rfl, x7⟩ | ⟨e7, rfl, T7⟩⟩
    · refine ⟨fun _ => ?_, fun q => absurd rfl q⟩
      exact q2 e e7 I7 (eH.sx w6 hD hst g7.h x7)
    refine ⟨fun q => absurd q (by decide), fun _ => ?_⟩
    have w7 := w6.mv g7 T7 (by omega)
    obtain ⟨R8, a1, a2⟩ := told I7 2 b' (-1) 2 (t + 4) k2 (by omega) hb' (by omega) w7
    exact ⟨R8, a1, fun I8 h8 I9 hI9 => q3 e e7 I9 (a2 I8 h8 I9 hI9)⟩
  by_cases k11 : tK D t = 11
  · rw [bI, if_pos k11]
    refine ⟨fun q => absurd q (by decide), fun _ => ?_⟩
    have ht1 := hT.1.1.nx' hl k11
    intro I2 hI2
    have q2 := hT.on ht1
    rw [← hI2] at q2
    have w2 := w0.mv q2.2 q2.1 (by omega)
    clear hI2
    rw [show pFm D t = pNeed D 2 (t + 1) (pOpen D 64 39 (t + 2) (pNeed D 65 (t + 3) (.ok (nd 44 [tP D t, tP D (t + 1), tV D (t + 1), 1, 1] lf lf, t + 4)))) by rw [pFm, if_pos (Or.inl k11), if_pos (Or.inl k11), if_pos k11]]
    refine named _ _ I2 ht1 w2 ?_ ?_
    · intro z J hJ
      rw [pNeed, if_neg z]
      exact hJ
    intro k2 I4 w4
    refine square _ _ 1 I4 k2 (Or.inr rfl) w4 (fun z J hJ => ?_) (fun e z J hJ => ?_) (fun e e' J hJ => ?_)
    · rw [pNeed, if_pos k2, pOpen, if_neg z]
      exact hJ
    · rw [pNeed, if_pos k2, pOpen, if_pos e, if_neg (by decide), pNeed, if_neg z]
      exact hJ
    · rw [pNeed, if_pos k2, pOpen, if_pos e, if_neg (by decide), pNeed, if_pos e']
      exact ⟨_, _, _, 1, 1, rfl, rfl, Or.inr rfl, hJ⟩
  · rw [bI, if_neg k11]
    refine ⟨fun _ => ?_, fun q => absurd rfl q⟩
    refine ⟨_, s_X13_isWord hT (k := 10) (by decide), ?_⟩
    rintro _ _ - ⟨rfl, rfl⟩
    by_cases k10 : tK D t = 10
    · rw [bI, if_pos k10]
      refine ⟨fun q => absurd q (by decide), fun _ => ?_⟩
      have ht1 := hT.1.1.nx' hl k10
      intro I2 hI2
      have q2 := hT.on ht1
      rw [← hI2] at q2
      have w2 := w0.mv q2.2 q2.1 (by omega)
      clear hI2
      rw [show pFm D t = pNeed D 2 (t + 1) (if tK D (t + 2) = 64 then pOpen D 64 39 (t + 2) (pNeed D 65 (t + 3) (.ok (nd 44 [tP D t, tP D (t + 1), tV D (t + 1), 1, 0] lf lf, t + 4))) else .ok (nd 44 [tP D t, tP D (t + 1), tV D (t + 1), 0, 0] lf lf, t + 2)) by
        rw [pFm, if_pos (Or.inr k10), if_neg k11]
        congr 1
        by_cases z : tK D (t + 2) = 64
        · rw [if_pos (Or.inr z), if_pos z]
        · rw [if_neg (by rintro (w | w); exact k11 w; exact z w), if_neg z]]
      refine named _ _ I2 ht1 w2 ?_ ?_
      · intro z J hJ
        rw [pNeed, if_neg z]
        exact hJ
      intro k2 I4 w4
      refine ⟨_, s_X13_isSign w4.2.1.1.1 (k := 64) (by decide), ?_⟩
      rintro _ _ - ⟨rfl, rfl⟩
      by_cases e64 : tK D (t + 2) = 64
      · rw [bI, if_pos e64, if_pos e64, if_neg (by decide)]
        refine ⟨fun q => absurd q (by decide), fun _ => ?_⟩
        refine square _ _ 0 I4 k2 (Or.inl rfl) w4 (fun z J hJ => absurd e64 z) (fun e z J hJ => ?_) (fun e e' J hJ => ?_)
        · rw [pNeed, if_pos k2, pOpen, if_pos e, if_neg (by decide), pNeed, if_neg z]
          exact hJ
        · rw [pNeed, if_pos k2, pOpen, if_pos e, if_neg (by decide), pNeed, if_pos e']
          exact ⟨_, _, _, 1, 0, rfl, rfl, Or.inr rfl, hJ⟩
      · rw [bI, if_neg e64, if_neg e64, if_pos rfl]
        refine ⟨fun _ => ?_, fun q => absurd rfl q⟩
        obtain ⟨R8, a1, a2⟩ := told I4 1 0 1 1 (t + 2) k2 (by omega) (Or.inl rfl) (by omega) w4
        refine ⟨R8, a1, fun I8 h8 I9 hI9 => ?_⟩
        rw [pNeed, if_pos k2]
        exact ⟨_, _, _, 0, 0, rfl, rfl, Or.inl rfl, a2 I8 h8 I9 hI9⟩
    · rw [bI, if_neg k10]
      refine ⟨fun _ => ?_, fun q => absurd rfl q⟩
      refine ⟨_, s_X13_fails hT (by decide), ?_⟩
      rintro v26 I26 - ⟨rfl, q26, x26⟩
      rw [pFm, if_neg (by rintro (z | z); exact k11 z; exact k10 z)]
      exact eH.sx w0 hD hst q26.h x26
end SFM
