/-! ===== the Model's statements: tellHere ===== -/
set_option maxRecDepth 100000
section STH
variable {m t o st pe d B sc lp f t1 t' o' t2 o2 tn : Nat} {I J K I3 : xII} {D : tkL} {Γ : List dcl} {fs : List fnc} {x y : nte} {vd b0 c0 : Int32} {E : env} {q : mR} {fl : Int32 × Int32}
theorem s_X13_tellHere1 (hi : inD D) (hD : D.length ≤ 1800) (h : sE I m D fs t o st x sc lp E f vd) (hd : o + d = 40) (h63 : I m 63 = b0) (h64 : I m 64 = c0) (hk : tK D t = 10 ∨ tK D t = 11) (hB : st + 4 * (D.length - t) ≤ B) (hB9 : B ≤ 9000) : w_X13_tellHere m 1 (sP I m D fs st o x sc lp f vd b0 c0 B (pTl1 D d t) fun e => mS (I m 46) fs vd e sc (decide (0 < lp)) st E) I := by
  have hT := h.1.1
  have hl := hT.2.1
  have hD4 := hT.1.1.2.1
  have b1 := h.2.2.2.2.2.2.1
  have b2 := h.2.2.2.2.2.2.2.1
  have b3 := h.2.2.2.2.2.2.2.2.1
  have ht1 : t + 1 < D.length := by
    rcases hk with k | k
    · exact hT.1.1.nx' hl k
    · exact hT.1.1.nx' hl k
  unfold w_X13_tellHere
  refine ⟨_, s_X13_isWord hT (k := 11) (by decide), ?_⟩
  rintro _ _ - ⟨rfl, rfl⟩
  intro I2 hI2
  have q2 := hT.on ht1
  rw [← hI2] at q2
  have w2 := (sW.rf h h63 h64).mv q2.2 q2.1 (by omega)
  clear hI2
  refine ⟨_, s_X13_name w2.2.1.1.1, ?_⟩
  rintro v3 I3 ⟨q3, ⟨k2, rfl, x3⟩ | ⟨k2, rfl, T3⟩⟩
  · refine ⟨fun z => absurd z (Int32.not_le.mpr (by rw [x3.1]; exact x3.2.2)), fun _ => ?_⟩
    rw [pTl1, pNeed, if_neg k2]
    exact ⟨rfl, eH.sx w2 hD (by show st + 0 ≤ 9000; omega) q3.h x3⟩
  refine ⟨fun _ => ?_, fun z => absurd (by rw [T3.2.2.2.2.2]; decide) z⟩
  have w3 := w2.mv q3 T3 (by omega)
  have ht2 := T3.2.1
  rw [pTl1, pNeed, if_pos k2]
  refine ⟨fun z => absurd z (by decide), fun _ => ?_⟩
  by_cases k11 : tK D t = 11
  · rw [bI, if_pos k11, if_pos (Or.inl k11)]
    refine ⟨fun q => absurd q (by decide), fun _ => ?_⟩
    show tlA m 1 (nI (t + 1)) (fun v => (v + 3) / 4) _ I3
    refine s_tlA (E := E) hi hD hd rfl k2 w3 (by omega) (by omega) (by omega) (by omega) hB9 (Or.inr rfl) (fun k k1 k5 => ?_) (fun s => rfl)
    rw [div4 k (by omega)]
    unfold aWd
    rw [if_neg (nI_m1 (by omega)), if_neg (by decide), show ix (nI k) = k from nI_clamp (by omega)]
  · rw [bI, if_neg k11]
    refine ⟨fun _ => ?_, fun q => absurd rfl q⟩
    refine ⟨_, s_X13_isSign T3 (k := 64) (by decide), ?_⟩
    rintro _ _ - ⟨rfl, rfl⟩
    by_cases e64 : tK D (t + 1 + 1) = 64
    · rw [bI, if_pos e64, if_pos (Or.inr e64)]
      refine ⟨fun q => absurd q (by decide), fun _ => ?_⟩
      show tlA m 0 (nI (t + 1)) (fun v => v) _ I3
      refine s_tlA (E := E) hi hD hd rfl k2 w3 (by omega) (by omega) (by omega) (by omega) hB9 (Or.inl rfl) (fun k k1 k5 => ?_) (fun s => rfl)
      unfold aWd
      rw [if_neg (nI_m1 (by omega)), if_pos rfl, show ix (nI k) = k from nI_clamp (by omega)]
    · rw [bI, if_neg e64, if_neg (by rintro (z | z); exact k11 z; exact e64 z)]
      refine ⟨fun _ => ?_, fun q => absurd rfl q⟩
      show tlI m (nI (t + 1)) (fun I30 I32 => ∃ R33 : Int32 → xII → Prop, w_X13_step m (0 : Int32) (0 : Int32) (0 : Int32) R33 I32 ∧ (∀ (v33 : Int32) (I33 : xII), R33 v33 I33 → (∃ R34 : Int32 → xII → Prop, w_X13_step m (2 : Int32) (I30 m 53) (0 : Int32) R34 I33 ∧ (∀ (v34 : Int32) (I34 : xII), R34 v34 I34 → (∃ R35 : xII → Prop, w_X13_declare m (nI (t + 1)) (1 : Int32) (0 : Int32) (I30 m 53) (1 : Int32) (1 : Int32) R35 I34 ∧ (∀ I35 : xII, R35 I35 → (sP I m D fs st o x sc lp f vd b0 c0 B (if tK D (t + 2) = 72 then pAnd (pE D d (t + 3)) fun e t1 => .ok (nd 23 [tP D (t + 1), tV D (t + 1)] e lf, t1) else .ok (nd 23 [tP D (t + 1), tV D (t + 1)] lf lf, t + 2)) (fun e => mS (I m 46) fs vd e sc (decide (0 < lp)) st E) (1 : Int32) I35))))))) (sP I m D fs st o x sc lp f vd b0 c0 B (if tK D (t + 2) = 72 then pAnd (pE D d (t + 3)) fun e t1 => .ok (nd 23 [tP D (t + 1), tV D (t + 1)] e lf, t1) else .ok (nd 23 [tP D (t + 1), tV D (t + 1)] lf lf, t + 2)) fun e => mS (I m 46) fs vd e sc (decide (0 < lp)) st E) I3
      refine s_tlI (E := E) (tn := t + 1) hi hD hd rfl k2 w3 (by omega) (by omega) (by omega) (by omega) hB9 (fun e72 I6 I8 h653 w8 => ?_) (fun e => rfl)
      rw [h653, if_neg e72]
      refine ⟨_, s_X13_step (s := st) w8.2.1.1.2.2.2.1 (by omega), ?_⟩
      rintro _ I33 ⟨rfl, s0, s1, s2, s3, s4, -⟩
      have w33 := w8.sp1 (w := 0) (a := 0) (d := 0) (v := 0) isHo_0 s0 s1 s2 s3 s4 (fun z => absurd z (by decide))
      obtain ⟨R12, a1, a2⟩ := s_tlEnd (E := E) (oc := E.2.2) (tn := t + 1) hD w33 (by omega) (by omega) k2 (by show st + 1 < 9000; omega)
      refine ⟨R12, a1, fun v12 I12 h12 => ?_⟩
      obtain ⟨R13, a3, a4⟩ := a2 v12 I12 h12
      refine ⟨R13, a3, fun I13 h13 => ?_⟩
      have w13 := a4 I13 h13
      refine ⟨rfl, ?_, ?_⟩
      · show sW _ _ _ _ _ _ _ _ _ _ _ _ _ _ _ (_, mnN _ none, _)
        rw [mnN_n]
        exact w13
      · show st + 2 + 4 * (D.length - (t + 2)) ≤ B
        omega
theorem s_X13_tellHere0 (hi : inD D) (hD : D.length ≤ 1800) (h : sE I m D fs t o st x sc lp E f vd) (hd : o + d = 40) (h63 : I m 63 = b0) (h64 : I m 64 = c0) (hk : tK D t = 10) (hB : st + 4 * (D.length - t) ≤ B) (hB9 : B ≤ 9000) : w_X13_tellHere m 0 (sP I m D fs st o x sc lp f vd b0 c0 B (pStart D d (t + 1)) fun e => mS (I m 46) fs vd e sc (decide (0 < lp)) st E) I := by
  have hT := h.1.1
  have hl := hT.2.1
  have hD4 := hT.1.1.2.1
  have b1 := h.2.2.2.2.2.2.1
  have b2 := h.2.2.2.2.2.2.2.1
  have b3 := h.2.2.2.2.2.2.2.2.1
  have ht1 : t + 1 < D.length := hT.1.1.nx' hl hk
  unfold w_X13_tellHere
  refine ⟨_, s_X13_isWord hT (k := 11) (by decide), ?_⟩
  rintro _ _ - ⟨rfl, rfl⟩
  intro I2 hI2
  have q2 := hT.on ht1
  rw [← hI2] at q2
  have w2 := (sW.rf h h63 h64).mv q2.2 q2.1 (by omega)
  clear hI2
  refine ⟨_, s_X13_name w2.2.1.1.1, ?_⟩
  rintro v3 I3 ⟨q3, ⟨k2, rfl, x3⟩ | ⟨k2, rfl, T3⟩⟩
  · refine ⟨fun z => absurd z (Int32.not_le.mpr (by rw [x3.1]; exact x3.2.2)), fun _ => ?_⟩
    rw [pStart, pNeed, if_neg k2]
    exact ⟨rfl, eH.sx w2 hD (by show st + 0 ≤ 9000; omega) q3.h x3⟩
  refine ⟨fun _ => ?_, fun z => absurd (by rw [T3.2.2.2.2.2]; decide) z⟩
  have w3 := w2.mv q3 T3 (by omega)
  have ht2 := T3.2.1
  rw [pStart, pNeed, if_pos k2, pNeed]
  refine ⟨fun _ => ?_, fun z => absurd rfl z⟩
  show tlI m (nI (t + 1)) (fun I6 I8 => ∃ R9 : Int32 → xII → Prop, w_X13_fails m (2 : Int32) R9 I8 ∧ (∀ (v9 : Int32) (I9 : xII), (v9 = 0 ∨ v9 = 1) → R9 v9 I9 → (sP I m D fs st o x sc lp f vd b0 c0 B (if tK D (t + 2) = 72 then pAnd (pE D d (t + 3)) fun e t1 => .ok (nd 23 [tP D (t + 1), tV D (t + 1)] e lf, t1) else .error (pWr D (t + 2))) (fun e => mS (I m 46) fs vd e sc (decide (0 < lp)) st E) v9 I9))) (sP I m D fs st o x sc lp f vd b0 c0 B (if tK D (t + 2) = 72 then pAnd (pE D d (t + 3)) fun e t1 => .ok (nd 23 [tP D (t + 1), tV D (t + 1)] e lf, t1) else .error (pWr D (t + 2))) fun e => mS (I m 46) fs vd e sc (decide (0 < lp)) st E) I3
  refine s_tlI (E := E) (tn := t + 1) hi hD hd rfl k2 w3 (by omega) (by omega) (by omega) (by omega) hB9 (fun e72 I6 I8 h653 w8 => ?_) (fun e => rfl)
  rw [if_neg e72]
  refine ⟨_, s_X13_fails w8.2.1.1.1 (by decide), ?_⟩
  rintro v9 I9 - ⟨rfl, q9, x9⟩
  exact ⟨rfl, eH.sx w8 hD (by show st + 0 ≤ 9000; omega) q9.h x9⟩
end STH
