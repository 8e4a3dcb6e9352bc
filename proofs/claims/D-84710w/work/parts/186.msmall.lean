/-! ===== the Model's statements: ways out, conditions ===== -/
set_option maxRecDepth 100000
section SSM
variable {m t o st pe d B sc lp f : Nat} {I J K : xII} {D : tkL} {Γ : List dcl} {fs : List fnc} {x : nte} {vd b0 c0 : Int32} {E : env}
theorem s_X13_name (h : eT I m D t o) : w_X13_name m (fun v J => eQ I J m ∧ ((¬ tK D t = 2 ∧ v = 0 ∧ eX J m (pWr D t)) ∨ (tK D t = 2 ∧ v = nI t ∧ eT J m D (t + 1) o))) I := by
  unfold w_X13_name
  rw [h.ix, h.2.2.2.2.2]
  refine ⟨fun z => absurd z (by decide), fun _ => ⟨h.vp, fun e1 => ?_, fun e1 => ⟨_, s_X13_fails h (by decide), ?_⟩⟩⟩
  · have k := (h.1.nm h.2.1).mp e1
    have ht1 := h.1.1.nx' h.2.1 k
    intro I3 hI3
    have q := h.on ht1
    rw [← hI3] at q
    refine ⟨q.2, Or.inr ⟨k, ?_, q.1⟩⟩
    rw [h.2.2.1, nI_up]
    exact nI_m
  · rintro v4 I4 - ⟨rfl, q4, x4⟩
    exact ⟨q4, Or.inl ⟨fun z => e1 ((h.1.nm h.2.1).mpr z), rfl, x4⟩⟩
theorem s_X13_condition (hi : inD D) (h : eE I m D Γ fs false t o st pe x) (hd : o + d = 40) (hpe : pe ≤ 10 * o) (hB : st + 4 * (D.length - t) ≤ B) (hB9 : B ≤ 9000) : w_X13_condition m (eP I m D Γ fs false st pe o x B (pIn D (pE' D d) d t) (fX Γ fs false true none st)) I := by
  have hT := h.1
  unfold w_X13_condition
  refine ⟨_, s_X13_openSign hT (k := 62) (by decide), ?_⟩
  rintro v1 I1 - ⟨q1, ⟨e, rfl, x1⟩ | ⟨e, ho, rfl, x1⟩ | ⟨e, ho, rfl, T1⟩⟩
  · refine ⟨fun _ => ?_, fun q => absurd rfl q⟩
    rw [pIn, pOpen, if_neg e]
    exact eP.er q1.h x1 rfl
  · refine ⟨fun _ => ?_, fun q => absurd rfl q⟩
    obtain rfl : d = 0 := by omega
    rw [pIn, pOpen, if_pos e, if_pos rfl]
    exact eP.er q1.h x1 rfl
  refine ⟨fun q => absurd q (by decide), fun _ => ?_⟩
  obtain ⟨d', rfl⟩ : ∃ d', d = d' + 1 := ⟨d - 1, by omega⟩
  rw [pIn, pOpen, if_pos e, if_neg (by omega), show pE' D (d' + 1) (t + 1) = pE D d' (t + 1) from rfl]
  have w1 := (eW.rf h).mv q1 T1
  have hl1 := T1.2.1
  refine ⟨_, ro_X hi d' 700 (by omega) _ _ _ _ _ _ (B - 4) (by omega) w1.2.1 (by omega) (by show st + 4 * (D.length - (t + 1)) ≤ B - 4; omega) (by omega), ?_⟩
  rintro v2 I2 - ⟨g2, r2⟩
  cases hr : pE D d' (t + 1) with
  | error f =>
    rw [hr] at r2
    obtain ⟨rfl, x2⟩ := r2
    refine ⟨fun _ => ?_, fun q => absurd rfl q⟩
    exact eP.er (w1.h.tr g2) x2 rfl
  | ok et =>
    obtain ⟨e2, t1⟩ := et
    rw [hr] at r2
    obtain ⟨rfl, w2, b2⟩ := r2
    refine ⟨fun q => absurd q (by decide), fun _ => ?_⟩
    have w3 := w1.tr w2
    have b2' : st + (cX Γ fs false none st e2).length + 4 * (D.length - t1) ≤ B - 4 := b2
    refine ⟨_, s_X13_closeSign w3.2.1.1 (k := 63) (by decide), ?_⟩
    rintro v3 I3 - ⟨q3, ⟨e3, rfl, x3⟩ | ⟨e3, rfl, T3⟩⟩
    · rw [if_pos rfl]
      show eP _ _ _ _ _ _ _ _ _ _ _ (pNeed D 63 t1 _) _ _ _
      rw [pNeed, if_neg e3]
      exact eP.er (w3.h.q q3) x3 rfl
    · rw [if_neg (by decide)]
      show eP _ _ _ _ _ _ _ _ _ _ _ (pNeed D 63 t1 _) _ _ _
      rw [pNeed, if_pos e3]
      have w4 := w3.mv q3 T3
      have hl := T3.2.1
      refine ⟨w4.h, rfl, w4, ?_⟩
      show st + (cX Γ fs false none st e2).length + 4 * (D.length - (t1 + 1)) ≤ B
      omega
/-- what is left where ; must follow -/
theorem semi {e : Tr} {t1 : Nat} {q : mR} {v : Int32} (hD : D.length ≤ 1800) (h : sW I J m D fs st x t1 o sc lp f vd b0 c0 q) (hB : st + q.1.length + 4 * (D.length - t1) ≤ B) (hB9 : B ≤ 9000) {F : Tr → mR} (hF : F e = q) (hp : eQ J K m ∧ ((¬ tK D t1 = 69 ∧ v = 0 ∧ eX K m (pWr D t1)) ∨ (tK D t1 = 69 ∧ v = 1 ∧ eT K m D (t1 + 1) o))) : sP I m D fs st o x sc lp f vd b0 c0 B (pNeed D 69 t1 (.ok (e, t1 + 1))) F v K := by
  obtain ⟨q1, ⟨e1, rfl, x1⟩ | ⟨e1, rfl, T1⟩⟩ := hp
  · rw [pNeed, if_neg e1]
    exact ⟨rfl, eH.sx h hD (by omega) q1.h x1⟩
  · rw [pNeed, if_pos e1]
    refine ⟨rfl, ?_, ?_⟩
    · rw [hF]
      exact h.mv q1 T1 (by omega)
    · rw [hF]
      omega
theorem if01 {v : Int32} (h : v = 0 ∨ v = 1) : (if v = 0 then (0 : Int32) else 1) = v := by
  rcases h with rfl | rfl <;> rfl
theorem sE.fr (h : sE J m D fs t o st x sc lp E f vd) (hf : ∀ a k, ¬ (m + 32 ≤ a ∧ a ≤ m + 39) → ¬ (a = m ∧ ((63 ≤ k ∧ k ≤ 66) ∨ k = 72)) → K a k = J a k) : sE K m D fs t o st x sc lp E f vd := by
  obtain ⟨h1, ⟨h2, h2'⟩, ⟨h3, h3'⟩, h4, h5, ⟨h6, h7, h8⟩, h9, h10, h11, h12, h13⟩ := h
  have fld : ∀ k, ¬ ((63 ≤ k ∧ k ≤ 66) ∨ k = 72) → K m k = J m k := fun k hk => hf m k (by omega) (fun z => hk z.2)
  exact ⟨h1.fr2 (fun a k q1 q2 => hf a k (by omega) (by omega)) ((fld 54 (by omega)).trans h1.2.2.1) ((fld 60 (by omega)).trans h1.2.2.2.1), ⟨(fld 15 (by omega)).trans h2, h2'⟩, ⟨(fld 51 (by omega)).trans h3, h3'⟩, (fld 52 (by omega)).trans h4, (fld 53 (by omega)).trans h5, ⟨(fld 50 (by omega)).trans h6, h7, (hf _ _ (by omega) (by omega)).trans h8⟩, h9, h10, h11, h12, fun z => by rw [fld 14 (by omega)]; exact h13 (by rw [← fld 46 (by omega)]; exact z)⟩
theorem sW.nt {q : mR} {z : nte} (h : sW I J m D fs st x t o sc lp f vd b0 c0 q) (hN : eN J K m) (hF : nFd K m (mN (J m 46) (mN (I m 46) x q.2.1) z)) : sW I K m D fs st x t o sc lp f vd b0 c0 (q.1, mnN q.2.1 z, q.2.2) := by
  have := h.e ((eW.rf h.2.1.1).nt (z := z) hN (by rw [mN_n]; exact hF)) (Nat.le_refl _) (fun q hq => nomatch hq)
  rw [List.append_nil] at this
  exact this
theorem sW.sp1 {q : mR} (h : sW I J m D fs st x t o sc lp f vd b0 c0 q) {w a d v : Int32} (hh : isHo 1 (w, a, d, v) = false ∧ isHo 2 (w, a, d, v) = false) (h0 : K m 60 = nI (st + q.1.length + 1)) (hS : eS J K m (st + q.1.length)) (h1 : K (m + 32) (st + q.1.length) = w) (h2 : K (m + 33) (st + q.1.length) = a) (h3 : K (m + 34) (st + q.1.length) = d) (h4 : w = 5 ∨ w = 6 → K (m + 35) (st + q.1.length) = v) : sW I K m D fs st x t o sc lp f vd b0 c0 (q.1 ++ [(w, a, d, v)], q.2.1, q.2.2) := by
  have := h.e ((eW.rf h.2.1.1).st1 (l := []) (K := K) (w := w) (a := a) (d := d) (v := v) h0 hS h1 h2 h3 h4) (Nat.le_refl _) (fun q hq => by
    rw [List.nil_append, List.mem_singleton] at hq
    rw [hq]
    exact hh)
  rw [mnN_n] at this
  exact this
theorem s_X13_leaves (hD : D.length ≤ 1800) (h : sE I m D fs t o st x sc lp E f vd) (h63 : I m 63 = b0) (h64 : I m 64 = c0) (hk : tK D t = 19 ∨ tK D t = 20) (hB : st + 4 * (D.length - t) ≤ B) (hB9 : B ≤ 9000) : w_X13_leaves m (sP I m D fs st o x sc lp f vd b0 c0 B (pNeed D 69 (t + 1) (.ok (nd 27 [tP D t, if tK D t = 19 then 1 else 0] lf lf, t + 2))) fun e => mS (I m 46) fs vd e sc (decide (0 < lp)) st E) I := by
  have hT := h.1.1
  have hl := hT.2.1
  have ht1 : t + 1 < D.length := by
    rcases hk with k | k
    · exact hT.1.1.nx' hl k
    · exact hT.1.1.nx' hl k
  unfold w_X13_leaves
  refine ⟨_, s_X13_isWord hT (k := 19) (by decide), ?_⟩
  rintro _ _ - ⟨rfl, rfl⟩
  have h51 : I m 51 = nI lp := h.2.2.1.1
  have hlp := h.2.2.1.2
  have l0 : nI lp = 0 ↔ lp = 0 := ⟨fun z => nIj (b := 0) (by omega) (by omega) z, fun z => by rw [z]; rfl⟩
  refine ⟨fun I2 => sW I I2 m D fs st x t o sc lp f vd b0 c0 ([], if 0 < lp then none else nt 9 (tP D t), E), fun I2 w2 => ?_, ?_⟩
  · intro I3 hI3
    have q3 := w2.2.1.1.1.on ht1
    rw [← hI3] at q3
    have w3 := w2.mv q3.2 q3.1 (by omega)
    clear hI3
    refine ⟨_, s_X13_step (s := st) w3.2.1.1.2.2.2.1 (by omega), ?_⟩
    rintro _ I4 ⟨rfl, s0, s1, s2, s3, s4, -⟩
    have w4 := w3.sp1 (w := 12) (a := 0) (d := 0) (v := 0) (by decide) s0 s1 s2 s3 s4 (fun z => absurd z (by decide))
    have fin : ∀ (I5 : xII) (q : mR), q.1.length = 1 → q = mS (I m 46) fs vd (nd 27 [tP D t, if tK D t = 19 then 1 else 0] lf lf) sc (decide (0 < lp)) st E → sW I I5 m D fs st x (t + 1) o sc lp f vd b0 c0 q → ∃ R6 : Int32 → xII → Prop, w_X13_sign m 29 R6 I5 ∧ ∀ (v6 : Int32) (I6 : xII), (v6 = 0 ∨ v6 = 1) → R6 v6 I6 → sP I m D fs st o x sc lp f vd b0 c0 B (pNeed D 69 (t + 1) (.ok (nd 27 [tP D t, if tK D t = 19 then 1 else 0] lf lf, t + 2))) (fun e => mS (I m 46) fs vd e sc (decide (0 < lp)) st E) v6 I6 := fun I5 q hql hq w5 => ⟨_, s_X13_sign w5.2.1.1.1 (k := 69) (by decide), fun v6 I6 _ hp => semi hD w5 (by omega) hB9 hq.symm hp⟩
    have h451 : I4 m 51 = nI lp := w4.2.1.2.2.1.1
    refine ⟨fun I5 => ∃ q : mR, q.1.length = 1 ∧ q = mS (I m 46) fs vd (nd 27 [tP D t, if tK D t = 19 then 1 else 0] lf lf) sc (decide (0 < lp)) st E ∧ sW I I5 m D fs st x (t + 1) o sc lp f vd b0 c0 q, fun I5 ⟨q, a1, a2, a3⟩ => fin I5 q a1 a2 a3, ?_⟩
    rw [h451, show (nI lp ≤ 0 ↔ lp = 0) from ⟨fun z => Nat.le_zero.mp ((nI_leI (b := 0) (by omega) (by omega)).mp z), fun z => by rw [z]; decide⟩]
    refine ⟨fun e0 => ⟨_, rfl, ?_, w4⟩, fun e0 => ⟨vp_in_nI (by omega) (by decide), ?_⟩⟩
    · subst e0
      rfl
    · have hpos : 0 < lp := by omega
      have d4 : decide (0 < lp) = true := decide_eq_true hpos
      have g63 : I4 m 63 = b0 := w4.2.2.2.2.1
      have g64 : I4 m 64 = c0 := w4.2.2.2.2.2
      rw [show ix (nI st) = st from nI_clamp (by omega), g63, g64, d4]
      have key : ∀ (hh a : Int32) (I8 : xII), (hh = 1 ∨ hh = 2) → I8 (m + 33) st = a → (∀ a k, ¬ (a = m + 33 ∧ k = st) → ¬ (a = m ∧ (k = 63 ∨ k = 64)) → I8 a k = I4 a k) → a = (if hh = 1 then b0 else c0) → I8 m 63 = (if hh = 1 then nI st else b0) → I8 m 64 = (if hh = 1 then c0 else nI st) → sW I I8 m D fs st x (t + 1) o sc lp f vd b0 c0 ([(12, 0, 0, hh)], none, E) := by
        intro hh a I8 hhh ha hf ha2 h63' h64'
        obtain ⟨a1, a2, a3, a4, a5, a6⟩ := w4
        refine ⟨fun a k q1 q2 => (hf a k (by omega) (by unfold sFk at q2; omega)).trans (a1 a k q1 q2), ?_, fun a k hk => (hf a k (by omega) (by omega)).trans (a3 a k hk), ?_, ?_, ?_⟩
        · rw [mN_n]
          have a2' := a2
          rw [if_pos hpos, mN_n] at a2'
          exact a2'.fr fun a k q1 q2 => hf a k (by omega) (by omega)
        · have e1 : lnk st b0 c0 [((12 : Int32), (0 : Int32), (0 : Int32), hh)] = [(12, a, 0, 0)] := by
            rw [ha2]
            rcases hhh with rfl | rfl <;> rfl
          rw [e1]
          intro i q hq
          cases i with
          | zero =>
            cases hq
            obtain ⟨p1, p2, p3, p4⟩ := a4 0 (12, 0, 0, 0) rfl
            exact ⟨(hf _ _ (by omega) (by omega)).trans p1, ha, (hf _ _ (by omega) (by omega)).trans p3, fun z => absurd z (show ¬ ((12 : Int32) = 5 ∨ (12 : Int32) = 6) by decide)⟩
          | succ i => simp at hq
        · rw [h63']
          rcases hhh with rfl | rfl <;> rfl
        · rw [h64']
          rcases hhh with rfl | rfl <;> rfl
      intro I8 hI8
      by_cases e19 : tK D t = 19
      · rw [bI, if_pos e19, if_neg (by decide)] at hI8
        rw [bI, if_pos e19]
        refine ⟨fun q => absurd q (by decide), fun _ => ?_⟩
        intro I10 hI10
        refine ⟨_, rfl, ?_, key 1 b0 I10 (Or.inl rfl) (by rw [hI10, gX, if_neg (by omega), hI8, xup_s]) (fun a k q1 q2 => by rw [hI10, gX, if_neg (by omega), hI8, gX, if_neg q1]) rfl (by rw [hI10, xup_s]; rfl) (by rw [hI10, gX, if_neg (by omega), hI8, gX, if_neg (by omega)]; exact g64)⟩
        rfl
      · rw [bI, if_neg e19, if_pos rfl] at hI8
        rw [bI, if_neg e19]
        refine ⟨fun _ => ?_, fun q => absurd rfl q⟩
        intro I9 hI9
        refine ⟨_, rfl, ?_, key 2 c0 I9 (Or.inr rfl) (by rw [hI9, gX, if_neg (by omega), hI8, xup_s]) (fun a k q1 q2 => by rw [hI9, gX, if_neg (by omega), hI8, gX, if_neg q1]) rfl (by rw [hI9, gX, if_neg (by omega), hI8, gX, if_neg (by omega)]; exact g63) (by rw [hI9, xup_s]; rfl)⟩
        rfl
  · have w1 := sW.rf h h63 h64
    rw [h51, hT.ix, hT.1.at ht1, l0]
    refine ⟨fun e0 => ⟨hT.vp, _, s_X13_note w1.2.1.1.2.2.2.2.2 (by decide), fun I12 h12 => ?_⟩, fun e0 => ?_⟩
    · rw [if_neg (by omega)]
      exact w1.nt h12.1 h12.2
    · rw [if_pos (by omega)]
      exact w1
theorem s_X13_returns (hi : inD D) (hD : D.length ≤ 1800) (h : sE I m D fs t o st x sc lp E f vd) (hd : o + d = 40) (h63 : I m 63 = b0) (h64 : I m 64 = c0) (hk : tK D t = 21) (hB : st + 4 * (D.length - t) ≤ B) (hB9 : B ≤ 9000) : w_X13_returns m (sP I m D fs st o x sc lp f vd b0 c0 B (pAnd (if tK D (t + 1) = 69 then .ok (nd 28 [tP D (t + 1)] lf lf, t + 1) else pAnd (pE D d (t + 1)) fun e t1 => .ok (nd 28 [tP D (t + 1)] e lf, t1)) fun s t1 => pNeed D 69 t1 (.ok (s, t1 + 1))) fun e => mS (I m 46) fs vd e sc (decide (0 < lp)) st E) I := by
  have hT := h.1.1
  have hl := hT.2.1
  have ht1 := hT.1.1.nx' hl hk
  have hD4 := hT.1.1.2.1
  unfold w_X13_returns
  intro I1 hI1
  have q1 := hT.on ht1
  rw [← hI1] at q1
  have w1 := (sW.rf h h63 h64).mv q1.2 q1.1 (by omega)
  clear hI1
  have hT1 := w1.2.1.1.1
  have f50 := w1.2.1.2.2.2.2.2.1
  refine ⟨_, s_X13_isSign hT1 (k := 69) (by decide), ?_⟩
  rintro _ _ - ⟨rfl, rfl⟩
  rw [hT1.ix, f50.1, show ix (nI f) = f from nI_clamp (by have := f50.2.1; omega), f50.2.2]
  have hvf : vp_in (nI f) 500 := vp_in_nI f50.2.1 (by decide)
  by_cases e69 : tK D (t + 1) = 69
  · rw [bI, if_pos e69, if_pos e69]
    refine ⟨fun q => absurd q (by decide), fun _ => ?_⟩
    have ht2 := hT.1.1.nx' ht1 e69
    rw [hT1.1.at ht2]
    refine ⟨hvf, fun I11 => sW I I11 m D fs st x (t + 1) o sc lp f vd b0 c0 ([], if vd = 0 then nt 8 (tP D (t + 1)) else none, E), fun I11 w11 => ?_, fun e0 => ⟨hT1.vp, _, s_X13_note w1.2.1.1.2.2.2.2.2 (by decide), fun I16 h16 => ?_⟩, fun e0 => ?_⟩
    · refine ⟨_, s_X13_step (s := st) w11.2.1.1.2.2.2.1 (by omega), ?_⟩
      rintro _ I12 ⟨rfl, s0, s1, s2, s3, s4, -⟩
      have w12 := w11.sp1 (w := 0) (a := 0) (d := 0) (v := 0) (by decide) s0 s1 s2 s3 s4 (fun z => absurd z (by decide))
      refine ⟨_, s_X13_step (s := st + 1) w12.2.1.1.2.2.2.1 (by omega), ?_⟩
      rintro _ I13 ⟨rfl, r0, r1, r2, r3, r4, -⟩
      have w13 := w12.sp1 (w := 17) (a := 0) (d := 0) (v := 0) (by decide) r0 r1 r2 r3 r4 (fun z => absurd z (by decide))
      refine ⟨_, s_X13_sign w13.2.1.1.1 (k := 69) (by decide), fun v14 I14 _ hp => ?_⟩
      exact semi (e := nd 28 [tP D (t + 1)] lf lf) hD w13 (by show st + 2 + 4 * (D.length - (t + 1)) ≤ B; omega) hB9 rfl hp
    · rw [if_pos e0]
      exact w1.nt h16.1 h16.2
    · rw [if_neg e0]
      exact w1
  · rw [bI, if_neg e69, if_neg e69]
    refine ⟨fun _ => ?_, fun q => absurd rfl q⟩
    have key : ∀ I4, sW I I4 m D fs st x (t + 1) o sc lp f vd b0 c0 ([], if vd = 0 then none else ntR 8 (tP D (t + 1)) (f_X13_rank 7), E) ∨ (sW I I4 m D fs st x (t + 1) o sc lp f vd b0 c0 ([], ntR 8 (I1 (m + 5) (t + 1)) (f_X13_rank 7), E) ∧ ¬ vd = 0 ∧ ¬ t + 2 < D.length) → ∃ R5 : Int32 → xII → Prop, g_X13_expression m R5 I4 ∧ ∀ (v5 : Int32) (I5 : xII), (v5 = 0 ∨ v5 = 1) → R5 v5 I5 → ((v5 = 0 → sP I m D fs st o x sc lp f vd b0 c0 B (pAnd (pAnd (pE D d (t + 1)) fun e t1 => .ok (nd 28 [tP D (t + 1)] e lf, t1)) fun s t1 => pNeed D 69 t1 (.ok (s, t1 + 1))) (fun e => mS (I m 46) fs vd e sc (decide (0 < lp)) st E) 0 I5) ∧ (¬ v5 = 0 → ∃ R6 : Int32 → xII → Prop, w_X13_step m 17 0 0 R6 I5 ∧ ∀ (v6 : Int32) (I6 : xII), R6 v6 I6 → ∃ R7 : Int32 → xII → Prop, w_X13_sign m 29 R7 I6 ∧ ∀ (v7 : Int32) (I7 : xII), (v7 = 0 ∨ v7 = 1) → R7 v7 I7 → sP I m D fs st o x sc lp f vd b0 c0 B (pAnd (pAnd (pE D d (t + 1)) fun e t1 => .ok (nd 28 [tP D (t + 1)] e lf, t1)) fun s t1 => pNeed D 69 t1 (.ok (s, t1 + 1))) (fun e => mS (I m 46) fs vd e sc (decide (0 < lp)) st E) v7 I7)) := by
      intro I4 hw
      obtain ⟨z, w4, hz⟩ : ∃ z, sW I I4 m D fs st x (t + 1) o sc lp f vd b0 c0 ([], z, E) ∧ ((if vd = 0 then none else ntR 8 (tP D (t + 1)) (f_X13_rank 7)) = z ∨ ¬ t + 2 < D.length) := by
        rcases hw with hw | ⟨hw, -, hw3⟩
        · exact ⟨_, hw, Or.inl rfl⟩
        · exact ⟨_, hw, Or.inr hw3⟩
      refine ⟨_, ro_X hi d 700 (by omega) I4 (t + 1) o st 0 _ B hd w4.2.1.1 (by omega) (by omega) hB9, ?_⟩
      rintro v5 I5 - ⟨g5, r5⟩
      cases hr : pE D d (t + 1) with
      | error fl =>
        rw [hr] at r5
        obtain ⟨rfl, x5⟩ := r5
        refine ⟨fun _ => ?_, fun q => absurd rfl q⟩
        exact ⟨rfl, eH.sx w4 hD (by show st + 0 ≤ 9000; omega) g5 x5⟩
      | ok et =>
        obtain ⟨e, t1⟩ := et
        rw [hr] at r5
        obtain ⟨rfl, w5, b5⟩ := r5
        refine ⟨fun q => absurd q (by decide), fun _ => ?_⟩
        have hup := pE_up hT.1.1 d (t + 1) ht1 e t1 hr
        have hz' := hz.resolve_right (by omega)
        have b5' : st + (cX E.1 fs false none st e).length + 4 * (D.length - t1) ≤ B := b5
        have w6 := w4.e w5 (by omega) cX_noH
        refine ⟨_, s_X13_step (s := st + (cX E.1 fs false none st e).length) w6.2.1.1.2.2.2.1 (by omega), ?_⟩
        rintro _ I6 ⟨rfl, s0, s1, s2, s3, s4, -⟩
        have w7 := w6.sp1 (w := 17) (a := 0) (d := 0) (v := 0) (by decide) s0 s1 s2 s3 s4 (fun z => absurd z (by decide))
        refine ⟨_, s_X13_sign w7.2.1.1.1 (k := 69) (by decide), fun v7 I7 _ hp => ?_⟩
        have hwx := pE_w d (t + 1) e t1 hr
        have hF : mS (I m 46) fs vd (nd 28 [tP D (t + 1)] e lf) sc (decide (0 < lp)) st E = (cX E.1 fs false none st e ++ [(17, 0, 0, 0)], mnN z (nX E.1 fs false true none e), E) := by
          rw [← hz']
          cases e with
          | leaf => exact nomatch hwx
          | inner k dd v l r => rfl
        have hB7 : st + (cX E.1 fs false none st e ++ [((17 : Int32), (0 : Int32), (0 : Int32), (0 : Int32))]).length + 4 * (D.length - t1) ≤ B + 1 := by
          rw [List.length_append]
          show st + (_ + 1) + _ ≤ _
          omega
        obtain ⟨q1, ⟨e1, rfl, x1⟩ | ⟨e1, rfl, T1⟩⟩ := hp
        · show sP _ _ _ _ _ _ _ _ _ _ _ _ _ _ (pNeed D 69 t1 _) _ _ _
          rw [pNeed, if_neg e1]
          refine ⟨rfl, eH.sx w7 hD ?_ q1.h x1⟩
          show st + (cX E.1 fs false none st e ++ [((17 : Int32), (0 : Int32), (0 : Int32), (0 : Int32))]).length ≤ 9000
          have := hB7
          omega
        · show sP _ _ _ _ _ _ _ _ _ _ _ _ _ _ (pNeed D 69 t1 _) _ _ _
          rw [pNeed, if_pos e1]
          refine ⟨rfl, ?_, ?_⟩
          · dsimp only
            rw [hF]
            exact w7.mv q1 T1 (by omega)
          · dsimp only
            rw [hF]
            have := hB7
            have := T1.2.1
            show st + (cX E.1 fs false none st e ++ [((17 : Int32), (0 : Int32), (0 : Int32), (0 : Int32))]).length + 4 * (D.length - (t1 + 1)) ≤ B
            omega
    refine ⟨hvf, fun I4 => sW I I4 m D fs st x (t + 1) o sc lp f vd b0 c0 ([], if vd = 0 then none else ntR 8 (tP D (t + 1)) (f_X13_rank 7), E) ∨ (sW I I4 m D fs st x (t + 1) o sc lp f vd b0 c0 ([], ntR 8 (I1 (m + 5) (t + 1)) (f_X13_rank 7), E) ∧ ¬ vd = 0 ∧ ¬ t + 2 < D.length), key, fun e0 => Or.inl ?_, fun e0 => ⟨hT1.vp, _, s_X13_noteAs w1.2.1.1.2.2.2.2.2 (by decide), fun I9 h9 => ?_⟩⟩
    · rw [if_pos e0]
      exact w1
    · by_cases hlt : t + 2 < D.length
      · refine Or.inl ?_
        rw [if_neg e0]
        have h92 := h9.2
        rw [hT1.1.at hlt] at h92
        exact w1.nt h9.1 h92
      · exact Or.inr ⟨w1.nt h9.1 h9.2, e0, hlt⟩
end SSM
