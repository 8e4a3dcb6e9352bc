/-! ===== the Model's statements: for, the whole ===== -/
set_option maxRecDepth 100000
section SC2
variable {m t o st pe d B sc lp f t1 t' o' t2 o2 t3 sc' lp' : Nat} {I J K I60 I86 : xII} {D : tkL} {Γ new : List dcl} {fs : List fnc} {x y : nte} {vd b0 c0 ps a b v : Int32} {E E' : env} {q q0 : mR} {fl : Int32 × Int32} {Rk : rkT} {l l0 l0' l1 l2 PA PB : List stp} {PBf : Int32 → List stp} {OV : Int32 → xII → Prop}
theorem pSimple_e {e : Tr} {lb : Bool} (h : pSimple D d t = .ok (e, t1)) : (mS ps fs vd e sc lb st E).2.2 = E := by
  obtain ⟨-, h⟩ := pNeed_ok h
  split at h
  · obtain ⟨u, v, -, h3⟩ := pAnd_ok h
    cases h3
    rfl
  · obtain ⟨u, v, -, h3⟩ := pAnd_ok h
    split at h3
    · cases h3
      rfl
    · split at h3
      · cases h3
        rfl
      · split at h3
        · obtain ⟨u, v, -, h4⟩ := pAnd_ok h3
          cases h4
          rfl
        · exact nomatch h3
theorem s_ctB {tp : Nat} {w : Nat × Nat} {mkB : Tr → Tr → Tr} {F : Tr → mR} (hBd : oBd Rk m D fs f vd (d + 1)) (hi : inD D) (hD : D.length ≤ 1800) (hd : o + 2 + d = 40) (hsc : sc ≤ 2 * o + 1) (hlp : lp ≤ o) (hΓ : ∀ q ∈ Γ, ∃ s, s ≤ sc ∧ q.sc = nI s) (hnew : ∀ q ∈ new, q.sc = nI (sc + 1))
    (w86 : sW I I86 m D fs st x t2 (o + 2) (sc + 1) lp f vd b0 c0 (PA ++ PB, y, (new ++ Γ, w))) (hPB : ∀ v, (PBf v).length = PB.length)
    (hB : st + (PA ++ PB).length + 4 * (D.length - t2) + 4 ≤ B) (hB9 : B ≤ 9000)
    (hF : ∀ sp bd q1 q2, q1 = mS (I m 46) fs vd sp (sc + 1) (decide (0 < lp)) (st + (PA ++ PB).length + 1) (new ++ Γ, w) → q1.2.2 = (new ++ Γ, w) → q2 = mS (I m 46) fs vd bd (sc + 2) true (st + (PA ++ PB).length + 1 + q1.1.length + 2) (new ++ Γ, w) → F (mkB sp bd) = (PA ++ PBf (nI (st + (PA ++ PB).length + 1 + q1.1.length + 2 + q2.1.length + 1)) ++ [(12, nI (st + (PA ++ PB).length + 1 + q1.1.length + 1), 0, 0)] ++ q1.1 ++ [(12, nI tp, 0, 0)] ++ [(15, 0, 0, 0)] ++ fillH 1 (nI (st + (PA ++ PB).length + 1 + q1.1.length + 2 + q2.1.length + 1)) (fillH 2 (nI (st + (PA ++ PB).length + 1)) q2.1) ++ [(12, nI (st + (PA ++ PB).length + 1), 0, 0)], mnN (mnN y q1.2.1) q2.2.1, (Γ, q2.2.2.2)))
    (hOV : ∀ (k65 : Int32) (I95 : xII) (t4 : Nat) (rest : List stp) (z : nte) (E' : env) (v : Int32), sW I I95 m D fs st x t4 (o + 1) (sc + 1) lp f vd b0 c0 (PA ++ PB ++ rest, z, E') → I95 m 60 = v → st + (PA ++ PB).length < 9000 → (∀ I96, sW I I96 m D fs st x t4 (o + 1) (sc + 1) lp f vd b0 c0 (PA ++ PBf v ++ rest, z, E') → I96 m 60 = v → ctE m (nI sc) (sP I m D fs st o x sc lp f vd b0 c0 B (pNeed D 69 t2 (pAnd (pForP D d (t2 + 1)) fun sp t3 => pNeed D 63 t3 (pAnd (pS D (d + 1) (t3 + 1)) fun b t4 => .ok (mkB sp b, t4)))) F) k65 I96) → OV k65 I95) :
    ctB Rk m (nI tp) (sP I m D fs st o x sc lp f vd b0 c0 B (pNeed D 69 t2 (pAnd (pForP D d (t2 + 1)) fun sp t3 => pNeed D 63 t3 (pAnd (pS D (d + 1) (t3 + 1)) fun b t4 => .ok (mkB sp b, t4)))) F) OV I86 := by
  have hT := w86.2.1.1.1
  have hl := hT.2.1
  have hD4 := hT.1.1.2.1
  unfold ctB
  refine ⟨_, s_X13_sign hT (k := 69) (by decide), ?_⟩
  rintro v87 I87 - ⟨q87, ⟨e87, rfl, x87⟩ | ⟨e87, rfl, T87⟩⟩
  · refine ⟨fun _ => ?_, fun q => absurd rfl q⟩
    rw [pNeed, if_neg e87]
    exact ⟨rfl, eH.sx w86 hD (by dsimp only; omega) q87.h x87⟩
  refine ⟨fun q => absurd q (by decide), fun _ => ?_⟩
  rw [pNeed, if_pos e87] at *
  have w87 := w86.mv q87 T87 (by omega)
  have ht2 := T87.2.1
  refine ⟨_, s_X13_step (s := st + (PA ++ PB).length) w87.2.1.1.2.2.2.1 (by omega), ?_⟩
  rintro _ I88 ⟨rfl, s0, s1, s2, s3, s4, -⟩
  have w88 := w87.sp1 (w := 12) (a := 0) (d := 0) (v := 0) isHo_0 s0 s1 s2 s3 s4 (fun z => absurd z (by decide))
  dsimp only at w88
  rw [s0]
  have l88 : (PA ++ PB ++ [((12 : Int32), (0 : Int32), (0 : Int32), (0 : Int32))]).length = (PA ++ PB).length + 1 := by rw [List.length_append (as := PA ++ PB)]; rfl
  refine ⟨_, s_X13_isSign w88.2.1.1.1 (k := 63) (by decide), ?_⟩
  rintro _ _ - ⟨rfl, rfl⟩
  by_cases e63 : tK D (t2 + 1) = 63
  · rw [bI, if_pos e63]
    refine ⟨fun q => absurd q (by decide), fun _ => ?_⟩
    have hp : pForP D d (t2 + 1) = .ok (nd 35 [] lf lf, t2 + 1) := if_pos e63
    rw [hp] at hOV ⊢
    refine s_ctC (l1 := []) (mk := fun b => mkB (nd 35 [] lf lf) b) hBd hD (by omega) hsc hlp hΓ hnew (by rw [List.append_nil]; exact w88) hPB (by rw [List.append_nil, l88]; omega) hB9 (fun bd q2 h2 => ?_) hOV
    have := hF (nd 35 [] lf lf) bd ([], none, (new ++ Γ, w)) q2 rfl rfl h2
    rw [show mnN y (([], none, (new ++ Γ, w)) : mR).2.1 = y from mnN_n y] at this
    exact this
  · rw [bI, if_neg e63]
    refine ⟨fun _ => ?_, fun q => absurd rfl q⟩
    have hp : pForP D d (t2 + 1) = pSimple D d (t2 + 1) := if_neg e63
    rw [hp] at hOV ⊢
    have p8846 : I88 m 46 = I m 46 := w88.1.ps
    refine ⟨_, s_X13_simple (d := d) (B := B - 4) hi hD w88.2.1 (by omega) w88.2.2.2.2.1 w88.2.2.2.2.2 (by dsimp only; rw [l88]; omega) (by omega), ?_⟩
    rintro v102 I102 - hP
    rw [p8846] at hP
    dsimp only at hP
    rw [l88, show st + ((PA ++ PB).length + 1) = st + (PA ++ PB).length + 1 by omega] at hP
    cases hy : pSimple D d (t2 + 1) with
    | error fl =>
      rw [hy] at hP
      obtain ⟨rfl, x4⟩ := hP
      refine ⟨fun _ => ?_, fun q => absurd rfl q⟩
      refine ⟨rfl, sX.tr w88 ?_⟩
      dsimp only
      rw [l88, show st + ((PA ++ PB).length + 1) = st + (PA ++ PB).length + 1 by omega]
      exact x4
    | ok et =>
      obtain ⟨sp, t3⟩ := et
      rw [hy] at hP hOV
      obtain ⟨rfl, w4, b4⟩ := hP
      refine ⟨fun q => absurd q (by decide), fun _ => ?_⟩
      dsimp only at w4 b4
      have henv := pSimple_e (ps := I m 46) (fs := fs) (vd := vd) (sc := sc + 1) (st := st + (PA ++ PB).length + 1) (E := (new ++ Γ, w)) (lb := decide (0 < lp)) hy
      have hF' := fun bd q2 => hF sp bd _ q2 rfl henv
      generalize hq : mS (I m 46) fs vd sp (sc + 1) (decide (0 < lp)) (st + (PA ++ PB).length + 1) (new ++ Γ, w) = q1 at *
      have w5 := w88.tr (q2 := q1) (by dsimp only; rw [l88, show st + ((PA ++ PB).length + 1) = st + (PA ++ PB).length + 1 by omega]; exact w4)
      rw [henv] at w5
      dsimp only at w5
      refine s_ctC (l1 := q1.1) (mk := fun b => mkB sp b) hBd hD (by omega) hsc hlp hΓ hnew w5 hPB (by rw [List.length_append (as := PA ++ PB ++ [((12 : Int32), (0 : Int32), (0 : Int32), (0 : Int32))]), l88]; omega) hB9 (fun bd q2 h2 => hF' bd q2 h2) hOV
theorem s_ctA {w : Nat × Nat} {mkA : Tr → Tr → Tr → Tr} {F : Tr → mR} {pl : List stp} (hBd : oBd Rk m D fs f vd (d + 1)) (hi : inD D) (hD : D.length ≤ 1800) (hd : o + 2 + d = 40) (hsc : sc ≤ 2 * o + 1) (hlp : lp ≤ o) (hΓ : ∀ q ∈ Γ, ∃ s, s ≤ sc ∧ q.sc = nI s) (hnew : ∀ q ∈ new, q.sc = nI (sc + 1))
    (w60 : sW I I60 m D fs st x t1 (o + 2) (sc + 1) lp f vd b0 c0 (pl, y, (new ++ Γ, w)))
    (hB : st + pl.length + 4 * (D.length - t1) + 4 ≤ B) (hB9 : B ≤ 9000)
    (hF0 : ∀ sp bd q1 q2, q1 = mS (I m 46) fs vd sp (sc + 1) (decide (0 < lp)) (st + pl.length + 1) (new ++ Γ, w) → q1.2.2 = (new ++ Γ, w) → q2 = mS (I m 46) fs vd bd (sc + 2) true (st + pl.length + 1 + q1.1.length + 2) (new ++ Γ, w) → F (mkA lf sp bd) = (pl ++ [(12, nI (st + pl.length + 1 + q1.1.length + 1), 0, 0)] ++ q1.1 ++ [(12, nI (st + pl.length), 0, 0)] ++ [(15, 0, 0, 0)] ++ fillH 1 (nI (st + pl.length + 1 + q1.1.length + 2 + q2.1.length + 1)) (fillH 2 (nI (st + pl.length + 1)) q2.1) ++ [(12, nI (st + pl.length + 1), 0, 0)], mnN (mnN y q1.2.1) q2.2.1, (Γ, q2.2.2.2)))
    (hF1 : ∀ c sp bd q1 q2, wX false c → q1 = mS (I m 46) fs vd sp (sc + 1) (decide (0 < lp)) (st + (pl.length + lX false c + 1) + 1) (new ++ Γ, w) → q1.2.2 = (new ++ Γ, w) → q2 = mS (I m 46) fs vd bd (sc + 2) true (st + (pl.length + lX false c + 1) + 1 + q1.1.length + 2) (new ++ Γ, w) → F (mkA c sp bd) = (pl ++ cX (new ++ Γ) fs false none (st + pl.length) c ++ [(13, nI (st + (pl.length + lX false c + 1) + 1 + q1.1.length + 2 + q2.1.length + 1), 0, 0)] ++ [(12, nI (st + (pl.length + lX false c + 1) + 1 + q1.1.length + 1), 0, 0)] ++ q1.1 ++ [(12, nI (st + pl.length), 0, 0)] ++ [(15, 0, 0, 0)] ++ fillH 1 (nI (st + (pl.length + lX false c + 1) + 1 + q1.1.length + 2 + q2.1.length + 1)) (fillH 2 (nI (st + (pl.length + lX false c + 1) + 1)) q2.1) ++ [(12, nI (st + (pl.length + lX false c + 1) + 1), 0, 0)], mnN (mnN (mnN y (nX (new ++ Γ) fs false true none c)) q1.2.1) q2.2.1, (Γ, q2.2.2.2))) :
    ctA Rk m (nI sc) (sP I m D fs st o x sc lp f vd b0 c0 B (pNeed D 69 t1 (pAnd (pForC D d (t1 + 1)) fun c t2 => pNeed D 69 t2 (pAnd (pForP D d (t2 + 1)) fun sp t3 => pNeed D 63 t3 (pAnd (pS D (d + 1) (t3 + 1)) fun b t4 => .ok (mkA c sp b, t4))))) F) I60 := by
  have hT := w60.2.1.1.1
  have hl := hT.2.1
  have hD4 := hT.1.1.2.1
  unfold ctA
  refine ⟨_, s_X13_sign hT (k := 69) (by decide), ?_⟩
  rintro v61 I61 - ⟨q61, ⟨e61, rfl, x61⟩ | ⟨e61, rfl, T61⟩⟩
  · refine ⟨fun _ => ?_, fun q => absurd rfl q⟩
    rw [pNeed, if_neg e61]
    exact ⟨rfl, eH.sx w60 hD (by dsimp only; omega) q61.h x61⟩
  refine ⟨fun q => absurd q (by decide), fun _ => ?_⟩
  rw [pNeed, if_pos e61]
  have w61 := w60.mv q61 T61 (by omega)
  have ht1 := T61.2.1
  have h6160 : I61 m 60 = nI (st + pl.length) := w61.2.1.1.2.2.2.1
  rw [h6160]
  refine ⟨_, s_X13_isSign w61.2.1.1.1 (k := 69) (by decide), ?_⟩
  rintro _ _ - ⟨rfl, rfl⟩
  by_cases e69 : tK D (t1 + 1) = 69
  · rw [bI, if_pos e69]
    refine ⟨fun q => absurd q (by decide), fun _ => ?_⟩
    have hp : pForC D d (t1 + 1) = .ok (lf, t1 + 1) := if_pos e69
    rw [hp]
    refine s_ctB (PA := pl) (PB := []) (PBf := fun _ => []) (mkB := fun sp b => mkA lf sp b) hBd hi hD hd hsc hlp hΓ hnew (by rw [List.append_nil]; exact w61) (fun _ => rfl) (by rw [List.append_nil]; omega) hB9 (fun sp bd q1 q2 h1 h2 h3 => ?_) (fun k65 I95 t4 rest z E' v hw hv _ hE => hE I95 hw hv)
    rw [List.append_nil] at h1 h3 ⊢
    exact hF0 sp bd q1 q2 h1 h2 h3
  · rw [bI, if_neg e69]
    refine ⟨fun _ => ?_, fun q => absurd rfl q⟩
    have hp : pForC D d (t1 + 1) = pE D d (t1 + 1) := if_neg e69
    rw [hp]
    refine ⟨_, ro_X hi d 700 (by omega) I61 (t1 + 1) (o + 2) _ 0 _ (B - 6) (by omega) w61.2.1.1 (by omega) (by dsimp only; omega) (by omega), ?_⟩
    rintro v85 I85 - ⟨g85, r85⟩
    cases hr : pE D d (t1 + 1) with
    | error fl =>
      rw [hr] at r85
      obtain ⟨rfl, x85⟩ := r85
      refine ⟨fun _ => ?_, fun q => absurd rfl q⟩
      exact ⟨rfl, eH.sx w61 hD (by dsimp only; omega) g85 x85⟩
    | ok et =>
      obtain ⟨c, t2⟩ := et
      rw [hr] at r85
      obtain ⟨rfl, w85', b85⟩ := r85
      refine ⟨fun q => absurd q (by decide), fun _ => ?_⟩
      have hup := pE_up hT.1.1 d (t1 + 1) ht1 c t2 hr
      have hwx := pE_w d (t1 + 1) c t2 hr
      have w85 := w61.e w85' (by omega) cX_noH
      have w85c : sW I I85 m D fs st x t2 (o + 2) (sc + 1) lp f vd b0 c0 (pl ++ cX (new ++ Γ) fs false none (st + pl.length) c, mnN y (nX (new ++ Γ) fs false true none c), (new ++ Γ, w)) := w85
      have b85' : st + pl.length + (cX (new ++ Γ) fs false none (st + pl.length) c).length + 4 * (D.length - t2) ≤ B - 6 := b85
      rw [cX_len] at b85'
      have l85 : (pl ++ cX (new ++ Γ) fs false none (st + pl.length) c).length = pl.length + lX false c := by rw [List.length_append, cX_len]
      have hl2 := hup.2
      refine ⟨_, s_X13_step (s := st + (pl ++ cX (new ++ Γ) fs false none (st + pl.length) c).length) w85c.2.1.1.2.2.2.1 (by rw [l85]; omega), ?_⟩
      rintro _ I86 ⟨rfl, s0, s1, s2, s3, s4, -⟩
      have w86 := w85c.sp1 (w := 13) (a := 0) (d := 0) (v := 0) isHo_0 s0 s1 s2 s3 s4 (fun z => absurd z (by decide))
      dsimp only at w86
      have l86 : (pl ++ cX (new ++ Γ) fs false none (st + pl.length) c ++ [((13 : Int32), (0 : Int32), (0 : Int32), (0 : Int32))]).length = pl.length + lX false c + 1 := by rw [List.length_append, l85]; rfl
      refine s_ctB (PA := pl ++ cX (new ++ Γ) fs false none (st + pl.length) c) (PB := [(13, 0, 0, 0)]) (PBf := fun v => [(13, v, 0, 0)]) (mkB := fun sp b => mkA c sp b) hBd hi hD hd hsc hlp hΓ hnew w86 (fun _ => rfl) (by rw [l86]; omega) hB9 (fun sp bd q1 q2 h1 h2 h3 => ?_) (fun k65 I95 t4 rest z E' v hw hv hlt hE => ?_)
      · rw [l86] at h1 h3 ⊢
        exact hF1 c sp bd q1 q2 hwx h1 h2 h3
      · unfold ctO
        rw [l86] at hlt
        refine ⟨fun I96 => sW I I96 m D fs st x t4 (o + 1) (sc + 1) lp f vd b0 c0 (pl ++ cX (new ++ Γ) fs false none (st + pl.length) c ++ [(13, v, 0, 0)] ++ rest, z, E') ∧ I96 m 60 = v, fun I96 h96 => hE I96 h96.1 h96.2, fun z => absurd z (nI_m1 (by rw [l85]; omega)), fun _ => ⟨vp_in_nI (by rw [l85]; omega) (by decide), ?_⟩⟩
        rw [show ix (nI (st + (pl ++ cX (new ++ Γ) fs false none (st + pl.length) c).length)) = st + (pl ++ cX (new ++ Γ) fs false none (st + pl.length) c).length from nI_clamp (by rw [l85]; omega), hv]
        intro I101 hI101
        have := hw.pA (v := v) isHo_0
        rw [← hI101] at this
        exact ⟨this, by rw [hI101, gX, if_neg (by omega)]; exact hv⟩
end SC2
