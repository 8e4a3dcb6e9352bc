/-! ===== the Model: arrays outside of functions ===== -/
set_option maxRecDepth 100000
/-! printed by tools/garr.py -/
def arX (m : Nat) (n b v3 c37 ow : Int32) (Q : Int32 → xII → Prop) (I10 : xII) : Prop := ∃ R11 : Int32 → xII → Prop, w_X13_isSign m (32 : Int32) R11 I10 ∧ (∀ (v11 : Int32) (I11 : xII), (v11 = 0 ∨ v11 = 1) → R11 v11 I11 → (((v11 = 0 → ∃ R12 : xII → Prop, w_X13_declare m n (2 : Int32) b c37 (if v3 = (-1 : Int32) then (1 : Int32) else v3) (0 : Int32) R12 I11 ∧ (∀ I12 : xII, R12 I12 → (Q (1 : Int32) I12))) ∧ (¬ v11 = 0 → ∀ I13 : xII, I13 = xup I11 m 42 ((I11 m 42) + (1 : Int32)) → (∃ R14 : Int32 → xII → Prop, w_X13_openSign m (26 : Int32) R14 I13 ∧ (∀ (v14 : Int32) (I14 : xII), (v14 = 0 ∨ v14 = 1) → R14 v14 I14 → (((v14 = 0 → Q (0 : Int32) I14) ∧ (¬ v14 = 0 → arL m n b v3 c37 ow Q I14)))))))))
/-- a row told outside of functions, but for its ; -/
def pRowA (D : tkL) (b p nm : Int32) (t : Nat) : pR :=
  pOpen D 64 40 t (pAnd (pE D 39 (t + 1)) fun s t1 => pNeed D 65 t1 (pAnd (if tK D (t1 + 1) = 72 then pOpen D 66 40 (t1 + 2) (pAnd (pArgs D (pE D 39) D.length (t1 + 3)) fun vs t2 => pNeed D 67 t2 (.ok (vs, t2 + 1))) else .ok (lf, t1 + 1)) fun vs t3 => .ok (nd 42 [p, nm, b] s vs, t3)))
/-- what an array does -/
def arK (ps : Int32) (fs : List fnc) (Γ : List dcl) (g : glb) (p nm b : Int32) (s vs : Tr) : nte × List dcl × glb :=
  (mnN (mnN (mnN (twN Γ fs 0 nm p) (mnN (nX Γ fs true true none s) (zSz Γ fs s))) (if arW g b (mny ps Γ fs s) = true then none else nt 11 p)) (arZ fs Γ (mny ps Γ fs s) vs 0), tellD ps (nm, 2, p, 0, b, nI g.2.2.1.length, if mny ps Γ fs s = -1 then 1 else mny ps Γ fs s, 0) Γ, ((arG g b (mny ps Γ fs s)).1, (arG g b (mny ps Γ fs s)).2.1, arF ps fs Γ b (arO g b (mny ps Γ fs s)) g.2.2.1.length vs 0 (arG g b (mny ps Γ fs s)).2.2.1, (arG g b (mny ps Γ fs s)).2.2.2))
def arT (F : Tr → Tr → nte × List dcl × glb) : Tr → nte × List dcl × glb
  | .inner _ _ _ l r => F l r
  | .leaf => (none, [], (0, [], [], 0))
section ARA
variable {m t o st B tn t' o' t2 o2 t0 own cc : Nat} {I J K I10 : xII} {D : tkL} {fs : List fnc} {Γ Γ' : List dcl} {x y z : nte} {g g' : glb} {b many : Int32}
theorem pRowT_A {p nm : Int32} : pRowT D b p nm t = pAnd (pRowA D b p nm t) fun e t3 => pNeed D 69 t3 (.ok (e, t3 + 1)) := by
  unfold pRowT pRowA pOpen
  split
  · rw [if_neg (by omega), if_neg (by omega)]
    cases pE D 39 (t + 1) with
    | error => rfl
    | ok et =>
      obtain ⟨s, t1⟩ := et
      show pNeed D 65 t1 _ = pAnd (pNeed D 65 t1 _) _
      unfold pNeed
      split
      · split
        · split
          · rw [if_neg (by decide)]
            cases pArgs D (pE D 39) D.length (t1 + 3) with
            | error => rfl
            | ok vt =>
              obtain ⟨vs, t2⟩ := vt
              show pAnd (if tK D t2 = 67 then _ else _) _ = pAnd (pAnd (if tK D t2 = 67 then _ else _) _) _
              split <;> rfl
          · rfl
        · rfl
      · rfl
  · rfl
theorem arO_eq (hb : b = 0 ∨ b = 1) (hm : many = -1 ∨ ∃ k, 1 ≤ k ∧ k ≤ 500 ∧ many = nI k) (hwd : g.1 ≤ 1000000) (r3 : g.2.2.1.length ≤ 4 * g.1) (r4 : g.2.2.1.length ≤ 8000) : (if (2000 : Int32) < (nI g.1 + (if many = -1 then (0 : Int32) else (if b = 0 then many else ((many + 3) / 4)))) then (0 : Int32) else 1) = (if arW g b many = true then 1 else 0) ∧ (if many = -1 then (0 : Int32) else (if (if arW g b many = true then (1 : Int32) else 0) = 0 then 0 else many)) = nI (arO g b many) ∧ arO g b many ≤ 500 ∧ g.2.2.1.length + arO g b many ≤ 8000 ∧ aWd many b ≤ 500 := by
  have hw : aWd many b ≤ 500 ∧ (if many = -1 then (0 : Int32) else (if b = 0 then many else (many + 3) / 4)) = nI (aWd many b) ∧ (¬ many = -1 → many = nI (ix many) ∧ 1 ≤ ix many ∧ ix many ≤ 500 ∧ ix many ≤ 4 * aWd many b) := by
    rcases hm with rfl | ⟨k, k1, k5, rfl⟩
    · exact ⟨by show (if (-1 : Int32) = -1 then 0 else _) ≤ 500; rw [if_pos rfl]; omega, rfl, fun w => absurd rfl w⟩
    · have hx : ix (nI k) = k := nI_clamp (by omega)
      unfold aWd
      rw [if_neg (nI_m1 (by omega)), if_neg (nI_m1 (by omega)), hx]
      rcases hb with rfl | rfl
      · rw [if_pos rfl, if_pos rfl]
        exact ⟨k5, rfl, fun _ => ⟨rfl, k1, k5, by omega⟩⟩
      · rw [if_neg (by decide), if_neg (by decide), div4 k (by omega)]
        exact ⟨by omega, rfl, fun _ => ⟨rfl, k1, k5, by omega⟩⟩
  obtain ⟨w1, w2, w3⟩ := hw
  have hfit : (if (2000 : Int32) < nI g.1 + nI (aWd many b) then (0 : Int32) else 1) = (if arW g b many = true then 1 else 0) := by
    rw [nI_add]
    unfold arW
    have hlt : (2000 : Int32) < nI (g.1 + aWd many b) ↔ 2000 < g.1 + aWd many b := nI_ltI (a := 2000) (by omega) (by omega)
    by_cases z : g.1 + aWd many b ≤ 2000
    · rw [if_neg (fun w => absurd (hlt.mp w) (by omega)), decide_eq_true z, if_pos rfl]
    · rw [if_pos (hlt.mpr (by omega)), decide_eq_false z, if_neg (by decide)]
  rw [w2, hfit]
  refine ⟨rfl, ?_⟩
  unfold arO
  by_cases z1 : many = -1
  · rw [if_pos z1, if_pos (Or.inl z1)]
    exact ⟨rfl, by omega, by omega, by omega⟩
  · rw [if_neg z1]
    obtain ⟨c1, c2, c3, c4⟩ := w3 z1
    cases hq : arW g b many with
    | false =>
      rw [if_pos (show (if (false : Bool) = true then (1 : Int32) else 0) = 0 from rfl), if_pos (Or.inr rfl)]
      exact ⟨rfl, by omega, by omega, by omega⟩
    | true =>
      have hz := of_decide_eq_true hq
      rw [if_pos rfl, if_neg (by decide), if_neg (by rintro (w | w); exact z1 w; exact nomatch w)]
      exact ⟨c1, c3, by omega, by omega⟩
theorem s_arX {mk : Tr → Tr} {F : Tr → nte × List dcl × glb} (hi : inD D) (hD : D.length ≤ 1800) (h : hW I I10 m D fs st x t2 0 Γ y g) (htn : tn + 1 < t2) (k2 : tK D tn = 2) (hl2 : 2 * Γ.length + 2 ≤ t2) (hb : b = 0 ∨ b = 1) (hm : many = -1 ∨ ∃ k, 1 ≤ k ∧ k ≤ 500 ∧ many = nI k) (ho : cc + own ≤ 8000) (ho5 : own ≤ 500) (hst : st + 4 * (D.length - t2) ≤ 9000)
    (hF : ∀ vs, F (mk vs) = (mnN y (arZ fs Γ many vs 0), tellD (I m 46) (tV D tn, 2, tP D tn, 0, b, nI cc, if many = -1 then 1 else many, 0) Γ, (g.1, g.2.1, arF (I m 46) fs Γ b own cc vs 0 g.2.2.1, g.2.2.2))) : arX m (nI tn) b many (nI cc) (nI own) (hP I m D fs st x (pAnd (if tK D t2 = 72 then pOpen D 66 40 (t2 + 1) (pAnd (pArgs D (pE D 39) D.length (t2 + 2)) fun vs t2 => pNeed D 67 t2 (.ok (vs, t2 + 1))) else .ok (lf, t2)) fun vs t3 => .ok (mk vs, t3)) F) I10 := by
  have hT := h.2.1.1.1
  have hl := hT.2.1
  have hD4 := hT.1.1.2.1
  unfold arX
  refine ⟨_, s_X13_isSign hT (k := 72) (by decide), ?_⟩
  rintro _ _ - ⟨rfl, rfl⟩
  by_cases e72 : tK D t2 = 72
  · rw [bI, if_pos e72, if_pos e72]
    refine ⟨fun q => absurd q (by decide), fun _ => ?_⟩
    have ht1 := hT.1.1.nx' hl e72
    intro I13 hI13
    have q13 := hT.on ht1
    rw [← hI13] at q13
    have w13 := h.mv q13.2 q13.1 (by omega)
    have hT13 := w13.2.1.1.1
    refine ⟨_, s_X13_openSign hT13 (k := 66) (by decide), ?_⟩
    rintro v14 I14 - ⟨q14, ⟨e, rfl, x14⟩ | ⟨e, ho2, rfl, x14⟩ | ⟨e, ho2, rfl, T14⟩⟩
    · refine ⟨fun _ => ?_, fun q => absurd rfl q⟩
      rw [pOpen, if_neg e]
      exact ⟨w13.1.tr q14.f.gg, rfl, x14⟩
    · exact absurd ho2 (by omega)
    refine ⟨fun q => absurd q (by decide), fun _ => ?_⟩
    rw [pOpen, if_pos e, if_neg (by omega)]
    have w14 := w13.mv q14 T14 (by omega)
    have hl14 := T14.2.1
    have := s_arL (mk := mk) (F := F) hi hD w14 (by omega) (by omega) k2 (by omega) hb hm ho ho5 (by omega) hF
    rw [show (pAnd (pAnd (pArgs D (pE D 39) D.length (t2 + 2)) fun vs t2 => pNeed D 67 t2 (.ok (vs, t2 + 1))) fun vs t3 => .ok (mk vs, t3) : pR) = pAnd (pArgs D (pE D 39) D.length (t2 + 1 + 1)) fun vs t2 => pNeed D 67 t2 (.ok (mk vs, t2 + 1)) from ?_]
    · exact this
    · cases pArgs D (pE D 39) D.length (t2 + 2) with
      | error => rfl
      | ok vt =>
        obtain ⟨vs, t3⟩ := vt
        show pAnd (if tK D t3 = 67 then _ else _) _ = (if tK D t3 = 67 then _ else _)
        split <;> rfl
  · rw [bI, if_neg e72, if_neg e72]
    refine ⟨fun _ => ?_, fun q => absurd rfl q⟩
    refine ⟨_, s_X13_declare h.2.1.1.2.1 (h.len hD) (tk := tn) (by omega) hb (Or.inl rfl), ?_⟩
    rintro I18 ⟨g18, p18, f18⟩
    have e4 : I10 (m + 4) tn = tV D tn := by
      rw [(hT.1.2.2.1 tn (by omega)).2.1, k2]
      unfold mkV
      rw [if_pos rfl]
    have e5 : I10 (m + 5) tn = tP D tn := hT.1.at (by omega)
    rw [e4, e5, h.2.1.2.1] at g18
    have w18 := h.dc g18 p18 f18 rfl (by omega)
    refine ⟨w18.1, rfl, ?_⟩
    rw [hF]
    rw [show arZ fs Γ many lf 0 = none from rfl, mnN_n]
    exact w18
theorem s_X13_array (hi : inD D) (hD : D.length ≤ 1800) (h : hE I m D fs t 0 st x Γ) (hg : gR I m g) (hwd : g.1 ≤ 1000000) (htn : tn + 1 = t) (k2 : tK D tn = 2) (hl2 : 2 * Γ.length + 2 ≤ t) (hb : b = 0 ∨ b = 1) (hst : st + 4 * (D.length - t) ≤ 9000) : w_X13_array m (nI tn) b (hP I m D fs st x (pRowA D b (tP D tn) (tV D tn) t) (arT (arK (I m 46) fs Γ g (tP D tn) (tV D tn) b))) I := by
  have hT := h.1.1
  have hl := hT.2.1
  have hD4 := hT.1.1.2.1
  have w0 := hW.rf h hg
  have hvn : vp_in (nI tn) 4002 := vp_in_nI (by omega) (by decide)
  have hxn : ix (nI tn) = tn := nI_clamp (by omega)
  have e4 : I (m + 4) tn = tV D tn := by
    rw [(hT.1.2.2.1 tn (by omega)).2.1, k2]
    unfold mkV
    rw [if_pos rfl]
  have e5 : I (m + 5) tn = tP D tn := hT.1.at (by omega)
  unfold w_X13_array pRowA
  refine ⟨_, s_X13_twice (sc := 0) w0.2.1.1.2.1 w0.2.1.1.2.2.2.2.2 w0.2.1.2.1 (by omega) (tk := tn) (by omega), ?_⟩
  rintro I1 ⟨n1, f1⟩
  rw [e4, e5] at f1
  have w1 := w0.nt n1 f1
  rw [show mnN none (twN Γ fs (nI 0) (tV D tn) (tP D tn)) = twN Γ fs 0 (tV D tn) (tP D tn) from rfl] at w1
  refine ⟨_, s_X13_openSign w1.2.1.1.1 (k := 64) (by decide), ?_⟩
  rintro v2 I2 - ⟨q2, ⟨e, rfl, x2⟩ | ⟨e, ho, rfl, x2⟩ | ⟨e, ho, rfl, T2⟩⟩
  · refine ⟨fun _ => ?_, fun q => absurd rfl q⟩
    rw [pOpen, if_neg e]
    exact ⟨w1.1.tr q2.f.gg, rfl, x2⟩
  · exact absurd ho (by omega)
  refine ⟨fun q => absurd q (by decide), fun _ => ?_⟩
  rw [pOpen, if_pos e, if_neg (by omega)]
  have ht1 := T2.2.1
  have w2 := w1.mv q2 T2 (by omega)
  refine ⟨_, s_X13_sizeHere (d := 39) hi w2.2.1.1 (by omega) (by omega) (by omega), ?_⟩
  rintro v3 I3 ⟨g3, k3, r3⟩
  cases hr : pE D 39 (t + 1) with
  | error fl =>
    rw [hr] at r3
    refine ⟨_, s_X13_close_er (by rw [r3.1]; exact r3.2.2), ?_⟩
    rintro _ _ - ⟨rfl, rfl⟩
    refine ⟨fun _ => ?_, fun q => absurd rfl q⟩
    exact ⟨w2.1.tr g3.gg, rfl, r3⟩
  | ok et =>
    obtain ⟨s, t1⟩ := et
    rw [hr] at r3
    obtain ⟨E3, hv3⟩ := r3
    have hup := pE_up hT.1.1 39 (t + 1) ht1 s t1 hr
    have w3 := w2.vl g3 k3 E3 (by omega)
    have p2 : I2 m 46 = I m 46 := w2.1.ps
    rw [p2] at hv3
    refine ⟨_, s_X13_closeSign (o := 0) w3.2.1.1.1 (k := 65) (by decide), ?_⟩
    rintro v4 I4 - ⟨q4, ⟨e4', rfl, x4⟩ | ⟨e4', rfl, T4⟩⟩
    · refine ⟨fun _ => ?_, fun q => absurd rfl q⟩
      show hP _ _ _ _ _ _ (pNeed D 65 t1 _) _ _ _
      rw [pNeed, if_neg e4']
      exact ⟨w3.1.tr q4.f.gg, rfl, x4⟩
    refine ⟨fun q => absurd q (by decide), fun _ => ?_⟩
    have w4 := w3.mv q4 T4 (by omega)
    have hl4 := T4.2.1
    have h436 : I4 m 36 = nI g.1 := w4.2.2.2.1
    have h437 : I4 m 37 = nI g.2.2.1.length := w4.2.2.2.2.1
    have e54 : I4 (m + 5) tn = tP D tn := w4.2.1.1.1.1.at (by omega)
    have hm := mny_or (ps := I m 46) (Γ := Γ) (fs := fs) (s := s)
    have hK : arK (I m 46) fs Γ g (tP D tn) (tV D tn) b s = fun vs => arK (I m 46) fs Γ g (tP D tn) (tV D tn) b s vs := rfl
    show ∃ J5 : xII → Prop, (∀ I5 : xII, J5 I5 → arM m b v3 (I4 m 36) (arX m (nI tn) b v3 (I4 m 37) (if v3 = (-1 : Int32) then (0 : Int32) else (if (if (2000 : Int32) < ((I4 m 36) + (if v3 = (-1 : Int32) then (0 : Int32) else (if b = 0 then v3 else ((v3 + (3 : Int32)) / (4 : Int32))))) then (0 : Int32) else (1 : Int32)) = 0 then (0 : Int32) else v3)) _) I5) ∧ _
    obtain ⟨o1, o2, o3, o4, o5⟩ := arO_eq hb hm hwd w4.2.2.2.2.2.1 w4.2.2.2.2.2.2.1
    rw [h436, h437, hxn, e54, hv3, o1, o2]
    show ∃ J5 : xII → Prop, (∀ I5 : xII, J5 I5 → arM m b (mny (I m 46) Γ fs s) (nI g.1) (arX m (nI tn) b (mny (I m 46) Γ fs s) (nI g.2.2.1.length) (nI (arO g b (mny (I m 46) Γ fs s))) (hP I m D fs st x (pNeed D 65 t1 _) _)) I5) ∧ _
    rw [pNeed, if_pos e4']
    refine ⟨fun I5 => hW I I5 m D fs st x (t1 + 1) 0 Γ (mnN (mnN (twN Γ fs 0 (tV D tn) (tP D tn)) (mnN (nX Γ fs true true none s) (zSz Γ fs s))) (if arW g b (mny (I m 46) Γ fs s) = true then none else nt 11 (tP D tn))) g, fun I5 w5 => ?_, fun z => ⟨hvn, _, s_X13_note w4.2.1.1.2.2.2.2.2 (by decide), fun I37 h37 => ?_⟩, fun z => ?_⟩
    · refine s_arM hb hm hwd w5.2.2.2 fun K hK gK => ?_
      have wK := w5.gl hK gK
      exact s_arX (mk := nd 42 [tP D tn, tV D tn, b] s) hi hD wK (by omega) k2 (by omega) hb hm o4 o3 (by omega) fun vs => rfl
    · cases hA : arW g b (mny (I m 46) Γ fs s) with
      | true =>
        rw [hA] at z
        exact absurd z (by decide)
      | false =>
        rw [if_neg (by decide)]
        exact w4.nt h37.1 h37.2
    · cases hA : arW g b (mny (I m 46) Γ fs s) with
      | false =>
        rw [hA] at z
        exact absurd rfl z
      | true =>
        rw [if_pos rfl, mnN_n]
        exact w4
end ARA
