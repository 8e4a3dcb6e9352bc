/-! ===== the Model: arrays outside of functions, their values ===== -/
set_option maxRecDepth 100000
/-! printed by tools/garr.py -/
def arL (m : Nat) (n b v3 c37 ow : Int32) (Q : Int32 → xII → Prop) (I14 : xII) : Prop := ∃ L15 : Nat → Int32 → Int32 → xII → Prop, (∃ n15 : Nat, L15 n15 (0 : Int32) (1 : Int32) I14) ∧ (∀ (n15 : Nat) (y15_8 : Int32) (y15_9 : Int32) (I15 : xII), L15 n15 y15_8 y15_9 I15 → ∃ J16 : Prop, (J16 → ∃ R17 : Int32 → xII → Prop, w_X13_closeSign m (27 : Int32) R17 I15 ∧ (∀ (v17 : Int32) (I17 : xII), (v17 = 0 ∨ v17 = 1) → R17 v17 I17 → (((v17 = 0 → Q (0 : Int32) I17) ∧ (¬ v17 = 0 → ∃ R18 : xII → Prop, w_X13_declare m n (2 : Int32) b c37 (if v3 = (-1 : Int32) then (1 : Int32) else v3) (0 : Int32) R18 I17 ∧ (∀ I18 : xII, R18 I18 → (Q (1 : Int32) I18))))))) ∧ ((y15_9 = 0 → J16) ∧ (¬ y15_9 = 0 → (((I15 m 44) = 0 → vp_in (I15 m 42) 4002 ∧ (∃ R20 : Int32 → xII → Prop, w_X13_value m R20 I15 ∧ (∀ (v20 : Int32) (I20 : xII), R20 v20 I20 → (∃ J21 : xII → Prop, (∀ (I21 : xII), J21 I21 → ∃ J22 : xII → Prop, (∀ (I22 : xII), J22 I22 → ∃ J23 : Int32 → xII → Prop, (∀ (y23_s0 : Int32) (I23 : xII), J23 y23_s0 I23 → ∀ I24 : xII, I24 = xup I23 m 42 ((I23 m 42) + (if y23_s0 = 0 then (0 : Int32) else (1 : Int32))) → ((∃ q15 : Nat, q15 < n15 ∧ L15 q15 (y15_8 + (1 : Int32)) y23_s0 I24))) ∧ (((I22 m 44) = 0 → ∃ R25 : Int32 → xII → Prop, w_X13_isSign m (28 : Int32) R25 I22 ∧ (∀ (v25 : Int32) (I25 : xII), (v25 = 0 ∨ v25 = 1) → R25 v25 I25 → (((v25 = 0 → J23 (0 : Int32) I25) ∧ (¬ v25 = 0 → J23 (1 : Int32) I25))))) ∧ (¬ (I22 m 44) = 0 → J23 (0 : Int32) I22))) ∧ (((I21 m 46) ≤ 0 → J22 I21) ∧ (¬ (I21 m 46) ≤ 0 → ((ow ≤ y15_8 → J22 I21) ∧ (¬ ow ≤ y15_8 → vp_in (c37 + y15_8) 8008 ∧ (∀ I27 : xII, I27 = xup I21 (m + 31) (ix (c37 + y15_8)) (if b = 0 then v20 else (v20 &&& (255 : Int32))) → (J22 I27))))))) ∧ ((v3 = (-1 : Int32) → J21 I20) ∧ (¬ v3 = (-1 : Int32) → ((y15_8 = v3 → ∃ R28 : xII → Prop, w_X13_note m (10 : Int32) (I15 (m + 5) (ix (I15 m 42))) R28 I20 ∧ (∀ I28 : xII, R28 I28 → (J21 I28))) ∧ (¬ y15_8 = v3 → J21 I20)))))))) ∧ (¬ (I15 m 44) = 0 → J16)))))
def vW (ps : Int32) (fs : List fnc) (Γ : List dcl) (a : Tr) : Int32 := if ps = 0 ∨ hnX Γ fs a = true then 0 else vC Γ fs a
/-- notes of a row of values -/
def arZ (fs : List fnc) (Γ : List dcl) (many : Int32) : Tr → Nat → nte
  | .inner 10 [] _ a r, k => mnN (mnN (nX Γ fs true true none a) (if ¬ many = -1 ∧ nI k = many then nt 10 (tFst a) else none)) (arZ fs Γ many r (k + 1))
  | _, _ => none
/-- cells by a row of values -/
def arF (ps : Int32) (fs : List fnc) (Γ : List dcl) (b : Int32) (own c : Nat) : Tr → Nat → List Int32 → List Int32
  | .inner 10 [] _ a r, k, fv => arF ps fs Γ b own c r (k + 1) (if ¬ ps = 0 ∧ k < own then fv.set (c + k) (if b = 0 then vW ps fs Γ a else vW ps fs Γ a &&& 255) else fv)
  | _, _, fv => fv
section ARV
variable {m t o st B tn t' o' t2 o2 t0 own cc : Nat} {I J K I14 : xII} {D : tkL} {fs : List fnc} {Γ Γ' : List dcl} {x y z : nte} {g g' : glb} {b many : Int32}
theorem s_X13_note_any {k p : Int32} : w_X13_note m k p (fun J => eN I J m) I := by
  refine ⟨fun J => eN I J m, ?_, fun _ z => z⟩
  unfold w_X13_noteAs
  have w : ∀ J : xII, J = xup (xup (xup I m 47 k) m 48 p) m 49 (f_X13_rank k) → eN I J m := by
    rintro J rfl a j hj
    rw [gX, if_neg (by omega), gX, if_neg (by omega), gX, if_neg (by omega)]
  refine ⟨fun _ => fun _ _ _ => rfl, fun _ => ⟨fun _ => ?_, fun _ => ⟨fun _ => fun _ _ _ => rfl, fun _ => ⟨fun _ => ⟨fun _ => ?_, fun _ => fun _ _ _ => rfl⟩, fun _ => ?_⟩⟩⟩⟩
  all_goals
    rintro _ rfl _ rfl _ rfl
    exact w _ rfl
/-- a cell is set -/
theorem gR.set (h : gR J m g) {i : Nat} {v : Int32} : gR (xup J (m + 31) i v) m (g.1, g.2.1, g.2.2.1.set i v, g.2.2.2) := by
  obtain ⟨h1, h2, h3, h4, h5, h6, h7, h8, h9⟩ := h
  have hf : ∀ a j, ¬ (a = m + 31 ∧ j = i) → xup J (m + 31) i v a j = J a j := fun a j hj => by rw [gX, if_neg hj]
  refine ⟨(hf _ _ (by omega)).trans h1, ?_, ?_, ?_, fun k q hk => ?_, fun k w hw => ?_, h7, h8, (hf _ _ (by omega)).trans h9⟩
  · rw [hf _ _ (by omega)]
    dsimp only
    rw [List.length_set]
    exact h2
  · dsimp only
    rw [List.length_set]
    exact h3
  · dsimp only
    rw [List.length_set]
    exact h4
  · rw [hf _ _ (by omega), hf _ _ (by omega), hf _ _ (by omega)]
    exact h5 k q hk
  · dsimp only at hw
    rw [List.getElem?_set] at hw
    split at hw
    · rename_i hik
      subst hik
      split at hw
      · cases hw
        exact xup_s
      · exact nomatch hw
    · rw [hf _ _ (by omega)]
      exact h6 k w hw
theorem s_arL {mk : Tr → Tr} {F : Tr → nte × List dcl × glb} (hi : inD D) (hD : D.length ≤ 1800) (h : hW I I14 m D fs st x t0 1 Γ y g) (ht0 : 0 < t0) (htn : tn + 1 < t0) (k2 : tK D tn = 2) (hl2 : 2 * Γ.length + 2 ≤ t0) (hb : b = 0 ∨ b = 1) (hm : many = -1 ∨ ∃ k, 1 ≤ k ∧ k ≤ 500 ∧ many = nI k) (ho : cc + own ≤ 8000) (ho5 : own ≤ 500) (hst : st + 4 * (D.length - t0) ≤ 9000)
    (hF : ∀ vs, F (mk vs) = (mnN y (arZ fs Γ many vs 0), tellD (I m 46) (tV D tn, 2, tP D tn, 0, b, nI cc, if many = -1 then 1 else many, 0) Γ, (g.1, g.2.1, arF (I m 46) fs Γ b own cc vs 0 g.2.2.1, g.2.2.2))) : arL m (nI tn) b many (nI cc) (nI own) (hP I m D fs st x (pAnd (pArgs D (pE D 39) D.length t0) fun vs t2 => pNeed D 67 t2 (.ok (mk vs, t2 + 1))) F) I14 := by
  have hT := h.2.1.1.1
  have hl := hT.2.1
  have hD4 := hT.1.1.2.1
  have p1446 : I14 m 46 = I m 46 := h.1.ps
  unfold arL
  refine ⟨fun n y8 y9 I15 => (∃ (kk tk : Nat) (z : nte) (fv : List Int32), y8 = nI kk ∧ tk < D.length ∧ t0 + kk ≤ tk ∧ hW I I15 m D fs st x tk 1 Γ (mnN y z) (g.1, g.2.1, fv, g.2.2.2) ∧ ((y9 = 1 ∧ n = D.length - tk + 1 ∧ ∃ (mk' : Tr → Tr) (fu : Nat), D.length < fu + tk ∧ pArgs D (pE D 39) D.length t0 = pAnd (pArgs D (pE D 39) fu tk) (fun s t' => .ok (mk' s, t')) ∧ ∀ s, arZ fs Γ many (mk' s) 0 = mnN z (arZ fs Γ many s kk) ∧ arF (I m 46) fs Γ b own cc (mk' s) 0 g.2.2.1 = arF (I m 46) fs Γ b own cc s kk fv) ∨ (y9 = 0 ∧ n = 0 ∧ ∃ vs, pArgs D (pE D 39) D.length t0 = .ok (vs, tk) ∧ arZ fs Γ many vs 0 = z ∧ arF (I m 46) fs Γ b own cc vs 0 g.2.2.1 = fv))) ∨ (y9 = 0 ∧ n = 0 ∧ ∃ fl, pArgs D (pE D 39) D.length t0 = .error fl ∧ gG I I15 m ∧ eX I15 m fl), ⟨D.length - t0 + 1, Or.inl ⟨0, t0, none, g.2.2.1, rfl, hl, by omega, by rw [mnN_n]; exact h, Or.inl ⟨rfl, rfl, id, D.length, by omega, ?_, fun s => ⟨rfl, rfl⟩⟩⟩⟩, ?_⟩
  · cases pArgs D (pE D 39) D.length t0 <;> rfl
  rintro n y8 y9 I15 (⟨kk, tk, z, fv, rfl, htk, hkk, w15, hcase⟩ | ⟨rfl, rfl, fl, hp, gg, x15⟩)
  rotate_left
  · refine ⟨True, fun _ => ?_, fun _ => trivial, fun w => absurd rfl w⟩
    refine ⟨_, s_X13_close_er (by rw [x15.1]; exact x15.2.2), ?_⟩
    rintro _ _ - ⟨rfl, rfl⟩
    refine ⟨fun _ => ?_, fun q => absurd rfl q⟩
    rw [hp]
    exact ⟨gg, rfl, x15⟩
  have hT15 := w15.2.1.1.1
  rcases hcase with ⟨rfl, rfl, mk', fu, hfu, hp, hmk⟩ | ⟨rfl, rfl, vs, hp, hz, hfv⟩
  rotate_left
  · refine ⟨True, fun _ => ?_, fun _ => trivial, fun w => absurd rfl w⟩
    rw [hp]
    refine ⟨_, s_X13_closeSign (o := 0) hT15 (k := 67) (by decide), ?_⟩
    rintro v17 I17 - ⟨q17, ⟨e17, rfl, x17⟩ | ⟨e17, rfl, T17⟩⟩
    · refine ⟨fun _ => ?_, fun q => absurd rfl q⟩
      show hP _ _ _ _ _ _ (pNeed D 67 tk _) _ _ _
      rw [pNeed, if_neg e17]
      exact ⟨w15.1.tr q17.f.gg, rfl, x17⟩
    refine ⟨fun q => absurd q (by decide), fun _ => ?_⟩
    have w17 := w15.mv q17 T17 (by omega)
    have hT17 := w17.2.1.1.1
    have hl17 := T17.2.1
    refine ⟨_, s_X13_declare w17.2.1.1.2.1 (w17.len hD) (tk := tn) (by omega) hb (Or.inl rfl), ?_⟩
    rintro I18 ⟨g18, p18, f18⟩
    have e4 : I17 (m + 4) tn = tV D tn := by
      rw [(hT17.1.2.2.1 tn (by omega)).2.1, k2]
      unfold mkV
      rw [if_pos rfl]
    have e5 : I17 (m + 5) tn = tP D tn := hT17.1.at (by omega)
    rw [e4, e5, w17.2.1.2.1] at g18
    have w18 := w17.dc g18 p18 f18 rfl (by omega)
    show hP _ _ _ _ _ _ (pNeed D 67 tk _) _ _ _
    rw [pNeed, if_pos e17]
    refine ⟨w18.1, rfl, ?_⟩
    rw [hF, hz, hfv]
    exact w18
  have i44 : I15 m 44 = 0 := hT15.2.2.2.2.2
  refine ⟨False, fun w => w.elim, fun w => absurd w (by decide), fun _ => ⟨fun _ => ⟨hT15.vp, ?_⟩, fun w => absurd i44 w⟩⟩
  obtain ⟨fu, rfl⟩ : ∃ j, fu = j + 1 := ⟨fu - 1, by omega⟩
  refine ⟨_, s_X13_value (d := 39) (B := 9000) hi w15.2.1.1 (by omega) (by omega) (by omega) (by omega), ?_⟩
  rintro v20 I20 ⟨g20, k20, r20⟩
  have p1546 : I15 m 46 = I m 46 := w15.1.ps
  have p2046 : I20 m 46 = I m 46 := by rw [g20 _ _ (by omega) (by unfold eFk; omega)]; exact p1546
  have hps : I m 46 ≤ 0 ↔ I m 46 = 0 := by
    have := ps_le w15.2.1.1.2.1
    rw [p1546] at this
    exact this
  have hcm : nI cc + nI kk = nI (cc + kk) := nI_add _ _
  rw [hT15.ix, pArgs] at *
  rw [hcm, nI_leI (by omega) (by omega)]
  cases hr : pE D 39 tk with
  | error fl =>
    rw [hr] at r20 hp
    obtain ⟨x20, -⟩ := r20
    -- a fault: on to the end
    have er : ∀ K, (∀ a j, ¬ (a = m ∧ (j = 47 ∨ j = 48 ∨ j = 49)) → ¬ a = m + 31 → K a j = I20 a j) → gG I K m ∧ eX K m fl := fun K hK => ⟨fun a j q1 q2 => (hK a j (by unfold sFk eFk at q2; omega) (by omega)).trans ((w15.1.tr g20.gg) a j q1 q2), ⟨by rw [hK _ _ (by omega) (by omega)]; exact x20.1, by rw [hK _ _ (by omega) (by omega)]; exact x20.2.1, x20.2.2⟩⟩
    refine ⟨fun K => ∀ a j, ¬ (a = m ∧ (j = 47 ∨ j = 48 ∨ j = 49)) → ¬ a = m + 31 → K a j = I20 a j, fun I21 h21 => ⟨fun K => ∀ a j, ¬ (a = m ∧ (j = 47 ∨ j = 48 ∨ j = 49)) → ¬ a = m + 31 → K a j = I20 a j, fun I22 h22 => ⟨fun y23 I23 => y23 = 0 ∧ I22 = I23, ?_, fun w => ?_, fun _ => ⟨rfl, rfl⟩⟩, fun _ => h21, fun _ => ⟨fun _ => h21, fun _ => ⟨?_, fun I27 hI27 a j q1 q2 => by rw [hI27, gX, if_neg (by omega)]; exact h21 a j q1 q2⟩⟩⟩, fun _ _ _ _ _ => rfl, fun _ => ⟨fun _ => ⟨_, s_X13_note_any, fun I28 h28 a j q1 q2 => h28 a j (by omega)⟩, fun _ _ _ _ _ => rfl⟩⟩
    · rintro _ _ ⟨rfl, rfl⟩ I24 hI24
      obtain ⟨e1, e2⟩ := er I22 h22
      refine ⟨0, by omega, Or.inr ⟨rfl, rfl, fl, hp, fun a j q1 q2 => ?_, by rw [hI24, xup_k (by decide)]; exact e2.1, by rw [hI24, xup_k (by decide)]; exact e2.2.1, e2.2.2⟩⟩
      rw [hI24, gX, if_neg (by unfold sFk eFk at q2; omega)]
      exact e1 a j q1 q2
    · have := (er I22 h22).2
      rw [this.1] at w
      exact absurd this.2.2 (by rw [w]; decide)
    · rename_i hw1 hw2
      exact vp_in_nI (by omega) (by decide)
  | ok et =>
    obtain ⟨a, t1⟩ := et
    rw [hr] at r20 hp
    obtain ⟨E20, n55, hv⟩ := r20
    have hup := pE_up hT.1.1 39 tk htk a t1 hr
    have hfst := (pE_g hT.1.1 39 tk htk a t1 hr).f
    have hp5 : I15 (m + 5) tk = tFst a := by rw [hfst]; exact hT15.1.at (by omega)
    have w20 := w15.vl g20 k20 E20 (by omega)
    have hvw : v20 = vW (I m 46) fs Γ a := by rw [hv, p1546]; rfl
    rw [hp5, hvw]
    -- after the note
    refine ⟨fun I21 => hW I I21 m D fs st x t1 1 Γ (mnN (mnN y z) (mnN (nX Γ fs true true none a) (if ¬ many = -1 ∧ nI kk = many then nt 10 (tFst a) else none))) (g.1, g.2.1, fv, g.2.2.2), fun I21 w21 => ⟨fun I22 => hW I I22 m D fs st x t1 1 Γ (mnN (mnN y z) (mnN (nX Γ fs true true none a) (if ¬ many = -1 ∧ nI kk = many then nt 10 (tFst a) else none))) (g.1, g.2.1, if ¬ I m 46 = 0 ∧ kk < own then fv.set (cc + kk) (if b = 0 then vW (I m 46) fs Γ a else vW (I m 46) fs Γ a &&& 255) else fv, g.2.2.2), fun I22 w22 => ⟨fun y23 I23 => I22 = I23 ∧ y23 = bI (tK D t1 = 68), ?_, fun _ => ⟨_, s_X13_isSign w22.2.1.1.1 (k := 68) (by decide), ?_⟩, fun w => absurd w22.2.1.1.1.2.2.2.2.2 w⟩, fun w => ?_, fun w => ⟨fun w2 => ?_, fun w2 => ⟨vp_in_nI (by omega) (by decide), ?_⟩⟩⟩, fun w => ?_, fun w => ⟨fun w2 => ⟨_, s_X13_note w20.2.1.1.2.2.2.2.2 (by decide), fun I28 h28 => ?_⟩, fun w2 => ?_⟩⟩
    · rintro _ _ ⟨rfl, rfl⟩ I24 hI24
      rw [nI_up]
      have kz : ∀ s, arZ fs Γ many (mk' (nd 10 [] a s)) 0 = mnN (mnN z (mnN (nX Γ fs true true none a) (if ¬ many = -1 ∧ nI kk = many then nt 10 (tFst a) else none))) (arZ fs Γ many s (kk + 1)) ∧ arF (I m 46) fs Γ b own cc (mk' (nd 10 [] a s)) 0 g.2.2.1 = arF (I m 46) fs Γ b own cc s (kk + 1) (if ¬ I m 46 = 0 ∧ kk < own then fv.set (cc + kk) (if b = 0 then vW (I m 46) fs Γ a else vW (I m 46) fs Γ a &&& 255) else fv) := fun s => by
        obtain ⟨c1, c2⟩ := hmk (nd 10 [] a s)
        refine ⟨?_, c2⟩
        rw [c1, mnN_as]
        rfl
      rw [mnN_as] at w22
      rw [show (pAnd (.ok (a, t1)) fun a t1 => if tK D t1 = 68 then pAnd (pArgs D (pE D 39) fu (t1 + 1)) fun s t2 => .ok (nd 10 [] a s, t2) else .ok (nd 10 [] a lf, t1) : pR) = (if tK D t1 = 68 then pAnd (pArgs D (pE D 39) fu (t1 + 1)) fun s t2 => .ok (nd 10 [] a s, t2) else .ok (nd 10 [] a lf, t1)) from rfl] at hp
      by_cases e68 : tK D t1 = 68
      · rw [bI, if_pos e68, if_neg (by decide : ¬ (1 : Int32) = 0)] at hI24
        rw [if_pos e68, pAnd_as] at hp
        have ht1 := hT.1.1.nx' hup.2 e68
        have q24 := w22.2.1.1.1.on ht1
        rw [← hI24] at q24
        have w24 := w22.mv q24.2 q24.1 (by omega)
        exact ⟨D.length - (t1 + 1) + 1, by omega, Or.inl ⟨kk + 1, t1 + 1, _, _, rfl, ht1, by omega, w24, Or.inl ⟨by rw [bI, if_pos e68], rfl, fun s => mk' (nd 10 [] a s), fu, by omega, hp, kz⟩⟩⟩
      · rw [bI, if_neg e68, if_pos rfl] at hI24
        rw [if_neg e68] at hp
        have q24 : eQ I22 I24 m := fun a j hj => by rw [hI24, gX, if_neg (by omega)]
        have T22 := w22.2.1.1.1
        have T24 : eT I24 m D t1 1 := T22.up hup.2 (by omega) q24 (by rw [hI24, xup_s, Int32.add_zero]; exact T22.2.2.1) (by rw [hI24, xup_k (by decide)]; exact T22.2.2.2.1) (by rw [hI24, xup_k (by decide)]; exact T22.2.2.2.2.2)
        have w24 := w22.mv q24 T24 (Nat.le_refl _)
        obtain ⟨c1, c2⟩ := kz lf
        exact ⟨0, by omega, Or.inl ⟨kk + 1, t1, _, _, rfl, hup.2, by omega, w24, Or.inr ⟨by rw [bI, if_neg e68], rfl, mk' (nd 10 [] a lf), hp, by rw [c1]; exact mnN_n _, c2⟩⟩⟩
    · rintro _ _ - ⟨rfl, rfl⟩
      by_cases e68 : tK D t1 = 68
      · rw [bI, if_pos e68]
        refine ⟨fun q => absurd q (by decide), fun _ => ?_⟩
        exact ⟨rfl, rfl⟩
      · rw [bI, if_neg e68]
        refine ⟨fun _ => ?_, fun q => absurd rfl q⟩
        exact ⟨rfl, rfl⟩
    · rw [w21.1.ps, hps] at w
      rw [if_neg (c := ¬ I m 46 = 0 ∧ kk < own) (fun u => u.1 w)]
      exact w21
    · rw [w21.1.ps, hps] at w
      rw [if_neg (c := ¬ I m 46 = 0 ∧ kk < own) (fun u => absurd u.2 (by omega))]
      exact w21
    · intro I27 hI27
      rw [w21.1.ps, hps] at w
      rw [show ix (nI (cc + kk)) = cc + kk from nI_clamp (by omega)] at hI27
      rw [if_pos (c := ¬ I m 46 = 0 ∧ kk < own) ⟨w, by omega⟩]
      refine w21.gl (fun a j q1 q2 => by rw [hI27, gX, if_neg (by omega)]) ?_
      rw [hI27]
      exact w21.2.2.2.set
    · rw [if_neg (fun u => u.1 w), mnN_n]
      exact w20
    · rw [if_pos ⟨w, w2⟩, ← mnN_as]
      exact w20.nt h28.1 h28.2
    · rw [if_neg (fun u => w2 u.2), mnN_n]
      exact w20
end ARV
