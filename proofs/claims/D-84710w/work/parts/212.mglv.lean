/-! ===== the Model: ints with a value outside of functions ===== -/
set_option maxRecDepth 100000
/-! printed by tools/gglx.py -/
def glX (m : Nat) (v17 : Int32) (Q : Int32 → xII → Prop) (I20 : xII) : Prop := ∃ R23 : Int32 → xII → Prop, w_X13_globalAt m v17 R23 I20 ∧ (∀ (v23 : Int32) (I23 : xII), R23 v23 I23 → (∀ I24 : xII, I24 = xup I23 m 42 ((I23 m 42) + (1 : Int32)) → (∃ R25 : Int32 → xII → Prop, w_X13_value m R25 I24 ∧ (∀ (v25 : Int32) (I25 : xII), R25 v25 I25 → ((((I25 m 44) ≤ 0 → ∃ J26 : xII → Prop, (∀ (I26 : xII), J26 I26 → vp_in (f_J11_min v23 (2000 : Int32)) 2001 ∧ (∃ R28 : xII → Prop, w_X13_declare m v17 (1 : Int32) (0 : Int32) (I26 (m + 29) (ix (f_J11_min v23 (2000 : Int32)))) (1 : Int32) (0 : Int32) R28 I26 ∧ (∀ I28 : xII, R28 I28 → (∃ R29 : Int32 → xII → Prop, w_X13_sign m (29 : Int32) R29 I28 ∧ (∀ (v29 : Int32) (I29 : xII), (v29 = 0 ∨ v29 = 1) → R29 v29 I29 → (Q v29 I29)))))) ∧ (((I25 m 46) ≤ 0 → J26 I25) ∧ (¬ (I25 m 46) ≤ 0 → (((2000 : Int32) ≤ v23 → J26 I25) ∧ (¬ (2000 : Int32) ≤ v23 → vp_in v23 2001 ∧ (vp_in (I25 (m + 29) (ix v23)) 8008 ∧ (∀ I32 : xII, I32 = xup I25 (m + 31) (ix (I25 (m + 29) (ix v23))) v25 → (J26 I32)))))))) ∧ (¬ (I25 m 44) ≤ 0 → Q (0 : Int32) I25)))))))
section GLX
variable {m t o st B tn t' o' t2 o2 k T : Nat} {I J K : xII} {D : tkL} {fs : List fnc} {Γ Γ' : List dcl} {x y z : nte} {g g' : glb} {s : gS}
theorem s_glX (hi : inD D) (hD : D.length ≤ 1800) (h : hE I m D fs t 0 st x Γ) (hg : gR I m g) (hwd : g.1 ≤ 1000000) (htn : tn + 1 = t) (k2 : tK D tn = 2) (hl2 : 2 * Γ.length + 2 ≤ t) (e72 : tK D t = 72) (hst : st + 4 * (D.length - t) ≤ 9000) {Q : Int32 → xII → Prop} (hQ : ∀ v K, hP I m D fs st x (pAnd (pE D 40 (t + 1)) fun e t1 => pNeed D 69 t1 (.ok (nd 41 [tP D tn, tV D tn] e lf, t1 + 1))) (fun e => glV (I m 46) fs Γ g (tP D tn) (tV D tn) (tLt e)) v K → Q v K) : glX m (nI tn) Q I := by
  have hT := h.1.1
  have hl := hT.2.1
  have hD4 := hT.1.1.2.1
  unfold glX
  refine ⟨_, s_X13_globalAt h hg hwd (by omega) k2, ?_⟩
  rintro v23 I23 ⟨rfl, w23, c23⟩
  intro I24 hI24
  have hT23 := w23.2.1.1.1
  have ht1 := hT.1.1.nx' hl e72
  have q24 := hT23.on ht1
  rw [← hI24] at q24
  have w24 := w23.mv q24.2 q24.1 (by omega)
  have c24 : I24 (m + 29) (ix (f_J11_min (nI g.1) 2000)) = (glI g).2 := by rw [q24.2 _ _ (by omega)]; exact c23
  clear hI24
  have hle2 : (2000 : Int32) ≤ nI g.1 ↔ 2000 ≤ g.1 := nI_leI (a := 2000) (by omega) (by omega)
  have hmin : vp_in (f_J11_min (nI g.1) 2000) 2001 := by
    unfold f_J11_min
    split
    · exact vp_in_nI (n := 2000) (by decide) (by decide)
    · rename_i z
      have hlt2 : (2000 : Int32) < nI g.1 ↔ 2000 < g.1 := nI_ltI (a := 2000) (by omega) (by omega)
      have : ¬ 2000 < g.1 := fun w => z (hlt2.mpr w)
      exact vp_in_nI (by omega) (by decide)
  refine ⟨_, s_X13_value (d := 40) (B := 9000) hi w24.2.1.1 (by omega) (by omega) (by omega) (by omega), ?_⟩
  rintro v25 I25 ⟨g25, k25, r25⟩
  cases hr : pE D 40 (t + 1) with
  | error fl =>
    rw [hr] at r25 hQ
    refine ⟨fun z => absurd z (Int32.not_le.mpr (by rw [r25.1.1]; exact r25.1.2.2)), fun _ => ?_⟩
    exact hQ _ _ ⟨w24.1.tr g25.gg, rfl, r25.1⟩
  | ok et =>
    obtain ⟨e, t1⟩ := et
    rw [hr] at r25 hQ
    obtain ⟨E25, n55, hv⟩ := r25
    have hup := pE_up hT.1.1 40 (t + 1) ht1 e t1 hr
    have w25 := w24.vl g25 k25 E25 (by omega)
    have c25 : I25 (m + 29) (ix (f_J11_min (nI g.1) 2000)) = (glI g).2 := by rw [g25 _ _ (by omega) (by omega)]; exact c24
    have p2446 : I24 m 46 = I m 46 := w24.1.ps
    have p2546 : I25 m 46 = I m 46 := w25.1.ps
    have hps : I25 m 46 ≤ 0 ↔ I m 46 = 0 := by rw [ps_le w25.2.1.1.2.1, p2546]
    have hvw : v25 = vW (I m 46) fs Γ e := by rw [hv, p2446]; rfl
    have i2544 : I25 m 44 = 0 := E25.1.2.2.2.2.2
    obtain ⟨⟨ek, eds, el, er, he⟩, -⟩ := pE_g hT.1.1 40 (t + 1) ht1 e t1 hr
    refine ⟨fun _ => ?_, fun z => absurd (by rw [i2544]; decide) z⟩
    show ∃ J26 : xII → Prop, (∀ I26 : xII, J26 I26 → vp_in _ 2001 ∧ _) ∧ _
    refine ⟨fun I26 => hW I I26 m D fs st x t1 0 Γ (mnN (zGl fs Γ g (tV D tn) (tP D tn)) (nX Γ fs true true none e)) (if ¬ I m 46 = 0 ∧ g.1 < 2000 then ((glI g).1.1, (glI g).1.2.1, (glI g).1.2.2.1.set g.2.2.1.length (vW (I m 46) fs Γ e), (glI g).1.2.2.2) else (glI g).1) ∧ I26 (m + 29) (ix (f_J11_min (nI g.1) 2000)) = (glI g).2, fun I26 hJ => ⟨hmin, ?_⟩, fun z => ⟨by rw [if_neg (fun w => w.1 (hps.mp z))]; exact w25, c25⟩, fun z => ⟨fun z2 => ⟨by rw [if_neg (fun w => absurd w.2 (by have := hle2.mp z2; omega))]; exact w25, c25⟩, fun z2 => ?_⟩⟩
    · obtain ⟨w26, c26⟩ := hJ
      rw [c26]
      have hT26 := w26.2.1.1.1
      refine ⟨_, s_X13_declare w26.2.1.1.2.1 (w26.len hD) (tk := tn) (by omega) (Or.inl rfl) (Or.inl rfl), ?_⟩
      rintro I28 ⟨g28, p28, f28⟩
      have e4 : I26 (m + 4) tn = tV D tn := by
        rw [(hT26.1.2.2.1 tn (by omega)).2.1, k2]
        unfold mkV
        rw [if_pos rfl]
      have e5 : I26 (m + 5) tn = tP D tn := hT26.1.at (by omega)
      rw [e4, e5, w26.2.1.2.1] at g28
      have w28 := w26.dc g28 p28 f28 rfl (by omega)
      refine ⟨_, s_X13_sign w28.2.1.1.1 (k := 69) (by decide), ?_⟩
      rintro v29 I29 - ⟨q29, ⟨e29, rfl, x29⟩ | ⟨e29, rfl, T29⟩⟩
      · refine hQ _ _ ?_
        show hP _ _ _ _ _ _ (pNeed D 69 t1 _) _ _ _
        rw [pNeed, if_neg e29]
        exact ⟨w28.1.tr q29.f.gg, rfl, x29⟩
      · refine hQ _ _ ?_
        show hP _ _ _ _ _ _ (pNeed D 69 t1 _) _ _ _
        rw [pNeed, if_pos e29]
        have w29 := w28.mv q29 T29 (by omega)
        refine ⟨w29.1, rfl, ?_⟩
        rw [he] at w29 ⊢
        exact w29
    · have hg2 : g.1 < 2000 := by
        have : ¬ 2000 ≤ g.1 := fun w => z2 (hle2.mpr w)
        omega
      have hxg : ix (nI g.1) = g.1 := nI_clamp (by omega)
      obtain ⟨r1, r2, r3, r4, r5, r6, r7, r8, r9⟩ := hg
      have r8' := r8 (by omega)
      have hgl : glI g = ((g.1 + 1, g.2.1 ++ [(1, 0, nI g.2.2.1.length)], g.2.2.1 ++ [0], g.2.2.2), nI g.2.2.1.length) := by unfold glI; rw [if_pos hg2]
      have hmn : f_J11_min (nI g.1) 2000 = nI g.1 := by
        unfold f_J11_min
        have hlt2 : (2000 : Int32) < nI g.1 ↔ 2000 < g.1 := nI_ltI (a := 2000) (by omega) (by omega)
        rw [if_neg (fun w => absurd (hlt2.mp w) (by omega))]
      have c25' : I25 (m + 29) g.1 = nI g.2.2.1.length := by
        rw [hmn, hxg, hgl] at c25
        exact c25
      rw [hxg, c25', show ix (nI g.2.2.1.length) = g.2.2.1.length from nI_clamp (by omega)]
      refine ⟨vp_in_nI (by omega) (by decide), vp_in_nI (by omega) (by decide), ?_⟩
      intro I32 hI32
      rw [if_pos ⟨fun w => z (hps.mpr w), hg2⟩]
      refine ⟨w25.gl (fun a j q1 q2 => by rw [hI32, gX, if_neg (by omega)]) ?_, ?_⟩
      · rw [hI32, hvw]
        exact w25.2.2.2.set
      · rw [hI32, gX, if_neg (by omega)]
        exact c25
end GLX
