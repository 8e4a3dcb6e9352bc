/-! ===== the Model: ints outside of functions ===== -/
set_option maxRecDepth 100000
/-- a word more: how things stand then, where it lies -/
def glI (g : glb) : glb × Int32 := if g.1 < 2000 then ((g.1 + 1, g.2.1 ++ [(1, 0, nI g.2.2.1.length)], g.2.2.1 ++ [0], g.2.2.2), nI g.2.2.1.length) else if g.1 = 2000 then ((g.1 + 1, g.2.1, g.2.2.1, nI g.2.2.1.length), nI g.2.2.1.length) else ((g.1 + 1, g.2.1, g.2.2.1, g.2.2.2), g.2.2.2)
def zGl (fs : List fnc) (Γ : List dcl) (g : glb) (nm p : Int32) : nte := mnN (twN Γ fs 0 nm p) (if g.1 + 1 ≤ 2000 then none else nt 11 p)
section GL2
variable {m t o st B tn t' o' t2 o2 : Nat} {I J K : xII} {D : tkL} {fs : List fnc} {Γ Γ' : List dcl} {x y z : nte} {g g' : glb} {fl : Int32 × Int32}
/-- only words, cells and their rows differ -/
theorem hW.gl (h : hW I J m D fs st x t' o' Γ y g) (hf : ∀ a j, ¬ (a = m ∧ (j = 36 ∨ j = 37)) → ¬ (m + 28 ≤ a ∧ a ≤ m + 31) → K a j = J a j) (hg : gR K m g') : hW I K m D fs st x t' o' Γ y g' := by
  obtain ⟨a1, ⟨h1, h2, h3, h4, h5⟩, a3, a4⟩ := h
  have fld : ∀ j, ¬ (j = 36 ∨ j = 37) → K m j = J m j := fun j hj => hf m j (fun w => hj w.2) (by omega)
  exact ⟨a1.tr fun a j q1 q2 => hf a j (by omega) (by omega), ⟨h1.fr2 (fun a j q1 q2 => hf a j (by omega) (by omega)) ((fld 54 (by omega)).trans h1.2.2.1) ((fld 60 (by omega)).trans h1.2.2.2.1), (fld 15 (by omega)).trans h2, h3, h4, fun z => by rw [fld 14 (by omega)]; exact h5 (by rw [← fld 46 (by omega)]; exact z)⟩, a3.tr (fun a j hj => hf a j (by omega) (by omega)) (Nat.le_refl _), hg⟩
theorem s_X13_globalAt (h : hE I m D fs t o st x Γ) (hg : gR I m g) (hwd : g.1 ≤ 1000000) (htn : tn + 1 < D.length) (k2 : tK D tn = 2) : w_X13_globalAt m (nI tn) (fun v J => v = nI g.1 ∧ hW I J m D fs st x t o Γ (zGl fs Γ g (tV D tn) (tP D tn)) (glI g).1 ∧ J (m + 29) (ix (f_J11_min v 2000)) = (glI g).2) I := by
  have hT := h.1.1
  have hD4 := hT.1.1.2.1
  have w0 := hW.rf h hg
  have hxn : ix (nI tn) = tn := nI_clamp (by omega)
  have e4 : I (m + 4) tn = tV D tn := by
    rw [(hT.1.2.2.1 tn htn).2.1, k2]
    unfold mkV
    rw [if_pos rfl]
  have e5 : I (m + 5) tn = tP D tn := hT.1.at htn
  unfold w_X13_globalAt
  refine ⟨_, s_X13_twice (sc := 0) w0.2.1.1.2.1 w0.2.1.1.2.2.2.2.2 w0.2.1.2.1 (by omega) (tk := tn) (by omega), ?_⟩
  rintro I1 ⟨n1, f1⟩
  rw [e4, e5] at f1
  have w1 := w0.nt n1 f1
  rw [show mnN none (twN Γ fs (nI 0) (tV D tn) (tP D tn)) = twN Γ fs 0 (tV D tn) (tP D tn) from rfl] at w1
  have e51 : I1 (m + 5) tn = tP D tn := by rw [n1 _ _ (by omega)]; exact e5
  obtain ⟨r1, r2, r3, r4, r5, r6, r7, r8, r9⟩ := w1.2.2.2
  rw [r1, nI_up, hxn, e51]
  intro I2 hI2
  have f2 : ∀ a j, ¬ (a = m ∧ j = 36) → I2 a j = I1 a j := fun a j hj => by rw [hI2, gX, if_neg hj]
  have p236 : I2 m 36 = nI (g.1 + 1) := by rw [hI2, xup_s]
  clear hI2
  -- notes are told on a state whose words are one more: the row is given at the end
  have hle : nI (g.1 + 1) ≤ 2000 ↔ g.1 + 1 ≤ 2000 := nI_leI (b := 2000) (by omega) (by omega)
  have hle2 : (2000 : Int32) ≤ nI g.1 ↔ 2000 ≤ g.1 := nI_leI (a := 2000) (by omega) (by omega)
  have hlt2 : (2000 : Int32) < nI g.1 ↔ 2000 < g.1 := nI_ltI (a := 2000) (by omega) (by omega)
  rw [hle, hlt2, show ix (nI g.1) = g.1 from nI_clamp (by omega)]
  have nfd : nFd I2 m (mN (I m 46) x (twN Γ fs 0 (tV D tn) (tP D tn))) := w1.2.1.1.2.2.2.2.2.fr (f2 _ _ (by omega)) (f2 _ _ (by omega)) (f2 _ _ (by omega))
  have p46 : I2 m 46 = I m 46 := by rw [f2 _ _ (by omega)]; exact w1.1.ps
  refine ⟨fun I3 => (∀ a j, ¬ (a = m ∧ (j = 36 ∨ j = 47 ∨ j = 48 ∨ j = 49)) → I3 a j = I1 a j) ∧ I3 m 36 = nI (g.1 + 1) ∧ nFd I3 m (mN (I m 46) x (zGl fs Γ g (tV D tn) (tP D tn))), fun I3 hJ3 => ?_, fun z => ⟨fun a j hj => f2 a j (by omega), p236, by rw [zGl, if_pos z, mnN_n]; exact nfd⟩, fun z => ⟨vp_in_nI (by omega) (by decide), _, s_X13_note nfd (by decide), fun I13 h13 => ?_⟩⟩
  rotate_left
  · obtain ⟨n13, f13⟩ := h13
    rw [p46, mN_as] at f13
    exact ⟨fun a j hj => (n13 a j (by omega)).trans (f2 a j (by omega)), (n13 _ _ (by omega)).trans p236, by rw [zGl, if_neg z]; exact f13⟩
  obtain ⟨f3, p336, nfd3⟩ := hJ3
  -- the state with notes, words as before
  have base : ∀ (K : xII) (g' : glb), (∀ a j, ¬ (a = m ∧ (j = 36 ∨ j = 37 ∨ j = 47 ∨ j = 48 ∨ j = 49)) → ¬ (m + 28 ≤ a ∧ a ≤ m + 31) → K a j = I1 a j) → nFd K m (mN (I m 46) x (zGl fs Γ g (tV D tn) (tP D tn))) → gR K m g' → hW I K m D fs st x t o Γ (zGl fs Γ g (tV D tn) (tP D tn)) g' := by
    intro K g' hf hn hgr
    obtain ⟨a1, ⟨⟨⟨t1, t2, t3, t4, t5, t6⟩, e2, e3, e4', e5', e6⟩, h2, h3, h4, h5⟩, a3, a4⟩ := w1
    have fld : ∀ j, ¬ (j = 36 ∨ j = 37 ∨ j = 47 ∨ j = 48 ∨ j = 49) → K m j = I1 m j := fun j hj => hf m j (fun w => hj w.2) (by omega)
    exact ⟨fun a j q1 q2 => (hf a j (by unfold sFk eFk at q2; omega) (by omega)).trans (a1 a j q1 q2), ⟨⟨⟨t1.fr2 (fld 7 (by omega)) (fld 8 (by omega)) fun a j q1 q2 => hf a j (by omega) (by omega), t2, (fld 42 (by omega)).trans t3, (fld 43 (by omega)).trans t4, t5, (fld 44 (by omega)).trans t6⟩, e2.fr2 (fld 46 (by omega)) (fld 14 (by omega)) (fld 24 (by omega)) fun a j q1 q2 => hf a j (by omega) (by omega), (fld 54 (by omega)).trans e3, (fld 60 (by omega)).trans e4', (fld 70 (by omega)).trans e5', hn⟩, (fld 15 (by omega)).trans h2, h3, h4, fun z => by rw [fld 14 (by omega)]; exact h5 (by rw [← fld 46 (by omega)]; exact z)⟩, a3.tr (fun a j hj => hf a j (by omega) (by omega)) (Nat.le_refl _), hgr⟩
  refine ⟨fun I4 => (∀ a j, ¬ (a = m ∧ (j = 36 ∨ j = 47 ∨ j = 48 ∨ j = 49)) → ¬ (m + 28 ≤ a ∧ a ≤ m + 30 ∧ j = g.1) → I4 a j = I1 a j) ∧ I4 m 36 = nI (g.1 + 1) ∧ nFd I4 m (mN (I m 46) x (zGl fs Γ g (tV D tn) (tP D tn))) ∧ (g.1 ≤ 2000 → I4 (m + 28) g.1 = 1 ∧ I4 (m + 30) g.1 = 0 ∧ I4 (m + 29) g.1 = nI g.2.2.1.length) ∧ (2000 < g.1 → I4 (m + 29) 2000 = g.2.2.2), fun I4 hJ4 => ?_, fun z => ⟨fun a j q1 q2 => f3 a j q1, p336, nfd3, fun w => absurd w (by omega), fun _ => by rw [f3 _ _ (by omega)]; exact r9⟩, fun z => ⟨vp_in_nI (by omega) (by decide), ?_⟩⟩
  rotate_left
  · intro I9 hI9 I10 hI10 I11 hI11
    rw [f3 _ _ (by omega), r2] at hI11
    have e : I11 = xup (xup (xup I3 (m + 28) g.1 1) (m + 30) g.1 0) (m + 29) g.1 (nI g.2.2.1.length) := by rw [hI11, hI10, hI9]
    have gg : ∀ a j, ¬ (m + 28 ≤ a ∧ a ≤ m + 30 ∧ j = g.1) → I11 a j = I3 a j := fun a j q => by rw [e, gX, if_neg (by omega), gX, if_neg (by omega), gX, if_neg (by omega)]
    refine ⟨fun a j q1 q2 => (gg a j q2).trans (f3 a j q1), (gg _ _ (by omega)).trans p336, nfd3.fr (gg _ _ (by omega)) (gg _ _ (by omega)) (gg _ _ (by omega)), fun _ => ⟨?_, ?_, ?_⟩, fun w => absurd w z⟩
    · rw [e]; simp [gX]
    · rw [e]; simp [gX]
    · rw [e]; simp [gX]
  obtain ⟨f4, p436, nfd4, c4, d4⟩ := hJ4
  rw [hle2]
  have i437 : I4 m 37 = nI g.2.2.1.length := by rw [f4 _ _ (by omega) (by omega)]; exact r2
  refine ⟨fun z => ⟨rfl, ?_, ?_⟩, fun z => ?_⟩
  · by_cases z2 : g.1 = 2000
    · have hgl : (glI g).1 = (g.1 + 1, g.2.1, g.2.2.1, nI g.2.2.1.length) := by unfold glI; rw [if_neg (by omega), if_pos z2]
      rw [hgl]
      refine base I4 _ (fun a j q1 q2 => f4 a j (by omega) (by omega)) nfd4 ⟨p436, i437, by dsimp only; omega, r4, fun k q hk => ?_, fun i v hv => by rw [f4 _ _ (by omega) (by omega)]; exact r6 i v hv, r7, fun w => absurd w (by dsimp only; omega), ?_⟩
      · have hk' := (List.getElem?_eq_some_iff.mp hk).1
        dsimp only at hk'
        rw [f4 _ _ (by omega) (by omega), f4 _ _ (by omega) (by omega), f4 _ _ (by omega) (by omega)]
        exact r5 k q hk
      · have := (c4 (by omega)).2.2
        rw [z2] at this
        exact this
    · have hgl : (glI g).1 = (g.1 + 1, g.2.1, g.2.2.1, g.2.2.2) := by unfold glI; rw [if_neg (by omega), if_neg z2]
      rw [hgl]
      refine base I4 _ (fun a j q1 q2 => f4 a j (by omega) (by omega)) nfd4 ⟨p436, i437, by dsimp only; omega, r4, fun k q hk => ?_, fun i v hv => by rw [f4 _ _ (by omega) (by omega)]; exact r6 i v hv, r7, fun w => absurd w (by dsimp only; omega), d4 (by omega)⟩
      have hk' := (List.getElem?_eq_some_iff.mp hk).1
      dsimp only at hk'
      rw [f4 _ _ (by omega) (by omega), f4 _ _ (by omega) (by omega), f4 _ _ (by omega) (by omega)]
      exact r5 k q hk
  · have hmin : ix (f_J11_min (nI g.1) 2000) = 2000 := by
      unfold f_J11_min
      by_cases z2 : (2000 : Int32) < nI g.1
      · rw [if_pos z2]
        rfl
      · have : g.1 = 2000 := by
          have : ¬ 2000 < g.1 := fun w => z2 (hlt2.mpr w)
          omega
        rw [if_neg z2, this]
        rfl
    rw [hmin]
    unfold glI
    rw [if_neg (by omega)]
    by_cases z2 : g.1 = 2000
    · rw [if_pos z2]
      have := (c4 (by omega)).2.2
      rw [z2] at this
      exact this
    · rw [if_neg z2]
      exact d4 (by omega)
  · rw [i437, show ix (nI g.2.2.1.length) = g.2.2.1.length from nI_clamp (by omega), nI_up]
    refine ⟨vp_in_nI (by omega) (by decide), ?_⟩
    intro I6 hI6 I7 hI7
    have g7 : ∀ a j, ¬ (a = m ∧ j = 37) → ¬ (a = m + 31 ∧ j = g.2.2.1.length) → I7 a j = I4 a j := fun a j q1 q2 => by rw [hI7, gX, if_neg q1, hI6, gX, if_neg q2]
    have hgl : glI g = ((g.1 + 1, g.2.1 ++ [(1, 0, nI g.2.2.1.length)], g.2.2.1 ++ [0], g.2.2.2), nI g.2.2.1.length) := by unfold glI; rw [if_pos (by omega)]
    have r8' := r8 (by omega)
    refine ⟨rfl, ?_, ?_⟩
    · rw [hgl]
      refine base I7 _ (fun a j q1 q2 => (g7 a j (by omega) (by omega)).trans (f4 a j (by omega) (by omega))) (nfd4.fr (g7 _ _ (by omega) (by omega)) (g7 _ _ (by omega) (by omega)) (g7 _ _ (by omega) (by omega))) ⟨(g7 _ _ (by omega) (by omega)).trans p436, ?_, ?_, ?_, fun k q hk => ?_, fun i v hv => ?_, ?_, fun _ => ?_, ?_⟩
      · rw [hI7, xup_s, List.length_append]
        rfl
      · dsimp only
        rw [List.length_append]
        show _ + 1 ≤ 4 * (g.1 + 1)
        omega
      · dsimp only
        rw [List.length_append]
        show _ + 1 ≤ 8000
        omega
      · dsimp only at hk
        rw [g7 _ _ (by omega) (by omega), g7 _ _ (by omega) (by omega), g7 _ _ (by omega) (by omega)]
        rcases Nat.lt_or_ge k g.2.1.length with w | w
        · rw [List.getElem?_append_left w] at hk
          rw [f4 _ _ (by omega) (by omega), f4 _ _ (by omega) (by omega), f4 _ _ (by omega) (by omega)]
          exact r5 k q hk
        · rw [List.getElem?_append_right w] at hk
          have hk0 : k - g.2.1.length = 0 := by
            have := (List.getElem?_eq_some_iff.mp hk).1
            simp only [List.length_cons, List.length_nil] at this
            omega
          rw [hk0] at hk
          cases hk
          obtain rfl : k = g.1 := by omega
          exact c4 (by omega)
      · dsimp only at hv
        rcases Nat.lt_or_ge i g.2.2.1.length with w | w
        · rw [List.getElem?_append_left w] at hv
          rw [g7 _ _ (by omega) (by omega), f4 _ _ (by omega) (by omega)]
          exact r6 i v hv
        · rw [List.getElem?_append_right w] at hv
          have hk0 : i - g.2.2.1.length = 0 := by
            have := (List.getElem?_eq_some_iff.mp hv).1
            simp only [List.length_cons, List.length_nil] at this
            omega
          rw [hk0] at hv
          cases hv
          obtain rfl : i = g.2.2.1.length := by omega
          rw [hI7, gX, if_neg (by omega), hI6, xup_s]
      · dsimp only
        rw [List.length_append]
        show _ + 1 ≤ 2000
        omega
      · dsimp only
        rw [List.length_append]
        show _ + 1 = _
        omega
      · rw [g7 _ _ (by omega) (by omega), f4 _ _ (by omega) (by omega)]
        exact r9
    · have hmin : ix (f_J11_min (nI g.1) 2000) = g.1 := by
        unfold f_J11_min
        rw [if_neg (fun w => absurd (hlt2.mp w) (by omega))]
        exact nI_clamp (by omega)
      rw [hmin, hgl, g7 _ _ (by omega) (by omega)]
      exact (c4 (by omega)).2.2
theorem s_X13_globalInt (hD : D.length ≤ 1800) (h : hE I m D fs t o st x Γ) (hg : gR I m g) (hwd : g.1 ≤ 1000000) (htn : tn + 1 < D.length) (k2 : tK D tn = 2) (hl2 : 2 * Γ.length + 2 ≤ t) : w_X13_globalInt m (nI tn) (fun v J => v = 1 ∧ hW I J m D fs st x t o (tellD (I m 46) (tV D tn, 1, tP D tn, 0, 0, (glI g).2, 1, 0) Γ) (zGl fs Γ g (tV D tn) (tP D tn)) (glI g).1) I := by
  have hT := h.1.1
  have hD4 := hT.1.1.2.1
  unfold w_X13_globalInt
  refine ⟨_, s_X13_globalAt h hg hwd htn k2, ?_⟩
  rintro v1 I1 ⟨rfl, w1, c1⟩
  have hmin : vp_in (f_J11_min (nI g.1) 2000) 2001 := by
    unfold f_J11_min
    split
    · exact vp_in_nI (n := 2000) (by decide) (by decide)
    · rename_i z
      have hlt2 : (2000 : Int32) < nI g.1 ↔ 2000 < g.1 := nI_ltI (a := 2000) (by omega) (by omega)
      have : ¬ 2000 < g.1 := fun w => z (hlt2.mpr w)
      exact vp_in_nI (by omega) (by decide)
  rw [c1]
  refine ⟨hmin, _, s_X13_declare w1.2.1.1.2.1 (w1.len hD) (tk := tn) (by omega) (Or.inl rfl) (Or.inl rfl), ?_⟩
  rintro I3 ⟨g3, p3, f3⟩
  have hT1 := w1.2.1.1.1
  have e4 : I1 (m + 4) tn = tV D tn := by
    rw [(hT1.1.2.2.1 tn htn).2.1, k2]
    unfold mkV
    rw [if_pos rfl]
  have e5 : I1 (m + 5) tn = tP D tn := hT1.1.at htn
  rw [e4, e5, w1.2.1.2.1] at g3
  exact ⟨rfl, w1.dc g3 p3 f3 rfl hl2⟩
end GL2
