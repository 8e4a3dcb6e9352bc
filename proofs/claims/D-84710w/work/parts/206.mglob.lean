/-! ===== the Model: constants and ints outside of functions ===== -/
set_option maxRecDepth 100000
/-- as gE, with o open -/
def hE (I : xII) (m : Nat) (D : tkL) (fs : List fnc) (t o st : Nat) (x : nte) (Γ : List dcl) : Prop := eE I m D Γ fs false t o st 0 x ∧ I m 15 = 0 ∧ 2 * Γ.length ≤ t ∧ (∀ q ∈ Γ, ∃ s, s ≤ 0 ∧ q.sc = nI s) ∧ (I m 46 = 0 → I m 14 = 0)
/-- what something told that is no function may change -/
def gG (I J : xII) (m : Nat) : Prop := ∀ a j, (a < m + 10 ∨ (m + 17 < a ∧ a < m + 28) ∨ m + 39 < a) → ¬ (a = m ∧ (sFk j ∨ j = 36 ∨ j = 37)) → J a j = I a j
/-- words, cells, their rows -/
abbrev glb : Type := Nat × List (Int32 × Int32 × Int32) × List Int32 × Int32
def gR (I : xII) (m : Nat) (g : glb) : Prop := I m 36 = nI g.1 ∧ I m 37 = nI g.2.2.1.length ∧ g.2.2.1.length ≤ 4 * g.1 ∧ g.2.2.1.length ≤ 8000 ∧ (∀ k q, g.2.1[k]? = some q → I (m + 28) k = q.1 ∧ I (m + 30) k = q.2.1 ∧ I (m + 29) k = q.2.2) ∧ (∀ i v, g.2.2.1[i]? = some v → I (m + 31) i = v) ∧ g.2.1.length ≤ 2000 ∧ (g.1 ≤ 2000 → g.2.1.length = g.1) ∧ I (m + 29) 2000 = g.2.2.2
def hW (I J : xII) (m : Nat) (D : tkL) (fs : List fnc) (st : Nat) (x : nte) (t' o' : Nat) (Γ : List dcl) (y : nte) (g : glb) : Prop := gG I J m ∧ hE J m D fs t' o' st (mN (I m 46) x y) Γ ∧ eK I J m st 0 ∧ gR J m g
section GLO
variable {m t o st B tn t' o' t2 o2 : Nat} {I J K : xII} {D : tkL} {fs : List fnc} {Γ Γ' : List dcl} {x y z : nte} {g : glb} {fl : Int32 × Int32}
theorem gG.rf : gG I I m := fun _ _ _ _ => rfl
theorem gG.tr (h : gG I J m) (h' : gG J K m) : gG I K m := fun a k h1 h2 => (h' a k h1 h2).trans (h a k h1 h2)
theorem eG2.gg (h : eG2 I J m) : gG I J m := fun a j h1 h2 => h a j (by omega) (fun w => h2 ⟨w.1, by
  rcases w.2 with u | u
  · exact Or.inl (Or.inl u)
  · unfold sFk
    omega⟩)
theorem eG.gg (h : eG I J m) : gG I J m := h.g2.gg
theorem gG.ps (h : gG I J m) : J m 46 = I m 46 := h _ _ (by omega) (by unfold sFk eFk; omega)
theorem gR.fr (h : gR J m g) (h36 : K m 36 = J m 36) (h37 : K m 37 = J m 37) (hf : ∀ a j, m + 28 ≤ a → a ≤ m + 31 → K a j = J a j) : gR K m g := by
  obtain ⟨h1, h2, h3, h4, h5, h6, h7, h8, h9⟩ := h
  refine ⟨h36.trans h1, h37.trans h2, h3, h4, fun k q hk => ?_, fun i v hv => (hf _ _ (by omega) (by omega)).trans (h6 i v hv), h7, h8, (hf _ _ (by omega) (by omega)).trans h9⟩
  rw [hf _ _ (by omega) (by omega), hf _ _ (by omega) (by omega), hf _ _ (by omega) (by omega)]
  exact h5 k q hk
theorem hW.rf (h : hE I m D fs t o st x Γ) (hg : gR I m g) : hW I I m D fs st x t o Γ none g := ⟨gG.rf, by rw [mN_n]; exact h, fun _ _ _ => rfl, hg⟩
theorem hW.mv (h : hW I J m D fs st x t' o' Γ y g) (hq : eQ J K m) (hT : eT K m D t2 o2) (ht : t' ≤ t2) : hW I K m D fs st x t2 o2 Γ y g := by
  obtain ⟨a1, ⟨h1, h2, h3, h4, h5⟩, a3, a4⟩ := h
  have w := (eW.rf h1).mv hq hT
  have hE2 := w.2.1
  rw [mN_n] at hE2
  have fld : ∀ j, ¬ (j = 42 ∨ j = 43 ∨ j = 44 ∨ j = 45) → K m j = J m j := fun j hj => hq m j (fun w => hj w.2)
  exact ⟨a1.tr hq.f.gg, ⟨hE2, (fld 15 (by omega)).trans h2, by omega, h4, fun z => by rw [fld 14 (by omega)]; exact h5 (by rw [← fld 46 (by omega)]; exact z)⟩, a3.tr (fun a j hj => hq a j (by omega)) (Nat.le_refl _), a4.fr (fld 36 (by omega)) (fld 37 (by omega)) fun a j q1 q2 => hq a j (by omega)⟩
theorem hW.nt (h : hW I J m D fs st x t' o' Γ y g) (hN : eN J K m) (hF : nFd K m (mN (J m 46) (mN (I m 46) x y) z)) : hW I K m D fs st x t' o' Γ (mnN y z) g := by
  obtain ⟨a1, ⟨h1, h2, h3, h4, h5⟩, a3, a4⟩ := h
  have w := (eW.rf h1).nt (z := z) hN (by rw [mN_n]; exact hF)
  have hE2 := w.2.1
  rw [show mnN none z = z from rfl, a1.ps, mN_as] at hE2
  have fld : ∀ j, ¬ (j = 47 ∨ j = 48 ∨ j = 49) → K m j = J m j := fun j hj => hN m j (fun w => hj w.2)
  exact ⟨a1.tr hN.g.gg, ⟨hE2, (fld 15 (by omega)).trans h2, h3, h4, fun z => by rw [fld 14 (by omega)]; exact h5 (by rw [← fld 46 (by omega)]; exact z)⟩, a3.tr (fun a j hj => hN a j (by omega)) (Nat.le_refl _), a4.fr (fld 36 (by omega)) (fld 37 (by omega)) fun a j q1 q2 => hN a j (by omega)⟩
/-- a constant goes by -/
theorem hW.vl (h : hW I J m D fs st x t' o' Γ y g) (hg : eG2 J K m) (hk : eK J K m st 0) (hE2 : eE K m D Γ fs false t2 o2 st 0 (mN (J m 46) (mN (I m 46) x y) z)) (ht : t' ≤ t2) : hW I K m D fs st x t2 o2 Γ (mnN y z) g := by
  obtain ⟨a1, ⟨h1, h2, h3, h4, h5⟩, a3, a4⟩ := h
  rw [a1.ps, mN_as] at hE2
  have fld : ∀ j, ¬ (eFk j ∨ j = 72) → K m j = J m j := fun j hj => hg m j (by omega) (fun w => hj w.2)
  exact ⟨a1.tr hg.gg, ⟨hE2, (fld 15 (by unfold eFk; omega)).trans h2, by omega, h4, fun z => by rw [fld 14 (by unfold eFk; omega)]; exact h5 (by rw [← fld 46 (by unfold eFk; omega)]; exact z)⟩, a3.tr hk (Nat.le_refl _), a4.fr (fld 36 (by unfold eFk; omega)) (fld 37 (by unfold eFk; omega)) fun a j q1 q2 => hg a j (by omega) (by omega)⟩
/-- something is told -/
theorem hW.dc (h : hW I J m D fs st x t' o' Γ y g) {en : dcl} (hG : mGm K m (tellD (J m 46) en Γ) fs) (h14 : J m 46 = 0 → K m 14 = J m 14) (hf : ∀ a k, ¬ (m + 10 ≤ a ∧ a ≤ m + 17) → ¬ (a = m ∧ k = 14) → K a k = J a k) (hs : en.sc = nI 0) (hl : 2 * Γ.length + 2 ≤ t') : hW I K m D fs st x t' o' (tellD (I m 46) en Γ) y g := by
  obtain ⟨a1, ⟨⟨⟨t1, t2, t3, t4, t5, t6⟩, e2, e3, e4, e5, e6⟩, h2, h3, h4, h5⟩, a3, a4⟩ := h
  have fld : ∀ k, ¬ k = 14 → K m k = J m k := fun k hk => hf m k (by omega) (fun z => hk z.2)
  rw [a1.ps] at hG h14
  refine ⟨fun a k q1 q2 => (hf a k (by omega) (by unfold sFk at q2; omega)).trans (a1 a k q1 q2), ⟨⟨⟨t1.fr2 (fld 7 (by omega)) (fld 8 (by omega)) fun a k q1 q2 => hf a k (by omega) (by omega), t2, (fld 42 (by omega)).trans t3, (fld 43 (by omega)).trans t4, t5, (fld 44 (by omega)).trans t6⟩, hG, (fld 54 (by omega)).trans e3, (fld 60 (by omega)).trans e4, (fld 70 (by omega)).trans e5, e6.fr (fld 47 (by omega)) (fld 48 (by omega)) (fld 49 (by omega))⟩, (fld 15 (by omega)).trans h2, ?_, ?_, fun z => ?_⟩, a3.tr (fun a j hj => hf a j (by omega) (by omega)) (Nat.le_refl _), a4.fr (fld 36 (by omega)) (fld 37 (by omega)) fun a j q1 q2 => hf a j (by omega) (by omega)⟩
  · unfold tellD
    split
    · omega
    · rw [List.length_cons]
      omega
  · unfold tellD
    split
    · exact h4
    · intro z hz
      rcases List.mem_cons.mp hz with rfl | hz
      · exact ⟨0, Nat.le_refl _, hs⟩
      · exact h4 z hz
  · have z' : J m 46 = 0 := by rw [← fld 46 (by omega)]; exact z
    rw [h14 (by rw [← a1.ps]; exact z')]
    exact h5 z'
theorem hW.len (h : hW I J m D fs st x t' o' Γ y g) (hD : D.length ≤ 1800) : Γ.length < 900 := by
  have := h.2.1.2.2.1
  have := h.2.1.1.1.2.1
  omega
/-- what is told by a constant -/
def cnK (ps : Int32) (fs : List fnc) (Γ : List dcl) (p nm : Int32) (e : Tr) : nte × List dcl := (mnN (nX Γ fs true true none e) (twN Γ fs 0 nm p), tellD ps (nm, 0, p, 0, 0, if ps = 0 ∨ hnX Γ fs e = true then 0 else vC Γ fs e, if hnX Γ fs e = true then -1 else 1, 0) Γ)
def hP (I : xII) (m : Nat) (D : tkL) (fs : List fnc) (st : Nat) (x : nte) (r : pR) (F : Tr → nte × List dcl × glb) (v : Int32) (J : xII) : Prop := gG I J m ∧ match r with
  | .error fl => v = 0 ∧ eX J m fl
  | .ok (e, t2) => v = 1 ∧ hW I J m D fs st x t2 0 (F e).2.1 (F e).1 (F e).2.2
theorem s_X13_constantTold (hi : inD D) (hD : D.length ≤ 1800) (h : hE I m D fs t 0 st x Γ) (hg : gR I m g) (hl2 : 2 * Γ.length + 2 ≤ t) (hB : st + 4 * (D.length - t) ≤ 9000) : w_X13_constantTold m (hP I m D fs st x (pNeed D 2 t (pNeed D 72 (t + 1) (pAnd (pE D 40 (t + 2)) fun e t1 => pNeed D 69 t1 (.ok (nd 40 [tP D t, tV D t] e lf, t1 + 1))))) fun e => ((cnK (I m 46) fs Γ (tP D t) (tV D t) (tLt e)).1, (cnK (I m 46) fs Γ (tP D t) (tV D t) (tLt e)).2, g)) I := by
  have hT := h.1.1
  have hl := hT.2.1
  have hD4 := hT.1.1.2.1
  have w0 := hW.rf h hg
  unfold w_X13_constantTold
  refine ⟨_, s_X13_name hT, ?_⟩
  rintro v1 I1 ⟨q1, ⟨k2, rfl, x1⟩ | ⟨k2, rfl, T1⟩⟩
  · refine ⟨_, s_X13_sign_er (by rw [x1.1]; exact x1.2.2), ?_⟩
    rintro _ _ - ⟨rfl, rfl⟩
    refine ⟨fun _ => ?_, fun q => absurd rfl q⟩
    rw [pNeed, if_neg k2]
    exact ⟨q1.f.gg, rfl, x1⟩
  rw [pNeed, if_pos k2]
  have w1 := w0.mv q1 T1 (by omega)
  have ht1 := T1.2.1
  refine ⟨_, s_X13_sign T1 (k := 72) (by decide), ?_⟩
  rintro v2 I2 - ⟨q2, ⟨e2, rfl, x2⟩ | ⟨e2, rfl, T2⟩⟩
  · refine ⟨fun _ => ?_, fun q => absurd rfl q⟩
    rw [pNeed, if_neg e2]
    exact ⟨w1.1.tr q2.f.gg, rfl, x2⟩
  refine ⟨fun q => absurd q (by decide), fun _ => ?_⟩
  rw [pNeed, if_pos e2]
  have w2 := w1.mv q2 T2 (by omega)
  have ht2 := T2.2.1
  refine ⟨_, s_X13_value (d := 40) (B := 9000) hi w2.2.1.1 (by omega) (by omega) (by omega) (by omega), ?_⟩
  rintro v3 I3 ⟨g3, k3, r3⟩
  cases hr : pE D 40 (t + 2) with
  | error fl =>
    have r3' : eX I3 m fl ∧ v3 = 0 := by
      have := r3
      rw [show t + 1 + 1 = t + 2 from rfl, hr] at this
      exact this
    refine ⟨fun z => absurd z (Int32.not_le.mpr (by rw [r3'.1.1]; exact r3'.1.2.2)), fun _ => ?_⟩
    exact ⟨w2.1.tr g3.gg, rfl, r3'.1⟩
  | ok et =>
    obtain ⟨e, t1⟩ := et
    have r3' := r3
    rw [show t + 1 + 1 = t + 2 from rfl, hr] at r3'
    obtain ⟨E3, n55, hv⟩ := r3'
    have hup := pE_up hT.1.1 40 (t + 2) ht2 e t1 hr
    have w3 := w2.vl g3 k3 E3 (by omega)
    rw [show mnN none (nX Γ fs true true none e) = nX Γ fs true true none e from rfl] at w3
    have i344 : I3 m 44 = 0 := E3.1.2.2.2.2.2
    refine ⟨fun _ => ?_, fun z => absurd (by rw [i344]; decide) z⟩
    have hT3 := w3.2.1.1.1
    have e4 : I3 (m + 4) t = tV D t := by
      rw [(hT3.1.2.2.1 t (by omega)).2.1, k2]
      unfold mkV
      rw [if_pos rfl]
    have e5 : I3 (m + 5) t = tP D t := hT3.1.at (by omega)
    refine ⟨_, s_X13_twice (sc := 0) w3.2.1.1.2.1 w3.2.1.1.2.2.2.2.2 w3.2.1.2.1 (by omega) (tk := t) (by omega), ?_⟩
    rintro I4 ⟨n4, f4⟩
    rw [e4, e5] at f4
    have w4 := w3.nt n4 f4
    refine ⟨_, s_X13_declare w4.2.1.1.2.1 (w4.len hD) (tk := t) (by omega) (Or.inl rfl) (Or.inl rfl), ?_⟩
    rintro I5 ⟨g5, p5, f5⟩
    have e44 : I4 (m + 4) t = tV D t := by rw [n4 _ _ (by omega)]; exact e4
    have e54 : I4 (m + 5) t = tP D t := by rw [n4 _ _ (by omega)]; exact e5
    rw [e44, e54, w4.2.1.2.1] at g5
    have w5 := w4.dc g5 p5 f5 rfl (by omega)
    have p246 : I2 m 46 = I m 46 := w2.1.ps
    have hen : ((tV D t, (0 : Int32), tP D t, (0 : Int32), (0 : Int32), v3, if I3 m 55 = 0 then 1 else -1, (0 : Int32)) : dcl) = (tV D t, 0, tP D t, 0, 0, if I m 46 = 0 ∨ hnX Γ fs e = true then 0 else vC Γ fs e, if hnX Γ fs e = true then -1 else 1, 0) := by
      rw [hv, p246, n55]
      cases hnX Γ fs e <;> rfl
    rw [hen] at w5
    refine ⟨_, s_X13_sign w5.2.1.1.1 (k := 69) (by decide), ?_⟩
    rintro v6 I6 - ⟨q6, ⟨e6, rfl, x6⟩ | ⟨e6, rfl, T6⟩⟩
    · show hP _ _ _ _ _ _ (pNeed D 69 t1 _) _ _ _
      rw [pNeed, if_neg e6]
      exact ⟨w5.1.tr q6.f.gg, rfl, x6⟩
    · show hP _ _ _ _ _ _ (pNeed D 69 t1 _) _ _ _
      rw [pNeed, if_pos e6]
      have w6 := w5.mv q6 T6 (by omega)
      exact ⟨w6.1, rfl, w6⟩
end GLO
