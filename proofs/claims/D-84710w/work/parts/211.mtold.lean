/-! ===== the Model: all that is told, plainly; what stands between two of them ===== -/
set_option maxRecDepth 100000
/-- steps, notes, what is told, words and cells, rows of functions (formals, first step, measure, cells) -/
abbrev gS : Type := List stp × nte × List dcl × glb × List (Nat × Nat × Nat × Nat)
/-- an int outside of functions -/
def glV (ps : Int32) (fs : List fnc) (Γ : List dcl) (g : glb) (p nm : Int32) : Tr → nte × List dcl × glb
  | .leaf => (zGl fs Γ g nm p, tellD ps (nm, 1, p, 0, 0, (glI g).2, 1, 0) Γ, (glI g).1)
  | .inner k d v l r => (mnN (zGl fs Γ g nm p) (nX Γ fs true true none (.inner k d v l r)), tellD ps (nm, 1, p, 0, 0, (glI g).2, 1, 0) Γ, if ¬ ps = 0 ∧ g.1 < 2000 then ((glI g).1.1, (glI g).1.2.1, (glI g).1.2.2.1.set g.2.2.1.length (vW ps fs Γ (.inner k d v l r)), (glI g).1.2.2.2) else (glI g).1)
/-- a function -/
def fnR (ps : Int32) (fs : List fnc) (Γ : List dcl) (k st : Nat) (p nm vd : Int32) (F b : Tr) : List stp × nte × (Nat × Nat × Nat × Nat) :=
  ((mS ps fs vd (tLt b) 1 false st (mFm ps fs F 0 (Γ, 0, 0)).2).1 ++ [(0, 0, 0, 0), (17, 0, 0, 0)], mnN (mnN (twN Γ fs 0 nm p) (if k < 40 then none else nt 11 p)) (mnN (mFm ps fs F 0 (Γ, 0, 0)).1 (mS ps fs vd (tLt b) 1 false st (mFm ps fs F 0 (Γ, 0, 0)).2).2.1), ((fmKs F).length, st, fmM (fmKs F) + (mS ps fs vd (tLt b) 1 false st (mFm ps fs F 0 (Γ, 0, 0)).2).2.2.2.1, (mS ps fs vd (tLt b) 1 false st (mFm ps fs F 0 (Γ, 0, 0)).2).2.2.2.2))
/-- what no function is -/
def mO1 (s : gS) (r : nte × List dcl × glb) : gS := (s.1, mnN s.2.1 r.1, r.2.1, r.2.2, s.2.2.2.2)
def mF1 (s : gS) (r : List stp × nte × (Nat × Nat × Nat × Nat)) : gS := (s.1 ++ r.1, mnN s.2.1 r.2.1, s.2.2.1, s.2.2.2.1, s.2.2.2.2 ++ [r.2.2])
/-- one thing told -/
def mT1 (ps : Int32) (fs : List fnc) (s : gS) : Tr → gS
  | .inner 40 [p, nm] _ e _ => mO1 s ((cnK ps fs s.2.2.1 p nm e).1, (cnK ps fs s.2.2.1 p nm e).2, s.2.2.2.1)
  | .inner 41 [p, nm] _ e _ => mO1 s (glV ps fs s.2.2.1 s.2.2.2.1 p nm e)
  | .inner 42 [p, nm, b] _ l r => mO1 s (arK ps fs s.2.2.1 s.2.2.2.1 p nm b l r)
  | .inner 43 [p, nm, vd, _] _ F b => mF1 s (fnR ps fs s.2.2.1 s.2.2.2.2.length s.1.length p nm vd F b)
  | _ => s
def mTs (ps : Int32) (fs : List fnc) : Tr → gS → gS
  | .inner 46 [] _ e r, s => mTs ps fs r (mT1 ps fs s e)
  | _, s => s
/-- the place of the first formal -/
def fFst : Tr → Option Int32
  | .inner 44 (fi :: _) _ _ _ => some fi
  | _ => none
def ftOf : Tr → List (fnc × Option Int32)
  | .inner 43 [p, nm, vd, _] _ F _ => [((nm, p, vd, fmKs F), fFst F)]
  | _ => []
/-- all functions -/
def ftA : Tr → List (fnc × Option Int32)
  | .inner 46 [] _ e r => ftOf e ++ ftA r
  | _ => []
def uG (I J : xII) (m : Nat) : Prop := ∀ a j, (a < m + 10 ∨ m + 39 < a) → ¬ (a = m ∧ (sFk j ∨ j = 36 ∨ j = 37 ∨ j = 24 ∨ j = 35 ∨ j = 50 ∨ j = 61)) → J a j = I a j
def tbR (J : xII) (m : Nat) (D : tkL) (T k : Nat) (q : fnc × Option Int32) : Prop := J (m + 18) k = q.1.1 ∧ J (m + 19) k = q.1.2.1 ∧ J (m + 26) k = q.1.2.2.1 ∧ J (m + 20) k = nI q.1.2.2.2.length ∧ (∃ z, J (m + 24) k = nI z ∧ z + q.1.2.2.2.length ≤ T ∧ ∀ i kd, q.1.2.2.2[i]? = some kd → J (m + 27) (z + i) = kd) ∧ (q.2 = none → J (m + 25) k = -1) ∧ ∀ p, q.2 = some p → ∃ tk, tk + 1 < D.length ∧ J (m + 25) k = nI tk ∧ p = tP D tk
def rwR (J : xII) (m k : Nat) (r : Nat × Nat × Nat × Nat) : Prop := J (m + 20) k = nI r.1 ∧ J (m + 23) k = nI r.2.1 ∧ J (m + 21) k = nI r.2.2.1 ∧ J (m + 22) k = nI r.2.2.2
/-- between two things told -/
def uW (I J : xII) (m : Nat) (D : tkL) (fs : List fnc) (x : nte) (ft : List (fnc × Option Int32)) (t : Nat) (s : gS) : Prop := uG I J m ∧ gE J m D fs t s.1.length (mN (I m 46) x s.2.1) s.2.2.1 ∧ mSt J m 0 s.1 ∧ gR J m s.2.2.2.1 ∧ (∀ k r, s.2.2.2.2[k]? = some r → rwR J m k r) ∧ (∃ T, T ≤ 900 ∧ (∀ k q, ft[k]? = some q → tbR J m D T k q) ∧ (I m 46 = 0 → J m 35 = nI T ∧ 2 * T ≤ t ∧ ft.length = s.2.2.2.2.length)) ∧ J m 24 = nI ft.length ∧ s.1.length + 4 * (D.length - t) ≤ 9000 ∧ s.2.2.2.1.1 ≤ 500 * t ∧ 4 * s.2.2.2.2.length ≤ t
section TOL
variable {m t o st B tn t' o' t2 o2 k T : Nat} {I J K : xII} {D : tkL} {fs : List fnc} {Γ Γ' : List dcl} {x y z : nte} {g g' : glb} {s : gS} {ft : List (fnc × Option Int32)} {q : fnc × Option Int32} {nm p vd : Int32}
theorem uG.rf : uG I I m := fun _ _ _ _ => rfl
theorem uG.tr (h : uG I J m) (h' : uG J K m) : uG I K m := fun a k h1 h2 => (h' a k h1 h2).trans (h a k h1 h2)
theorem uG.ps (h : uG I J m) : J m 46 = I m 46 := h _ _ (by omega) (by unfold sFk eFk; omega)
theorem gG.u (h : gG I J m) : uG I J m := fun a j h1 h2 => h a j (by omega) (by unfold sFk eFk at h2 ⊢; omega)
theorem fG3.u (h : fG3 I J m k T) : uG I J m := fun a j h1 h2 => h a j (by omega) (by unfold sFk eFk at h2 ⊢; omega)
theorem eQ.u (h : eQ I J m) : uG I J m := h.f.gg.u
theorem tbR.fr (h : tbR J m D T k q) (hf : ∀ a j, m + 18 ≤ a → a ≤ m + 26 → j = k → K a j = J a j) (h27 : ∀ j, j < T → K (m + 27) j = J (m + 27) j) : tbR K m D T k q := by
  obtain ⟨h1, h2, h3, h4, ⟨z, h5, h6, h7⟩, h8, h9⟩ := h
  refine ⟨?_, ?_, ?_, ?_, ⟨z, ?_, h6, fun i kd hi => ?_⟩, fun w => ?_, fun p hp => ?_⟩
  · rw [hf _ _ (by omega) (by omega) rfl]; exact h1
  · rw [hf _ _ (by omega) (by omega) rfl]; exact h2
  · rw [hf _ _ (by omega) (by omega) rfl]; exact h3
  · rw [hf _ _ (by omega) (by omega) rfl]; exact h4
  · rw [hf _ _ (by omega) (by omega) rfl]; exact h5
  · have := (List.getElem?_eq_some_iff.mp hi).1
    rw [h27 _ (by omega)]
    exact h7 i kd hi
  · rw [hf _ _ (by omega) (by omega) rfl]; exact h8 w
  · rw [hf _ _ (by omega) (by omega) rfl]; exact h9 p hp
theorem tbR.up (h : tbR J m D T k q) {T' : Nat} (hT : T ≤ T') : tbR J m D T' k q := by
  obtain ⟨h1, h2, h3, h4, ⟨z, h5, h6, h7⟩, h8⟩ := h
  exact ⟨h1, h2, h3, h4, ⟨z, h5, by omega, h7⟩, h8⟩
theorem tbR.fn (h : tbR J m D T k q) (hT : T ≤ 900) : mFn J m k q.1 := by
  obtain ⟨h1, h2, h3, h4, ⟨z, h5, h6, h7⟩, h8⟩ := h
  exact ⟨h1, h2, h3, h4, z, h5, by omega, h7⟩
/-- only the place (and the mark of a function) differ -/
theorem uW.mv (h : uW I J m D fs x ft t s) (hq : ∀ a j, ¬ (a = m ∧ (j = 61 ∨ j = 42 ∨ j = 43 ∨ j = 44 ∨ j = 45)) → K a j = J a j) (hT : eT K m D t2 0) (ht : t ≤ t2) : uW I K m D fs x ft t2 s := by
  obtain ⟨a1, ⟨⟨⟨t1, t2', t3, t4, t5, t6⟩, e2, e3, e4, e5, e6⟩, h2, h3, h4, h5⟩, a3, a4, a5, ⟨T, aT, a6, a7⟩, a8, a9, a10, a11⟩ := h
  have fld : ∀ j, ¬ (j = 61 ∨ j = 42 ∨ j = 43 ∨ j = 44 ∨ j = 45) → K m j = J m j := fun j hj => hq m j (fun w => hj w.2)
  have hl := hT.2.1
  refine ⟨a1.tr fun a j q1 q2 => hq a j (by unfold sFk eFk at q2; omega), ⟨⟨hT, e2.fr2 (fld 46 (by omega)) (fld 14 (by omega)) (fld 24 (by omega)) fun a j q1 q2 => hq a j (by omega), (fld 54 (by omega)).trans e3, (fld 60 (by omega)).trans e4, (fld 70 (by omega)).trans e5, e6.fr (fld 47 (by omega)) (fld 48 (by omega)) (fld 49 (by omega))⟩, (fld 15 (by omega)).trans h2, by omega, h4, fun z => by rw [fld 14 (by omega)]; exact h5 (by rw [← fld 46 (by omega)]; exact z)⟩, a3.cong fun a j q1 q2 _ _ => hq a j (by omega), a4.fr (fld 36 (by omega)) (fld 37 (by omega)) fun a j q1 q2 => hq a j (by omega), fun k r hr => ?_, ⟨T, aT, fun k q hk => (a6 k q hk).fr (fun a j q1 q2 _ => hq a j (by omega)) fun j _ => hq _ _ (by omega), fun z => ?_⟩, (fld 24 (by omega)).trans a8, by omega, by omega, by omega⟩
  · obtain ⟨b1, b2, b3, b4⟩ := a5 k r hr
    exact ⟨(hq _ _ (by omega)).trans b1, (hq _ _ (by omega)).trans b2, (hq _ _ (by omega)).trans b3, (hq _ _ (by omega)).trans b4⟩
  · obtain ⟨c1, c2, c3⟩ := a7 z
    exact ⟨(fld 35 (by omega)).trans c1, by omega, c3⟩
theorem uW.hp (h : uW I J m D fs x ft t s) (w : hW J K m D fs s.1.length (mN (I m 46) x s.2.1) t2 0 Γ' y g') (ht : t ≤ t2) (hg : g'.1 ≤ 500 * t2) : uW I K m D fs x ft t2 (mO1 s (y, Γ', g')) := by
  obtain ⟨a1, a2, a3, a4, a5, ⟨T, aT, a6, a7⟩, a8, a9, a10, a11⟩ := h
  obtain ⟨w1, w2, w3, w4⟩ := w
  rw [a1.ps, mN_as] at w2
  have hl := w2.1.1.2.1
  refine ⟨a1.tr w1.u, w2, a3.cong fun a j q1 q2 _ q4 => w3 a j (by omega), w4, fun k r hr => ?_, ⟨T, aT, fun k q hk => (a6 k q hk).fr (fun a j q1 q2 _ => w1 a j (by omega) (by omega)) fun j _ => w1 _ _ (by omega) (by omega), fun z => ?_⟩, (w1 _ _ (by omega) (by unfold sFk eFk; omega)).trans a8, by show s.1.length + _ ≤ _; omega, hg, by show 4 * s.2.2.2.2.length ≤ _; omega⟩
  · obtain ⟨b1, b2, b3, b4⟩ := a5 k r hr
    exact ⟨(w1 _ _ (by omega) (by omega)).trans b1, (w1 _ _ (by omega) (by omega)).trans b2, (w1 _ _ (by omega) (by omega)).trans b3, (w1 _ _ (by omega) (by omega)).trans b4⟩
  · obtain ⟨c1, c2, c3⟩ := a7 z
    exact ⟨(w1 _ _ (by omega) (by unfold sFk eFk; omega)).trans c1, by omega, c3⟩
theorem pFms_fst : ∀ (f t : Nat) {F : Tr} {t1 : Nat}, pFms D f t = .ok (F, t1) → fFst F = some (tP D t) ∧ (tK D t = 11 ∨ tK D t = 10)
  | 0, t, F, t1, h => nomatch h
  | f + 1, t, F, t1, h => by
    obtain ⟨a, t2, h2, h3⟩ := pAnd_ok h
    have ha : (∃ ds, a = nd 44 (tP D t :: ds) lf lf) ∧ (tK D t = 11 ∨ tK D t = 10) := by
      unfold pFm at h2
      split at h2
      · rename_i hk
        obtain ⟨-, h2⟩ := pNeed_ok h2
        split at h2
        · obtain ⟨-, -, h2⟩ := pOpen_ok h2
          obtain ⟨-, h2⟩ := pNeed_ok h2
          cases h2
          exact ⟨⟨_, rfl⟩, hk⟩
        · cases h2
          exact ⟨⟨_, rfl⟩, hk⟩
      · exact nomatch h2
    obtain ⟨⟨ds, rfl⟩, hk⟩ := ha
    split at h3
    · obtain ⟨s, t4, h4, h5⟩ := pAnd_ok h3
      cases h5
      exact ⟨rfl, hk⟩
    · cases h3
      exact ⟨rfl, hk⟩
theorem uW.fu {F bd : Tr} {zz : nte} {E1 : env} {q : mR} (h : uW I J m D fs x ft t s) (hft : ¬ I m 46 = 0 → fs = ft.map (·.1)) (hT9 : T ≤ 900) (hT1 : ∀ k q, ft[k]? = some q → tbR J m D T k q) (hT2 : I m 46 = 0 → ft.length = s.2.2.2.2.length) (h4 : 4 * s.2.2.2.2.length + 2 ≤ t) (ht : t + 2 ≤ t2) (hF : (F = lf ∧ fFst F = none) ∨ (¬ F = lf ∧ fFst F = some (tP D (t + 1)) ∧ t + 2 < D.length)) (hD : D.length ≤ 1800)
    (g3 : fG3 J K m s.2.2.2.2.length T) (h2 : mFm (J m 46) fs F 0 (s.2.2.1, 0, 0) = (zz, E1)) (h3 : q = mS (J m 46) fs vd bd 1 false s.1.length E1) (hE : gE K m D fs t2 (s.1.length + q.1.length + 2) (mN (J m 46) (mN (I m 46) x s.2.1) (mnN (mnN (twN s.2.2.1 fs 0 nm p) (if s.2.2.2.2.length < 40 then none else nt 11 p)) (mnN zz q.2.1))) s.2.2.1) (hK : eK J K m s.1.length 0) (hS : mSt K m s.1.length (q.1 ++ [(0, 0, 0, 0), (17, 0, 0, 0)])) (r20 : K (m + 20) s.2.2.2.2.length = nI (fmKs F).length) (r23 : K (m + 23) s.2.2.2.2.length = nI s.1.length) (r21 : K (m + 21) s.2.2.2.2.length = nI (fmM (fmKs F) + q.2.2.2.1)) (r22 : K (m + 22) s.2.2.2.2.length = nI q.2.2.2.2)
    (p0 : J m 46 = 0 → fT0 K m s.2.2.2.2.length T t nm p vd F ∧ K m 35 = nI (T + (fmKs F).length) ∧ 2 * (T + (fmKs F).length) ≤ t2 ∧ ∀ i kd, (fmKs F)[i]? = some kd → K (m + 27) (T + i) = kd) (p1 : ¬ J m 46 = 0 → K (m + 25) s.2.2.2.2.length = J (m + 25) s.2.2.2.2.length) (hB : s.1.length + q.1.length + 2 + 4 * (D.length - t2) ≤ 9000) : uW I K m D fs x (if I m 46 = 0 then ft ++ [((nm, p, vd, fmKs F), fFst F)] else ft) t2 (mF1 s (fnR (I m 46) fs s.2.2.1 s.2.2.2.2.length s.1.length p nm vd F (nd 21 [] bd lf))) := by
  obtain ⟨a1, a2, a3, a4, a5, -, a8, a9, a10, a11⟩ := h
  have hps := a1.ps
  rw [hps] at h2 h3 hE p0 p1
  rw [mN_as] at hE
  have hl := hE.1.1.2.1
  have hr : fnR (I m 46) fs s.2.2.1 s.2.2.2.2.length s.1.length p nm vd F (nd 21 [] bd lf) = (q.1 ++ [(0, 0, 0, 0), (17, 0, 0, 0)], mnN (mnN (twN s.2.2.1 fs 0 nm p) (if s.2.2.2.2.length < 40 then none else nt 11 p)) (mnN zz q.2.1), ((fmKs F).length, s.1.length, fmM (fmKs F) + q.2.2.2.1, q.2.2.2.2)) := by
    unfold fnR
    rw [h2, show tLt (nd 21 [] bd lf) = bd from rfl, ← h3]
  rw [hr]
  have hlen : (mF1 s (q.1 ++ [(0, 0, 0, 0), (17, 0, 0, 0)], mnN (mnN (twN s.2.2.1 fs 0 nm p) (if s.2.2.2.2.length < 40 then none else nt 11 p)) (mnN zz q.2.1), ((fmKs F).length, s.1.length, fmM (fmKs F) + q.2.2.2.1, q.2.2.2.2))).1.length = s.1.length + q.1.length + 2 := by
    show (s.1 ++ (q.1 ++ _)).length = _
    rw [List.length_append, List.length_append]
    rfl
  refine ⟨a1.tr g3.u, by rw [hlen]; exact hE, ?_, ?_, ?_, ?_, ?_, by rw [hlen]; exact hB, ?_, ?_⟩
  · refine mSt.app.mpr ⟨a3.cong fun a j q1 q2 _ q4 => hK a j (by omega), ?_⟩
    rw [Nat.zero_add]
    exact hS
  · exact a4.fr (g3 _ _ (by omega) (by unfold sFk eFk; omega)) (g3 _ _ (by omega) (by unfold sFk eFk; omega)) fun a j q1 q2 => g3 a j (by omega) (by omega)
  · intro k r hk
    show rwR K m k r
    have hk' : (s.2.2.2.2 ++ [((fmKs F).length, s.1.length, fmM (fmKs F) + q.2.2.2.1, q.2.2.2.2)])[k]? = some r := hk
    rcases Nat.lt_or_ge k s.2.2.2.2.length with w | w
    · rw [List.getElem?_append_left w] at hk'
      obtain ⟨b1, b2, b3, b4⟩ := a5 k r hk'
      exact ⟨(g3 _ _ (by omega) (by omega)).trans b1, (g3 _ _ (by omega) (by omega)).trans b2, (g3 _ _ (by omega) (by omega)).trans b3, (g3 _ _ (by omega) (by omega)).trans b4⟩
    · rw [List.getElem?_append_right w] at hk'
      have hk0 : k - s.2.2.2.2.length = 0 := by
        have := (List.getElem?_eq_some_iff.mp hk').1
        simp only [List.length_cons, List.length_nil] at this
        omega
      rw [hk0] at hk'
      cases hk'
      obtain rfl : k = s.2.2.2.2.length := by omega
      exact ⟨r20, r23, r21, r22⟩
  · by_cases z0 : I m 46 = 0
    · rw [if_pos z0]
      obtain ⟨⟨c1, c2, c3, c4, c5, c6, c7⟩, d1, d2, d3⟩ := p0 z0
      have hfl := hT2 z0
      refine ⟨T + (fmKs F).length, by omega, fun k q hk => ?_, fun _ => ⟨d1, d2, ?_⟩⟩
      · rcases Nat.lt_or_ge k ft.length with w | w
        · rw [List.getElem?_append_left w] at hk
          exact ((hT1 k q hk).fr (fun a j q1 q2 q3 => g3 a j (by omega) (by omega)) fun j hj => g3 _ _ (by omega) (by omega)).up (by omega)
        · rw [List.getElem?_append_right w] at hk
          have hk0 : k - ft.length = 0 := by
            have := (List.getElem?_eq_some_iff.mp hk).1
            simp only [List.length_cons, List.length_nil] at this
            omega
          rw [hk0] at hk
          cases hk
          obtain rfl : k = s.2.2.2.2.length := by omega
          refine ⟨c1, c2, c3, r20, ⟨T, c4, Nat.le_refl _, d3⟩, fun w => ?_, fun p hp => ?_⟩
          · rcases hF with ⟨u1, u2⟩ | ⟨u1, u2, u3⟩
            · exact c5 u1
            · dsimp only at w
              rw [u2] at w
              exact nomatch w
          · rcases hF with ⟨u1, u2⟩ | ⟨u1, u2, u3⟩
            · dsimp only at hp
              rw [u2] at hp
              exact nomatch hp
            · dsimp only at hp
              rw [u2] at hp
              cases hp
              exact ⟨t + 1, u3, c6 u1, rfl⟩
      · show (ft ++ _).length = (s.2.2.2.2 ++ _).length
        rw [List.length_append, List.length_append, hfl]
        rfl
    · rw [if_neg z0]
      refine ⟨900, by omega, fun k q hk => ?_, fun w => absurd w z0⟩
      by_cases w : k = s.2.2.2.2.length
      · subst w
        obtain ⟨-, -, -, -, -, e8, e9⟩ := hT1 _ q hk
        rcases hE.1.2.1 with ⟨u1, -⟩ | ⟨-, -, -, -, -, -, u7⟩
        · rw [g3.u.ps, hps] at u1
          exact absurd u1 z0
        · have hq : fs[s.2.2.2.2.length]? = some q.1 := by
            rw [hft z0, List.getElem?_map, hk]
            rfl
          obtain ⟨v1, v2, v3, v4, v5⟩ := u7 _ _ hq
          refine ⟨v1, v2, v3, v4, v5, fun w => (p1 z0).trans (e8 w), fun p hp => ?_⟩
          obtain ⟨tk, y1, y2, y3⟩ := e9 p hp
          exact ⟨tk, y1, (p1 z0).trans y2, y3⟩
      · exact ((hT1 k q hk).fr (fun a j q1 q2 q3 => g3 a j (by omega) (by omega)) fun j hj => g3 _ _ (by omega) (by omega)).up (by omega)
  · by_cases z0 : I m 46 = 0
    · rw [if_pos z0]
      obtain ⟨⟨c1, c2, c3, c4, c5, c6, c7⟩, d1, d2, d3⟩ := p0 z0
      rw [c7, ← hT2 z0, List.length_append]
      rfl
    · rw [if_neg z0]
      rcases hE.1.2.1 with ⟨u1, -⟩ | ⟨-, -, -, -, u5, -⟩
      · rw [g3.u.ps, hps] at u1
        exact absurd u1 z0
      · rw [u5, hft z0, List.length_map]
  · show s.2.2.2.1.1 ≤ _
    omega
  · show 4 * (s.2.2.2.2 ++ _).length ≤ _
    rw [List.length_append]
    show 4 * (s.2.2.2.2.length + 1) ≤ _
    omega
end TOL
