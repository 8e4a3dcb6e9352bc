/-! ===== the Model: a whole text, one pass ===== -/
set_option maxRecDepth 100000
/-- where a pass begins -/
def gS0 (w : Int32) : gS := ([], none, [], (0, [], [], w), [])
def txQ (I : xII) (m : Nat) (D : tkL) (fs : List fnc) (x : nte) (r : pR) (v : Int32) (K : xII) : Prop := uG I K m ∧ match r with
  | .error fl => v = 0 ∧ eX K m fl
  | .ok (E, t1) => v = 1 ∧ tK D t1 = 0 ∧ uW I K m D fs x (ftA E) t1 (mTs (I m 46) fs E (gS0 (I (m + 29) 2000)))
section TXS
variable {m t : Nat} {I J K : xII} {D : tkL} {fs : List fnc} {x : nte} {s : gS} {ft : List (fnc × Option Int32)} {M : Int32 → Int32} {e E : Tr}
theorem mkK_ne {k : Int32} : ¬ mkK k = 0 := by
  unfold mkK
  split
  · decide
  · split
    · decide
    · split <;> decide
theorem ftOf_one {q q' : fnc × Option Int32} (h : q ∈ ftOf e) : ftOf e = [q] := by
  unfold ftOf at h ⊢
  split at h
  · rw [List.mem_singleton.mp h]
  · exact nomatch h
theorem s_X13_texts (hi : inD D) (hD : D.length ≤ 1800) (hm : mD I m D) (h44 : I m 44 = 0) (h54 : I m 54 = 0) (hx : nFd I m x) (hps : (I m 46 = 0 ∧ ft = [] ∧ fs = []) ∨ (I m 46 = 1 ∧ (∃ E tE, pTs D M (D.length + 1) 0 = .ok (E, tE) ∧ ft = ftA E) ∧ fs = ft.map (·.1) ∧ I m 24 = nI ft.length ∧ ft.length ≤ 500 ∧ ∀ k q, ft[k]? = some q → tbR I m D 900 k q)) : w_X13_texts m (txQ I m D fs x (pTs D M (D.length + 1) 0)) I := by
  have hD4 := hm.1.2.1
  have hD1 := hm.1.1
  unfold w_X13_texts
  intro I1 hI1 I2 hI2 I3 hI3 I4 hI4 I5 hI5 I6 hI6 I7 hI7 I8 hI8 I9 hI9 I10 hI10 I11 hI11
  have e11 : I11 = xup (xup (xup (xup (xup (xup (xup (xup (xup (xup (xup I m 42 0) m 43 0) m 14 0) m 15 0) m 60 0) m 70 0) m 36 0) m 37 0) m 50 (-1)) m 24 (if I m 46 = 0 then 0 else I m 24)) m 35 (if I m 46 = 0 then 0 else I m 35) := by rw [hI11, hI10, hI9, hI8, hI7, hI6, hI5, hI4, hI3, hI2, hI1]
  clear hI11 hI10 hI9 hI8 hI7 hI6 hI5 hI4 hI3 hI2 hI1
  have f11 : ∀ a j, ¬ (a = m ∧ (j = 42 ∨ j = 43 ∨ j = 14 ∨ j = 15 ∨ j = 60 ∨ j = 70 ∨ j = 36 ∨ j = 37 ∨ j = 50 ∨ j = 24 ∨ j = 35)) → I11 a j = I a j := fun a j hj => by
    rw [e11, gX, if_neg (by omega), gX, if_neg (by omega), gX, if_neg (by omega), gX, if_neg (by omega), gX, if_neg (by omega), gX, if_neg (by omega), gX, if_neg (by omega), gX, if_neg (by omega), gX, if_neg (by omega), gX, if_neg (by omega), gX, if_neg (by omega)]
  have v11 : I11 m 42 = 0 ∧ I11 m 43 = 0 ∧ I11 m 14 = 0 ∧ I11 m 15 = 0 ∧ I11 m 60 = 0 ∧ I11 m 70 = 0 ∧ I11 m 36 = 0 ∧ I11 m 37 = 0 ∧ I11 m 24 = (if I m 46 = 0 then 0 else I m 24) ∧ I11 m 35 = (if I m 46 = 0 then 0 else I m 35) := by
    subst e11
    refine ⟨?_, ?_, ?_, ?_, ?_, ?_, ?_, ?_, ?_, ?_⟩ <;> simp [gX]
  clear e11
  obtain ⟨v42, v43, v14, v15, v60, v70, v36, v37, v24, v35⟩ := v11
  have p46 : I11 m 46 = I m 46 := f11 _ _ (by omega)
  have T11 : eT I11 m D 0 0 := ⟨hm.fr2 (f11 _ _ (by omega)) (f11 _ _ (by omega)) fun a j q1 q2 => f11 a j (by omega), hD1, v42, v43, by omega, (f11 _ _ (by omega)).trans h44⟩
  have hfl : ¬ I m 46 = 0 → fs = ft.map (·.1) := fun z => by
    rcases hps with ⟨w, -⟩ | ⟨-, -, w, -⟩
    · exact absurd w z
    · exact w
  have W11 : uW I I11 m D fs x ft 0 (gS0 (I (m + 29) 2000)) := by
    refine ⟨fun a j q1 q2 => f11 a j (by unfold sFk eFk at q2; omega), ⟨⟨T11, ?_, (f11 _ _ (by omega)).trans h54, v60, v70, ?_⟩, v15, Nat.le_refl _, fun q hq => absurd hq List.not_mem_nil, fun _ => v14⟩, mSt.nil, ⟨v36, v37, Nat.le_refl _, Nat.zero_le _, fun k q hk => (nomatch (show none = some q from hk)), fun i v hv => (nomatch (show none = some v from hv)), Nat.zero_le _, fun _ => rfl, f11 _ _ (by omega)⟩, fun k r hk => (nomatch (show none = some r from hk)), ?_, ?_, ?_, Nat.le_refl _, Nat.le_refl _⟩
    · rcases hps with ⟨w, rfl, rfl⟩ | ⟨w, -, w2, w3, w4, w5⟩
      · exact Or.inl ⟨p46.trans w, rfl, rfl⟩
      · refine Or.inr ⟨p46.trans w, v14, Nat.zero_le _, fun i d hd => (nomatch (show none = some d from hd)), ?_, ?_, fun f q hq => ?_⟩
        · rw [v24, if_neg (by rw [w]; decide), w3, w2, List.length_map]
        · rw [w2, List.length_map]
          exact w4
        · rw [w2, List.getElem?_map] at hq
          cases hk : ft[f]? with
          | none => rw [hk] at hq; exact nomatch hq
          | some q' =>
            rw [hk] at hq
            cases hq
            exact ((w5 f q' hk).fr (fun a j q1 q2 _ => f11 a j (by omega)) fun j _ => f11 _ _ (by omega)).fn (Nat.le_refl _)
    · rw [show mN (I m 46) x (gS0 (I (m + 29) 2000)).2.1 = x from mN_n]
      exact hx.fr (f11 _ _ (by omega)) (f11 _ _ (by omega)) (f11 _ _ (by omega))
    · rcases hps with ⟨w, rfl, rfl⟩ | ⟨w, -, w2, w3, w4, w5⟩
      · exact ⟨0, by omega, fun k q hk => (nomatch (show none = some q from hk)), fun _ => ⟨by rw [v35, if_pos w]; rfl, by omega, rfl⟩⟩
      · exact ⟨900, by omega, fun k q hk => (w5 k q hk).fr (fun a j q1 q2 _ => f11 a j (by omega)) fun j _ => f11 _ _ (by omega), fun z => by rw [z] at w; exact absurd w (by decide)⟩
    · rcases hps with ⟨w, rfl, rfl⟩ | ⟨w, -, w2, w3, w4, w5⟩
      · rw [v24, if_pos w]
        rfl
      · rw [v24, if_neg (by rw [w]; decide)]
        exact w3
    · show 0 + 4 * (D.length - 0) ≤ 9000
      omega
  refine ⟨fun n y1 y2 I12 => (∃ t s ft1 ft2 mk fu, y1 = nI s.2.2.2.2.length ∧ y2 = 1 ∧ n = D.length - t + 1 ∧ uW I I12 m D fs x ft2 t s ∧ D.length < fu + t ∧ pTs D M (D.length + 1) 0 = pAnd (pTs D M fu t) (fun r t' => .ok (mk r, t')) ∧ ft1.length = s.2.2.2.2.length ∧ (I m 46 = 0 → ft1 = ft2) ∧ (¬ I m 46 = 0 → ft2 = ft) ∧ ∀ r, mTs (I m 46) fs (mk r) (gS0 (I (m + 29) 2000)) = mTs (I m 46) fs r s ∧ ftA (mk r) = ft1 ++ ftA r) ∨ (y2 = 0 ∧ n = 0 ∧ ∃ fl, pTs D M (D.length + 1) 0 = .error fl ∧ uG I I12 m ∧ eX I12 m fl), ⟨D.length - 0 + 1, Or.inl ⟨0, gS0 (I (m + 29) 2000), [], ft, id, D.length + 1, rfl, rfl, rfl, W11, by omega, by cases pTs D M (D.length + 1) 0 <;> rfl, rfl, fun z => ?_, fun _ => rfl, fun r => ⟨rfl, rfl⟩⟩⟩, ?_⟩
  · rcases hps with ⟨-, w, -⟩ | ⟨w, -⟩
    · exact w.symm
    · rw [z] at w
      exact absurd w (by decide)
  rintro n y1 y2 I12 (⟨t, s, ft1, ft2, mk, fu, rfl, rfl, rfl, W, hfu, hp, hl1, h0, h1, hmk⟩ | ⟨rfl, rfl, fl, hp, gu, x12⟩)
  rotate_left
  · refine ⟨True, fun _ => ⟨fun z => ?_, fun _ => ?_⟩, fun _ => trivial, fun w => absurd rfl w⟩
    · rw [x12.1] at z
      exact absurd x12.2.2 (by rw [z]; decide)
    · rw [hp]
      exact ⟨gu, rfl, x12⟩
  have hT := W.2.1.1.1
  have hw := hT.1.1
  have hl := hT.2.1
  have i44 : I12 m 44 = 0 := hT.2.2.2.2.2
  obtain ⟨fu, rfl⟩ : ∃ j, fu = j + 1 := ⟨fu - 1, by omega⟩
  have i42 : ix (I12 m 42) = t := hT.ix
  rw [i42]
  by_cases hlast : t + 1 < D.length
  rotate_left
  · -- the end
    obtain rfl : t = D.length - 1 := by omega
    have hk0 : I12 (m + 3) (D.length - 1) = 0 := hT.1.2.2.2.1
    refine ⟨True, fun _ => ⟨fun _ => ?_, fun z => absurd i44 z⟩, fun w => absurd w (by decide), fun _ => ⟨hT.vp, fun _ => trivial, fun z => absurd hk0 z⟩⟩
    rcases hT.1.2.2.2.2 with ⟨k0, c8, -⟩ | ⟨k1, c8, c9⟩
    · refine ⟨fun _ => ?_, fun z => absurd c8 z⟩
      have hp' : pTs D M (D.length + 1) 0 = .ok (mk lf, D.length - 1) := by
        rw [hp, pTs, if_pos k0]
        rfl
      obtain ⟨m1, m2⟩ := hmk lf
      rw [hp']
      refine ⟨W.1, rfl, k0, ?_⟩
      rw [m1, m2]
      have hft : ft2 = ft1 ++ ftA lf := by
        rw [show ftA lf = [] from rfl, List.append_nil]
        by_cases z : I m 46 = 0
        · exact (h0 z).symm
        · rw [h1 z]
          rcases hps with ⟨w, -⟩ | ⟨-, ⟨E, tE, w1, w2⟩, -⟩
          · exact absurd w z
          · rw [hp'] at w1
            cases w1
            rw [w2, m2, show ftA lf = [] from rfl, List.append_nil]
      rw [← hft]
      exact W
    · refine ⟨fun z => ?_, fun _ => ⟨_, s_X13_fails hT (by decide), ?_⟩⟩
      · rw [c8] at z
        exact absurd z c9
      · rintro _ I14 - ⟨rfl, q14, x14⟩
        rw [hp, pTs, if_neg (by rw [k1]; decide), pT, if_neg (by rw [k1]; decide), if_neg (by rw [k1]; decide)]
        refine ⟨W.1.tr q14.u, rfl, ?_⟩
        have : flt D 1 (D.length - 1) = pWr D (D.length - 1) := by
          unfold flt pWr
          rw [k1]
          rfl
        rw [← this]
        exact x14
  have hkn := hw.2.2.2 t hlast
  have hk3 : ¬ I12 (m + 3) t = 0 := by
    rw [(hT.1.2.2.1 t hlast).1]
    exact mkK_ne
  have hp2 : pTs D M (fu + 1) t = pAnd (pT D M t) fun e t1 => pAnd (pTs D M fu t1) fun s t2 => .ok (nd 46 [] e s, t2) := by rw [pTs, if_neg hkn.1]
  rw [hp2] at hp
  refine ⟨False, fun w => w.elim, fun w => absurd w (by decide), fun _ => ⟨hT.vp, fun z => absurd z hk3, fun _ => ⟨_, s_X13_tells (M := M) hi hD W (fun z => by rw [h1 z]; exact hfl z) ?_, ?_⟩⟩⟩
  · by_cases z : I m 46 = 0
    · exact Or.inl z
    · refine Or.inr ?_
      rcases hps with ⟨w, -⟩ | ⟨-, ⟨E, tE, w1, w2⟩, w3, -⟩
      · exact absurd w z
      · rw [hp] at w1
        obtain ⟨r, t', u1, u2⟩ := pAnd_ok w1
        obtain ⟨e, t1, c1, c2⟩ := pAnd_ok u1
        obtain ⟨r', t3, d1, d2⟩ := pAnd_ok c2
        refine ⟨e, t1, c1, fun q hq => ?_⟩
        have hE : E = mk (nd 46 [] e r') := by
          cases d2
          cases u2
          rfl
        rw [w3, w2, hE, (hmk _).2, List.getElem?_map, ← hl1, List.getElem?_append_right (Nat.le_refl _), Nat.sub_self]
        rw [show ftA (nd 46 [] e r') = ftOf e ++ ftA r' from rfl, ftOf_one (q' := q) hq]
        rfl
  · rintro v16 I16 - ⟨g16, h16⟩
    cases hr : pT D M t with
    | error fl =>
      rw [hr] at h16 hp
      obtain ⟨rfl, x16⟩ := h16
      exact ⟨0, by omega, Or.inr ⟨rfl, rfl, fl, hp, g16, x16⟩⟩
    | ok et =>
      obtain ⟨e, t1⟩ := et
      rw [hr] at h16 hp
      obtain ⟨rfl, ht2, p61, hln, W16⟩ := h16
      have hl16 := W16.2.1.1.1.2.1
      refine ⟨D.length - t1 + 1, by omega, Or.inl ⟨t1, mT1 (I m 46) fs s e, ft1 ++ ftOf e, if I m 46 = 0 then ft2 ++ ftOf e else ft2, fun r => mk (nd 46 [] e r), fu, ?_, rfl, rfl, W16, by omega, ?_, ?_, fun z => ?_, fun z => ?_, fun r => ?_⟩⟩
      · rw [hln, p61]
        have hc : (ftOf e).length = 0 ∨ (ftOf e).length = 1 := by
          unfold ftOf
          split
          · exact Or.inr rfl
          · exact Or.inl rfl
        rcases hc with w | w
        · rw [w, if_pos (show nI 0 = 0 from rfl), Int32.add_zero]
          rfl
        · rw [w, if_neg (by decide), nI_up]
      · rw [hp]
        show pAnd (pAnd (pTs D M fu t1) _) _ = _
        cases pTs D M fu t1 <;> rfl
      · rw [List.length_append, hl1, hln]
      · rw [if_pos z, h0 z]
      · rw [if_neg z, h1 z]
      · obtain ⟨m1, m2⟩ := hmk (nd 46 [] e r)
        refine ⟨m1, ?_⟩
        rw [m2, List.append_assoc]
        rfl
end TXS
