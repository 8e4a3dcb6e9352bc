/-! ===== the Model's expressions: elements ===== -/
set_option maxRecDepth 100000
abbrev rkT : Type := Nat → Int32 → Int32 → (Int32 → xII → Prop) → xII → Prop
/-- what an answer of the grammar leaves -/
def eP (I : xII) (m : Nat) (D : tkL) (Γ : List dcl) (fs : List fnc) (c : Bool) (st pe o : Nat) (x : nte) (B : Nat) (r : pR) (F : Tr → List stp × nte × Bool) (v : Int32) (J : xII) : Prop := eH I J m st pe ∧ match r with
  | .error f => v = 0 ∧ eX J m f
  | .ok (e, t') => v = 1 ∧ eW I J m D Γ fs c st pe x t' o (F e).1 (F e).2.1 (F e).2.2 ∧ st + (F e).1.length + 4 * (D.length - t') ≤ B
def fX (Γ : List dcl) (fs : List fnc) (c w : Bool) (ks : Option (List Int32)) (st : Nat) (e : Tr) : List stp × nte × Bool := (cX Γ fs c ks st e, nX Γ fs c w ks e, hnX Γ fs e)
/-- expressions where d more may be opened -/
def oX (Rk : rkT) (m : Nat) (D : tkL) (Γ : List dcl) (fs : List fnc) (c : Bool) (d : Nat) : Prop := ∀ I t o st pe x B, o + d = 40 → eE I m D Γ fs c t o st pe x → pe ≤ 10 * o → st + 4 * (D.length - t) ≤ B → B ≤ 9000 → Rk 0 0 0 (eP I m D Γ fs c st pe o x B (pE D d t) (fX Γ fs c true none st)) I
def oN (Rk : rkT) (m : Nat) (D : tkL) (Γ : List dcl) (fs : List fnc) (c : Bool) (d : Nat) : Prop := ∀ d', d = d' + 1 → oX Rk m D Γ fs c d'
def elS (q : Option dcl) (row : Int32) : stp := match q with
  | some b => (6, b.ce, b.sz, 2 * row + if b.lo = 0 then 0 else 1)
  | none => (6, 0, 1, 2 * row)
/-- something told, at k -/
def mAtk (I : xII) (m : Nat) (q : Option dcl) (k : Int32) : Prop := match q with
  | none => k = -1
  | some d => ∃ i, k = nI i ∧ i < 900 ∧ mDc I m i d
section ME
variable {m t o st pe d B : Nat} {I J K : xII} {D : tkL} {Γ : List dcl} {fs : List fnc} {c : Bool} {x : nte} {Rk : rkT}
theorem eP.er {I : xII} {o : Nat} {F : Tr → List stp × nte × Bool} {v : Int32} {f : Int32 × Int32} (hg : eH I J m st pe) (hx : eX J m f) (hv : 0 = v) : eP I m D Γ fs c st pe o x B (.error f) F v J := ⟨hg, hv.symm, hx⟩
theorem s_X13_element (hO : oN Rk m D Γ fs c d) (h : eE I m D Γ fs c t o st pe x) (hd : o + d = 40) (hpe : pe ≤ 10 * o + 10) (hB : st + 4 * (D.length - t) ≤ B) (hB9 : B ≤ 9000) {k : Int32} {q : Option dcl} (hk : mAtk I m q k) (h64 : tK D t = 64) : w_X13_element Rk m k (eP I m D Γ fs c st pe o x B (pOpen D 64 d t (pAnd (pE' D d (t + 1)) fun i t1 => pNeed D 65 t1 (.ok (i, t1 + 1)))) fun i => (cX Γ fs c none st i ++ [elS q (tP D t)], nX Γ fs c true none i, hnX Γ fs i)) I := by
  have hT := h.1
  have ht1 := hT.1.1.nx' hT.2.1 h64
  unfold w_X13_element
  rw [hT.ix, hT.1.at ht1]
  refine ⟨hT.vp, fun y => y = (elS q (tP D t)).2.1, fun y2 e2 => ⟨fun y => y = (elS q (tP D t)).2.2.1, fun y3 e3 => ⟨fun y => 2 * tP D t + (if y = 0 then 0 else 1) = (elS q (tP D t)).2.2.2, fun y4 e4 => ?_, ?_⟩, ?_⟩, ?_⟩
  · subst e2 e3
    rw [e4]
    refine ⟨_, s_X13_openSign hT (k := 64) (by decide), ?_⟩
    rintro v5 I5 - ⟨q5, ⟨e, -⟩ | ⟨-, ho, rfl, x5⟩ | ⟨-, ho, rfl, T5⟩⟩
    · exact absurd h64 e
    · refine ⟨fun _ => ?_, fun q => absurd rfl q⟩
      obtain rfl : d = 0 := by omega
      rw [pOpen, if_pos h64, if_pos rfl]
      exact eP.er q5.h x5 rfl
    · refine ⟨fun q => absurd q (by decide), fun _ => ?_⟩
      obtain ⟨d', rfl⟩ : ∃ d', d = d' + 1 := ⟨d - 1, by omega⟩
      have w5 := (eW.rf h).mv q5 T5
      refine ⟨_, hO d' rfl _ _ _ _ _ _ (B - 4) (by omega) w5.2.1 (by omega) (by show st + 4 * (D.length - (t + 1)) ≤ B - 4; omega) (by omega), ?_⟩
      rintro v6 I6 - ⟨g6, r6⟩
      rw [pOpen, if_pos h64, if_neg (by omega)]
      rw [show pE' D (d' + 1) (t + 1) = pE D d' (t + 1) from rfl]
      cases hr : pE D d' (t + 1) with
      | error f =>
        rw [hr] at r6
        obtain ⟨rfl, x6⟩ := r6
        refine ⟨fun _ => ?_, fun q => absurd rfl q⟩
        exact eP.er (w5.h.tr g6) x6 rfl
      | ok et =>
        obtain ⟨e, t1⟩ := et
        rw [hr] at r6
        obtain ⟨rfl, w6, b6⟩ := r6
        refine ⟨fun q => absurd q (by decide), fun _ => ?_⟩
        have w7 := w5.tr w6
        have hT7 := w7.2.1.1
        refine ⟨_, s_X13_closeSign hT7 (k := 65) (by decide), ?_⟩
        rintro v7 I7 - ⟨q7, ⟨e7, rfl, x7⟩ | ⟨e7, rfl, T7⟩⟩
        · refine ⟨fun _ => ?_, fun q => absurd rfl q⟩
          show eP _ _ _ _ _ _ _ _ _ _ _ (pNeed D 65 t1 _) _ _ _
          rw [pNeed, if_neg e7]
          exact eP.er (w7.h.q q7) x7 rfl
        · refine ⟨fun q => absurd q (by decide), fun _ => ?_⟩
          have w8 := w7.mv q7 T7
          have hb : st + (cX Γ fs c none st e).length + 4 * (D.length - t1) ≤ B - 4 := b6
          refine ⟨_, s_X13_step (s := st + (cX Γ fs c none st e).length) w8.2.1.2.2.2.1 (by omega), ?_⟩
          rintro _ I8 ⟨rfl, s0, s1, s2, s3, s4, -⟩
          refine ⟨vp_in_nI (by omega) (by decide), ?_⟩
          rintro _ rfl
          show eP _ _ _ _ _ _ _ _ _ _ _ (pNeed D 65 t1 _) _ _ _
          rw [pNeed, if_pos e7, show ix (nI (st + (cX Γ fs c none st e).length)) = st + (cX Γ fs c none st e).length from nI_clamp (by omega)]
          have hS := s1.sc (v := (elS q (tP D t)).2.2.2)
          have w9 := w8.st1 (l := cX Γ fs c none st e) (w := 6) (a := (elS q (tP D t)).2.1) (d := (elS q (tP D t)).2.2.1) (v := (elS q (tP D t)).2.2.2) (by rw [gX, if_neg (by omega)]; exact s0) hS (by rw [gX, if_neg (by omega)]; exact s2) (by rw [gX, if_neg (by omega)]; exact s3) (by rw [gX, if_neg (by omega)]; exact s4) (fun _ => xup_s)
          have he : elS q (tP D t) = (6, (elS q (tP D t)).2.1, (elS q (tP D t)).2.2.1, (elS q (tP D t)).2.2.2) := by cases q <;> rfl
          refine ⟨w9.h, rfl, ?_, ?_⟩
          · rw [he]
            exact w9
          · dsimp only
            rw [List.length_append]
            show st + ((cX Γ fs c none st e).length + 1) + 4 * (D.length - (t1 + 1)) ≤ B
            have := T7.2.1
            omega
  · cases q with
    | none =>
      obtain rfl : k = -1 := hk
      exact ⟨fun _ => by dsimp only; rw [if_pos rfl]; exact Int32.add_zero _, fun z => absurd rfl z⟩
    | some q =>
      obtain ⟨i, rfl, hi, g⟩ := hk
      refine ⟨fun z => absurd z (nI_m1 (by omega)), fun _ => ⟨vp_in_nI hi (by decide), ?_⟩⟩
      rw [show ix (nI i) = i from nI_clamp (by omega), g.2.2.2.2.2.2.2]
      exact ⟨fun z => by rw [elS]; dsimp only; rw [if_pos rfl, if_pos z], fun z => by rw [elS]; dsimp only; rw [if_neg (by decide), if_neg z]⟩
  · cases q with
    | none =>
      obtain rfl : k = -1 := hk
      exact ⟨fun _ => rfl, fun z => absurd rfl z⟩
    | some q =>
      obtain ⟨i, rfl, hi, g⟩ := hk
      refine ⟨fun z => absurd z (nI_m1 (by omega)), fun _ => ⟨vp_in_nI hi (by decide), ?_⟩⟩
      rw [show ix (nI i) = i from nI_clamp (by omega), g.2.2.2.2.2.1]
      rfl
  · cases q with
    | none =>
      obtain rfl : k = -1 := hk
      exact ⟨fun _ => rfl, fun z => absurd rfl z⟩
    | some q =>
      obtain ⟨i, rfl, hi, g⟩ := hk
      refine ⟨fun z => absurd z (nI_m1 (by omega)), fun _ => ⟨vp_in_nI hi (by decide), ?_⟩⟩
      rw [show ix (nI i) = i from nI_clamp (by omega), g.2.2.2.2.1]
      rfl
end ME
