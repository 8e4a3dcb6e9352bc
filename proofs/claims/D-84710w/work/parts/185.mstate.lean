/-! ===== the Model's statements: states, posts, rules ===== -/
set_option maxRecDepth 100000
/-- what stands ahead of a statement -/
def sE (I : xII) (m : Nat) (D : tkL) (fs : List fnc) (t o st : Nat) (x : nte) (sc lp : Nat) (E : env) (f : Nat) (vd : Int32) : Prop := eE I m D E.1 fs false t o st 0 x ∧ (I m 15 = nI sc ∧ sc ≤ 100) ∧ (I m 51 = nI lp ∧ lp ≤ 100) ∧ I m 52 = nI E.2.1 ∧ I m 53 = nI E.2.2 ∧ (I m 50 = nI f ∧ f < 500 ∧ I (m + 26) f = vd) ∧ 2 * E.1.length ≤ t ∧ E.2.1 ≤ 500 * t ∧ E.2.2 ≤ 500 * t ∧ (∀ q ∈ E.1, ∃ s, s ≤ sc ∧ q.sc = nI s) ∧ (I m 46 = 0 → I m 14 = 0)
/-- from I to J: a statement's steps, notes, what is told -/
def sW (I J : xII) (m : Nat) (D : tkL) (fs : List fnc) (st : Nat) (x : nte) (t' o' sc lp f : Nat) (vd b0 c0 : Int32) (q : mR) : Prop := sG I J m ∧ sE J m D fs t' o' (st + q.1.length) (mN (I m 46) x q.2.1) sc lp q.2.2 f vd ∧ eK I J m st 0 ∧ mSt J m st (lnk st b0 c0 q.1) ∧ J m 63 = hdH 1 st b0 q.1 ∧ J m 64 = hdH 2 st c0 q.1
/-- a fault within a statement -/
def sX (I J : xII) (m st : Nat) (b0 c0 : Int32) (fl : Int32 × Int32) : Prop := sG I J m ∧ eX J m fl ∧ (∃ k, k ≤ 900 ∧ J m 14 = nI k) ∧ eK I J m st 0 ∧ ∃ l, st + l.length ≤ 9000 ∧ mSt J m st (lnk st b0 c0 l) ∧ J m 63 = hdH 1 st b0 l ∧ J m 64 = hdH 2 st c0 l
def sP (I : xII) (m : Nat) (D : tkL) (fs : List fnc) (st o : Nat) (x : nte) (sc lp f : Nat) (vd b0 c0 : Int32) (B : Nat) (r : pR) (F : Tr → mR) (v : Int32) (J : xII) : Prop := match r with
  | .error fl => v = 0 ∧ sX I J m st b0 c0 fl
  | .ok (e, t') => v = 1 ∧ sW I J m D fs st x t' o sc lp f vd b0 c0 (F e) ∧ st + (F e).1.length + 4 * (D.length - t') ≤ B
section SST
variable {m t o st pe d B sc lp f t' o' t2 o2 : Nat} {I J K : xII} {D : tkL} {Γ : List dcl} {fs : List fnc} {x y : nte} {l : List stp} {vd b0 c0 v : Int32} {E : env} {q q2 : mR} {b : Bool} {fl : Int32 × Int32}
theorem eK.s0 (h : eK I J m st pe) : eK I J m st 0 := fun a k hk => h a k (by omega)
theorem eK.tr {st' : Nat} (h : eK I J m st 0) (h' : eK J K m st' 0) (hs : st ≤ st') : eK I K m st 0 := fun a k hk => (h' a k (by omega)).trans (h a k hk)
theorem sG.ps (h : sG I J m) : J m 46 = I m 46 := h _ _ (by omega) (by unfold sFk eFk; omega)
theorem sE.len (h : sE I m D fs t o st x sc lp E f vd) (hD : D.length ≤ 1800) : E.1.length < 900 := by
  have := h.2.2.2.2.2.2.1
  have := h.1.1.2.1
  omega
theorem sE.t14 (h : sE I m D fs t o st x sc lp E f vd) (hD : D.length ≤ 1800) : ∃ k, k ≤ 900 ∧ I m 14 = nI k := by
  have hl := h.len hD
  rcases h.1.2.1 with ⟨a1, -⟩ | ⟨-, a2, -⟩
  · exact ⟨0, by omega, h.2.2.2.2.2.2.2.2.2.2 a1⟩
  · exact ⟨_, by omega, a2⟩
/-- an expression goes by -/
theorem sE.w (h : sE I m D fs t o st x sc lp E f vd) (hw : eW I J m D E.1 fs false st 0 x t' o' l y b) (ht : t ≤ t') : sE J m D fs t' o' (st + l.length) (mN (I m 46) x y) sc lp E f vd := by
  obtain ⟨h1, ⟨h2, h2'⟩, ⟨h3, h3'⟩, h4, h5, ⟨h6, h7, h8⟩, h9, h10, h11, h12, h13⟩ := h
  have g := hw.1
  have fld : ∀ k, ¬ eFk k → J m k = I m k := fun k hk => g m k (by omega) (fun z => hk z.2)
  exact ⟨hw.2.1, ⟨(fld 15 (by unfold eFk; omega)).trans h2, h2'⟩, ⟨(fld 51 (by unfold eFk; omega)).trans h3, h3'⟩, (fld 52 (by unfold eFk; omega)).trans h4, (fld 53 (by unfold eFk; omega)).trans h5, ⟨(fld 50 (by unfold eFk; omega)).trans h6, h7, (g _ _ (by omega) (by omega)).trans h8⟩, by omega, by omega, by omega, h12, fun z => by rw [fld 14 (by unfold eFk; omega)]; exact h13 (by rw [← g.ps]; exact z)⟩
theorem sW.rf (h : sE I m D fs t o st x sc lp E f vd) (h1 : I m 63 = b0) (h2 : I m 64 = c0) : sW I I m D fs st x t o sc lp f vd b0 c0 ([], none, E) := ⟨sG.rf, by rw [mN_n]; exact h, fun _ _ _ => rfl, mSt.nil, h1, h2⟩
theorem sW.tr (h : sW I J m D fs st x t' o' sc lp f vd b0 c0 q) {sc2 lp2 : Nat} (h2 : sW J K m D fs (st + q.1.length) (mN (I m 46) x q.2.1) t2 o2 sc2 lp2 f vd (hdH 1 st b0 q.1) (hdH 2 st c0 q.1) q2) : sW I K m D fs st x t2 o2 sc2 lp2 f vd b0 c0 (q.1 ++ q2.1, mnN q.2.1 q2.2.1, q2.2.2) := by
  obtain ⟨a1, a2, a3, a4, a5, a6⟩ := h
  obtain ⟨b1, b2, b3, b4, b5, b6⟩ := h2
  refine ⟨a1.tr b1, ?_, a3.tr b3 (by omega), ?_, ?_, ?_⟩
  · rw [a1.ps, mN_as] at b2
    rw [List.length_append, ← Nat.add_assoc]
    exact b2
  · rw [lnk_app]
    refine mSt.app.mpr ⟨a4.cong fun a k q1 q2 q3 q4 => b3 a k (by rw [lnk_len] at q4; omega), ?_⟩
    rw [lnk_len]
    exact b4
  · rw [hdH_app]
    exact b5
  · rw [hdH_app]
    exact b6
/-- an expression as a statement -/
theorem eW.sw (h : sE I m D fs t o st x sc lp E f vd) (h1 : I m 63 = b0) (h2 : I m 64 = c0) (hw : eW I J m D E.1 fs false st 0 x t' o' l y b) (ht : t ≤ t') (hn : noH l) : sW I J m D fs st x t' o' sc lp f vd b0 c0 (l, y, E) := by
  refine ⟨hw.1.s, h.w hw ht, hw.2.2.1, ?_, ?_, ?_⟩
  · rw [hn.lk]
    exact hw.2.2.2.1
  · rw [hn.hd.1]
    exact (hw.1 _ _ (by omega) (by unfold eFk; omega)).trans h1
  · rw [hn.hd.2]
    exact (hw.1 _ _ (by omega) (by unfold eFk; omega)).trans h2
theorem sW.e (h : sW I J m D fs st x t' o' sc lp f vd b0 c0 q) (hw : eW J K m D q.2.2.1 fs false (st + q.1.length) 0 (mN (I m 46) x q.2.1) t2 o2 l y b) (ht : t' ≤ t2) (hn : noH l) : sW I K m D fs st x t2 o2 sc lp f vd b0 c0 (q.1 ++ l, mnN q.2.1 y, q.2.2) := h.tr (hw.sw h.2.1 h.2.2.2.2.1 h.2.2.2.2.2 ht hn)
/-- only the place and what is open differ -/
theorem sW.mv (h : sW I J m D fs st x t' o' sc lp f vd b0 c0 q) (hq : eQ J K m) (hT : eT K m D t2 o2) (ht : t' ≤ t2) : sW I K m D fs st x t2 o2 sc lp f vd b0 c0 q := by
  have := h.e ((eW.rf h.2.1.1).mv hq hT) ht (fun q hq => nomatch hq)
  rw [List.append_nil, mnN_n] at this
  exact this
theorem sX.tr (h : sW I J m D fs st x t' o' sc lp f vd b0 c0 q) (h2 : sX J K m (st + q.1.length) (hdH 1 st b0 q.1) (hdH 2 st c0 q.1) fl) : sX I K m st b0 c0 fl := by
  obtain ⟨a1, a2, a3, a4, a5, a6⟩ := h
  obtain ⟨b1, b2, b3, b4, l, b5, b6, b7, b8⟩ := h2
  refine ⟨a1.tr b1, b2, b3, a3.tr b4 (by omega), q.1 ++ l, by rw [List.length_append]; omega, ?_, ?_, ?_⟩
  · rw [lnk_app]
    refine mSt.app.mpr ⟨a4.cong fun a k q1 q2 q3 q4 => b4 a k (by rw [lnk_len] at q4; omega), ?_⟩
    rw [lnk_len]
    exact b6
  · rw [hdH_app]
    exact b7
  · rw [hdH_app]
    exact b8
/-- a fault of an expression -/
theorem eH.sx (h : sW I J m D fs st x t' o' sc lp f vd b0 c0 q) (hD : D.length ≤ 1800) (hl : st + q.1.length ≤ 9000) (hg : eH J K m (st + q.1.length) 0) (hx : eX K m fl) : sX I K m st b0 c0 fl := by
  obtain ⟨a1, a2, a3, a4, a5, a6⟩ := h
  refine ⟨a1.tr hg.1.s, hx, ?_, a3.tr hg.2 (by omega), q.1, hl, a4.cong fun a k q1 q2 q3 q4 => hg.2 a k (by rw [lnk_len] at q4; omega), ?_, ?_⟩
  · obtain ⟨k, hk, h14⟩ := a2.t14 hD
    exact ⟨k, hk, (hg.1 _ _ (by omega) (by unfold eFk; omega)).trans h14⟩
  · exact (hg.1 _ _ (by omega) (by unfold eFk; omega)).trans a5
  · exact (hg.1 _ _ (by omega) (by unfold eFk; omega)).trans a6
theorem s_X13_sizeHere (hi : inD D) (h : eE I m D Γ fs false t o st pe x) (hd : o + d = 40) (hpe : pe ≤ 10 * o) (hB : st + 4 * (D.length - t) ≤ 9000) : w_X13_sizeHere m (fun v J => eG2 I J m ∧ eK I J m st pe ∧ match pE D d t with
    | .error f => eX J m f
    | .ok (e, t1) => eE J m D Γ fs false t1 o st pe (mN (I m 46) x (mnN (nX Γ fs true true none e) (zSz Γ fs e))) ∧ v = mny (I m 46) Γ fs e) I := by
  have hT := h.1
  unfold w_X13_sizeHere
  rw [hT.ix]
  refine ⟨hT.vp, _, s_X13_value hi h hd hpe hB (Nat.le_refl _), ?_⟩
  rintro v2 I2 ⟨g2, k2, r2⟩
  cases hr : pE D d t with
  | error f =>
    rw [hr] at r2
    refine ⟨fun _ => ⟨g2, k2, r2.1⟩, fun z => absurd ?_ z⟩
    rw [r2.1.1]
    exact r2.1.2.2
  | ok et =>
    obtain ⟨e, t1⟩ := et
    rw [hr] at r2
    obtain ⟨E2, h55, hv⟩ := r2
    have hup := pE_up hT.1.1 d t hT.2.1 e t1 hr
    have hfst := (pE_g hT.1.1 d t hT.2.1 e t1 hr).f
    have hp5 : I (m + 5) t = tFst e := by rw [hfst]; exact hT.1.at (by omega)
    have p46 : I2 m 46 = I m 46 := g2 _ _ (by omega) (by unfold eFk; omega)
    rw [E2.1.2.2.2.2.2, p46, h55, hp5]
    have noted : ∀ z, (¬ I m 46 = 0 → zSz Γ fs e = z) → ∀ J, eN I2 J m → nFd J m (mN (I2 m 46) (mN (I m 46) x (nX Γ fs true true none e)) z) → eG2 I J m ∧ eK I J m st pe ∧ eE J m D Γ fs false t1 o st pe (mN (I m 46) x (mnN (nX Γ fs true true none e) (zSz Γ fs e))) := by
      intro z hz J hN hF
      have w := (eW.rf E2).nt (z := z) hN (by rw [mN_n]; exact hF)
      refine ⟨g2.tr hN.g.g2, fun a k hk => (hN a k (by omega)).trans (k2 a k hk), ?_⟩
      have w2 := w.2.1
      rw [p46] at w2
      by_cases hp : I m 46 = 0
      · rw [mN, if_pos hp, mN, if_pos hp] at w2
        rw [mN, if_pos hp]
        exact w2
      · rw [hz hp, ← mN_as]
        exact w2
    have same : zSz Γ fs e = none ∨ I m 46 = 0 → eE I2 m D Γ fs false t1 o st pe (mN (I m 46) x (mnN (nX Γ fs true true none e) (zSz Γ fs e))) := by
      rintro (z | z)
      · rw [z, mnN_n]
        exact E2
      · rw [mN, if_pos z] at E2 ⊢
        exact E2
    refine ⟨fun z => absurd z (by decide), fun _ => ⟨fun hp => ⟨g2, k2, same (Or.inr hp), by rw [mny, if_pos hp]⟩, fun hp => ?_⟩⟩
    cases hn : hnX Γ fs e with
    | true => exact ⟨fun z => absurd z (by decide), fun _ => ⟨g2, k2, same (Or.inl (by rw [zSz, if_pos hn])), by rw [mny, if_neg hp, if_pos hn]⟩⟩
    | false =>
      have hnn : ¬ hnX Γ fs e = true := by rw [hn]; decide
      have hv' : v2 = vC Γ fs e := by
        rw [hv, if_neg]
        rintro (z | z)
        · exact hp z
        · exact hnn z
      rw [hv']
      refine ⟨fun _ => ⟨fun z => ⟨_, s_X13_note E2.2.2.2.2.2 (by decide), fun J hJ => ?_⟩, fun z => ⟨fun z2 => ⟨_, s_X13_note E2.2.2.2.2.2 (by decide), fun J hJ => ?_⟩, fun z2 => ⟨g2, k2, same (Or.inl ?_), ?_⟩⟩⟩, fun z => absurd rfl z⟩
      · obtain ⟨n1, n2, n3⟩ := noted (nt 10 (tFst e)) (fun _ => by rw [zSz, if_neg hnn, if_pos (Or.inl z)]) J hJ.1 hJ.2
        exact ⟨n1, n2, n3, by rw [mny, if_neg hp, if_neg hnn, if_pos z]⟩
      · obtain ⟨n1, n2, n3⟩ := noted (nt 10 (tFst e)) (fun _ => by rw [zSz, if_neg hnn, if_pos (Or.inr z2)]) J hJ.1 hJ.2
        exact ⟨n1, n2, n3, by rw [mny, if_neg hp, if_neg hnn, if_neg z, if_pos z2]⟩
      · rw [zSz, if_neg hnn, if_neg]
        rintro (w | w)
        · exact z w
        · exact z2 w
      · rw [mny, if_neg hp, if_neg hnn, if_neg z, if_neg z2]
end SST
