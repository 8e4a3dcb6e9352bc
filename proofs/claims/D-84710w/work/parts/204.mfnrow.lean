/-! ===== the Model's functions: the row of formals ===== -/
set_option maxRecDepth 100000
def fnL (m : Nat) (f : Int32) (Q : Int32 → xII → Prop) (I27 : xII) : Prop := ∃ L28 : Nat → Int32 → Int32 → Int32 → xII → Prop, (∃ n28 : Nat, L28 n28 (4 : Int32) (0 : Int32) (1 : Int32) I27) ∧ (∀ (n28 : Nat) (y28_4 : Int32) (y28_5 : Int32) (y28_6 : Int32) (I28 : xII), L28 n28 y28_4 y28_5 y28_6 I28 → ((y28_6 = 0 → fnT m f y28_4 y28_5 Q I28) ∧ (¬ y28_6 = 0 → (((I28 m 44) = 0 → ∃ R55 : Int32 → xII → Prop, w_X13_formalHere m y28_5 R55 I28 ∧ (∀ (v55 : Int32) (I55 : xII), R55 v55 I55 → ((((I55 m 44) ≤ 0 → ∃ J56 : xII → Prop, (∀ (I56 : xII), J56 I56 → ∃ R57 : Int32 → xII → Prop, w_X13_isSign m (28 : Int32) R57 I56 ∧ (∀ (v57 : Int32) (I57 : xII), (v57 = 0 ∨ v57 = 1) → R57 v57 I57 → (∀ I58 : xII, I58 = xup I57 m 42 ((I57 m 42) + (if v57 = 0 then (0 : Int32) else (1 : Int32))) → ((∃ q28 : Nat, q28 < n28 ∧ L28 q28 (y28_4 + (if v55 = 0 then (1 : Int32) else (2 : Int32))) (y28_5 + (1 : Int32)) v57 I58))))) ∧ (((I55 m 46) = 0 → vp_in (I55 m 35) 900 ∧ (∀ I60 : xII, I60 = xup I55 (m + 27) (ix (I55 m 35)) v55 → (∀ I61 : xII, I61 = xup I60 m 35 ((I55 m 35) + (1 : Int32)) → (J56 I61)))) ∧ (¬ (I55 m 46) = 0 → J56 I55))) ∧ (¬ (I55 m 44) ≤ 0 → Q (0 : Int32) I55))))) ∧ (¬ (I28 m 44) = 0 → fnT m f y28_4 y28_5 Q I28)))))
/-- a function's measure by its formals -/
def fmM (ks : List Int32) : Nat := ks.foldl (fun a k => a + if k = 0 then 1 else 2) 4
theorem fmM_snoc {ks : List Int32} {k : Int32} : fmM (ks ++ [k]) = fmM ks + if k = 0 then 1 else 2 := by
  unfold fmM
  rw [List.foldl_append]
  rfl
theorem fmM_le : ∀ (ks : List Int32), fmM ks ≤ 4 + 2 * ks.length := by
  intro ks
  have : ∀ (ks : List Int32) (a : Nat), ks.foldl (fun a k => a + if k = 0 then 1 else 2) a ≤ a + 2 * ks.length := by
    intro ks
    induction ks with
    | nil => exact fun a => Nat.le_refl _
    | cons k ks ih =>
      intro a
      rw [List.foldl_cons, List.length_cons]
      have h1 := ih (a + if k = 0 then 1 else 2)
      have h2 : (if k = 0 then 1 else 2) ≤ 2 := by split <;> omega
      omega
  exact this ks 4
/-- what a function from its formals on may change -/
def fG2 (I J : xII) (m k T : Nat) : Prop := ∀ a j, (a < m + 10 ∨ (m + 17 < a ∧ a < m + 32 ∧ ¬ (m + 20 ≤ a ∧ a ≤ m + 23 ∧ j = k) ∧ ¬ (a = m + 27 ∧ T ≤ j)) ∨ m + 39 < a) → ¬ (a = m ∧ (sFk j ∨ j = 50 ∨ j = 35)) → J a j = I a j
def flQ (I : xII) (m : Nat) (D : tkL) (fs : List fnc) (st : Nat) (x : nte) (k T : Nat) (vd : Int32) (Γ : List dcl) (mkF : Tr → Tr → Tr) (B : Nat) (r : pR) (v : Int32) (J : xII) : Prop := fG2 I J m k T ∧ match r with
  | .error fl => v = 0 ∧ eX J m fl
  | .ok (e, t2) => v = 1 ∧ ∃ F bd z E1 q, e = mkF F (nd 21 [] bd lf) ∧ mFm (I m 46) fs F 0 (Γ, 0, 0) = (z, E1) ∧ q = mS (I m 46) fs vd bd 1 false st E1 ∧ gE J m D fs t2 (st + q.1.length + 2) (mN (I m 46) x (mnN z q.2.1)) Γ ∧ eK I J m st 0 ∧ mSt J m st (q.1 ++ [(0, 0, 0, 0), (17, 0, 0, 0)]) ∧ J (m + 20) k = nI (fmKs F).length ∧ J (m + 23) k = nI st ∧ J (m + 21) k = nI (fmM (fmKs F) + q.2.2.2.1) ∧ J (m + 22) k = nI q.2.2.2.2 ∧ J m 50 = -1 ∧ (I m 46 = 0 → J m 35 = nI (T + (fmKs F).length) ∧ 2 * (T + (fmKs F).length) ≤ t2 ∧ ∀ i kd, (fmKs F)[i]? = some kd → J (m + 27) (T + i) = kd) ∧ st + q.1.length + 2 + 4 * (D.length - t2) ≤ B
section FNR
variable {m t o st d B k cnt mz t1 t3 T : Nat} {I J K I27 I28 : xII} {D : tkL} {fs : List fnc} {Γ new : List dcl} {x y z : nte} {vd b0 c0 ps : Int32} {E E1 : env} {fl : Int32 × Int32} {mkF : Tr → Tr → Tr}
theorem fG.g2 (h : fG I J m k) : fG2 I J m k T := fun a j h1 h2 => h a j (by omega) (fun z => h2 ⟨z.1, by rcases z.2 with w | w; exact Or.inl w; exact Or.inr (Or.inl w)⟩)
theorem fG2.tr (h : fG2 I J m k T) (h' : fG2 J K m k T) : fG2 I K m k T := fun a j h1 h2 => (h' a j h1 h2).trans (h a j h1 h2)
theorem sG.g2 (h : sG I J m) : fG2 I J m k T := h.fg.g2
theorem pFm_up (hD : wfD D) (ht : t < D.length) : pUp D t (pFm D t) := by
  intro e t1 h
  unfold pFm at h
  split at h
  · rename_i hk
    have h1 : t + 1 < D.length := by
      rcases hk with z | z
      · exact hD.nx' ht z
      · exact hD.nx' ht z
    obtain ⟨hk, h⟩ := pNeed_ok h
    have h2 := hD.nx' h1 hk
    split at h
    · obtain ⟨hk, -, h⟩ := pOpen_ok h
      have h3 := hD.nx' h2 hk
      obtain ⟨hk, h⟩ := pNeed_ok h
      have h4 := hD.nx' h3 hk
      cases h
      omega
    · cases h
      omega
  · exact nomatch h
theorem pS'_up (hD : wfD D) (d t : Nat) (ht : t < D.length) : pUp D t (pS' D d t) := by
  cases d with
  | zero => exact fun _ _ h => nomatch h
  | succ d => exact pS_up hD d t ht
theorem fnT_mono {f y4 y5 : Int32} {Q Q' : Int32 → xII → Prop} (h : fnT m f y4 y5 Q I) (hQ : ∀ v J, Q v J → Q' v J) : fnT m f y4 y5 Q' I := by
  obtain ⟨R14, a1, a2⟩ := h
  refine ⟨R14, a1, fun v14 I14 hv h14 => ?_⟩
  obtain ⟨b1, b2⟩ := a2 v14 I14 hv h14
  refine ⟨fun z => hQ _ _ (b1 z), fun z => ?_⟩
  obtain ⟨c1, c2⟩ := b2 z
  refine ⟨c1, fun I16 h16 I17 h17 => ?_⟩
  obtain ⟨R18, d1, d2⟩ := c2 I16 h16 I17 h17
  refine ⟨R18, d1, fun v18 I18 hv18 h18 => ?_⟩
  obtain ⟨e1, e2⟩ := d2 v18 I18 hv18 h18
  refine ⟨fun z => ?_, fun z => ?_⟩
  · obtain ⟨R26, f1, f2⟩ := e1 z
    exact ⟨R26, f1, fun v26 I26 hv26 h26 => hQ _ _ (f2 v26 I26 hv26 h26)⟩
  · obtain ⟨R19, f1, f2⟩ := e2 z
    refine ⟨R19, f1, fun v19 I19 hv19 h19 => ?_⟩
    obtain ⟨g1, g2⟩ := f2 v19 I19 hv19 h19
    refine ⟨fun z => hQ _ _ (g1 z), fun z => ?_⟩
    obtain ⟨R20, i1, i2⟩ := g2 z
    refine ⟨R20, i1, fun v20 I20 h20 => ?_⟩
    obtain ⟨R21, j1, j2⟩ := i2 v20 I20 h20
    refine ⟨R21, j1, fun v21 I21 h21 I22 h22 I23 h23 => ?_⟩
    obtain ⟨R24, k1, k2⟩ := j2 v21 I21 h21 I22 h22 I23 h23
    exact ⟨R24, k1, fun I24 h24 I25 h25 => hQ _ _ (k2 I24 h24 I25 h25)⟩
/-- the end, from a state with all formals -/
theorem flQ_of {F : Tr} {B' : Nat} (hB' : B' = B) {r : pR} {v : Int32} (g : fG2 I I28 m k T) (hK : eK I I28 m st 0) (p46 : I28 m 46 = I m 46) (hmf : mFm (I m 46) fs F 0 (Γ, 0, 0) = (z, E1)) (h35 : I m 46 = 0 → I28 m 35 = nI (T + (fmKs F).length) ∧ 2 * (T + (fmKs F).length) ≤ t3 ∧ ∀ i kd, (fmKs F)[i]? = some kd → I28 (m + 27) (T + i) = kd) (hup : ∀ e t2, r = .ok (e, t2) → t3 ≤ t2) (h : fnQ I28 m D fs st (mN (I m 46) x z) k vd (fmKs F).length (fmM (fmKs F)) E1 Γ (fun b => mkF F b) B r v J) : flQ I m D fs st x k T vd Γ mkF B r v J := by
  obtain ⟨g2, h⟩ := h
  refine ⟨g.tr g2.g2, ?_⟩
  cases r with
  | error fl => exact h
  | ok et =>
    obtain ⟨e, t2⟩ := et
    obtain ⟨hv, bd, q, h1, h2, h3, h4, h5, h6, h7, h8, h9, h10, h11⟩ := h
    rw [p46] at h2 h3
    rw [mN_as] at h3
    refine ⟨hv, F, bd, z, E1, q, h1, hmf, h2, h3, hK.tr h4 (Nat.le_refl _), h5, h6, h7, h8, h9, h10, fun z0 => ?_, h11⟩
    obtain ⟨c1, c2, c3⟩ := h35 z0
    have hu := hup e t2 rfl
    refine ⟨?_, by omega, fun i kd hi => ?_⟩
    · rw [g2 _ _ (by omega) (by unfold sFk eFk; omega)]
      exact c1
    · rw [g2 _ _ (by omega) (by omega)]
      exact c3 i kd hi
theorem s_fnL (ht0 : 0 < t1) (hi : inD D) (hD : D.length ≤ 1800) (h : sE I27 m D fs t1 1 st x 1 0 (Γ, 0, 0) k vd) (hΓ : ∀ q ∈ Γ, ∃ s, s ≤ 0 ∧ q.sc = nI s) (h63 : I27 m 63 = -1) (h64 : I27 m 64 = -1) (hT0 : I27 m 46 = 0 → I27 m 35 = nI T ∧ 2 * T ≤ t1) (hfs : I27 m 46 = 0 ∨ ∀ F t', pFms D D.length t1 = .ok (F, t') → ∀ q, fs[k]? = some q → q.2.2.2.length = (fmKs F).length) (hB : st + 4 * (D.length - t1) ≤ B) (hB9 : B ≤ 9000) : fnL m (nI k) (flQ I27 m D fs st x k T vd Γ mkF B (pAnd (pFms D D.length t1) fun F t3 => pNeed D 63 t3 (pAnd (pBlock D (pS' D 40) 40 (t3 + 1)) fun b t2 => .ok (mkF F b, t2)))) I27 := by
  have hT := h.1.1
  have hl := hT.2.1
  have hD4 := hT.1.1.2.1
  unfold fnL
  -- what stands in the row
  refine ⟨fun n y4 y5 y6 I28 => ∃ (z : nte) (Ec : env) (new : List dcl) (ks : List Int32) (tk : Nat), y4 = nI (fmM ks) ∧ y5 = nI ks.length ∧ tk < D.length ∧ t1 + ks.length ≤ tk ∧ Ec.1 = new ++ Γ ∧ (∀ q ∈ new, q.sc = nI 1) ∧ sE I28 m D fs tk 1 st (mN (I27 m 46) x z) 1 0 Ec k vd ∧ I28 m 63 = -1 ∧ I28 m 64 = -1 ∧ fG2 I27 I28 m k T ∧ eK I27 I28 m st 0 ∧ I28 m 46 = I27 m 46 ∧ (I27 m 46 = 0 → I28 m 35 = nI (T + ks.length) ∧ 2 * (T + ks.length) ≤ tk ∧ ∀ i kd, ks[i]? = some kd → I28 (m + 27) (T + i) = kd) ∧ ((y6 = 1 ∧ n = D.length - tk + 1 ∧ ∃ (mk : Tr → Tr) (fu : Nat), D.length < fu + tk ∧ pFms D D.length t1 = pAnd (pFms D fu tk) (fun s t' => .ok (mk s, t')) ∧ ∀ s, mFm (I27 m 46) fs (mk s) 0 (Γ, 0, 0) = (mnN z (mFm (I27 m 46) fs s ks.length Ec).1, (mFm (I27 m 46) fs s ks.length Ec).2) ∧ fmKs (mk s) = ks ++ fmKs s) ∨ (y6 = 0 ∧ n = 0 ∧ ∃ F, pFms D D.length t1 = .ok (F, tk) ∧ mFm (I27 m 46) fs F 0 (Γ, 0, 0) = (z, Ec) ∧ fmKs F = ks)), ⟨D.length - t1 + 1, none, (Γ, 0, 0), [], [], t1, rfl, rfl, hl, by show t1 + 0 ≤ t1; omega, rfl, (fun q hq => nomatch hq), by rw [mN_n]; exact h, h63, h64, fun _ _ _ _ => rfl, fun _ _ _ => rfl, rfl, (fun z0 => ⟨(hT0 z0).1, (hT0 z0).2, fun i kd hi => nomatch hi⟩), Or.inl ⟨rfl, rfl, id, D.length, by omega, ?_, fun s => ⟨rfl, rfl⟩⟩⟩, ?_⟩
  · cases pFms D D.length t1 <;> rfl
  rintro n y4 y5 y6 I28 ⟨z, Ec, new, ks, tk, rfl, rfl, htk, hks, hEc, hnew, E28, p63, p64, g28, K28, p46, h35, hcase⟩
  have i44 : I28 m 44 = 0 := E28.1.1.2.2.2.2.2
  have hML := fmM_le ks
  rcases hcase with ⟨rfl, rfl, mk, fu, hfu, hp, hmk⟩ | ⟨rfl, rfl, F, hp, hmf, rfl⟩
  rotate_left
  · refine ⟨fun _ => ?_, fun q => absurd rfl q⟩
    rw [hp]
    have := s_fnT (mk := fun b => mkF F b) (cnt := (fmKs F).length) (mz := fmM (fmKs F)) (B := B) hi hD E28 hEc hnew hΓ p63 p64 (by
      rcases hfs with w | w
      · exact Or.inl (by rw [p46]; exact w)
      · exact Or.inr fun q hq => w F tk hp q hq) (by omega) hB9 (by omega)
    refine fnT_mono this fun v J hJ => ?_
    exact flQ_of rfl g28 K28 p46 hmf h35 (fun e t2 hr => by
      obtain ⟨hk, hh⟩ := pNeed_ok hr
      obtain ⟨u, w, hb, hh2⟩ := pAnd_ok hh
      have h3 := hT.1.1.nx' htk hk
      have := pBlock_up hT.1.1 (fun t ht => pS'_up hT.1.1 40 t ht) h3 _ _ hb
      cases hh2
      omega) hJ
  refine ⟨fun q => absurd q (by decide), fun _ => ?_⟩
  refine ⟨fun _ => ?_, fun w => absurd i44 w⟩
  obtain ⟨fu, rfl⟩ : ∃ j, fu = j + 1 := ⟨fu - 1, by omega⟩
  refine ⟨_, s_X13_formalHere (n := ks.length) hD E28 p63 p64 (by omega) (by omega), ?_⟩
  intro v55 I55 hP
  rw [pFms] at hp
  cases hr : pFm D tk with
  | error fl =>
    rw [hr] at hP hp
    have i55 : 0 < I55 m 44 := by rw [hP.2.1.1]; exact hP.2.1.2.2
    refine ⟨fun w => absurd w (Int32.not_le.mpr i55), fun _ => ?_⟩
    rw [hp]
    exact ⟨g28.tr hP.1.g2, rfl, hP.2.1⟩
  | ok et =>
    obtain ⟨e, t2⟩ := et
    rw [hr] at hP hp
    obtain ⟨fi, p, nm, a, b, rfl, rfl, ha, w55⟩ := hP
    have hup := pFm_up hT.1.1 htk _ _ hr
    have i55 : I55 m 44 = 0 := w55.2.1.1.1.2.2.2.2.2
    refine ⟨fun _ => ?_, fun w => absurd (by rw [i55]; decide) w⟩
    rw [p46] at w55
    have p5546 : I55 m 46 = I27 m 46 := by rw [← p46]; exact w55.1.ps
    have E55 : sE I55 m D fs t2 1 st (mN (I27 m 46) x (mnN z (fmL (I27 m 46) fs p nm a b ks.length Ec).1)) 1 0 (fmL (I27 m 46) fs p nm a b ks.length Ec).2 k vd := by
      have := w55.2.1
      rw [p46, mN_as] at this
      exact this
    have hkn : fmK a b = 0 ↔ a = 0 := by
      unfold fmK
      constructor
      · intro w
        by_cases q : a = 0
        · exact q
        · rw [if_neg q] at w
          split at w
          · exact absurd w (by decide)
          · exact absurd w (by decide)
      · intro w
        rw [if_pos w]
    have henv : ∃ n2, (fmL (I27 m 46) fs p nm a b ks.length Ec).2.1 = n2 ++ Γ ∧ ∀ q ∈ n2, q.sc = nI 1 := by
      unfold fmL tellD
      dsimp only
      split
      · exact ⟨new, hEc, hnew⟩
      · refine ⟨_ :: new, by rw [hEc]; rfl, fun q hq => ?_⟩
        rcases List.mem_cons.mp hq with rfl | hq
        · rfl
        · exact hnew q hq
    obtain ⟨n2, hn1, hn2⟩ := henv
    have G55 : fG2 I27 I55 m k T := g28.tr w55.1.g2
    have K55 : eK I27 I55 m st 0 := K28.tr w55.2.2.1 (Nat.le_refl _)
    have q63 : I55 m 63 = -1 ∧ I55 m 64 = -1 := ⟨w55.2.2.2.2.1, w55.2.2.2.2.2⟩
    have l55 : 2 * ks.length ≤ 2 * tk := by omega
    have hM1 : nI (fmM ks) + (if fmK a b = 0 then (1 : Int32) else 2) = nI (fmM (ks ++ [fmK a b])) := by
      rw [fmM_snoc]
      by_cases q : fmK a b = 0
      · rw [if_pos q, if_pos q]
        exact nI_up
      · rw [if_neg q, if_neg q]
        exact nI_add (a := fmM ks) (b := 2)
    have hL1 : nI ks.length + 1 = nI (ks ++ [fmK a b]).length := by rw [List.length_append]; exact nI_up
    rw [hM1, hL1]
    -- on
    have on : ∀ I56, sE I56 m D fs t2 1 st (mN (I27 m 46) x (mnN z (fmL (I27 m 46) fs p nm a b ks.length Ec).1)) 1 0 (fmL (I27 m 46) fs p nm a b ks.length Ec).2 k vd → I56 m 63 = -1 → I56 m 64 = -1 → fG2 I27 I56 m k T → eK I27 I56 m st 0 → I56 m 46 = I27 m 46 → (I27 m 46 = 0 → I56 m 35 = nI (T + (ks ++ [fmK a b]).length) ∧ 2 * (T + (ks ++ [fmK a b]).length) ≤ t2 ∧ ∀ i kd, (ks ++ [fmK a b])[i]? = some kd → I56 (m + 27) (T + i) = kd) → ∃ R57 : Int32 → xII → Prop, w_X13_isSign m 28 R57 I56 ∧ ∀ (v57 : Int32) (I57 : xII), (v57 = 0 ∨ v57 = 1) → R57 v57 I57 → ∀ I58 : xII, I58 = xup I57 m 42 (I57 m 42 + (if v57 = 0 then (0 : Int32) else 1)) → ∃ q28, q28 < D.length - tk + 1 ∧ ∃ (z : nte) (Ec : env) (new : List dcl) (ks' : List Int32) (tk : Nat), nI (fmM (ks ++ [fmK a b])) = nI (fmM ks') ∧ nI (ks ++ [fmK a b]).length = nI ks'.length ∧ tk < D.length ∧ t1 + ks'.length ≤ tk ∧ Ec.1 = new ++ Γ ∧ (∀ q ∈ new, q.sc = nI 1) ∧ sE I58 m D fs tk 1 st (mN (I27 m 46) x z) 1 0 Ec k vd ∧ I58 m 63 = -1 ∧ I58 m 64 = -1 ∧ fG2 I27 I58 m k T ∧ eK I27 I58 m st 0 ∧ I58 m 46 = I27 m 46 ∧ (I27 m 46 = 0 → I58 m 35 = nI (T + ks'.length) ∧ 2 * (T + ks'.length) ≤ tk ∧ ∀ i kd, ks'[i]? = some kd → I58 (m + 27) (T + i) = kd) ∧ ((v57 = 1 ∧ q28 = D.length - tk + 1 ∧ ∃ (mk : Tr → Tr) (fu : Nat), D.length < fu + tk ∧ pFms D D.length t1 = pAnd (pFms D fu tk) (fun s t' => .ok (mk s, t')) ∧ ∀ s, mFm (I27 m 46) fs (mk s) 0 (Γ, 0, 0) = (mnN z (mFm (I27 m 46) fs s ks'.length Ec).1, (mFm (I27 m 46) fs s ks'.length Ec).2) ∧ fmKs (mk s) = ks' ++ fmKs s) ∨ (v57 = 0 ∧ q28 = 0 ∧ ∃ F, pFms D D.length t1 = .ok (F, tk) ∧ mFm (I27 m 46) fs F 0 (Γ, 0, 0) = (z, Ec) ∧ fmKs F = ks')) := by
      intro I56 E56 a63 a64 aG aK a46 a35
      refine ⟨_, s_X13_isSign E56.1.1 (k := 68) (by decide), ?_⟩
      rintro _ _ - ⟨rfl, rfl⟩
      have l1 : (ks ++ [fmK a b]).length = ks.length + 1 := by rw [List.length_append]; rfl
      have moves : ∀ (I58 : xII) (t5 : Nat), eQ I56 I58 m → eT I58 m D t5 1 → t2 ≤ t5 → sE I58 m D fs t5 1 st (mN (I27 m 46) x (mnN z (fmL (I27 m 46) fs p nm a b ks.length Ec).1)) 1 0 (fmL (I27 m 46) fs p nm a b ks.length Ec).2 k vd ∧ I58 m 63 = -1 ∧ I58 m 64 = -1 ∧ fG2 I27 I58 m k T ∧ eK I27 I58 m st 0 ∧ I58 m 46 = I27 m 46 ∧ (I27 m 46 = 0 → I58 m 35 = nI (T + (ks ++ [fmK a b]).length) ∧ 2 * (T + (ks ++ [fmK a b]).length) ≤ t5 ∧ ∀ i kd, (ks ++ [fmK a b])[i]? = some kd → I58 (m + 27) (T + i) = kd) := by
        intro I58 t5 hq hTT ht5
        have w58 := (sW.rf E56 a63 a64).mv hq hTT ht5
        have E58 := w58.2.1
        rw [mN_n] at E58
        refine ⟨E58, w58.2.2.2.2.1, w58.2.2.2.2.2, aG.tr w58.1.g2, aK.tr w58.2.2.1 (Nat.le_refl _), by rw [← a46]; exact w58.1.ps, fun z0 => ?_⟩
        obtain ⟨c1, c2, c3⟩ := a35 z0
        exact ⟨by rw [hq _ _ (by omega)]; exact c1, by omega, fun i kd hi => by rw [hq _ _ (by omega)]; exact c3 i kd hi⟩
      intro I58 hI58
      by_cases e68 : tK D t2 = 68
      · rw [bI, if_pos e68, if_neg (by decide : ¬ (1 : Int32) = 0)] at hI58
        have ht2 := hT.1.1.nx' hup.2 e68
        have q58 := E56.1.1.on ht2
        rw [← hI58] at q58
        obtain ⟨c1, c2, c3, c4, c5, c6, c7⟩ := moves I58 (t2 + 1) q58.2 q58.1 (by omega)
        rw [show (pAnd (.ok (nd 44 [fi, p, nm, a, b] lf lf, t2)) fun a t1 => if tK D t1 = 68 then pAnd (pFms D fu (t1 + 1)) fun s t2 => .ok (tRt a s, t2) else .ok (a, t1) : pR) = (if tK D t2 = 68 then pAnd (pFms D fu (t2 + 1)) fun s t2 => .ok (nd 44 [fi, p, nm, a, b] lf s, t2) else .ok (nd 44 [fi, p, nm, a, b] lf lf, t2)) from rfl, if_pos e68, pAnd_as] at hp
        refine ⟨D.length - (t2 + 1) + 1, by omega, _, _, n2, ks ++ [fmK a b], t2 + 1, rfl, rfl, ht2, by omega, hn1, hn2, c1, c2, c3, c4, c5, c6, c7, Or.inl ⟨by rw [bI, if_pos e68], rfl, fun s => mk (nd 44 [fi, p, nm, a, b] lf s), fu, by omega, hp, fun s => ?_⟩⟩
        obtain ⟨d1, d2⟩ := hmk (nd 44 [fi, p, nm, a, b] lf s)
        refine ⟨?_, ?_⟩
        · rw [d1, l1, mnN_as]
          rfl
        · rw [d2, List.append_assoc]
          rfl
      · rw [bI, if_neg e68, if_pos rfl] at hI58
        have q58 : eQ I56 I58 m := fun a j hj => by rw [hI58, gX, if_neg (by omega)]
        have T58 : eT I58 m D t2 1 := E56.1.1.up hup.2 (by omega) q58 (by rw [hI58, xup_s, Int32.add_zero]; exact E56.1.1.2.2.1) (by rw [hI58, xup_k (by decide)]; exact E56.1.1.2.2.2.1) (by rw [hI58, xup_k (by decide)]; exact E56.1.1.2.2.2.2.2)
        obtain ⟨c1, c2, c3, c4, c5, c6, c7⟩ := moves I58 t2 q58 T58 (Nat.le_refl _)
        rw [show (pAnd (.ok (nd 44 [fi, p, nm, a, b] lf lf, t2)) fun a t1 => if tK D t1 = 68 then pAnd (pFms D fu (t1 + 1)) fun s t2 => .ok (tRt a s, t2) else .ok (a, t1) : pR) = (if tK D t2 = 68 then pAnd (pFms D fu (t2 + 1)) fun s t2 => .ok (nd 44 [fi, p, nm, a, b] lf s, t2) else .ok (nd 44 [fi, p, nm, a, b] lf lf, t2)) from rfl, if_neg e68] at hp
        obtain ⟨d1, d2⟩ := hmk (nd 44 [fi, p, nm, a, b] lf lf)
        refine ⟨0, by omega, _, _, n2, ks ++ [fmK a b], t2, rfl, rfl, hup.2, by omega, hn1, hn2, c1, c2, c3, c4, c5, c6, c7, Or.inr ⟨by rw [bI, if_neg e68], rfl, mk (nd 44 [fi, p, nm, a, b] lf lf), hp, ?_, d2⟩⟩
        rw [d1]
        show (mnN z (mnN (fmL (I27 m 46) fs p nm a b ks.length Ec).1 none), (fmL (I27 m 46) fs p nm a b ks.length Ec).2) = _
        rw [mnN_n]
    refine ⟨fun I56 => sE I56 m D fs t2 1 st (mN (I27 m 46) x (mnN z (fmL (I27 m 46) fs p nm a b ks.length Ec).1)) 1 0 (fmL (I27 m 46) fs p nm a b ks.length Ec).2 k vd ∧ I56 m 63 = -1 ∧ I56 m 64 = -1 ∧ fG2 I27 I56 m k T ∧ eK I27 I56 m st 0 ∧ I56 m 46 = I27 m 46 ∧ (I27 m 46 = 0 → I56 m 35 = nI (T + (ks ++ [fmK a b]).length) ∧ 2 * (T + (ks ++ [fmK a b]).length) ≤ t2 ∧ ∀ i kd, (ks ++ [fmK a b])[i]? = some kd → I56 (m + 27) (T + i) = kd), fun I56 hJ => on I56 hJ.1 hJ.2.1 hJ.2.2.1 hJ.2.2.2.1 hJ.2.2.2.2.1 hJ.2.2.2.2.2.1 hJ.2.2.2.2.2.2, fun z0 => ?_, fun z0 => ⟨E55, q63.1, q63.2, G55, K55, p5546, fun w => absurd (p5546.trans w) z0⟩⟩
    have z27 : I27 m 46 = 0 := by rw [← p5546]; exact z0
    obtain ⟨c1, c2, c3⟩ := h35 z27
    have h5535 : I55 m 35 = nI (T + ks.length) := by rw [w55.1 _ _ (by omega) (by unfold sFk eFk; omega)]; exact c1
    rw [h5535, show ix (nI (T + ks.length)) = T + ks.length from nI_clamp (by omega), nI_up]
    refine ⟨vp_in_nI (by omega) (by decide), ?_⟩
    intro I60 hI60 I61 hI61
    have f61 : ∀ a j, ¬ (a = m + 27 ∧ j = T + ks.length) → ¬ (a = m ∧ j = 35) → I61 a j = I55 a j := fun a j q1 q2 => by rw [hI61, gX, if_neg q2, hI60, gX, if_neg q1]
    have fld : ∀ j, ¬ j = 35 → I61 m j = I55 m j := fun j hj => f61 m j (by omega) (fun w => hj w.2)
    have l1 : (ks ++ [fmK a b]).length = ks.length + 1 := by rw [List.length_append]; rfl
    have ht2' : tk + 2 ≤ t2 := by
      unfold pFm at hr
      split at hr
      · obtain ⟨-, hr⟩ := pNeed_ok hr
        split at hr
        · obtain ⟨-, -, hr⟩ := pOpen_ok hr
          obtain ⟨-, hr⟩ := pNeed_ok hr
          cases hr
          omega
        · cases hr
          omega
      · exact nomatch hr
    refine ⟨?_, by rw [fld 63 (by omega)]; exact q63.1, by rw [fld 64 (by omega)]; exact q63.2, G55.tr fun a j q1 q2 => f61 a j (by omega) (by omega), fun a j hj => (f61 a j (by omega) (by omega)).trans (K55 a j hj), by rw [fld 46 (by omega)]; exact p5546, fun _ => ⟨by rw [hI61, xup_s, l1]; rfl, by rw [l1]; omega, fun i kd hi => ?_⟩⟩
    · obtain ⟨⟨⟨t1', t2', t3', t4, t5, t6⟩, e2, e3, e4, e5, e6⟩, ⟨h2, h2'⟩, ⟨h3, h3'⟩, h4, h5, ⟨h6, h7, h8⟩, h9, h10, h11, h12, h13⟩ := E55
      refine ⟨⟨⟨t1'.fr2 (fld 7 (by omega)) (fld 8 (by omega)) fun a j q1 q2 => f61 a j (by omega) (by omega), t2', (fld 42 (by omega)).trans t3', (fld 43 (by omega)).trans t4, t5, (fld 44 (by omega)).trans t6⟩, ?_, (fld 54 (by omega)).trans e3, (fld 60 (by omega)).trans e4, (fld 70 (by omega)).trans e5, e6.fr (fld 47 (by omega)) (fld 48 (by omega)) (fld 49 (by omega))⟩, ⟨(fld 15 (by omega)).trans h2, h2'⟩, ⟨(fld 51 (by omega)).trans h3, h3'⟩, (fld 52 (by omega)).trans h4, (fld 53 (by omega)).trans h5, ⟨(fld 50 (by omega)).trans h6, h7, (f61 _ _ (by omega) (by omega)).trans h8⟩, h9, h10, h11, h12, fun w => by rw [fld 14 (by omega)]; exact h13 (by rw [← fld 46 (by omega)]; exact w)⟩
      rcases e2 with ⟨u1, u2⟩ | ⟨u1, -⟩
      · exact Or.inl ⟨(fld 46 (by omega)).trans u1, u2⟩
      · rw [z0] at u1
        exact absurd u1 (by decide)
    · rcases Nat.lt_or_ge i ks.length with w | w
      · rw [List.getElem?_append_left w] at hi
        rw [f61 _ _ (by omega) (by omega), w55.1 _ _ (by omega) (by omega)]
        exact c3 i kd hi
      · rw [List.getElem?_append_right w] at hi
        have hi0 : i - ks.length = 0 := by
          have := (List.getElem?_eq_some_iff.mp hi).1
          simp only [List.length_cons, List.length_nil] at this
          omega
        rw [hi0] at hi
        cases hi
        obtain rfl : i = ks.length := by omega
        rw [hI61, gX, if_neg (by omega), hI60, xup_s]
end FNR
