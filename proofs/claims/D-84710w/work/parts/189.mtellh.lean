/-! ===== the Model's statements: telling ===== -/
set_option maxRecDepth 100000
/-! the two ends of tellHere (printed by tools/gti.py) -/
def tlI (m : Nat) (v3 : Int32) (X : xII → xII → Prop) (Q : Int32 → xII → Prop) (I3 : xII) : Prop := ∃ R4 : xII → Prop, w_X13_twice m v3 R4 I3 ∧ (∀ I4 : xII, R4 I4 → (∀ I5 : xII, I5 = xup I4 m 52 ((I4 m 52) + (1 : Int32)) → (∃ J6 : xII → Prop, (∀ (I6 : xII), J6 I6 → ∀ I7 : xII, I7 = xup I6 m 53 ((I6 m 53) + (if (I6 m 52) ≤ (200 : Int32) then (1 : Int32) else (0 : Int32))) → (∃ R8 : Int32 → xII → Prop, w_X13_isSign m (32 : Int32) R8 I7 ∧ (∀ (v8 : Int32) (I8 : xII), (v8 = 0 ∨ v8 = 1) → R8 v8 I8 → (((v8 = 0 → X I6 I8) ∧ (¬ v8 = 0 → ∀ I10 : xII, I10 = xup I8 m 42 ((I8 m 42) + (1 : Int32)) → (∃ R11 : Int32 → xII → Prop, g_X13_expression m R11 I10 ∧ (∀ (v11 : Int32) (I11 : xII), (v11 = 0 ∨ v11 = 1) → R11 v11 I11 → (((v11 = 0 → Q (0 : Int32) I11) ∧ (¬ v11 = 0 → ∃ R12 : Int32 → xII → Prop, w_X13_step m (2 : Int32) (I6 m 53) (0 : Int32) R12 I11 ∧ (∀ (v12 : Int32) (I12 : xII), R12 v12 I12 → (∃ R13 : xII → Prop, w_X13_declare m v3 (1 : Int32) (0 : Int32) (I6 m 53) (1 : Int32) (1 : Int32) R13 I12 ∧ (∀ I13 : xII, R13 I13 → (Q (1 : Int32) I13))))))))))))))) ∧ ((((I4 m 52) + (1 : Int32)) ≤ (200 : Int32) → J6 I5) ∧ (¬ ((I4 m 52) + (1 : Int32)) ≤ (200 : Int32) → vp_in v3 4002 ∧ (∃ R15 : xII → Prop, w_X13_note m (11 : Int32) (I4 (m + 5) (ix v3)) R15 I5 ∧ (∀ I15 : xII, R15 I15 → (J6 I15))))))))
def tlA (m : Nat) (v1 v3 : Int32) (W : Int32 → Int32) (Q : Int32 → xII → Prop) (I3 : xII) : Prop := ∃ R16 : xII → Prop, w_X13_twice m v3 R16 I3 ∧ (∀ I16 : xII, R16 I16 → (∃ R17 : Int32 → xII → Prop, w_X13_openSign m (24 : Int32) R17 I16 ∧ (∀ (v17 : Int32) (I17 : xII), (v17 = 0 ∨ v17 = 1) → R17 v17 I17 → (((v17 = 0 → Q (0 : Int32) I17) ∧ (¬ v17 = 0 → ∃ R18 : Int32 → xII → Prop, w_X13_sizeHere m R18 I17 ∧ (∀ (v18 : Int32) (I18 : xII), R18 v18 I18 → (∃ R19 : Int32 → xII → Prop, w_X13_closeSign m (25 : Int32) R19 I18 ∧ (∀ (v19 : Int32) (I19 : xII), (v19 = 0 ∨ v19 = 1) → R19 v19 I19 → (((v19 = 0 → Q (0 : Int32) I19) ∧ (¬ v19 = 0 → ∀ I20 : xII, I20 = xup I19 m 52 ((I19 m 52) + (if v18 = (-1 : Int32) then (0 : Int32) else (W v18))) → (∃ J21 : xII → Prop, (∀ (I21 : xII), J21 I21 → ∃ R22 : Int32 → xII → Prop, w_X13_step m (22 : Int32) (I21 m 53) (if v18 = (-1 : Int32) then (0 : Int32) else (if (I21 m 52) ≤ (200 : Int32) then v18 else (0 : Int32))) R22 I21 ∧ (∀ (v22 : Int32) (I22 : xII), R22 v22 I22 → (∃ R23 : xII → Prop, w_X13_declare m v3 (2 : Int32) v1 (I22 m 53) (if v18 = (-1 : Int32) then (1 : Int32) else v18) (1 : Int32) R23 I22 ∧ (∀ I23 : xII, R23 I23 → (∀ I24 : xII, I24 = xup I23 m 53 ((I23 m 53) + (if v18 = (-1 : Int32) then (0 : Int32) else (if (I21 m 52) ≤ (200 : Int32) then v18 else (0 : Int32)))) → (Q (1 : Int32) I24)))))) ∧ ((((I19 m 52) + (if v18 = (-1 : Int32) then (0 : Int32) else (W v18))) ≤ (200 : Int32) → J21 I20) ∧ (¬ ((I19 m 52) + (if v18 = (-1 : Int32) then (0 : Int32) else (W v18))) ≤ (200 : Int32) → vp_in v3 4002 ∧ (∃ R26 : xII → Prop, w_X13_note m (11 : Int32) (I19 (m + 5) (ix v3)) R26 I20 ∧ (∀ I26 : xII, R26 I26 → (J21 I26))))))))))))))))))
/-- telling within a statement, without its ; -/
def pTl1 (D : tkL) (d t : Nat) : pR :=
  pNeed D 2 (t + 1) (if tK D t = 11 ∨ tK D (t + 2) = 64 then pOpen D 64 d (t + 2) (pAnd (pE' D d (t + 3)) fun s t1 => pNeed D 65 t1 (.ok (nd 24 [tP D (t + 1), tV D (t + 1), if tK D t = 11 then 1 else 0] s lf, t1 + 1)))
    else if tK D (t + 2) = 72 then pAnd (pE D d (t + 3)) fun e t1 => .ok (nd 23 [tP D (t + 1), tV D (t + 1)] e lf, t1) else .ok (nd 23 [tP D (t + 1), tV D (t + 1)] lf lf, t + 2))
theorem pTell_eq {D : tkL} {d t : Nat} : pTell D d t = pAnd (pTl1 D d t) fun e t1 => pNeed D 69 t1 (.ok (e, t1 + 1)) := by
  unfold pTell pTl1
  unfold pNeed
  split
  · split
    · unfold pOpen
      split
      · split
        · rfl
        · cases pE' D d (t + 3) with
          | error f => rfl
          | ok et =>
            obtain ⟨e, t1⟩ := et
            show (if tK D t1 = 65 then _ else _) = pAnd (if tK D t1 = 65 then _ else _) _
            split <;> rfl
      · rfl
    · split
      · cases pE D d (t + 3) with
        | error f => rfl
        | ok et => rfl
      · rfl
  · rfl
theorem div4 : ∀ k, k < 501 → (nI k + 3) / 4 = nI ((k + 3) / 4) := by decide +kernel
section STL
variable {m t o st pe d B sc lp f t1 t' o' t2 o2 tn : Nat} {I J K I3 : xII} {D : tkL} {Γ : List dcl} {fs : List fnc} {x y : nte} {vd b0 c0 : Int32} {E : env} {q : mR} {fl : Int32 × Int32}
theorem mny_or {ps : Int32} {s : Tr} : mny ps Γ fs s = -1 ∨ ∃ k, 1 ≤ k ∧ k ≤ 500 ∧ mny ps Γ fs s = nI k := by
  unfold mny
  by_cases h0 : ps = 0
  · rw [if_pos h0]
    exact Or.inr ⟨1, by omega, by omega, rfl⟩
  · rw [if_neg h0]
    split
    · exact Or.inl rfl
    · split
      · exact Or.inl rfl
      · split
        · exact Or.inl rfl
        · rename_i h1 h2 h3
          have hlt : vC Γ fs s < nI (1 + 500) := by
            have := Int32.le_iff_toInt_le.mp (Int32.not_lt.mp h3)
            refine Int32.lt_iff_toInt_lt.mpr ?_
            rw [show (500 : Int32).toInt = 500 from rfl] at this
            rw [nI_toInt (by decide)]
            omega
          obtain ⟨i, hi, e⟩ := i32_rng (v := vC Γ fs s) (a := 1) (n := 500) (by decide) (Int32.not_lt.mp h2) hlt
          exact Or.inr ⟨1 + i, by omega, by omega, e⟩
theorem s_X13_sign_er {s : Int32} (h : 0 < I m 44) : w_X13_sign m s (fun v J => v = 0 ∧ I = J) I := by
  unfold w_X13_sign
  refine ⟨fun _ => ⟨fun v J => v = 0 ∧ I = J, ?_, ?_⟩, fun z => absurd h z⟩
  · unfold w_X13_fails
    exact ⟨fun z => absurd h (Int32.not_lt.mpr z), fun _ => ⟨rfl, rfl⟩⟩
  · rintro v J - ⟨rfl, rfl⟩
    exact ⟨rfl, rfl⟩
theorem s_X13_close_er {s : Int32} (h : 0 < I m 44) : w_X13_closeSign m s (fun v J => v = 0 ∧ I = J) I := by
  unfold w_X13_closeSign
  refine ⟨_, s_X13_sign_er h, ?_⟩
  rintro v J - ⟨rfl, rfl⟩
  refine ⟨fun _ => ?_, fun q => absurd rfl q⟩
  exact ⟨rfl, rfl⟩
theorem eG2.sx (h : sW I J m D fs st x t' o' sc lp f vd b0 c0 q) (hD : D.length ≤ 1800) (hl : st + q.1.length ≤ 9000) (hg : eG2 J K m) (hk : eK J K m (st + q.1.length) 0) (hx : eX K m fl) : sX I K m st b0 c0 fl := by
  obtain ⟨a1, a2, a3, a4, a5, a6⟩ := h
  refine ⟨a1.tr hg.s, hx, ?_, a3.tr hk (by omega), q.1, hl, a4.cong fun a k q1 q2 q3 q4 => hk a k (by rw [lnk_len] at q4; omega), ?_, ?_⟩
  · obtain ⟨k, hk, h14⟩ := a2.t14 hD
    exact ⟨k, hk, (hg _ _ (by omega) (by unfold eFk; omega)).trans h14⟩
  · exact (hg _ _ (by omega) (by unfold eFk; omega)).trans a5
  · exact (hg _ _ (by omega) (by unfold eFk; omega)).trans a6
/-- a constant goes by -/
theorem sW.vl (h : sW I J m D fs st x t' o' sc lp f vd b0 c0 q) (hg : eG2 J K m) (hk : eK J K m (st + q.1.length) 0) (hE : eE K m D q.2.2.1 fs false t2 o2 (st + q.1.length) 0 (mN (J m 46) (mN (I m 46) x q.2.1) y)) (ht : t' ≤ t2) : sW I K m D fs st x t2 o2 sc lp f vd b0 c0 (q.1, mnN q.2.1 y, q.2.2) := by
  obtain ⟨a1, ⟨h1, ⟨h2, h2'⟩, ⟨h3, h3'⟩, h4, h5, ⟨h6, h7, h8⟩, h9, h10, h11, h12, h13⟩, a3, a4, a5, a6⟩ := h
  have fld : ∀ k, ¬ (eFk k ∨ k = 72) → K m k = J m k := fun k hk => hg m k (by omega) (fun z => hk z.2)
  rw [a1.ps, mN_as] at hE
  exact ⟨a1.tr hg.s, ⟨hE, ⟨(fld 15 (by unfold eFk; omega)).trans h2, h2'⟩, ⟨(fld 51 (by unfold eFk; omega)).trans h3, h3'⟩, (fld 52 (by unfold eFk; omega)).trans h4, (fld 53 (by unfold eFk; omega)).trans h5, ⟨(fld 50 (by unfold eFk; omega)).trans h6, h7, (hg _ _ (by omega) (by omega)).trans h8⟩, Nat.le_trans h9 ht, Nat.le_trans h10 (Nat.mul_le_mul_left _ ht), Nat.le_trans h11 (Nat.mul_le_mul_left _ ht), h12, fun z => by rw [fld 14 (by unfold eFk; omega)]; exact h13 (by rw [← fld 46 (by unfold eFk; omega)]; exact z)⟩, a3.tr hk (by omega), a4.cong fun a k q1 q2 q3 q4 => hk a k (by rw [lnk_len] at q4; omega), (fld 63 (by unfold eFk; omega)).trans a5, (fld 64 (by unfold eFk; omega)).trans a6⟩
/-- own words and cells grow -/
theorem sW.oc (h : sW I J m D fs st x t' o' sc lp f vd b0 c0 q) {ow oc : Nat} (hf : ∀ a k, ¬ (a = m ∧ (k = 52 ∨ k = 53)) → K a k = J a k) (h52 : K m 52 = nI ow) (h53 : K m 53 = nI oc) (w1 : ow ≤ 500 * t') (w2 : oc ≤ 500 * t') : sW I K m D fs st x t' o' sc lp f vd b0 c0 (q.1, q.2.1, (q.2.2.1, ow, oc)) := by
  obtain ⟨a1, ⟨h1, ⟨h2, h2'⟩, ⟨h3, h3'⟩, h4, h5, ⟨h6, h7, h8⟩, h9, h10, h11, h12, h13⟩, a3, a4, a5, a6⟩ := h
  have fld : ∀ k, ¬ (k = 52 ∨ k = 53) → K m k = J m k := fun k hk => hf m k (fun z => hk z.2)
  exact ⟨fun a k q1 q2 => (hf a k (by unfold sFk at q2; omega)).trans (a1 a k q1 q2), ⟨h1.fr2 (fun a k q1 q2 => hf a k (by omega)) ((fld 54 (by omega)).trans h1.2.2.1) ((fld 60 (by omega)).trans h1.2.2.2.1), ⟨(fld 15 (by omega)).trans h2, h2'⟩, ⟨(fld 51 (by omega)).trans h3, h3'⟩, h52, h53, ⟨(fld 50 (by omega)).trans h6, h7, (hf _ _ (by omega)).trans h8⟩, h9, w1, w2, h12, fun z => by rw [fld 14 (by omega)]; exact h13 (by rw [← fld 46 (by omega)]; exact z)⟩, fun a k hk => (hf a k (by omega)).trans (a3 a k hk), a4.cong fun a k q1 q2 q3 q4 => hf a k (by omega), (fld 63 (by omega)).trans a5, (fld 64 (by omega)).trans a6⟩
/-- something is told -/
theorem sW.dc (h : sW I J m D fs st x t' o' sc lp f vd b0 c0 q) {en : dcl} (hG : mGm K m (tellD (J m 46) en q.2.2.1) fs) (h14 : J m 46 = 0 → K m 14 = J m 14) (hf : ∀ a k, ¬ (m + 10 ≤ a ∧ a ≤ m + 17) → ¬ (a = m ∧ k = 14) → K a k = J a k) (hs : en.sc = nI sc) (hl : 2 * q.2.2.1.length + 2 ≤ t') : sW I K m D fs st x t' o' sc lp f vd b0 c0 (q.1, q.2.1, (tellD (I m 46) en q.2.2.1, q.2.2.2)) := by
  obtain ⟨a1, ⟨⟨⟨t1, t2, t3, t4, t5, t6⟩, e2, e3, e4, e5, e6⟩, ⟨h2, h2'⟩, ⟨h3, h3'⟩, h4, h5, ⟨h6, h7, h8⟩, h9, h10, h11, h12, h13⟩, a3, a4, a5, a6⟩ := h
  have fld : ∀ k, ¬ k = 14 → K m k = J m k := fun k hk => hf m k (by omega) (fun z => hk z.2)
  rw [a1.ps] at hG h14
  refine ⟨fun a k q1 q2 => (hf a k (by omega) (by unfold sFk at q2; omega)).trans (a1 a k q1 q2), ⟨⟨⟨t1.fr2 (fld 7 (by omega)) (fld 8 (by omega)) fun a k q1 q2 => hf a k (by omega) (by omega), t2, (fld 42 (by omega)).trans t3, (fld 43 (by omega)).trans t4, t5, (fld 44 (by omega)).trans t6⟩, hG, (fld 54 (by omega)).trans e3, (fld 60 (by omega)).trans e4, (fld 70 (by omega)).trans e5, e6.fr (fld 47 (by omega)) (fld 48 (by omega)) (fld 49 (by omega))⟩, ⟨(fld 15 (by omega)).trans h2, h2'⟩, ⟨(fld 51 (by omega)).trans h3, h3'⟩, (fld 52 (by omega)).trans h4, (fld 53 (by omega)).trans h5, ⟨(fld 50 (by omega)).trans h6, h7, (hf _ _ (by omega) (by omega)).trans h8⟩, ?_, h10, h11, ?_, fun z => ?_⟩, fun a k hk => (hf a k (by omega) (by omega)).trans (a3 a k hk), a4.cong fun a k q1 q2 q3 q4 => hf a k (by omega) (by omega), (fld 63 (by omega)).trans a5, (fld 64 (by omega)).trans a6⟩
  · unfold tellD
    dsimp only
    split
    · omega
    · rw [List.length_cons]
      omega
  · unfold tellD
    dsimp only
    split
    · exact h12
    · intro z hz
      rcases List.mem_cons.mp hz with rfl | hz
      · exact ⟨sc, Nat.le_refl _, hs⟩
      · exact h12 z hz
  · have z' : J m 46 = 0 := by rw [← fld 46 (by omega)]; exact z
    rw [h14 (by rw [← a1.ps]; exact z')]
    exact h13 z'
/-- the end: a store, and it is told -/
theorem s_tlEnd {cc : List stp} {z : nte} {ow oc : Nat} {oc1 : Nat} (hD : D.length ≤ 1800) (w : sW I J m D fs st x t1 o sc lp f vd b0 c0 (cc, z, (E.1, ow, oc1))) (hEl : 2 * E.1.length + 2 ≤ t1) (htn : tn < t1) (k2 : tK D tn = 2) (h9 : st + cc.length < 9000) : ∃ R12 : Int32 → xII → Prop, w_X13_step m 2 (nI oc) 0 R12 J ∧ ∀ (v12 : Int32) (I12 : xII), R12 v12 I12 → ∃ R13 : xII → Prop, w_X13_declare m (nI tn) 1 0 (nI oc) 1 1 R13 I12 ∧ ∀ I13, R13 I13 → sW I I13 m D fs st x t1 o sc lp f vd b0 c0 (cc ++ [(2, nI oc, 0, 0)], z, (tellD (I m 46) (tV D tn, 1, tP D tn, nI sc, 0, nI oc, 1, 1) E.1, ow, oc1)) := by
  refine ⟨_, s_X13_step (s := st + cc.length) w.2.1.1.2.2.2.1 h9, ?_⟩
  rintro _ I12 ⟨rfl, s0, s1, s2, s3, s4, -⟩
  have w12 := w.sp1 (w := 2) (a := nI oc) (d := 0) (v := 0) isHo_0 s0 s1 s2 s3 s4 (fun z => absurd z (by decide))
  have hT := w12.2.1.1.1
  have hl := hT.2.1
  have hD4 := hT.1.1.2.1
  refine ⟨_, s_X13_declare w12.2.1.1.2.1 (w12.2.1.len hD) (tk := tn) (by omega) (Or.inl rfl) (Or.inr rfl), ?_⟩
  rintro I13 ⟨g13, p13, f13⟩
  have e4 : I12 (m + 4) tn = tV D tn := by
    rw [(hT.1.2.2.1 tn (by omega)).2.1, k2]
    unfold mkV
    rw [if_pos rfl]
  have e5 : I12 (m + 5) tn = tP D tn := hT.1.at (by omega)
  rw [e4, e5, w12.2.1.2.1.1] at g13
  exact w12.dc g13 p13 f13 rfl hEl
theorem s_tlI {X : xII → xII → Prop} {rX : pR} {F : Tr → mR} (hi : inD D) (hD : D.length ≤ 1800) (hd : o + d = 40) (htn : tn + 1 = t1) (k2 : tK D tn = 2) (w3 : sW I I3 m D fs st x t1 o sc lp f vd b0 c0 ([], none, E)) (hE : 2 * E.1.length ≤ tn) (how : E.2.1 ≤ 500 * tn) (hoc : E.2.2 ≤ 500 * tn) (hB : st + 4 * (D.length - t1) + 4 ≤ B) (hB9 : B ≤ 9000) (hX : ¬ tK D t1 = 72 → ∀ I6 I8, I6 m 53 = nI E.2.2 → sW I I8 m D fs st x t1 o sc lp f vd b0 c0 ([], mnN (twN E.1 fs (nI sc) (tV D tn) (tP D tn)) (if 200 < E.2.1 + 1 then nt 11 (tP D tn) else none), (E.1, E.2.1 + 1, E.2.2 + if 200 < E.2.1 + 1 then 0 else 1)) → X I6 I8) (hF : ∀ e, F (nd 23 [tP D tn, tV D tn] e lf) = mTlI (I m 46) fs sc st E (tP D tn) (tV D tn) e) : tlI m (nI tn) X (sP I m D fs st o x sc lp f vd b0 c0 B (if tK D t1 = 72 then pAnd (pE D d (t1 + 1)) fun e t1 => .ok (nd 23 [tP D tn, tV D tn] e lf, t1) else rX) F) I3 := by
  have hT := w3.2.1.1.1
  have hl := hT.2.1
  have hD4 := hT.1.1.2.1
  have hvn : vp_in (nI tn) 4002 := vp_in_nI (by omega) (by decide)
  have hxn : ix (nI tn) = tn := nI_clamp (by omega)
  have e4 : I3 (m + 4) tn = tV D tn := by
    rw [(hT.1.2.2.1 tn (by omega)).2.1, k2]
    unfold mkV
    rw [if_pos rfl]
  have e5 : I3 (m + 5) tn = tP D tn := hT.1.at (by omega)
  unfold tlI
  refine ⟨_, s_X13_twice w3.2.1.1.2.1 w3.2.1.1.2.2.2.2.2 w3.2.1.2.1.1 (by have := w3.2.1.2.1.2; omega) (tk := tn) (by omega), ?_⟩
  rintro I4 ⟨n4, f4⟩
  rw [e4, e5] at f4
  have w4 := w3.nt n4 f4
  rw [show mnN (([], none, E) : mR).2.1 (twN E.1 fs (nI sc) (tV D tn) (tP D tn)) = twN E.1 fs (nI sc) (tV D tn) (tP D tn) from rfl] at w4
  have h452 : I4 m 52 = nI E.2.1 := w4.2.1.2.2.2.1
  have h453 : I4 m 53 = nI E.2.2 := w4.2.1.2.2.2.2.1
  have e54 : I4 (m + 5) tn = tP D tn := by rw [n4 _ _ (by omega)]; exact e5
  rw [h452, nI_up, hxn, e54]
  intro I5 hI5
  have w5 := w4.oc (K := I5) (ow := E.2.1 + 1) (oc := E.2.2) (fun a k hk => by rw [hI5, gX, if_neg (by omega)]) (by rw [hI5, xup_s]) (by rw [hI5, gX, if_neg (by omega)]; exact h453) (by omega) (by omega)
  clear hI5
  have hle : nI (E.2.1 + 1) ≤ 200 ↔ E.2.1 + 1 ≤ 200 := nI_leI (b := 200) (by omega) (by omega)
  rw [hle]
  refine ⟨fun I6 => sW I I6 m D fs st x t1 o sc lp f vd b0 c0 ([], mnN (twN E.1 fs (nI sc) (tV D tn) (tP D tn)) (if 200 < E.2.1 + 1 then nt 11 (tP D tn) else none), (E.1, E.2.1 + 1, E.2.2)), fun I6 w6 => ?_, fun z => ?_, fun z => ⟨hvn, _, s_X13_note w5.2.1.1.2.2.2.2.2 (by decide), fun I15 h15 => ?_⟩⟩
  · have h652 : I6 m 52 = nI (E.2.1 + 1) := w6.2.1.2.2.2.1
    have h653 : I6 m 53 = nI E.2.2 := w6.2.1.2.2.2.2.1
    rw [h652, h653]
    intro I7 hI7
    have hoc7 : I7 m 53 = nI (E.2.2 + if 200 < E.2.1 + 1 then 0 else 1) := by
      rw [hI7, xup_s]
      by_cases z : 200 < E.2.1 + 1
      · rw [if_pos z, if_neg (fun w => absurd (hle.mp w) (by omega)), Int32.add_zero]
        rfl
      · rw [if_neg z, if_pos (hle.mpr (by omega)), nI_up]
    have w7 := w6.oc (K := I7) (ow := E.2.1 + 1) (oc := E.2.2 + if 200 < E.2.1 + 1 then 0 else 1) (fun a k hk => by rw [hI7, gX, if_neg (by omega)]) (by rw [hI7, gX, if_neg (by omega)]; exact h652) hoc7 (by omega) (by split <;> omega)
    clear hI7
    refine ⟨_, s_X13_isSign w7.2.1.1.1 (k := 72) (by decide), ?_⟩
    rintro _ _ - ⟨rfl, rfl⟩
    by_cases e72 : tK D t1 = 72
    · rw [bI, if_pos e72, if_pos e72]
      refine ⟨fun q => absurd q (by decide), fun _ => ?_⟩
      have ht1 := hT.1.1.nx' hl e72
      intro I10 hI10
      have q10 := w7.2.1.1.1.on ht1
      rw [← hI10] at q10
      have w10 := w7.mv q10.2 q10.1 (by omega)
      clear hI10
      refine ⟨_, ro_X hi d 700 (by omega) I10 (t1 + 1) o st 0 _ (B - 4) hd w10.2.1.1 (by omega) (by omega) (by omega), ?_⟩
      rintro v11 I11 - ⟨g11, r11⟩
      cases hr : pE D d (t1 + 1) with
      | error fl =>
        rw [hr] at r11
        obtain ⟨rfl, x11⟩ := r11
        refine ⟨fun _ => ?_, fun q => absurd rfl q⟩
        exact ⟨rfl, eH.sx w10 hD (by show st + 0 ≤ 9000; omega) g11 x11⟩
      | ok et =>
        obtain ⟨e, t2⟩ := et
        rw [hr] at r11
        obtain ⟨rfl, w11, b11⟩ := r11
        refine ⟨fun q => absurd q (by decide), fun _ => ?_⟩
        have hup := pE_up hT.1.1 d (t1 + 1) ht1 e t2 hr
        have hwx := pE_w d (t1 + 1) e t2 hr
        have b11' : st + (cX E.1 fs false none st e).length + 4 * (D.length - t2) ≤ B - 4 := b11
        have w12 := w10.e w11 (by omega) cX_noH
        obtain ⟨R12, a1, a2⟩ := s_tlEnd (E := E) (oc := E.2.2) (tn := tn) hD w12 (by omega) (by omega) k2 (by show st + (cX E.1 fs false none st e).length < 9000; omega)
        refine ⟨R12, a1, fun v12 I12 h12 => ?_⟩
        obtain ⟨R13, a3, a4⟩ := a2 v12 I12 h12
        refine ⟨R13, a3, fun I13 h13 => ?_⟩
        have w13 := a4 I13 h13
        have hFe : F (nd 23 [tP D tn, tV D tn] e lf) = (cX E.1 fs false none st e ++ [(2, nI E.2.2, 0, 0)], mnN (mnN (twN E.1 fs (nI sc) (tV D tn) (tP D tn)) (if 200 < E.2.1 + 1 then nt 11 (tP D tn) else none)) (nX E.1 fs false true none e), (tellD (I m 46) (tV D tn, 1, tP D tn, nI sc, 0, nI E.2.2, 1, 1) E.1, E.2.1 + 1, E.2.2 + if 200 < E.2.1 + 1 then 0 else 1)) := by
          rw [hF]
          cases e with
          | leaf => exact nomatch hwx
          | inner k dd v l r => rfl
        refine ⟨rfl, ?_, ?_⟩
        · rw [hFe]
          exact w13
        · rw [hFe]
          show st + (cX E.1 fs false none st e ++ [_]).length + 4 * (D.length - t2) ≤ B
          rw [List.length_append]
          show st + (_ + 1) + _ ≤ B
          omega
    · rw [bI, if_neg e72, if_neg e72]
      refine ⟨fun _ => hX e72 I6 I7 h653 w7, fun q => absurd rfl q⟩
  · rw [if_neg (by omega), mnN_n]
    exact w5
  · rw [if_pos (by omega)]
    exact w5.nt h15.1 h15.2
theorem s_tlA {W : Int32 → Int32} {b : Int32} {F : Tr → mR} (hi : inD D) (hD : D.length ≤ 1800) (hd : o + d = 40) (htn : tn + 1 = t1) (k2 : tK D tn = 2) (w3 : sW I I3 m D fs st x t1 o sc lp f vd b0 c0 ([], none, E)) (hE : 2 * E.1.length ≤ tn) (how : E.2.1 ≤ 500 * tn) (hoc : E.2.2 ≤ 500 * tn) (hB : st + 4 * (D.length - t1) + 4 ≤ B) (hB9 : B ≤ 9000) (hb : b = 0 ∨ b = 1) (hW : ∀ k, 1 ≤ k → k ≤ 500 → W (nI k) = nI (aWd (nI k) b)) (hF : ∀ s, F (nd 24 [tP D tn, tV D tn, b] s lf) = mTlA (I m 46) fs sc E (tP D tn) (tV D tn) b s) : tlA m b (nI tn) W (sP I m D fs st o x sc lp f vd b0 c0 B (pOpen D 64 d t1 (pAnd (pE' D d (t1 + 1)) fun s t1 => pNeed D 65 t1 (.ok (nd 24 [tP D tn, tV D tn, b] s lf, t1 + 1)))) F) I3 := by
  have hT := w3.2.1.1.1
  have hl := hT.2.1
  have hD4 := hT.1.1.2.1
  have hvn : vp_in (nI tn) 4002 := vp_in_nI (by omega) (by decide)
  have hxn : ix (nI tn) = tn := nI_clamp (by omega)
  have e4 : I3 (m + 4) tn = tV D tn := by
    rw [(hT.1.2.2.1 tn (by omega)).2.1, k2]
    unfold mkV
    rw [if_pos rfl]
  have e5 : I3 (m + 5) tn = tP D tn := hT.1.at (by omega)
  unfold tlA
  refine ⟨_, s_X13_twice w3.2.1.1.2.1 w3.2.1.1.2.2.2.2.2 w3.2.1.2.1.1 (by have := w3.2.1.2.1.2; omega) (tk := tn) (by omega), ?_⟩
  rintro I16 ⟨n16, f16⟩
  rw [e4, e5] at f16
  have w16 := w3.nt n16 f16
  rw [show mnN (([], none, E) : mR).2.1 (twN E.1 fs (nI sc) (tV D tn) (tP D tn)) = twN E.1 fs (nI sc) (tV D tn) (tP D tn) from rfl] at w16
  refine ⟨_, s_X13_openSign w16.2.1.1.1 (k := 64) (by decide), ?_⟩
  rintro v17 I17 - ⟨q17, ⟨e, rfl, x17⟩ | ⟨e, ho, rfl, x17⟩ | ⟨e, ho, rfl, T17⟩⟩
  · refine ⟨fun _ => ?_, fun q => absurd rfl q⟩
    rw [pOpen, if_neg e]
    exact ⟨rfl, eH.sx w16 hD (by show st + 0 ≤ 9000; omega) q17.h x17⟩
  · refine ⟨fun _ => ?_, fun q => absurd rfl q⟩
    obtain rfl : d = 0 := by omega
    rw [pOpen, if_pos e, if_pos rfl]
    exact ⟨rfl, eH.sx w16 hD (by show st + 0 ≤ 9000; omega) q17.h x17⟩
  refine ⟨fun q => absurd q (by decide), fun _ => ?_⟩
  obtain ⟨d', rfl⟩ : ∃ d', d = d' + 1 := ⟨d - 1, by omega⟩
  rw [pOpen, if_pos e, if_neg (by omega), show pE' D (d' + 1) (t1 + 1) = pE D d' (t1 + 1) from rfl]
  have ht1 := T17.2.1
  have w17 := w16.mv q17 T17 (by omega)
  refine ⟨_, s_X13_sizeHere (d := d') hi w17.2.1.1 (by omega) (by omega) (by show st + 0 + 4 * (D.length - (t1 + 1)) ≤ 9000; omega), ?_⟩
  rintro v18 I18 ⟨g18, k18, r18⟩
  cases hr : pE D d' (t1 + 1) with
  | error fl =>
    rw [hr] at r18
    refine ⟨_, s_X13_close_er (by rw [r18.1]; exact r18.2.2), ?_⟩
    rintro _ _ - ⟨rfl, rfl⟩
    refine ⟨fun _ => ?_, fun q => absurd rfl q⟩
    exact ⟨rfl, eG2.sx w17 hD (by show st + 0 ≤ 9000; omega) g18 k18 r18⟩
  | ok et =>
    obtain ⟨s, t2⟩ := et
    rw [hr] at r18
    obtain ⟨E18, hv18⟩ := r18
    have hup := pE_up hT.1.1 d' (t1 + 1) ht1 s t2 hr
    have w18 := w17.vl g18 k18 E18 (by omega)
    dsimp only at w18
    have p17 : I17 m 46 = I m 46 := w17.1.ps
    have hv18' : v18 = mny (I m 46) E.1 fs s := by rw [hv18, p17]
    refine ⟨_, s_X13_closeSign w18.2.1.1.1 (k := 65) (by decide), ?_⟩
    rintro v19 I19 - ⟨q19, ⟨e19, rfl, x19⟩ | ⟨e19, rfl, T19⟩⟩
    · refine ⟨fun _ => ?_, fun q => absurd rfl q⟩
      show sP _ _ _ _ _ _ _ _ _ _ _ _ _ _ (pNeed D 65 t2 _) _ _ _
      rw [pNeed, if_neg e19]
      exact ⟨rfl, eH.sx w18 hD (by show st + 0 ≤ 9000; omega) q19.h x19⟩
    refine ⟨fun q => absurd q (by decide), fun _ => ?_⟩
    show ∀ I20 : xII, _ → _
    have w19 := w18.mv q19 T19 (by omega)
    have h1952 : I19 m 52 = nI E.2.1 := w19.2.1.2.2.2.1
    have h1953 : I19 m 53 = nI E.2.2 := w19.2.1.2.2.2.2.1
    have e519 : I19 (m + 5) tn = tP D tn := w19.2.1.1.1.1.at (by omega)
    have hl2 := T19.2.1
    generalize hmn : mny (I m 46) E.1 fs s = mn at *
    subst hv18'
    have hws : aWd v18 b ≤ 500 ∧ (if v18 = -1 then (0 : Int32) else W v18) = nI (aWd v18 b) ∧ (¬ v18 = -1 → v18 = nI (ix v18) ∧ ix v18 ≤ 500) := by
      rcases mny_or (ps := I m 46) (Γ := E.1) (fs := fs) (s := s) with z | ⟨k, k1, k2, z⟩ <;> rw [hmn] at z
      · rw [z]
        exact ⟨by show (if (-1 : Int32) = -1 then 0 else _) ≤ 500; rw [if_pos rfl]; omega, rfl, fun w => absurd rfl w⟩
      · rw [z, if_neg (nI_m1 (by omega))]
        have hx : ix (nI k) = k := nI_clamp (by omega)
        refine ⟨?_, hW k k1 k2, fun _ => by rw [hx]; exact ⟨rfl, k2⟩⟩
        unfold aWd
        rw [if_neg (nI_m1 (by omega)), hx]
        split <;> omega
    obtain ⟨ws1, ws2, ws3⟩ := hws
    rw [ws2, h1952, nI_add, hxn, e519, show (nI (E.2.1 + aWd v18 b) ≤ 200 ↔ E.2.1 + aWd v18 b ≤ 200) from nI_leI (b := 200) (by omega) (by omega)]
    intro I20 hI20
    have w20 := w19.oc (K := I20) (ow := E.2.1 + aWd v18 b) (oc := E.2.2) (fun a k hk => by rw [hI20, gX, if_neg (by omega)]) (by rw [hI20, xup_s]) (by rw [hI20, gX, if_neg (by omega)]; exact h1953) (by omega) (by omega)
    clear hI20
    dsimp only at w20
    refine ⟨fun I21 => sW I I21 m D fs st x (t2 + 1) o sc lp f vd b0 c0 ([], mnN (mnN (twN E.1 fs (nI sc) (tV D tn) (tP D tn)) (mnN (nX E.1 fs true true none s) (zSz E.1 fs s))) (if 200 < E.2.1 + aWd v18 b then nt 11 (tP D tn) else none), (E.1, E.2.1 + aWd v18 b, E.2.2)), fun I21 w21 => ?_, fun z => ?_, fun z => ⟨hvn, _, s_X13_note w20.2.1.1.2.2.2.2.2 (by decide), fun I26 h26 => ?_⟩⟩
    · have h2152 : I21 m 52 = nI (E.2.1 + aWd v18 b) := w21.2.1.2.2.2.1
      have h2153 : I21 m 53 = nI E.2.2 := w21.2.1.2.2.2.2.1
      have hown : (if v18 = -1 then (0 : Int32) else (if I21 m 52 ≤ 200 then v18 else 0)) = nI (aOwn (I m 46) fs E b s) := by
        unfold aOwn
        rw [hmn, h2152]
        by_cases z1 : v18 = -1
        · rw [if_pos z1, if_pos (Or.inl z1)]
          rfl
        · rw [if_neg z1]
          have hle : nI (E.2.1 + aWd v18 b) ≤ 200 ↔ E.2.1 + aWd v18 b ≤ 200 := nI_leI (b := 200) (by omega) (by omega)
          by_cases z2 : 200 < E.2.1 + aWd v18 b
          · rw [if_neg (fun w => absurd (hle.mp w) (by omega)), if_pos (Or.inr z2)]
            rfl
          · rw [if_pos (hle.mpr (by omega)), if_neg (by rintro (w | w); exact z1 w; exact z2 w)]
            exact (ws3 z1).1
      have hownl : aOwn (I m 46) fs E b s ≤ 500 := by
        unfold aOwn
        rw [hmn]
        by_cases z1 : v18 = -1
        · rw [if_pos (Or.inl z1)]
          omega
        · have := (ws3 z1).2
          split <;> omega
      rw [hown, h2153]
      refine ⟨_, s_X13_step (s := st) w21.2.1.1.2.2.2.1 (by omega), ?_⟩
      rintro _ I22 ⟨rfl, s0, s1, s2, s3, s4, -⟩
      have w22 := w21.sp1 (w := 22) (a := nI E.2.2) (d := nI (aOwn (I m 46) fs E b s)) (v := 0) isHo_0 s0 s1 s2 s3 s4 (fun z => absurd z (by decide))
      have hT22 := w22.2.1.1.1
      have h2253 : I22 m 53 = nI E.2.2 := w22.2.1.2.2.2.2.1
      rw [h2253]
      refine ⟨_, s_X13_declare w22.2.1.1.2.1 (w22.2.1.len hD) (tk := tn) (by omega) hb (Or.inr rfl), ?_⟩
      rintro I23 ⟨g23, p23, f23⟩
      have e422 : I22 (m + 4) tn = tV D tn := by
        rw [(hT22.1.2.2.1 tn (by omega)).2.1, k2]
        unfold mkV
        rw [if_pos rfl]
      have e522 : I22 (m + 5) tn = tP D tn := hT22.1.at (by omega)
      rw [e422, e522, w22.2.1.2.1.1] at g23
      have w23 := w22.dc g23 p23 f23 rfl (by show 2 * E.1.length + 2 ≤ t2 + 1; omega)
      dsimp only at w23
      have h2353 : I23 m 53 = nI E.2.2 := w23.2.1.2.2.2.2.1
      have h2352 : I23 m 52 = nI (E.2.1 + aWd v18 b) := w23.2.1.2.2.2.1
      rw [h2353, nI_add]
      intro I24 hI24
      have w24 := w23.oc (K := I24) (ow := E.2.1 + aWd v18 b) (oc := E.2.2 + aOwn (I m 46) fs E b s) (fun a k hk => by rw [hI24, gX, if_neg (by omega)]) (by rw [hI24, gX, if_neg (by omega)]; exact h2352) (by rw [hI24, xup_s]) (by omega) (by omega)
      show sP _ _ _ _ _ _ _ _ _ _ _ _ _ _ (pNeed D 65 t2 _) _ _ _
      rw [pNeed, if_pos e19]
      have hFs : F (nd 24 [tP D tn, tV D tn, b] s lf) = ([(22, nI E.2.2, nI (aOwn (I m 46) fs E b s), 0)], mnN (mnN (twN E.1 fs (nI sc) (tV D tn) (tP D tn)) (mnN (nX E.1 fs true true none s) (zSz E.1 fs s))) (if 200 < E.2.1 + aWd v18 b then nt 11 (tP D tn) else none), (tellD (I m 46) (tV D tn, 2, tP D tn, nI sc, b, nI E.2.2, if v18 = -1 then 1 else v18, 1) E.1, E.2.1 + aWd v18 b, E.2.2 + aOwn (I m 46) fs E b s)) := by
        rw [hF]
        unfold mTlA
        rw [hmn]
      refine ⟨rfl, ?_, ?_⟩
      · rw [hFs]
        exact w24
      · rw [hFs]
        show st + 1 + 4 * (D.length - (t2 + 1)) ≤ B
        omega
    · rw [if_neg (by omega), mnN_n]
      exact w20
    · rw [if_pos (by omega)]
      exact w20.nt h26.1 h26.2
end STL
