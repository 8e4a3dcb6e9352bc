/-! ===== the Model's statements: for ===== -/
set_option maxRecDepth 100000
/-! the ends of counted, as its formula has them -/
def ctE (m : Nat) (s15 : Int32) (Q : Int32 → xII → Prop) (k65 : Int32) (I96 : xII) : Prop := ∃ R97 : xII → Prop, w_X13_settle m k65 (I96 m 60) R97 I96 ∧ (∀ I97 : xII, R97 I97 → (∃ R98 : xII → Prop, w_X13_ends m s15 R98 I97 ∧ (∀ I98 : xII, R98 I98 → (∀ I99 : xII, I99 = xup I98 m 43 ((I98 m 43) - (1 : Int32)) → (Q (1 : Int32) I99)))))
def ctC (Rk : rkT) (m : Nat) (top more tb : Int32) (Q : Int32 → xII → Prop) (OV : Int32 → xII → Prop) (I89 : xII) : Prop := ∃ R90 : Int32 → xII → Prop, w_X13_closeSign m (23 : Int32) R90 I89 ∧ (∀ (v90 : Int32) (I90 : xII), (v90 = 0 ∨ v90 = 1) → R90 v90 I90 → (((v90 = 0 → Q (0 : Int32) I90) ∧ (¬ v90 = 0 → ∃ R91 : Int32 → xII → Prop, w_X13_step m (12 : Int32) top (0 : Int32) R91 I90 ∧ (∀ (v91 : Int32) (I91 : xII), R91 v91 I91 → (vp_in tb 9000 ∧ (∀ I93 : xII, I93 = xup I91 (m + 33) (ix tb) (I91 m 60) → (∃ R94 : Int32 → xII → Prop, Rk 4 more 0 R94 I93 ∧ (∀ (v94 : Int32) (I94 : xII), (v94 = 0 ∨ v94 = 1) → R94 v94 I94 → (((v94 = 0 → Q (0 : Int32) I94) ∧ (¬ v94 = 0 → ∃ R95 : Int32 → xII → Prop, w_X13_step m (12 : Int32) more (0 : Int32) R95 I94 ∧ (∀ (v95 : Int32) (I95 : xII), R95 v95 I95 → OV (I94 m 65) I95)))))))))))))
def ctB (Rk : rkT) (m : Nat) (top : Int32) (Q : Int32 → xII → Prop) (OV : Int32 → xII → Prop) (I86 : xII) : Prop := ∃ R87 : Int32 → xII → Prop, w_X13_sign m (29 : Int32) R87 I86 ∧ (∀ (v87 : Int32) (I87 : xII), (v87 = 0 ∨ v87 = 1) → R87 v87 I87 → (((v87 = 0 → Q (0 : Int32) I87) ∧ (¬ v87 = 0 → ∃ R88 : Int32 → xII → Prop, w_X13_step m (12 : Int32) (0 : Int32) (0 : Int32) R88 I87 ∧ (∀ (v88 : Int32) (I88 : xII), R88 v88 I88 → (∃ R89 : Int32 → xII → Prop, w_X13_isSign m (23 : Int32) R89 I88 ∧ (∀ (v89 : Int32) (I89 : xII), (v89 = 0 ∨ v89 = 1) → R89 v89 I89 → (((v89 = 0 → ∃ R102 : Int32 → xII → Prop, w_X13_simple m R102 I89 ∧ (∀ (v102 : Int32) (I102 : xII), (v102 = 0 ∨ v102 = 1) → R102 v102 I102 → (((v102 = 0 → Q (0 : Int32) I102) ∧ (¬ v102 = 0 → ctC Rk m top (I88 m 60) v88 Q OV I102))))) ∧ (¬ v89 = 0 → ctC Rk m top (I88 m 60) v88 Q OV I89))))))))))
def ctO (m : Nat) (s15 : Int32) (Q : Int32 → xII → Prop) (v86 : Int32) (k65 : Int32) (I95 : xII) : Prop := ∃ J96 : xII → Prop, (∀ (I96 : xII), J96 I96 → ctE m s15 Q k65 I96) ∧ ((v86 = (-1 : Int32) → J96 I95) ∧ (¬ v86 = (-1 : Int32) → vp_in v86 9000 ∧ (∀ I101 : xII, I101 = xup I95 (m + 33) (ix v86) (I95 m 60) → (J96 I101))))
def ctA (Rk : rkT) (m : Nat) (s15 : Int32) (Q : Int32 → xII → Prop) (I60 : xII) : Prop := ∃ R61 : Int32 → xII → Prop, w_X13_sign m (29 : Int32) R61 I60 ∧ (∀ (v61 : Int32) (I61 : xII), (v61 = 0 ∨ v61 = 1) → R61 v61 I61 → (((v61 = 0 → Q (0 : Int32) I61) ∧ (¬ v61 = 0 → ∃ R62 : Int32 → xII → Prop, w_X13_isSign m (29 : Int32) R62 I61 ∧ (∀ (v62 : Int32) (I62 : xII), (v62 = 0 ∨ v62 = 1) → R62 v62 I62 → (((v62 = 0 → ∃ R85 : Int32 → xII → Prop, g_X13_expression m R85 I62 ∧ (∀ (v85 : Int32) (I85 : xII), (v85 = 0 ∨ v85 = 1) → R85 v85 I85 → (((v85 = 0 → Q (0 : Int32) I85) ∧ (¬ v85 = 0 → ∃ R86 : Int32 → xII → Prop, w_X13_step m (13 : Int32) (0 : Int32) (0 : Int32) R86 I85 ∧ (∀ (v86 : Int32) (I86 : xII), R86 v86 I86 → ctB Rk m (I61 m 60) Q (ctO m s15 Q v86) I86)))))) ∧ (¬ v62 = 0 → ctB Rk m (I61 m 60) Q (ctE m s15 Q) I62))))))))
section SCO
variable {m t o st pe d B sc lp f t1 t' o' t2 o2 t3 sc' lp' : Nat} {I J K I89 : xII} {D : tkL} {Γ new : List dcl} {fs : List fnc} {x y : nte} {vd b0 c0 ps a b v : Int32} {E E' : env} {q : mR} {fl : Int32 × Int32} {Rk : rkT} {l l0 l0' l1 l2 PA PB : List stp} {PBf : Int32 → List stp} {OV : Int32 → xII → Prop}
/-- a scope begins -/
theorem sW.bg (h : sW I J m D fs st x t' o' sc lp f vd b0 c0 q) (h15 : K m 15 = nI (sc + 1)) (hf : ∀ a k, ¬ (a = m ∧ k = 15) → K a k = J a k) (hs : sc + 1 ≤ 100) : sW I K m D fs st x t' o' (sc + 1) lp f vd b0 c0 q := by
  obtain ⟨a1, a2, a3, a4, a5, a6⟩ := h
  exact ⟨fun a k q1 q2 => (hf a k (by unfold sFk at q2; omega)).trans (a1 a k q1 q2), a2.fr3 (fun a k q1 q2 => hf a k (by omega)) h15 (by rw [hf _ _ (by omega)]; exact a2.2.2.1.1) hs a2.2.2.1.2 (by omega), fun a k hk => (hf a k (by omega)).trans (a3 a k hk), a4.cong fun a k _ _ _ _ => hf a k (by omega), by rw [hf _ _ (by omega)]; exact a5, by rw [hf _ _ (by omega)]; exact a6⟩
/-- a scope ends -/
theorem sW.en {w : Nat × Nat} (h : sW I J m D fs st x t' o' (sc + 1) lp f vd b0 c0 (l, y, (new ++ Γ, w))) (hΓ : ∀ q ∈ Γ, ∃ s, s ≤ sc ∧ q.sc = nI s) (p3 : K m 15 = nI sc) (g3 : mGm K m Γ fs) (u3 : J m 46 = 0 → K m 14 = 0) (f3 : ∀ a k, ¬ (a = m ∧ (k = 14 ∨ k = 15)) → K a k = J a k) : sW I K m D fs st x t' o' sc lp f vd b0 c0 (l, y, (Γ, w)) := by
  obtain ⟨a1, ⟨h1, ⟨h2, h2'⟩, ⟨h3, h3'⟩, h4, h5, ⟨h6, h7, h8⟩, h9, h10, h11, h12, h13⟩, a3, a4, a5, a6⟩ := h
  have fld : ∀ k, ¬ (k = 14 ∨ k = 15) → K m k = J m k := fun k hk => f3 m k (fun z => hk z.2)
  obtain ⟨⟨t1, t2', t3, t4, t5, t6⟩, e2, e3, e4, e5, e6⟩ := h1
  refine ⟨a1.tr fun a k q1 q2 => f3 a k (by unfold sFk at q2; omega), ⟨⟨⟨t1.fr2 (fld 7 (by omega)) (fld 8 (by omega)) fun a k q1 q2 => f3 a k (by omega), t2', (fld 42 (by omega)).trans t3, (fld 43 (by omega)).trans t4, t5, (fld 44 (by omega)).trans t6⟩, g3, (fld 54 (by omega)).trans e3, (fld 60 (by omega)).trans e4, (fld 70 (by omega)).trans e5, e6.fr (fld 47 (by omega)) (fld 48 (by omega)) (fld 49 (by omega))⟩, ⟨p3, by omega⟩, ⟨(fld 51 (by omega)).trans h3, h3'⟩, (fld 52 (by omega)).trans h4, (fld 53 (by omega)).trans h5, ⟨(fld 50 (by omega)).trans h6, h7, (f3 _ _ (by omega)).trans h8⟩, ?_, h10, h11, hΓ, fun z => u3 (by rw [← fld 46 (by omega)]; exact z)⟩, a3.tr (fun a k hk => f3 a k (by omega)) (Nat.le_refl _), a4.cong fun a k _ _ _ _ => f3 a k (by omega), (fld 63 (by omega)).trans a5, (fld 64 (by omega)).trans a6⟩
  dsimp only at h9 ⊢
  rw [List.length_append] at h9
  omega
theorem s_ctC {tp : Nat} {w : Nat × Nat} {mk : Tr → Tr} {F : Tr → mR} (hBd : oBd Rk m D fs f vd d) (hD : D.length ≤ 1800) (hd : o + 1 + d = 40) (hsc : sc ≤ 2 * o + 1) (hlp : lp ≤ o) (hΓ : ∀ q ∈ Γ, ∃ s, s ≤ sc ∧ q.sc = nI s) (hnew : ∀ q ∈ new, q.sc = nI (sc + 1))
    (w89 : sW I I89 m D fs st x t3 (o + 2) (sc + 1) lp f vd b0 c0 (PA ++ PB ++ [(12, 0, 0, 0)] ++ l1, y, (new ++ Γ, w))) (hPB : ∀ v, (PBf v).length = PB.length)
    (hB : st + (PA ++ PB ++ [((12 : Int32), (0 : Int32), (0 : Int32), (0 : Int32))] ++ l1).length + 4 * (D.length - t3) + 4 ≤ B) (hB9 : B ≤ 9000)
    (hF : ∀ bd q2, q2 = mS (I m 46) fs vd bd (sc + 2) true (st + (PA ++ PB).length + 1 + l1.length + 2) (new ++ Γ, w) → F (mk bd) = (PA ++ PBf (nI (st + (PA ++ PB).length + 1 + l1.length + 2 + q2.1.length + 1)) ++ [(12, nI (st + (PA ++ PB).length + 1 + l1.length + 1), 0, 0)] ++ l1 ++ [(12, nI tp, 0, 0)] ++ [(15, 0, 0, 0)] ++ fillH 1 (nI (st + (PA ++ PB).length + 1 + l1.length + 2 + q2.1.length + 1)) (fillH 2 (nI (st + (PA ++ PB).length + 1)) q2.1) ++ [(12, nI (st + (PA ++ PB).length + 1), 0, 0)], mnN y q2.2.1, (Γ, q2.2.2.2)))
    (hOV : ∀ (k65 : Int32) (I95 : xII) (t4 : Nat) (rest : List stp) (z : nte) (E' : env) (v : Int32), sW I I95 m D fs st x t4 (o + 1) (sc + 1) lp f vd b0 c0 (PA ++ PB ++ rest, z, E') → I95 m 60 = v → st + (PA ++ PB).length < 9000 → (∀ I96, sW I I96 m D fs st x t4 (o + 1) (sc + 1) lp f vd b0 c0 (PA ++ PBf v ++ rest, z, E') → I96 m 60 = v → ctE m (nI sc) (sP I m D fs st o x sc lp f vd b0 c0 B (pNeed D 63 t3 (pAnd (pS D d (t3 + 1)) fun b t4 => .ok (mk b, t4))) F) k65 I96) → OV k65 I95) :
    ctC Rk m (nI tp) (nI (st + (PA ++ PB).length + 1)) (nI (st + (PA ++ PB).length)) (sP I m D fs st o x sc lp f vd b0 c0 B (pNeed D 63 t3 (pAnd (pS D d (t3 + 1)) fun b t4 => .ok (mk b, t4))) F) OV I89 := by
  have hT := w89.2.1.1.1
  have hl := hT.2.1
  have hD4 := hT.1.1.2.1
  generalize hLP : PA ++ PB = LP at *
  have l89 : (LP ++ [((12 : Int32), (0 : Int32), (0 : Int32), (0 : Int32))] ++ l1).length = LP.length + 1 + l1.length := by rw [List.length_append, List.length_append]; rfl
  rw [l89] at hB
  unfold ctC
  refine ⟨_, s_X13_closeSign (o := o + 1) hT (k := 63) (by decide), ?_⟩
  rintro v90 I90 - ⟨q90, ⟨e90, rfl, x90⟩ | ⟨e90, rfl, T90⟩⟩
  · refine ⟨fun _ => ?_, fun q => absurd rfl q⟩
    rw [pNeed, if_neg e90]
    exact ⟨rfl, eH.sx w89 hD (by dsimp only; rw [l89]; omega) q90.h x90⟩
  refine ⟨fun q => absurd q (by decide), fun _ => ?_⟩
  rw [pNeed, if_pos e90] at *
  have w90 := w89.mv q90 T90 (by omega)
  have ht3 := T90.2.1
  refine ⟨_, s_X13_step (s := st + (LP ++ [((12 : Int32), (0 : Int32), (0 : Int32), (0 : Int32))] ++ l1).length) w90.2.1.1.2.2.2.1 (by rw [l89]; omega), ?_⟩
  rintro _ I91 ⟨rfl, s0, s1, s2, s3, s4, -⟩
  have w91 := w90.sp1 (w := 12) (a := nI tp) (d := 0) (v := 0) isHo_0 s0 s1 s2 s3 s4 (fun z => absurd z (by decide))
  dsimp only at w91
  rw [l89, show st + (LP.length + 1 + l1.length) + 1 = st + LP.length + 1 + l1.length + 1 by omega] at s0
  rw [s0, show ix (nI (st + LP.length)) = st + LP.length from nI_clamp (by omega)]
  refine ⟨vp_in_nI (by omega) (by decide), ?_⟩
  intro I93 hI93
  rw [List.append_assoc (LP ++ [((12 : Int32), (0 : Int32), (0 : Int32), (0 : Int32))])] at w91
  have w93 := w91.pA (v := nI (st + LP.length + 1 + l1.length + 1)) isHo_0
  rw [← hI93] at w93
  clear hI93
  dsimp only at w93
  have l93 : (LP ++ [((12 : Int32), nI (st + LP.length + 1 + l1.length + 1), (0 : Int32), (0 : Int32))] ++ (l1 ++ [((12 : Int32), nI tp, (0 : Int32), (0 : Int32))])).length = LP.length + 1 + l1.length + 1 := by
    rw [List.length_append, List.length_append, List.length_append]
    show LP.length + 1 + (l1.length + 1) = _
    omega
  have p9346 : I93 m 46 = I m 46 := w93.1.ps
  refine ⟨_, hBd I93 (t3 + 1) (o + 1) _ _ (sc + 1) lp _ _ _ (B - 1) (nI (st + LP.length + 1)) (by omega) w93.2.1 w93.2.2.2.2.1 w93.2.2.2.2.2 (by omega) (by omega) (by dsimp only; rw [l93]; omega) (by omega), ?_⟩
  rintro v94 I94 - hP
  dsimp only at hP
  rw [l93, show st + (LP.length + 1 + l1.length + 1) = st + LP.length + 1 + l1.length + 1 by omega] at hP
  cases hy : pS D d (t3 + 1) with
  | error fl =>
    rw [hy] at hP
    obtain ⟨rfl, x4⟩ := hP
    refine ⟨fun _ => ?_, fun q => absurd rfl q⟩
    refine ⟨rfl, sX.tr w93 ?_⟩
    dsimp only
    rw [l93, show st + (LP.length + 1 + l1.length + 1) = st + LP.length + 1 + l1.length + 1 by omega]
    exact x4
  | ok et =>
    obtain ⟨bd, t4⟩ := et
    rw [hy] at hP hOV
    obtain ⟨rfl, w4', b4⟩ := hP
    refine ⟨fun q => absurd q (by decide), fun _ => ?_⟩
    rw [p9346] at w4' b4
    have hFb := hF bd _ rfl
    rw [show st + LP.length + 1 + l1.length + 1 + 1 = st + LP.length + 1 + l1.length + 2 by omega, show sc + 1 + 1 = sc + 2 by omega] at w4' b4
    generalize hq : mS (I m 46) fs vd bd (sc + 2) true (st + LP.length + 1 + l1.length + 2) (new ++ Γ, w) = q at *
    have k65 := w4'.2.2.2.2.2.2.1
    have w4b := w4'.w
    rw [if_neg (nI_m1 (by omega))] at w4b
    rw [show st + LP.length + 1 + l1.length + 1 + 1 = st + LP.length + 1 + l1.length + 2 by omega] at w4b k65
    have w94 := w93.tr (q2 := ([(15, 0, 0, 0)] ++ lnk (st + LP.length + 1 + l1.length + 2) (-1) (-1) (fillH 2 (nI (st + LP.length + 1)) q.1), q.2.1, ((new ++ Γ), q.2.2.2))) (by dsimp only; rw [l93, show st + (LP.length + 1 + l1.length + 1) = st + LP.length + 1 + l1.length + 1 by omega]; exact w4b)
    dsimp only at w94
    have l94 : (LP ++ [((12 : Int32), nI (st + LP.length + 1 + l1.length + 1), (0 : Int32), (0 : Int32))] ++ (l1 ++ [((12 : Int32), nI tp, (0 : Int32), (0 : Int32))]) ++ ([((15 : Int32), (0 : Int32), (0 : Int32), (0 : Int32))] ++ lnk (st + LP.length + 1 + l1.length + 2) (-1) (-1) (fillH 2 (nI (st + LP.length + 1)) q.1))).length = LP.length + 1 + l1.length + 2 + q.1.length := by
      rw [List.length_append, l93, List.length_append, lnk_len, fillH_len]
      show LP.length + 1 + l1.length + 1 + (1 + q.1.length) = _
      omega
    have hl4 := w94.2.1.1.1.2.1
    refine ⟨_, s_X13_step (s := st + (LP ++ [((12 : Int32), nI (st + LP.length + 1 + l1.length + 1), (0 : Int32), (0 : Int32))] ++ (l1 ++ [((12 : Int32), nI tp, (0 : Int32), (0 : Int32))]) ++ ([((15 : Int32), (0 : Int32), (0 : Int32), (0 : Int32))] ++ lnk (st + LP.length + 1 + l1.length + 2) (-1) (-1) (fillH 2 (nI (st + LP.length + 1)) q.1))).length) w94.2.1.1.2.2.2.1 (by rw [l94]; omega), ?_⟩
    rintro _ I95 ⟨rfl, u0, u1, u2, u3, u4, -⟩
    have w95 := w94.sp1 (w := 12) (a := nI (st + LP.length + 1)) (d := 0) (v := 0) isHo_0 u0 u1 u2 u3 u4 (fun z => absurd z (by decide))
    dsimp only at w95
    rw [l94, show st + (LP.length + 1 + l1.length + 2 + q.1.length) + 1 = st + LP.length + 1 + l1.length + 2 + q.1.length + 1 by omega] at u0
    rw [show LP ++ [((12 : Int32), nI (st + LP.length + 1 + l1.length + 1), (0 : Int32), (0 : Int32))] ++ (l1 ++ [((12 : Int32), nI tp, (0 : Int32), (0 : Int32))]) ++ ([((15 : Int32), (0 : Int32), (0 : Int32), (0 : Int32))] ++ lnk (st + LP.length + 1 + l1.length + 2) (-1) (-1) (fillH 2 (nI (st + LP.length + 1)) q.1)) ++ [((12 : Int32), nI (st + LP.length + 1), (0 : Int32), (0 : Int32))] = LP ++ ([((12 : Int32), nI (st + LP.length + 1 + l1.length + 1), (0 : Int32), (0 : Int32))] ++ l1 ++ [((12 : Int32), nI tp, (0 : Int32), (0 : Int32))] ++ [((15 : Int32), (0 : Int32), (0 : Int32), (0 : Int32))] ++ lnk (st + LP.length + 1 + l1.length + 2) (-1) (-1) (fillH 2 (nI (st + LP.length + 1)) q.1) ++ [((12 : Int32), nI (st + LP.length + 1), (0 : Int32), (0 : Int32))]) by simp only [List.append_assoc]] at w95
    refine hOV _ I95 t4 _ _ _ _ w95 u0 (by omega) fun I96 w96 h9660 => ?_
    have lPf : (PA ++ PBf (nI (st + LP.length + 1 + l1.length + 2 + q.1.length + 1))).length = LP.length := by rw [List.length_append, hPB, ← hLP, List.length_append]
    rw [show PA ++ PBf (nI (st + LP.length + 1 + l1.length + 2 + q.1.length + 1)) ++ ([((12 : Int32), nI (st + LP.length + 1 + l1.length + 1), (0 : Int32), (0 : Int32))] ++ l1 ++ [((12 : Int32), nI tp, (0 : Int32), (0 : Int32))] ++ [((15 : Int32), (0 : Int32), (0 : Int32), (0 : Int32))] ++ lnk (st + LP.length + 1 + l1.length + 2) (-1) (-1) (fillH 2 (nI (st + LP.length + 1)) q.1) ++ [((12 : Int32), nI (st + LP.length + 1), (0 : Int32), (0 : Int32))]) = (PA ++ PBf (nI (st + LP.length + 1 + l1.length + 2 + q.1.length + 1)) ++ [((12 : Int32), nI (st + LP.length + 1 + l1.length + 1), (0 : Int32), (0 : Int32))] ++ l1 ++ [((12 : Int32), nI tp, (0 : Int32), (0 : Int32))] ++ [((15 : Int32), (0 : Int32), (0 : Int32), (0 : Int32))]) ++ lnk (st + LP.length + 1 + l1.length + 2) (-1) (-1) (fillH 2 (nI (st + LP.length + 1)) q.1) ++ [((12 : Int32), nI (st + LP.length + 1), (0 : Int32), (0 : Int32))] by simp only [List.append_assoc]] at w96
    have l96 : st + (PA ++ PBf (nI (st + LP.length + 1 + l1.length + 2 + q.1.length + 1)) ++ [((12 : Int32), nI (st + LP.length + 1 + l1.length + 1), (0 : Int32), (0 : Int32))] ++ l1 ++ [((12 : Int32), nI tp, (0 : Int32), (0 : Int32))] ++ [((15 : Int32), (0 : Int32), (0 : Int32), (0 : Int32))]).length = st + LP.length + 1 + l1.length + 2 := by
      rw [List.length_append, List.length_append, List.length_append, List.length_append, lPf]
      show st + (LP.length + 1 + l1.length + 1 + 1) = _
      omega
    have m96 := w96.md lnk_noH
    rw [l96] at m96
    unfold ctE
    rw [h9660, k65, ← hdH_fill (v := nI (st + LP.length + 1))]
    refine ⟨_, s_X13_settle1 (c := -1) m96 (by rw [fillH_len]; omega), ?_⟩
    rintro I97 ⟨m97, f97⟩
    have w97 := w96.rp (K := I97) (l0' := lnk (st + LP.length + 1 + l1.length + 2) (-1) (-1) (fillH 1 (nI (st + LP.length + 1 + l1.length + 2 + q.1.length + 1)) (fillH 2 (nI (st + LP.length + 1)) q.1))) lnk_noH lnk_noH (by rw [lnk_len, lnk_len, fillH_len]) (by rw [l96]; exact m97) (fun a k hk => f97 a k (by rw [l96, lnk_len] at hk; exact hk))
    rw [fill_noH.lk] at w97
    have ho := T90.2.2.2.2.1
    refine ⟨_, s_X13_ends (sc := sc) w97.2.1.1.2.1 w97.2.1.2.2.2.2.2.2.2.2.2.2 (fun z hz => ⟨sc + 1, by omega, by omega, hnew z hz⟩) hΓ (by omega), ?_⟩
    rintro I98 ⟨p98, g98, u98, f98⟩ I99 hI99
    have w98 := w97.en hΓ p98 g98 u98 f98
    have w99 := w98.cl (K := I99) hI99
    refine ⟨rfl, ?_, ?_⟩
    · rw [hFb]
      exact w99
    · rw [hFb]
      dsimp only
      rw [List.length_append, List.length_append, fillH_len, fillH_len]
      have := l96
      show st + ((PA ++ PBf (nI (st + LP.length + 1 + l1.length + 2 + q.1.length + 1)) ++ [((12 : Int32), nI (st + LP.length + 1 + l1.length + 1), (0 : Int32), (0 : Int32))] ++ l1 ++ [((12 : Int32), nI tp, (0 : Int32), (0 : Int32))] ++ [((15 : Int32), (0 : Int32), (0 : Int32), (0 : Int32))]).length + q.1.length + 1) + 4 * (D.length - t4) ≤ B
      omega
end SCO
