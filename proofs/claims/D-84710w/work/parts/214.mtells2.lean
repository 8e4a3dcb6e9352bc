/-! ===== the Model: one thing told, which it is ===== -/
set_option maxRecDepth 100000
def arS (m : Nat) (n b : Int32) (Q : Int32 → xII → Prop) (I12 : xII) : Prop := ∃ R13 : Int32 → xII → Prop, w_X13_array m n b R13 I12 ∧ (∀ (v13 : Int32) (I13 : xII), (v13 = 0 ∨ v13 = 1) → R13 v13 I13 → (((v13 = 0 → Q (0 : Int32) I13) ∧ (¬ v13 = 0 → ∃ R14 : Int32 → xII → Prop, w_X13_sign m (29 : Int32) R14 I13 ∧ (∀ (v14 : Int32) (I14 : xII), (v14 = 0 ∨ v14 = 1) → R14 v14 I14 → (Q (if v14 = 0 then (0 : Int32) else (1 : Int32)) I14))))))
section TL2
variable {m t o st B tn t' o' t2 o2 k T : Nat} {I J K : xII} {D : tkL} {fs : List fnc} {Γ Γ' : List dcl} {x y z : nte} {g g' : glb} {s : gS} {ft : List (fnc × Option Int32)} {nm p vd b : Int32} {M : Int32 → Int32} {e : Tr}
theorem s_arS (hi : inD D) (hD : D.length ≤ 1800) (h : hE I m D fs t 0 st x Γ) (hg : gR I m g) (hwd : g.1 ≤ 1000000) (htn : tn + 1 = t) (k2 : tK D tn = 2) (hl2 : 2 * Γ.length + 2 ≤ t) (hb : b = 0 ∨ b = 1) (hst : st + 4 * (D.length - t) ≤ 9000) {Q : Int32 → xII → Prop} (hQ : ∀ v K, hP I m D fs st x (pRowT D b (tP D tn) (tV D tn) t) (arT (arK (I m 46) fs Γ g (tP D tn) (tV D tn) b)) v K → Q v K) : arS m (nI tn) b Q I := by
  unfold arS
  refine ⟨_, s_X13_array hi hD h hg hwd htn k2 hl2 hb hst, ?_⟩
  rintro v1 I1 - ⟨g1, h1⟩
  rw [pRowT_A] at hQ
  cases hr : pRowA D b (tP D tn) (tV D tn) t with
  | error fl =>
    rw [hr] at h1 hQ
    obtain ⟨rfl, x1⟩ := h1
    refine ⟨fun _ => ?_, fun q => absurd rfl q⟩
    exact hQ _ _ ⟨g1, rfl, x1⟩
  | ok et =>
    obtain ⟨e, t1⟩ := et
    rw [hr] at h1 hQ
    obtain ⟨rfl, w1⟩ := h1
    refine ⟨fun q => absurd q (by decide), fun _ => ?_⟩
    refine ⟨_, s_X13_sign w1.2.1.1.1 (k := 69) (by decide), ?_⟩
    rintro v2 I2 - ⟨q2, ⟨e2, rfl, x2⟩ | ⟨e2, rfl, T2⟩⟩
    · refine hQ _ _ ?_
      show hP _ _ _ _ _ _ (pNeed D 69 t1 _) _ _ _
      rw [pNeed, if_neg e2]
      exact ⟨w1.1.tr q2.f.gg, rfl, x2⟩
    · refine hQ _ _ ?_
      show hP _ _ _ _ _ _ (pNeed D 69 t1 _) _ _ _
      rw [pNeed, if_pos e2]
      have w2 := w1.mv q2 T2 (by omega)
      exact ⟨w2.1, rfl, w2⟩
theorem pRowT_ok (hD : wfD D) (ht : t < D.length) (h : pRowT D b p nm t = .ok (e, t2)) : t < t2 ∧ ∃ s vs, e = nd 42 [p, nm, b] s vs := by
  obtain ⟨k1, -, h⟩ := pOpen_ok h
  have l1 := hD.nx' ht k1
  obtain ⟨s, t1, hs, h⟩ := pAnd_ok h
  have u1 := pE_up hD 39 (t + 1) l1 s t1 hs
  obtain ⟨k2, h⟩ := pNeed_ok h
  have l2 := hD.nx' u1.2 k2
  obtain ⟨vs, t3, hv, h⟩ := pAnd_ok h
  obtain ⟨k3, h⟩ := pNeed_ok h
  have u3 : t1 + 1 ≤ t3 := by
    split at hv
    · rename_i k4
      have l3 := hD.nx' l2 k4
      obtain ⟨k5, -, hv⟩ := pOpen_ok hv
      have l4 := hD.nx' l3 k5
      obtain ⟨a, t5, ha, hv⟩ := pAnd_ok hv
      have u4 := pArgs_up hD (fun t ht => pE_up hD 39 t ht) _ _ l4 a t5 ha
      obtain ⟨-, hv⟩ := pNeed_ok hv
      cases hv
      omega
    · cases hv
      omega
  cases h
  exact ⟨by omega, s, vs, rfl⟩
theorem aWd_le (hb : b = 0 ∨ b = 1) {ps : Int32} {a : Tr} : aWd (mny ps Γ fs a) b ≤ 500 := by
  have hm := mny_or (ps := ps) (Γ := Γ) (fs := fs) (s := a)
  exact (arO_eq (g := (0, [], [], 0)) hb hm (by omega) (Nat.le_refl _) (by decide)).2.2.2.2
theorem hfs_of (hp : pFun D M vd p nm t = .ok (e, t2)) (hq : ∀ q ∈ ftOf e, fs[k]? = some q.1) : ∃ ks, fs[k]? = some (nm, p, vd, ks) ∧ ∀ F t', (if tK D (t + 1) = 63 then .ok (lf, t + 1) else pFms D D.length (t + 1)) = .ok (F, t') → ks = fmKs F := by
  obtain ⟨k62, -, hr2⟩ := pOpen_ok hp
  obtain ⟨F', t3, hF', hr3⟩ := pAnd_ok hr2
  obtain ⟨k63, hr4⟩ := pNeed_ok hr3
  obtain ⟨b, t4, hb, hr5⟩ := pAnd_ok hr4
  cases hr5
  refine ⟨fmKs F', hq ((nm, p, vd, fmKs F'), fFst F') (List.mem_singleton.mpr rfl), fun F t' hF => ?_⟩
  rw [hF'] at hF
  cases hF
  rfl
/-- a function here -/
theorem s_fnH (hi : inD D) (hD : D.length ≤ 1800) (h : uW I J m D fs x ft t s) (h2 : tn + 1 = t) (k2 : tK D tn = 2) (h4 : 4 * s.2.2.2.2.length + 2 ≤ t) (ht' : t' + 2 ≤ t) (hvd : vd = 0 ∨ vd = 1) (hft : ¬ I m 46 = 0 → fs = ft.map (·.1)) (hpt : I m 46 = 0 ∨ ∃ e t1, pFun D M vd (tP D tn) (tV D tn) t = .ok (e, t1) ∧ ∀ q ∈ ftOf e, fs[s.2.2.2.2.length]? = some q.1) {Q : Int32 → xII → Prop} (hQ : ∀ v K, tlQ I m D fs x ft t' s (pFun D M vd (tP D tn) (tV D tn) t) v K → Q v K) : ∃ R10 : Int32 → xII → Prop, w_X13_function m (nI s.2.2.2.2.length) (nI tn) vd R10 J ∧ ∀ (v10 : Int32) (I10 : xII), (v10 = 0 ∨ v10 = 1) → R10 v10 I10 → Q v10 I10 := by
  have hps := h.1.ps
  have hl := h.2.1.1.1.2.1
  obtain ⟨T, aT, a6, a7⟩ := h.2.2.2.2.2.1
  refine ⟨_, s_X13_function (M := M) (T := T) (B := 9000) hi hD h.2.1 h2 k2 (by omega) hvd (fun z => ⟨(a7 (by rw [← hps]; exact z)).1, (a7 (by rw [← hps]; exact z)).2.1⟩) ?_ h.2.2.2.2.2.2.2.1 (by omega), fun v K _ hK => ?_⟩
  · rcases hpt with w | ⟨e, t1, w1, w2⟩
    · exact Or.inl (by rw [hps]; exact w)
    · exact Or.inr (hfs_of w1 w2)
  · exact hQ v K (tlQ_fn (e := 0) hD (Or.inl rfl) h h4 ht' hft aT a6 (fun z => (a7 z).2.2) hK)
theorem s_X13_tells (hi : inD D) (hD : D.length ≤ 1800) (h : uW I J m D fs x ft t s) (hft : ¬ I m 46 = 0 → fs = ft.map (·.1)) (hpt : I m 46 = 0 ∨ ∃ e t1, pT D M t = .ok (e, t1) ∧ ∀ q ∈ ftOf e, fs[s.2.2.2.2.length]? = some q.1) : w_X13_tells m (nI s.2.2.2.2.length) (tlQ I m D fs x ft t s (pT D M t)) J := by
  have hT := h.2.1.1.1
  have hw := hT.1.1
  have hl := hT.2.1
  have hΓ := h.2.1.2.2.1
  have hgw := h.2.2.2.2.2.2.2.2.1
  have hrw := h.2.2.2.2.2.2.2.2.2
  have hst := h.2.2.2.2.2.2.2.1
  unfold w_X13_tells
  intro I1 hI1
  have w1 : uW I I1 m D fs x ft t s := h.mv (fun a j hj => by rw [hI1, gX, if_neg (by omega)]) (by
    obtain ⟨t1, t2, t3, t4, t5, t6⟩ := hT
    exact ⟨t1.fr2 (by rw [hI1, gX, if_neg (by omega)]) (by rw [hI1, gX, if_neg (by omega)]) fun a j q1 q2 => by rw [hI1, gX, if_neg (by omega)], t2, by rw [hI1, gX, if_neg (by omega)]; exact t3, by rw [hI1, gX, if_neg (by omega)]; exact t4, t5, by rw [hI1, gX, if_neg (by omega)]; exact t6⟩) (Nat.le_refl _)
  have p61 : I1 m 61 = 0 := by rw [hI1, xup_s]
  clear hI1
  -- on by a token or two
  have mv : ∀ {J K : xII} {t1 t2 : Nat}, uW I J m D fs x ft t1 s ∧ J m 61 = 0 → eQ J K m → eT K m D t2 0 → t1 ≤ t2 → uW I K m D fs x ft t2 s ∧ K m 61 = 0 := fun {J K t1 t2} u q e l => ⟨u.1.mv (fun a j hj => q a j (by omega)) e l, (q _ _ (by omega)).trans u.2⟩
  have hT1 := w1.2.1.1.1
  refine ⟨_, s_X13_word0 hT1 (k := 13) (by decide), ?_⟩
  rintro v2 I2 - (⟨k13, rfl, rfl⟩ | ⟨k13, rfl, q2, T2⟩)
  rotate_left
  · -- a constant
    refine ⟨fun q => absurd q (by decide), fun _ => ?_⟩
    have w2 := mv ⟨w1, p61⟩ q2 T2 (by omega)
    rw [pT, if_pos k13]
    refine ⟨_, s_X13_word1 T2 (k := 10) (by decide), ?_⟩
    rintro v37 I37 - ⟨q37, ⟨k10, rfl, x37⟩ | ⟨k10, rfl, T37⟩⟩
    · refine ⟨fun _ => ?_, fun q => absurd rfl q⟩
      rw [pNeed, if_neg k10]
      exact ⟨w2.1.1.tr q37.u, rfl, x37⟩
    refine ⟨fun q => absurd q (by decide), fun _ => ?_⟩
    rw [pNeed, if_pos k10]
    have w37 := mv w2 q37 T37 (by omega)
    have hl37 := T37.2.1
    refine ⟨_, s_X13_constantTold hi hD w37.1.2.1 w37.1.2.2.2.1 (by omega) (by omega), ?_⟩
    rintro v38 I38 h38 hq
    rw [show (if v38 = 0 then (0 : Int32) else 1) = v38 by rcases h38 with rfl | rfl <;> rfl]
    refine tlQ_hp w37.1 w37.2 hq fun e t2 hr => ?_
    obtain ⟨k3, hr⟩ := pNeed_ok hr
    obtain ⟨k4, hr⟩ := pNeed_ok hr
    have l3 := hw.nx' hl37 k3
    have l4 := hw.nx' l3 k4
    obtain ⟨e', t3, he, hr⟩ := pAnd_ok hr
    have u3 := pE_up hw 40 _ l4 e' t3 he
    obtain ⟨k5, hr⟩ := pNeed_ok hr
    cases hr
    refine ⟨by omega, by omega, rfl, ?_, ?_⟩
    · rw [show I37 m 46 = I m 46 from w37.1.1.ps]
      rfl
    · show s.2.2.2.1.1 ≤ _
      omega
  refine ⟨fun _ => ?_, fun q => absurd rfl q⟩
  rw [pT, if_neg k13] at hpt ⊢
  refine ⟨_, s_X13_isWord hT1 (k := 12) (by decide), ?_⟩
  rintro _ _ - ⟨rfl, rfl⟩
  refine ⟨_, s_X13_isWord hT1 (k := 11) (by decide), ?_⟩
  rintro _ _ - ⟨rfl, rfl⟩
  have on1 : ∀ k : Int32, tK D t = k → ¬ k = 0 ∧ ¬ k = 1 → ∀ I5 : xII, I5 = xup I1 m 42 (I1 m 42 + 1) → uW I I5 m D fs x ft (t + 1) s ∧ I5 m 61 = 0 := fun k hk h01 I5 hI5 => by
    have l1 := hw.nx' hl hk h01
    have q := hT1.on l1
    rw [← hI5] at q
    exact mv ⟨w1, p61⟩ q.2 q.1 (by omega)
  by_cases k12 : tK D t = 12
  · rw [if_pos (Or.inl k12)] at hpt ⊢
    rw [bI, if_pos k12, bI, if_neg (by rw [k12]; decide)]
    refine ⟨fun q => absurd q (by decide), fun _ => ?_⟩
    intro I5 hI5
    have w5 := on1 12 k12 (by decide) I5 hI5
    refine ⟨_, s_X13_name w5.1.2.1.1.1, ?_⟩
    rintro v6 I6 ⟨q6, ⟨k2, rfl, x6⟩ | ⟨k2, rfl, T6⟩⟩
    · refine ⟨fun z => absurd z (Int32.not_le.mpr (by rw [x6.1]; exact x6.2.2)), fun _ => ?_⟩
      rw [pNeed, if_neg k2]
      exact ⟨w5.1.1.tr q6.u, rfl, x6⟩
    refine ⟨fun _ => ?_, fun z => absurd (by rw [T6.2.2.2.2.2]; decide) z⟩
    have w6 := mv w5 q6 T6 (by omega)
    rw [pNeed, if_pos k2] at hpt ⊢
    rw [if_pos ⟨by rw [k12]; decide, Or.inl k12⟩]
    rw [if_pos ⟨by rw [k12]; decide, Or.inl k12⟩, if_pos k12] at hpt
    refine ⟨fun _ => ?_, fun q => absurd rfl q⟩
    refine ⟨_, s_X13_isSign T6 (k := 62) (by decide), ?_⟩
    rintro _ _ - ⟨rfl, rfl⟩
    by_cases k62 : tK D (t + 2) = 62
    · rw [bI, if_pos k62]
      refine ⟨fun q => absurd q (by decide), fun _ => ?_⟩
      exact s_fnH (t' := t) (tn := t + 1) (M := M) hi hD w6.1 rfl k2 (by omega) (by omega) (Or.inr rfl) hft hpt fun v K hK => hK
    · rw [bI, if_neg k62]
      refine ⟨fun _ => ?_, fun q => absurd rfl q⟩
      refine ⟨_, s_X13_fails T6 (by decide), ?_⟩
      rintro _ I9 - ⟨rfl, q9, x9⟩
      rw [pFun, pOpen, if_neg k62]
      exact ⟨w6.1.1.tr q9.u, rfl, x9⟩
  rw [bI, if_neg k12]
  refine ⟨fun _ => ?_, fun q => absurd rfl q⟩
  by_cases k11 : tK D t = 11
  · rw [if_pos (Or.inr (Or.inl k11))] at hpt ⊢
    rw [bI, if_pos k11]
    refine ⟨fun q => absurd q (by decide), fun _ => ?_⟩
    intro I5 hI5
    have w5 := on1 11 k11 (by decide) I5 hI5
    refine ⟨_, s_X13_name w5.1.2.1.1.1, ?_⟩
    rintro v6 I6 ⟨q6, ⟨k2, rfl, x6⟩ | ⟨k2, rfl, T6⟩⟩
    · refine ⟨fun z => absurd z (Int32.not_le.mpr (by rw [x6.1]; exact x6.2.2)), fun _ => ?_⟩
      rw [pNeed, if_neg k2]
      exact ⟨w5.1.1.tr q6.u, rfl, x6⟩
    refine ⟨fun _ => ?_, fun z => absurd (by rw [T6.2.2.2.2.2]; decide) z⟩
    have w6 := mv w5 q6 T6 (by omega)
    have hl6 := T6.2.1
    rw [pNeed, if_pos k2] at hpt ⊢
    rw [if_neg (fun w => w.1 k11), if_pos (Or.inl k11)]
    show arS m (nI (t + 1)) 1 _ I6
    refine s_arS hi hD w6.1.2.1 w6.1.2.2.2.1 (by omega) rfl k2 (by omega) (Or.inr rfl) (by omega) fun v K hK => ?_
    refine tlQ_hp w6.1 w6.2 hK fun e t2 hr => ?_
    obtain ⟨u1, s', vs, rfl⟩ := pRowT_ok hw hl6 hr
    refine ⟨by omega, by omega, rfl, ?_, ?_⟩
    · rw [show I6 m 46 = I m 46 from w6.1.1.ps]
      rfl
    · show s.2.2.2.1.1 + aWd _ _ ≤ _
      have := aWd_le (Γ := s.2.2.1) (fs := fs) (ps := I6 m 46) (a := s') (b := 1) (Or.inr rfl)
      omega
  rw [bI, if_neg k11]
  refine ⟨fun _ => ?_, fun q => absurd rfl q⟩
  refine ⟨_, s_X13_isWord hT1 (k := 10) (by decide), ?_⟩
  rintro _ _ - ⟨rfl, rfl⟩
  by_cases k10 : tK D t = 10
  rotate_left
  · rw [bI, if_neg k10, if_neg (by rintro (u | u | u); exact k12 u; exact k11 u; exact k10 u)]
    refine ⟨fun _ => ?_, fun q => absurd rfl q⟩
    refine ⟨_, s_X13_fails hT1 (by decide), ?_⟩
    rintro _ I9 - ⟨rfl, q9, x9⟩
    exact ⟨w1.1.tr q9.u, rfl, x9⟩
  rw [if_pos (Or.inr (Or.inr k10))] at hpt ⊢
  rw [bI, if_pos k10]
  refine ⟨fun q => absurd q (by decide), fun _ => ?_⟩
  intro I5 hI5
  have w5 := on1 10 k10 (by decide) I5 hI5
  refine ⟨_, s_X13_name w5.1.2.1.1.1, ?_⟩
  rintro v6 I6 ⟨q6, ⟨k2, rfl, x6⟩ | ⟨k2, rfl, T6⟩⟩
  · refine ⟨fun z => absurd z (Int32.not_le.mpr (by rw [x6.1]; exact x6.2.2)), fun _ => ?_⟩
    rw [pNeed, if_neg k2]
    exact ⟨w5.1.1.tr q6.u, rfl, x6⟩
  refine ⟨fun _ => ?_, fun z => absurd (by rw [T6.2.2.2.2.2]; decide) z⟩
  have w6 := mv w5 q6 T6 (by omega)
  have hl6 := T6.2.1
  have p646 : I6 m 46 = I m 46 := w6.1.1.ps
  rw [pNeed, if_pos k2] at hpt ⊢
  refine ⟨_, s_X13_isSign T6 (k := 62) (by decide), ?_⟩
  rintro _ _ - ⟨rfl, rfl⟩
  by_cases k62 : tK D (t + 2) = 62
  · rw [bI, if_pos k62]
    refine ⟨fun q => absurd q (by decide), fun _ => ?_⟩
    rw [if_pos ⟨k11, Or.inr k62⟩]
    rw [if_pos ⟨k11, Or.inr k62⟩, if_neg k12] at hpt
    exact s_fnH (t' := t) (tn := t + 1) (M := M) hi hD w6.1 rfl k2 (by omega) (by omega) (Or.inl rfl) hft hpt fun v K hK => hK
  rw [bI, if_neg k62]
  refine ⟨fun _ => ?_, fun q => absurd rfl q⟩
  rw [if_neg (fun w => w.2.elim k12 k62)]
  refine ⟨_, s_X13_isSign T6 (k := 69) (by decide), ?_⟩
  rintro _ _ - ⟨rfl, rfl⟩
  by_cases k69 : tK D (t + 2) = 69
  · rw [bI, if_pos k69]
    refine ⟨fun q => absurd q (by decide), fun _ => ?_⟩
    rw [if_neg (by rintro (u | u); exact k11 u; rw [k69] at u; exact absurd u (by decide)), pGlob, if_neg (by rw [k69]; decide)]
    refine ⟨_, s_X13_globalInt hD w6.1.2.1 w6.1.2.2.2.1 (by omega) (tn := t + 1) (by omega) k2 (by omega), ?_⟩
    rintro v33 I33 - ⟨rfl, w33⟩
    refine ⟨fun q => absurd q (by decide), fun _ => ?_⟩
    refine ⟨_, s_X13_sign w33.2.1.1.1 (k := 69) (by decide), ?_⟩
    rintro v2 I34 - ⟨q34, ⟨e34, rfl, x34⟩ | ⟨e34, rfl, T34⟩⟩
    · exact absurd k69 e34
    show tlQ _ _ _ _ _ _ _ _ (pNeed D 69 (t + 2) _) _ _
    rw [pNeed, if_pos k69]
    have w34 := w33.mv q34 T34 (by omega)
    refine tlQ_hp (F := fun e => glV (I6 m 46) fs s.2.2.1 s.2.2.2.1 (tP D (t + 1)) (tV D (t + 1)) lf) w6.1 w6.2 ⟨w34.1, rfl, w34⟩ fun e t2 hr => ?_
    cases hr
    refine ⟨by omega, by omega, rfl, ?_, ?_⟩
    · rw [p646]
      rfl
    · show (glI s.2.2.2.1).1.1 ≤ _
      have : (glI s.2.2.2.1).1.1 = s.2.2.2.1.1 + 1 := by
        unfold glI
        split
        · rfl
        · split <;> rfl
      omega
  rw [bI, if_neg k69]
  refine ⟨fun _ => ?_, fun q => absurd rfl q⟩
  refine ⟨_, s_X13_isSign T6 (k := 72) (by decide), ?_⟩
  rintro _ _ - ⟨rfl, rfl⟩
  by_cases k72 : tK D (t + 2) = 72
  · rw [bI, if_pos k72]
    refine ⟨fun q => absurd q (by decide), fun _ => ?_⟩
    rw [if_neg (by rintro (u | u); exact k11 u; rw [k72] at u; exact absurd u (by decide)), pGlob, if_pos k72]
    show glX m (nI (t + 1)) _ I6
    refine s_glX hi hD w6.1.2.1 w6.1.2.2.2.1 (by omega) rfl k2 (by omega) k72 (by omega) fun v K hK => ?_
    refine tlQ_hp w6.1 w6.2 hK fun e t2 hr => ?_
    obtain ⟨e', t3, he, hr⟩ := pAnd_ok hr
    have u3 := pE_up hw 40 _ (hw.nx' hl6 k72) e' t3 he
    obtain ⟨k5, hr⟩ := pNeed_ok hr
    cases hr
    refine ⟨by omega, by omega, rfl, ?_, ?_⟩
    · rw [p646]
      rfl
    · have : (glI s.2.2.2.1).1.1 = s.2.2.2.1.1 + 1 := by
        unfold glI
        split
        · rfl
        · split <;> rfl
      have h2 : (glV (I6 m 46) fs s.2.2.1 s.2.2.2.1 (tP D (t + 1)) (tV D (t + 1)) e').2.2.1 = (glI s.2.2.2.1).1.1 := by
        cases e' with
        | leaf => rfl
        | inner k d v l r =>
          show (if _ then _ else _ : glb).1 = _
          split <;> rfl
      show (glV (I6 m 46) fs s.2.2.1 s.2.2.2.1 (tP D (t + 1)) (tV D (t + 1)) e').2.2.1 ≤ _
      omega
  rw [bI, if_neg k72]
  refine ⟨fun _ => ?_, fun q => absurd rfl q⟩
  show arS m (nI (t + 1)) 0 _ I6
  refine s_arS hi hD w6.1.2.1 w6.1.2.2.2.1 (by omega) rfl k2 (by omega) (Or.inl rfl) (by omega) fun v K hK => ?_
  by_cases k64 : tK D (t + 2) = 64
  · rw [if_pos (Or.inr k64)]
    refine tlQ_hp w6.1 w6.2 hK fun e t2 hr => ?_
    obtain ⟨u1, s', vs, rfl⟩ := pRowT_ok hw hl6 hr
    refine ⟨by omega, by omega, rfl, ?_, ?_⟩
    · rw [p646]
      rfl
    · show s.2.2.2.1.1 + aWd _ _ ≤ _
      have := aWd_le (Γ := s.2.2.1) (fs := fs) (ps := I6 m 46) (a := s') (b := 0) (Or.inl rfl)
      omega
  · rw [if_neg (by rintro (u | u); exact k11 u; exact k64 u), pGlob, if_neg k72]
    rw [pRowT, pOpen, if_neg k64] at hK
    show tlQ _ _ _ _ _ _ _ _ (pNeed D 69 (t + 2) _) _ _
    rw [pNeed, if_neg k69]
    exact ⟨w6.1.1.tr hK.1.u, hK.2⟩
end TL2
