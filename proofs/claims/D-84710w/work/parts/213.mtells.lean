/-! ===== the Model: one thing told ===== -/
set_option maxRecDepth 100000
/-- after one thing told -/
def tlQ (I : xII) (m : Nat) (D : tkL) (fs : List fnc) (x : nte) (ft : List (fnc × Option Int32)) (t : Nat) (s : gS) (r : pR) (v : Int32) (K : xII) : Prop := uG I K m ∧ match r with
  | .error fl => v = 0 ∧ eX K m fl
  | .ok (e, t1) => v = 1 ∧ t + 2 ≤ t1 ∧ K m 61 = nI (ftOf e).length ∧ (mT1 (I m 46) fs s e).2.2.2.2.length = s.2.2.2.2.length + (ftOf e).length ∧ uW I K m D fs x (if I m 46 = 0 then ft ++ ftOf e else ft) t1 (mT1 (I m 46) fs s e)
section TLS
variable {m t o st B tn t' o' t2 o2 k T : Nat} {I J K : xII} {D : tkL} {fs : List fnc} {Γ Γ' : List dcl} {x y z : nte} {g g' : glb} {s : gS} {ft : List (fnc × Option Int32)} {nm p vd : Int32} {M : Int32 → Int32}
theorem pFms_up (hD : wfD D) : ∀ f t, t < D.length → pUp D t (pFms D f t)
  | 0, t, ht => fun e t1 h => nomatch h
  | f + 1, t, ht => fun e t1 h => by
    obtain ⟨a, t2, h2, h3⟩ := pAnd_ok h
    have u := pFm_up hD ht a t2 h2
    split at h3
    · rename_i hk
      have l3 := hD.nx' u.2 hk
      obtain ⟨s, t4, h4, h5⟩ := pAnd_ok h3
      have u2 := pFms_up hD f (t2 + 1) l3 s t4 h4
      cases h5
      omega
    · cases h3
      exact u
theorem s_X13_word0 (h : eT I m D t o) {k s : Int32} (hs : mkV k 0 = s ∧ (10 : Int32) ≤ k ∧ k < 40) : w_X13_word m s 0 (fun v J => (¬ tK D t = k ∧ v = 0 ∧ I = J) ∨ (tK D t = k ∧ v = 1 ∧ eQ I J m ∧ eT J m D (t + 1) o)) I := by
  unfold w_X13_word
  rw [h.2.2.2.2.2]
  refine ⟨fun z => absurd z (by decide), fun _ => ⟨_, s_X13_isWord h hs, ?_⟩⟩
  rintro _ _ - ⟨rfl, rfl⟩
  by_cases e : tK D t = k
  · rw [bI, if_pos e]
    refine ⟨fun q => absurd q (by decide), fun _ => ?_⟩
    rintro _ rfl
    have := h.1.1.nx' h.2.1 e ⟨by rintro rfl; exact absurd hs.2.1 (by decide), by rintro rfl; exact absurd hs.2.1 (by decide)⟩
    exact Or.inr ⟨e, rfl, (h.on this).2, (h.on this).1⟩
  · rw [bI, if_neg e]
    refine ⟨fun _ => ?_, fun q => absurd rfl q⟩
    refine ⟨fun _ => ?_, fun q => absurd rfl q⟩
    exact Or.inl ⟨e, rfl, rfl⟩
/-- a function out of its call -/
theorem tlQ_fn {v : Int32} {e : Nat} (hD : D.length ≤ 1800) (he : e = 0 ∨ e = 1) (h : uW I J m D fs x ft t s) (h0 : 4 * s.2.2.2.2.length + 2 ≤ t) (ht : t' + 2 ≤ t) (hft : ¬ I m 46 = 0 → fs = ft.map (·.1)) (hT9 : T ≤ 900) (hT1 : ∀ k q, ft[k]? = some q → tbR J m D T k q) (hT2 : I m 46 = 0 → ft.length = s.2.2.2.2.length) (hq : fuQ J m D fs t s.1.length (mN (I m 46) x s.2.1) s.2.2.2.2.length T nm p vd s.2.2.1 (fun F b => nd 43 [p, nm, vd, M nm] F b) 9000 (pFun D M vd p nm t) v K) : tlQ I m D fs x ft t' s (pFun D M vd p nm t) v K := by
  have hw := h.2.1.1.1.1.1
  have hl := h.2.1.1.1.2.1
  obtain ⟨g3, hq⟩ := hq
  refine ⟨h.1.tr g3.u, ?_⟩
  cases hr : pFun D M vd p nm t with
  | error fl =>
    rw [hr] at hq
    exact hq
  | ok et =>
    obtain ⟨e, t1⟩ := et
    rw [hr] at hq
    obtain ⟨hv, F, bd, zz, E1, q, rfl, h2, h3, h4, h5, h6, h7, h8, h9, h10, h11, h12, h13, h14, h15⟩ := hq
    -- the formals
    obtain ⟨k62, -, hr2⟩ := pOpen_ok hr
    obtain ⟨F', t3, hF', hr3⟩ := pAnd_ok hr2
    obtain ⟨k63, hr4⟩ := pNeed_ok hr3
    obtain ⟨b, t4, hb, hr5⟩ := pAnd_ok hr4
    have hlt := hw.nx' hl k62
    have hFF : F' = F ∧ t4 = t1 := by
      cases hr5
      exact ⟨rfl, rfl⟩
    obtain ⟨rfl, rfl⟩ := hFF
    have hF : t + 1 ≤ t3 ∧ t3 < D.length ∧ ((F' = lf ∧ fFst F' = none) ∨ (¬ F' = lf ∧ fFst F' = some (tP D (t + 1)) ∧ t + 2 < D.length)) := by
      by_cases e63 : tK D (t + 1) = 63
      · rw [if_pos e63] at hF'
        cases hF'
        exact ⟨Nat.le_refl _, hlt, Or.inl ⟨rfl, rfl⟩⟩
      · rw [if_neg e63] at hF'
        have u1 := pFms_fst _ _ hF'
        have u2 := pFms_ne _ _ hF'
        have u3 := pFms_up hw _ _ hlt _ _ hF'
        refine ⟨by omega, u3.2, Or.inr ⟨u2, u1.1, ?_⟩⟩
        rcases u1.2 with w | w
        · exact hw.nx' hlt w
        · exact hw.nx' hlt w
    have hb2 := pBlock_up hw (fun t ht => pS'_up hw 40 t ht) (hw.nx' hF.2.1 k63) _ _ hb
    have w := h.fu (F := F') (bd := bd) hft hT9 hT1 hT2 h0 (t2 := t4) (by omega) hF.2.2 hD g3 h2 h3 h4 h5 h6 h7 h8 h9 h10 h13 h14 h15
    refine ⟨hv, by omega, h12, ?_, w⟩
    show (s.2.2.2.2 ++ [_]).length = _
    rw [List.length_append]
    rfl
/-- what no function is -/
theorem tlQ_hp {v : Int32} {r : pR} {F : Tr → nte × List dcl × glb} (h : uW I J m D fs x ft t s) (p61 : J m 61 = 0) (hq : hP J m D fs s.1.length (mN (I m 46) x s.2.1) r F v K) (hF : ∀ e t2, r = .ok (e, t2) → t' + 2 ≤ t2 ∧ t ≤ t2 ∧ ftOf e = [] ∧ mT1 (I m 46) fs s e = mO1 s (F e) ∧ (F e).2.2.1 ≤ 500 * t2) : tlQ I m D fs x ft t' s r v K := by
  obtain ⟨g1, hq⟩ := hq
  refine ⟨h.1.tr g1.u, ?_⟩
  cases hr : r with
  | error fl =>
    rw [hr] at hq
    exact hq
  | ok et =>
    obtain ⟨e, t2⟩ := et
    rw [hr] at hq
    obtain ⟨hv, w⟩ := hq
    obtain ⟨f0, f1, f2, f3, f4⟩ := hF e t2 hr
    have := h.hp w f1 f4
    refine ⟨hv, f0, ?_, ?_, ?_⟩
    · rw [f2, g1 _ _ (by omega) (by unfold sFk eFk; omega)]
      exact p61
    · rw [f3, f2]
      rfl
    · rw [f3, f2, List.append_nil, ite_self]
      exact this
end TLS
