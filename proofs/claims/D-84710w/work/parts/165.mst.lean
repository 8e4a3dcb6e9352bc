/-! ===== the Model's going through: states, small methods ===== -/
set_option maxRecDepth 100000
/-- the Model's tokens are D -/
def mD (I : xII) (m : Nat) (D : tkL) : Prop := wfD D ∧ I m 7 = nI (D.length - 1) ∧ (∀ i, i + 1 < D.length → I (m + 3) i = mkK (tK D i) ∧ I (m + 4) i = mkV (tK D i) (tV D i) ∧ I (m + 5) i = tP D i) ∧ I (m + 3) (D.length - 1) = 0 ∧ (tK D (D.length - 1) = 0 ∧ I m 8 = -1 ∧ I (m + 5) (D.length - 1) = tP D (D.length - 1) ∨ tK D (D.length - 1) = 1 ∧ I m 8 = tP D (D.length - 1) ∧ ¬ tP D (D.length - 1) = -1)
/-- what an expression may change -/
def eFk (k : Nat) : Prop := k = 42 ∨ k = 43 ∨ k = 44 ∨ k = 45 ∨ k = 47 ∨ k = 48 ∨ k = 49 ∨ k = 55 ∨ k = 60 ∨ k = 62 ∨ k = 70
def eG (I J : xII) (m : Nat) : Prop := ∀ a k, (a < m + 32 ∨ m + 38 < a) → ¬ (a = m ∧ eFk k) → J a k = I a k
/-- the place, what is open, no fault -/
def eT (I : xII) (m : Nat) (D : tkL) (t o : Nat) : Prop := mD I m D ∧ t < D.length ∧ I m 42 = nI t ∧ I m 43 = nI o ∧ o ≤ 40 ∧ I m 44 = 0
/-- a fault -/
def eX (J : xII) (m : Nat) (f : Int32 × Int32) : Prop := J m 44 = f.1 ∧ J m 45 = f.2 ∧ 0 < f.1
/-- all but the place and what is open (and a fault) stands -/
def eQ (I J : xII) (m : Nat) : Prop := ∀ a k, ¬ (a = m ∧ (k = 42 ∨ k = 43 ∨ k = 44 ∨ k = 45)) → J a k = I a k
theorem nIj {a b : Nat} (ha : a < 2147483648) (hb : b < 2147483648) (h : nI a = nI b) : a = b := Decidable.byContradiction fun q => nI_ne ha hb q h
section MT
variable {m t o : Nat} {I J K : xII} {D : tkL}
theorem eG.rf : eG I I m := fun _ _ _ _ => rfl
theorem eG.tr (h : eG I J m) (h' : eG J K m) : eG I K m := fun a k h1 h2 => (h' a k h1 h2).trans (h a k h1 h2)
theorem eQ.rf : eQ I I m := fun _ _ _ => rfl
theorem eQ.tr (h : eQ I J m) (h' : eQ J K m) : eQ I K m := fun a k h1 => (h' a k h1).trans (h a k h1)
theorem eQ.f (h : eQ I J m) : eG I J m := fun a k h1 h2 => h a k (by unfold eFk at h2; omega)
theorem mD.fr (h : mD I m D) (hf : eG I J m) : mD J m D := by
  obtain ⟨h1, h2, h3, h4, h5⟩ := h
  refine ⟨h1, (hf _ _ (by omega) (by unfold eFk; omega)).trans h2, fun i hi => ?_, (hf _ _ (by omega) (by omega)).trans h4, ?_⟩
  · rw [hf _ _ (by omega) (by omega), hf _ _ (by omega) (by omega), hf _ _ (by omega) (by omega)]
    exact h3 i hi
  · rw [hf _ _ (by omega) (by unfold eFk; omega), hf _ _ (by omega) (by omega)]
    exact h5
theorem eT.ix (h : eT I m D t o) : ix (I m 42) = t := by rw [h.2.2.1]; exact nI_clamp (by have := h.1.1.2.1; have := h.2.1; omega)
theorem eT.vp (h : eT I m D t o) : vp_in (I m 42) 4002 := by rw [h.2.2.1]; exact vp_in_nI (by have := h.1.1.2.1; have := h.2.1; omega) (by decide)
theorem mkK_w {k : Int32} (h : ¬ k = 2) (h' : ¬ k = 3) (hk : k < 40) : mkK k = 2 := by unfold mkK; rw [if_neg h, if_neg h', if_pos hk]
theorem sgM_inj {a b : Nat} (h : sgM a = sgM b) : a = b := by
  unfold sgM at h
  repeat' split at h
  all_goals omega
theorem mkS_iff {q k v v' : Int32} (hk : (40 : Int32) ≤ k) : (mkK q = 4 ∧ mkV q v = mkV k v') ↔ q = k := by
  have e2 : ¬ k = 2 := by rintro rfl; exact absurd hk (by decide)
  have e3 : ¬ k = 3 := by rintro rfl; exact absurd hk (by decide)
  have e4 : ¬ k < 40 := Int32.not_lt.mpr hk
  refine ⟨fun ⟨h1, h2⟩ => ?_, ?_⟩
  · unfold mkK at h1
    split at h1
    · exact absurd h1 (by decide)
    · split at h1
      · exact absurd h1 (by decide)
      · split at h1
        · exact absurd h1 (by decide)
        · rename_i n2 n3 n4
          unfold mkV at h2
          rw [if_neg n2, if_neg n3, if_neg n4, if_neg e2, if_neg e3, if_neg e4] at h2
          have q1 : (40 : Int32).toInt ≤ q.toInt := Int32.le_iff_toInt_le.mp (Int32.not_lt.mp n4)
          have k1 : (40 : Int32).toInt ≤ k.toInt := Int32.le_iff_toInt_le.mp hk
          have c40 : (40 : Int32).toInt = 40 := by decide
          have q2 := Int32.toInt_lt q
          have k2 := Int32.toInt_lt k
          have s1 : (q - 40).toInt = q.toInt - 40 := by
            rw [Int32.toInt_sub, c40]
            exact Int.bmod_eq_of_le (by omega) (by omega)
          have s2 : (k - 40).toInt = k.toInt - 40 := by
            rw [Int32.toInt_sub, c40]
            exact Int.bmod_eq_of_le (by omega) (by omega)
          have x1 : ix (q - 40) = (q.toInt - 40).toNat := by show (q - 40).toInt.toNat = _; rw [s1]
          have x2 : ix (k - 40) = (k.toInt - 40).toNat := by show (k - 40).toInt.toNat = _; rw [s2]
          have hb : ∀ a, sgM a ≤ a + 3 := by intro a; unfold sgM; grind
          have := hb (ix (q - 40))
          have := hb (ix (k - 40))
          have e := sgM_inj (nIj (by omega) (by omega) h2)
          exact Int32.toInt_inj.mp (by omega)
  · rintro rfl
    unfold mkK mkV
    simp only [if_neg e2, if_neg e3, if_neg e4, and_self]
theorem mkW_iff {q k v v' : Int32} (h0 : ¬ q = 0 ∧ ¬ q = 1) (hk : k < 40 ∧ ¬ k = 2 ∧ ¬ k = 3) : (mkK q = 2 ∧ mkV q v = mkV k v') ↔ q = k := by
  obtain ⟨e4, e2, e3⟩ := hk
  refine ⟨fun ⟨h1, h2⟩ => ?_, ?_⟩
  · unfold mkK at h1
    split at h1
    · exact absurd h1 (by decide)
    · split at h1
      · exact absurd h1 (by decide)
      · split at h1
        · rename_i n2 n3 n4
          unfold mkV at h2
          rw [if_neg n2, if_neg n3, if_pos n4, if_neg e2, if_neg e3, if_pos e4] at h2
          grind
        · exact absurd h1 (by decide)
  · rintro rfl
    unfold mkK mkV
    simp only [if_neg e2, if_neg e3, if_pos e4, and_self]
/-- signs, words, names, numbers here -/
theorem mD.sg (h : mD I m D) (ht : t < D.length) {k s : Int32} (hs : mkV k 0 = s ∧ (40 : Int32) ≤ k) : (I (m + 3) t = 4 ∧ I (m + 4) t = s) ↔ tK D t = k := by
  obtain ⟨h1, h2, h3, h4, h5⟩ := h
  rcases Nat.lt_or_ge (t + 1) D.length with q | q
  · rw [(h3 t q).1, (h3 t q).2.1, ← hs.1]
    exact mkS_iff hs.2
  · obtain rfl : t = D.length - 1 := by omega
    rw [h4]
    refine ⟨fun z => absurd z.1 (by decide), ?_⟩
    rintro rfl
    rcases h1.2.2.1 with e | e <;> rw [e] at hs <;> exact absurd hs.2 (by decide)
theorem mD.wd (h : mD I m D) (ht : t < D.length) {k s : Int32} (hs : mkV k 0 = s ∧ (10 : Int32) ≤ k ∧ k < 40) : (I (m + 3) t = 2 ∧ I (m + 4) t = s) ↔ tK D t = k := by
  obtain ⟨h1, h2, h3, h4, h5⟩ := h
  rcases Nat.lt_or_ge (t + 1) D.length with q | q
  · rw [(h3 t q).1, (h3 t q).2.1, ← hs.1]
    exact mkW_iff (h1.2.2.2 t q) ⟨hs.2.2, by rintro rfl; exact absurd hs.2.1 (by decide), by rintro rfl; exact absurd hs.2.1 (by decide)⟩
  · obtain rfl : t = D.length - 1 := by omega
    rw [h4]
    refine ⟨fun z => absurd z.1 (by decide), ?_⟩
    rintro rfl
    rcases h1.2.2.1 with e | e <;> rw [e] at hs <;> exact absurd hs.2.1 (by decide)
theorem mkK_nm {k : Int32} : mkK k = 1 ↔ k = 2 := by
  unfold mkK
  repeat' split
  all_goals grind
theorem mkK_nb {k : Int32} : mkK k = 3 ↔ k = 3 := by
  unfold mkK
  repeat' split
  all_goals grind
theorem mD.nm (h : mD I m D) (ht : t < D.length) : I (m + 3) t = 1 ↔ tK D t = 2 := by
  obtain ⟨h1, h2, h3, h4, h5⟩ := h
  rcases Nat.lt_or_ge (t + 1) D.length with q | q
  · rw [(h3 t q).1]
    exact mkK_nm
  · obtain rfl : t = D.length - 1 := by omega
    rw [h4]
    refine ⟨fun z => absurd z (by decide), fun z => ?_⟩
    rcases h1.2.2.1 with e | e <;> rw [e] at z <;> exact absurd z (by decide)
theorem mD.nb (h : mD I m D) (ht : t < D.length) : I (m + 3) t = 3 ↔ tK D t = 3 := by
  obtain ⟨h1, h2, h3, h4, h5⟩ := h
  rcases Nat.lt_or_ge (t + 1) D.length with q | q
  · rw [(h3 t q).1]
    exact mkK_nb
  · obtain rfl : t = D.length - 1 := by omega
    rw [h4]
    refine ⟨fun z => absurd z (by decide), fun z => ?_⟩
    rcases h1.2.2.1 with e | e <;> rw [e] at z <;> exact absurd z (by decide)
theorem mD.at (h : mD I m D) (ht : t + 1 < D.length) : I (m + 5) t = tP D t := (h.2.2.1 t ht).2.2
/-- a test -/
def bI (p : Prop) [Decidable p] : Int32 := if p then 1 else 0
theorem bI_eq {p q : Prop} [Decidable p] [Decidable q] (h : p ↔ q) : bI p = bI q := by unfold bI; simp only [h]
theorem bI_and {p q : Prop} [Decidable p] [Decidable q] : (if p then (if q then (1 : Int32) else 0) else 0) = bI (p ∧ q) := by
  unfold bI; by_cases hp : p <;> by_cases hq : q <;> simp [hp, hq]
theorem s_X13_isSign (h : eT I m D t o) {k s : Int32} (hs : mkV k 0 = s ∧ (40 : Int32) ≤ k) : w_X13_isSign m s (fun v J => I = J ∧ v = bI (tK D t = k)) I := by
  refine ⟨h.vp, rfl, ?_⟩
  rw [h.ix, bI_and]
  exact bI_eq (h.1.sg h.2.1 hs)
theorem s_X13_isWord (h : eT I m D t o) {k s : Int32} (hs : mkV k 0 = s ∧ (10 : Int32) ≤ k ∧ k < 40) : w_X13_isWord m s (fun v J => I = J ∧ v = bI (tK D t = k)) I := by
  refine ⟨h.vp, rfl, ?_⟩
  rw [h.ix, bI_and]
  exact bI_eq (h.1.wd h.2.1 hs)
/-- the fault of a kind here -/
def flt (D : tkL) (k : Int32) (t : Nat) : Int32 × Int32 := (if tK D t = 1 then 1 else k, tP D t)
theorem pWr_eq : pWr D t = flt D 2 t := rfl
theorem s_X13_fails (h : eT I m D t o) {k : Int32} (hk : 0 < k) : w_X13_fails m k (fun v J => v = 0 ∧ eQ I J m ∧ eX J m (flt D k t)) I := by
  obtain ⟨h1, h2, h3, h4, h5, h6⟩ := h
  have h1' := h1
  obtain ⟨⟨w1, w2, w3, w4⟩, d2, d3, d4, d5⟩ := h1
  have hx : ix (nI t) = t := nI_clamp (by omega)
  unfold w_X13_fails
  rw [h3, d2, h6, hx]
  refine ⟨fun _ => ?_, fun q => absurd (by decide) q⟩
  rintro _ rfl
  have ht : nI t = nI (D.length - 1) ↔ t = D.length - 1 := ⟨fun z => nIj (by omega) (by omega) z, fun z => by rw [z]⟩
  rcases d5 with ⟨e1, e2, e3⟩ | ⟨e1, e2, e3⟩
  · have hn : ¬ tK D t = 1 := by
      rcases Nat.lt_or_ge (t + 1) D.length with q | q
      · exact (w4 t q).2
      · obtain rfl : t = D.length - 1 := by omega
        rw [e1]; decide
    have hp : I (m + 5) t = tP D t := by
      rcases Nat.lt_or_ge (t + 1) D.length with q | q
      · exact (d3 t q).2.2
      · obtain rfl : t = D.length - 1 := by omega
        exact e3
    have c : (if nI t = nI (D.length - 1) then (if I m 8 = -1 then (0 : Int32) else 1) else 0) = 0 := by rw [if_pos e2]; split <;> rfl
    rw [c, hp]
    refine ⟨fun _ => ⟨vp_in_nI (by omega) (by decide), ?_⟩, fun q => absurd rfl q⟩
    rintro _ rfl
    unfold flt
    rw [if_neg hn]
    exact ⟨rfl, fun a k hk => by grind [gX], by grind [gX], by grind [gX], hk⟩
  · by_cases hl : t = D.length - 1
    · have c : (if nI t = nI (D.length - 1) then (if I m 8 = -1 then (0 : Int32) else 1) else 0) = 1 := by rw [if_pos (ht.mpr hl), if_neg (by rw [e2]; exact e3)]
      rw [c, e2]
      refine ⟨fun q => absurd q (by decide), fun _ => ?_⟩
      rintro _ rfl
      unfold flt
      rw [hl, if_pos e1]
      exact ⟨rfl, fun a k hk => by grind [gX], by grind [gX], by grind [gX], (by decide : (0 : Int32) < 1)⟩
    · have q : t + 1 < D.length := by omega
      have c : (if nI t = nI (D.length - 1) then (if I m 8 = -1 then (0 : Int32) else 1) else 0) = 0 := by rw [if_neg (fun z => hl (ht.mp z))]
      rw [c, (d3 t q).2.2]
      refine ⟨fun _ => ⟨vp_in_nI (by omega) (by decide), ?_⟩, fun q => absurd rfl q⟩
      rintro _ rfl
      unfold flt
      rw [if_neg (w4 t q).2]
      exact ⟨rfl, fun a k hk => by grind [gX], by grind [gX], by grind [gX], hk⟩
theorem eT.up (h : eT I m D t o) {t' o' : Nat} (ht : t' < D.length) (ho : o' ≤ 40) (hq : eQ I J m) (h1 : J m 42 = nI t') (h2 : J m 43 = nI o') (h3 : J m 44 = 0) : eT J m D t' o' := ⟨h.1.fr hq.f, ht, h1, h2, ho, h3⟩
theorem nI_up {k : Nat} : nI k + 1 = nI (k + 1) := nI_1 k
/-- a step on -/
theorem eT.on (h : eT I m D t o) (ht : t + 1 < D.length) : eT (xup I m 42 (I m 42 + 1)) m D (t + 1) o ∧ eQ I (xup I m 42 (I m 42 + 1)) m := by
  have hq : eQ I (xup I m 42 (I m 42 + 1)) m := fun a k hk => by grind [gX]
  obtain ⟨h1, h2, h3, h4, h5, h6⟩ := h
  exact ⟨eT.up ⟨h1, h2, h3, h4, h5, h6⟩ ht h5 hq (by rw [xup_s, h3, nI_up]) (by rw [xup_k (by decide)]; exact h4) (by rw [xup_k (by decide)]; exact h6), hq⟩
/-- what is left where a grammar's answer is known: a fault, or on at t' with o' open -/
def eA (I J : xII) (m : Nat) (D : tkL) (v : Int32) (r : Except (Int32 × Int32) (Nat × Nat)) : Prop := match r with
  | .error f => v = 0 ∧ eX J m f
  | .ok (t', o') => v = 1 ∧ eT J m D t' o'
theorem s_X13_sign (h : eT I m D t o) {k s : Int32} (hs : mkV k 0 = s ∧ (40 : Int32) ≤ k) : w_X13_sign m s (fun v J => eQ I J m ∧ ((¬ tK D t = k ∧ v = 0 ∧ eX J m (pWr D t)) ∨ (tK D t = k ∧ v = 1 ∧ eT J m D (t + 1) o))) I := by
  unfold w_X13_sign
  refine ⟨fun q => by rw [h.2.2.2.2.2] at q; exact absurd q (by decide), fun _ => ⟨_, s_X13_isSign h hs, ?_⟩⟩
  rintro _ _ - ⟨rfl, rfl⟩
  by_cases e : tK D t = k
  · rw [bI, if_pos e]
    refine ⟨fun q => absurd q (by decide), fun _ => ?_⟩
    rintro _ rfl
    have := h.1.1.nx' h.2.1 e ⟨by rintro rfl; exact absurd hs.2 (by decide), by rintro rfl; exact absurd hs.2 (by decide)⟩
    exact ⟨(h.on this).2, Or.inr ⟨e, rfl, (h.on this).1⟩⟩
  · rw [bI, if_neg e]
    refine ⟨fun _ => ⟨_, s_X13_fails h (by decide), ?_⟩, fun q => absurd rfl q⟩
    rintro _ _ - ⟨rfl, h1, h2⟩
    exact ⟨h1, Or.inl ⟨e, rfl, h2⟩⟩
theorem s_X13_opens (h : eT I m D t o) (ht : t + 1 < D.length) : w_X13_opens m (fun v J => eQ I J m ∧ ((o = 40 ∧ v = 0 ∧ eX J m (3, tP D t)) ∨ (o < 40 ∧ v = 1 ∧ eT J m D (t + 1) (o + 1)))) I := by
  unfold w_X13_opens
  obtain ⟨h1, h2, h3, h4, h5, h6⟩ := id h
  rw [h4]
  by_cases e : o = 40
  · subst e
    refine ⟨fun _ => ⟨_, s_X13_fails h (by decide), ?_⟩, fun q => absurd rfl q⟩
    rintro _ _ - ⟨rfl, h1', h2'⟩
    refine ⟨h1', Or.inl ⟨rfl, rfl, ?_⟩⟩
    rw [flt, if_neg (h1.1.2.2.2 t ht).2] at h2'
    exact h2'
  · refine ⟨fun q => absurd q (nI_ne (b := 40) (by omega) (by decide) e), fun _ => ?_⟩
    rintro _ rfl _ rfl
    have hq : eQ I (xup (xup I m 43 (nI o + 1)) m 42 (I m 42 + 1)) m := fun a k hk => by grind [gX]
    exact ⟨hq, Or.inr ⟨by omega, rfl, h.up ht (by omega) hq (by rw [xup_s, h3, nI_up]) (by rw [xup_k (by decide), xup_s, nI_up]) (by rw [xup_k (by decide), xup_k (by decide)]; exact h6)⟩⟩
theorem s_X13_openSign (h : eT I m D t o) {k s : Int32} (hs : mkV k 0 = s ∧ (40 : Int32) ≤ k) : w_X13_openSign m s (fun v J => eQ I J m ∧ ((¬ tK D t = k ∧ v = 0 ∧ eX J m (pWr D t)) ∨ (tK D t = k ∧ o = 40 ∧ v = 0 ∧ eX J m (3, tP D t)) ∨ (tK D t = k ∧ o < 40 ∧ v = 1 ∧ eT J m D (t + 1) (o + 1)))) I := by
  unfold w_X13_openSign
  refine ⟨fun q => by rw [h.2.2.2.2.2] at q; exact absurd q (by decide), fun _ => ⟨_, s_X13_isSign h hs, ?_⟩⟩
  rintro _ _ - ⟨rfl, rfl⟩
  by_cases e : tK D t = k
  · rw [bI, if_pos e]
    refine ⟨fun q => absurd q (by decide), fun _ => ?_⟩
    have := h.1.1.nx' h.2.1 e ⟨by rintro rfl; exact absurd hs.2 (by decide), by rintro rfl; exact absurd hs.2 (by decide)⟩
    refine ⟨_, s_X13_opens h this, ?_⟩
    rintro _ _ - ⟨h1, ⟨h2, rfl, h3⟩ | ⟨h2, rfl, h3⟩⟩
    · exact ⟨h1, Or.inr (Or.inl ⟨e, h2, rfl, h3⟩)⟩
    · exact ⟨h1, Or.inr (Or.inr ⟨e, h2, rfl, h3⟩)⟩
  · rw [bI, if_neg e]
    refine ⟨fun _ => ⟨_, s_X13_fails h (by decide), ?_⟩, fun q => absurd rfl q⟩
    rintro _ _ - ⟨rfl, h1, h2⟩
    exact ⟨h1, Or.inl ⟨e, rfl, h2⟩⟩
theorem s_X13_closeSign (h : eT I m D t (o + 1)) {k s : Int32} (hs : mkV k 0 = s ∧ (40 : Int32) ≤ k) : w_X13_closeSign m s (fun v J => eQ I J m ∧ ((¬ tK D t = k ∧ v = 0 ∧ eX J m (pWr D t)) ∨ (tK D t = k ∧ v = 1 ∧ eT J m D (t + 1) o))) I := by
  refine ⟨_, s_X13_sign h hs, ?_⟩
  rintro _ K - ⟨h1, ⟨h2, rfl, h3⟩ | ⟨h2, rfl, h3⟩⟩
  · refine ⟨fun _ => ?_, fun q => absurd rfl q⟩
    exact ⟨h1, Or.inl ⟨h2, rfl, h3⟩⟩
  · refine ⟨fun q => absurd q (by decide), fun _ => ?_⟩
    rintro _ rfl
    have hq : eQ K (xup K m 43 (K m 43 - 1)) m := fun a k hk => by grind [gX]
    refine ⟨h1.tr hq, Or.inr ⟨h2, rfl, h3.up h3.2.1 (by have := h3.2.2.2.2.1; omega) hq (by rw [xup_k (by decide)]; exact h3.2.2.1) (by rw [xup_s, h3.2.2.2.1]; exact nI_sub (a := o + 1) (b := 1) (by omega)) (by rw [xup_k (by decide)]; exact h3.2.2.2.2.2)⟩⟩
end MT
