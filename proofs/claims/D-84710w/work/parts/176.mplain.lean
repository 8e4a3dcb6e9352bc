/-! ===== the Model's expressions: plain operands, signs ahead ===== -/
set_option maxRecDepth 100000
def oNm (Rk : rkT) (m : Nat) (D : tkL) (Γ : List dcl) (fs : List fnc) (c : Bool) (d : Nat) : Prop := ∀ I t o st pe x B tn, o + d = 40 → eE I m D Γ fs c t o st pe x → pe ≤ 10 * o + 10 → st + 4 * (D.length - t) + 4 ≤ B → B ≤ 9000 → tn + 1 = t → tK D tn = 2 → Rk (if c = true then 4 else 5) (nI tn) 0 (eP I m D Γ fs c st pe o x B (pNm D d tn t) (fX Γ fs c true none st)) I
def oPl (Rk : rkT) (m : Nat) (D : tkL) (Γ : List dcl) (fs : List fnc) (c : Bool) (d : Nat) : Prop := ∀ I t o st pe x B, o + d = 40 → eE I m D Γ fs c t o st pe x → pe ≤ 10 * o + 10 → st + 4 * (D.length - t) ≤ B → B ≤ 9000 → Rk 3 0 0 (eP I m D Γ fs c st pe o x B (pOpnd D (pE' D d) d t) (fX Γ fs c true none st)) I
section MPL
variable {m t o st pe d B tn : Nat} {I J K : xII} {D : tkL} {Γ : List dcl} {fs : List fnc} {c w : Bool} {x : nte} {Rk : rkT}
theorem cX_set {ks : Option (List Int32)} {p : Int32} {e : Tr} : cX Γ fs c ks st (tSet p e) = cX Γ fs c ks st e := by
  cases e with
  | leaf => rfl
  | inner k dd v l r =>
    cases dd with
    | nil => rfl
    | cons f ds =>
      show cX Γ fs c ks st (.inner k (p :: ds) v l r) = cX Γ fs c ks st (.inner k (f :: ds) v l r)
      rcases k with _ | _ | _ | _ | _ | _ | _ | _ | _ | _ | _ | k <;> rcases ds with _ | ⟨a1, _ | ⟨a2, _ | ⟨a3, _ | ⟨a4, ds⟩⟩⟩⟩ <;> first | rfl | (unfold cX; rfl) | (unfold cX; split <;> rfl)
theorem nX_set {ks : Option (List Int32)} {p : Int32} {e : Tr} : nX Γ fs c w ks (tSet p e) = nX Γ fs c w ks e := by
  cases e with
  | leaf => rfl
  | inner k dd v l r =>
    cases dd with
    | nil => rfl
    | cons f ds =>
      show nX Γ fs c w ks (.inner k (p :: ds) v l r) = nX Γ fs c w ks (.inner k (f :: ds) v l r)
      rcases k with _ | _ | _ | _ | _ | _ | _ | _ | _ | _ | _ | k <;> rcases ds with _ | ⟨a1, _ | ⟨a2, _ | ⟨a3, _ | ⟨a4, ds⟩⟩⟩⟩ <;> first | rfl | (unfold nX; rfl) | (unfold nX; split <;> rfl)
theorem hnX_set {p : Int32} {e : Tr} : hnX Γ fs (tSet p e) = hnX Γ fs e := by
  cases e with
  | leaf => rfl
  | inner k dd v l r =>
    cases dd with
    | nil => rfl
    | cons f ds =>
      show hnX Γ fs (.inner k (p :: ds) v l r) = hnX Γ fs (.inner k (f :: ds) v l r)
      rcases k with _ | _ | _ | _ | _ | _ | _ | _ | _ | _ | _ | k <;> rcases ds with _ | ⟨a1, _ | ⟨a2, _ | ⟨a3, _ | ⟨a4, ds⟩⟩⟩⟩ <;> first | rfl | (unfold hnX; rfl) | (unfold hnX; split <;> rfl)
theorem eP.tr {t0 o0 : Nat} {z : nte} {bz : Bool} {r : pR} {F : Tr → List stp × nte × Bool} {v : Int32} (hw : eW I K m D Γ fs c st pe x t0 o0 [] z bz) (h : eP K m D Γ fs c st pe o (mN (I m 46) x z) B r F v J) : eP I m D Γ fs c st pe o x B r (fun e => ((F e).1, mnN z (F e).2.1, bz || (F e).2.2)) v J := by
  refine ⟨hw.h.tr h.1, ?_⟩
  have h2 := h.2
  cases r with
  | error f => exact h2
  | ok et =>
    obtain ⟨e, t1⟩ := et
    exact ⟨h2.1, hw.tr h2.2.1, h2.2.2⟩
theorem s_X13_plain (hN : oNm Rk m D Γ fs c d) (hO : oN Rk m D Γ fs c d) (h : eE I m D Γ fs c t o st pe x) (hd : o + d = 40) (hpe : pe ≤ 10 * o + 10) (hB : st + 4 * (D.length - t) ≤ B) (hB9 : B ≤ 9000) : w_X13_plain Rk m (eP I m D Γ fs c st pe o x B (pOpnd D (pE' D d) d t) (fX Γ fs c true none st)) I := by
  have hT := h.1
  have hD4 := hT.1.1.2.1
  have htl := hT.2.1
  unfold w_X13_plain
  rw [hT.ix]
  refine ⟨hT.vp, fun e3 => ?_, fun e3 => ?_⟩
  · have k3 := (hT.1.nb hT.2.1).mp e3
    have ht1 := hT.1.1.nx' hT.2.1 k3
    have hv : I (m + 4) t = tV D t := by
      rw [(hT.1.2.2.1 t ht1).2.1, k3]
      unfold mkV
      rw [if_neg (by decide), if_pos rfl]
    rw [hv]
    refine ⟨_, s_X13_step (s := st) h.2.2.2.1 (by omega), ?_⟩
    rintro _ I20 ⟨rfl, s0, s1, s2, s3, s4, -⟩ _ rfl
    have w20 := (eW.rf h).st1 (l := []) (w := 0) (a := tV D t) (d := 0) (v := 0) s0 s1 s2 s3 s4 (fun z => absurd z (by decide))
    obtain ⟨T21, q21⟩ := w20.2.1.1.on ht1
    have w21 := w20.mv q21 T21
    rw [pOpnd, if_pos k3]
    refine ⟨w21.h, rfl, w21, ?_⟩
    show st + 1 + 4 * (D.length - (t + 1)) ≤ B
    omega
  · have n3 : ¬ tK D t = 3 := fun z => e3 ((hT.1.nb hT.2.1).mpr z)
    refine ⟨_, s_X13_isSign hT (k := 62) (by decide), ?_⟩
    rintro _ _ - ⟨rfl, rfl⟩
    by_cases e62 : tK D t = 62
    · rw [bI, if_pos e62]
      refine ⟨fun q => absurd q (by decide), fun _ => ?_⟩
      have ht1 := hT.1.1.nx' hT.2.1 e62
      rw [pOpnd, if_neg n3, if_neg (by rw [e62]; decide), if_neg (by rw [e62]; decide), pIn, pOpen, if_pos e62]
      refine ⟨_, s_X13_opens hT ht1, ?_⟩
      rintro v17 I17 - ⟨q17, ⟨ho, rfl, x17⟩ | ⟨ho, rfl, T17⟩⟩
      · refine ⟨fun _ => ?_, fun q => absurd rfl q⟩
        obtain rfl : d = 0 := by omega
        rw [if_pos rfl]
        exact eP.er q17.h x17 rfl
      · refine ⟨fun q => absurd q (by decide), fun _ => ?_⟩
        obtain ⟨d', rfl⟩ : ∃ d', d = d' + 1 := ⟨d - 1, by omega⟩
        rw [if_neg (by omega), show pE' D (d' + 1) (t + 1) = pE D d' (t + 1) from rfl]
        have w17 := (eW.rf h).mv q17 T17
        refine ⟨_, hO d' rfl _ _ _ _ _ _ (B - 4) (by omega) w17.2.1 (by omega) (by show st + 4 * (D.length - (t + 1)) ≤ B - 4; omega) (by omega), ?_⟩
        rintro v18 I18 - ⟨g18, r18⟩
        cases hr : pE D d' (t + 1) with
        | error f =>
          rw [hr] at r18
          obtain ⟨rfl, x18⟩ := r18
          refine ⟨fun _ => ?_, fun q => absurd rfl q⟩
          exact eP.er (w17.h.tr g18) x18 rfl
        | ok et =>
          obtain ⟨e, t1⟩ := et
          rw [hr] at r18
          obtain ⟨rfl, w18, b18⟩ := r18
          refine ⟨fun q => absurd q (by decide), fun _ => ?_⟩
          have w19 := w17.tr w18
          refine ⟨_, s_X13_closeSign w19.2.1.1 (k := 63) (by decide), ?_⟩
          rintro v19 I19 - ⟨q19, ⟨e19, rfl, x19⟩ | ⟨e19, rfl, T19⟩⟩
          · rw [if_pos rfl]
            show eP _ _ _ _ _ _ _ _ _ _ _ (pAnd (pNeed D 63 t1 _) _) _ _ _
            rw [pNeed, if_neg e19]
            exact eP.er (w19.h.q q19) x19 rfl
          · rw [if_neg (by decide)]
            show eP _ _ _ _ _ _ _ _ _ _ _ (pAnd (pNeed D 63 t1 _) _) _ _ _
            rw [pNeed, if_pos e19]
            have w20 := w19.mv q19 T19
            have hl := T19.2.1
            have b : st + (cX Γ fs c none st e).length + 4 * (D.length - t1) ≤ B - 4 := b18
            refine ⟨w20.h, rfl, ?_, ?_⟩
            · unfold fX
              dsimp only
              rw [cX_set, nX_set, hnX_set]
              exact w20
            · unfold fX
              dsimp only
              rw [cX_set]
              omega
    · rw [bI, if_neg e62]
      refine ⟨fun _ => ?_, fun q => absurd rfl q⟩
      refine ⟨_, s_X13_isWord hT (k := 23) (by decide), ?_⟩
      rintro _ _ - ⟨rfl, rfl⟩
      by_cases e23 : tK D t = 23
      · rw [bI, if_pos e23]
        refine ⟨fun q => absurd q (by decide), fun _ => ?_⟩
        have ht1 := hT.1.1.nx' hT.2.1 e23
        rw [pOpnd, if_neg n3, if_neg (by rw [e23]; decide), if_pos e23]
        refine ⟨fun I9 => eW I I9 m D Γ fs c st pe x t o [] (if c = true then nt 10 (tP D t) else none) true, fun I9 w9 => ?_, ?_⟩
        · rintro _ rfl
          obtain ⟨T10, q10⟩ := w9.2.1.1.on ht1
          have w10 := w9.mv q10 T10
          refine ⟨_, s_X13_openSign T10 (k := 62) (by decide), ?_⟩
          rintro v11 I11 - ⟨q11, ⟨e, rfl, x11⟩ | ⟨e, ho, rfl, x11⟩ | ⟨e, ho, rfl, T11⟩⟩
          · refine ⟨fun _ => ?_, fun q => absurd rfl q⟩
            rw [pOpen, if_neg e]
            exact eP.er (w10.h.q q11) x11 rfl
          · refine ⟨fun _ => ?_, fun q => absurd rfl q⟩
            obtain rfl : d = 0 := by omega
            rw [pOpen, if_pos e, if_pos rfl]
            exact eP.er (w10.h.q q11) x11 rfl
          · refine ⟨fun q => absurd q (by decide), fun _ => ?_⟩
            rw [pOpen, if_pos e, if_neg (by omega)]
            refine ⟨_, s_X13_closeSign T11 (k := 63) (by decide), ?_⟩
            rintro v12 I12 - ⟨q12, ⟨e12, rfl, x12⟩ | ⟨e12, rfl, T12⟩⟩
            · refine ⟨fun _ => ?_, fun q => absurd rfl q⟩
              rw [pNeed, if_neg e12]
              exact eP.er ((w10.h.q q11).q q12) x12 rfl
            · refine ⟨fun q => absurd q (by decide), fun _ => ?_⟩
              rw [pNeed, if_pos e12]
              have w12 := (w10.mv q11 T11).mv q12 T12
              refine ⟨_, s_X13_step (s := st) w12.2.1.2.2.2.1 (by omega), ?_⟩
              rintro _ I13 ⟨rfl, s0, s1, s2, s3, s4, -⟩
              have w13 := w12.st1 (l := []) (w := 21) (a := 0) (d := 0) (v := 0) s0 s1 s2 s3 s4 (fun z => absurd z (by decide))
              refine ⟨w13.h, rfl, w13, ?_⟩
              show st + 1 + 4 * (D.length - (t + 3)) ≤ B
              omega
        · rw [h.2.2.1]
          cases c with
          | false => exact ⟨fun _ => (eW.rf h).cb (fun z => (nomatch z)), fun z => absurd rfl z⟩
          | true =>
            refine ⟨fun z => absurd z (by decide), fun _ => ⟨hT.vp, ?_⟩⟩
            rw [hT.ix, hT.1.at ht1]
            refine ⟨_, s_X13_note h.2.2.2.2.2 (by decide), ?_⟩
            rintro I15 ⟨n15, f15⟩ _ rfl
            exact ((eW.rf h).nt (z := nt 10 (tP D t)) n15 (by rw [mN_n]; exact f15)).hn
      · rw [bI, if_neg e23]
        refine ⟨fun _ => ?_, fun q => absurd rfl q⟩
        rw [hT.ix]
        refine ⟨hT.vp, fun e1 => ?_, fun e1 => ?_⟩
        · have k2 := (hT.1.nm hT.2.1).mp e1
          have ht1 := hT.1.1.nx' hT.2.1 k2
          intro I5 hI5
          have T5q := hT.on ht1
          rw [← hI5] at T5q
          obtain ⟨T5, q5⟩ := T5q
          clear hI5
          have w5 := (eW.rf h).mv q5 T5
          have hp : pOpnd D (pE' D d) d t = pNm D d t (t + 1) := by rw [pOpnd, if_neg n3, if_pos k2]; rfl
          rw [hp, hT.2.2.1, h.2.2.1]
          have hw := hN I5 (t + 1) o st pe _ B t hd w5.2.1 hpe (by omega) hB9 rfl k2
          cases c with
          | false => exact ⟨fun _ => ⟨_, hw, fun v6 I6 _ z => eP.tr w5 z⟩, fun z => absurd rfl z⟩
          | true => exact ⟨fun z => absurd z (by decide), fun _ => ⟨_, hw, fun v7 I7 _ z => eP.tr w5 z⟩⟩
        · have n2 : ¬ tK D t = 2 := fun z => e1 ((hT.1.nm hT.2.1).mpr z)
          refine ⟨_, s_X13_fails hT (by decide), ?_⟩
          rintro v8 I8 - ⟨rfl, q8, x8⟩
          rw [pOpnd, if_neg n3, if_neg n2, if_neg e23, pIn, pOpen, if_neg e62]
          exact eP.er q8.h x8 rfl
/-- the signs ahead -/
def sgA (D : tkL) (t n : Nat) : List Int32 := (List.range n).map fun i => tK D (t + i)
theorem sgA_len {n : Nat} : (sgA D t n).length = n := by unfold sgA; simp
theorem sgA_at {n j : Nat} (h : j < n) : (sgA D t n).drop j = tK D (t + j) :: (sgA D t n).drop (j + 1) := by
  have hl : j < (sgA D t n).length := by rw [sgA_len]; exact h
  rw [List.drop_eq_getElem_cons hl]
  congr 1
  simp [sgA]
def oneS (l : List Int32) : List stp := l.reverse.map fun s => ((11 : Int32), ahOf s, (0 : Int32), (0 : Int32))
theorem oneS_c {a : Int32} {l : List Int32} : oneS (a :: l) = oneS l ++ [(11, ahOf a, 0, 0)] := by
  unfold oneS
  simp
theorem oneS_len {l : List Int32} : (oneS l).length = l.length := by
  unfold oneS
  simp
theorem ah_v {k v : Int32} (h : isAh k = true) : mkV k v = ahOf k := by
  rcases of_decide_eq_true h with rfl | rfl | rfl <;> rfl
theorem s_X13_operand (hPl : oPl Rk m D Γ fs c d) (h : eE I m D Γ fs c t o st pe x) (hd : o + d = 40) (hpe : pe ≤ 10 * o + 10) (hB : st + 4 * (D.length - t) ≤ B) (hB9 : B ≤ 9000) : w_X13_operand Rk m (eP I m D Γ fs c st pe o x B (pAhead D (pE' D d) d t) (fX Γ fs c true none st)) I := by
  have hT := h.1
  have hD4 := hT.1.1.2.1
  have htl := hT.2.1
  have hsl := pSg_lt hT.1.1 htl
  have hout := run1_out (P := fun i => isAh (tK D i)) (n := D.length) (D.length - t) rfl hsl
  have hin := run1_in (P := fun i => isAh (tK D i)) (n := D.length) (D.length - t) (p := t) rfl
  generalize hn : pSg D t = n at hsl
  rw [show run1 (fun i => isAh (tK D i)) D.length t = n from hn] at hout hin
  have hpA : pAhead D (pE' D d) d t = pAnd (pOpnd D (pE' D d) d (t + n)) fun e t1 => .ok (if n = 0 then e else nd 5 (tP D t :: sgA D t n) e lf, t1) := by
    rw [pAhead, hn]
    split
    · rename_i h0
      subst h0
      cases pOpnd D (pE' D d) d (t + 0) <;> rfl
    · rename_i h0
      first
        | rfl
        | (simp only [if_neg h0]; rfl)
  rw [hpA]
  unfold w_X13_operand
  refine ⟨fun n1 I1 => ∃ j, j ≤ n ∧ n1 = n - j ∧ eW I I1 m D Γ fs c st pe x (t + j) o [] none false, ⟨n, 0, Nat.zero_le _, rfl, eW.rf h⟩, ?_⟩
  rintro n1 I1 ⟨j, hj, rfl, w1⟩
  have hT1 := w1.2.1.1
  have go : isAh (tK D (t + j)) = true → ∀ I3, I3 = xup I1 m 42 (I1 m 42 + 1) → ∃ q1, q1 < n - j ∧ ∃ j, j ≤ n ∧ q1 = n - j ∧ eW I I3 m D Γ fs c st pe x (t + j) o [] none false := by
    rintro ha _ rfl
    have hjn : j < n := by
      rcases Nat.lt_or_ge j n with q | q
      · exact q
      · obtain rfl : j = n := by omega
        rw [hout] at ha
        exact nomatch ha
    have ht1 := hT.1.1.nx hT1.2.1 (isAh_n ha).1 (isAh_n ha).2
    obtain ⟨T3, q3⟩ := hT1.on ht1
    exact ⟨n - (j + 1), by omega, j + 1, by omega, rfl, w1.mv q3 T3⟩
  refine ⟨_, s_X13_isSign hT1 (k := 79) (by decide), ?_⟩
  rintro _ _ - ⟨rfl, rfl⟩
  by_cases e1 : tK D (t + j) = 79
  · rw [bI, if_pos e1]
    refine ⟨fun q => absurd q (by decide), fun _ => ?_⟩
    exact go (by rw [e1]; rfl)
  rw [bI, if_neg e1]
  refine ⟨fun _ => ?_, fun q => absurd rfl q⟩
  refine ⟨_, s_X13_isSign hT1 (k := 83) (by decide), ?_⟩
  rintro _ _ - ⟨rfl, rfl⟩
  by_cases e2 : tK D (t + j) = 83
  · rw [bI, if_pos e2]
    refine ⟨fun q => absurd q (by decide), fun _ => ?_⟩
    exact go (by rw [e2]; rfl)
  rw [bI, if_neg e2]
  refine ⟨fun _ => ?_, fun q => absurd rfl q⟩
  refine ⟨_, s_X13_isSign hT1 (k := 84) (by decide), ?_⟩
  rintro _ _ - ⟨rfl, rfl⟩
  by_cases e3 : tK D (t + j) = 84
  · rw [bI, if_pos e3]
    refine ⟨fun q => absurd q (by decide), fun _ => ?_⟩
    exact go (by rw [e3]; rfl)
  rw [bI, if_neg e3]
  refine ⟨fun _ => ?_, fun q => absurd rfl q⟩
  have hjn : j = n := by
    rcases Nat.lt_or_ge j n with q | q
    · have := (hin j q).1
      rcases of_decide_eq_true this with z | z | z
      · exact absurd z e1
      · exact absurd z e2
      · exact absurd z e3
    · omega
  subst hjn
  have h42 : I1 m 42 - 1 = nI (t + j) - 1 := by rw [hT1.2.2.1]
  have hi42 : I m 42 = nI t := hT.2.2.1
  rw [h42, hi42]
  refine ⟨_, hPl I1 (t + j) o st pe _ (B - 4 * j) hd w1.2.1 hpe (by omega) (by omega), ?_⟩
  rintro v7 I7 - ⟨g7, r7⟩
  cases hr : pOpnd D (pE' D d) d (t + j) with
  | error f =>
    rw [hr] at r7
    obtain ⟨rfl, x7⟩ := r7
    refine ⟨fun _ => ?_, fun q => absurd rfl q⟩
    exact eP.er (w1.h.tr g7) x7 rfl
  | ok et =>
    obtain ⟨e, t1⟩ := et
    rw [hr] at r7
    obtain ⟨rfl, w7, b7⟩ := r7
    refine ⟨fun q => absurd q (by decide), fun _ => ?_⟩
    have w8 := w1.tr w7
    have hl1 := w8.2.1.1.2.1
    have b8 : st + (cX Γ fs c none st e).length + 4 * (D.length - t1) ≤ B - 4 * j := b7
    refine ⟨fun n8 y8 I8 => n8 ≤ j ∧ y8 = nI (t + n8) - 1 ∧ eW I I8 m D Γ fs c st pe x t1 o (cX Γ fs c none st e ++ oneS ((sgA D t j).drop n8)) (nX Γ fs c true none e) (hnX Γ fs e), ⟨j, Nat.le_refl _, rfl, ?_⟩, ?_⟩
    · rw [List.drop_eq_nil_of_le (by rw [sgA_len]; exact Nat.le_refl _)]
      rw [show oneS [] = [] from rfl, List.append_nil]
      exact w8
    · rintro n8 y8 I8 ⟨hn8, rfl, w9⟩
      cases n8 with
      | zero =>
        refine ⟨fun _ => ?_, fun z => absurd ?_ z⟩
        · show eP _ _ _ _ _ _ _ _ _ _ _ (.ok (if j = 0 then e else nd 5 (tP D t :: sgA D t j) e lf, t1)) _ _ _
          rw [List.drop_zero] at w9
          have hlen : (cX Γ fs c none st e ++ oneS (sgA D t j)).length = (cX Γ fs c none st e).length + j := by rw [List.length_append, oneS_len, sgA_len]
          by_cases h0 : j = 0
          · subst h0
            rw [if_pos rfl]
            refine ⟨w9.h, rfl, ?_, ?_⟩
            · rw [show oneS (sgA D t 0) = [] from rfl, List.append_nil] at w9
              exact w9
            · show st + (cX Γ fs c none st e).length + 4 * (D.length - t1) ≤ B
              omega
          · rw [if_neg h0]
            refine ⟨w9.h, rfl, w9, ?_⟩
            show st + (cX Γ fs c none st e ++ oneS (sgA D t j)).length + 4 * (D.length - t1) ≤ B
            rw [hlen]
            omega
        · rw [Nat.add_zero]
          cases t with
          | zero => decide
          | succ t =>
            rw [nI_m]
            exact (nI_ltI (by omega) (by omega)).mpr (by omega)
      | succ n8 =>
        rw [← Nat.add_assoc, nI_m, nI_p]
        refine ⟨fun z => absurd ((nI_ltI (by omega) (by omega)).mp z) (by omega), fun _ => ⟨vp_in_nI (by omega) (by decide), ?_⟩⟩
        have hi8 := hin n8 (by omega)
        have hv : I8 (m + 4) (t + n8) = ahOf (tK D (t + n8)) := by
          rw [(w9.2.1.1.1.2.2.1 (t + n8) (by omega)).2.1]
          exact ah_v hi8.1
        rw [show ix (nI (t + n8)) = t + n8 from nI_clamp (by omega), hv]
        have hlen : (cX Γ fs c none st e ++ oneS ((sgA D t j).drop (n8 + 1))).length = (cX Γ fs c none st e).length + (j - (n8 + 1)) := by rw [List.length_append, oneS_len, List.length_drop, sgA_len]
        refine ⟨_, s_X13_step (s := st + (cX Γ fs c none st e ++ oneS ((sgA D t j).drop (n8 + 1))).length) w9.2.1.2.2.2.1 (by rw [hlen]; omega), ?_⟩
        rintro _ I10 ⟨rfl, s0, s1, s2, s3, s4, -⟩
        have w10 := w9.st1 (w := 11) (a := ahOf (tK D (t + n8))) (d := 0) (v := 0) s0 s1 s2 s3 s4 (fun z => absurd z (by decide))
        refine ⟨n8, by omega, by omega, rfl, ?_⟩
        rw [sgA_at (by omega), oneS_c, ← List.append_assoc]
        exact w10
end MPL
