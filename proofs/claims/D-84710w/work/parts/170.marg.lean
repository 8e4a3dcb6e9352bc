/-! ===== the Model's expressions: arguments ===== -/
set_option maxRecDepth 100000
def bsS (q : Option dcl) : stp := match q with
  | some b => (5, b.ce, b.sz, if b.lo = 0 then 0 else 1)
  | none => (5, 0, 1, 0)
def agL (Γ : List dcl) (fs : List fnc) (c : Bool) (ks : Option (List Int32)) (al : Bool) (st : Nat) (a : Tr) : List stp := match ks with
  | some (k :: _) => if ¬ k = 0 ∧ al = true then [bsS (mean Γ fs (aNm a)).1] else cX Γ fs c none st a
  | _ => cX Γ fs c none st a
def agN (Γ : List dcl) (fs : List fnc) (c : Bool) (ks : Option (List Int32)) (al : Bool) (p : Int32) (a : Tr) : nte := match ks with
  | none => nX Γ fs c true none a
  | some [] => mnN (nt 7 p) (nX Γ fs c true none a)
  | some (k :: _) => if k = 0 then nX Γ fs c true none a else if al = true then (match mean Γ fs (aNm a) with
      | (none, none) => nt 4 p
      | (none, some _) => nt 7 p
      | (some b, _) => if b.kd = 2 ∧ b.by = (if k = 2 then 1 else 0) then none else nt 7 p)
      else mnN (nt 7 p) (nX Γ fs c true none a)
/-- whether a NAME stands alone as an argument -/
def isAl (D : tkL) (t : Nat) : Bool := decide (tK D t = 2 ∧ (tK D (t + 1) = 68 ∨ tK D (t + 1) = 63))
def agH (Γ : List dcl) (fs : List fnc) (ks : Option (List Int32)) (al : Bool) (a : Tr) : Bool := match ks with
  | some (k :: _) => if ¬ k = 0 ∧ al = true then false else hnX Γ fs a
  | _ => hnX Γ fs a
/-- which formals an argument meets -/
def agK (I : xII) (m : Nat) (fs : List fnc) (c : Bool) (f : Int32) (kk : Nat) (ks : Option (List Int32)) : Prop := (c = true ∧ ks = none) ∨ (c = false ∧ f = -1 ∧ ks = none) ∨ (c = false ∧ ¬ I m 46 = 0 ∧ ∃ F q, f = nI F ∧ fs[F]? = some q ∧ ks = some (q.2.2.2.drop kk))
section MA
variable {m t o st pe d B : Nat} {I J K : xII} {D : tkL} {Γ : List dcl} {fs : List fnc} {c : Bool} {x : nte} {Rk : rkT}
theorem pRow_al {E : Nat → pR} (h0 : 0 < D.length) (h : isAl D t = true) : ∀ k, pRow D E d k t = .ok (nd 2 [tP D t, tP D t, tV D t] lf lf, t + 1)
  | 0 => by
    obtain ⟨h1, h2⟩ := of_decide_eq_true h
    have hs : pSg D t = 0 := by
      have hz : isAh (tK D t) = false := by rw [h1]; decide
      exact run1_no hz
    rw [pRow, pAhead, if_pos hs, pOpnd, if_neg (by rw [h1]; decide), if_pos h1, if_neg (by rcases h2 with e | e <;> rw [e] <;> decide), pPlace, if_neg (by rcases h2 with e | e <;> rw [e] <;> decide)]
  | k + 1 => by
    obtain ⟨h1, h2⟩ := of_decide_eq_true h
    obtain ⟨n, hn⟩ : ∃ n, D.length = n + 1 := ⟨D.length - 1, by omega⟩
    rw [pRow, pRow_al h0 h k, pAnd]
    rw [hn, pLoop, if_neg]
    rcases h2 with e | e <;> rw [e]
    · have : f_X1_actOf 68 (nI (9 - k)) = -1 := rfl
      rw [this]; decide
    · have : f_X1_actOf 63 (nI (9 - k)) = -1 := rfl
      rw [this]; decide
theorem pE_al (h0 : 0 < D.length) (h : isAl D t = true) : pE D d t = .ok (nd 2 [tP D t, tP D t, tV D t] lf lf, t + 1) := by
  obtain ⟨h1, h2⟩ := of_decide_eq_true h
  rw [pE_eq, pExpr, pRow_al h0 h, pAnd]
  rw [if_neg (by rcases h2 with e | e <;> rw [e] <;> decide)]
theorem eP.imp {I : xII} {o : Nat} {r : pR} {F F' : Tr → List stp × nte × Bool} {v : Int32} (h : eP I m D Γ fs c st pe o x B r F v J) (hF : ∀ e t1, r = .ok (e, t1) → F e = F' e) : eP I m D Γ fs c st pe o x B r F' v J := by
  refine ⟨h.1, ?_⟩
  have h2 := h.2
  cases r with
  | error f => exact h2
  | ok et =>
    obtain ⟨e, t1⟩ := et
    have := hF e t1 rfl
    dsimp only at h2 ⊢
    rw [← this]
    exact h2
/-- a note ahead of an expression -/
theorem eP.nt {I : xII} {o : Nat} {r : pR} {F : Tr → List stp × nte × Bool} {v : Int32} {z : nte} (h : eE I m D Γ fs c t o st pe x) (hN : eN I K m) (hF : nFd K m (mN (I m 46) x z)) (hP : ∀ e : eE K m D Γ fs c t o st pe (mN (I m 46) x z), eP K m D Γ fs c st pe o (mN (I m 46) x z) B r F v J) : eP I m D Γ fs c st pe o x B r (fun e => ((F e).1, mnN z (F e).2.1, (F e).2.2)) v J := by
  have w := (eW.rf h).nt (z := z) hN (by rw [mN_n]; exact hF)
  have hP := hP w.2.1
  refine ⟨w.h.tr hP.1, ?_⟩
  have h2 := hP.2
  cases r with
  | error f => exact h2
  | ok et =>
    obtain ⟨e, t1⟩ := et
    exact ⟨h2.1, w.tr h2.2.1, h2.2.2⟩
theorem s_X13_argument (hO : oX Rk m D Γ fs c d) (h : eE I m D Γ fs c t o st pe x) (hd : o + d = 40) (hpe : pe ≤ 10 * o) (hB : st + 4 * (D.length - t) ≤ B) (hB9 : B ≤ 9000) {f : Int32} {kk : Nat} {ks : Option (List Int32)} (hk : agK I m fs c f kk ks) (hkk : kk ≤ 4001) : w_X13_argument Rk m f (nI kk) (eP I m D Γ fs c st pe o x B (pE D d t) fun a => (agL Γ fs c ks (isAl D t) st a, agN Γ fs c ks (isAl D t) (tP D t) a, agH Γ fs ks (isAl D t) a)) I := by
  have hT := h.1
  have hc := h.2.2.1
  have hG := h.2.1
  unfold w_X13_argument
  rw [hT.ix, hc]
  have plain : ∀ F : Tr → List stp × nte × Bool, (∀ e t1, pE D d t = .ok (e, t1) → fX Γ fs c true none st e = F e) → ∃ R : Int32 → xII → Prop, Rk 0 0 0 R I ∧ ∀ (v : Int32) (I1 : xII), (v = 0 ∨ v = 1) → R v I1 → eP I m D Γ fs c st pe o x B (pE D d t) F v I1 := fun F hF => ⟨_, hO I t o st pe x B hd h hpe hB hB9, fun v I1 _ z => z.imp hF⟩
  have noted : ∀ (z : nte) (K : xII) (F : Tr → List stp × nte × Bool), eN I K m → nFd K m (mN (I m 46) x z) → (∀ e t1, pE D d t = .ok (e, t1) → (cX Γ fs c none st e, mnN z (nX Γ fs c true none e), hnX Γ fs e) = F e) → ∃ R : Int32 → xII → Prop, Rk 0 0 0 R K ∧ ∀ (v : Int32) (I1 : xII), (v = 0 ∨ v = 1) → R v I1 → eP I m D Γ fs c st pe o x B (pE D d t) F v I1 := fun z K F hN hF hE => by
    have w := (eW.rf h).nt (z := z) hN (by rw [mN_n]; exact hF)
    exact ⟨_, hO K t o st pe _ B hd w.2.1 hpe hB hB9, fun v I1 _ q => (eP.nt h hN hF fun _ => q).imp hE⟩
  have hat : ∀ e t1, pE D d t = .ok (e, t1) → I (m + 5) t = tP D t := fun e t1 he => by
    have := pE_up hT.1.1 d t hT.2.1 e t1 he
    exact hT.1.at (by omega)
  rcases hk with ⟨rfl, rfl⟩ | ⟨rfl, rfl, rfl⟩ | ⟨rfl, hps, F, q, rfl, hq, rfl⟩
  · exact ⟨fun z => absurd z (by decide), fun _ => plain _ fun _ _ _ => rfl⟩
  · refine ⟨fun _ => ⟨fun _ => plain _ fun _ _ _ => rfl, fun z => absurd rfl z⟩, fun z => absurd rfl z⟩
  · refine ⟨fun _ => ⟨fun z => ?_, fun _ => ?_⟩, fun z => absurd rfl z⟩
    · have : F < fs.length := (List.getElem?_eq_some_iff.mp hq).1
      rcases hG with ⟨g, -⟩ | ⟨-, -, -, -, -, g, -⟩
      · exact absurd g hps
      · exact absurd z (nI_m1 (by omega))
    · rcases id hG with ⟨g, -⟩ | ⟨-, -, -, -, -, g5, g6⟩
      · exact absurd g hps
      have hF : F < fs.length := (List.getElem?_eq_some_iff.mp hq).1
      obtain ⟨g1, g2, g3, g4, zz, g7, g8, g9⟩ := g6 F q hq
      rw [show ix (nI F) = F from nI_clamp (by omega), g4, g7]
      have hlt : nI kk < nI q.2.2.2.length ↔ kk < q.2.2.2.length := nI_ltI (by omega) (by omega)
      refine ⟨hT.vp, vp_in_nI (by omega) (by decide), fun hlt' => ?_, fun hlt' => ?_⟩
      · have hl := hlt.mp hlt'
        obtain ⟨k0, hk0⟩ : ∃ k0, q.2.2.2[kk]? = some k0 := ⟨_, List.getElem?_eq_getElem hl⟩
        have hdr : q.2.2.2.drop kk = k0 :: q.2.2.2.drop (kk + 1) := by
          obtain ⟨hl', rfl⟩ := List.getElem?_eq_some_iff.mp hk0
          exact List.drop_eq_getElem_cons hl
        rw [nI_add, show ix (nI (zz + kk)) = zz + kk from nI_clamp (by omega), g9 kk k0 hk0, hdr]
        refine ⟨vp_in_nI (by omega) (by decide), fun e0 => plain _ fun e t1 _ => ?_, fun e0 => ?_⟩
        · unfold fX agL agN agH
          simp only [e0, not_true_eq_false, false_and, if_false, if_true]
        · refine ⟨fun y => y = bI (isAl D t = true), fun y5 e5 => ⟨fun z => ?_, fun z => ?_⟩, ?_⟩
          · have hal : isAl D t = false := by
              cases ha : isAl D t with
              | false => rfl
              | true => rw [e5, ha] at z; exact absurd z (by decide)
            refine ⟨_, s_X13_note h.2.2.2.2.2 (by decide), fun K hK => noted (nt 7 (I (m + 5) t)) K _ hK.1 hK.2 fun e t1 he => ?_⟩
            rw [hat e t1 he, hal]
            unfold agL agN agH
            simp only [e0, Bool.false_eq_true, and_false, if_false]
          · have hal : isAl D t = true := by
              cases ha : isAl D t with
              | true => rfl
              | false => rw [e5, ha] at z; exact absurd rfl z
            obtain ⟨hal1, hal2⟩ := of_decide_eq_true hal
            have ht1 : t + 1 < D.length := hT.1.1.nx' hT.2.1 hal1
            have hD4 := hT.1.1.2.1
            have hnm : I (m + 4) t = tV D t := by rw [(hT.1.2.2.1 t ht1).2.1, hal1]; unfold mkV; rw [if_pos rfl]
            have hpE := pE_al (d := d) hT.1.1.1 hal
            have hM := s_X13_meaning hG hps (tk := t) (by omega)
            rw [← hT.2.2.1, hnm] at hM
            refine ⟨_, hM, ?_⟩
            rintro v6 I6 ⟨s6, n6⟩
            have w6 := (eW.rf h).mf s6
            rw [(hT.1.at ht1 : I (m + 5) t = tP D t), hpE, hal]
            generalize hz : agN Γ fs false (some (k0 :: q.2.2.2.drop (kk + 1))) true (tP D t) (nd 2 [tP D t, tP D t, tV D t] lf lf) = zN
            have hz' := hz
            simp only [agN, if_neg e0, if_true, aNm] at hz'
            have hnt : ∀ k, 0 < k → nt k (tP D t) = zN → ∃ R : xII → Prop, w_X13_note m k (tP D t) R I6 ∧ ∀ I7, R I7 → (eW I I7 m D Γ fs false st pe x t o [] zN false ∧ ∀ i d, mDc I6 m i d → mDc I7 m i d) := by
              rintro k hk rfl
              refine ⟨_, s_X13_note w6.2.1.2.2.2.2.2 hk, ?_⟩
              rintro I7 ⟨n7, f7⟩
              exact ⟨w6.nt n7 f7, fun i d g => g.fr n7.g⟩
            refine ⟨fun I7 => eW I I7 m D Γ fs false st pe x t o [] zN false ∧ (∀ i d, mDc I6 m i d → mDc I7 m i d), ?_, ?_⟩
            · rintro I7 ⟨w7, hd7⟩ _ rfl
              obtain ⟨T8, q8⟩ := w7.2.1.1.on ht1
              have w8 := w7.mv q8 T8
              have hv : mAtk I7 m (mean Γ fs (tV D t)).1 v6 := by
                unfold mMn at n6
                split at n6
                · rename_i hm; rw [hm]; exact n6.1
                · rename_i hm; rw [hm]; exact n6.1
                · rename_i b _ hm
                  obtain ⟨⟨i, a1, a2, -, a4⟩, -⟩ := n6
                  rw [hm]
                  exact ⟨i, a1, a2, hd7 _ _ a4⟩
              refine ⟨fun y => y = (bsS (mean Γ fs (tV D t)).1).2.1, fun y9 e9 => ⟨fun y => y = (bsS (mean Γ fs (tV D t)).1).2.2.1, fun y10 e10 => ?_, ?_⟩, ?_⟩
              · subst e9 e10
                refine ⟨_, s_X13_step (s := st) w8.2.1.2.2.2.1 (by omega), ?_⟩
                rintro _ I11 ⟨rfl, s0, s1, s2, s3, s4, -⟩
                have fin : ∀ vv, vv = (bsS (mean Γ fs (tV D t)).1).2.2.2 → eP I m D Γ fs false st pe o x B (.ok (nd 2 [tP D t, tP D t, tV D t] lf lf, t + 1)) (fun a => (agL Γ fs false (some (k0 :: q.2.2.2.drop (kk + 1))) true st a, agN Γ fs false (some (k0 :: q.2.2.2.drop (kk + 1))) true (tP D t) a, agH Γ fs (some (k0 :: q.2.2.2.drop (kk + 1))) true a)) 1 (xup I11 (m + 35) st vv) := by
                  rintro vv rfl
                  have hS := s1.sc (v := (bsS (mean Γ fs (tV D t)).1).2.2.2)
                  have w9 := w8.st1 (l := []) (w := 5) (a := (bsS (mean Γ fs (tV D t)).1).2.1) (d := (bsS (mean Γ fs (tV D t)).1).2.2.1) (v := (bsS (mean Γ fs (tV D t)).1).2.2.2) (by rw [gX, if_neg (by omega)]; exact s0) hS (by rw [gX, if_neg (by omega)]; exact s2) (by rw [gX, if_neg (by omega)]; exact s3) (by rw [gX, if_neg (by omega)]; exact s4) (fun _ => xup_s)
                  have he : bsS (mean Γ fs (tV D t)).1 = (5, (bsS (mean Γ fs (tV D t)).1).2.1, (bsS (mean Γ fs (tV D t)).1).2.2.1, (bsS (mean Γ fs (tV D t)).1).2.2.2) := by cases (mean Γ fs (tV D t)).1 <;> rfl
                  have hl : agL Γ fs false (some (k0 :: q.2.2.2.drop (kk + 1))) true st (nd 2 [tP D t, tP D t, tV D t] lf lf) = [bsS (mean Γ fs (tV D t)).1] := by rw [agL, if_pos ⟨e0, rfl⟩]; rfl
                  have hh : agH Γ fs (some (k0 :: q.2.2.2.drop (kk + 1))) true (nd 2 [tP D t, tP D t, tV D t] lf lf) = false := by rw [agH, if_pos ⟨e0, rfl⟩]
                  refine ⟨w9.h, rfl, ?_, ?_⟩
                  · dsimp only
                    rw [hz, hl, hh, he]
                    exact w9
                  · dsimp only
                    rw [hl]
                    show st + 1 + 4 * (D.length - (t + 1)) ≤ B
                    omega
                rw [show ix (nI st) = st from nI_clamp (by omega)]
                generalize hQ : (mean Γ fs (tV D t)).1 = Q0 at *
                cases Q0 with
                | none =>
                  obtain rfl : v6 = -1 := hv
                  refine ⟨fun _ => ⟨vp_in_nI (by omega) (by decide), ?_⟩, fun z => absurd rfl z⟩
                  rintro _ rfl
                  exact fin _ rfl
                | some b =>
                  obtain ⟨i, rfl, hi, g⟩ := hv
                  refine ⟨fun z => absurd z (nI_m1 (by omega)), fun _ => ⟨vp_in_nI hi (by decide), vp_in_nI (by omega) (by decide), ?_⟩⟩
                  have g11 := (g.fr q8.f).fr s1.g
                  rw [show ix (nI i) = i from nI_clamp (by omega), g11.2.2.2.2.2.2.2]
                  rintro _ rfl
                  exact fin _ rfl
              · cases hQ : (mean Γ fs (tV D t)).1 with
                | none =>
                  rw [hQ] at hv
                  obtain rfl : v6 = -1 := hv
                  exact ⟨fun _ => rfl, fun z => absurd rfl z⟩
                | some b =>
                  rw [hQ] at hv
                  obtain ⟨i, rfl, hi, g⟩ := hv
                  refine ⟨fun z => absurd z (nI_m1 (by omega)), fun _ => ⟨vp_in_nI hi (by decide), ?_⟩⟩
                  rw [show ix (nI i) = i from nI_clamp (by omega), g.2.2.2.2.2.1]
                  rfl
              · cases hQ : (mean Γ fs (tV D t)).1 with
                | none =>
                  rw [hQ] at hv
                  obtain rfl : v6 = -1 := hv
                  exact ⟨fun _ => rfl, fun z => absurd rfl z⟩
                | some b =>
                  rw [hQ] at hv
                  obtain ⟨i, rfl, hi, g⟩ := hv
                  refine ⟨fun z => absurd z (nI_m1 (by omega)), fun _ => ⟨vp_in_nI hi (by decide), ?_⟩⟩
                  rw [show ix (nI i) = i from nI_clamp (by omega), g.2.2.2.2.1]
                  rfl
            · unfold mMn at n6
              split at n6
              · rename_i hm
                obtain ⟨rfl, n62⟩ := n6
                rw [hm] at hz'
                refine ⟨fun _ => ⟨fun _ => hnt _ (by decide) hz', fun e => absurd n62 e⟩, fun e => absurd rfl e⟩
              · rename_i f0 hm
                obtain ⟨rfl, n62, n63⟩ := n6
                rw [hm] at hz'
                refine ⟨fun _ => ⟨fun e => absurd e (by rw [n62]; exact nI_m1 (by omega)), fun _ => hnt _ (by decide) hz'⟩, fun e => absurd rfl e⟩
              · rename_i b o1 hm
                obtain ⟨⟨i, rfl, a2, -, a4⟩, n62⟩ := n6
                rw [hm] at hz'
                refine ⟨fun e => absurd e (nI_m1 (by omega)), fun _ => ⟨vp_in_nI a2 (by decide), ?_⟩⟩
                rw [show ix (nI i) = i from nI_clamp (by omega), a4.2.1, a4.2.2.2.2.2.2.1]
                dsimp only at hz'
                refine ⟨fun e1 => ⟨fun e2 => ?_, fun e2 => hnt _ (by decide) ?_⟩, fun e1 => hnt _ (by decide) ?_⟩
                · rw [if_pos ⟨e1, e2⟩] at hz'
                  rw [← hz']
                  exact ⟨w6, fun _ _ g => g⟩
                · rw [if_neg (fun z => e2 z.2)] at hz'
                  exact hz'
                · rw [if_neg (fun z => e1 z.1)] at hz'
                  exact hz'
          · have hD4 := hT.1.1.2.1
            have hx1 : I m 42 + 1 = nI (t + 1) := by rw [hT.2.2.1, nI_up]
            refine ⟨fun e1 => ?_, fun e1 => ?_⟩
            · have k1 := (hT.1.nm hT.2.1).mp e1
              have ht1 : t + 1 < D.length := hT.1.1.nx' hT.2.1 k1
              rw [hx1, show ix (nI (t + 1)) = t + 1 from nI_clamp (by omega)]
              have s68 := hT.1.sg (t := t + 1) ht1 (k := 68) (s := 28) (by decide)
              have s63 := hT.1.sg (t := t + 1) ht1 (k := 63) (s := 23) (by decide)
              refine ⟨vp_in_nI (by omega) (by decide), fun e4 => ⟨fun e5 => ?_, fun e5 => ⟨fun e6 => ?_, fun e6 => ?_⟩⟩, fun e4 => ?_⟩
              · show (1 : Int32) = bI _
                rw [bI, if_pos (show isAl D t = true from decide_eq_true ⟨k1, Or.inl (s68.mp ⟨e4, e5⟩)⟩)]
              · show (1 : Int32) = bI _
                rw [bI, if_pos (show isAl D t = true from decide_eq_true ⟨k1, Or.inr (s63.mp ⟨e4, e6⟩)⟩)]
              · show (0 : Int32) = bI _
                rw [bI, if_neg (fun z => (of_decide_eq_true z).2.elim (fun w => e5 (s68.mpr w).2) fun w => e6 (s63.mpr w).2)]
              · show (0 : Int32) = bI _
                rw [bI, if_neg (fun z => (of_decide_eq_true z).2.elim (fun w => e4 (s68.mpr w).1) fun w => e4 (s63.mpr w).1)]
            · show (0 : Int32) = bI _
              rw [bI, if_neg (fun z => e1 ((hT.1.nm hT.2.1).mpr (of_decide_eq_true z).1))]
      · have hl : ¬ kk < q.2.2.2.length := fun w => hlt' (hlt.mpr w)
        rw [show q.2.2.2.drop kk = [] from List.drop_eq_nil_of_le (by omega)]
        refine ⟨_, s_X13_note h.2.2.2.2.2 (by decide), fun K hK => noted (nt 7 (I (m + 5) t)) K _ hK.1 hK.2 fun e t1 he => ?_⟩
        rw [hat e t1 he]
        rfl
end MA
