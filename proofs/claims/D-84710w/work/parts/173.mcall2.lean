/-! ===== the Model's call ===== -/
set_option maxRecDepth 100000
def ksC (Γ : List dcl) (fs : List fnc) (c : Bool) (nm : Int32) : Option (List Int32) := if c then none else (mean Γ fs nm).2.map fun f => (fs.getD f (0, 0, 0, [])).2.2.2
def z0C (Γ : List dcl) (fs : List fnc) (c w : Bool) (nm p : Int32) : nte := if c then none else match mean Γ fs nm with
  | (none, none) => nt 4 p
  | (some _, _) => nt 6 p
  | (none, some f) => if w = true ∧ ¬ (fs.getD f (0, 0, 0, [])).2.2.1 = 0 then nt 8 p else none
def z1C (ks : Option (List Int32)) (n : Nat) (en : Int32) : nte := match ks with
  | none => none
  | some ks => if n < ks.length then nt 7 en else none
def tLt : Tr → Tr
  | .inner _ _ _ l _ => l
  | .leaf => .leaf
def fC (Γ : List dcl) (fs : List fnc) (c w : Bool) (st : Nat) (e : Tr) : List stp × nte × Bool := (cX Γ fs c none st e, if c = true then nX Γ fs c true none (tLt e) else nX Γ fs c w none e, hA Γ fs (tLt e))
section MC2
variable {m t o st pe d B tn : Nat} {I J K : xII} {D : tkL} {Γ : List dcl} {fs : List fnc} {c w : Bool} {x : nte} {Rk : rkT}
theorem mean_2 {nm : Int32} {b : dcl} {f : Option Nat} (h : mean Γ fs nm = (some b, f)) : f = none := by
  unfold mean at h
  grind
theorem fC_eq {p q nm en : Int32} {l : Tr} : fC Γ fs c w st (nd 4 [p, q, nm, en] l lf) = (cX Γ fs c (ksC Γ fs c nm) st l ++ [(15, 0, 0, 0), (16, match (mean Γ fs nm).2 with
      | some f => nI f
      | none => -1, q, 0)], mnN (z0C Γ fs c w nm q) (mnN (nX Γ fs c true (ksC Γ fs c nm) l) (z1C (ksC Γ fs c nm) (aLen l) en)), hA Γ fs l) := by
  unfold fC
  refine Prod.ext rfl (Prod.ext ?_ rfl)
  cases c with
  | true => exact (mnN_n _).symm
  | false =>
    show nX Γ fs false w none (nd 4 [p, q, nm, en] l lf) = _
    unfold z0C ksC
    rw [nX]
    rcases hm : mean Γ fs nm with ⟨_ | b, _ | f⟩
    · show mnN _ _ = mnN _ (mnN _ none)
      rw [mnN_n]
      rfl
    · rfl
    · show mnN _ _ = mnN _ (mnN _ none)
      rw [mnN_n]
      rfl
    · have := mean_2 hm
      exact nomatch this
/-- what a call's NAME means: y at what is told, f the function -/
def clM (Γ : List dcl) (fs : List fnc) (nm y f : Int32) : Prop := match mean Γ fs nm with
  | (none, none) => y = -1 ∧ f = -1
  | (none, some k) => y = -1 ∧ f = nI k ∧ k < fs.length
  | (some _, _) => (∃ i, y = nI i ∧ i < 900) ∧ f = -1
theorem enote (h : eW I J m D Γ fs c st pe x t o [] none false) {k p : Int32} (hk : 0 < k) {Q : xII → Prop} (hQ : ∀ K, eW I K m D Γ fs c st pe x t o [] (nt k p) false → Q K) : ∃ R : xII → Prop, w_X13_note m k p R J ∧ ∀ K, R K → Q K := ⟨_, s_X13_note h.2.1.2.2.2.2.2 hk, fun K hK => hQ K (h.nt hK.1 hK.2)⟩
theorem mGm.fl (h : mGm I m Γ fs) : fs.length ≤ 500 := by
  rcases h with ⟨-, -, rfl⟩ | ⟨-, -, -, -, -, g, -⟩
  · exact Nat.zero_le _
  · exact g
def oAg (Rk : rkT) (m : Nat) (D : tkL) (Γ : List dcl) (fs : List fnc) (c : Bool) (d : Nat) : Prop := ∀ I t o st pe x B f kk ks, o + d = 40 → eE I m D Γ fs c t o st pe x → pe ≤ 10 * o → st + 4 * (D.length - t) ≤ B → B ≤ 9000 → agK I m fs c f kk ks → kk ≤ 4001 → Rk 7 f (nI kk) (eP I m D Γ fs c st pe o x B (pE D d t) fun a => (agL Γ fs c ks (isAl D t) st a, agN Γ fs c ks (isAl D t) (tP D t) a, agH Γ fs ks (isAl D t) a)) I
def ksD (Γ : List dcl) (fs : List fnc) (c : Bool) (nm : Int32) (kk : Nat) : Option (List Int32) := (ksC Γ fs c nm).map (List.drop kk)
theorem ksD_0 {nm : Int32} : ksD Γ fs c nm 0 = ksC Γ fs c nm := by
  unfold ksD
  cases ksC Γ fs c nm <;> rfl
theorem ksD_s {nm : Int32} {kk : Nat} : (ksD Γ fs c nm kk).map List.tail = ksD Γ fs c nm (kk + 1) := by
  unfold ksD
  cases ksC Γ fs c nm
  · rfl
  · simp
theorem agK_of {nm y f : Int32} {kk : Nat} (h : clM Γ fs nm y f) (hG : mGm J m Γ fs) : agK J m fs c f kk (ksD Γ fs c nm kk) := by
  cases c with
  | true => exact Or.inl ⟨rfl, rfl⟩
  | false =>
    unfold clM at h
    rcases hm : mean Γ fs nm with ⟨_ | b, _ | f0⟩ <;> rw [hm] at h
    · exact Or.inr (Or.inl ⟨rfl, h.2, by unfold ksD ksC; rw [hm]; rfl⟩)
    · obtain ⟨-, rfl, hf0⟩ := h
      obtain ⟨q, hq⟩ : ∃ q, fs[f0]? = some q := ⟨_, List.getElem?_eq_getElem hf0⟩
      have hgd : fs.getD f0 (0, 0, 0, []) = q := by rw [List.getD_eq_getElem?_getD, hq]; rfl
      refine Or.inr (Or.inr ⟨rfl, ?_, f0, q, rfl, hq, by unfold ksD ksC; rw [hm]; show some (List.drop kk (fs.getD f0 (0, 0, 0, [])).2.2.2) = _; rw [hgd]⟩)
      rcases hG with ⟨-, -, rfl⟩ | ⟨g, -⟩
      · exact nomatch hq
      · rw [g]; decide
    · exact Or.inr (Or.inl ⟨rfl, h.2, by unfold ksD ksC; rw [hm]; rfl⟩)
    · have := mean_2 hm
      exact nomatch this
def clO (I : xII) (m : Nat) (D : tkL) (Γ : List dcl) (fs : List fnc) (c w : Bool) (st pe o : Nat) (x : nte) (B tn d : Nat) (r : pR) (n kk : Nat) (I7 : xII) : Prop := ∃ (mk : Tr → Tr) (pre : List stp) (y : nte) (b : Bool) (tk fu : Nat), tk < D.length ∧ kk < tk ∧ n = D.length - tk + 1 ∧ D.length < fu + tk ∧ (∀ s, cX Γ fs c (ksC Γ fs c (tV D tn)) st (mk s) = pre ++ cX Γ fs c (ksD Γ fs c (tV D tn) kk) (st + pre.length) s ∧ nX Γ fs c true (ksC Γ fs c (tV D tn)) (mk s) = mnN y (nX Γ fs c true (ksD Γ fs c (tV D tn) kk) s) ∧ hA Γ fs (mk s) = (b || hA Γ fs s) ∧ aLen (mk s) = kk + aLen s) ∧ r = pAnd (pArgs D (pE D d) fu tk) (fun s t1 => pNeed D 63 t1 (.ok (nd 4 [tP D tn, tP D tn, tV D tn, tP D t1] (mk s) lf, t1 + 1))) ∧ eW I I7 m D Γ fs c st pe x tk (o + 1) pre (mnN (z0C Γ fs c w (tV D tn) (tP D tn)) y) b ∧ st + pre.length + 4 * (D.length - tk) ≤ B - 4
def clE (I : xII) (m : Nat) (D : tkL) (Γ : List dcl) (fs : List fnc) (c w : Bool) (st pe o : Nat) (x : nte) (B tn : Nat) (r : pR) (kk : Nat) (I7 : xII) : Prop := ∃ (l : Tr) (t1 : Nat), kk < t1 ∧ r = pNeed D 63 t1 (.ok (nd 4 [tP D tn, tP D tn, tV D tn, tP D t1] l lf, t1 + 1)) ∧ ((tK D t1 = 63 ∧ aLen l = kk ∧ eW I I7 m D Γ fs c st pe x t1 (o + 1) (cX Γ fs c (ksC Γ fs c (tV D tn)) st l) (mnN (z0C Γ fs c w (tV D tn) (tP D tn)) (nX Γ fs c true (ksC Γ fs c (tV D tn)) l)) (hA Γ fs l) ∧ st + (cX Γ fs c (ksC Γ fs c (tV D tn)) st l).length + 4 * (D.length - t1) ≤ B - 4) ∨ (¬ tK D t1 = 63 ∧ ∃ pre y b, eW I I7 m D Γ fs c st pe x t1 (o + 1) pre y b))
def clL (I : xII) (m : Nat) (D : tkL) (Γ : List dcl) (fs : List fnc) (c w : Bool) (st pe o : Nat) (x : nte) (B tn d : Nat) (r : pR) (n : Nat) (k on : Int32) (I7 : xII) : Prop := ∃ kk, k = nI kk ∧ ((on = 1 ∧ clO I m D Γ fs c w st pe o x B tn d r n kk I7) ∨ (on = 0 ∧ n = 0 ∧ clE I m D Γ fs c w st pe o x B tn r kk I7))
theorem eW.cb {t' o' : Nat} {l : List stp} {y : nte} {b b' : Bool} (h : eW I J m D Γ fs c st pe x t' o' l y b) (hb : c = true → b = b') : eW I J m D Γ fs c st pe x t' o' l y b' := by
  cases c with
  | true => rw [← hb rfl]; exact h
  | false => exact h
theorem agH_c {ks : Option (List Int32)} {al : Bool} {a : Tr} {f nm : Int32} {kk : Nat} (hk : ks = ksD Γ fs c nm kk) (hc : c = true) : agH Γ fs ks al a = hnX Γ fs a := by
  subst hc
  subst hk
  rfl
theorem s_X13_call (hi : inD D) (hO : ∀ d', d = d' + 1 → oAg Rk m D Γ fs c d') (h : eE I m D Γ fs c t o st pe x) (hd : o + d = 40) (hpe : pe ≤ 10 * o + 10) (hB : st + 4 * (D.length - t) ≤ B) (hB9 : B ≤ 9000) (htn : tn + 1 = t) (h2 : tK D tn = 2) (h62 : tK D t = 62) {wi : Int32} (hw : wi = 0 ↔ ¬ w = true) : w_X13_call Rk m (nI tn) wi (eP I m D Γ fs c st pe o x B (pCall D (pE' D d) d (tP D tn) (tV D tn) t) (fC Γ fs c w st)) I := by
  have hT := h.1
  have hG := h.2.1
  have hD4 := hT.1.1.2.1
  have hfl := hG.fl
  have htl := hT.2.1
  have hvn : vp_in (nI tn) 4002 := vp_in_nI (by omega) (by decide)
  have hxn : ix (nI tn) = tn := nI_clamp (by omega)
  have hnm : I (m + 4) tn = tV D tn := by rw [(hT.1.2.2.1 tn (by omega)).2.1, h2]; unfold mkV; rw [if_pos rfl]
  have hpl : ∀ {J}, eG I J m → J (m + 5) tn = tP D tn := fun hg => (hT.1.fr hg).at (by omega)
  unfold w_X13_call
  rw [hxn]
  refine ⟨fun y1 I1 => eW I I1 m D Γ fs c st pe x t o [] none false ∧ clM Γ fs (tV D tn) y1 (if I1 m 46 = 0 then -1 else I1 m 62), fun y1 I1 hJ1 => ?_, fun hp => ⟨eW.rf h, ?_⟩, fun hp => ?_⟩
  · obtain ⟨w1, cm⟩ := hJ1
    generalize (if I1 m 46 = 0 then (-1 : Int32) else I1 m 62) = f at *
    have hc1 := w1.2.1.2.2.1
    refine ⟨fun I2 => eW I I2 m D Γ fs c st pe x t o [] (if c = true then none else match mean Γ fs (tV D tn) with
      | (none, none) => nt 4 (tP D tn)
      | _ => none) false, fun I2 w2 => ⟨fun I3 => eW I I3 m D Γ fs c st pe x t o [] (if c = true then none else match mean Γ fs (tV D tn) with
      | (none, none) => nt 4 (tP D tn)
      | (some _, _) => nt 6 (tP D tn)
      | _ => none) false, fun I3 w3 => ⟨fun I4 => eW I I4 m D Γ fs c st pe x t o [] (z0C Γ fs c w (tV D tn) (tP D tn)) false, fun I4 w4 => ?_, ?_⟩, ?_⟩, ?_⟩
    · have hT4 := w4.2.1.1
      refine ⟨_, s_X13_openSign hT4 (k := 62) (by decide), ?_⟩
      rintro v5 I5 - ⟨q5, ⟨e, -⟩ | ⟨-, ho, rfl, x5⟩ | ⟨-, ho, rfl, T5⟩⟩
      · exact absurd h62 e
      · refine ⟨fun _ => ?_, fun q => absurd rfl q⟩
        obtain rfl : d = 0 := by omega
        rw [pCall, pOpen, if_pos h62, if_pos rfl]
        exact eP.er (w4.h.q q5) x5 rfl
      refine ⟨fun q => absurd q (by decide), fun _ => ?_⟩
      obtain ⟨d', rfl⟩ : ∃ d', d = d' + 1 := ⟨d - 1, by omega⟩
      have w5 := w4.mv q5 T5
      rw [pCall, pOpen, if_pos h62, if_neg (by omega), show pE' D (d' + 1) = pE D d' from rfl]
      refine ⟨_, s_X13_isSign T5 (k := 63) (by decide), ?_⟩
      rintro _ _ - ⟨rfl, rfl⟩
      generalize hr : (if tK D (t + 1) = 63 then (.ok (nd 4 [tP D tn, tP D tn, tV D tn, tP D (t + 1)] lf lf, t + 2) : pR) else pAnd (pArgs D (pE D d') D.length (t + 1)) fun s t1 => pNeed D 63 t1 (.ok (nd 4 [tP D tn, tP D tn, tV D tn, tP D t1] s lf, t1 + 1))) = r
      refine ⟨clL I m D Γ fs c w st pe o x B tn d' r, ?_, ?_⟩
      · by_cases e63 : tK D (t + 1) = 63
        · rw [if_pos e63] at hr
          refine ⟨0, 0, rfl, Or.inr ⟨by rw [bI, if_pos e63]; rfl, rfl, lf, t + 1, by omega, ?_, Or.inl ⟨e63, rfl, ?_, ?_⟩⟩⟩
          · rw [pNeed, if_pos e63, ← hr]
          · show eW I I5 m D Γ fs c st pe x (t + 1) (o + 1) [] (mnN (z0C Γ fs c w (tV D tn) (tP D tn)) none) false
            rw [mnN_n]
            exact w5
          · show st + 0 + 4 * (D.length - (t + 1)) ≤ B - 4
            omega
        · rw [if_neg e63] at hr
          refine ⟨_, 0, rfl, Or.inl ⟨by rw [bI, if_neg e63]; rfl, id, [], none, false, t + 1, D.length, T5.2.1, by omega, rfl, by omega, fun s => ⟨by rw [ksD_0]; rfl, by rw [ksD_0]; rfl, rfl, by simp⟩, hr.symm, ?_, ?_⟩⟩
          · rw [mnN_n]
            exact w5
          · show st + 0 + 4 * (D.length - (t + 1)) ≤ B - 4
            omega
      · rintro n k on I7 ⟨kk, rfl, ⟨rfl, mk, pre, y, b, tk, fu, k1, k2, rfl, k4, k5, k6, k7, k8⟩ | ⟨rfl, rfl, l, t1, k2, k6, k9⟩⟩
        · refine ⟨fun q => absurd q (by decide), fun _ => ?_⟩
          have hG7 := k7.2.1.2.1
          refine ⟨_, hO d' rfl I7 tk (o + 1) (st + pre.length) pe _ (B - 4) f kk (ksD Γ fs c (tV D tn) kk) (by omega) k7.2.1 (by omega) k8 (by omega) (agK_of cm hG7) (by omega), ?_⟩
          rintro v17 I17 - ⟨g17, r17⟩
          obtain ⟨fu, rfl⟩ : ∃ n, fu = n + 1 := ⟨fu - 1, by omega⟩
          rw [pArgs] at k6
          cases he : pE D d' tk with
          | error e =>
            rw [he] at r17 k6
            obtain ⟨rfl, x17⟩ := r17
            refine ⟨fun _ => ?_, fun q => absurd rfl q⟩
            rw [k6]
            exact eP.er (k7.h.tr g17) x17 rfl
          | ok et =>
            obtain ⟨a, t1⟩ := et
            rw [he] at r17 k6
            obtain ⟨rfl, w17, b17⟩ := r17
            refine ⟨fun q => absurd q (by decide), fun _ => ?_⟩
            have w18 := k7.tr w17
            have hup := pE_up hT.1.1 d' tk k1 a t1 he
            have hfst := (pE_g hT.1.1 d' tk k1 a t1 he).f
            refine ⟨_, s_X13_isSign w18.2.1.1 (k := 68) (by decide), ?_⟩
            rintro _ _ - ⟨rfl, rfl⟩ _ rfl
            rw [nI_up]
            have kal : (tK D t1 = 68 ∨ tK D t1 = 63) → ∀ s, cX Γ fs c (ksC Γ fs c (tV D tn)) st (mk (nd 10 [] a s)) = (pre ++ agL Γ fs c (ksD Γ fs c (tV D tn) kk) (isAl D tk) (st + pre.length) a) ++ cX Γ fs c (ksD Γ fs c (tV D tn) (kk + 1)) (st + (pre ++ agL Γ fs c (ksD Γ fs c (tV D tn) kk) (isAl D tk) (st + pre.length) a).length) s ∧ nX Γ fs c true (ksC Γ fs c (tV D tn)) (mk (nd 10 [] a s)) = mnN (mnN y (agN Γ fs c (ksD Γ fs c (tV D tn) kk) (isAl D tk) (tP D tk) a)) (nX Γ fs c true (ksD Γ fs c (tV D tn) (kk + 1)) s) ∧ hA Γ fs (mk (nd 10 [] a s)) = ((b || hnX Γ fs a) || hA Γ fs s) ∧ aLen (mk (nd 10 [] a s)) = kk + 1 + aLen s := by
              intro hfo s
              obtain ⟨c1, c2, c3, c4⟩ := k5 (nd 10 [] a s)
              rw [isAl_iff hT.1.1 hi k1 he hfo, ← hfst, ← ksD_s]
              refine ⟨?_, ?_, ?_, ?_⟩
              · rw [c1, cX_ag, List.length_append, List.append_assoc, Nat.add_assoc]
              · rw [c2, nX_ag, mnN_as]
              · rw [c3, Bool.or_assoc]
                rfl
              · rw [c4]
                show kk + (aLen s + 1) = _
                omega
            have w19 : eW I I17 m D Γ fs c st pe x t1 (o + 1) (pre ++ agL Γ fs c (ksD Γ fs c (tV D tn) kk) (isAl D tk) (st + pre.length) a) (mnN (z0C Γ fs c w (tV D tn) (tP D tn)) (mnN y (agN Γ fs c (ksD Γ fs c (tV D tn) kk) (isAl D tk) (tP D tk) a))) (b || hnX Γ fs a) := by
              rw [← mnN_as]
              exact w18.cb fun hc => by dsimp only; rw [agH_c (f := 0) rfl hc]
            have hb19 : st + (pre ++ agL Γ fs c (ksD Γ fs c (tV D tn) kk) (isAl D tk) (st + pre.length) a).length + 4 * (D.length - t1) ≤ B - 4 := by
              rw [List.length_append, ← Nat.add_assoc]
              exact b17
            by_cases e68 : tK D t1 = 68
            · rw [bI, if_pos e68, if_neg (by decide : ¬ (1 : Int32) = 0)]
              have ht2 := hT.1.1.nx' hup.2 e68
              obtain ⟨T19, q19⟩ := w19.2.1.1.on ht2
              refine ⟨D.length - (t1 + 1) + 1, by omega, kk + 1, rfl, Or.inl ⟨rfl, fun s => mk (nd 10 [] a s), _, _, _, t1 + 1, fu, ht2, by omega, rfl, by omega, kal (Or.inl e68), ?_, w19.mv q19 T19, by omega⟩⟩
              rw [k6]
              show pAnd (if tK D t1 = 68 then _ else _) _ = _
              rw [if_pos e68]
              cases pArgs D (pE D d') fu (t1 + 1) <;> rfl
            · rw [bI, if_neg e68, if_pos rfl]
              have q19 : eQ I17 (xup I17 m 42 (I17 m 42 + 0)) m := fun a k hk => by rw [gX, if_neg (by omega)]
              have w20 := w19.mv q19 (w19.2.1.1.up hup.2 w19.2.1.1.2.2.2.2.1 q19 (by rw [xup_s, Int32.add_zero]; exact w19.2.1.1.2.2.1) (by rw [xup_k (by decide)]; exact w19.2.1.1.2.2.2.1) (by rw [xup_k (by decide)]; exact w19.2.1.1.2.2.2.2.2))
              refine ⟨0, by omega, kk + 1, rfl, Or.inr ⟨rfl, rfl, mk (nd 10 [] a lf), t1, by omega, ?_, ?_⟩⟩
              · rw [k6]
                show pAnd (if tK D t1 = 68 then _ else _) _ = _
                rw [if_neg e68]
                rfl
              · by_cases e63 : tK D t1 = 63
                · obtain ⟨c1, c2, c3, c4⟩ := kal (Or.inr e63) lf
                  have c1' := c1.trans (List.append_nil _)
                  refine Or.inl ⟨e63, c4, ?_, ?_⟩
                  · rw [c1', c2, c3, show nX Γ fs c true (ksD Γ fs c (tV D tn) (kk + 1)) lf = none from rfl, mnN_n, show hA Γ fs lf = false from rfl, Bool.or_false]
                    exact w20
                  · rw [c1']
                    exact hb19
                · exact Or.inr ⟨e63, _, _, _, w20⟩
        · refine ⟨fun _ => ?_, fun q => absurd rfl q⟩
          rw [k6]
          refine ⟨fun I8 => (tK D t1 = 63 ∧ eW I I8 m D Γ fs c st pe x t1 (o + 1) (cX Γ fs c (ksC Γ fs c (tV D tn)) st l) (mnN (mnN (z0C Γ fs c w (tV D tn) (tP D tn)) (nX Γ fs c true (ksC Γ fs c (tV D tn)) l)) (z1C (ksC Γ fs c (tV D tn)) (aLen l) (tP D t1))) (hA Γ fs l) ∧ st + (cX Γ fs c (ksC Γ fs c (tV D tn)) st l).length + 4 * (D.length - t1) ≤ B - 4) ∨ (¬ tK D t1 = 63 ∧ ∃ pre y b, eW I I8 m D Γ fs c st pe x t1 (o + 1) pre y b), fun I8 h8 => ?_, ?_⟩
          · have hT8 : eT I8 m D t1 (o + 1) := by
              rcases h8 with ⟨-, w8, -⟩ | ⟨-, _, _, _, w8⟩
              · exact w8.2.1.1
              · exact w8.2.1.1
            have hg8 : eH I I8 m st pe := by
              rcases h8 with ⟨-, w8, -⟩ | ⟨-, _, _, _, w8⟩
              · exact w8.h
              · exact w8.h
            refine ⟨_, s_X13_closeSign hT8 (k := 63) (by decide), ?_⟩
            rintro v9 I9 - ⟨q9, ⟨e9, rfl, x9⟩ | ⟨e9, rfl, T9⟩⟩
            · refine ⟨fun _ => ?_, fun q => absurd rfl q⟩
              rw [pNeed, if_neg e9]
              exact eP.er (hg8.q q9) x9 rfl
            · refine ⟨fun q => absurd q (by decide), fun _ => ?_⟩
              rcases h8 with ⟨-, w8, b8⟩ | ⟨e8, -⟩
              · have w9 := w8.mv q9 T9
                have hl9 := T9.2.1
                have hb9 : st + (cX Γ fs c (ksC Γ fs c (tV D tn)) st l).length < 8998 := by omega
                refine ⟨_, s_X13_step (s := st + (cX Γ fs c (ksC Γ fs c (tV D tn)) st l).length) w9.2.1.2.2.2.1 (by omega), ?_⟩
                rintro _ I10 ⟨rfl, s0, s1, s2, s3, s4, -⟩
                have w10 := w9.st1 (w := 15) (a := 0) (d := 0) (v := 0) s0 s1 s2 s3 s4 (fun z => absurd z (by decide))
                refine ⟨hvn, ?_⟩
                rw [hpl w10.1]
                refine ⟨_, s_X13_step (s := st + (cX Γ fs c (ksC Γ fs c (tV D tn)) st l ++ [((15 : Int32), (0 : Int32), (0 : Int32), (0 : Int32))]).length) w10.2.1.2.2.2.1 (by rw [List.length_append]; show st + (_ + 1) < 9000; omega), ?_⟩
                rintro _ I12 ⟨rfl, r0, r1, r2, r3, r4, -⟩
                have w12 := w10.st1 (w := 16) (a := f) (d := tP D tn) (v := 0) r0 r1 r2 r3 r4 (fun z => absurd z (by decide))
                have hf : f = (match (mean Γ fs (tV D tn)).2 with
                  | some f => nI f
                  | none => -1) := by
                  unfold clM at cm
                  rcases hm : mean Γ fs (tV D tn) with ⟨_ | b, _ | f0⟩ <;> rw [hm] at cm
                  · exact cm.2
                  · exact cm.2.1
                  · exact cm.2
                  · exact nomatch mean_2 hm
                rw [pNeed, if_pos e9]
                refine ⟨w12.h, rfl, ?_, ?_⟩
                · rw [fC_eq, ← hf, ← mnN_as]
                  rw [List.append_assoc] at w12
                  exact w12
                · rw [fC_eq]
                  show st + (cX Γ fs c (ksC Γ fs c (tV D tn)) st l ++ [_, _]).length + 4 * (D.length - (t1 + 1)) ≤ B
                  rw [List.length_append]
                  show st + (_ + 2) + 4 * (D.length - (t1 + 1)) ≤ B
                  omega
              · exact absurd e9 e8
          · rcases k9 with ⟨e9, rfl, w7, b7⟩ | ⟨e9, pre, y, b, w7⟩
            · have key : z1C (ksC Γ fs c (tV D tn)) (aLen l) (tP D t1) = none → (tK D t1 = 63 ∧ eW I I7 m D Γ fs c st pe x t1 (o + 1) (cX Γ fs c (ksC Γ fs c (tV D tn)) st l) (mnN (mnN (z0C Γ fs c w (tV D tn) (tP D tn)) (nX Γ fs c true (ksC Γ fs c (tV D tn)) l)) (z1C (ksC Γ fs c (tV D tn)) (aLen l) (tP D t1))) (hA Γ fs l) ∧ st + (cX Γ fs c (ksC Γ fs c (tV D tn)) st l).length + 4 * (D.length - t1) ≤ B - 4) ∨ (¬ tK D t1 = 63 ∧ ∃ pre y b, eW I I7 m D Γ fs c st pe x t1 (o + 1) pre y b) := fun z => Or.inl ⟨e9, by rw [z, mnN_n]; exact w7, b7⟩
              rw [w7.2.1.2.2.1]
              cases c with
              | true => exact ⟨fun z => absurd z (by decide), fun _ => key rfl⟩
              | false =>
                refine ⟨fun _ => ?_, fun z => absurd rfl z⟩
                unfold clM at cm
                rcases hm : mean Γ fs (tV D tn) with ⟨_ | b, _ | f0⟩ <;> rw [hm] at cm
                · exact ⟨fun _ => key (by unfold ksC; rw [hm]; rfl), fun z => absurd cm.2 z⟩
                · obtain ⟨-, rfl, hf0⟩ := cm
                  obtain ⟨q, hq⟩ : ∃ q, fs[f0]? = some q := ⟨_, List.getElem?_eq_getElem hf0⟩
                  have hgd : fs.getD f0 (0, 0, 0, []) = q := by rw [List.getD_eq_getElem?_getD, hq]; rfl
                  have hks : ksC Γ fs false (tV D tn) = some q.2.2.2 := by unfold ksC; rw [hm]; show some (fs.getD f0 (0, 0, 0, [])).2.2.2 = _; rw [hgd]
                  refine ⟨fun z => absurd z (nI_m1 (by omega)), fun _ => ⟨vp_in_nI (by omega) (by decide), ?_⟩⟩
                  rcases w7.2.1.2.1 with ⟨-, -, rfl⟩ | ⟨-, -, -, -, -, -, g6⟩
                  · exact nomatch hq
                  obtain ⟨g1, g2, g3, g4, zz, g7, g8, g9⟩ := g6 f0 q hq
                  have hlt1 := w7.2.1.1.2.1
                  rw [show ix (nI f0) = f0 from nI_clamp (by omega), g4, nI_leI (by omega) (by omega)]
                  refine ⟨fun z => key (by rw [hks, z1C, if_neg (by omega)]), fun z => ?_⟩
                  refine ⟨_, s_X13_isSign w7.2.1.1 (k := 63) (by decide), ?_⟩
                  rintro _ _ - ⟨rfl, rfl⟩
                  rw [bI, if_pos e9]
                  refine ⟨fun q => absurd q (by decide), fun _ => ⟨w7.2.1.1.vp, ?_⟩⟩
                  rw [w7.2.1.1.ix, w7.2.1.1.1.at (hT.1.1.nx' hlt1 e9)]
                  refine ⟨_, s_X13_note w7.2.1.2.2.2.2.2 (by decide), fun K hK => Or.inl ⟨e9, ?_, b7⟩⟩
                  rw [hks, z1C, if_pos (by omega), ← hks]
                  exact w7.nt hK.1 hK.2
                · exact ⟨fun _ => key (by unfold ksC; rw [hm]; rfl), fun z => absurd cm.2 z⟩
                · exact nomatch mean_2 hm
            · have key := fun (K : xII) (wK : eW I K m D Γ fs c st pe x t1 (o + 1) pre y b) => (Or.inr ⟨e9, pre, y, b, wK⟩ : (tK D t1 = 63 ∧ eW I K m D Γ fs c st pe x t1 (o + 1) (cX Γ fs c (ksC Γ fs c (tV D tn)) st l) (mnN (mnN (z0C Γ fs c w (tV D tn) (tP D tn)) (nX Γ fs c true (ksC Γ fs c (tV D tn)) l)) (z1C (ksC Γ fs c (tV D tn)) (aLen l) (tP D t1))) (hA Γ fs l) ∧ st + (cX Γ fs c (ksC Γ fs c (tV D tn)) st l).length + 4 * (D.length - t1) ≤ B - 4) ∨ (¬ tK D t1 = 63 ∧ ∃ pre y b, eW I K m D Γ fs c st pe x t1 (o + 1) pre y b))
              refine ⟨fun _ => ⟨fun _ => key _ w7, fun z => ⟨?_, fun _ => key _ w7, fun _ => ⟨_, s_X13_isSign w7.2.1.1 (k := 63) (by decide), ?_⟩⟩⟩, fun _ => key _ w7⟩
              · unfold clM at cm
                rcases hm : mean Γ fs (tV D tn) with ⟨_ | b, _ | f0⟩ <;> rw [hm] at cm
                · exact absurd cm.2 z
                · obtain ⟨-, rfl, hf0⟩ := cm
                  exact vp_in_nI (by omega) (by decide)
                · exact absurd cm.2 z
                · exact nomatch mean_2 hm
              · rintro _ _ - ⟨rfl, rfl⟩
                rw [bI, if_neg e9]
                exact ⟨fun _ => key _ w7, fun q => absurd rfl q⟩
    · rw [w3.2.1.2.2.1]
      unfold z0C
      cases c with
      | true => exact ⟨fun z => absurd z (by decide), fun _ => w3⟩
      | false =>
        refine ⟨fun _ => ?_, fun z => absurd rfl z⟩
        unfold clM at cm
        rw [hpl w3.1]
        rcases hm : mean Γ fs (tV D tn) with ⟨_ | b, _ | f0⟩ <;> rw [hm] at cm w3
        · exact ⟨fun _ => w3, fun z => absurd cm.2 z⟩
        · obtain ⟨-, rfl, hf0⟩ := cm
          obtain ⟨q, hq⟩ : ∃ q, fs[f0]? = some q := ⟨_, List.getElem?_eq_getElem hf0⟩
          have hgd : fs.getD f0 (0, 0, 0, []) = q := by rw [List.getD_eq_getElem?_getD, hq]; rfl
          dsimp only
          rw [hgd, if_neg Bool.false_ne_true]
          refine ⟨fun z => absurd z (nI_m1 (by omega)), fun _ => ⟨fun z => ?_, fun z => ⟨vp_in_nI (by omega) (by decide), ?_⟩⟩⟩
          · rw [if_neg (fun y => hw.mp z y.1)]
            exact w3
          · rw [show ix (nI f0) = f0 from nI_clamp (by omega)]
            rcases w3.2.1.2.1 with ⟨-, -, rfl⟩ | ⟨-, -, -, -, -, -, g6⟩
            · exact nomatch hq
            rw [(g6 f0 q hq).2.2.1]
            have hwt : w = true := Decidable.byContradiction fun y => z (hw.mpr y)
            refine ⟨fun e => ?_, fun e => ⟨hvn, enote w3 (by decide) fun K y => ?_⟩⟩
            · rw [if_neg (fun y => y.2 e)]
              exact w3
            · rw [if_pos ⟨hwt, e⟩]
              exact y
        · exact ⟨fun _ => w3, fun z => absurd cm.2 z⟩
        · exact ⟨fun _ => w3, fun z => absurd cm.2 z⟩
    · rw [w2.2.1.2.2.1]
      cases c with
      | true => exact ⟨fun z => absurd z (by decide), fun _ => w2⟩
      | false =>
        refine ⟨fun _ => ?_, fun z => absurd rfl z⟩
        unfold clM at cm
        rw [hpl w2.1]
        rcases hm : mean Γ fs (tV D tn) with ⟨_ | b, _ | f0⟩ <;> rw [hm] at cm w2
        · exact ⟨fun _ => w2, fun z => absurd cm.1 z⟩
        · exact ⟨fun _ => w2, fun z => absurd cm.1 z⟩
        · obtain ⟨⟨i, rfl, hi⟩, -⟩ := cm
          exact ⟨fun z => absurd z (nI_m1 (by omega)), fun _ => ⟨hvn, enote w2 (by decide) fun K z => z⟩⟩
        · obtain ⟨⟨i, rfl, hi⟩, -⟩ := cm
          exact ⟨fun z => absurd z (nI_m1 (by omega)), fun _ => ⟨hvn, enote w2 (by decide) fun K z => z⟩⟩
    · rw [hc1]
      cases c with
      | true => exact ⟨fun z => absurd z (by decide), fun _ => w1⟩
      | false =>
        refine ⟨fun _ => ?_, fun z => absurd rfl z⟩
        unfold clM at cm
        rw [hpl w1.1]
        rcases hm : mean Γ fs (tV D tn) with ⟨_ | b, _ | f0⟩ <;> rw [hm] at cm
        · exact ⟨fun _ => ⟨fun _ => ⟨hvn, enote w1 (by decide) fun K z => z⟩, fun z => absurd cm.2 z⟩, fun z => absurd cm.1 z⟩
        · exact ⟨fun _ => ⟨fun z => absurd (cm.2.1.symm.trans z) (nI_m1 (by omega)), fun _ => w1⟩, fun z => absurd cm.1 z⟩
        · exact ⟨fun _ => ⟨fun _ => by obtain ⟨⟨i, rfl, hi⟩, -⟩ := cm; exact absurd (by assumption) (nI_m1 (k := i) (by omega)), fun _ => w1⟩, fun _ => w1⟩
        · exact ⟨fun _ => ⟨fun _ => by obtain ⟨⟨i, rfl, hi⟩, -⟩ := cm; exact absurd (by assumption) (nI_m1 (k := i) (by omega)), fun _ => w1⟩, fun _ => w1⟩
  · rw [if_pos hp]
    rcases hG with ⟨-, rfl, rfl⟩ | ⟨g, -⟩
    · exact ⟨rfl, rfl⟩
    · rw [hp] at g; exact absurd g (by decide)
  · have hM := s_X13_meaning hG hp (tk := tn) (by omega)
    rw [hnm] at hM
    refine ⟨_, hM, ?_⟩
    rintro v I1 ⟨s1, n1⟩
    refine ⟨(eW.rf h).mf s1, ?_⟩
    rw [if_neg (by rw [s1.g.ps]; exact hp)]
    unfold mMn at n1
    unfold clM
    split at n1 <;> rename_i hm <;> rw [hm]
    · exact n1
    · exact n1
    · obtain ⟨⟨i, a1, a2, -⟩, a3⟩ := n1
      exact ⟨⟨i, a1, a2⟩, a3⟩
end MC2
