/-! ===== the Model's expressions: NAMEs in constants ===== -/
set_option maxRecDepth 100000
def isCs (q : Option dcl) : Bool := match q with
  | some b => decide (b.kd = 0)
  | none => false
/-- a NAME's note in a constant: op whether it is opened -/
def zCn (Γ : List dcl) (fs : List fnc) (op : Bool) (nm p : Int32) : nte := match mean Γ fs nm with
  | (none, none) => nt 4 p
  | (none, some _) => nt 10 p
  | (some b, _) => if b.kd = 0 ∧ op = false then none else nt 10 p
def zCm (Γ : List dcl) (fs : List fnc) (nm p : Int32) : nte := match mean Γ fs nm with
  | (none, none) => nt 4 p
  | _ => none
def hbC (q : Option dcl) (op : Bool) : Bool := match q with
  | some b => decide (¬ b.kd = 0 ∨ b.sz = -1) || op
  | none => true
section MKN
variable {m t o st pe d B tn : Nat} {I J K : xII} {D : tkL} {Γ : List dcl} {fs : List fnc} {c w : Bool} {x : nte} {Rk : rkT}
theorem hbC_o {q : Option dcl} : hbC q true = true := by
  cases q with
  | none => rfl
  | some b => exact Bool.or_true _
theorem pCall_nd {E : Nat → pR} {p nm : Int32} {e : Tr} {t1 : Nat} (h : pCall D E d p nm t = .ok (e, t1)) : ∃ en l, e = nd 4 [p, p, nm, en] l lf ∧ 1 ≤ t1 ∧ tK D (t1 - 1) = 63 := by
  obtain ⟨-, -, h⟩ := pOpen_ok h
  split at h
  · rename_i h63
    cases h
    exact ⟨_, _, rfl, by omega, h63⟩
  · obtain ⟨a, t2, h2, h3⟩ := pAnd_ok h
    obtain ⟨h63, h4⟩ := pNeed_ok h3
    cases h4
    exact ⟨_, _, rfl, by omega, h63⟩
theorem nX_c2 {p q nm : Int32} : nX Γ fs true w none (nd 2 [q, p, nm] lf lf) = zCn Γ fs false nm p := by
  rw [nX, zCn]
  rcases hm : mean Γ fs nm with ⟨_ | b, _ | f⟩
  · rfl
  · rfl
  · by_cases hk : b.kd = 0 <;> simp [hk]
  · by_cases hk : b.kd = 0 <;> simp [hk]
theorem nX_c3 {p q nm row : Int32} {i : Tr} : nX Γ fs true w none (nd 3 [q, p, nm, row] i lf) = mnN (zCn Γ fs true nm p) (nX Γ fs true true none i) := by
  rw [nX, zCn]
  rcases hm : mean Γ fs nm with ⟨_ | b, _ | f⟩
  · rfl
  · rfl
  · by_cases hk : b.kd = 0 <;> simp [hk]
  · by_cases hk : b.kd = 0 <;> simp [hk]
theorem nX_c4 {p q nm en : Int32} {i : Tr} : nX Γ fs true w none (nd 4 [q, p, nm, en] i lf) = mnN (zCn Γ fs true nm p) (nX Γ fs true true none i) := by
  rw [nX, zCn]
  rcases hm : mean Γ fs nm with ⟨_ | b, _ | f⟩
  · rfl
  · rfl
  · by_cases hk : b.kd = 0 <;> simp [hk]
  · by_cases hk : b.kd = 0 <;> simp [hk]
theorem ps_le (h : mGm J m Γ fs) : J m 46 ≤ 0 ↔ J m 46 = 0 := by
  rcases h with ⟨h, -⟩ | ⟨h, -⟩ <;> rw [h] <;> decide
theorem s_X13_inConstant (hCl : oCl Rk m D Γ fs true d) (hEl : oEl Rk m D Γ fs true d) (h : eE I m D Γ fs true t o st pe x) (hd : o + d = 40) (hpe : pe ≤ 10 * o + 10) (hB : st + 4 * (D.length - t) + 4 ≤ B) (hB9 : B ≤ 9000) (htn : tn + 1 = t) (h2 : tK D tn = 2) : w_X13_inConstant Rk m (nI tn) (eP I m D Γ fs true st pe o x B (pNm D d tn t) (fX Γ fs true true none st)) I := by
  have hT := h.1
  have hG := h.2.1
  have hD4 := hT.1.1.2.1
  have hfl := hG.fl
  have htl := hT.2.1
  have hvn : vp_in (nI tn) 4002 := vp_in_nI (by omega) (by decide)
  have hxn : ix (nI tn) = tn := nI_clamp (by omega)
  have hnm : I (m + 4) tn = tV D tn := by rw [(hT.1.2.2.1 tn (by omega)).2.1, h2]; unfold mkV; rw [if_pos rfl]
  have hpl : ∀ {J}, eG I J m → J (m + 5) tn = tP D tn := fun hg => (hT.1.fr hg).at (by omega)
  unfold w_X13_inConstant
  rw [hxn]
  generalize hop : decide (tK D t = 64 ∨ tK D t = 62) = op
  refine ⟨fun y1 I1 => eW I I1 m D Γ fs true st pe x t o [] none false ∧ nmM I I1 m Γ fs (tV D tn) y1, fun y1 I1 hJ1 => ?_, fun hp => ⟨eW.rf h, nmM_0 hG hp⟩, fun hp => ?_⟩
  · obtain ⟨w1, ha, hf⟩ := hJ1
    refine ⟨_, s_X13_isSign w1.2.1.1 (k := 64) (by decide), ?_⟩
    rintro _ _ - ⟨rfl, rfl⟩
    refine ⟨fun y3 I3 => I1 = I3 ∧ y3 = (if op = true then 1 else 0), ?_, ?_⟩
    · rintro y3 _ ⟨rfl, rfl⟩
      refine ⟨fun y4 => y4 = (if isCs (mean Γ fs (tV D tn)).1 = true then 1 else 0), ?_, ?_⟩
      · rintro y4 rfl
        refine ⟨fun I5 => eW I I5 m D Γ fs true st pe x t o [] (zCm Γ fs (tV D tn) (tP D tn)) false ∧ mAtk I5 m (mean Γ fs (tV D tn)).1 y1, fun I5 hJ5 => ⟨fun I6 => eW I I6 m D Γ fs true st pe x t o [] (zCn Γ fs op (tV D tn) (tP D tn)) false ∧ mAtk I6 m (mean Γ fs (tV D tn)).1 y1, fun I6 hJ6 => ⟨fun I7 => eW I I7 m D Γ fs true st pe x t o [] (zCn Γ fs op (tV D tn) (tP D tn)) (hbC (mean Γ fs (tV D tn)).1 op) ∧ mAtk I7 m (mean Γ fs (tV D tn)).1 y1, fun I7 hJ7 => ?_, ?_⟩, ?_⟩, ?_⟩
        · obtain ⟨w7, a7⟩ := hJ7
          refine ⟨_, s_X13_isSign w7.2.1.1 (k := 62) (by decide), ?_⟩
          rintro _ _ - ⟨rfl, rfl⟩
          by_cases e62 : tK D t = 62
          · rw [bI, if_pos e62]
            refine ⟨fun q => absurd q (by decide), fun _ => ?_⟩
            have hop1 : op = true := by rw [← hop]; exact decide_eq_true (Or.inr e62)
            subst hop1
            rw [show pNm D d tn t = pCall D (pE' D d) d (tP D tn) (tV D tn) t from if_pos e62]
            refine ⟨_, hCl I7 t o st pe _ B tn false 0 hd w7.2.1 hpe (by omega) hB9 htn h2 e62 (by decide), ?_⟩
            rintro v18 I18 - ⟨g18, r18⟩
            cases hr : pCall D (pE' D d) d (tP D tn) (tV D tn) t with
            | error f =>
              rw [hr] at r18
              obtain ⟨rfl, x18⟩ := r18
              refine ⟨fun _ => ?_, fun q => absurd rfl q⟩
              exact eP.er (w7.h.tr g18) x18 rfl
            | ok et =>
              obtain ⟨e, t1⟩ := et
              rw [hr] at r18
              obtain ⟨rfl, w18, b18⟩ := r18
              refine ⟨fun q => absurd q (by decide), fun _ => ?_⟩
              obtain ⟨en, l, rfl, h1, h63⟩ := pCall_nd hr
              have w19 := w7.tr w18
              have hl1 := w19.2.1.1.2.1
              have fin : eP I m D Γ fs true st pe o x B (.ok (nd 4 [tP D tn, tP D tn, tV D tn, en] l lf, t1)) (fX Γ fs true true none st) 1 I18 := by
                refine ⟨w19.h, rfl, ?_, b18⟩
                unfold fX
                dsimp only
                rw [nX_c4]
                exact w19.cb fun _ => by rw [hbC_o]; rfl
              refine ⟨_, s_X13_isSign w19.2.1.1 (k := 64) (by decide), ?_⟩
              rintro _ _ - ⟨rfl, rfl⟩
              by_cases e64 : tK D t1 = 64
              · rw [bI, if_pos e64]
                refine ⟨fun q => absurd q (by decide), fun _ => ?_⟩
                refine ⟨fun z => absurd z (by decide), fun _ => ?_⟩
                rw [show I18 m 42 - 1 = nI (t1 - 1) by rw [w19.2.1.1.2.2.1]; exact nI_sub (a := t1) (b := 1) (by omega), show ix (nI (t1 - 1)) = t1 - 1 from nI_clamp (by omega)]
                exact ⟨vp_in_nI (by omega) (by decide), fun z => absurd ((w19.2.1.1.1.nm (t := t1 - 1) (by omega)).mp z) (by rw [h63]; decide), fun _ => fin⟩
              · rw [bI, if_neg e64]
                refine ⟨fun _ => ?_, fun q => absurd rfl q⟩
                exact ⟨fun z => absurd z (by decide), fun _ => fin⟩
          · rw [bI, if_neg e62]
            refine ⟨fun _ => ?_, fun q => absurd rfl q⟩
            rw [show pNm D d tn t = pPlace D (pE' D d) d (tP D tn) (tV D tn) t from if_neg e62]
            refine ⟨_, s_X13_isSign w7.2.1.1 (k := 64) (by decide), ?_⟩
            rintro _ _ - ⟨rfl, rfl⟩
            by_cases e64 : tK D t = 64
            · rw [bI, if_pos e64]
              refine ⟨fun q => absurd q (by decide), fun _ => ?_⟩
              have hop1 : op = true := by rw [← hop]; exact decide_eq_true (Or.inl e64)
              subst hop1
              refine ⟨fun z => absurd z (by decide), fun _ => ?_⟩
              rw [show I7 m 42 - 1 = nI tn by rw [w7.2.1.1.2.2.1, ← htn]; exact nI_m, hxn]
              refine ⟨hvn, fun _ => ?_, fun z => absurd ((w7.2.1.1.1.nm (t := tn) (by omega)).mpr h2) z⟩
              rw [pPlace, if_pos e64, pEl_eq (mk := fun i => nd 3 [tP D tn, tP D tn, tV D tn, tP D t] i lf)]
              refine ⟨_, hEl I7 t o st pe _ (B - 4) (-1) none hd w7.2.1 hpe (by omega) (by omega) rfl e64, ?_⟩
              rintro v17 I17 - ⟨g17, r17⟩
              generalize (pOpen D 64 d t (pAnd (pE' D d (t + 1)) fun i t1 => pNeed D 65 t1 (.ok (i, t1 + 1)))) = r at r17 ⊢
              cases r with
              | error f =>
                obtain ⟨rfl, x17⟩ := r17
                refine ⟨fun _ => ?_, fun q => absurd rfl q⟩
                exact eP.er (w7.h.tr g17) x17 rfl
              | ok et =>
                obtain ⟨i, t1⟩ := et
                obtain ⟨rfl, w17, b17⟩ := r17
                refine ⟨fun q => absurd q (by decide), fun _ => ?_⟩
                have w19 := w7.tr w17
                refine ⟨w19.h, rfl, ?_, Nat.le_trans b17 (Nat.sub_le _ _)⟩
                unfold fX
                dsimp only
                rw [nX_c3]
                exact w19.cb fun _ => by rw [hbC_o]; rfl
            · rw [bI, if_neg e64]
              refine ⟨fun _ => ?_, fun q => absurd rfl q⟩
              have hop1 : op = false := by rw [← hop]; exact decide_eq_false (by rintro (q | q); exact e64 q; exact e62 q)
              subst hop1
              refine ⟨fun _ => ?_, fun z => absurd rfl z⟩
              rw [pPlace, if_neg e64]
              refine ⟨fun y => cX Γ fs true none st (nd 2 [tP D tn, tP D tn, tV D tn] lf lf) = [(0, y, 0, 0)], fun y hy => ⟨_, s_X13_step (s := st) w7.2.1.2.2.2.1 (by omega), ?_⟩, ?_⟩
              · rintro _ I11 ⟨rfl, s0, s1, s2, s3, s4, -⟩
                have w11 := w7.st1 (l := []) (w := 0) (a := y) (d := 0) (v := 0) s0 s1 s2 s3 s4 (fun z => absurd z (by decide))
                refine ⟨w11.h, rfl, ?_, ?_⟩
                · unfold fX
                  dsimp only
                  rw [hy, nX_c2]
                  refine w11.cb fun _ => ?_
                  rw [hnX]
                  cases (mean Γ fs (tV D tn)).1 with
                  | none => rfl
                  | some b => exact Bool.or_false _
                · unfold fX
                  dsimp only
                  rw [hy]
                  show st + 1 + 4 * (D.length - t) ≤ B
                  omega
              · rw [cX]
                cases hq : (mean Γ fs (tV D tn)).1 with
                | none => exact ⟨fun _ => rfl, fun z => absurd rfl z⟩
                | some b =>
                  rw [hq] at a7
                  obtain ⟨i, rfl, hi, g⟩ := a7
                  rw [show ix (nI i) = i from nI_clamp (by omega), g.2.2.2.2.1]
                  by_cases hk : b.kd = 0
                  · refine ⟨fun z => ?_, fun _ => ⟨vp_in_nI hi (by decide), ?_⟩⟩
                    · rw [isCs, decide_eq_true hk] at z
                      exact absurd z (by decide)
                    · dsimp only
                      rw [if_pos hk]
                  · refine ⟨fun _ => ?_, fun z => ?_⟩
                    · dsimp only
                      rw [if_neg hk]
                      rfl
                    · rw [isCs, decide_eq_false hk] at z
                      exact absurd rfl z
        · obtain ⟨w6, a6⟩ := hJ6
          have hset : hbC (mean Γ fs (tV D tn)).1 op = true → ∀ I28, I28 = xup I6 m 55 1 → (eW I I28 m D Γ fs true st pe x t o [] (zCn Γ fs op (tV D tn) (tP D tn)) (hbC (mean Γ fs (tV D tn)).1 op) ∧ mAtk I28 m (mean Γ fs (tV D tn)).1 y1) := by
            rintro hb _ rfl
            rw [hb]
            exact ⟨w6.hn, a6.fr fun a k h1 h2 => by rw [gX, if_neg (by unfold eFk at h2; omega)]⟩
          cases hq : (mean Γ fs (tV D tn)).1 with
          | none =>
            rw [hq] at hset
            exact ⟨fun _ => hset rfl, fun z => absurd rfl z⟩
          | some b =>
            rw [hq] at hset a6
            have a6' := a6
            obtain ⟨i, rfl, hi, g⟩ := a6
            rw [show ix (nI i) = i from nI_clamp (by omega), g.2.2.2.2.2.1]
            refine ⟨fun z => hset ?_, fun z => ⟨fun z3 => ⟨vp_in_nI hi (by decide), fun z5 => hset ?_, fun z5 => ⟨?_, a6'⟩⟩, fun z3 => hset ?_⟩⟩
            · rw [hbC, decide_eq_true, Bool.true_or]
              refine Or.inl fun hk => ?_
              rw [isCs, decide_eq_true hk] at z
              exact absurd z (by decide)
            · rw [hbC, decide_eq_true (Or.inr z5), Bool.true_or]
            · have hop0 : op = false := by
                cases op with
                | false => rfl
                | true => exact absurd z3 (by decide)
              rw [hbC, decide_eq_false, hop0]
              · rw [hop0] at w6
                exact w6
              · rintro (hk | hk)
                · rw [isCs, decide_eq_false hk] at z
                  exact absurd rfl z
                · exact z5 hk
            · have hop0 : op = true := by
                cases op with
                | true => rfl
                | false => exact absurd rfl z3
              rw [hbC, hop0, Bool.or_true]
        · obtain ⟨w5, a5⟩ := hJ5
          have g5 := w5.2.1.2.1
          have nn : ∀ k, 0 < k → nt k (tP D tn) = zCn Γ fs op (tV D tn) (tP D tn) → zCm Γ fs (tV D tn) (tP D tn) = none → ∃ R : xII → Prop, w_X13_note m k (I5 (m + 5) tn) R I5 ∧ ∀ I12, R I12 → (eW I I12 m D Γ fs true st pe x t o [] (zCn Γ fs op (tV D tn) (tP D tn)) false ∧ mAtk I12 m (mean Γ fs (tV D tn)).1 y1) := by
            intro k hk hz hz2
            rw [hpl w5.1]
            rw [hz2] at w5
            refine ⟨_, s_X13_note w5.2.1.2.2.2.2.2 hk, ?_⟩
            rintro I12 ⟨n12, f12⟩
            have w12 := w5.nt (z := nt k (tP D tn)) n12 f12
            rw [← hz]
            exact ⟨w12, a5.fr n12.g⟩
          rw [ps_le g5, w5.1.ps]
          refine ⟨fun hp => ⟨w5.p0 hp, a5⟩, fun hp => ?_⟩
          have hf := hf hp
          rcases hm : mean Γ fs (tV D tn) with ⟨_ | b, _ | f⟩ <;> rw [hm] at ha hf
          · obtain rfl : y1 = -1 := ha
            have hf : I1 m 62 = -1 := hf
            rw [if_pos rfl, if_pos hf]
            refine ⟨fun z => absurd z (by decide), fun _ => ⟨?_, rfl⟩⟩
            rw [show zCn Γ fs op (tV D tn) (tP D tn) = zCm Γ fs (tV D tn) (tP D tn) by rw [zCn, zCm, hm]]
            exact w5
          · obtain rfl : y1 = -1 := ha
            obtain ⟨e, hl⟩ := hf
            rw [if_pos rfl, if_neg (by rw [e]; exact nI_m1 (by omega))]
            rw [hm] at nn
            refine ⟨fun _ => ⟨fun _ => ⟨hvn, nn 10 (by decide) (by rw [zCn, hm]) (by rw [zCm, hm])⟩, fun z => absurd rfl z⟩, fun z => absurd rfl z⟩
          all_goals
            obtain ⟨i, rfl, hi, g⟩ := ha
            rw [if_neg (nI_m1 (by omega))]
            rw [hm] at nn
            refine ⟨fun _ => ⟨fun z => ⟨hvn, nn 10 (by decide) ?_ (by rw [zCm, hm])⟩, fun z => ⟨fun z3 => ⟨?_, by rw [hm] at a5; exact a5⟩, fun z3 => ⟨hvn, nn 10 (by decide) ?_ (by rw [zCm, hm])⟩⟩⟩, fun z => absurd rfl z⟩
            · rw [zCn, hm]
              refine (if_neg ?_).symm
              rintro ⟨hk, -⟩
              rw [isCs, decide_eq_true hk] at z
              exact absurd z (by decide)
            · have hop0 : op = false := by
                cases op with
                | false => rfl
                | true => exact absurd z3 (by decide)
              have hk : b.kd = 0 := Decidable.byContradiction fun hk => by
                rw [isCs, decide_eq_false hk] at z
                exact absurd rfl z
              rw [show zCn Γ fs op (tV D tn) (tP D tn) = zCm Γ fs (tV D tn) (tP D tn) by rw [zCn, zCm, hm]; exact if_pos ⟨hk, hop0⟩]
              exact w5
            · rw [zCn, hm]
              refine (if_neg ?_).symm
              rintro ⟨-, ho⟩
              rw [ho] at z3
              exact absurd rfl z3
        · rw [ps_le w1.2.1.2.1, w1.1.ps]
          refine ⟨fun hp => ⟨w1.p0 hp, ha⟩, fun hp => ?_⟩
          have hf := hf hp
          rcases hm : mean Γ fs (tV D tn) with ⟨_ | b, _ | f⟩ <;> rw [hm] at ha hf
          · obtain rfl : y1 = -1 := ha
            have hf : I1 m 62 = -1 := hf
            rw [if_pos rfl, if_pos hf, hpl w1.1]
            refine ⟨fun z => absurd z (by decide), fun _ => ⟨hvn, _, s_X13_note w1.2.1.2.2.2.2.2 (by decide), ?_⟩⟩
            rintro I37 ⟨n37, f37⟩
            have w37 := w1.nt (z := nt 4 (tP D tn)) n37 f37
            rw [show zCm Γ fs (tV D tn) (tP D tn) = nt 4 (tP D tn) by rw [zCm, hm]]
            exact ⟨w37, rfl⟩
          · obtain rfl : y1 = -1 := ha
            obtain ⟨e, hl⟩ := hf
            rw [if_pos rfl, if_neg (by rw [e]; exact nI_m1 (by omega))]
            refine ⟨fun _ => ⟨?_, rfl⟩, fun z => absurd rfl z⟩
            rw [show zCm Γ fs (tV D tn) (tP D tn) = none by rw [zCm, hm]]
            exact w1
          all_goals
            have ha' := ha
            obtain ⟨i, rfl, hi, g⟩ := ha
            rw [if_neg (nI_m1 (by omega))]
            refine ⟨fun _ => ⟨?_, ha'⟩, fun z => absurd rfl z⟩
            rw [show zCm Γ fs (tV D tn) (tP D tn) = none by rw [zCm, hm]]
            exact w1
      · cases hq : (mean Γ fs (tV D tn)).1 with
        | none =>
          rw [hq] at ha
          obtain rfl : y1 = -1 := ha
          exact ⟨fun _ => rfl, fun z => absurd rfl z⟩
        | some b =>
          rw [hq] at ha
          obtain ⟨i, rfl, hi, g⟩ := ha
          refine ⟨fun z => absurd z (nI_m1 (by omega)), fun _ => ⟨vp_in_nI hi (by decide), ?_⟩⟩
          rw [show ix (nI i) = i from nI_clamp (by omega), g.2.1]
          exact ⟨fun z => by rw [isCs, decide_eq_true z]; rfl, fun z => by rw [isCs, decide_eq_false z]; rfl⟩
    · by_cases e64 : tK D t = 64
      · have hop1 : op = true := by rw [← hop]; exact decide_eq_true (Or.inl e64)
        subst hop1
        rw [bI, if_pos e64]
        refine ⟨fun q => absurd q (by decide), fun _ => ?_⟩
        exact ⟨rfl, rfl⟩
      · rw [bI, if_neg e64]
        refine ⟨fun _ => ?_, fun q => absurd rfl q⟩
        refine ⟨_, s_X13_isSign w1.2.1.1 (k := 62) (by decide), ?_⟩
        rintro _ _ - ⟨rfl, rfl⟩
        by_cases e62 : tK D t = 62
        · have hop1 : op = true := by rw [← hop]; exact decide_eq_true (Or.inr e62)
          subst hop1
          rw [bI, if_pos e62]
          refine ⟨fun q => absurd q (by decide), fun _ => ?_⟩
          exact ⟨rfl, rfl⟩
        · have hop1 : op = false := by rw [← hop]; exact decide_eq_false (by rintro (q | q); exact e64 q; exact e62 q)
          subst hop1
          rw [bI, if_neg e62]
          refine ⟨fun _ => ?_, fun q => absurd rfl q⟩
          exact ⟨rfl, rfl⟩
  · have hM := s_X13_meaning hG hp (tk := tn) (by omega)
    rw [hnm] at hM
    refine ⟨_, hM, ?_⟩
    rintro v18 I18 ⟨s1, n1⟩
    exact ⟨(eW.rf h).mf s1, nmM_mk n1⟩
end MKN
