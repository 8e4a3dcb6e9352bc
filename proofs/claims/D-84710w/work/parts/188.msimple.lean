/-! ===== the Model's statements: simple ones ===== -/
set_option maxRecDepth 100000
/-- a NAME that is set: its note -/
def zST (Γ : List dcl) (fs : List fnc) (el : Bool) (nm p : Int32) : nte := if el = true then z0N Γ fs true nm p else z0S Γ fs nm p
def fitS (q : Option dcl) (el : Bool) : Bool := match q with
  | some b => if el = true then decide (b.kd = 2) else decide (b.kd = 1)
  | none => false
section SIM
variable {m t o st pe d B sc lp f t1 : Nat} {I J K : xII} {D : tkL} {Γ : List dcl} {fs : List fnc} {x : nte} {vd b0 c0 : Int32} {E : env} {q : mR}
theorem sW.p0 {z : nte} (h : sW I J m D fs st x t o sc lp f vd b0 c0 q) (hp : I m 46 = 0) : sW I J m D fs st x t o sc lp f vd b0 c0 (q.1, z, q.2.2) := by
  obtain ⟨a1, a2, a3⟩ := h
  refine ⟨a1, ?_, a3⟩
  rw [mN, if_pos hp] at a2 ⊢
  exact a2
theorem zST_eq {el : Bool} {nm p : Int32} : zST Γ fs el nm p = (match mean Γ fs nm with
  | (none, none) => nt 4 p
  | (none, some _) => nt 6 p
  | (some b, _) => if fitS (some b) el = true then none else nt 6 p) := by
  unfold zST z0N z0S fitS
  rcases hm : mean Γ fs nm with ⟨_ | b, _ | f⟩ <;> cases el
  all_goals first | rfl | (simp; done) | (by_cases hk : b.kd = 2 <;> simp [hk]; done) | (by_cases hk : b.kd = 1 <;> simp [hk]; done)
theorem s_X13_simple (hi : inD D) (hD : D.length ≤ 1800) (h : sE I m D fs t o st x sc lp E f vd) (hd : o + d = 40) (h63 : I m 63 = b0) (h64 : I m 64 = c0) (hB : st + 4 * (D.length - t) ≤ B) (hB9 : B ≤ 9000) : w_X13_simple m (sP I m D fs st o x sc lp f vd b0 c0 B (pSimple D d t) fun e => mS (I m 46) fs vd e sc (decide (0 < lp)) st E) I := by
  have hT := h.1.1
  have hl := hT.2.1
  have hD4 := hT.1.1.2.1
  have w0 := sW.rf h h63 h64
  unfold w_X13_simple
  refine ⟨_, s_X13_name hT, ?_⟩
  rintro v1 I1 ⟨q1, ⟨k2, rfl, x1⟩ | ⟨k2, rfl, T1⟩⟩
  · refine ⟨fun z => absurd z (Int32.not_le.mpr (by rw [x1.1]; exact x1.2.2)), fun _ => ?_⟩
    rw [pSimple, pNeed, if_neg k2]
    exact ⟨rfl, eH.sx w0 hD (by show st + 0 ≤ 9000; omega) q1.h x1⟩
  refine ⟨fun _ => ?_, fun z => absurd (by rw [T1.2.2.2.2.2]; decide) z⟩
  have ht1 := T1.2.1
  have w1 := w0.mv q1 T1 (by omega)
  rw [pSimple, pNeed, if_pos k2]
  have hvn : vp_in (nI t) 4002 := vp_in_nI (by omega) (by decide)
  have hxn : ix (nI t) = t := nI_clamp (by omega)
  have hpl : ∀ {J}, sG I J m → J (m + 5) t = tP D t := fun hg => by
    rw [hg _ _ (by omega) (by omega)]
    exact hT.1.at (by omega)
  refine ⟨_, s_X13_isSign T1 (k := 62) (by decide), ?_⟩
  rintro _ _ - ⟨rfl, rfl⟩
  by_cases e62 : tK D (t + 1) = 62
  · rw [bI, if_pos e62, if_pos e62]
    refine ⟨fun q => absurd q (by decide), fun _ => ?_⟩
    refine ⟨_, ro_Cl hi (n := 700) (by omega) I1 (t + 1) o st 0 _ (B - 4) t false 0 hd w1.2.1.1 (by omega) (by omega) (by omega) rfl k2 e62 (by decide), ?_⟩
    rintro v57 I57 - ⟨g57, r57⟩
    cases hr : pCall D (pE' D d) d (tP D t) (tV D t) (t + 1) with
    | error fl =>
      rw [hr] at r57
      obtain ⟨rfl, x57⟩ := r57
      refine ⟨fun _ => ?_, fun q => absurd rfl q⟩
      exact ⟨rfl, eH.sx w1 hD (by show st + 0 ≤ 9000; omega) g57 x57⟩
    | ok et =>
      obtain ⟨e, t1⟩ := et
      rw [hr] at r57
      obtain ⟨rfl, w57, b57⟩ := r57
      refine ⟨fun q => absurd q (by decide), fun _ => ?_⟩
      have hup := pCall_up hT.1.1 (fun t ht => pE'_up hT.1.1 d t ht) ht1 _ _ hr
      have b57' : st + (cX E.1 fs false none st e).length + 4 * (D.length - t1) ≤ B - 4 := b57
      have w58 := w1.e w57 (by omega) cX_noH
      refine ⟨_, s_X13_step (s := st + (cX E.1 fs false none st e).length) w58.2.1.1.2.2.2.1 (by omega), ?_⟩
      rintro _ I58 ⟨rfl, s0, s1, s2, s3, s4, -⟩
      have w59 := w58.sp1 (w := 18) (a := 0) (d := 0) (v := 0) isHo_0 s0 s1 s2 s3 s4 (fun z => absurd z (by decide))
      refine ⟨rfl, w59, ?_⟩
      show st + (cX E.1 fs false none st e ++ [((18 : Int32), (0 : Int32), (0 : Int32), (0 : Int32))]).length + 4 * (D.length - t1) ≤ B
      rw [List.length_append]
      show st + (_ + 1) + _ ≤ B
      omega
  · rw [bI, if_neg e62, if_neg e62]
    refine ⟨fun _ => ?_, fun q => absurd rfl q⟩
    have hfl := h.1.2.1.fl
    refine ⟨fun y3 I3 => sW I I3 m D fs st x (t + 1) o sc lp f vd b0 c0 ([], none, E) ∧ nmM I1 I3 m E.1 fs (tV D t) y3, fun y3 I3 hJ3 => ?_, fun hp => ⟨w1, nmM_0 w1.2.1.1.2.1 hp⟩, fun hp => ?_⟩
    · obtain ⟨w3, ha, hf⟩ := hJ3
      have hT3 := w3.2.1.1.1
      refine ⟨_, s_X13_isSign hT3 (k := 64) (by decide), ?_⟩
      rintro _ _ - ⟨rfl, rfl⟩
      generalize hel : decide (tK D (t + 1) = 64) = el
      rw [show bI (tK D (t + 1) = 64) = (if el = true then 1 else 0) by rw [← hel, bI]; simp]
      rw [hxn]
      refine ⟨fun I5 => sW I I5 m D fs st x (t + 1) o sc lp f vd b0 c0 ([], zCm E.1 fs (tV D t) (tP D t), E) ∧ mAtk I5 m (mean E.1 fs (tV D t)).1 y3, fun I5 hJ5 => ⟨fun y6 => y6 = (if fitS (mean E.1 fs (tV D t)).1 el = true then 1 else 0), ?_, ?_⟩, ?_⟩
      · rintro _ rfl
        obtain ⟨w5, a5⟩ := hJ5
        refine ⟨fun I7 => sW I I7 m D fs st x (t + 1) o sc lp f vd b0 c0 ([], zST E.1 fs el (tV D t) (tP D t), E) ∧ mAtk I7 m (mean E.1 fs (tV D t)).1 y3, fun I7 hJ7 => ⟨fun y8 => y8 = byS (mean E.1 fs (tV D t)).1, fun y8 h8 => ⟨fun y9 => (if y9 = 0 then (4 : Int32) else 2) = (if loS (mean E.1 fs (tV D t)).1 = 0 then 4 else 2) ∧ (if y9 = 0 then (3 : Int32) else 1) = (if loS (mean E.1 fs (tV D t)).1 = 0 then 3 else 1), fun y9 h9 => ⟨fun y10 => y10 = clS (mean E.1 fs (tV D t)).1, fun y10 h10 => ?_, ?_⟩, ?_⟩, ?_⟩, ?_⟩
        · subst h8 h10
          obtain ⟨w7, a7⟩ := hJ7
          have hT7 := w7.2.1.1.1
          cases el with
          | false =>
            have e64 : ¬ tK D (t + 1) = 64 := of_decide_eq_false hel
            rw [if_neg Bool.false_ne_true]
            refine ⟨fun _ => ?_, fun q => absurd rfl q⟩
            rw [pPlace, if_neg e64, hT7.ix]
            show tlF m (if I7 (m + 3) (t + 1) = 4 then I7 (m + 4) (t + 1) else -1) (if y9 = 0 then 4 else 2) (clS (mean E.1 fs (tV D t)).1) (fun J14 I13 => ∃ R26 : Int32 → xII → Prop, w_X13_step m (if y9 = 0 then (3 : Int32) else (1 : Int32)) (clS (mean E.1 fs (tV D t)).1) (0 : Int32) R26 I13 ∧ (∀ (v26 : Int32) (I26 : xII), R26 v26 I26 → (J14 I26))) (sP I m D fs st o x sc lp f vd b0 c0 B (pSt D d (nd 2 [tP D t, tP D t, tV D t] lf lf) (t + 1)) fun e => mS (I m 46) fs vd e sc (decide (0 < lp)) st E) I7
            rw [h9.1, h9.2]
            refine s_tlF (E := E) (ldl := [(if loS (mean E.1 fs (tV D t)).1 = 0 then 3 else 1, clS (mean E.1 fs (tV D t)).1, 0, 0)]) hi hD hd w7 rfl rfl (fun J14 I13 w13 hJ => ?_) (show 1 ≤ 2 by decide) (by split <;> decide) (by show st + 0 + 4 * (D.length - (t + 1)) + 4 ≤ B; omega) hB9 (fun a e => rfl)
            refine ⟨_, s_X13_step (s := st) w13.2.1.1.2.2.2.1 (by omega), ?_⟩
            rintro _ I26 ⟨rfl, s0, s1, s2, s3, s4, -⟩
            exact hJ _ (w13.sp1 (w := if loS (mean E.1 fs (tV D t)).1 = 0 then 3 else 1) (a := clS (mean E.1 fs (tV D t)).1) (d := 0) (v := 0) isHo_0 s0 s1 s2 s3 s4 (fun z => absurd z (by split <;> decide)))
          | true =>
            have e64 : tK D (t + 1) = 64 := of_decide_eq_true hel
            rw [if_pos rfl]
            refine ⟨fun q => absurd q (by decide), fun _ => ?_⟩
            rw [pPlace, if_pos e64, pEl_eq (mk := fun i => nd 3 [tP D t, tP D t, tV D t, tP D (t + 1)] i lf)]
            refine ⟨_, ro_El hi (n := 700) (by omega) I7 (t + 1) o st 0 _ (B - 4) y3 _ hd w7.2.1.1 (by omega) (by omega) (by omega) a7 e64, ?_⟩
            rintro v28 I28 - ⟨g28, r28⟩
            have hup : ∀ i t1, (pOpen D 64 d (t + 1) (pAnd (pE' D d (t + 1 + 1)) fun i t1 => pNeed D 65 t1 (.ok (i, t1 + 1)))) = .ok (i, t1) → t + 1 < t1 := by
              intro i t1 hh
              obtain ⟨-, -, hh⟩ := pOpen_ok hh
              obtain ⟨a, t2, h2, h3⟩ := pAnd_ok hh
              obtain ⟨-, h4⟩ := pNeed_ok h3
              cases h4
              have := pE'_up hT.1.1 d (t + 1 + 1) (hT.1.1.nx' ht1 e64) _ _ h2
              omega
            generalize (pOpen D 64 d (t + 1) (pAnd (pE' D d (t + 1 + 1)) fun i t1 => pNeed D 65 t1 (.ok (i, t1 + 1)))) = r at r28 hup ⊢
            cases r with
            | error fl =>
              obtain ⟨rfl, x28⟩ := r28
              refine ⟨fun _ => ?_, fun q => absurd rfl q⟩
              exact ⟨rfl, eH.sx w7 hD (by show st + 0 ≤ 9000; omega) g28 x28⟩
            | ok et =>
              obtain ⟨i, t1⟩ := et
              obtain ⟨rfl, w28, b28⟩ := r28
              refine ⟨fun q => absurd q (by decide), fun _ => ?_⟩
              have hup := hup i t1 rfl
              have hnh : noH (cX E.1 fs false none st i ++ [elS (mean E.1 fs (tV D t)).1 (tP D (t + 1))]) := cX_noH.app fun q hq => by
                rw [List.mem_singleton] at hq
                subst hq
                cases (mean E.1 fs (tV D t)).1 <;> exact ⟨rfl, rfl⟩
              have w29 : sW I I28 m D fs st x t1 o sc lp f vd b0 c0 (cX E.1 fs false none st i ++ [elS (mean E.1 fs (tV D t)).1 (tP D (t + 1))], mnN (zST E.1 fs true (tV D t) (tP D t)) (nX E.1 fs false true none i), E) := w7.e w28 (by omega) hnh
              have hT29 := w29.2.1.1.1
              rw [hT29.ix]
              show tlF m (if I28 (m + 3) t1 = 4 then I28 (m + 4) t1 else -1) 8 (if byS (mean E.1 fs (tV D t)).1 = 0 then 0 else 1) (fun J14 I13 => ∃ R44 : Int32 → xII → Prop, w_X13_step m (9 : Int32) (0 : Int32) (0 : Int32) R44 I13 ∧ (∀ (v44 : Int32) (I44 : xII), R44 v44 I44 → (∃ R45 : Int32 → xII → Prop, w_X13_step m (7 : Int32) (0 : Int32) (0 : Int32) R45 I44 ∧ (∀ (v45 : Int32) (I45 : xII), R45 v45 I45 → (J14 I45))))) (sP I m D fs st o x sc lp f vd b0 c0 B (pSt D d (nd 3 [tP D t, tP D t, tV D t, tP D (t + 1)] i lf) t1) fun e => mS (I m 46) fs vd e sc (decide (0 < lp)) st E) I28
              have hby : (if byS (mean E.1 fs (tV D t)).1 = 0 then (0 : Int32) else 1) = byS (mean E.1 fs (tV D t)).1 := by
                cases (mean E.1 fs (tV D t)).1 with
                | none => rfl
                | some b =>
                  show (if (if b.by = 0 then (0 : Int32) else 1) = 0 then (0 : Int32) else 1) = (if b.by = 0 then 0 else 1)
                  by_cases hb : b.by = 0 <;> simp [hb]
              rw [hby]
              have b28' : st + (cX E.1 fs false none st i ++ [elS (mean E.1 fs (tV D t)).1 (tP D (t + 1))]).length + 4 * (D.length - t1) ≤ B - 4 := b28
              refine s_tlF (E := E) (ldl := [(9, 0, 0, 0), (7, 0, 0, 0)]) hi hD hd w29 rfl rfl (fun J14 I13 w13 hJ => ?_) (by decide) (by decide) (by show st + (cX E.1 fs false none st i ++ [elS (mean E.1 fs (tV D t)).1 (tP D (t + 1))]).length + 4 * (D.length - t1) + 4 ≤ B; omega) hB9 (fun a e => rfl)
              generalize hLL : cX E.1 fs false none st i ++ [elS (mean E.1 fs (tV D t)).1 (tP D (t + 1))] = LL at *
              have hl29 := hT29.2.1
              refine ⟨_, s_X13_step (s := st + LL.length) w13.2.1.1.2.2.2.1 (by omega), ?_⟩
              rintro _ I44 ⟨rfl, s0, s1, s2, s3, s4, -⟩
              have w44 := w13.sp1 (w := 9) (a := 0) (d := 0) (v := 0) isHo_0 s0 s1 s2 s3 s4 (fun z => absurd z (by decide))
              have l44 : (LL ++ [((9 : Int32), (0 : Int32), (0 : Int32), (0 : Int32))]).length = LL.length + 1 := by rw [List.length_append]; rfl
              refine ⟨_, s_X13_step (s := st + (LL ++ [((9 : Int32), (0 : Int32), (0 : Int32), (0 : Int32))]).length) w44.2.1.1.2.2.2.1 (by omega), ?_⟩
              rintro _ I45 ⟨rfl, u0, u1, u2, u3, u4, -⟩
              have w45 := w44.sp1 (w := 7) (a := 0) (d := 0) (v := 0) isHo_0 u0 u1 u2 u3 u4 (fun z => absurd z (by decide))
              refine hJ _ ?_
              rw [show [((9 : Int32), (0 : Int32), (0 : Int32), (0 : Int32)), (7, 0, 0, 0)] = [((9 : Int32), (0 : Int32), (0 : Int32), (0 : Int32))] ++ [(7, 0, 0, 0)] from rfl, ← List.append_assoc]
              exact w45
        · obtain ⟨w7, a7⟩ := hJ7
          cases hq : (mean E.1 fs (tV D t)).1 with
          | none =>
            rw [hq] at a7
            obtain rfl : y3 = -1 := a7
            exact ⟨fun _ => rfl, fun z => absurd rfl z⟩
          | some b =>
            rw [hq] at a7
            obtain ⟨i, rfl, hi9, g⟩ := a7
            refine ⟨fun z => absurd z (nI_m1 (by omega)), fun _ => ⟨vp_in_nI hi9 (by decide), ?_⟩⟩
            rw [show ix (nI i) = i from nI_clamp (by omega), g.2.2.2.2.1]
            rfl
        · obtain ⟨w7, a7⟩ := hJ7
          cases hq : (mean E.1 fs (tV D t)).1 with
          | none =>
            rw [hq] at a7
            obtain rfl : y3 = -1 := a7
            exact ⟨fun _ => ⟨rfl, rfl⟩, fun z => absurd rfl z⟩
          | some b =>
            rw [hq] at a7
            obtain ⟨i, rfl, hi9, g⟩ := a7
            refine ⟨fun z => absurd z (nI_m1 (by omega)), fun _ => ⟨vp_in_nI hi9 (by decide), ?_⟩⟩
            rw [show ix (nI i) = i from nI_clamp (by omega), g.2.2.2.2.2.2.2]
            show (b.lo = 0 → (_ = (if b.lo = 0 then (4 : Int32) else 2) ∧ _ = (if b.lo = 0 then (3 : Int32) else 1))) ∧ (¬ b.lo = 0 → (_ = (if b.lo = 0 then (4 : Int32) else 2) ∧ _ = (if b.lo = 0 then (3 : Int32) else 1)))
            exact ⟨fun z => by rw [if_pos z, if_pos z]; exact ⟨rfl, rfl⟩, fun z => by rw [if_neg z, if_neg z]; exact ⟨rfl, rfl⟩⟩
        · obtain ⟨w7, a7⟩ := hJ7
          cases hq : (mean E.1 fs (tV D t)).1 with
          | none =>
            rw [hq] at a7
            obtain rfl : y3 = -1 := a7
            exact ⟨fun _ => rfl, fun z => absurd rfl z⟩
          | some b =>
            rw [hq] at a7
            obtain ⟨i, rfl, hi9, g⟩ := a7
            refine ⟨fun z => absurd z (nI_m1 (by omega)), fun _ => ⟨vp_in_nI hi9 (by decide), ?_⟩⟩
            rw [show ix (nI i) = i from nI_clamp (by omega), g.2.2.2.2.2.2.1]
            show (b.by = 0 → 0 = (if b.by = 0 then (0 : Int32) else 1)) ∧ (¬ b.by = 0 → 1 = (if b.by = 0 then (0 : Int32) else 1))
            exact ⟨fun z => by rw [if_pos z], fun z => by rw [if_neg z]⟩
        · -- the note 6
          have p46 : I3 m 46 = I m 46 := w3.1.ps
          have q46 : I1 m 46 = I m 46 := w1.1.ps
          rw [p46]
          have hle := ps_le h.1.2.1
          have nn : (¬ I m 46 = 0 → zCm E.1 fs (tV D t) (tP D t) = none ∧ nt 6 (tP D t) = zST E.1 fs el (tV D t) (tP D t)) → ∃ R : xII → Prop, w_X13_note m 6 (I5 (m + 5) t) R I5 ∧ ∀ I12, R I12 → (sW I I12 m D fs st x (t + 1) o sc lp f vd b0 c0 ([], zST E.1 fs el (tV D t) (tP D t), E) ∧ mAtk I12 m (mean E.1 fs (tV D t)).1 y3) := by
            intro hz
            rw [hpl w5.1]
            refine ⟨_, s_X13_note w5.2.1.1.2.2.2.2.2 (by decide), ?_⟩
            rintro I12 ⟨n12, f12⟩
            have w12 := w5.nt (z := nt 6 (tP D t)) n12 f12
            refine ⟨?_, a5.fr n12.g⟩
            by_cases hp : I m 46 = 0
            · exact w12.p0 hp
            · obtain ⟨z1, z2⟩ := hz hp
              rw [z1, show mnN none (nt 6 (tP D t)) = nt 6 (tP D t) from rfl, z2] at w12
              exact w12
          by_cases hp : I m 46 = 0
          · rw [if_pos (hle.mpr hp)]
            exact ⟨fun _ => ⟨fun _ => ⟨hvn, nn fun z => absurd hp z⟩, fun _ => ⟨w5.p0 hp, a5⟩⟩, fun z => absurd rfl z⟩
          · rw [if_neg (fun z => hp (hle.mp z))]
            have hf := hf (by rw [q46]; exact hp)
            rw [zST_eq] at nn ⊢
            rcases hm : mean E.1 fs (tV D t) with ⟨_ | b, _ | ff⟩ <;> rw [hm] at ha hf nn
            · obtain rfl : y3 = -1 := ha
              have hf : I3 m 62 = -1 := hf
              rw [if_pos rfl, if_pos hf]
              refine ⟨fun z => absurd z (by decide), fun _ => ⟨?_, rfl⟩⟩
              rw [show zCm E.1 fs (tV D t) (tP D t) = nt 4 (tP D t) by rw [zCm, hm]] at w5
              exact w5
            · obtain rfl : y3 = -1 := ha
              obtain ⟨e, hl5⟩ := hf
              rw [if_pos rfl, if_neg (by rw [e]; exact nI_m1 (by omega))]
              refine ⟨fun _ => ⟨fun _ => ⟨hvn, nn fun _ => ⟨by rw [zCm, hm], rfl⟩⟩, fun z => absurd rfl z⟩, fun z => absurd rfl z⟩
            all_goals
              obtain ⟨i, rfl, hi9, g⟩ := ha
              rw [if_neg (nI_m1 (by omega))]
              refine ⟨fun _ => ⟨fun z => ⟨hvn, nn fun _ => ⟨by rw [zCm, hm], ?_⟩⟩, fun z => ⟨?_, by rw [hm] at a5; exact a5⟩⟩, fun z => absurd rfl z⟩
              · dsimp only
                rw [if_neg]
                intro w
                rw [w] at z
                exact absurd z (by decide)
              · dsimp only
                rw [if_pos]
                · rw [show zCm E.1 fs (tV D t) (tP D t) = none by rw [zCm, hm]] at w5
                  exact w5
                · cases hh : fitS (some b) el with
                  | true => rfl
                  | false =>
                    rw [hh] at z
                    exact absurd rfl z
      · obtain ⟨w5, a5⟩ := hJ5
        cases hq : (mean E.1 fs (tV D t)).1 with
        | none =>
          rw [hq] at a5
          obtain rfl : y3 = -1 := a5
          exact ⟨fun _ => rfl, fun z => absurd rfl z⟩
        | some b =>
          rw [hq] at a5
          obtain ⟨i, rfl, hi9, g⟩ := a5
          rw [show ix (nI i) = i from nI_clamp (by omega), g.2.1]
          refine ⟨fun z => absurd z (nI_m1 (by omega)), fun _ => ⟨fun z => ⟨vp_in_nI hi9 (by decide), ?_⟩, fun z => ⟨vp_in_nI hi9 (by decide), ?_⟩⟩⟩
          · cases el with
            | true => exact absurd z (by decide)
            | false =>
              show (b.kd = 1 → 1 = (if decide (b.kd = 1) = true then (1 : Int32) else 0)) ∧ (¬ b.kd = 1 → 0 = (if decide (b.kd = 1) = true then (1 : Int32) else 0))
              exact ⟨fun w => by simp [w], fun w => by simp [w]⟩
          · cases el with
            | false => exact absurd rfl z
            | true =>
              show (b.kd = 2 → 1 = (if decide (b.kd = 2) = true then (1 : Int32) else 0)) ∧ (¬ b.kd = 2 → 0 = (if decide (b.kd = 2) = true then (1 : Int32) else 0))
              exact ⟨fun w => by simp [w], fun w => by simp [w]⟩
      · -- the note 4
        have p46 : I3 m 46 = I m 46 := w3.1.ps
        have q46 : I1 m 46 = I m 46 := w1.1.ps
        rw [p46]
        have hle := ps_le h.1.2.1
        by_cases hp : I m 46 = 0
        · rw [if_pos (hle.mpr hp)]
          exact ⟨fun _ => ⟨w3.p0 hp, ha⟩, fun z => absurd rfl z⟩
        · rw [if_neg (fun z => hp (hle.mp z))]
          have hf := hf (by rw [q46]; exact hp)
          rcases hm : mean E.1 fs (tV D t) with ⟨_ | b, _ | ff⟩ <;> rw [hm] at ha hf
          · obtain rfl : y3 = -1 := ha
            have hf : I3 m 62 = -1 := hf
            rw [if_pos rfl, if_pos hf, hpl w3.1]
            refine ⟨fun z => absurd z (by decide), fun _ => ⟨hvn, _, s_X13_note w3.2.1.1.2.2.2.2.2 (by decide), ?_⟩⟩
            rintro I37 ⟨n37, f37⟩
            have w37 := w3.nt (z := nt 4 (tP D t)) n37 f37
            rw [show zCm E.1 fs (tV D t) (tP D t) = nt 4 (tP D t) by rw [zCm, hm]]
            exact ⟨w37, rfl⟩
          · obtain rfl : y3 = -1 := ha
            obtain ⟨e, hl5⟩ := hf
            rw [if_pos rfl, if_neg (by rw [e]; exact nI_m1 (by omega))]
            refine ⟨fun _ => ⟨?_, rfl⟩, fun z => absurd rfl z⟩
            rw [show zCm E.1 fs (tV D t) (tP D t) = none by rw [zCm, hm]]
            exact w3
          all_goals
            have ha' := ha
            obtain ⟨i, rfl, hi9, g⟩ := ha
            rw [if_neg (nI_m1 (by omega))]
            refine ⟨fun _ => ⟨?_, ha'⟩, fun z => absurd rfl z⟩
            rw [show zCm E.1 fs (tV D t) (tP D t) = none by rw [zCm, hm]]
            exact w3
    · have hG1 := w1.2.1.1.2.1
      have hM := s_X13_meaning hG1 hp (tk := t) (by omega)
      have hnm : I1 (m + 4) t = tV D t := by
        rw [((w1.2.1.1.1.1).2.2.1 t (by omega)).2.1, k2]
        unfold mkV
        rw [if_pos rfl]
      rw [hnm] at hM
      refine ⟨_, hM, ?_⟩
      rintro v18 I18 ⟨s1, n1⟩
      refine ⟨?_, nmM_mk n1⟩
      have := w1.e ((eW.rf w1.2.1.1).mf s1) (Nat.le_refl _) (fun q hq => nomatch hq)
      exact this
end SIM
