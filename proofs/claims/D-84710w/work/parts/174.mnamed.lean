/-! ===== the Model's expressions: NAMEs ===== -/
set_option maxRecDepth 100000
def oCl (Rk : rkT) (m : Nat) (D : tkL) (Γ : List dcl) (fs : List fnc) (c : Bool) (d : Nat) : Prop := ∀ I t o st pe x B tn w wi, o + d = 40 → eE I m D Γ fs c t o st pe x → pe ≤ 10 * o + 10 → st + 4 * (D.length - t) ≤ B → B ≤ 9000 → tn + 1 = t → tK D tn = 2 → tK D t = 62 → (wi = 0 ↔ ¬ w = true) → Rk 6 (nI tn) wi (eP I m D Γ fs c st pe o x B (pCall D (pE' D d) d (tP D tn) (tV D tn) t) (fC Γ fs c w st)) I
def oEl (Rk : rkT) (m : Nat) (D : tkL) (Γ : List dcl) (fs : List fnc) (c : Bool) (d : Nat) : Prop := ∀ I t o st pe x B k q, o + d = 40 → eE I m D Γ fs c t o st pe x → pe ≤ 10 * o + 10 → st + 4 * (D.length - t) ≤ B → B ≤ 9000 → mAtk I m q k → tK D t = 64 → Rk 8 k 0 (eP I m D Γ fs c st pe o x B (pOpen D 64 d t (pAnd (pE' D d (t + 1)) fun i t1 => pNeed D 65 t1 (.ok (i, t1 + 1)))) fun i => (cX Γ fs c none st i ++ [elS q (tP D t)], nX Γ fs c true none i, hnX Γ fs i)) I
/-- what a NAME's operand is -/
def pNm (D : tkL) (d tn t : Nat) : pR := if tK D t = 62 then pCall D (pE' D d) d (tP D tn) (tV D tn) t else pPlace D (pE' D d) d (tP D tn) (tV D tn) t
section MNM
variable {m t o st pe d B tn : Nat} {I J K : xII} {D : tkL} {Γ : List dcl} {fs : List fnc} {c w : Bool} {x : nte} {Rk : rkT}
theorem eW.p0 {t' o' : Nat} {l : List stp} {y y' : nte} {b : Bool} (h : eW I J m D Γ fs c st pe x t' o' l y b) (hp : I m 46 = 0) : eW I J m D Γ fs c st pe x t' o' l y' b := by
  obtain ⟨a1, a2, a3, a4, a5⟩ := h
  refine ⟨a1, ?_, a3, a4, a5⟩
  rw [mN, if_pos hp] at a2 ⊢
  exact a2
/-- a NAME's note: el whether [ follows -/
def z0N (Γ : List dcl) (fs : List fnc) (el : Bool) (nm p : Int32) : nte := match mean Γ fs nm with
  | (none, none) => nt 4 p
  | (none, some _) => nt 6 p
  | (some b, _) => if (b.kd = 2 ↔ el = true) then none else nt 6 p
/-- a NAME's meaning here (in the first pass none) -/
def nmM (I I2 : xII) (m : Nat) (Γ : List dcl) (fs : List fnc) (nm y : Int32) : Prop := mAtk I2 m (mean Γ fs nm).1 y ∧ (¬ I m 46 = 0 → match mean Γ fs nm with
  | (none, none) => I2 m 62 = -1
  | (none, some f) => I2 m 62 = nI f ∧ f < fs.length
  | (some _, _) => True)
theorem nmM_mk {nm v : Int32} (n1 : mMn J m Γ fs nm v) : nmM I J m Γ fs nm v := by
  unfold mMn at n1
  unfold nmM
  split at n1 <;> rename_i hm <;> rw [hm]
  · exact ⟨n1.1, fun _ => n1.2⟩
  · exact ⟨n1.1, fun _ => n1.2⟩
  · obtain ⟨⟨i, a1, a2, -, a4⟩, -⟩ := n1
    exact ⟨⟨i, a1, a2, a4⟩, fun _ => trivial⟩
theorem eP.imp' {B' : Nat} {I : xII} {o : Nat} {r : pR} {F F' : Tr → List stp × nte × Bool} {v : Int32} (h : eP I m D Γ fs c st pe o x B r F v J) (hF : ∀ e t1, r = .ok (e, t1) → (F e).1 = (F' e).1 ∧ (F e).2.1 = (F' e).2.1 ∧ (c = true → (F e).2.2 = (F' e).2.2)) (hB : B ≤ B') : eP I m D Γ fs c st pe o x B' r F' v J := by
  refine ⟨h.1, ?_⟩
  have h2 := h.2
  cases r with
  | error f => exact h2
  | ok et =>
    obtain ⟨e, t1⟩ := et
    obtain ⟨f1, f2, f3⟩ := hF e t1 rfl
    dsimp only at h2 ⊢
    rw [← f1, ← f2]
    exact ⟨h2.1, h2.2.1.cb f3, by have := h2.2.2; omega⟩
theorem pEl_eq {mk : Tr → Tr} {r : pR} : pOpen D 64 d t (pAnd r fun i t1 => pNeed D 65 t1 (.ok (mk i, t1 + 1))) = pAnd (pOpen D 64 d t (pAnd r fun i t1 => pNeed D 65 t1 (.ok (i, t1 + 1)))) fun i t1 => .ok (mk i, t1) := by
  unfold pOpen
  split
  · split
    · rfl
    · cases r with
      | error e => rfl
      | ok et =>
        obtain ⟨e, t1⟩ := et
        show pNeed D 65 t1 _ = pAnd (pNeed D 65 t1 _) _
        unfold pNeed
        split <;> rfl
  · rfl
theorem nX_2 {p q nm : Int32} : nX Γ fs false w none (nd 2 [q, p, nm] lf lf) = z0N Γ fs false nm p := by
  rw [nX, z0N]
  rcases hm : mean Γ fs nm with ⟨_ | b, _ | f⟩
  · rfl
  · rfl
  · by_cases hk : b.kd = 2 <;> simp [hk]
  · by_cases hk : b.kd = 2 <;> simp [hk]
theorem nX_3 {p q nm row : Int32} {i : Tr} : nX Γ fs false w none (nd 3 [q, p, nm, row] i lf) = mnN (z0N Γ fs true nm p) (nX Γ fs false true none i) := by
  rw [nX, z0N]
  rcases hm : mean Γ fs nm with ⟨_ | b, _ | f⟩
  · rfl
  · rfl
  · by_cases hk : b.kd = 2 <;> simp [hk]
  · by_cases hk : b.kd = 2 <;> simp [hk]
theorem cX_3 {p q nm row : Int32} {i : Tr} : cX Γ fs false none st (nd 3 [q, p, nm, row] i lf) = (cX Γ fs false none st i ++ [elS (mean Γ fs nm).1 row]) ++ [(7, 0, 0, 0)] := by
  rw [cX]
  cases hq : (mean Γ fs nm).1 <;> simp [elS]
theorem el_iff {el : Bool} {k : Int32} : ((if el = true then (1 : Int32) else 0) = if k = 2 then 1 else 0) ↔ (k = 2 ↔ el = true) := by
  cases el <;> by_cases hk : k = 2 <;> simp [hk]
theorem mAtk.fr {q : Option dcl} {k : Int32} (h : mAtk I m q k) (hg : eG I J m) : mAtk J m q k := by
  cases q with
  | none => exact h
  | some b =>
    obtain ⟨i, a1, a2, a3⟩ := h
    exact ⟨i, a1, a2, a3.fr hg⟩
theorem nmM_0 (h : mGm I m Γ fs) (hp : I m 46 = 0) {nm : Int32} : nmM I I m Γ fs nm (-1) := by
  refine ⟨?_, fun z => absurd hp z⟩
  rcases h with ⟨-, rfl, rfl⟩ | ⟨g, -⟩
  · rfl
  · rw [hp] at g; exact absurd g (by decide)
theorem s_X13_named (hCl : oCl Rk m D Γ fs false d) (hEl : oEl Rk m D Γ fs false d) (h : eE I m D Γ fs false t o st pe x) (hd : o + d = 40) (hpe : pe ≤ 10 * o + 10) (hB : st + 4 * (D.length - t) + 4 ≤ B) (hB9 : B ≤ 9000) (htn : tn + 1 = t) (h2 : tK D tn = 2) : w_X13_named Rk m (nI tn) (eP I m D Γ fs false st pe o x B (pNm D d tn t) (fX Γ fs false true none st)) I := by
  have hT := h.1
  have hG := h.2.1
  have hD4 := hT.1.1.2.1
  have hfl := hG.fl
  have htl := hT.2.1
  have hvn : vp_in (nI tn) 4002 := vp_in_nI (by omega) (by decide)
  have hxn : ix (nI tn) = tn := nI_clamp (by omega)
  have hnm : I (m + 4) tn = tV D tn := by rw [(hT.1.2.2.1 tn (by omega)).2.1, h2]; unfold mkV; rw [if_pos rfl]
  have hpl : ∀ {J}, eG I J m → J (m + 5) tn = tP D tn := fun hg => (hT.1.fr hg).at (by omega)
  unfold w_X13_named
  rw [hxn]
  refine ⟨_, s_X13_isSign hT (k := 62) (by decide), ?_⟩
  rintro _ _ - ⟨rfl, rfl⟩
  by_cases e62 : tK D t = 62
  · rw [bI, if_pos e62]
    refine ⟨fun q => absurd q (by decide), fun _ => ?_⟩
    rw [show pNm D d tn t = pCall D (pE' D d) d (tP D tn) (tV D tn) t from if_pos e62]
    refine ⟨_, hCl I t o st pe x B tn true 1 hd h hpe (by omega) hB9 htn h2 e62 (by decide), ?_⟩
    rintro v K - hP
    exact hP.imp' (fun e t1 he => ⟨rfl, rfl, fun z => nomatch z⟩) (Nat.le_refl _)
  · rw [bI, if_neg e62]
    refine ⟨fun _ => ?_, fun q => absurd rfl q⟩
    rw [show pNm D d tn t = pPlace D (pE' D d) d (tP D tn) (tV D tn) t from if_neg e62]
    refine ⟨fun y2 I2 => eW I I2 m D Γ fs false st pe x t o [] none false ∧ nmM I I2 m Γ fs (tV D tn) y2, fun y2 I2 hJ2 => ?_, fun hp => ⟨eW.rf h, nmM_0 hG hp⟩, fun hp => ?_⟩
    · obtain ⟨w2, ha, hf⟩ := hJ2
      refine ⟨_, s_X13_isSign w2.2.1.1 (k := 64) (by decide), ?_⟩
      rintro _ _ - ⟨rfl, rfl⟩
      generalize hel : decide (tK D t = 64) = el
      rw [show bI (tK D t = 64) = (if el = true then 1 else 0) by rw [← hel, bI]; simp]
      refine ⟨fun I4 => eW I I4 m D Γ fs false st pe x t o [] (z0N Γ fs el (tV D tn) (tP D tn)) false ∧ mAtk I4 m (mean Γ fs (tV D tn)).1 y2, fun I4 hJ4 => ?_, ?_⟩
      · obtain ⟨w4, ha4⟩ := hJ4
        cases el with
        | false =>
          have e64 : ¬ tK D t = 64 := of_decide_eq_false hel
          rw [if_neg Bool.false_ne_true]
          refine ⟨fun _ => ?_, fun q => absurd rfl q⟩
          rw [pPlace, if_neg e64]
          have fin : ∀ (w a : Int32), cX Γ fs false none st (nd 2 [tP D tn, tP D tn, tV D tn] lf lf) = [(w, a, 0, 0)] → ¬ (w = 5 ∨ w = 6) → ∃ R5 : Int32 → xII → Prop, w_X13_step m w a 0 R5 I4 ∧ ∀ (v5 : Int32) (I5 : xII), R5 v5 I5 → eP I m D Γ fs false st pe o x B (.ok (nd 2 [tP D tn, tP D tn, tV D tn] lf lf, t)) (fX Γ fs false true none st) 1 I5 := by
            intro w a hc hw
            refine ⟨_, s_X13_step (s := st) w4.2.1.2.2.2.1 (by omega), ?_⟩
            rintro _ I5 ⟨rfl, s0, s1, s2, s3, s4, -⟩
            have w5 := w4.st1 (l := []) (w := w) (a := a) (d := 0) (v := 0) s0 s1 s2 s3 s4 (fun z => absurd z hw)
            refine ⟨w5.h, rfl, ?_, ?_⟩
            · unfold fX
              dsimp only
              rw [hc, nX_2]
              exact w5.cb fun z => nomatch z
            · unfold fX
              dsimp only
              rw [hc]
              show st + 1 + 4 * (D.length - t) ≤ B
              omega
          cases hq : (mean Γ fs (tV D tn)).1 with
          | none =>
            rw [hq] at ha4
            obtain rfl : y2 = -1 := ha4
            refine ⟨fun _ => fin 3 0 ?_ (by decide), fun z => absurd rfl z⟩
            rw [cX, hq]
            rfl
          | some b =>
            rw [hq] at ha4
            obtain ⟨i, rfl, hi, g⟩ := ha4
            refine ⟨fun z => absurd z (nI_m1 (by omega)), fun _ => ⟨vp_in_nI hi (by decide), ?_⟩⟩
            rw [show ix (nI i) = i from nI_clamp (by omega), g.2.1, g.2.2.2.2.1, g.2.2.2.2.2.2.2]
            refine ⟨fun e0 => fin 0 b.ce ?_ (by decide), fun e0 => fin (if b.lo = 0 then 3 else 1) b.ce ?_ (by split <;> decide)⟩
            · rw [cX, hq]
              dsimp only
              rw [if_pos e0]
            · rw [cX, hq]
              dsimp only
              rw [if_neg e0]
              rfl
        | true =>
          have e64 : tK D t = 64 := of_decide_eq_true hel
          rw [if_pos rfl]
          refine ⟨fun q => absurd q (by decide), fun _ => ?_⟩
          rw [pPlace, if_pos e64, pEl_eq (mk := fun i => nd 3 [tP D tn, tP D tn, tV D tn, tP D t] i lf)]
          refine ⟨_, hEl I4 t o st pe _ (B - 4) y2 _ hd w4.2.1 hpe (by omega) (by omega) ha4 e64, ?_⟩
          rintro v9 I9 - ⟨g9, r9⟩
          generalize (pOpen D 64 d t (pAnd (pE' D d (t + 1)) fun i t1 => pNeed D 65 t1 (.ok (i, t1 + 1)))) = r at r9 ⊢
          cases r with
          | error f =>
            obtain ⟨rfl, x9⟩ := r9
            refine ⟨fun _ => ?_, fun q => absurd rfl q⟩
            exact eP.er (w4.h.tr g9) x9 rfl
          | ok et =>
            obtain ⟨i, t1⟩ := et
            obtain ⟨rfl, w9, b9⟩ := r9
            refine ⟨fun q => absurd q (by decide), fun _ => ?_⟩
            have w10 := w4.tr w9
            have hl1 := w10.2.1.1.2.1
            dsimp only at b9
            refine ⟨_, s_X13_step (s := st + (cX Γ fs false none st i ++ [elS (mean Γ fs (tV D tn)).1 (tP D t)]).length) w10.2.1.2.2.2.1 (by omega), ?_⟩
            rintro _ I10 ⟨rfl, s0, s1, s2, s3, s4, -⟩
            have w11 := w10.st1 (l := cX Γ fs false none st i ++ [elS (mean Γ fs (tV D tn)).1 (tP D t)]) (w := 7) (a := 0) (d := 0) (v := 0) s0 s1 s2 s3 s4 (fun z => absurd z (by decide))
            refine ⟨w11.h, rfl, ?_, ?_⟩
            · unfold fX
              dsimp only
              rw [cX_3, nX_3]
              exact w11.cb fun z => nomatch z
            · unfold fX
              dsimp only
              rw [cX_3, List.length_append (bs := [(7, 0, 0, 0)])]
              show st + (_ + 1) + 4 * (D.length - t1) ≤ B
              omega
      · have nn : ∀ k, 0 < k → (¬ I m 46 = 0 → nt k (tP D tn) = z0N Γ fs el (tV D tn) (tP D tn)) → ∃ R : xII → Prop, w_X13_note m k (I2 (m + 5) tn) R I2 ∧ ∀ I12, R I12 → (eW I I12 m D Γ fs false st pe x t o [] (z0N Γ fs el (tV D tn) (tP D tn)) false ∧ mAtk I12 m (mean Γ fs (tV D tn)).1 y2) := by
          intro k hk hz
          rw [hpl w2.1]
          refine ⟨_, s_X13_note w2.2.1.2.2.2.2.2 hk, ?_⟩
          rintro I12 ⟨n12, f12⟩
          have w12 := w2.nt (z := nt k (tP D tn)) n12 f12
          refine ⟨?_, ha.fr n12.g⟩
          by_cases hp : I m 46 = 0
          · exact w12.p0 hp
          · rw [← hz hp]
            exact w12
        rcases hm : mean Γ fs (tV D tn) with ⟨_ | b, _ | f⟩ <;> rw [hm] at ha hf
        · obtain rfl : y2 = -1 := ha
          rw [hm] at nn
          refine ⟨fun z => ⟨fun _ => ⟨hvn, nn 6 (by decide) fun hp => ?_⟩, fun z => absurd rfl z⟩, fun z => ⟨hvn, nn 4 (by decide) fun hp => ?_⟩⟩
          · rw [if_pos rfl, if_pos (hf hp)] at z
            exact absurd z (by decide)
          · rw [z0N, hm]
        · obtain rfl : y2 = -1 := ha
          rw [hm] at nn
          refine ⟨fun z => ⟨fun _ => ⟨hvn, nn 6 (by decide) fun hp => ?_⟩, fun z => absurd rfl z⟩, fun z => ⟨hvn, nn 4 (by decide) fun hp => ?_⟩⟩
          · rw [z0N, hm]
          · obtain ⟨e, hl⟩ := hf hp
            rw [if_pos rfl, if_neg (by rw [e]; exact nI_m1 (by omega))] at z
            exact absurd rfl z
        all_goals
          obtain ⟨i, rfl, hi, g⟩ := ha
          rw [hm] at nn
          refine ⟨fun _ => ⟨fun z => absurd z (nI_m1 (by omega)), fun _ => ⟨vp_in_nI hi (by decide), ?_⟩⟩, fun z => absurd (if_neg (nI_m1 (by omega))) z⟩
          rw [show ix (nI i) = i from nI_clamp (by omega), g.2.1]
          refine ⟨fun e => ⟨?_, ⟨i, rfl, hi, g⟩⟩, fun e => ⟨hvn, nn 6 (by decide) fun hp => ?_⟩⟩
          · rw [show z0N Γ fs el (tV D tn) (tP D tn) = none by rw [z0N, hm]; exact if_pos (el_iff.mp e)]
            exact w2
          · rw [z0N, hm]
            exact (if_neg fun z => e (el_iff.mpr z)).symm
    · have hM := s_X13_meaning hG hp (tk := tn) (by omega)
      rw [hnm] at hM
      refine ⟨_, hM, ?_⟩
      rintro v18 I18 ⟨s1, n1⟩
      exact ⟨(eW.rf h).mf s1, nmM_mk n1⟩
end MNM
