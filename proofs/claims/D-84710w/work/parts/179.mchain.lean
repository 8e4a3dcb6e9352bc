/-! ===== the Model's chains ===== -/
set_option maxRecDepth 100000
def oOp (Rk : rkT) (m : Nat) (D : tkL) (Γ : List dcl) (fs : List fnc) (c : Bool) (d : Nat) : Prop := ∀ I t o st pe x B, o + d = 40 → eE I m D Γ fs c t o st pe x → pe ≤ 10 * o + 10 → st + 4 * (D.length - t) ≤ B → B ≤ 9000 → Rk 2 0 0 (eP I m D Γ fs c st pe o x B (pAhead D (pE' D d) d t) (fX Γ fs c true none st)) I
def oCh (Rk : rkT) (m : Nat) (D : tkL) (Γ : List dcl) (fs : List fnc) (c : Bool) (d : Nat) : Prop := ∀ I t o st pe x B, o + d = 40 → eE I m D Γ fs c t o st pe x → pe ≤ 10 * o → st + 4 * (D.length - t) ≤ B → B ≤ 9000 → Rk 1 0 0 (eP I m D Γ fs c st pe o x B (pRow D (pE' D d) d 10 t) (fX Γ fs c true none st)) I
/-- a chain under way -/
def chS (I J : xII) (m : Nat) (D : tkL) (Γ : List dcl) (fs : List fnc) (c : Bool) (st pe o : Nat) (x : nte) (B : Nat) (s : cSt) (e : Tr) (tk : Nat) : Prop := eV I J m D Γ fs c st pe (pe + s.length) x tk o (chC Γ fs c st s ++ cX Γ fs c none (st + (chC Γ fs c st s).length) e) (mnN (chN Γ fs c s) (nX Γ fs c true none e)) (chH Γ fs s || hnX Γ fs e) ∧ stk J m pe st Γ fs c s ∧ stkO s ∧ st + (chC Γ fs c st s ++ cX Γ fs c none (st + (chC Γ fs c st s).length) e).length + 3 * s.length + 4 * (D.length - tk) ≤ B
section MCH
variable {m t o st pe d B : Nat} {I J K : xII} {D : tkL} {Γ : List dcl} {fs : List fnc} {c : Bool} {x : nte} {Rk : rkT} {s : cSt}
theorem nX_mk {r act : Int32} {a e : Tr} : nX Γ fs c true none (pMk r act a e) = mnN (nX Γ fs c true none a) (nX Γ fs c true none e) := by
  unfold pMk
  split <;> rfl
theorem hnX_mk {r act : Int32} {a e : Tr} : hnX Γ fs (pMk r act a e) = (hnX Γ fs a || hnX Γ fs e) := by
  unfold pMk
  split <;> rfl
theorem s_X13_chain (hOp : oOp Rk m D Γ fs c d) (h : eE I m D Γ fs c t o st pe x) (hd : o + d = 40) (hpe : pe ≤ 10 * o) (hB : st + 4 * (D.length - t) ≤ B) (hB9 : B ≤ 9000) : w_X13_chain Rk m (eP I m D Γ fs c st pe o x B (pRow D (pE' D d) d 10 t) (fX Γ fs c true none st)) I := by
  have hT := h.1
  have hwD := hT.1.1
  have hD4 := hwD.2.1
  have htl := hT.2.1
  have ho := hT.2.2.2.2.1
  have h0 := hwD.1
  have hI70 : I m 70 = nI pe := h.2.2.2.2.1
  have hUp := fun t (ht : t < D.length) => pE'_up hwD d t ht
  unfold w_X13_chain
  refine ⟨_, hOp I t o st pe x B hd h (by omega) hB hB9, ?_⟩
  rintro v1 I1 - ⟨g1, r1⟩
  rw [pRow_chT]
  generalize hr0 : pAnd (pAhead D (pE' D d) d t) (chT D (pE' D d) d [] 0) = r0
  refine ⟨fun n2 y2 I2 => (y2 = 0 ∧ ∃ f, r0 = .error f ∧ eH I I2 m st pe ∧ eX I2 m f) ∨ (y2 = 1 ∧ ∃ s e tk, n2 = D.length - tk ∧ tk < D.length ∧ r0 = chT D (pE' D d) d s 0 e tk ∧ chS I I2 m D Γ fs c st pe o x B s e tk), ?_, ?_⟩
  · cases hr : pAhead D (pE' D d) d t with
    | error f =>
      rw [hr] at r1 hr0
      exact ⟨0, Or.inl ⟨r1.1, f, hr0.symm, g1, r1.2⟩⟩
    | ok et =>
      obtain ⟨e, t1⟩ := et
      rw [hr] at r1 hr0
      obtain ⟨rfl, w1, b1⟩ := r1
      exact ⟨_, Or.inr ⟨rfl, [], e, t1, rfl, w1.2.1.1.2.1, hr0.symm, w1, trivial, trivial, b1⟩⟩
  · rintro n2 y2 I2 (⟨rfl, f, hf, g2, x2⟩ | ⟨rfl, s2, e2, tk, rfl, htk, hr2, c2⟩)
    · refine ⟨fun _ => ?_, fun q => absurd rfl q⟩
      rw [hf]
      exact eP.er g2 x2 rfl
    refine ⟨fun q => absurd q (by decide), fun _ => ?_⟩
    refine ⟨_, s_X13_level c2.1.2.1.1, ?_⟩
    rintro _ _ ⟨rfl, rfl⟩
    refine ⟨fun n4 I4 => ∃ s e k, n4 = s.length ∧ r0 = chT D (pE' D d) d s k e tk ∧ (∀ l, l ≤ 9 → lvK (tK D tk) = nI l → k ≤ 9 - l) ∧ chS I I4 m D Γ fs c st pe o x B s e tk, ⟨_, s2, e2, 0, rfl, hr2, fun _ _ _ => Nat.zero_le _, c2⟩, ?_⟩
    clear hr2 c2
    rintro n4 I4 ⟨s, e, k, rfl, hr4, hk4, v4, k4, o4, b4⟩
    have hsl := stkO_len o4
    have h70 : I4 m 70 = nI (pe + s.length) := v4.2.1.2.2.2.2.1
    have hT4 := v4.2.1.1
    have hs10 : s.length ≤ 10 := by
      rcases s with _ | ⟨⟨l, a, act⟩, s⟩
      · exact Nat.zero_le _
      · have := o4.2.1
        have : ((l, a, act) :: s).length ≤ l + 1 := hsl
        omega
    refine ⟨(∀ l, l ≤ 9 → lvK (tK D tk) = nI l → lvS s ≤ l) ∧ (lvK (tK D tk) = -1 → s = []), fun hJ => ?_, ?_⟩
    · obtain ⟨j1, j2⟩ := hJ
      refine ⟨fun e3 => ?_, fun e3 => ?_⟩
      · obtain rfl := j2 e3
        rw [chT_end h0 e3] at hr4
        rw [hr4]
        exact ⟨v4.h, rfl, v4, b4⟩
      · obtain ⟨l, hl, hlv⟩ : ∃ l, l ≤ 9 ∧ lvK (tK D tk) = nI l := (lvK_or (tK D tk)).resolve_left e3
        have hsl' := j1 l hl hlv
        have hkl := hk4 l hl hlv
        rw [chT_push hwD hUp htk hl hlv hsl' hkl] at hr4
        have h40 := lvK_sg (v := tV D tk) hl hlv
        have hact := (act_iff hl).mpr hlv
        have ht1 := hwD.nx htk (act_n hact).1 (act_n hact).2
        have hI4 : I4 (m + 4) tk = mkV (tK D tk) (tV D tk) := (hT4.1.2.2.1 tk ht1).2.1
        rw [hT4.ix, h70, show ix (nI (pe + s.length)) = pe + s.length from nI_clamp (by omega), hI4, hlv]
        refine ⟨hT4.vp, vp_in_nI (by omega) (by decide), ?_⟩
        rintro I8 hI8 I9 hI9
        have f9 : ∀ a k, ¬ (m + 36 ≤ a ∧ a ≤ m + 38 ∧ pe + s.length ≤ k) → I9 a k = I4 a k := fun a k q => by
          rw [hI9, gX, if_neg (by omega), hI8, gX, if_neg (by omega)]
        have g36 : I9 (m + 36) (pe + s.length) = mkV (tK D tk) (tV D tk) := by
          rw [hI9, gX, if_neg (by omega), hI8, xup_s]
        have g37 : I9 (m + 37) (pe + s.length) = nI l := by rw [hI9, xup_s]
        clear hI9 hI8
        have v9 := v4.sp (K := I9) (p3 := pe + s.length) (fun a k q1 q2 => f9 a k (by omega)) (by rw [f9 _ _ (by omega)]; exact h70)
        have k9 : stk I9 m pe st Γ fs c s := k4.cong fun a k q1 q2 q3 q4 => f9 a k (by omega)
        clear f9
        generalize hAB : chC Γ fs c st s ++ cX Γ fs c none (st + (chC Γ fs c st s).length) e = AB at *
        have hw : (if nI l = 0 then (14 : Int32) else 13) = (if l = 0 then 14 else 13) := by
          by_cases q : l = 0
          · subst q; rfl
          · rw [if_neg q, if_neg (show ¬ nI l = 0 from nI_ne (b := 0) (by omega) (by omega) q)]
        refine ⟨fun y I10 => eV I I10 m D Γ fs c st pe (pe + s.length) x tk o (AB ++ (if l ≤ 1 then [((if l = 0 then 14 else 13 : Int32), (0 : Int32), (0 : Int32), (0 : Int32))] else [])) (mnN (chN Γ fs c s) (nX Γ fs c true none e)) (chH Γ fs s || hnX Γ fs e) ∧ stk I10 m pe st Γ fs c s ∧ I10 (m + 36) (pe + s.length) = mkV (tK D tk) (tV D tk) ∧ I10 (m + 37) (pe + s.length) = nI l ∧ (l ≤ 1 → y = nI (st + AB.length)), fun y10 I10 hJ10 => ?_, fun e1 => ?_, fun e1 => ?_⟩
        · obtain ⟨v10, k10, p36, p37, p38⟩ := hJ10
          intro I11 hI11 I12 hI12 I13 hI13
          have hT10 := v10.2.1.1
          have f12 : ∀ a k, ¬ (a = m ∧ k = 70) → ¬ (a = m + 38 ∧ k = pe + s.length) → I12 a k = I10 a k := fun a k q1 q2 => by
            rw [hI12, gX, if_neg q1, hI11, gX, if_neg q2]
          have h12 : I12 m 70 = nI (pe + (s.length + 1)) := by rw [hI12, xup_s, v10.2.1.2.2.2.2.1, nI_up]; rfl
          have v12 := v10.sp (K := I12) (p3 := pe + (s.length + 1)) (fun a k q1 q2 => f12 a k q1 (by omega)) h12
          have g38 : I12 (m + 38) (pe + s.length) = y10 := by rw [hI12, gX, if_neg (by omega), hI11, xup_s]
          obtain ⟨T13, q13⟩ := v12.2.1.1.on ht1
          have hI13' : I13 = xup I12 m 42 (I12 m 42 + 1) := by rw [hI13, f12 m 42 (by omega) (by omega)]
          rw [← hI13'] at T13 q13
          have v13 := v12.tr (by omega) ((eW.rf v12.2.1).mv q13 T13)
          rw [mnN_n, Bool.or_false, List.append_nil] at v13
          have f13 : ∀ a k, m + 36 ≤ a → a ≤ m + 38 → I13 a k = I12 a k := fun a k q1 q2 => q13 a k (by omega)
          have k13 : stk I13 m pe st Γ fs c ((l, e, f_X1_actOf (tK D tk) (nI l)) :: s) := by
            refine ⟨k10.cong fun a k q1 q2 q3 q4 => ?_, ?_, fun q => ?_, fun q => ?_⟩
            · rw [f13 a k q1 q2, f12 a k (by omega) (by omega)]
            · rw [f13 _ _ (by omega) (by omega), f12 _ _ (by omega) (by omega)]
              exact p37
            · rw [f13 _ _ (by omega) (by omega), f12 _ _ (by omega) (by omega), p36]
              exact h40.2 q
            · rw [f13 _ _ (by omega) (by omega), g38, hAB]
              exact p38 q
          clear hI13' hI13 hI12 hI11
          have hC : chC Γ fs c st ((l, e, f_X1_actOf (tK D tk) (nI l)) :: s) = AB ++ (if l ≤ 1 then [((if l = 0 then 14 else 13 : Int32), (0 : Int32), (0 : Int32), (0 : Int32))] else []) := by rw [chC, hAB]
          rw [← hC] at v13
          have hCl : (chC Γ fs c st ((l, e, f_X1_actOf (tK D tk) (nI l)) :: s)).length ≤ AB.length + 1 := by
            rw [hC, List.length_append]
            split
            · exact Nat.le_refl _
            · exact Nat.le_succ _
          refine ⟨_, hOp I13 (tk + 1) o _ _ _ (B - 3 * (s.length + 1)) hd v13.2.1 (by omega) (by omega) (by omega), ?_⟩
          rintro v14 I14 - ⟨g14, r14⟩
          cases hr : pAhead D (pE' D d) d (tk + 1) with
          | error f =>
            rw [hr] at r14 hr4
            exact ⟨0, by omega, Or.inl ⟨r14.1, f, hr4, v13.h.tr g14, r14.2⟩⟩
          | ok et =>
            obtain ⟨e14, t14⟩ := et
            rw [hr] at r14 hr4
            obtain ⟨rfl, w14, b14⟩ := r14
            have hu := pAhead_up hwD hUp ht1 _ _ hr
            refine ⟨D.length - t14, by omega, Or.inr ⟨rfl, (l, e, f_X1_actOf (tK D tk) (nI l)) :: s, e14, t14, rfl, hu.2, hr4, v13.tr (by omega) w14, k13.cong fun a k q1 q2 q3 q4 => w14.2.2.1 a k (Or.inr ⟨q1, q2, q4⟩), ⟨hsl', hl, o4⟩, ?_⟩⟩
            have b15 : st + (chC Γ fs c st ((l, e, f_X1_actOf (tK D tk) (nI l)) :: s)).length + (cX Γ fs c none (st + (chC Γ fs c st ((l, e, f_X1_actOf (tK D tk) (nI l)) :: s)).length) e14).length + 4 * (D.length - t14) ≤ B - 3 * (s.length + 1) := b14
            rw [List.length_append]
            show _ + 3 * (s.length + 1) + _ ≤ B
            omega
        · have hl1 : l ≤ 1 := (nI_leI (b := 1) (by omega) (by omega)).mp e1
          rw [hw]
          refine ⟨_, s_X13_step (s := st + AB.length) v9.2.1.2.2.2.1 (by omega), ?_⟩
          rintro _ I15 ⟨rfl, r0', r1', r2', r3', r4', -⟩
          have v15 := v9.st1 (by omega) (w := if l = 0 then 14 else 13) (a := 0) (d := 0) (v := 0) r0' r1' r2' r3' r4' (fun z => absurd z (by split <;> decide))
          refine ⟨?_, k9.cong fun a k q1 q2 _ _ => r1' a k (by omega) (by omega), ?_, ?_, fun _ => rfl⟩
          · rw [if_pos hl1]
            exact v15
          · rw [r1' _ _ (by omega) (by omega)]
            exact g36
          · rw [r1' _ _ (by omega) (by omega)]
            exact g37
        · have hl1 : ¬ l ≤ 1 := fun z => e1 ((nI_leI (b := 1) (by omega) (by omega)).mpr z)
          refine ⟨?_, k9, g36, g37, fun z => absurd z hl1⟩
          rw [if_neg hl1, List.append_nil]
          exact v9
    · rw [h70, hI70, nI_leI (by omega) (by omega)]
      refine ⟨fun q => ?_, fun q => ?_⟩
      · obtain rfl : s = [] := List.length_eq_zero_iff.mp (by omega)
        exact ⟨fun _ _ _ => Nat.zero_le _, fun _ => rfl⟩
      · rcases s with _ | ⟨⟨l', a, act⟩, s⟩
        · exact absurd (Nat.le_refl _) q
        have hlc : ((l', a, act) :: s).length = s.length + 1 := rfl
        have hl9 := o4.2.1
        rw [hlc] at b4 hs10
        rw [hlc, ← Nat.add_assoc, nI_m, show ix (nI (pe + s.length)) = pe + s.length from nI_clamp (by omega), k4.2.1]
        refine ⟨vp_in_nI (by omega) (by decide), fun e5 => ⟨fun l hl hlv => ?_, fun hlv => ?_⟩, fun e5 => ?_⟩
        · rw [hlv, nI_ltI (by omega) (by omega)] at e5
          exact e5
        · rw [hlv] at e5
          exact absurd (Int32.lt_trans e5 (by decide : (-1 : Int32) < 0)) (nI_n0 (by omega))
        · refine ⟨_, s_X13_binds v4 k4 hl9 (by omega) (by omega), ?_⟩
          rintro I17 ⟨v17, k17⟩
          have hno : ∀ r, l' < r → r ≤ 9 → ¬ lvK (tK D tk) = nI r := fun r q1 q2 z => e5 (by rw [z]; exact (nI_ltI (by omega) (by omega)).mpr q1)
          refine ⟨s.length, by omega, s, pMk (nI l') act a e, 9 - l', rfl, ?_, fun l hl hlv => ?_, ?_, k17, o4.2.2, ?_⟩
          · rw [hr4, chT_pop h0 hl9 hno]
          · rcases Nat.lt_or_ge l' l with z | z
            · exact absurd hlv (hno l z hl)
            · omega
          · rw [nX_mk, hnX_mk, ← mnN_as, ← Bool.or_assoc]
            exact v17
          · rcases Nat.lt_or_ge l' 2 with z | z
            · have e9 := congrArg List.length (bind_lo (Γ := Γ) (fs := fs) (c := c) (st := st) (s := s) (a := a) (e := e) (act := act) (by omega : l' ≤ 1))
              have e8 : (chC Γ fs c st ((l', a, act) :: s)).length = (chC Γ fs c st s ++ cX Γ fs c none (st + (chC Γ fs c st s).length) a).length + 1 := by
                rw [chC, if_pos (by omega), List.length_append]
                rfl
              simp only [List.length_append, List.length_cons, List.length_nil] at e9 e8 b4 ⊢
              omega
            · have e9 := congrArg List.length (bind_hi (Γ := Γ) (fs := fs) (c := c) (st := st) (s := s) (a := a) (e := e) (act := act) z hl9)
              simp only [List.length_append, List.length_cons, List.length_nil] at e9 b4 ⊢
              omega
end MCH
