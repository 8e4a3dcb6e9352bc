/-! ===== the Model's statements: what is set, calls ===== -/
set_option maxRecDepth 100000
/-- the end of simple (printed by tools/gtl.py) -/
def tlF (m : Nat) (sg s1 s2 : Int32) (ldF : (xII → Prop) → xII → Prop) (Q : Int32 → xII → Prop) (I7 : xII) : Prop := vp_in (I7 m 42) 4002 ∧ (∃ J12 : Int32 → Prop, (∀ (y12_s0 : Int32), J12 y12_s0 → ((y12_s0 = 0 → ∃ R27 : Int32 → xII → Prop, w_X13_fails m (2 : Int32) R27 I7 ∧ (∀ (v27 : Int32) (I27 : xII), (v27 = 0 ∨ v27 = 1) → R27 v27 I27 → (Q v27 I27))) ∧ (¬ y12_s0 = 0 → ∀ I13 : xII, I13 = xup I7 m 42 ((I7 m 42) + (1 : Int32)) → (∃ J14 : xII → Prop, (∀ (I14 : xII), J14 I14 → ((sg = (12 : Int32) → ∃ R15 : Int32 → xII → Prop, w_X13_step m (0 : Int32) (1 : Int32) (0 : Int32) R15 I14 ∧ (∀ (v15 : Int32) (I15 : xII), R15 v15 I15 → (∃ R16 : Int32 → xII → Prop, w_X13_step m (10 : Int32) (38 : Int32) (0 : Int32) R16 I15 ∧ (∀ (v16 : Int32) (I16 : xII), R16 v16 I16 → (∃ R17 : Int32 → xII → Prop, w_X13_step m s1 s2 (0 : Int32) R17 I16 ∧ (∀ (v17 : Int32) (I17 : xII), R17 v17 I17 → (Q (1 : Int32) I17))))))) ∧ (¬ sg = (12 : Int32) → ((sg = (13 : Int32) → ∃ R23 : Int32 → xII → Prop, w_X13_step m (0 : Int32) (1 : Int32) (0 : Int32) R23 I14 ∧ (∀ (v23 : Int32) (I23 : xII), R23 v23 I23 → (∃ R24 : Int32 → xII → Prop, w_X13_step m (10 : Int32) (39 : Int32) (0 : Int32) R24 I23 ∧ (∀ (v24 : Int32) (I24 : xII), R24 v24 I24 → (∃ R25 : Int32 → xII → Prop, w_X13_step m s1 s2 (0 : Int32) R25 I24 ∧ (∀ (v25 : Int32) (I25 : xII), R25 v25 I25 → (Q (1 : Int32) I25))))))) ∧ (¬ sg = (13 : Int32) → ∃ R18 : Int32 → xII → Prop, g_X13_expression m R18 I14 ∧ (∀ (v18 : Int32) (I18 : xII), (v18 = 0 ∨ v18 = 1) → R18 v18 I18 → (((v18 = 0 → Q (0 : Int32) I18) ∧ (¬ v18 = 0 → ∃ J19 : xII → Prop, (∀ (I19 : xII), J19 I19 → ∃ R20 : Int32 → xII → Prop, w_X13_step m s1 s2 (0 : Int32) R20 I19 ∧ (∀ (v20 : Int32) (I20 : xII), R20 v20 I20 → (Q (1 : Int32) I20))) ∧ ((sg = (32 : Int32) → J19 I18) ∧ (¬ sg = (32 : Int32) → ∃ J21 : Int32 → Prop, (∀ (y21_s0 : Int32), J21 y21_s0 → ∃ R22 : Int32 → xII → Prop, w_X13_step m (10 : Int32) y21_s0 (0 : Int32) R22 I18 ∧ (∀ (v22 : Int32) (I22 : xII), R22 v22 I22 → (J19 I22))) ∧ ((sg = (4 : Int32) → J21 (38 : Int32)) ∧ (¬ sg = (4 : Int32) → ((sg = (5 : Int32) → J21 (39 : Int32)) ∧ (¬ sg = (5 : Int32) → ((sg = (6 : Int32) → J21 (40 : Int32)) ∧ (¬ sg = (6 : Int32) → ((sg = (7 : Int32) → J21 (41 : Int32)) ∧ (¬ sg = (7 : Int32) → ((sg = (8 : Int32) → J21 (42 : Int32)) ∧ (¬ sg = (8 : Int32) → ((sg = (9 : Int32) → J21 (35 : Int32)) ∧ (¬ sg = (9 : Int32) → ((sg = (10 : Int32) → J21 (33 : Int32)) ∧ (¬ sg = (10 : Int32) → ((sg = (11 : Int32) → J21 (34 : Int32)) ∧ (¬ sg = (11 : Int32) → ((sg = (2 : Int32) → J21 (20 : Int32)) ∧ (¬ sg = (2 : Int32) → ((sg = (3 : Int32) → J21 (21 : Int32)) ∧ (¬ sg = (3 : Int32) → J21 (1 : Int32)))))))))))))))))))))))))))))))) ∧ ((sg = (32 : Int32) → J14 I13) ∧ (¬ sg = (32 : Int32) → ldF J14 I13)))))) ∧ ((sg = (32 : Int32) → J12 (1 : Int32)) ∧ (¬ sg = (32 : Int32) → ((sg = (12 : Int32) → J12 (1 : Int32)) ∧ (¬ sg = (12 : Int32) → ((sg = (13 : Int32) → J12 (1 : Int32)) ∧ (¬ sg = (13 : Int32) → ((sg = 0 → J12 (1 : Int32)) ∧ (¬ sg = 0 → ((sg = (2 : Int32) → J12 (1 : Int32)) ∧ (¬ sg = (2 : Int32) → ((sg = (3 : Int32) → J12 (1 : Int32)) ∧ (¬ sg = (3 : Int32) → ((sg < (4 : Int32) → J12 (0 : Int32)) ∧ (¬ sg < (4 : Int32) → (((12 : Int32) ≤ sg → J12 (0 : Int32)) ∧ (¬ (12 : Int32) ≤ sg → J12 (1 : Int32))))))))))))))))))
def setK : List Int32 := [72, 52, 53, 40, 41, 42, 44, 45, 46, 47, 48, 49, 50, 51]
/-- signs that set, as House and Model have them -/
def stV (k s : Int32) : Prop := (k = 72 ∧ s = 32) ∨ (k = 52 ∧ s = 12) ∨ (k = 53 ∧ s = 13) ∨ (k = 40 ∧ s = 0) ∨ (k = 41 ∧ s = 2) ∨ (k = 42 ∧ s = 3) ∨ (k = 44 ∧ s = 4) ∨ (k = 45 ∧ s = 5) ∨ (k = 46 ∧ s = 6) ∨ (k = 47 ∧ s = 7) ∨ (k = 48 ∧ s = 8) ∨ (k = 49 ∧ s = 9) ∨ (k = 50 ∧ s = 10) ∨ (k = 51 ∧ s = 11)
def pSt (D : tkL) (d : Nat) (pl : Tr) (t1 : Nat) : pR := if tK D t1 = 52 then .ok (nd 30 [0] pl lf, t1 + 1) else if tK D t1 = 53 then .ok (nd 30 [1] pl lf, t1 + 1) else if (-1 : Int32) ≤ actS (tK D t1) then pAnd (pE D d (t1 + 1)) fun e t2 => .ok (nd 30 [actS (tK D t1)] pl e, t2) else .error (pWr D t1)
theorem isHo_0 {w a d : Int32} : isHo 1 (w, a, d, 0) = false ∧ isHo 2 (w, a, d, 0) = false := ⟨decide_eq_false fun z => absurd z.2 (show ¬ (0 : Int32) = 1 by decide), decide_eq_false fun z => absurd z.2 (show ¬ (0 : Int32) = 2 by decide)⟩
theorem i32_rng {v : Int32} {a n : Nat} (ha : a + n < 2147483648) (h1 : nI a ≤ v) (h2 : v < nI (a + n)) : ∃ i, i < n ∧ v = nI (a + i) := by
  have h1' := Int32.le_iff_toInt_le.mp h1
  have h2' := Int32.lt_iff_toInt_lt.mp h2
  rw [nI_toInt (by omega)] at h1' h2'
  refine ⟨v.toInt.toNat - a, by omega, Int32.toInt_inj.mp ?_⟩
  rw [nI_toInt (by omega)]
  omega
theorem actS_no {k : Int32} (h : ¬ k ∈ setK) : ¬ (-1 : Int32) ≤ actS k := by
  unfold setK at h
  simp only [List.mem_cons, List.not_mem_nil, or_false, not_or] at h
  obtain ⟨h1, h2, h3, h4, h5, h6, h7, h8, h9, h10, h11, h12, h13, h14⟩ := h
  unfold actS
  rw [if_neg h1, if_neg h4, if_neg h5, if_neg h6]
  split
  · decide
  · split
    · decide
    · rename_i a1 a2
      obtain ⟨i, hi, rfl⟩ := i32_rng (v := k) (a := 44) (n := 8) (by decide) (Int32.not_lt.mp a1) (by
        have := Int32.not_lt.mp a2
        have := Int32.le_iff_toInt_le.mp this
        refine Int32.lt_iff_toInt_lt.mpr ?_
        rw [show (51 : Int32).toInt = 51 from rfl] at this
        rw [nI_toInt (by decide)]
        omega)
      exfalso
      have : i = 0 ∨ i = 1 ∨ i = 2 ∨ i = 3 ∨ i = 4 ∨ i = 5 ∨ i = 6 ∨ i = 7 := by omega
      rcases this with rfl | rfl | rfl | rfl | rfl | rfl | rfl | rfl
      · exact h7 rfl
      · exact h8 rfl
      · exact h9 rfl
      · exact h10 rfl
      · exact h11 rfl
      · exact h12 rfl
      · exact h13 rfl
      · exact h14 rfl
section SSI
variable {m t o st pe d B sc lp f t1 : Nat} {I J K I7 : xII} {D : tkL} {Γ : List dcl} {fs : List fnc} {x : nte} {vd b0 c0 : Int32} {E : env} {q : mR} {pl : Tr} {sg s1 s2 : Int32} {ldF : (xII → Prop) → xII → Prop} {ldl : List stp}
theorem stV_in {k s : Int32} (h : stV k s) : k ∈ setK := by
  unfold stV at h
  rcases h with ⟨rfl, -⟩ | ⟨rfl, -⟩ | ⟨rfl, -⟩ | ⟨rfl, -⟩ | ⟨rfl, -⟩ | ⟨rfl, -⟩ | ⟨rfl, -⟩ | ⟨rfl, -⟩ | ⟨rfl, -⟩ | ⟨rfl, -⟩ | ⟨rfl, -⟩ | ⟨rfl, -⟩ | ⟨rfl, -⟩ | ⟨rfl, -⟩ <;> decide
theorem s_tlF (hi : inD D) (hD : D.length ≤ 1800) (hd : o + d = 40) (w7 : sW I I7 m D fs st x t1 o sc lp f vd b0 c0 q) (hE : q.2.2 = E) (hsg : sg = if I7 (m + 3) t1 = 4 then I7 (m + 4) t1 else -1) (hld : ∀ (J14 : xII → Prop) (I13 : xII), sW I I13 m D fs st x (t1 + 1) o sc lp f vd b0 c0 q → (∀ I14, sW I I14 m D fs st x (t1 + 1) o sc lp f vd b0 c0 (q.1 ++ ldl, q.2.1, q.2.2) → J14 I14) → ldF J14 I13) (hll : ldl.length ≤ 2) (hs1 : ¬ (s1 = 5 ∨ s1 = 6)) (hB : st + q.1.length + 4 * (D.length - t1) + 4 ≤ B) (hB9 : B ≤ 9000) {F : Tr → mR} (hF : ∀ a e, F (nd 30 [a] pl e) = (q.1 ++ (if a = -1 then [] else ldl) ++ stE E.1 fs (st + (q.1 ++ (if a = -1 then [] else ldl)).length) e ++ (if a = -1 then [] else [(10, sgOf a, 0, 0)]) ++ [(s1, s2, 0, 0)], mnN q.2.1 (nX E.1 fs false true none e), E)) : tlF m sg s1 s2 ldF (sP I m D fs st o x sc lp f vd b0 c0 B (pSt D d pl t1) F) I7 := by
  subst hE
  have hT7 := w7.2.1.1.1
  have hl := hT7.2.1
  have hD4 := hT7.1.1.2.1
  have S : ∀ k s : Int32, mkV k 0 = s ∧ (40 : Int32) ≤ k → ¬ s = -1 → (sg = s ↔ tK D t1 = k) := by
    intro k s hs hs1
    rw [← hT7.1.sg hl hs, hsg]
    by_cases e4 : I7 (m + 3) t1 = 4
    · rw [if_pos e4]
      exact ⟨fun z => ⟨e4, z⟩, fun z => z.2⟩
    · rw [if_neg e4]
      exact ⟨fun z => absurd z.symm hs1, fun z => absurd z.1 e4⟩
  unfold tlF
  refine ⟨hT7.vp, ?_⟩
  by_cases hset : tK D t1 ∈ setK
  · have hv : stV (tK D t1) sg := by
      unfold setK at hset
      simp only [List.mem_cons, List.not_mem_nil, or_false] at hset
      unfold stV
      rcases hset with k | k | k | k | k | k | k | k | k | k | k | k | k | k
      · exact Or.inl ⟨k, (S 72 32 (by decide) (by decide)).mpr k⟩
      · exact Or.inr (Or.inl ⟨k, (S 52 12 (by decide) (by decide)).mpr k⟩)
      · exact Or.inr (Or.inr (Or.inl ⟨k, (S 53 13 (by decide) (by decide)).mpr k⟩))
      · exact Or.inr (Or.inr (Or.inr (Or.inl ⟨k, (S 40 0 (by decide) (by decide)).mpr k⟩)))
      · exact Or.inr (Or.inr (Or.inr (Or.inr (Or.inl ⟨k, (S 41 2 (by decide) (by decide)).mpr k⟩))))
      · exact Or.inr (Or.inr (Or.inr (Or.inr (Or.inr (Or.inl ⟨k, (S 42 3 (by decide) (by decide)).mpr k⟩)))))
      · exact Or.inr (Or.inr (Or.inr (Or.inr (Or.inr (Or.inr (Or.inl ⟨k, (S 44 4 (by decide) (by decide)).mpr k⟩))))))
      · exact Or.inr (Or.inr (Or.inr (Or.inr (Or.inr (Or.inr (Or.inr (Or.inl ⟨k, (S 45 5 (by decide) (by decide)).mpr k⟩)))))))
      · exact Or.inr (Or.inr (Or.inr (Or.inr (Or.inr (Or.inr (Or.inr (Or.inr (Or.inl ⟨k, (S 46 6 (by decide) (by decide)).mpr k⟩))))))))
      · exact Or.inr (Or.inr (Or.inr (Or.inr (Or.inr (Or.inr (Or.inr (Or.inr (Or.inr (Or.inl ⟨k, (S 47 7 (by decide) (by decide)).mpr k⟩)))))))))
      · exact Or.inr (Or.inr (Or.inr (Or.inr (Or.inr (Or.inr (Or.inr (Or.inr (Or.inr (Or.inr (Or.inl ⟨k, (S 48 8 (by decide) (by decide)).mpr k⟩))))))))))
      · exact Or.inr (Or.inr (Or.inr (Or.inr (Or.inr (Or.inr (Or.inr (Or.inr (Or.inr (Or.inr (Or.inr (Or.inl ⟨k, (S 49 9 (by decide) (by decide)).mpr k⟩)))))))))))
      · exact Or.inr (Or.inr (Or.inr (Or.inr (Or.inr (Or.inr (Or.inr (Or.inr (Or.inr (Or.inr (Or.inr (Or.inr (Or.inl ⟨k, (S 50 10 (by decide) (by decide)).mpr k⟩))))))))))))
      · exact Or.inr (Or.inr (Or.inr (Or.inr (Or.inr (Or.inr (Or.inr (Or.inr (Or.inr (Or.inr (Or.inr (Or.inr (Or.inr ⟨k, (S 51 11 (by decide) (by decide)).mpr k⟩))))))))))))
    have hkn : ¬ tK D t1 = 0 ∧ ¬ tK D t1 = 1 := by
      unfold stV at hv
      rcases hv with ⟨k, -⟩ | ⟨k, -⟩ | ⟨k, -⟩ | ⟨k, -⟩ | ⟨k, -⟩ | ⟨k, -⟩ | ⟨k, -⟩ | ⟨k, -⟩ | ⟨k, -⟩ | ⟨k, -⟩ | ⟨k, -⟩ | ⟨k, -⟩ | ⟨k, -⟩ | ⟨k, -⟩ <;> rw [k] <;> decide
    have ht1 := hT7.1.1.nx hl hkn.1 hkn.2
    have e32 := S 72 32 (by decide) (by decide)
    have e12 := S 52 12 (by decide) (by decide)
    have e13 := S 53 13 (by decide) (by decide)
    refine ⟨fun y => ¬ y = 0, fun y hy => ⟨fun z => absurd z hy, fun _ I13 hI13 => ?_⟩, ?_⟩
    · have q13 := hT7.on ht1
      rw [← hI13] at q13
      have w13 := w7.mv q13.2 q13.1 (by omega)
      clear hI13
      refine ⟨fun I14 => sW I I14 m D fs st x (t1 + 1) o sc lp f vd b0 c0 (q.1 ++ (if tK D t1 = 72 then [] else ldl), q.2.1, q.2.2), fun I14 w14 => ?_, fun z => ?_, fun z => ?_⟩
      · have hL : (q.1 ++ (if tK D t1 = 72 then [] else ldl)).length ≤ q.1.length + 2 := by
          rw [List.length_append]
          split
          · exact Nat.le_add_right _ _
          · omega
        -- one more, one less
        have one : ∀ a : Int32, (a = 0 ∨ a = 1) → ¬ tK D t1 = 72 → pSt D d pl t1 = .ok (nd 30 [a] pl lf, t1 + 1) → ∃ R15 : Int32 → xII → Prop, w_X13_step m 0 1 0 R15 I14 ∧ ∀ (v15 : Int32) (I15 : xII), R15 v15 I15 → ∃ R16 : Int32 → xII → Prop, w_X13_step m 10 (sgOf a) 0 R16 I15 ∧ ∀ (v16 : Int32) (I16 : xII), R16 v16 I16 → ∃ R17 : Int32 → xII → Prop, w_X13_step m s1 s2 0 R17 I16 ∧ ∀ (v17 : Int32) (I17 : xII), R17 v17 I17 → sP I m D fs st o x sc lp f vd b0 c0 B (pSt D d pl t1) F 1 I17 := by
          intro a ha h72 hp
          rw [if_neg h72] at w14 hL
          refine ⟨_, s_X13_step (s := st + (q.1 ++ ldl).length) w14.2.1.1.2.2.2.1 (by omega), ?_⟩
          rintro _ I15 ⟨rfl, r0, r1, r2, r3, r4, -⟩
          have w15 := w14.sp1 (w := 0) (a := 1) (d := 0) (v := 0) isHo_0 r0 r1 r2 r3 r4 (fun z => absurd z (by decide))
          have l15 : (q.1 ++ ldl ++ [((0 : Int32), (1 : Int32), (0 : Int32), (0 : Int32))]).length = (q.1 ++ ldl).length + 1 := by rw [List.length_append]; rfl
          refine ⟨_, s_X13_step (s := st + (q.1 ++ ldl ++ [((0 : Int32), (1 : Int32), (0 : Int32), (0 : Int32))]).length) w15.2.1.1.2.2.2.1 (by omega), ?_⟩
          rintro _ I16 ⟨rfl, u0, u1, u2, u3, u4, -⟩
          have w16 := w15.sp1 (w := 10) (a := sgOf a) (d := 0) (v := 0) isHo_0 u0 u1 u2 u3 u4 (fun z => absurd z (by decide))
          have l16 : (q.1 ++ ldl ++ [((0 : Int32), (1 : Int32), (0 : Int32), (0 : Int32))] ++ [((10 : Int32), sgOf a, (0 : Int32), (0 : Int32))]).length = (q.1 ++ ldl).length + 2 := by rw [List.length_append, List.length_append]; rfl
          refine ⟨_, s_X13_step (s := st + (q.1 ++ ldl ++ [((0 : Int32), (1 : Int32), (0 : Int32), (0 : Int32))] ++ [((10 : Int32), sgOf a, (0 : Int32), (0 : Int32))]).length) w16.2.1.1.2.2.2.1 (by omega), ?_⟩
          rintro _ I17 ⟨rfl, y0, y1, y2, y3, y4, -⟩
          have w17 := w16.sp1 (w := s1) (a := s2) (d := 0) (v := 0) isHo_0 y0 y1 y2 y3 y4 (fun z => absurd z hs1)
          have ha1 : ¬ a = -1 := by rcases ha with rfl | rfl <;> decide
          have hFF := hF a lf
          rw [if_neg ha1, if_neg ha1] at hFF
          rw [hp]
          refine ⟨rfl, ?_, ?_⟩
          · rw [hFF]
            show sW _ _ _ _ _ _ _ _ _ _ _ _ _ _ _ (_, mnN q.2.1 none, _)
            rw [mnN_n]
            exact w17
          · rw [hFF]
            show st + (q.1 ++ ldl ++ [((0 : Int32), (1 : Int32), (0 : Int32), (0 : Int32))] ++ [((10 : Int32), sgOf a, (0 : Int32), (0 : Int32))] ++ [(s1, s2, (0 : Int32), (0 : Int32))]).length + 4 * (D.length - (t1 + 1)) ≤ B
            rw [List.length_append, l16]
            show st + (_ + 2 + 1) + _ ≤ B
            omega
        refine ⟨fun z => ?_, fun z => ⟨fun z2 => ?_, fun z2 => ?_⟩⟩
        · have k := e12.mp z
          exact one 0 (Or.inl rfl) (by rw [k]; decide) (by rw [pSt, if_pos k])
        · have k := e13.mp z2
          exact one 1 (Or.inr rfl) (by rw [k]; decide) (by rw [pSt, if_neg (by rw [k]; decide), if_pos k])
        · have k52 : ¬ tK D t1 = 52 := fun k => z (e12.mpr k)
          have k53 : ¬ tK D t1 = 53 := fun k => z2 (e13.mpr k)
          have hact : (-1 : Int32) ≤ actS (tK D t1) ∧ (actS (tK D t1) = -1 ↔ tK D t1 = 72) := by
            unfold stV at hv
            rcases hv with ⟨k, -⟩ | ⟨k, -⟩ | ⟨k, -⟩ | ⟨k, -⟩ | ⟨k, -⟩ | ⟨k, -⟩ | ⟨k, -⟩ | ⟨k, -⟩ | ⟨k, -⟩ | ⟨k, -⟩ | ⟨k, -⟩ | ⟨k, -⟩ | ⟨k, -⟩ | ⟨k, -⟩
            · rw [k]; decide
            · exact absurd k k52
            · exact absurd k k53
            all_goals rw [k]; decide
          have hpS : pSt D d pl t1 = pAnd (pE D d (t1 + 1)) fun e t2 => .ok (nd 30 [actS (tK D t1)] pl e, t2) := by rw [pSt, if_neg k52, if_neg k53, if_pos hact.1]
          rw [hpS]
          have hlB : st + (q.1 ++ (if tK D t1 = 72 then [] else ldl)).length + 4 * (D.length - (t1 + 1)) ≤ B - 2 := by omega
          refine ⟨_, ro_X hi d 700 (by omega) I14 (t1 + 1) o _ 0 _ (B - 2) hd w14.2.1.1 (by omega) hlB (by omega), ?_⟩
          rintro v18 I18 - ⟨g18, r18⟩
          cases hr : pE D d (t1 + 1) with
          | error fl =>
            rw [hr] at r18
            obtain ⟨rfl, x18⟩ := r18
            refine ⟨fun _ => ?_, fun q => absurd rfl q⟩
            exact ⟨rfl, eH.sx w14 hD (by show st + (q.1 ++ _).length ≤ 9000; omega) g18 x18⟩
          | ok et =>
            obtain ⟨e, t2⟩ := et
            rw [hr] at r18
            obtain ⟨rfl, w18, b18⟩ := r18
            refine ⟨fun q => absurd q (by decide), fun _ => ?_⟩
            have hup := pE_up hT7.1.1 d (t1 + 1) ht1 e t2 hr
            have hwx := pE_w d (t1 + 1) e t2 hr
            have w19 := w14.e w18 (by omega) cX_noH
            generalize hL14 : q.1 ++ (if tK D t1 = 72 then [] else ldl) = L14 at *
            have b18' : st + L14.length + (cX q.2.2.1 fs false none (st + L14.length) e).length + 4 * (D.length - t2) ≤ B - 2 := b18
            have fin : ∀ I19, sW I I19 m D fs st x t2 o sc lp f vd b0 c0 (L14 ++ cX q.2.2.1 fs false none (st + L14.length) e ++ (if tK D t1 = 72 then [] else [(10, sgOf (actS (tK D t1)), 0, 0)]), mnN q.2.1 (nX q.2.2.1 fs false true none e), q.2.2) → ∃ R20 : Int32 → xII → Prop, w_X13_step m s1 s2 0 R20 I19 ∧ ∀ (v20 : Int32) (I20 : xII), R20 v20 I20 → sP I m D fs st o x sc lp f vd b0 c0 B (pAnd (.ok (e, t2)) fun e t2 => .ok (nd 30 [actS (tK D t1)] pl e, t2)) F 1 I20 := by
              intro I19 w19
              have l19 : (L14 ++ cX q.2.2.1 fs false none (st + L14.length) e ++ (if tK D t1 = 72 then [] else [((10 : Int32), sgOf (actS (tK D t1)), (0 : Int32), (0 : Int32))])).length ≤ L14.length + (cX q.2.2.1 fs false none (st + L14.length) e).length + 1 := by
                rw [List.length_append, List.length_append]
                split
                · exact Nat.le_succ _
                · exact Nat.le_refl _
              refine ⟨_, s_X13_step (s := st + (L14 ++ cX q.2.2.1 fs false none (st + L14.length) e ++ (if tK D t1 = 72 then [] else [((10 : Int32), sgOf (actS (tK D t1)), (0 : Int32), (0 : Int32))])).length) w19.2.1.1.2.2.2.1 (by omega), ?_⟩
              rintro _ I20 ⟨rfl, y0, y1, y2, y3, y4, -⟩
              have w20 := w19.sp1 (w := s1) (a := s2) (d := 0) (v := 0) isHo_0 y0 y1 y2 y3 y4 (fun z => absurd z hs1)
              have hFF : F (nd 30 [actS (tK D t1)] pl e) = (L14 ++ cX q.2.2.1 fs false none (st + L14.length) e ++ (if tK D t1 = 72 then [] else [(10, sgOf (actS (tK D t1)), 0, 0)]) ++ [(s1, s2, 0, 0)], mnN q.2.1 (nX q.2.2.1 fs false true none e), q.2.2) := by
                rw [hF]
                have e1 : (if actS (tK D t1) = -1 then [] else ldl) = (if tK D t1 = 72 then [] else ldl) := by simp only [hact.2]
                have e2 : (if actS (tK D t1) = -1 then ([] : List stp) else [(10, sgOf (actS (tK D t1)), 0, 0)]) = (if tK D t1 = 72 then [] else [(10, sgOf (actS (tK D t1)), 0, 0)]) := by simp only [hact.2]
                have e3 : ∀ p, stE q.2.2.1 fs p e = cX q.2.2.1 fs false none p e := fun p => by
                  cases e with
                  | leaf => exact nomatch hwx
                  | inner k dd v l r => rfl
                rw [e1, e2, hL14, e3]
              refine ⟨rfl, ?_, ?_⟩
              · rw [hFF]
                exact w20
              · rw [hFF]
                show st + (_ ++ [_]).length + 4 * (D.length - t2) ≤ B
                rw [List.length_append]
                show st + (_ + 1) + _ ≤ B
                omega
            refine ⟨fun I19 => sW I I19 m D fs st x t2 o sc lp f vd b0 c0 (L14 ++ cX q.2.2.1 fs false none (st + L14.length) e ++ (if tK D t1 = 72 then [] else [(10, sgOf (actS (tK D t1)), 0, 0)]), mnN q.2.1 (nX q.2.2.1 fs false true none e), q.2.2), fin, fun z3 => ?_, fun z3 => ?_⟩
            · rw [if_pos (e32.mp z3), List.append_nil]
              exact w19
            · have k72 : ¬ tK D t1 = 72 := fun k => z3 (e32.mpr k)
              rw [if_neg k72]
              refine ⟨fun y => y = sgOf (actS (tK D t1)), ?_, ?_⟩
              · rintro _ rfl
                refine ⟨_, s_X13_step (s := st + (L14 ++ cX q.2.2.1 fs false none (st + L14.length) e).length) w19.2.1.1.2.2.2.1 (by rw [List.length_append]; omega), ?_⟩
                rintro _ I22 ⟨rfl, y0, y1, y2, y3, y4, -⟩
                exact w19.sp1 (w := 10) (a := sgOf (actS (tK D t1))) (d := 0) (v := 0) isHo_0 y0 y1 y2 y3 y4 (fun z => absurd z (by decide))
              · unfold stV at hv
                rcases hv with ⟨k, h⟩ | ⟨k, h⟩ | ⟨k, h⟩ | ⟨k, h⟩ | ⟨k, h⟩ | ⟨k, h⟩ | ⟨k, h⟩ | ⟨k, h⟩ | ⟨k, h⟩ | ⟨k, h⟩ | ⟨k, h⟩ | ⟨k, h⟩ | ⟨k, h⟩ | ⟨k, h⟩
                · exact absurd k k72
                · exact absurd k k52
                · exact absurd k k53
                all_goals rw [k, h]; dsimp only; decide
      · rw [if_pos (e32.mp z), List.append_nil]
        exact w13
      · refine hld _ I13 w13 fun I14 w14 => ?_
        rw [if_neg (fun k => z (e32.mpr k))]
        exact w14
    · unfold stV at hv
      rcases hv with ⟨k, h⟩ | ⟨k, h⟩ | ⟨k, h⟩ | ⟨k, h⟩ | ⟨k, h⟩ | ⟨k, h⟩ | ⟨k, h⟩ | ⟨k, h⟩ | ⟨k, h⟩ | ⟨k, h⟩ | ⟨k, h⟩ | ⟨k, h⟩ | ⟨k, h⟩ | ⟨k, h⟩
      all_goals rw [h]; dsimp only; decide
  · have hno : ∀ k s, mkV k 0 = s ∧ (40 : Int32) ≤ k → ¬ s = -1 → k ∈ setK → ¬ sg = s := fun k s hs hs1 hk z => hset (by rw [(S k s hs hs1).mp z]; exact hk)
    refine ⟨fun y => y = 0, fun y hy => ⟨fun _ => ⟨_, s_X13_fails hT7 (by decide), ?_⟩, fun z => absurd hy z⟩, ?_⟩
    · rintro v27 I27 - ⟨rfl, q27, x27⟩
      have hp : pSt D d pl t1 = .error (pWr D t1) := by
        rw [pSt, if_neg (fun k => hset (by rw [k]; decide)), if_neg (fun k => hset (by rw [k]; decide)), if_neg (actS_no hset)]
      rw [hp]
      exact ⟨rfl, eH.sx w7 hD (by omega) q27.h x27⟩
    · refine ⟨fun z => absurd z (hno 72 32 (by decide) (by decide) (by decide)), fun _ => ⟨fun z => absurd z (hno 52 12 (by decide) (by decide) (by decide)), fun _ => ⟨fun z => absurd z (hno 53 13 (by decide) (by decide) (by decide)), fun _ => ⟨fun z => absurd z (hno 40 0 (by decide) (by decide) (by decide)), fun _ => ⟨fun z => absurd z (hno 41 2 (by decide) (by decide) (by decide)), fun _ => ⟨fun z => absurd z (hno 42 3 (by decide) (by decide) (by decide)), fun _ => ⟨fun _ => rfl, fun z1 => ⟨fun _ => rfl, fun z2 => ?_⟩⟩⟩⟩⟩⟩⟩⟩
      obtain ⟨i, hi8, hsi⟩ := i32_rng (v := sg) (a := 4) (n := 8) (by decide) (Int32.not_lt.mp z1) (Int32.not_le.mp z2)
      exfalso
      have : i = 0 ∨ i = 1 ∨ i = 2 ∨ i = 3 ∨ i = 4 ∨ i = 5 ∨ i = 6 ∨ i = 7 := by omega
      rcases this with rfl | rfl | rfl | rfl | rfl | rfl | rfl | rfl
      · exact hno 44 4 (by decide) (by decide) (by decide) hsi
      · exact hno 45 5 (by decide) (by decide) (by decide) hsi
      · exact hno 46 6 (by decide) (by decide) (by decide) hsi
      · exact hno 47 7 (by decide) (by decide) (by decide) hsi
      · exact hno 48 8 (by decide) (by decide) (by decide) hsi
      · exact hno 49 9 (by decide) (by decide) (by decide) hsi
      · exact hno 50 10 (by decide) (by decide) (by decide) hsi
      · exact hno 51 11 (by decide) (by decide) (by decide) hsi
end SSI
