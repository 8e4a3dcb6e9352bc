/-! ===== the Model's chains: signs under way ===== -/
set_option maxRecDepth 100000
/-- as eW, with p2 signs under way -/
def eV (I J : xII) (m : Nat) (D : tkL) (Γ : List dcl) (fs : List fnc) (c : Bool) (st pe p2 : Nat) (x : nte) (t' o' : Nat) (l : List stp) (y : nte) (b : Bool) : Prop := eG I J m ∧ eE J m D Γ fs c t' o' (st + l.length) p2 (mN (I m 46) x y) ∧ eK I J m st pe ∧ mSt J m st l ∧ J m 55 = (if (c && b) = true then 1 else I m 55)
/-- steps, notes, worths of what stands under way -/
def chC (Γ : List dcl) (fs : List fnc) (c : Bool) (st : Nat) : cSt → List stp
  | [] => []
  | (l, a, _) :: s => chC Γ fs c st s ++ cX Γ fs c none (st + (chC Γ fs c st s).length) a ++ (if l ≤ 1 then [((if l = 0 then 14 else 13 : Int32), (0 : Int32), (0 : Int32), (0 : Int32))] else [])
def chN (Γ : List dcl) (fs : List fnc) (c : Bool) : cSt → nte
  | [] => none
  | (_, a, _) :: s => mnN (chN Γ fs c s) (nX Γ fs c true none a)
def chH (Γ : List dcl) (fs : List fnc) : cSt → Bool
  | [] => false
  | (_, a, _) :: s => chH Γ fs s || hnX Γ fs a
/-- the signs under way as the Model holds them -/
def stk (J : xII) (m pe st : Nat) (Γ : List dcl) (fs : List fnc) (c : Bool) : cSt → Prop
  | [] => True
  | (l, a, act) :: s => stk J m pe st Γ fs c s ∧ J (m + 37) (pe + s.length) = nI l ∧ (2 ≤ l → J (m + 36) (pe + s.length) = sgOf act) ∧ (l ≤ 1 → J (m + 38) (pe + s.length) = nI (st + (chC Γ fs c st s ++ cX Γ fs c none (st + (chC Γ fs c st s).length) a).length))
section MBI
variable {m t o st pe p2 d B tn t' o' t2 o2 : Nat} {I J K : xII} {D : tkL} {Γ : List dcl} {fs : List fnc} {c w b b2 : Bool} {x y y2 : nte} {Rk : rkT} {l l1 l2 : List stp} {s : cSt}
theorem stk.cong : ∀ {s : cSt}, stk J m pe st Γ fs c s → (∀ a k, m + 36 ≤ a → a ≤ m + 38 → pe ≤ k → k < pe + s.length → K a k = J a k) → stk K m pe st Γ fs c s
  | [], _, _ => trivial
  | (l, a, act) :: s, h, hf => by
    obtain ⟨h1, h2, h3, h4⟩ := h
    have hl : ((l, a, act) :: s).length = s.length + 1 := rfl
    refine ⟨stk.cong h1 fun a k q1 q2 q3 q4 => hf a k q1 q2 q3 (by omega), ?_, fun q => ?_, fun q => ?_⟩
    · rw [hf _ _ (by omega) (by omega) (by omega) (by omega)]
      exact h2
    · rw [hf _ _ (by omega) (by omega) (by omega) (by omega)]
      exact h3 q
    · rw [hf _ _ (by omega) (by omega) (by omega) (by omega)]
      exact h4 q
theorem eV.h (h : eV I J m D Γ fs c st pe p2 x t' o' l y b) : eH I J m st pe := ⟨h.1, h.2.2.1⟩
theorem eV.tr (h : eV I J m D Γ fs c st pe p2 x t' o' l y b) (hp : pe ≤ p2) (h2 : eW J K m D Γ fs c (st + l.length) p2 (mN (I m 46) x y) t2 o2 l2 y2 b2) : eV I K m D Γ fs c st pe p2 x t2 o2 (l ++ l2) (mnN y y2) (b || b2) := by
  obtain ⟨a1, a2, a3, a4, a5⟩ := h
  obtain ⟨b1, b2', b3, b4, b5⟩ := h2
  refine ⟨a1.tr b1, ?_, fun a k hk => (b3 a k (by omega)).trans (a3 a k hk), mSt.app.mpr ⟨a4.cong fun a k q1 q2 q3 q4 => b3 a k (by omega), b4⟩, ?_⟩
  · rw [a1.ps, mN_as] at b2'
    rw [List.length_append, ← Nat.add_assoc]
    exact b2'
  · rw [b5, a5]
    cases c <;> cases b <;> cases b2 <;> rfl
theorem eV.st1 (h : eV I J m D Γ fs c st pe p2 x t' o' l y b) (hp : pe ≤ p2) {w a d v : Int32} (h0 : K m 60 = nI (st + l.length + 1)) (hS : eS J K m (st + l.length)) (h1 : K (m + 32) (st + l.length) = w) (h2 : K (m + 33) (st + l.length) = a) (h3 : K (m + 34) (st + l.length) = d) (h4 : w = 5 ∨ w = 6 → K (m + 35) (st + l.length) = v) : eV I K m D Γ fs c st pe p2 x t' o' (l ++ [(w, a, d, v)]) y b := by
  have h5 := h.tr hp ((eW.rf h.2.1).st1 (l := []) (K := K) (w := w) (a := a) (d := d) (v := v) h0 hS h1 h2 h3 h4)
  rw [mnN_n, Bool.or_false] at h5
  exact h5
/-- where a step within goes to is set -/
theorem eV.pA {q : stp} {v : Int32} (h : eV I J m D Γ fs c st pe p2 x t' o' (l1 ++ [q] ++ l2) y b) : eV I (xup J (m + 33) (st + l1.length) v) m D Γ fs c st pe p2 x t' o' (l1 ++ [(q.1, v, q.2.2.1, q.2.2.2)] ++ l2) y b := by
  obtain ⟨a1, ⟨e1, e2, e3, e4, e5, e6⟩, a3, a4, a5⟩ := h
  have hf : ∀ a k, ¬ (a = m + 33 ∧ k = st + l1.length) → xup J (m + 33) (st + l1.length) v a k = J a k := fun a k hk => by rw [gX, if_neg hk]
  have hg : eG J (xup J (m + 33) (st + l1.length) v) m := fun a k h1 h2 => hf a k (by omega)
  have hlen : (l1 ++ [q] ++ l2).length = (l1 ++ [(q.1, v, q.2.2.1, q.2.2.2)] ++ l2).length := by simp
  obtain ⟨f1, f2, f3, f4, f5, f6⟩ := e1
  refine ⟨a1.tr hg, ⟨⟨f1.fr hg, f2, (hf _ _ (by omega)).trans f3, (hf _ _ (by omega)).trans f4, f5, (hf _ _ (by omega)).trans f6⟩, e2.fr hg, (hf _ _ (by omega)).trans e3, ?_, (hf _ _ (by omega)).trans e5, e6.fr (hf _ _ (by omega)) (hf _ _ (by omega)) (hf _ _ (by omega))⟩, fun a k hk => (hf a k (by omega)).trans (a3 a k hk), ?_, (hf _ _ (by omega)).trans a5⟩
  · rw [hf _ _ (by omega), ← hlen]
    exact e4
  · obtain ⟨g1, g2⟩ := mSt.app.mp a4
    obtain ⟨g3, g4⟩ := mSt.app.mp g1
    have hl1 : (l1 ++ [q]).length = l1.length + 1 := by simp
    have hl2 : (l1 ++ [(q.1, v, q.2.2.1, q.2.2.2)]).length = l1.length + 1 := by simp
    refine mSt.app.mpr ⟨mSt.app.mpr ⟨g3.cong fun a k _ _ q3 q4 => hf a k (by omega), fun i z hz => ?_⟩, ?_⟩
    · cases i with
      | zero =>
        cases hz
        obtain ⟨p1, p2, p3, p4⟩ := g4 0 q rfl
        exact ⟨(hf _ _ (by omega)).trans p1, xup_s, (hf _ _ (by omega)).trans p3, fun z => (hf _ _ (by omega)).trans (p4 z)⟩
      | succ i => simp at hz
    · rw [hl1] at g2
      rw [hl2]
      exact g2.cong fun a k _ _ q3 q4 => hf a k (by omega)
/-- another count of signs under way -/
theorem eV.sp {p3 : Nat} (h : eV I J m D Γ fs c st pe p2 x t' o' l y b) (hf : ∀ a k, ¬ (a = m ∧ k = 70) → ¬ (m + 36 ≤ a ∧ a ≤ m + 38 ∧ pe ≤ k) → K a k = J a k) (h70 : K m 70 = nI p3) : eV I K m D Γ fs c st pe p3 x t' o' l y b := by
  obtain ⟨a1, ⟨e1, e2, e3, e4, e5, e6⟩, a3, a4, a5⟩ := h
  have hg : eG J K m := fun a k h1 h2 => hf a k (by unfold eFk at h2; omega) (by omega)
  obtain ⟨f1, f2, f3, f4, f5, f6⟩ := e1
  exact ⟨a1.tr hg, ⟨⟨f1.fr hg, f2, (hf _ _ (by omega) (by omega)).trans f3, (hf _ _ (by omega) (by omega)).trans f4, f5, (hf _ _ (by omega) (by omega)).trans f6⟩, e2.fr hg, (hf _ _ (by omega) (by omega)).trans e3, (hf _ _ (by omega) (by omega)).trans e4, h70, e6.fr (hf _ _ (by omega) (by omega)) (hf _ _ (by omega) (by omega)) (hf _ _ (by omega) (by omega))⟩, fun a k hk => (hf a k (by omega) (by omega)).trans (a3 a k hk), a4.cong fun a k _ _ _ _ => hf a k (by omega) (by omega), (hf _ _ (by omega) (by omega)).trans a5⟩
theorem s_X13_level (h : eT I m D t o) : w_X13_level m (fun v J => I = J ∧ lvK (tK D t) = v) I := by
  unfold w_X13_level
  rw [h.ix]
  refine ⟨h.vp, fun e4 => ?_, fun e4 => ⟨rfl, ?_⟩⟩
  · have S : ∀ k s : Int32, mkV k 0 = s ∧ (40 : Int32) ≤ k → (I (m + 4) t = s ↔ tK D t = k) := fun k s hs => ⟨fun z => (h.1.sg h.2.1 hs).mp ⟨e4, z⟩, fun z => ((h.1.sg h.2.1 hs).mpr z).2⟩
    simp only [S 54 14 (by decide), S 55 15 (by decide), S 73 33 (by decide), S 74 34 (by decide), S 75 35 (by decide), S 56 16 (by decide), S 57 17 (by decide), S 58 18 (by decide), S 59 19 (by decide), S 76 36 (by decide), S 77 37 (by decide), S 43 1 (by decide), S 60 20 (by decide), S 61 21 (by decide), S 78 38 (by decide), S 79 39 (by decide), S 80 40 (by decide), S 81 41 (by decide), S 82 42 (by decide)]
    generalize tK D t = k
    refine ⟨?_, ?_, ?_, ?_, ?_, ?_, ?_, ?_, ?_, ?_, ?_⟩
    · rintro rfl; exact ⟨trivial, rfl⟩
    · rintro rfl; exact ⟨trivial, rfl⟩
    · rintro rfl; exact ⟨trivial, rfl⟩
    · rintro rfl; exact ⟨trivial, rfl⟩
    · rintro rfl; exact ⟨trivial, rfl⟩
    · rintro (rfl | rfl) <;> exact ⟨trivial, rfl⟩
    · rintro (rfl | rfl | rfl | rfl) <;> exact ⟨trivial, rfl⟩
    · rintro (rfl | rfl | rfl) <;> exact ⟨trivial, rfl⟩
    · rintro (rfl | rfl) <;> exact ⟨trivial, rfl⟩
    · rintro (rfl | rfl | rfl) <;> exact ⟨trivial, rfl⟩
    · rintro ⟨h1, h2, h3, h4, h5, h6, h7, h8, h9, h10, h11, h12, h13, h14, h15, h16, h17, h18, h19⟩
      refine ⟨trivial, ?_⟩
      unfold lvK
      simp only [h1, h2, h3, h4, h5, h6, h7, h8, h9, h10, h11, h12, h13, h14, h15, h16, h17, h18, h19, if_false]
  · rcases lvK_or (tK D t) with z | ⟨l, hl, z⟩
    · exact z
    · have h40 := (lvK_sg (v := 0) hl z).1
      exact absurd ((h.1.sg h.2.1 (k := tK D t) (s := mkV (tK D t) 0) ⟨rfl, h40⟩).mpr rfl).1 e4
theorem bind_hi {lv : Nat} {a e : Tr} {act : Int32} (hl : 2 ≤ lv) (h9 : lv ≤ 9) : chC Γ fs c st ((lv, a, act) :: s) ++ cX Γ fs c none (st + (chC Γ fs c st ((lv, a, act) :: s)).length) e ++ [(10, sgOf act, 0, 0)] = chC Γ fs c st s ++ cX Γ fs c none (st + (chC Γ fs c st s).length) (pMk (nI lv) act a e) := by
  have h2 : (2 : Int32) ≤ nI lv := (nI_leI (a := 2) (by omega) (by omega)).mpr hl
  rw [pMk, if_pos h2, chC, if_neg (by omega), List.append_nil]
  show _ = chC Γ fs c st s ++ (cX Γ fs c none (st + (chC Γ fs c st s).length) a ++ cX Γ fs c none (st + (chC Γ fs c st s).length + lX c a) e ++ [(10, sgOf act, 0, 0)])
  rw [List.length_append, cX_len]
  simp only [List.append_assoc, Nat.add_assoc]
theorem bind_lo {lv : Nat} {a e : Tr} {act : Int32} (hl : lv ≤ 1) : chC Γ fs c st s ++ cX Γ fs c none (st + (chC Γ fs c st s).length) (pMk (nI lv) act a e) = (chC Γ fs c st s ++ cX Γ fs c none (st + (chC Γ fs c st s).length) a) ++ [((if lv = 0 then 14 else 13 : Int32), nI (st + (chC Γ fs c st ((lv, a, act) :: s) ++ cX Γ fs c none (st + (chC Γ fs c st ((lv, a, act) :: s)).length) e).length + 2), (0 : Int32), (0 : Int32))] ++ (cX Γ fs c none (st + (chC Γ fs c st ((lv, a, act) :: s)).length) e ++ [((23 : Int32), (0 : Int32), (0 : Int32), (0 : Int32))]) ++ [((12 : Int32), nI (st + (chC Γ fs c st ((lv, a, act) :: s) ++ cX Γ fs c none (st + (chC Γ fs c st ((lv, a, act) :: s)).length) e).length + 3), (0 : Int32), (0 : Int32))] ++ [((0 : Int32), 1 - nI lv, (0 : Int32), (0 : Int32))] := by
  have h2 : ¬ (2 : Int32) ≤ nI lv := fun z => by
    have := (nI_leI (a := 2) (by omega) (by omega)).mp z
    omega
  have hk : (if (if nI lv = 1 then (1 : Int32) else 0) = 0 then (14 : Int32) else 13) = (if lv = 0 then 14 else 13) ∧ (if (if nI lv = 1 then (1 : Int32) else 0) = 0 then (1 : Int32) else 0) = 1 - nI lv := by
    rcases Nat.le_one_iff_eq_zero_or_eq_one.mp hl with rfl | rfl <;> decide
  rw [pMk, if_neg h2]
  have hx : cX Γ fs c none (st + (chC Γ fs c st s).length) (nd 7 [tFst a, if nI lv = 1 then 1 else 0] a e) = cX Γ fs c none (st + (chC Γ fs c st s).length) a ++ [(if (if nI lv = 1 then (1 : Int32) else 0) = 0 then 14 else 13, nI (st + (chC Γ fs c st s).length + lX c a + 1 + lX c e + 2), 0, 0)] ++ cX Γ fs c none (st + (chC Γ fs c st s).length + lX c a + 1) e ++ [(23, 0, 0, 0), (12, nI (st + (chC Γ fs c st s).length + lX c a + 1 + lX c e + 3), 0, 0), (0, if (if nI lv = 1 then (1 : Int32) else 0) = 0 then 1 else 0, 0, 0)] := rfl
  rw [hx, hk.1, hk.2]
  have hC : (chC Γ fs c st ((lv, a, act) :: s)).length = (chC Γ fs c st s).length + lX c a + 1 := by
    rw [chC, if_pos hl, List.length_append, List.length_append, cX_len]
    rfl
  rw [List.length_append, hC, cX_len]
  simp only [List.append_assoc, Nat.add_assoc, List.cons_append, List.nil_append]
theorem s_X13_binds {lv : Nat} {a e : Tr} {act : Int32} (h : eV I J m D Γ fs c st pe (pe + (s.length + 1)) x t' o' (chC Γ fs c st ((lv, a, act) :: s) ++ cX Γ fs c none (st + (chC Γ fs c st ((lv, a, act) :: s)).length) e) y b) (hk : stk J m pe st Γ fs c ((lv, a, act) :: s)) (hl : lv ≤ 9) (hpe : pe + s.length < 600) (hst : st + (chC Γ fs c st ((lv, a, act) :: s) ++ cX Γ fs c none (st + (chC Γ fs c st ((lv, a, act) :: s)).length) e).length + 3 ≤ 9000) : w_X13_binds m (fun K => eV I K m D Γ fs c st pe (pe + s.length) x t' o' (chC Γ fs c st s ++ cX Γ fs c none (st + (chC Γ fs c st s).length) (pMk (nI lv) act a e)) y b ∧ stk K m pe st Γ fs c s) J := by
  obtain ⟨k1, k2, k3, k4⟩ := hk
  have h70 : J m 70 - 1 = nI (pe + s.length) := by rw [h.2.1.2.2.2.2.1, ← Nat.add_assoc, nI_m]
  unfold w_X13_binds
  rw [h70, show ix (nI (pe + s.length)) = pe + s.length from nI_clamp (by omega), k2]
  intro I1 hI1
  have f1 : ∀ a k, ¬ (a = m ∧ k = 70) → I1 a k = J a k := fun a k hk => by rw [hI1, gX, if_neg hk]
  have v1 := h.sp (K := I1) (p3 := pe + s.length) (fun a k q1 _ => f1 a k q1) (by rw [hI1, xup_s])
  have s1 : stk I1 m pe st Γ fs c s := k1.cong fun a k _ _ _ _ => f1 a k (by omega)
  have g38 : I1 (m + 38) (pe + s.length) = J (m + 38) (pe + s.length) := f1 _ _ (by omega)
  clear hI1
  generalize hL : chC Γ fs c st ((lv, a, act) :: s) ++ cX Γ fs c none (st + (chC Γ fs c st ((lv, a, act) :: s)).length) e = L at *
  refine ⟨vp_in_nI hpe (by decide), fun e1 => ?_, fun e1 => ?_⟩
  · have hl1 : lv ≤ 1 := (nI_leI (b := 1) (by omega) (by omega)).mp e1
    refine ⟨_, s_X13_step (s := st + L.length) v1.2.1.2.2.2.1 (by omega), ?_⟩
    rintro _ I3 ⟨rfl, r0, r1, r2, r3, r4, -⟩
    have v3 := v1.st1 (by omega) (w := 23) (a := 0) (d := 0) (v := 0) r0 r1 r2 r3 r4 (fun z => absurd z (by decide))
    have hL3 : (L ++ [((23 : Int32), (0 : Int32), (0 : Int32), (0 : Int32))]).length = L.length + 1 := by simp
    refine ⟨_, s_X13_step (s := st + (L ++ [((23 : Int32), (0 : Int32), (0 : Int32), (0 : Int32))]).length) v3.2.1.2.2.2.1 (by omega), ?_⟩
    rintro _ I4 ⟨rfl, z0, z1, z2, z3, z4, -⟩
    have v4 := v3.st1 (by omega) (w := 12) (a := 0) (d := 0) (v := 0) z0 z1 z2 z3 z4 (fun z => absurd z (by decide))
    have h60 : I4 m 60 = nI (st + L.length + 2) := by rw [z0, hL3]; rfl
    have f4 : ∀ a k, m + 36 ≤ a → a ≤ m + 38 → I4 a k = I1 a k := fun a k q1 q2 => (z1 a k (by omega) (by omega)).trans (r1 a k (by omega) (by omega))
    have p38 : I4 (m + 38) (pe + s.length) = nI (st + (chC Γ fs c st s ++ cX Γ fs c none (st + (chC Γ fs c st s).length) a).length) := by rw [f4 _ _ (by omega) (by omega), g38]; exact k4 hl1
    rw [v4.2.1.2.2.2.2.1, show ix (nI (pe + s.length)) = pe + s.length from nI_clamp (by omega), p38, h60]
    have hAB : (chC Γ fs c st s ++ cX Γ fs c none (st + (chC Γ fs c st s).length) a).length ≤ L.length := by
      rw [← hL, chC]
      simp only [List.length_append]
      omega
    generalize hA : chC Γ fs c st s ++ cX Γ fs c none (st + (chC Γ fs c st s).length) a = AB at *
    rw [show ix (nI (st + AB.length)) = st + AB.length from nI_clamp (by omega)]
    refine ⟨vp_in_nI hpe (by decide), vp_in_nI (by omega) (by decide), ?_⟩
    rintro I7 hI7
    have eL : L ++ [((23 : Int32), (0 : Int32), (0 : Int32), (0 : Int32))] ++ [((12 : Int32), (0 : Int32), (0 : Int32), (0 : Int32))] = AB ++ [((if lv = 0 then 14 else 13 : Int32), (0 : Int32), (0 : Int32), (0 : Int32))] ++ (cX Γ fs c none (st + (chC Γ fs c st ((lv, a, act) :: s)).length) e ++ [((23 : Int32), (0 : Int32), (0 : Int32), (0 : Int32))] ++ [((12 : Int32), (0 : Int32), (0 : Int32), (0 : Int32))]) := by
      rw [← hL]
      generalize cX Γ fs c none (st + (chC Γ fs c st ((lv, a, act) :: s)).length) e = C
      rw [chC, if_pos hl1, hA]
      simp only [List.append_assoc]
    rw [eL] at v4
    have v7 := v4.pA (v := nI (st + L.length + 2))
    rw [← hI7] at v7
    have f7 : ∀ a k, m + 36 ≤ a → a ≤ m + 38 → I7 a k = I1 a k := fun a k q1 q2 => by rw [hI7, gX, if_neg (by omega)]; exact f4 a k q1 q2
    clear hI7
    have eL7 : (AB ++ [((if lv = 0 then 14 else 13 : Int32), nI (st + L.length + 2), (0 : Int32), (0 : Int32))] ++ (cX Γ fs c none (st + (chC Γ fs c st ((lv, a, act) :: s)).length) e ++ [((23 : Int32), (0 : Int32), (0 : Int32), (0 : Int32))] ++ [((12 : Int32), (0 : Int32), (0 : Int32), (0 : Int32))])).length = L.length + 2 := by
      have := congrArg List.length eL
      simp only [List.length_append, List.length_cons, List.length_nil] at this ⊢
      omega
    have h67 := v7.2.1.2.2.2.1
    rw [eL7] at h67
    refine ⟨_, s_X13_step (s := st + (L.length + 2)) h67 (by omega), ?_⟩
    rintro _ I8 ⟨rfl, y0, y1, y2, y3, y4, -⟩
    have v8 := v7.st1 (by omega) (w := 0) (a := 1 - nI lv) (d := 0) (v := 0) (by rw [eL7]; exact y0) (by rw [eL7]; exact y1) (by rw [eL7]; exact y2) (by rw [eL7]; exact y3) (by rw [eL7]; exact y4) (fun z => absurd z (by decide))
    rw [y0, hL3, show ix (nI (st + (L.length + 1))) = st + (L.length + 1) from nI_clamp (by omega)]
    refine ⟨vp_in_nI (by omega) (by decide), ?_⟩
    rintro I10 hI10
    have eL8 : AB ++ [((if lv = 0 then 14 else 13 : Int32), nI (st + L.length + 2), (0 : Int32), (0 : Int32))] ++ (cX Γ fs c none (st + (chC Γ fs c st ((lv, a, act) :: s)).length) e ++ [((23 : Int32), (0 : Int32), (0 : Int32), (0 : Int32))] ++ [((12 : Int32), (0 : Int32), (0 : Int32), (0 : Int32))]) ++ [((0 : Int32), 1 - nI lv, (0 : Int32), (0 : Int32))] = (AB ++ [((if lv = 0 then 14 else 13 : Int32), nI (st + L.length + 2), (0 : Int32), (0 : Int32))] ++ (cX Γ fs c none (st + (chC Γ fs c st ((lv, a, act) :: s)).length) e ++ [((23 : Int32), (0 : Int32), (0 : Int32), (0 : Int32))])) ++ [((12 : Int32), (0 : Int32), (0 : Int32), (0 : Int32))] ++ [((0 : Int32), 1 - nI lv, (0 : Int32), (0 : Int32))] := by
      simp only [List.append_assoc]
    have eL9 : (AB ++ [((if lv = 0 then 14 else 13 : Int32), nI (st + L.length + 2), (0 : Int32), (0 : Int32))] ++ (cX Γ fs c none (st + (chC Γ fs c st ((lv, a, act) :: s)).length) e ++ [((23 : Int32), (0 : Int32), (0 : Int32), (0 : Int32))])).length = L.length + 1 := by
      simp only [List.length_append, List.length_cons, List.length_nil] at eL7 ⊢
      omega
    rw [eL8] at v8
    have v10 := v8.pA (v := nI (st + L.length + 3))
    rw [eL9] at v10
    have hI10' : I10 = xup I8 (m + 33) (st + (L.length + 1)) (nI (st + L.length + 3)) := hI10
    rw [← hI10'] at v10
    refine ⟨?_, s1.cong fun a k q1 q2 _ _ => ?_⟩
    · rw [bind_lo hl1, hL, hA]
      exact v10
    · rw [hI10', gX, if_neg (by omega), y1 a k (by omega) (by omega)]
      exact f7 a k q1 q2
  · have hl1 : ¬ lv ≤ 1 := fun z => e1 ((nI_leI (b := 1) (by omega) (by omega)).mpr z)
    rw [k3 (by omega)]
    refine ⟨_, s_X13_step (s := st + L.length) v1.2.1.2.2.2.1 (by omega), ?_⟩
    rintro _ I3 ⟨rfl, r0, r1, r2, r3, r4, -⟩
    have v3 := v1.st1 (by omega) (w := 10) (a := sgOf act) (d := 0) (v := 0) r0 r1 r2 r3 r4 (fun z => absurd z (by decide))
    refine ⟨?_, s1.cong fun a k q1 q2 _ _ => r1 a k (by omega) (by omega)⟩
    rw [← bind_hi (by omega) hl, hL]
    exact v3
end MBI
