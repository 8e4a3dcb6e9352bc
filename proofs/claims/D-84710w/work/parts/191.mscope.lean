/-! ===== the Model's statements: scopes, choices, bodies of loops ===== -/
set_option maxRecDepth 100000
def oSt (Rk : rkT) (m : Nat) (D : tkL) (fs : List fnc) (f : Nat) (vd : Int32) (d : Nat) : Prop := ∀ I t o st x sc lp E b0 c0 B, o + d = 40 → sE I m D fs t o st x sc lp E f vd → I m 63 = b0 → I m 64 = c0 → sc ≤ 2 * o + 1 → lp ≤ o → st + 4 * (D.length - t) ≤ B → B ≤ 9000 → Rk 0 0 0 (sP I m D fs st o x sc lp f vd b0 c0 B (pS D d t) fun e => mS (I m 46) fs vd e sc (decide (0 < lp)) st E) I
def oSc (Rk : rkT) (m : Nat) (D : tkL) (fs : List fnc) (f : Nat) (vd : Int32) (d : Nat) : Prop := ∀ I t o st x sc lp E b0 c0 B, o + d = 40 → sE I m D fs t o st x sc lp E f vd → I m 63 = b0 → I m 64 = c0 → sc ≤ 2 * o → lp ≤ o → st + 4 * (D.length - t) ≤ B → B ≤ 9000 → Rk 2 0 0 (sP I m D fs st o x sc lp f vd b0 c0 B (pS D d t) fun e => scO E (mS (I m 46) fs vd e (sc + 1) (decide (0 < lp)) st E)) I
section SCP
variable {m t o st pe d B sc lp f t1 t' o' t2 o2 sc' lp' : Nat} {I J K : xII} {D : tkL} {Γ : List dcl} {fs : List fnc} {x y : nte} {vd b0 c0 : Int32} {E E' : env} {q : mR} {fl : Int32 × Int32} {Rk : rkT} {l l1 l2 : List stp}
theorem mS_env {ps : Int32} : ∀ (e : Tr) (sc : Nat) (lp : Bool) (st : Nat) (E : env), ∃ new, (mS ps fs vd e sc lp st E).2.2.1 = new ++ E.1 ∧ ∀ q ∈ new, q.sc = nI sc := by
  intro e
  have nil : ∀ (G : List dcl) (sc : Nat), ∃ new : List dcl, G = new ++ G ∧ ∀ q ∈ new, q.sc = nI sc := fun G sc => ⟨[], rfl, fun q hq => nomatch hq⟩
  induction e with
  | leaf => exact fun sc lp st E => nil _ _
  | inner k d v l r ihl ihr =>
    intro sc lp st E
    unfold mS
    split
    · exact nil _ _
    · obtain ⟨n1, h1, h2⟩ := ihl sc lp st E
      obtain ⟨n2, h3, h4⟩ := ihr sc lp (st + (mS ps fs vd l sc lp st E).1.length) (mS ps fs vd l sc lp st E).2.2
      refine ⟨n2 ++ n1, ?_, fun q hq => ?_⟩
      · dsimp only
        rw [h3, h1, List.append_assoc]
      · rcases List.mem_append.mp hq with z | z
        · exact h4 q z
        · exact h2 q z
    · unfold mTlI tellD
      dsimp only
      split
      · exact nil _ _
      · exact ⟨[_], rfl, fun q hq => by rw [List.mem_singleton] at hq; subst hq; rfl⟩
    · unfold mTlA tellD
      dsimp only
      split
      · exact nil _ _
      · exact ⟨[_], rfl, fun q hq => by rw [List.mem_singleton] at hq; subst hq; rfl⟩
    · split <;> exact nil _ _
    · split
      · split
        · split <;> exact nil _ _
        · exact nil _ _
      · exact nil _ _
    · split <;> exact nil _ _
    · split <;> exact nil _ _
    · exact nil _ _
    · exact nil _ _
    · exact nil _ _
    · exact nil _ _
theorem sE.fr3 (h : sE J m D fs t o st x sc lp E f vd) (hf : ∀ a k, ¬ (m + 32 ≤ a ∧ a ≤ m + 39) → ¬ (a = m ∧ (k = 15 ∨ k = 51 ∨ (63 ≤ k ∧ k ≤ 66) ∨ k = 72)) → K a k = J a k) (h15 : K m 15 = nI sc') (h51 : K m 51 = nI lp') (hs : sc' ≤ 100) (hl : lp' ≤ 100) (hss : sc ≤ sc') : sE K m D fs t o st x sc' lp' E f vd := by
  obtain ⟨h1, ⟨h2, h2'⟩, ⟨h3, h3'⟩, h4, h5, ⟨h6, h7, h8⟩, h9, h10, h11, h12, h13⟩ := h
  have fld : ∀ k, ¬ (k = 15 ∨ k = 51 ∨ (63 ≤ k ∧ k ≤ 66) ∨ k = 72) → K m k = J m k := fun k hk => hf m k (by omega) (fun z => hk z.2)
  refine ⟨h1.fr2 (fun a k q1 q2 => hf a k (by omega) (by omega)) ((fld 54 (by omega)).trans h1.2.2.1) ((fld 60 (by omega)).trans h1.2.2.2.1), ⟨h15, hs⟩, ⟨h51, hl⟩, (fld 52 (by omega)).trans h4, (fld 53 (by omega)).trans h5, ⟨(fld 50 (by omega)).trans h6, h7, (hf _ _ (by omega) (by omega)).trans h8⟩, h9, h10, h11, fun q hq => ?_, fun z => by rw [fld 14 (by omega)]; exact h13 (by rw [← fld 46 (by omega)]; exact z)⟩
  obtain ⟨s, s1, s2⟩ := h12 q hq
  exact ⟨s, by omega, s2⟩
/-- a step within that is no open way is set -/
theorem sW.pA {q0 : stp} {v : Int32} (hn : isHo 1 q0 = false ∧ isHo 2 q0 = false) (h : sW I J m D fs st x t' o' sc lp f vd b0 c0 (l1 ++ [q0] ++ l2, y, E')) : sW I (xup J (m + 33) (st + l1.length) v) m D fs st x t' o' sc lp f vd b0 c0 (l1 ++ [(q0.1, v, q0.2.2.1, q0.2.2.2)] ++ l2, y, E') := by
  obtain ⟨a1, a2, a3, a4, a5, a6⟩ := h
  have hf : ∀ a k, ¬ (a = m + 33 ∧ k = st + l1.length) → xup J (m + 33) (st + l1.length) v a k = J a k := fun a k hk => by rw [gX, if_neg hk]
  have hn' : isHo 1 (q0.1, v, q0.2.2.1, q0.2.2.2) = false ∧ isHo 2 (q0.1, v, q0.2.2.1, q0.2.2.2) = false := hn
  have hlen : (l1 ++ [q0] ++ l2).length = (l1 ++ [(q0.1, v, q0.2.2.1, q0.2.2.2)] ++ l2).length := by simp only [List.length_append, List.length_cons, List.length_nil]
  have hq : ∀ (q : stp), isHo 1 q = false ∧ isHo 2 q = false → ∀ s b c, lnk s b c [q] = [q] ∧ hdH 1 s b [q] = b ∧ hdH 2 s c [q] = c := fun q hq s b c => by
    have hno : noH [q] := fun z hz => by rw [List.mem_singleton] at hz; rw [hz]; exact hq
    exact ⟨hno.lk, hno.hd.1, hno.hd.2⟩
  have e1 : ∀ (q : stp), isHo 1 q = false ∧ isHo 2 q = false → lnk st b0 c0 (l1 ++ [q] ++ l2) = lnk st b0 c0 l1 ++ [q] ++ lnk (st + l1.length + 1) (hdH 1 st b0 l1) (hdH 2 st c0 l1) l2 ∧ hdH 1 st b0 (l1 ++ [q] ++ l2) = hdH 1 (st + l1.length + 1) (hdH 1 st b0 l1) l2 ∧ hdH 2 st c0 (l1 ++ [q] ++ l2) = hdH 2 (st + l1.length + 1) (hdH 2 st c0 l1) l2 := fun q h => by
    obtain ⟨c1, c2, c3⟩ := hq q h (st + l1.length) (hdH 1 st b0 l1) (hdH 2 st c0 l1)
    refine ⟨?_, ?_, ?_⟩
    · rw [lnk_app, lnk_app, c1, hdH_app, hdH_app, c2, c3, List.length_append]
      rfl
    · rw [hdH_app, hdH_app, c2, List.length_append]
      rfl
    · rw [hdH_app, hdH_app, c3, List.length_append]
      rfl
  obtain ⟨f1, f2, f3⟩ := e1 q0 hn
  obtain ⟨g1, g2, g3⟩ := e1 _ hn'
  refine ⟨fun a k q1 q2 => (hf a k (by omega)).trans (a1 a k q1 q2), ?_, fun a k hk => (hf a k (by omega)).trans (a3 a k hk), ?_, ?_, ?_⟩
  · dsimp only at a2 ⊢
    rw [← hlen]
    exact a2.fr fun a k q1 q2 => hf a k (by omega)
  · dsimp only at a4 ⊢
    rw [g1]
    rw [f1] at a4
    have := mSt.pA (v := v) a4
    rw [lnk_len] at this
    exact this
  · dsimp only at a5 ⊢
    rw [g2, hf _ _ (by omega), ← f2]
    exact a5
  · dsimp only at a6 ⊢
    rw [g3, hf _ _ (by omega), ← f3]
    exact a6
theorem s_X13_scoped (hS : oSt Rk m D fs f vd d) (hD : D.length ≤ 1800) (h : sE I m D fs t o st x sc lp E f vd) (hd : o + d = 40) (h63 : I m 63 = b0) (h64 : I m 64 = c0) (hsc : sc ≤ 2 * o) (hlp : lp ≤ o) (hB : st + 4 * (D.length - t) ≤ B) (hB9 : B ≤ 9000) : w_X13_scoped Rk m (sP I m D fs st o x sc lp f vd b0 c0 B (pS D d t) fun e => scO E (mS (I m 46) fs vd e (sc + 1) (decide (0 < lp)) st E)) I := by
  have h15 : I m 15 = nI sc := h.2.1.1
  have h51 : I m 51 = nI lp := h.2.2.1.1
  have ho := h.1.1.2.2.2.2.1
  unfold w_X13_scoped
  rw [h15]
  refine ⟨_, s_X13_begins h15, ?_⟩
  rintro I1 ⟨p15, f1⟩
  have p46 : I1 m 46 = I m 46 := f1 _ _ (by omega)
  have E1 : sE I1 m D fs t o st x (sc + 1) lp E f vd := h.fr3 (fun a k q1 q2 => f1 a k (by omega)) p15 (by rw [f1 _ _ (by omega)]; exact h51) (by omega) (by omega) (by omega)
  refine ⟨_, hS I1 t o st x (sc + 1) lp E b0 c0 B hd E1 (by rw [f1 _ _ (by omega)]; exact h63) (by rw [f1 _ _ (by omega)]; exact h64) (by omega) hlp hB hB9, ?_⟩
  intro v2 I2 _ hP
  rw [p46] at hP
  have G1 : sG I I1 m := fun a k q1 q2 => f1 a k (by unfold sFk at q2; omega)
  have K1 : eK I I1 m st 0 := fun a k hk => f1 a k (by omega)
  cases hr : pS D d t with
  | error fl =>
    rw [hr] at hP
    obtain ⟨rfl, x1, x2, x3, x4, l, x5, x6, x7, x8⟩ := hP
    refine ⟨_, s_X13_ends_er x3, ?_⟩
    rintro I3 ⟨t3, f3⟩
    refine ⟨rfl, G1.tr (x1.tr fun a k q1 q2 => f3 a k (by unfold sFk at q2; omega)), ⟨by rw [f3 _ _ (by omega)]; exact x2.1, by rw [f3 _ _ (by omega)]; exact x2.2.1, x2.2.2⟩, t3, (K1.tr x4 (Nat.le_refl _)).tr (fun a k hk => f3 a k (by omega)) (Nat.le_refl _), l, x5, x6.cong fun a k _ _ _ _ => f3 a k (by omega), by rw [f3 _ _ (by omega)]; exact x7, by rw [f3 _ _ (by omega)]; exact x8⟩
  | ok et =>
    obtain ⟨e, t2⟩ := et
    rw [hr] at hP
    obtain ⟨rfl, w2, b2⟩ := hP
    dsimp only at w2 b2
    obtain ⟨new, hn1, hn2⟩ := mS_env (ps := I m 46) (fs := fs) (vd := vd) e (sc + 1) (decide (0 < lp)) st E
    generalize hq : mS (I m 46) fs vd e (sc + 1) (decide (0 < lp)) st E = q at *
    obtain ⟨a1, ⟨h1, ⟨h2, h2'⟩, ⟨h3, h3'⟩, h4, h5, ⟨h6, h7, h8⟩, h9, h10, h11, h12, h13⟩, a3, a4, a5, a6⟩ := w2
    have hG := h1.2.1
    rw [hn1] at hG
    refine ⟨_, s_X13_ends (sc := sc) hG h13 (fun z hz => ⟨sc + 1, by omega, by omega, hn2 z hz⟩) (fun z hz => h.2.2.2.2.2.2.2.2.2.1 z hz) (by omega), ?_⟩
    rintro I3 ⟨p3, g3, u3, f3⟩
    have fld : ∀ k, ¬ (k = 14 ∨ k = 15) → I3 m k = I2 m k := fun k hk => f3 m k (fun z => hk z.2)
    have p246 : I2 m 46 = I1 m 46 := a1.ps
    obtain ⟨⟨t1, t2', t3, t4, t5, t6⟩, e2, e3, e4, e5, e6⟩ := h1
    rw [p46] at e6
    refine ⟨rfl, ?_, ?_⟩
    rotate_left
    · show st + (mS (I m 46) fs vd e (sc + 1) (decide (0 < lp)) st E).1.length + 4 * (D.length - t2) ≤ B
      rw [hq]
      exact b2
    show sW I I3 m D fs st x t2 o sc lp f vd b0 c0 (scO E (mS (I m 46) fs vd e (sc + 1) (decide (0 < lp)) st E))
    rw [hq]
    refine ⟨G1.tr (a1.tr fun a k q1 q2 => f3 a k (by unfold sFk at q2; omega)), ⟨⟨⟨t1.fr2 (fld 7 (by omega)) (fld 8 (by omega)) fun a k q1 q2 => f3 a k (by omega), t2', (fld 42 (by omega)).trans t3, (fld 43 (by omega)).trans t4, t5, (fld 44 (by omega)).trans t6⟩, g3, (fld 54 (by omega)).trans e3, (fld 60 (by omega)).trans e4, (fld 70 (by omega)).trans e5, e6.fr (fld 47 (by omega)) (fld 48 (by omega)) (fld 49 (by omega))⟩, ⟨p3, by omega⟩, ⟨(fld 51 (by omega)).trans h3, h3'⟩, (fld 52 (by omega)).trans h4, (fld 53 (by omega)).trans h5, ⟨(fld 50 (by omega)).trans h6, h7, (f3 _ _ (by omega)).trans h8⟩, ?_, h10, h11, h.2.2.2.2.2.2.2.2.2.1, fun z => u3 (by rw [← fld 46 (by omega)]; exact z)⟩, (K1.tr a3 (Nat.le_refl _)).tr (fun a k hk => f3 a k (by omega)) (Nat.le_refl _), a4.cong fun a k _ _ _ _ => f3 a k (by omega), (fld 63 (by omega)).trans a5, (fld 64 (by omega)).trans a6⟩
    rw [hn1, List.length_append] at h9
    show 2 * E.1.length ≤ t2
    omega
end SCP
