/-! ===== the Model's tokens: numbers ===== -/
set_option maxRecDepth 100000
def vdg (sx : Bool) (c : Int32) : Bool := decide (¬ (f_X2_digit c < 0 ∨ (sx = false ∧ ¬ f_X2_digit c ≤ 9)))
def dvf (tx : Nat → Int32) (sx : Bool) : Nat → Nat → Int64 → Int64
  | 0, _, v => v
  | c + 1, p, v => dvf tx sx c (p + 1) ((if sx then 16 else 10) * v + (f_X2_digit (tx p)).toInt64)
section MNu
variable {m n p s l : Nat} {I J : xII} {tx : Nat → Int32} {nm : List (Nat × Nat)} {D : tkL} {sx : Bool}
theorem dvf_snoc : ∀ (c p : Nat) (v : Int64), dvf tx sx (c + 1) p v = (if sx then 16 else 10) * dvf tx sx c p v + (f_X2_digit (tx (p + c))).toInt64
  | 0, p, v => rfl
  | c + 1, p, v => by
    rw [dvf, dvf_snoc c (p + 1), show p + 1 + c = p + (c + 1) by omega]
    rfl
theorem dgs_some : ∀ (c p : Nat) (v : Int64), (∀ i, i < c → vdg sx (tx (p + i)) = true) → dgs tx sx c p v = some (dvf tx sx c p v)
  | 0, p, v, _ => rfl
  | c + 1, p, v, h => by
    have h0 := of_decide_eq_true (h 0 (by omega))
    rw [Nat.add_zero] at h0
    rw [dgs, if_neg h0, dvf]
    exact dgs_some c (p + 1) _ fun i hi => by rw [show p + 1 + i = p + (i + 1) by omega]; exact h (i + 1) (by omega)
theorem dgs_none : ∀ (c p : Nat) (v : Int64) (i : Nat), i < c → vdg sx (tx (p + i)) = false → dgs tx sx c p v = none
  | 0, p, v, i, hi, _ => absurd hi (Nat.not_lt_zero _)
  | c + 1, p, v, i, hi, h => by
    by_cases h0 : f_X2_digit (tx p) < 0 ∨ (sx = false ∧ ¬ f_X2_digit (tx p) ≤ 9)
    · rw [dgs, if_pos h0]
    · rw [dgs, if_neg h0]
      cases i with
      | zero =>
        have := of_decide_eq_false h
        rw [Nat.add_zero] at this
        exact absurd h0 this
      | succ i => exact dgs_none c (p + 1) _ i (by omega) (by rw [show p + 1 + i = p + (i + 1) by omega]; exact h)
/-- how many digits there are -/
def nDg (tx : Nat → Int32) (n s : Nat) : Nat := run1 (fun k => vdg (sxB tx n s) (tx k)) n (s + if sxB tx n s then 2 else 0)
theorem vdg_in (hB : txB tx n) {k : Nat} (hk : k < n) (h : vdg sx (tx k) = true) : inB (tx k) = true := by
  obtain ⟨c, hc, e⟩ := hB k hk
  have h0 := of_decide_eq_true h
  rw [e] at h0 ⊢
  exact (byt c hc).2.2.2.2.2.2 fun q => h0 (Or.inl q)
theorem rnL_step {k : Nat} (hk : k < n) (h : inB (tx k) = true) : rnL tx n k = rnL tx n (k + 1) + 1 := run1_lt hk h
theorem sx_run (hs : s < n) (hd : ¬ f_X2_isDigit (tx s) = 0) : (if sxB tx n s then 2 else 0) ≤ rnL tx n s ∧ rnL tx n (s + if sxB tx n s then 2 else 0) = rnL tx n s - (if sxB tx n s then 2 else 0) ∧ s + (if sxB tx n s then 2 else 0) ≤ n := by
  by_cases h : sxB tx n s = true
  · have h0 := of_decide_eq_true h
    have h1 : s + 1 < n := by
      rcases Nat.lt_or_ge (s + 1) n with q | q
      · exact q
      · rw [hNow_ge (by omega)] at h0
        exact absurd h0.2 (by decide)
    have h2 := h0.2
    rw [hNow_lt h1] at h2
    have e1 := rnL_step hs (inB_dig hd)
    have e2 : rnL tx n (s + 1) = rnL tx n (s + 2) + 1 := rnL_step (tx := tx) h1 (by rw [h2]; decide)
    rw [h]
    simp only [if_true]
    omega
  · simp only [h]
    simp
    omega
theorem nDg_le (hB : txB tx n) (hs : s < n) (hd : ¬ f_X2_isDigit (tx s) = 0) : nDg tx n s ≤ rnL tx n s - (if sxB tx n s then 2 else 0) ∧ (nDg tx n s < rnL tx n s - (if sxB tx n s then 2 else 0) → vdg (sxB tx n s) (tx (s + (if sxB tx n s then 2 else 0) + nDg tx n s)) = false) ∧ (∀ i, i < nDg tx n s → vdg (sxB tx n s) (tx (s + (if sxB tx n s then 2 else 0) + i)) = true ∧ s + (if sxB tx n s then 2 else 0) + i < n) := by
  obtain ⟨a1, a2, a3⟩ := sx_run hs hd
  generalize hb : (if sxB tx n s then 2 else 0) = b at *
  have hin : ∀ i, i < nDg tx n s → vdg (sxB tx n s) (tx (s + b + i)) = true ∧ s + b + i < n := fun i hi => by
    have := run1_in (P := fun k => vdg (sxB tx n s) (tx k)) (n := n) (n - (s + b)) (p := s + b) rfl i (by rw [nDg, hb] at hi; exact hi)
    exact this
  have hle : nDg tx n s ≤ rnL tx n (s + b) := by
    rcases Nat.lt_or_ge (rnL tx n (s + b)) (nDg tx n s) with q | q
    · exfalso
      have hr := run1_le (P := fun k => inB (tx k)) (n := n) (n - (s + b)) (p := s + b) rfl a3
      have h1 := hin _ q
      have h2 := vdg_in hB h1.2 h1.1
      have h3 := run1_out (P := fun k => inB (tx k)) (n := n) (n - (s + b)) (p := s + b) rfl h1.2
      have h4 : inB (tx (s + b + rnL tx n (s + b))) = false := h3
      rw [h2] at h4
      exact absurd h4 (by decide)
    · exact q
  refine ⟨by omega, fun hlt => ?_, hin⟩
  have hr := run1_le (P := fun k => inB (tx k)) (n := n) (n - (s + b)) (p := s + b) rfl a3
  have hr' : s + b + rnL tx n (s + b) ≤ n := hr
  have h3 := run1_out (P := fun k => vdg (sxB tx n s) (tx k)) (n := n) (n - (s + b)) (p := s + b) rfl (by
    show s + b + run1 (fun k => vdg (sxB tx n s) (tx k)) n (s + b) < n
    have : nDg tx n s = run1 (fun k => vdg (sxB tx n s) (tx k)) n (s + b) := by rw [nDg, hb]
    omega)
  have e : nDg tx n s = run1 (fun k => vdg (sxB tx n s) (tx k)) n (s + b) := by rw [nDg, hb]
  rw [e]
  exact h3
theorem nbT_no (hB : txB tx n) (hs : s < n) (hd : ¬ f_X2_isDigit (tx s) = 0) (h : nDg tx n s < 1 ∨ (if sxB tx n s then 8 else 10) < nDg tx n s ∨ nDg tx n s < rnL tx n s - (if sxB tx n s then 2 else 0)) : nbT tx n s = none := by
  obtain ⟨l1, l2, l3⟩ := nDg_le hB hs hd
  unfold nbT
  by_cases c : rnL tx n s = (if sxB tx n s then 2 else 0) ∨ ¬ rnL tx n s - (if sxB tx n s then 2 else 0) ≤ (if sxB tx n s then 8 else 10)
  · rw [if_pos c]
  · rw [if_neg c]
    have hlt : nDg tx n s < rnL tx n s - (if sxB tx n s then 2 else 0) := by
      obtain ⟨a1, -, -⟩ := sx_run hs hd
      generalize (if sxB tx n s then 2 else 0) = b at *
      generalize (if sxB tx n s then 8 else 10) = x at *
      omega
    rw [dgs_none _ _ _ _ hlt (l2 hlt)]
theorem nbT_yes (hB : txB tx n) (hs : s < n) (hd : ¬ f_X2_isDigit (tx s) = 0) (h1 : 1 ≤ nDg tx n s) (h2 : nDg tx n s ≤ (if sxB tx n s then 8 else 10)) (h3 : nDg tx n s = rnL tx n s - (if sxB tx n s then 2 else 0)) : nbT tx n s = if lg_cmp (dvf tx (sxB tx n s) (nDg tx n s) (s + if sxB tx n s then 2 else 0) 0) 4294967295 ≤ 0 then some ((dvf tx (sxB tx n s) (nDg tx n s) (s + if sxB tx n s then 2 else 0) 0).toInt32, rnL tx n s) else none := by
  obtain ⟨l1, l2, l3⟩ := nDg_le hB hs hd
  obtain ⟨a1, -, -⟩ := sx_run hs hd
  unfold nbT
  rw [if_neg (by omega), ← h3, dgs_some _ _ _ fun i hi => (l3 i hi).1]
theorem s_X13_numberToken (h : mTx I m n tx) (hB : txB tx n) (hN : mNm I m tx n nm) (hT : mTks I m D) (hs : s < n) (hd : ¬ f_X2_isDigit (tx s) = 0) (hD : D.length < 4002) : w_X13_numberToken m (nI s) (fun v J => tkM I J m n tx D s (tkOne tx n s nm) v) I := by
  have hn := h.2.1
  have hL := rnL_le (tx := tx) (n := n) (p := s) (by omega)
  obtain ⟨l1, l2, l3⟩ := nDg_le hB hs hd
  obtain ⟨a1, a2, a3⟩ := sx_run hs hd
  have eT : tkOne tx n s nm = match nbT tx n s with
    | none => (1, 0, 0, nm)
    | some q => (3, q.1, q.2, nm) := by
    rw [tkOne, if_pos hd]
    rfl
  have hno : nbT tx n s = none → tkM I I m n tx D s (tkOne tx n s nm) (-1) := fun e => by rw [eT, e]; exact Or.inl ⟨rfl, rfl, rfl⟩
  refine ⟨_, s_at h (k := s) rfl (by omega), ?_⟩
  rintro _ _ ⟨rfl, rfl⟩
  rw [mAt_lt hs]
  refine ⟨fun y J => y = (if sxB tx n s = true then (1 : Int32) else 0) ∧ I = J, ?_, fun q48 => ⟨_, s_at h (k := s + 1) (nI_1 s) (by omega), ?_⟩, fun q48 => ⟨?_, rfl⟩⟩
  rotate_left
  · rintro _ _ ⟨rfl, rfl⟩
    rw [mAt_now (by decide) (by decide)]
    refine ⟨fun q => ⟨?_, rfl⟩, fun q => ⟨?_, rfl⟩⟩
    · rw [if_pos (show sxB tx n s = true from decide_eq_true ⟨q48, q⟩)]
    · rw [if_neg (fun z : sxB tx n s = true => q (of_decide_eq_true z).2)]
  · rw [if_neg (fun z : sxB tx n s = true => q48 (of_decide_eq_true z).1)]
  rintro _ _ ⟨rfl, rfl⟩
  have hx0 : (if sxB tx n s = true then (1 : Int32) else 0) = 0 ↔ sxB tx n s = false := by cases sxB tx n s <;> decide
  have e0 : (if (if sxB tx n s = true then (1 : Int32) else 0) = 0 then nI s else nI s + (2 : Int32)) = nI (s + if sxB tx n s then 2 else 0) := by
    cases sxB tx n s
    · rfl
    · exact nI_add s 2
  have emx : (if (if sxB tx n s = true then (1 : Int32) else 0) = 0 then (10 : Int32) else (8 : Int32)) = nI (if sxB tx n s then 8 else 10) := by cases sxB tx n s <;> rfl
  rw [e0, emx]
  have no := nbT_no hB hs hd
  have yes := nbT_yes hB hs hd
  have hb2 : (if sxB tx n s then 2 else 0) ≤ 2 := by cases sxB tx n s <;> decide
  have hmx : (if sxB tx n s then 8 else 10) ≤ 10 := by cases sxB tx n s <;> decide
  have hbase : ∀ v : Int64, v * (if sxB tx n s = true then 16 else 10) = (if sxB tx n s = true then 16 else 10) * v := fun v => Int64.mul_comm _ _
  generalize hbb : (if sxB tx n s then 2 else 0) = b at *
  generalize hmm : (if sxB tx n s then 8 else 10) = mx at *
  generalize hrr : nDg tx n s = r at *
  refine ⟨fun c y v J => ∃ i, i ≤ r ∧ y = nI (s + b + i) ∧ v = dvf tx (sxB tx n s) (min i 10) (s + b) 0 ∧ c = r - i ∧ I = J, ⟨r, 0, Nat.zero_le _, rfl, rfl, rfl, rfl⟩, ?_⟩
  rintro _ _ _ _ ⟨i, hi, rfl, rfl, rfl, rfl⟩
  have esub : nI (s + b + i) - nI (s + b) = nI i := by rw [nI_sub (by omega)]; congr 1; omega
  rw [esub]
  have hr4 : s + b + r ≤ n := by
    rcases Nat.eq_zero_or_pos r with q | q
    · omega
    · have := (l3 (r - 1) (by omega)).2
      omega
  -- the digit at i: there is one as long as i < r
  have stop : i < r ∨ i = r := by omega
  have nodig : ∀ {c : Int32}, c = mAt tx n (s + b + r) → (c = 0 ∨ ∃ k, k < 256 ∧ c = nI k ∧ s + b + r < n ∧ tx (s + b + r) = nI k ∧ vdg (sxB tx n s) (nI k) = false) := by
    intro c hc
    by_cases q : s + b + r < n
    · obtain ⟨k, k1, k2⟩ := hB _ q
      refine Or.inr ⟨k, k1, by rw [hc, mAt_lt q, k2], q, k2, ?_⟩
      have := run1_out (P := fun k => vdg (sxB tx n s) (tx k)) (n := n) (n - (s + b)) (p := s + b) rfl (by
        have : run1 (fun k => vdg (sxB tx n s) (tx k)) n (s + b) = r := by rw [← hrr, nDg, hbb]
        rw [this]; exact q)
      have e : run1 (fun k => vdg (sxB tx n s) (tx k)) n (s + b) = r := by rw [← hrr, nDg, hbb]
      rw [e] at this
      rw [← k2]
      exact this
    · exact Or.inl (by rw [hc, mAt_ge q])
  have back : ∀ {y : Int32} {w : Int64}, i < r → y = nI (s + b + i) + 1 → w = dvf tx (sxB tx n s) (min (i + 1) 10) (s + b) 0 → ∃ q3, q3 < r - i ∧ ∃ i, i ≤ r ∧ y = nI (s + b + i) ∧ w = dvf tx (sxB tx n s) (min i 10) (s + b) 0 ∧ q3 = r - i ∧ I = I := fun {y w} q1 q2 q3 => ⟨r - (i + 1), by omega, i + 1, by omega, by rw [q2, nI_1]; rfl, q3, rfl, rfl⟩
  have h10 : (10 : Int32) ≤ nI i ↔ 10 ≤ i := nI_leI (a := 10) (by decide) (by omega)
  refine ⟨fun I4 => I = I4 ∧ i = r, ?_, fun y0 => ?_, fun y0 => ?_⟩
  · rintro _ ⟨rfl, rfl⟩
    have c1 : nI i < 1 ↔ i < 1 := nI_ltI (b := 1) (by omega) (by decide)
    have c2 : nI mx < nI i ↔ mx < i := nI_ltI (by omega) (by omega)
    refine ⟨fun q => hno (no (Or.inl (c1.mp q))), fun q => ⟨fun q2 => hno (no (Or.inr (Or.inl (c2.mp q2)))), fun q2 => ?_⟩⟩
    have hi1 : 1 ≤ i := by have : ¬ i < 1 := fun z => q (c1.mpr z); omega
    have him : i ≤ mx := by have : ¬ mx < i := fun z => q2 (c2.mpr z); omega
    rw [show min i 10 = i by omega]
    refine ⟨fun q3 => ?_, fun q3 => ⟨_, s_at h (k := s + b + i) rfl (by omega), ?_⟩⟩
    · by_cases w : i < rnL tx n s - b
      · exact hno (no (Or.inr (Or.inr w)))
      · exact hno (by rw [yes hi1 him (by omega), if_neg (Int32.not_le.mpr q3)])
    · rintro _ _ ⟨rfl, rfl⟩
      refine ⟨fun q4 => ?_, fun q4 => ?_⟩
      · have hin := (s_inner hB).mp q4
        have hL2 : i = rnL tx n s - b := by
          rcases Nat.lt_or_ge i (rnL tx n s - b) with w | w
          · exfalso
            have := run1_in (P := fun k => inB (tx k)) (n := n) (n - (s + b)) (p := s + b) rfl i (by
              have : rnL tx n (s + b) = run1 (fun k => inB (tx k)) n (s + b) := rfl
              omega)
            exact hin ⟨this.2, this.1⟩
          · omega
        have eY := yes hi1 him hL2
        rw [if_pos (Int32.not_lt.mp q3)] at eY
        rw [eT, eY]
        refine ⟨_, s_X13_token (q := (3, (dvf tx (sxB tx n s) i (s + b) 0).toInt32, s)) hT hD rfl rfl rfl, ?_⟩
        rintro K ⟨b1, b2, b3⟩
        refine Or.inr ⟨(by decide : ¬ (3 : Int32) = 1), ?_, b1, hN.fr b3, b2, b3 _ _ (by omega) (by omega) (by omega) (by omega)⟩
        show nI (s + b + i) = nI (s + rnL tx n s)
        congr 1
        omega
      · have hin : s + b + i < n ∧ inB (tx (s + b + i)) = true := Classical.not_not.mp fun z => q4 ((s_inner hB).mpr z)
        refine hno (no (Or.inr (Or.inr ?_)))
        rcases Nat.lt_or_ge i (rnL tx n s - b) with w | w
        · exact w
        · exfalso
          have e : rnL tx n (s + b) = i := by omega
          have := run1_out (P := fun k => inB (tx k)) (n := n) (n - (s + b)) (p := s + b) rfl (by
            have : rnL tx n (s + b) = run1 (fun k => inB (tx k)) n (s + b) := rfl
            omega)
          have e2 : run1 (fun k => inB (tx k)) n (s + b) = i := e
          rw [e2] at this
          have t : inB (tx (s + b + i)) = false := this
          rw [hin.2] at t
          exact absurd t (by decide)
  · have hsx := hx0.mp y0
    refine ⟨_, s_at h (k := s + b + i) rfl (by omega), ?_⟩
    rintro _ _ ⟨rfl, rfl⟩
    rcases stop with hlt | rfl
    · obtain ⟨v1, v2⟩ := l3 i hlt
      obtain ⟨k, k1, k2⟩ := hB _ v2
      have vv := of_decide_eq_true v1
      rw [k2, hsx] at vv
      have vd : ¬ f_X2_digit (nI k) < 0 ∧ f_X2_digit (nI k) ≤ 9 := ⟨fun z => vv (Or.inl z), Classical.not_not.mp fun z => vv (Or.inr ⟨rfl, z⟩)⟩
      obtain ⟨t1, t2, t3, t4, t5, t6, t7⟩ := byt k k1
      rw [mAt_lt v2, k2]
      refine ⟨fun q => ?_, fun _ => ⟨fun w J => w = dvf tx (sxB tx n s) (min (i + 1) 10) (s + b) 0 ∧ I = J, ?_, fun q => ⟨?_, rfl⟩, fun q => ⟨_, s_at h (k := s + b + i) rfl (by omega), ?_⟩⟩⟩
      · rcases t6.mp q with z | z
        · exact absurd z vd.1
        · exact absurd vd.2 z
      · rintro _ _ ⟨rfl, rfl⟩
        exact back hlt rfl rfl
      · have := h10.mp q
        rw [show min i 10 = 10 by omega, show min (i + 1) 10 = 10 by omega]
      · rintro _ _ ⟨rfl, rfl⟩
        have hi10 : i < 10 := by have : ¬ 10 ≤ i := fun z => q (h10.mpr z); omega
        rw [mAt_lt v2, k2, t5 vd.1, show min i 10 = i by omega, show min (i + 1) 10 = i + 1 by omega, dvf_snoc, k2, hsx]
        refine ⟨?_, rfl⟩
        rw [Int64.mul_comm]
        rfl
    · rcases nodig rfl with z | ⟨k, k1, k2, k3, k4, k5⟩
      · rw [z]
        exact ⟨fun _ => ⟨rfl, rfl⟩, fun q => absurd (by decide) q⟩
      · rw [k2]
        obtain ⟨t1, t2, t3, t4, t5, t6, t7⟩ := byt k k1
        have vv := Classical.not_not.mp (of_decide_eq_false k5)
        rw [hsx] at vv
        exact ⟨fun _ => ⟨rfl, rfl⟩, fun q => absurd (t6.mpr (vv.elim Or.inl fun z => Or.inr z.2)) q⟩
  · have hsx : sxB tx n s = true := by
      cases w : sxB tx n s
      · exact absurd (hx0.mpr w) y0
      · rfl
    refine ⟨_, s_at h (k := s + b + i) rfl (by omega), ?_⟩
    rintro _ _ ⟨rfl, rfl⟩
    rcases stop with hlt | rfl
    · obtain ⟨v1, v2⟩ := l3 i hlt
      obtain ⟨k, k1, k2⟩ := hB _ v2
      have vv := of_decide_eq_true v1
      rw [k2] at vv
      have vd : ¬ f_X2_digit (nI k) < 0 := fun z => vv (Or.inl z)
      obtain ⟨t1, t2, t3, t4, t5, t6, t7⟩ := byt k k1
      rw [mAt_lt v2, k2]
      refine ⟨fun q => absurd (t4.mp q) vd, fun _ => ⟨fun w J => w = dvf tx (sxB tx n s) (min (i + 1) 10) (s + b) 0 ∧ I = J, ?_, fun q => ⟨?_, rfl⟩, fun q => ⟨_, s_at h (k := s + b + i) rfl (by omega), ?_⟩⟩⟩
      · rintro _ _ ⟨rfl, rfl⟩
        exact back hlt rfl rfl
      · have := h10.mp q
        rw [show min i 10 = 10 by omega, show min (i + 1) 10 = 10 by omega]
      · rintro _ _ ⟨rfl, rfl⟩
        have hi10 : i < 10 := by have : ¬ 10 ≤ i := fun z => q (h10.mpr z); omega
        rw [mAt_lt v2, k2, t5 vd, show min i 10 = i by omega, show min (i + 1) 10 = i + 1 by omega, dvf_snoc, k2, hsx]
        refine ⟨?_, rfl⟩
        rw [Int64.mul_comm]
        rfl
    · rcases nodig rfl with z | ⟨k, k1, k2, k3, k4, k5⟩
      · rw [z]
        exact ⟨fun _ => ⟨rfl, rfl⟩, fun q => absurd (by decide) q⟩
      · rw [k2]
        obtain ⟨t1, t2, t3, t4, t5, t6, t7⟩ := byt k k1
        have vv := Classical.not_not.mp (of_decide_eq_false k5)
        refine ⟨fun _ => ⟨rfl, rfl⟩, fun q => absurd (t4.mpr ?_) q⟩
        rcases vv with z | z
        · exact z
        · rw [hsx] at z
          exact absurd z.1 (by decide)
end MNu
