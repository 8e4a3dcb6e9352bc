/-! ===== the House's parser: signs ahead, rows of signs ===== -/
set_option maxRecDepth 100000
section HA
variable {G : xG} {A A1 B : xA} {x t t1 op d z z1 : Nat} {D : tkL} {E : Nat → xA → Prop} {r : pR} {v : Option Nat}
variable {r0 r2 r3 r4 : oT} {r1' : Nat → Int32 → (Option Nat → xA → Prop) → (Nat → xA → Prop) → xA → Prop} {r5 r6 : oT2}
theorem s_X1_ahead (h3 : oE G x D r3 (pOpnd D (pE' D d) d) op) : oE G x D (w_X1_ahead G r0 r1' r2 r3 r4 r5 r6) (pAhead D (pE' D d) d) op := by
  intro A t E h hr hE hok
  have ht := h.lt
  have hxl := h.xl
  have hle := h.le
  have hN := h.1.1
  refine ⟨hs_t2 h.1, _, s_X1_here h, ?_⟩
  rintro _ _ _ ⟨rfl, rfl⟩
  refine ⟨hs_t2 h.1, fun n A4 => ∃ t4, n = D.length - t4 ∧ PS G A4 x D t4 op ∧ pz x A A4 ∧ t ≤ t4 ∧ t4 + pSg D t4 = t + pSg D t ∧ xok G A4, ⟨_, t, rfl, h, ⟨pf.rf, rfl, rfl⟩, Nat.le_refl _, rfl, hok⟩, ?_⟩
  rintro _ A4 ⟨t4, rfl, p4, ⟨f4, n4, u4⟩, l4, e4, hok4⟩
  have ht4 := p4.lt
  have nxt : isAh (tK D t4) = true → A4.tg (x + 2) = 2 ∧ ∀ A8 : xA, A8 = A4.setI (x + 2) 3 (A4.I (x + 2) 3 + 1) → ∃ q, q < D.length - t4 ∧ ∃ t4, q = D.length - t4 ∧ PS G A8 x D t4 op ∧ pz x A A8 ∧ t ≤ t4 ∧ t4 + pSg D t4 = t + pSg D t ∧ xok G A8 := by
    intro q
    refine ⟨hs_t2 p4.1, ?_⟩
    rintro _ rfl
    rw [p4.a, nI_1]
    have hx := p4.2.2.1.nx ht4 (isAh_n q).1 (isAh_n q).2
    have e : pSg D t4 = pSg D (t4 + 1) + 1 := run1_lt ht4 q
    exact ⟨_, by omega, t4 + 1, rfl, p4.at hx, ⟨f4.set, n4, u4⟩, by omega, by omega, hok4.setI (by omega)⟩
  refine ⟨hs_t2 p4.1, _, s_X1_is p4, ?_⟩
  rintro v5 _ _ _ ⟨⟨rfl, q5⟩ | ⟨rfl, q5⟩, rfl⟩
  · refine ⟨fun q => absurd q (by decide), fun _ => ?_⟩
    exact nxt (by rw [q5]; rfl)
  refine ⟨fun _ => ?_, fun q => absurd rfl q⟩
  refine ⟨hs_t2 p4.1, _, s_X1_is p4, ?_⟩
  rintro v9 _ _ _ ⟨⟨rfl, q9⟩ | ⟨rfl, q9⟩, rfl⟩
  · refine ⟨fun q => absurd q (by decide), fun _ => ?_⟩
    exact nxt (by rw [q9]; rfl)
  refine ⟨fun _ => ?_, fun q => absurd rfl q⟩
  refine ⟨hs_t2 p4.1, _, s_X1_is p4, ?_⟩
  rintro v13 _ _ _ ⟨⟨rfl, q13⟩ | ⟨rfl, q13⟩, rfl⟩
  · refine ⟨fun q => absurd q (by decide), fun _ => ?_⟩
    exact nxt (by rw [q13]; rfl)
  refine ⟨fun _ => ?_, fun q => absurd rfl q⟩
  have e0 : pSg D t4 = 0 := run1_no (decide_eq_false (fun q => q.elim q5 (fun q => q.elim q9 q13)))
  have em : A4.I (x + 2) 3 - A.I (x + 2) 3 = nI (pSg D t) := by rw [p4.a, h.a, nI_sub l4]; congr 1; omega
  have hm : t4 = t + pSg D t := by omega
  rw [em]
  refine ⟨hs_t2 p4.1, fun q => ?_, fun q => ?_⟩
  · have q0 : pSg D t = 0 := (nI_eq (b := 0) (by omega) (by decide)).mp q
    have eP : pAhead D (pE' D d) d t = pOpnd D (pE' D d) d t4 := by rw [pAhead, if_pos q0, hm, q0]; rfl
    rw [eP] at hE ⊢
    refine ⟨_, h3 A4 t4 E p4 (hr.sub (by omega) (by omega) (by omega) (by omega)) (hE.sub f4 (by omega) (by omega) (by omega) (fun f e => e)), ?_⟩
    intro v34 A34 hok34 w
    exact w.sub hok34 f4 (by omega) (by omega) (by omega)
  · have q0 : ¬ pSg D t = 0 := fun z => q (by rw [z]; rfl)
    generalize hmm : pSg D t = m at *
    have eix : ix (nI m) = m := nI_clamp (by omega)
    rw [eix]
    refine ⟨(hr.rr (A1 := A4) (t1 := t4) (c := 1) (s := m) (by omega) (by omega) (by omega) (by omega)).a, ?_⟩
    rintro _ rfl
    have eP : pAhead D (pE' D d) d t = pAnd (pOpnd D (pE' D d) d t4) fun e t1 => .ok (nd 5 (tP D t :: (List.range m).map fun i => tK D (t + i)) e lf, t1) := by rw [pAhead, hmm, if_neg q0, hm]
    rw [eP] at hE ⊢
    have hl4 := p4.1.lt
    refine ⟨fun n y A18 => ∃ i, i ≤ m ∧ n = m - i ∧ y = nI i ∧ xok G A18 ∧ Fr (fun a => a = A4.n) A4 A18 ∧ A18.tg A4.n = 200 ∧ A18.ln A4.n = m ∧ (∀ j, j < i → A18.I A4.n j = tK D (t + j)) ∧ A18.n = A4.n + 1 ∧ A18.u = A4.u + m, ⟨_, 0, Nat.zero_le _, rfl, rfl, hok4.new, Fr.fn, by rw [gN_tg, if_pos rfl], by rw [gN_ln, if_pos rfl], fun j hj => absurd hj (Nat.not_lt_zero _), rfl, rfl⟩, ?_⟩
    rintro _ _ A18 ⟨i, hi, rfl, rfl, hok18, f18, g18, n18, c18, k18, u18⟩
    have p18 : PS G A18 x D t4 op := p4.fr f18 (fun a ha q => by omega)
    have hc : nI m ≤ nI i ↔ m ≤ i := nI_leI (by omega) (by omega)
    refine ⟨fun hq => ?_, fun hq => ?_⟩
    · have him : i = m := by have := hc.mp hq; omega
      subst him
      refine ⟨(hr.rr (A1 := A18) (t1 := t4) (c := 1) (s := 3) (by omega) (by omega) (by omega) (by omega)).o, ?_⟩
      rintro _ rfl
      have p20 : PS G (A18.new 19 0 3 0) x D t4 op := p18.fr Fr.fn (fun a ha q => by omega)
      have f20 : pf x A (A18.new 19 0 3 0) := (f4.own f18 (fun a ha q => by omega) hxl).own Fr.fn (fun a ha q => by omega) hxl
      have hn20 : (A18.new 19 0 3 0).n = A18.n + 1 := rfl
      have hu20 : (A18.new 19 0 3 0).u = A18.u + 3 := rfl
      refine ⟨hs_t2 p20.1, _, h3 _ t4 E p20 (hr.sub (by omega) (by omega) (by omega) (by omega)) (hE.sub f20 (by omega) (by omega) (by omega) (fun f e => by rw [e]; rfl)), ?_⟩
      rintro _ A21 hok21 ⟨e, tr, t21, r21, rfl, p21, f21, l21, n21, u21, i21, x21⟩
      rw [r21] at hE ⊢
      have tg21 : A21.tg A18.n = 19 := by rw [f21.1.tg (by omega), gN_tg, if_pos rfl]
      refine ⟨_, s_X20_init tg21, ?_⟩
      rintro _ hok23 rfl
      have f23 : Fr (fun a => a = A18.n) A21 (((A21.setI A18.n 0 (tP D t)).setP A18.n 1 (some A4.n)).setP A18.n 2 (some e)) := Fr.rf.fs.fp.fp
      have hA4 := f4.1.1
      have hA21 := f21.1.1
      have ne : A4.n ≠ A18.n := by omega
      have k21 : ∀ j, A21.I A4.n j = A18.I A4.n j := fun j => by rw [f21.1.I (by omega) (by omega), gN_I, if_neg ne]
      refine ⟨A18.n, _, t21, rfl, rfl, p21.fr f23 (fun a ha q => by omega), (f20.tr f21).own f23 (fun a ha q => by omega) hxl, by omega, ?_, ?_, by show 5 ≤ 8; decide, ?_⟩
      · show A21.n ≤ _
        omega
      · show A21.u ≤ _
        omega
      · refine ⟨rfl, A18.n, A4.n, e, rfl, by omega, tg21, ?_, ?_, by omega, ?_, ?_, ?_, ?_, ?_⟩
        · rw [gP_I, gP_I, gI_I, if_pos ⟨rfl, rfl⟩]
        · rw [gP_P, if_neg (by omega), gP_P, if_pos ⟨rfl, rfl⟩]
        · show A21.tg A4.n = 200
          rw [f21.1.tg (by omega), gN_tg, if_neg ne]
          exact g18
        · show A21.ln A4.n = _
          rw [f21.1.ln (by omega), gN_ln, if_neg ne, n18, List.length_map, List.length_range]
        · intro j s hs
          rw [List.getElem?_map] at hs
          have hj : j < i := by
            rcases Nat.lt_or_ge j i with q | q
            · exact q
            · rw [List.getElem?_eq_none (by rw [List.length_range]; exact q)] at hs
              exact nomatch hs
          rw [List.getElem?_range hj] at hs
          rw [gP_I, gP_I, gI_I, if_neg (fun q => ne q.1), k21, c18 j hj]
          exact Option.some.inj hs
        · rw [gP_P, if_pos ⟨rfl, rfl⟩]
        · exact rX.fr hok21 hok23 f23 _ (Kp.one (by rw [tg21]; decide) (fun q => q.2 rfl)) (rX.mn hok21 _ (fun a q _ => ⟨by omega, by omega⟩) x21)
    · have him : i < m := by
        rcases Nat.lt_or_ge i m with q | q
        · exact q
        · exact absurd (hc.mpr q) hq
      have ei : A.I (x + 2) 3 + nI i = nI (t + i) := by rw [h.a, nI_add]
      rw [ei]
      refine ⟨hs_t2 p18.1, _, hs_P2_0 p18.1, hs_t3 p18.1, _, hs_P3_2 p18.1, hs_t6 p18.1, ?_, g18, by omega, ?_, ?_⟩
      · rw [hs_n6 p18.1]
        exact vp_in_nI (by omega) (by decide)
      · rw [n18]
        exact vp_in_nI him (by omega)
      rintro _ rfl
      rw [show ix (nI i) = i from nI_clamp (by omega), show ix (nI (t + i)) = t + i from nI_clamp (by omega), (tk_at p18.2.1 (t := t + i) (by omega)).1]
      refine ⟨m - (i + 1), by omega, i + 1, by omega, rfl, nI_1 i, hok18.setI (by omega), f18.fs, g18, n18, fun j hj => ?_, k18, u18⟩
      rw [gI_I]
      split
      · rename_i q
        rw [q.2]
      · rename_i q
        exact c18 j (by omega)
end HA
