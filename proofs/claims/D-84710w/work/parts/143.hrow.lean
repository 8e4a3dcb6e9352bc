/-! ===== the House's parser: rows of signs ===== -/
set_option maxRecDepth 100000
abbrev oT1 : Type := Nat → Int32 → (Option Nat → xA → Prop) → (Nat → xA → Prop) → xA → Prop
def oR (G : xG) (x : Nat) (D : tkL) (r1 : oT1) (d k op : Nat) : Prop := ∀ A t E, PS G A x D t op → pm G D A t 0 → pX x D A t 0 (pRow D (pE' D d) d k t) E → r1 (x + 2) (nI (10 - k)) (pQ G x D A t op 0 (pRow D (pE' D d) d k t)) E A
/-- marks of a chain that goes on -/
def mkr (r : Int32) (ac : List Int32) : List Int32 := if (2 : Int32) ≤ r then ac else ac.map fun _ => 100 + if r = 1 then 1 else 0
section HR
variable {G : xG} {A A1 B : xA} {x t t1 op d z z1 k : Nat} {D : tkL} {E : Nat → xA → Prop} {r : pR} {v : Option Nat}
variable {r0 r2 r3 r4 : oT} {r1' : oT1} {r5 r6 : oT2}
theorem s_X1_cut {b m : Nat} (hok : xok G A) (hb : A.tg b = 200) (hm : m ≤ A.ln b) (hm2 : m < 1000000) (hr : rm G A 1 m) : w_X1_cut G (some b) (nI m) (fun v B => some A.n = v ∧ Fr (fun a => a = A.n) A B ∧ B.tg A.n = 200 ∧ B.ln A.n = m ∧ (∀ i, i < m → B.I A.n i = A.I b i) ∧ B.n = A.n + 1 ∧ B.u = A.u + m) A := by
  intro _
  have eix : ix (nI m) = m := nI_clamp (by omega)
  have hbl := hok.1.lt hb
  have hN := hok.2.1
  refine ⟨hr.a, ?_⟩
  rintro _ rfl
  rw [eix]
  refine ⟨fun n y A3 => ∃ i, i ≤ m ∧ n = m - i ∧ y = nI i ∧ Fr (fun a => a = A.n) A A3 ∧ A3.tg A.n = 200 ∧ A3.ln A.n = m ∧ (∀ j, j < i → A3.I A.n j = A.I b j) ∧ A3.n = A.n + 1 ∧ A3.u = A.u + m, ⟨_, 0, Nat.zero_le _, rfl, rfl, Fr.fn, by rw [gN_tg, if_pos rfl], by rw [gN_ln, if_pos rfl], fun j hj => absurd hj (Nat.not_lt_zero _), rfl, rfl⟩, ?_⟩
  rintro _ _ A3 ⟨i, hi, rfl, rfl, f3, g3, n3, c3, k3, u3⟩
  have hc : nI m ≤ nI i ↔ m ≤ i := nI_leI (by omega) (by omega)
  refine ⟨fun hq => ?_, fun hq => ?_⟩
  · have : i = m := by have := hc.mp hq; omega
    subst this
    exact ⟨rfl, f3, g3, n3, c3, k3, u3⟩
  · have him : i < m := by
      rcases Nat.lt_or_ge i m with q | q
      · exact q
      · exact absurd (hc.mpr q) hq
    refine ⟨b, rfl, (f3.tg hbl).trans hb, ?_, g3, hN, ?_, ?_⟩
    · rw [f3.ln hbl]
      have := hok
      exact vp_in_iff.mpr ⟨by rw [nI_toInt (by omega)]; omega, by rw [nI_toInt (by omega)]; omega⟩
    · rw [n3]
      exact vp_in_nI him (by omega)
    rintro _ rfl
    rw [show ix (nI i) = i from nI_clamp (by omega), f3.I hbl (by omega)]
    refine ⟨m - (i + 1), by omega, i + 1, by omega, rfl, nI_1 i, f3.fs, g3, n3, fun j hj => ?_, k3, u3⟩
    rw [gI_I]
    split
    · rename_i q
      rw [q.2]
    · exact c3 j (by omega)
theorem s_X1_row0 (h2 : oE G x D r2 (pAhead D (pE' D d) d) op) : oR G x D (w_X1_row G r0 r1' r2 r3 r4 r5 r6) d 0 op := by
  intro A t E h hr hE hok
  refine ⟨fun _ => ⟨hs_t2 h.1, _, h2 A t E h hr hE, fun v B _ q => q⟩, fun q => absurd rfl q⟩
theorem pMk_fst {r act : Int32} {a e : Tr} : tFst (pMk r act a e) = tFst a := by
  unfold pMk
  split <;> rfl
theorem pMk_isE {r act : Int32} {a e : Tr} : isE (pMk r act a e) := by
  unfold pMk
  split
  · show 6 ≤ 8
    decide
  · show 7 ≤ 8
    decide
theorem rX.mk {N : Nat → Prop} {r act : Int32} {a e : Tr} {ac : List Int32} {vs : List Nat} {e' : Nat} (h : rX G A N a (mkr r ac) vs) (he : rX G A N e [] [e']) : rX G A N (pMk r act a e) (mkr r (ac ++ [act])) (vs ++ [e']) := by
  unfold pMk mkr at *
  by_cases q : (2 : Int32) ≤ r
  · rw [if_pos q] at *
    rw [if_pos q]
    exact Or.inl ⟨ac, vs, e', rfl, rfl, h, he⟩
  · rw [if_neg q] at *
    rw [if_neg q]
    exact Or.inl ⟨_, vs, e', by rw [List.map_append]; rfl, rfl, h, he⟩
theorem snoc_inj {α : Type} {l l' : List α} {a a' : α} (h : l ++ [a] = l' ++ [a']) : l = l' ∧ a = a' := by
  have := List.append_inj' h rfl
  exact ⟨this.1, List.cons.inj this.2 |>.1⟩
theorem nIk {k : Nat} (hk : k < 10) : ¬ nI (10 - (k + 1)) = 10 ∧ nI (10 - (k + 1)) + 1 = nI (10 - k) ∧ nI (10 - (k + 1)) = nI (9 - k) := by
  have : ∀ k, k < 10 → ¬ nI (10 - (k + 1)) = 10 ∧ nI (10 - (k + 1)) + 1 = nI (10 - k) ∧ nI (10 - (k + 1)) = nI (9 - k) := by decide
  exact this k hk
theorem itel {c : Prop} [Decidable c] {a b : Int32} (ha : a < 100) (hb : b < 100) : (if c then a else b) < 100 := by
  split
  · exact ha
  · exact hb
theorem act_lt {s r : Int32} : f_X1_actOf s r < 100 := by
  unfold f_X1_actOf
  repeat' first | decide | apply itel
theorem s_X1_row (hk : k < 10) (h1 : oR G x D r1' d k op) : oR G x D (w_X1_row G r0 r1' r2 r3 r4 r5 r6) d (k + 1) op := by
  intro A t E h hr hE hok
  have ht := h.lt
  have hxl := h.xl
  have hle := h.le
  have hN := h.1.1
  have hl0 := h.1.lt
  obtain ⟨k1, k2, k3⟩ := nIk hk
  refine ⟨fun q => absurd q k1, fun _ => ?_⟩
  rw [k2]
  have eP : pRow D (pE' D d) d (k + 1) t = pAnd (pRow D (pE' D d) d k t) fun e t1 => pLoop D (pRow D (pE' D d) d k) (nI (9 - k)) D.length e t1 := rfl
  rw [k3]
  generalize nI (9 - k) = r at eP
  rw [eP] at hE ⊢
  refine ⟨hs_t2 h.1, _, h1 A t E h hr (hE.sub pf.rf (by omega) (by omega) (by omega) (fun f e => by rw [e]; rfl)), ?_⟩
  rintro _ A1 hok1 ⟨e0, tr0, t1, r1, rfl, p1, f1, l1, n1, u1, i1, x1⟩
  have eP1 : (pAnd (pRow D (pE' D d) d k t) fun e t1 => pLoop D (pRow D (pE' D d) d k) r D.length e t1) = pLoop D (pRow D (pE' D d) d k) r D.length tr0 t1 := by rw [r1]; rfl
  rw [eP1] at hE ⊢
  clear eP eP1
  have ht1 := p1.lt
  refine ⟨hs_t2 p1.1, _, s_X1_kind p1, ?_⟩
  rintro _ _ _ ⟨rfl, rfl⟩
  have hD0 : 0 < D.length := by omega
  obtain ⟨F, hF⟩ : ∃ F, D.length = F + 1 := ⟨D.length - 1, by omega⟩
  refine ⟨fun hact => ?_, fun hact => ?_⟩
  rotate_left
  · refine ⟨e0, tr0, t1, ?_, rfl, p1, f1, l1, n1, u1, i1, x1⟩
    rw [hF, pLoop, if_neg hact]
  have hl1 := p1.1.lt
  have hA1 := f1.1.1
  refine ⟨(hr.rr (A1 := A1) (t1 := t1 + 1) (c := 1) (s := 3) (by omega) (by omega) (by omega) (by omega)).o, ?_⟩
  rintro _ rfl
  refine ⟨_, s_J5_new2 (k := 2) hok1 (hr.rr (A1 := A1) (t1 := t1 + 1) (by omega) (by omega) (by omega) (by omega)) (by decide) (by decide), ?_⟩
  rintro A7 hok7 ⟨f7, l7, n7, u7, c7⟩
  have o1 := rX.ob i1 x1
  have he0 : e0 < A1.n := by
    obtain ⟨c, q1, q2⟩ := o1.2.2
    have : ∀ c ∈ eCl, c < 38 := by decide
    have := this c q2
    exact hok1.1.lt q1 (by omega)
  have xe7 : xE A7 e0 := by
    obtain ⟨c, q1, q2⟩ := o1.2.2
    exact ⟨c, (f7.tg he0).trans q1, q2⟩
  refine ⟨l7.1, _, s_J5_add l7 xe7.el (by decide) (hr.rr (A1 := A7) (t1 := t1 + 1) (by omega) (by omega) (by show A7.n + 1 ≤ _; omega) (by show A7.u + (2 * 0 + 10) ≤ _; omega)), ?_⟩
  rintro _ A8 hok8 _ ⟨rfl, a8⟩
  have f8 := a8.fr (by omega)
  have n8 := a8.2.2.1
  have u8 := a8.2.2.2.1
  have c8 := a8.2.2.2.2.1
  have hc8 : xcap A8 A1.n ≤ 10 := by have : xcap A8 A1.n ≤ max (xcap A7 A1.n) (2 * 0 + 10) := c8; omega
  have p7 : PS G A7 x D t1 op := p1.fr f7 (fun _ _ q => q)
  have p8 : PS G A8 x D t1 op := p7.ad a8 (by omega) (by omega)
  have g8 : pf x A A8 := (f1.own f7 (fun _ _ q => q) hxl).add p7.g a8 (by omega) (by omega) hxl
  have x8 : rX G A8 (fun a => A.n ≤ a ∧ a ≠ A1.n) tr0 [] [e0] := rX.fr hok7 hok8 f8 _ (Kp.li p7.g l7.1 (by omega)) (rX.fr hok1 hok7 f7 _ Kp.no (rX.mn hok1 _ (fun a q q' => ⟨q, by omega⟩) x1))
  have hA8 := f8.1
  refine ⟨(hr.rr (A1 := A8) (t1 := t1 + 1) (c := 1) (s := 2) (by omega) (by omega) (by omega) (by omega)).a (n := 2), ?_⟩
  rintro _ rfl
  have f11 : Fr (fun a => a = A8.n) A8 (A8.new 200 (ix 2) (ix 2) 0) := Fr.fn
  have hok11 : xok G (A8.new 200 (ix 2) (ix 2) 0) := hok8.new
  have p11 : PS G (A8.new 200 (ix 2) (ix 2) 0) x D t1 op := p8.fr f11 (fun a ha q => by omega)
  refine ⟨fun n12 y3 y5 y6 A12 => ∃ acc t12 f ac vs arr e0, pLoop D (pRow D (pE' D d) d k) r D.length tr0 t1 = pLoop D (pRow D (pE' D d) d k) r f acc t12 ∧ D.length - t12 < f ∧ n12 = D.length - t12 ∧ y3 = f_X1_actOf (tK D t12) r ∧ y5 = some arr ∧ y6 = nI ac.length ∧ (ac = [] → 0 ≤ y3) ∧ (ac = [] ∨ ∃ act l' tr', acc = pMk r act l' tr') ∧ (∀ a ∈ ac, a < 100) ∧ PS G A12 x D t12 op ∧ pf x A A12 ∧ xok G A12 ∧ xL G A12 A1.n vs ∧ vs.length = ac.length + 1 ∧ vs[0]? = some e0 ∧ A12.I e0 0 = tFst acc ∧ xE A12 e0 ∧ A.n ≤ e0 ∧ e0 ≠ A1.n ∧ A12.tg arr = 200 ∧ A1.n < arr ∧ (∀ i a, ac[i]? = some a → A12.I arr i = a) ∧ ac.length ≤ A12.ln arr ∧ 2 ≤ A12.ln arr ∧ A12.ln arr ≤ 2 * ac.length + 2 ∧ rX G A12 (fun a => A.n ≤ a ∧ a ≠ A1.n ∧ a ≠ arr) acc (mkr r ac) vs ∧ t + ac.length ≤ t12 ∧ A12.n ≤ A.n + 24 * (t12 - t - ac.length) + 5 + 3 * ac.length ∧ A12.u ≤ A.u + 128 * (t12 - t - ac.length) + 4 + 2 * A12.ln arr + 3 * xcap A12 A1.n + ac.length ∧ xcap A12 A1.n ≤ 2 * ac.length + 10, ⟨_, tr0, t1, D.length, [], [e0], A8.n, e0, rfl, by omega, rfl, rfl, rfl, rfl, fun _ => hact, Or.inl rfl, fun a ha => (nomatch ha), p11, g8.own f11 (fun a ha q => by omega) hxl, hok11, a8.1.fr' hok8 hok11 f11 (N := fun a => a < A8.n) (Kp.nw (Nat.le_refl _)) (by omega), rfl, rfl, ?_, ?_, o1.1, by omega, ?_, by omega, fun i a ha => (nomatch ha), Nat.zero_le _, ?_, ?_, ?_, ?_, ?_, ?_, ?_⟩, ?_⟩
  · rw [gN_I, if_neg (by omega), f8.I (by omega) (by
      rintro (q | q)
      · omega
      · have := (p7.g _ _ (by omega) q).1
        omega), f7.I he0 (fun q => q)]
    exact o1.2.1
  · obtain ⟨c, q1, q2⟩ := xe7
    exact ⟨c, (f11.tg (by omega)).trans ((f8.tg (by omega)).trans q1), q2⟩
  · rw [gN_tg, if_pos rfl]
  · rw [gN_ln, if_pos rfl]
    decide
  · rw [gN_ln, if_pos rfl]
    decide
  · have e : mkr r [] = [] := by unfold mkr; split <;> rfl
    rw [e]
    exact rX.fr hok8 hok11 f11 _ (Kp.nw (Nat.le_refl _)) (rX.mn hok8 _ (fun a q q' => ⟨q.1, q.2, by omega⟩) x8)
  · show t + 0 ≤ t1
    omega
  · show A8.n + 1 ≤ A.n + 24 * (t1 - t - 0) + 5 + 3 * 0
    omega
  · rw [xcap.fr a8.1 hok8 f11 (by omega), gN_ln, if_pos rfl]
    show A8.u + 2 ≤ A.u + 128 * (t1 - t - 0) + 4 + 2 * 2 + 3 * xcap A8 A1.n + 0
    omega
  · rw [xcap.fr a8.1 hok8 f11 (by omega)]
    exact hc8
  clear x8 f11 hok11 p11 g8 f8 hok8 a8 n8 u8 c8 hc8 p8 hA8
  rintro _ _ _ _ A12 ⟨acc, t12, f, ac, vs, arr, e0', eP, hf, rfl, rfl, rfl, rfl, hy0, hacc, hac, p12, f12, hok12, l12, hvl, hv0, hfs, xe12, he12, he12', tg12, arr1, arrc, arrl, arr2, arr3, x12, l12', n12, u12, c12⟩
  rw [eP] at hE ⊢
  clear eP
  obtain ⟨f, rfl⟩ : ∃ f', f = f' + 1 := ⟨f - 1, by omega⟩
  have ht12 := p12.lt
  have hl12 := p12.1.lt
  have hA12 := f12.1.1
  have harr : arr < A12.n := hok12.1.lt tg12
  have hl1n : A1.n < A12.n := hok12.1.lt l12.1
  have hcl : ac.length < 1000000 := by omega
  refine ⟨fun hneg => ?_, fun hneg => ?_⟩
  · -- the end
    have hnn : ¬ 0 ≤ f_X1_actOf (tK D t12) r := by
      intro q
      exact absurd hneg (Int32.not_lt.mpr q)
    have hac0 : ac ≠ [] := fun q => hnn (hy0 q)
    have hlen : 1 ≤ ac.length := by
      cases ac with
      | nil => exact absurd rfl hac0
      | cons a l => simp
    obtain ⟨act, l', tr', hmk⟩ := hacc.resolve_left hac0
    have eR : pLoop D (pRow D (pE' D d) d k) r (f + 1) acc t12 = .ok (acc, t12) := by rw [pLoop, if_neg hnn]
    rw [eR] at hE ⊢
    refine ⟨fun h2 => ?_, fun h2 => ?_⟩
    · refine ⟨(hr.rr (A1 := A12) (t1 := t12) (c := 1) (s := 3) (by omega) (by omega) (by omega) (by omega)).o, ?_⟩
      rintro _ rfl
      have f14 : Fr (fun a => a = A12.n) A12 (A12.new 21 0 3 0) := Fr.fn
      have hok14 : xok G (A12.new 21 0 3 0) := hok12.new
      have nn : (A12.new 21 0 3 0).n = A12.n + 1 := rfl
      have uu : (A12.new 21 0 3 0).u = A12.u + 3 := rfl
      refine ⟨_, s_X1_cut hok14 ((f14.tg harr).trans tg12) (by rw [f14.ln harr]; exact arrl) hcl (hr.rr (t1 := t12) (by omega) (by omega) (by omega) (by omega)), ?_⟩
      rintro _ A15 hok15 ⟨rfl, f15, tg15, ln15, cn15, n15, u15⟩
      have F15 : Fr (fun a => a = A12.n ∨ a = A12.n + 1) A12 A15 := (f14.mono (fun a _ q => Or.inl q)).tr f15 (fun a _ q => Or.inr q)
      have kk : ∀ {N : Nat → Prop}, Kp (fun a => a = A12.n ∨ a = A12.n + 1) N A12 := ⟨fun a ha _ _ q => by omega, fun a l ha _ _ _ q => by omega⟩
      have l15 := l12.fr' hok12 hok15 F15 (N := fun _ => True) kk trivial
      have xe15 : xE A15 e0' := by
        obtain ⟨c, q1, q2⟩ := xe12
        have : ∀ c ∈ eCl, c < 38 := by decide
        have := this c q2
        exact ⟨c, (F15.tg (hok12.1.lt q1 (by omega))).trans q1, q2⟩
      have tg15' : A15.tg A12.n = 21 := by rw [f15.tg (by omega), gN_tg, if_pos rfl]
      refine ⟨_, s_X22_init tg15' l15 hv0 xe15, ?_⟩
      rintro _ hok16 rfl
      have f16 : Fr (fun a => a = A12.n) A15 (((A15.setI A12.n 0 (A15.I e0' 0)).setP A12.n 1 (some (A12.new 21 0 3 0).n)).setP A12.n 2 (some A1.n)) := Fr.rf.fs.fp.fp
      have xe0 : e0' < A12.n := by
        obtain ⟨c, q1, q2⟩ := xe12
        have : ∀ c ∈ eCl, c < 38 := by decide
        have := this c q2
        exact hok12.1.lt q1 (by omega)
      have fs15 : A15.I e0' 0 = tFst acc := by rw [F15.I xe0 (by omega)]; exact hfs
      have p15 : PS G A15 x D t12 op := p12.fr F15 (fun a ha q => by omega)
      refine ⟨A12.n, acc, t12, rfl, rfl, p15.fr f16 (fun a ha q => by omega), (f12.own F15 (fun a ha q => by omega) hxl).own f16 (fun a ha q => by omega) hxl, by omega, ?_, ?_, hmk ▸ pMk_isE, ?_⟩
      · show A15.n ≤ _
        omega
      · show A15.u ≤ _
        omega
      · rw [hmk] at x12 fs15 ⊢
        rw [pMk, if_pos h2, mkr, if_pos h2] at x12
        rw [pMk, if_pos h2] at fs15 ⊢
        rcases x12 with ⟨bs, ws, e', q1, q2, q3, q4⟩ | ⟨q1, -⟩
        · have kx : ∀ {c : Tr} {as : List Int32} {es : List Nat}, rX G A12 (fun a => A.n ≤ a ∧ a ≠ A1.n ∧ a ≠ arr) c as es → rX G (((A15.setI A12.n 0 (A15.I e0' 0)).setP A12.n 1 (some (A12.new 21 0 3 0).n)).setP A12.n 2 (some A1.n)) (fun a => A.n ≤ a ∧ a ≠ A12.n) c as es := fun hc =>
            rX.fr hok15 hok16 f16 _ (Kp.one (by rw [tg15']; decide) (fun q => q.2 rfl)) (rX.fr hok12 hok15 F15 _ kk (rX.mn hok12 _ (fun a q q' => ⟨q.1, by omega⟩) hc))
          refine Or.inr ⟨rfl, A12.n, A12.n + 1, A1.n, bs, ws, e', rfl, by omega, tg15', ?_, ?_, by omega, tg15, ?_, ?_, ?_, ?_, by omega, ?_, kx q3, kx q4⟩
          · rw [gP_I, gP_I, gI_I, if_pos ⟨rfl, rfl⟩, fs15]
            rfl
          · rw [gP_P, if_neg (by omega), gP_P, if_pos ⟨rfl, rfl⟩]
            rfl
          · show A15.ln (A12.n + 1) = _
            rw [← nn, ln15, q1, List.length_append]
            rfl
          · intro i b hb
            rw [gP_I, gP_I, gI_I, if_neg (by omega)]
            rw [← q1] at hb
            have hi := (List.getElem?_eq_some_iff.mp hb).1
            rw [← nn, cn15 i hi, f14.I harr (by omega)]
            exact arrc i b hb
          · intro b hb
            exact hac b (by rw [q1]; exact List.mem_append_left _ hb)
          · rw [gP_P, if_pos ⟨rfl, rfl⟩]
          · rw [← q2]
            exact l15.fr' hok15 hok16 f16 (N := fun a => a ≠ A12.n) (Kp.one (by rw [tg15']; decide) (fun q => q rfl)) (by omega)
        · exact absurd q1 hac0
    · refine ⟨(hr.rr (A1 := A12) (t1 := t12) (c := 1) (s := 3) (by omega) (by omega) (by omega) (by omega)).o, ?_⟩
      rintro _ rfl
      have f14 : Fr (fun a => a = A12.n) A12 (A12.new 20 0 3 0) := Fr.fn
      have hok14 : xok G (A12.new 20 0 3 0) := hok12.new
      have l14 := l12.fr' hok12 hok14 f14 (N := fun _ => True) (Kp.nw (Nat.le_refl _)) trivial
      have xe0 : e0' < A12.n := by
        obtain ⟨c, q1, q2⟩ := xe12
        have : ∀ c ∈ eCl, c < 38 := by decide
        have := this c q2
        exact hok12.1.lt q1 (by omega)
      have xe14 : xE (A12.new 20 0 3 0) e0' := by
        obtain ⟨c, q1, q2⟩ := xe12
        exact ⟨c, (f14.tg xe0).trans q1, q2⟩
      have tg14 : (A12.new 20 0 3 0).tg A12.n = 20 := by rw [gN_tg, if_pos rfl]
      refine ⟨_, s_X21_init tg14 ite10 l14 hv0 xe14, ?_⟩
      rintro _ hok16 rfl
      have f16 : Fr (fun a => a = A12.n) A12 ((((A12.new 20 0 3 0).setI A12.n 0 ((A12.new 20 0 3 0).I e0' 0)).setI A12.n 1 (if r = (1 : Int32) then (1 : Int32) else (0 : Int32))).setP A12.n 2 (some A1.n)) := Fr.fn.fs.fs.fp
      have fs14 : (A12.new 20 0 3 0).I e0' 0 = tFst acc := by rw [f14.I xe0 (by omega)]; exact hfs
      refine ⟨A12.n, acc, t12, rfl, rfl, p12.fr f16 (fun a ha q => by omega), f12.own f16 (fun a ha q => by omega) hxl, by omega, ?_, ?_, hmk ▸ pMk_isE, ?_⟩
      · show A12.n + 1 ≤ _
        omega
      · show A12.u + 3 ≤ _
        omega
      · rw [hmk] at x12 fs14 ⊢
        rw [pMk, if_neg h2, mkr, if_neg h2] at x12
        rw [pMk, if_neg h2] at fs14 ⊢
        rcases x12 with ⟨bs, ws, e', q1, q2, q3, q4⟩ | ⟨q1, -⟩
        · have kx : ∀ {c : Tr} {as : List Int32} {es : List Nat}, rX G A12 (fun a => A.n ≤ a ∧ a ≠ A1.n ∧ a ≠ arr) c as es → rX G ((((A12.new 20 0 3 0).setI A12.n 0 ((A12.new 20 0 3 0).I e0' 0)).setI A12.n 1 (if r = (1 : Int32) then (1 : Int32) else (0 : Int32))).setP A12.n 2 (some A1.n)) (fun a => A.n ≤ a ∧ a ≠ A12.n) c as es := fun hc =>
            rX.fr hok12 hok16 f16 _ (Kp.nw (Nat.le_refl _)) (rX.mn hok12 _ (fun a q q' => ⟨q.1, by omega⟩) hc)
          refine Or.inr ⟨rfl, A12.n, A1.n, bs, ws, e', rfl, by omega, tg14, ?_, ?_, ?_, ?_, by omega, ?_, kx q3, kx q4⟩
          · rw [gP_I, gI_I, if_neg (by omega), gI_I, if_pos ⟨rfl, rfl⟩, fs14]
            rfl
          · rw [gP_I, gI_I, if_pos ⟨rfl, rfl⟩]
          · intro b hb
            have : b ∈ ac.map fun _ => (100 : Int32) + if r = 1 then 1 else 0 := by rw [q1]; exact List.mem_append_left _ hb
            obtain ⟨_, -, q⟩ := List.mem_map.mp this
            exact q.symm
          · rw [gP_P, if_pos ⟨rfl, rfl⟩]
          · rw [← q2]
            exact l12.fr' hok12 hok16 f16 (N := fun _ => True) (Kp.nw (Nat.le_refl _)) trivial
        · exact absurd (List.map_eq_nil_iff.mp q1) hac0
  · -- one sign more
    have hpos : 0 ≤ f_X1_actOf (tK D t12) r := Int32.not_lt.mp hneg
    have hx := p12.2.2.1.nx ht12 (act_n hpos).1 (act_n hpos).2
    have eR : pLoop D (pRow D (pE' D d) d k) r (f + 1) acc t12 = pAnd (pRow D (pE' D d) d k (t12 + 1)) fun e t1 => pLoop D (pRow D (pE' D d) d k) r f (pMk r (f_X1_actOf (tK D t12) r) acc e) t1 := by rw [pLoop, if_pos hpos]
    rw [eR] at hE ⊢
    generalize hact' : f_X1_actOf (tK D t12) r = act at *
    refine ⟨arr, rfl, tg12, fun y5 A22 => ∃ ar', some ar' = y5 ∧ xok G A22 ∧ Fr (fun a => a = A12.n) A12 A22 ∧ A22.tg ar' = 200 ∧ A1.n < ar' ∧ (ar' = arr ∨ ar' = A12.n) ∧ (∀ i a, ac[i]? = some a → A22.I ar' i = a) ∧ ac.length < A22.ln ar' ∧ 2 ≤ A22.ln ar' ∧ A22.ln ar' ≤ 2 * ac.length + 2 ∧ A22.n ≤ A12.n + 1 ∧ A22.u + 2 * A12.ln arr ≤ A12.u + 2 * A22.ln ar', ?_, fun he => ?_, fun he => ?_⟩
    · rintro _ A22 ⟨ar', rfl, hok22, f22, tg22, ar1, ar2, arc, arl, arl0, arl2, n22, u22⟩
      refine ⟨ar', rfl, tg22, by omega, vp_in_nI arl (by omega), ?_⟩
      rintro _ rfl
      rw [show ix (nI ac.length) = ac.length from nI_clamp (by omega)]
      have p22 : PS G A22 x D t12 op := p12.fr f22 (fun a ha q => by omega)
      have f27 : Fr (fun a => a = ar') A22 (A22.setI ar' ac.length act) := Fr.setI rfl
      have p27 : PS G (A22.setI ar' ac.length act) x D t12 op := p22.fr f27 (fun a ha q => by omega)
      have hok27 : xok G (A22.setI ar' ac.length act) := hok22.setI (by omega)
      refine ⟨hs_t2 p27.1, ?_⟩
      rintro _ rfl
      rw [p27.a, nI_1]
      have p29 := p27.at hx
      have f29' : Fr (fun a => a = ar' ∨ a = x + 2) A22 ((A22.setI ar' ac.length act).setI (x + 2) 3 (nI (t12 + 1))) := (f27.mono (fun a _ q => Or.inl q)).tr (Fr.setI (S := fun a => a = x + 2) rfl) (fun a _ q => Or.inr q)
      have hok29 : xok G ((A22.setI ar' ac.length act).setI (x + 2) 3 (nI (t12 + 1))) := hok27.setI (by omega)
      have g29 : pf x A ((A22.setI ar' ac.length act).setI (x + 2) 3 (nI (t12 + 1))) := ((f12.own f22 (fun a ha q => by omega) hxl).own f27 (fun a ha q => by omega) hxl).set
      have l29 : xL G ((A22.setI ar' ac.length act).setI (x + 2) 3 (nI (t12 + 1))) A1.n vs := (l12.fr' hok12 hok22 f22 (N := fun a => a < A12.n) (Kp.nw (Nat.le_refl _)) hl1n).fr' hok22 hok29 f29' (N := fun a => a = A1.n) ⟨fun a _ q _ z => by omega, fun a l _ q1 q2 q3 z => by
        rcases z with z | z
        · rw [z, tg22] at q1
          exact absurd q1 (by decide)
        · rw [z, hs_t2 p22.1] at q1
          exact absurd q1 (by decide)⟩ rfl
      have x29 : rX G ((A22.setI ar' ac.length act).setI (x + 2) 3 (nI (t12 + 1))) (fun a => A.n ≤ a ∧ a ≠ A1.n ∧ a ≠ ar') acc (mkr r ac) vs := by
        refine rX.fr hok22 hok29 f29' _ ⟨fun a _ q _ z => by omega, fun a l _ q1 q2 q3 z => ?_⟩ (rX.fr hok12 hok22 f22 _ (Kp.nw (Nat.le_refl _)) (rX.mn hok12 _ (fun a q q' => ⟨q.1, q.2.1, ?_⟩) x12))
        · rcases z with z | z
          · rw [z, tg22] at q1
            exact absurd q1 (by decide)
          · rw [z, hs_t2 p22.1] at q1
            exact absurd q1 (by decide)
        · rcases ar2 with z | z
          · rw [z]; exact q.2.2
          · omega
      have hn29 : ((A22.setI ar' ac.length act).setI (x + 2) 3 (nI (t12 + 1))).n = A22.n := rfl
      have hu29 : ((A22.setI ar' ac.length act).setI (x + 2) 3 (nI (t12 + 1))).u = A22.u := rfl
      have c29 : xcap ((A22.setI ar' ac.length act).setI (x + 2) 3 (nI (t12 + 1))) A1.n = xcap A12 A1.n := (xcap.fr (l12.fr' hok12 hok22 f22 (N := fun a => a < A12.n) (Kp.nw (Nat.le_refl _)) hl1n) hok22 f29' (by omega)).trans (xcap.fr l12 hok12 f22 (by omega))
      have arc29 : ∀ i a, (ac ++ [act])[i]? = some a → ((A22.setI ar' ac.length act).setI (x + 2) 3 (nI (t12 + 1))).I ar' i = a := by
        intro i a hi
        rw [gI_I, if_neg (by omega), gI_I]
        rcases getD_snoc hi with ⟨q1, q2⟩ | ⟨q1, q2⟩
        · rw [if_neg (by omega)]
          exact arc i a q2
        · rw [if_pos ⟨rfl, q1⟩]
          exact q2
      have fs29 : ((A22.setI ar' ac.length act).setI (x + 2) 3 (nI (t12 + 1))).I e0' 0 = tFst acc ∧ xE ((A22.setI ar' ac.length act).setI (x + 2) 3 (nI (t12 + 1))) e0' ∧ e0' < A22.n := by
        obtain ⟨c, q1, q2⟩ := xe12
        have : ∀ c ∈ eCl, c < 38 := by decide
        have := this c q2
        have xe0 := hok12.1.lt q1 (by omega)
        have t1 : A22.tg e0' = c + 1 := (f22.tg xe0).trans q1
        refine ⟨?_, ⟨c, t1, q2⟩, Nat.lt_of_lt_of_le xe0 f22.1⟩
        rw [gI_I, if_neg (by omega), gI_I, if_neg (by rintro ⟨z, -⟩; rw [z, tg22] at t1; omega), f22.I xe0 (by omega)]
        exact hfs
      have tg29 : ((A22.setI ar' ac.length act).setI (x + 2) 3 (nI (t12 + 1))).tg ar' = 200 ∧ ((A22.setI ar' ac.length act).setI (x + 2) 3 (nI (t12 + 1))).ln ar' = A22.ln ar' := ⟨tg22, rfl⟩
      have har : ar' < A22.n := hok22.1.lt tg22
      generalize (A22.setI ar' ac.length act).setI (x + 2) 3 (nI (t12 + 1)) = A29 at *
      refine ⟨_, h1 A29 (t12 + 1) E p29 (hr.sub (by omega) (by omega) (by omega) (by omega)) (hE.sub g29 (by omega) (by omega) (by omega) (fun f e => by rw [e]; rfl)), ?_⟩
      rintro _ A30 hok30 ⟨e, tr, t30, r30, rfl, p30, f30, l30, n30, u30, i30, x30⟩
      have ht30 := p30.lt
      have l30' := l29.fr' hok29 hok30 f30.1 (N := fun a => A1.n ≤ a) (p29.kx (by omega)) (Nat.le_refl _)
      have c30 : xcap A30 A1.n = xcap A29 A1.n := xcap.fr l29 hok29 f30.1 (by show ¬ A1.n = x + 2; omega)
      have hl30 : A1.n < A30.n := hok30.1.lt l30'.1
      refine ⟨l30'.1, _, s_J5_add l30' (rX.ob i30 x30).2.2.el (by omega) (hr.rr (A1 := A30) (t1 := t30) (by omega) (by omega) (by omega) (by omega)), ?_⟩
      rintro _ A31 hok31 _ ⟨rfl, a31⟩
      have f31 := a31.fr hl30
      have n31 := a31.2.2.1
      have u31 := a31.2.2.2.1
      have c31 := a31.2.2.2.2.1
      have p31 : PS G A31 x D t30 op := p30.ad a31 (by omega) hl30
      refine ⟨hs_t2 p31.1, _, s_X1_kind p31, ?_⟩
      rintro _ _ _ ⟨rfl, rfl⟩
      have hS31 : ∀ a, a < A30.n → A30.tg a ≠ 204 → a ≠ A1.n → ¬ (a = A1.n ∨ A30.gh a = 1000 + A1.n) := by
        rintro a q1 q2 q3 (q | q)
        · exact q3 q
        · exact q2 (p30.g a _ q1 q).2
      have keep : ∀ a t, A29.tg a = t → ((0 < t ∧ t ≤ 100) ∨ 200 ≤ t) → t ≠ 204 → a ≠ A1.n → a ≠ x + 2 → A31.tg a = t ∧ A31.ln a = A29.ln a ∧ ∀ j, A31.I a j = A29.I a j := by
        intro a t q1 q2 q3 q4 q5
        have z1 := hok29.1.lt q1 q2
        have z2 : a < A30.n := Nat.lt_of_lt_of_le z1 f30.1.1
        have z3 : A30.tg a = t := (f30.1.tg z1).trans q1
        have z4 := hS31 a z2 (by omega) q4
        exact ⟨(f31.tg z2).trans z3, (f31.ln z2).trans (f30.1.ln z1), fun j => (f31.I z2 z4).trans (f30.1.I z1 q5)⟩
      obtain ⟨k1, k2, k3⟩ := keep ar' 200 tg29.1 (by omega) (by decide) (by omega) (by omega)
      obtain ⟨fs1, ⟨c, fs2, fs3⟩, fs4⟩ := fs29
      have hcc : ∀ c ∈ eCl, c < 38 := by decide
      have hcc := hcc c fs3
      obtain ⟨m1, m2, m3⟩ := keep e0' (c + 1) fs2 (by omega) (by omega) he12' (by omega)
      have x31 : rX G A31 (fun a => A.n ≤ a ∧ a ≠ A1.n ∧ a ≠ ar') (pMk r act acc tr) (mkr r (ac ++ [act])) (vs ++ [e]) := by
        refine rX.fr hok30 hok31 f31 _ (Kp.li p30.g l30'.1 (by omega)) (rX.mk (rX.fr hok29 hok30 f30.1 _ (p29.kx (by omega)) x29) (rX.mn hok30 _ (fun a q _ => ⟨by have := g29.1.1; omega, by omega, by omega⟩) x30))
      have hcap : xcap A31 A1.n ≤ 2 * (ac.length + 1) + 10 := by
        have : xcap A31 A1.n ≤ max (xcap A30 A1.n) (2 * vs.length + 10) := c31
        omega
      refine ⟨D.length - t30, by omega, pMk r act acc tr, t30, f, ac ++ [act], vs ++ [e], ar', e0', ?_, by omega, rfl, rfl, rfl, ?_, fun q => (snoc_ne q.symm).elim, Or.inr ⟨act, acc, tr, rfl⟩, ?_, p31, (g29.tr f30).add p30.g a31 (by omega) hl30 hxl, hok31, a31.1, ?_, ?_, ?_, ⟨c, m1, fs3⟩, he12, he12', k1, ar1, fun i a hi => (k3 i).trans (arc29 i a hi), ?_, ?_, ?_, x31, ?_, ?_, ?_, ?_⟩
      · rw [r30]
        rfl
      · rw [List.length_append]
        exact nI_1 _
      · intro a ha
        rcases List.mem_append.mp ha with q | q
        · exact hac a q
        · rw [List.mem_singleton.mp q, ← hact']
          exact act_lt
      · rw [List.length_append, List.length_append, hvl]
        rfl
      · rw [List.getElem?_append_left (by omega)]
        exact hv0
      · rw [m3, fs1, pMk_fst]
      · rw [List.length_append, k2, tg29.2]
        show ac.length + 1 ≤ _
        omega
      · rw [k2, tg29.2]
        omega
      · rw [List.length_append, k2, tg29.2]
        show _ ≤ 2 * (ac.length + 1) + 2
        omega
      · rw [List.length_append]
        show t + (ac.length + 1) ≤ t30
        omega
      · rw [List.length_append]
        show A31.n ≤ A.n + 24 * (t30 - t - (ac.length + 1)) + 5 + 3 * (ac.length + 1)
        omega
      · rw [List.length_append, k2, tg29.2]
        show A31.u ≤ A.u + 128 * (t30 - t - (ac.length + 1)) + 4 + 2 * A22.ln ar' + 3 * xcap A31 A1.n + (ac.length + 1)
        omega
      · rw [List.length_append]
        exact hcap
    · -- a longer row of acts
      have hl : ac.length = A12.ln arr := (nI_eq (by omega) (by omega)).mp he
      have e2 : (2 : Int32) * nI ac.length = nI (2 * ac.length) := by
        have : nI (2 * ac.length) = nI ac.length + nI ac.length := by rw [nI_add]; congr 1; omega
        rw [this, Int32.two_mul]
      rw [e2, show ix (nI (2 * ac.length)) = 2 * ac.length from nI_clamp (by omega)]
      refine ⟨(hr.rr (A1 := A12) (t1 := t12 + 1) (c := 1) (s := 2 * ac.length) (by omega) (by omega) (by omega) (by omega)).a, ?_⟩
      rintro _ rfl
      refine ⟨fun n y A37 => ∃ i, i ≤ ac.length ∧ n = ac.length - i ∧ y = nI i ∧ xok G A37 ∧ Fr (fun a => a = A12.n) A12 A37 ∧ A37.tg A12.n = 200 ∧ A37.ln A12.n = 2 * ac.length ∧ (∀ j, j < i → A37.I A12.n j = A12.I arr j) ∧ A37.n = A12.n + 1 ∧ A37.u = A12.u + 2 * ac.length, ⟨_, 0, Nat.zero_le _, rfl, rfl, hok12.new, Fr.fn, by rw [gN_tg, if_pos rfl], by rw [gN_ln, if_pos rfl], fun j hj => absurd hj (Nat.not_lt_zero _), rfl, rfl⟩, ?_⟩
      rintro _ _ A37 ⟨i, hi, rfl, rfl, hok37, f37, g37, n37, c37, k37, u37⟩
      have hc : nI ac.length ≤ nI i ↔ ac.length ≤ i := nI_leI (by omega) (by omega)
      refine ⟨fun hq => ?_, fun hq => ?_⟩
      · have him : i = ac.length := by have := hc.mp hq; omega
        subst him
        refine ⟨A12.n, rfl, hok37, f37, g37, hl1n, Or.inr rfl, fun i a hi => ?_, by omega, by omega, by omega, by omega, by omega⟩
        rw [c37 i (List.getElem?_eq_some_iff.mp hi).1]
        exact arrc i a hi
      · have him : i < ac.length := by
          rcases Nat.lt_or_ge i ac.length with q | q
          · exact q
          · exact absurd (hc.mpr q) hq
        refine ⟨(f37.tg harr).trans tg12, ?_, g37, by omega, ?_, ?_⟩
        · rw [f37.ln harr, ← hl]
          exact vp_in_nI him (by omega)
        · rw [n37]
          exact vp_in_nI (by omega) (by omega)
        rintro _ rfl
        rw [show ix (nI i) = i from nI_clamp (by omega), f37.I harr (by omega)]
        refine ⟨ac.length - (i + 1), by omega, i + 1, by omega, rfl, nI_1 i, hok37.setI (by omega), f37.fs, g37, n37, fun j hj => ?_, k37, u37⟩
        rw [gI_I]
        split
        · rename_i q
          rw [q.2]
        · exact c37 j (by omega)
    · have hl : ac.length ≠ A12.ln arr := fun q => he (by rw [q])
      exact ⟨arr, rfl, hok12, Fr.rf, tg12, arr1, Or.inl rfl, arrc, by omega, arr2, arr3, by omega, by omega⟩
end HR
