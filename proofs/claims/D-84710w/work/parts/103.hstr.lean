/-! ===== objects that are older than the start: Strings ===== -/
set_option maxRecDepth 100000
section ZS
variable {G : xG} {d : Nat} {K : xK} {Q : Outcome → xA → Prop} {A : xA} {pc : Nat} {lv : List (Option Value)} {st : List Value}
theorem x_ldcS (hG : xOK G) {idx a : Nat} {text : String} (hd : decode K.cc pc = .ok (.ldc idx, 2)) (hw : Cond.stringRef K.y.cls idx text ∈ lw_tbl) (hR : xSR G K.y.cls idx a) (kk : X G d K Q A (pc + 2) lv (.ref a :: st)) : X G d K Q A pc lv st := by
  intro p e s m args below meth cd H ls locs hc hr hl hv T hT X
  have hWT : G.z.WarmedH T.vm := State.WarmedH.trans hc.2.2.2.2.1 X.warmed
  obtain ⟨cur, k1, r1, r2, r3⟩ := hR
  obtain ⟨k, cf, i, a', hk, hcf, hcp, -, hr', -⟩ := Cond.stringRef_spec r1 (hG.1 _ hw)
  cases r2.symm.trans hk
  cases r3.symm.trans hr'
  obtain ⟨k', hk', he⟩ := hWT.alike.2.2 _ _ hk
  have hres : k'.resolved[idx]? = some (some (.string a)) := by
    rcases hWT.entry hk hk' idx with h | ⟨h, -⟩
    · rw [h]; exact hr'
    · rw [hr'] at h; cases h
  have hcm : cur = m.cls := by
    have h1 := hc.2.2.2.1
    rw [hc.2.2.2.2.1.alike.findClass] at h1
    exact Option.some.inj (r1.symm.trans h1)
  obtain ⟨t, h3, h4⟩ := kk p e s m args below meth cd H ls locs hc hr hl hv T hT X
  refine ⟨t, ?_, h4⟩
  have hexec := hc.1
  have hdg : decode cd.code (F0 m pc ls st).pc = .ok (.ldc idx, 2) := by rw [hc.2.1]; exact hd
  have hX : At T (F0 m pc ls st).method cd below := X.here
  jvm_step hX [hexec, hdg, ldc.wp_string (e := e) (s := T) (f := F0 m pc ls st) hX.top (by show T.vm.classes[m.cls]? = _; rw [← hcm]; exact hk') (by rw [he]; exact hcf) hcp hres]
  exact h3
theorem x_getO (hG : xOK G) {a idx : Nat} {C n ds : String} {v : Value} (hd : decode K.cc pc = .ok (.getfield idx, 3)) (hlk : Cond.fieldLink K.y.cls idx C n ds ∈ lw_all) (ha : a < G.N) (hf : xOF G a C n ds v) (kk : X G d K Q A (pc + 3) lv (v :: st)) : X G d K Q A pc lv (.ref a :: st) := by
  intro p e s m args below meth cd H ls locs hc hr hl hv
  have k0 := kk p e s m args below meth cd H ls locs hc hr hl hv
  have hW := hc.2.2.2.2.1
  obtain ⟨cf, i, k, f, cell, h1, h2, h3, h4, h5⟩ := hf
  obtain ⟨k', h6⟩ : ∃ k', s.fieldFound? C n ds = some (cf, k', i, f) := by
    have := State.fieldFound?_setVm hW.alike h1
    obtain ⟨k', h7, -⟩ := this
    exact ⟨k', h7⟩
  exact W.getf hc.1 hc.2.1 hc.2.2.2.1 (xw hG hW hlk) h6 h2 (by rw [hr.2.2.1 a ha]; exact h3) h4 h5 rfl rfl hd k0
theorem x_callVO (hG : xOK G) {b idx n : Nat} {As : List Value} {stk : List Value} {C : String} {Ky : xK} (hd : decode K.cc pc = .ok (.invokevirtual idx, 3)) (hob : xOO G b C) (hlk : Cond.methodLink K.y.cls idx Ky.y ∈ lw_all) (hme : xMe Ky n) (hinst : Cond.instanceMethod Ky.y ∈ lw_all) (hsel : Cond.selects C Ky.y Ky.y ∈ lw_all)
    (hlen : As.length = n) (hstk : stk = As.reverse ++ .ref b :: st) (hst : (st.map fun v => v.category).sum + (Ky.nL + 11) ≤ 41) (hM : MX G d Ky (.ref b :: As) A (xBack G (d + 1) K Q pc lv st)) : X G (d + 1) K Q A pc lv stk := by
  intro p e s m args below meth cd H ls locs hc hr hl hv T hT X
  subst hstk
  obtain ⟨hcw, hini, hmh⟩ := hme
  have hW := hc.2.2.2.2.1
  obtain ⟨hb, cellB, hcell0, -, hobj, hcls0⟩ := hob
  have hcell : H[b]? = some cellB := by rw [hr.2.2.1 b hb]; exact hcell0
  have hcls : s.vm.findClass C = some cellB.cls := by rw [hW.alike.findClass]; exact hcls0
  obtain ⟨mk, methM, hnamed, hmethM, hstM, habM⟩ := Cond.instanceMethod_spec (xw (args := args) hG hW hinst)
  obtain ⟨methM', cM, hmethM', -, -, -, -, -, -, hsigM⟩ := xcw_spec hnamed (xw (args := args) hG hW hcw)
  cases hmethM.symm.trans hmethM'
  obtain ⟨c2, r2, m2, q1, q2, q3, q4, kP, hkP, hkPi⟩ := Cond.selects_spec (xw (args := args) hG hW hsel)
  cases hcls.symm.trans q1
  cases (State.methodFound?_of_named hnamed ⟨hmh.1, hmh.2.1⟩).symm.trans q2
  cases hnamed.symm.trans q3
  have hselP : selectMethod e.platform s.vm cellB.cls mk = .method mk := by rw [Launch.admits_selectMethod X.admits]; exact q4
  obtain ⟨vm₁, X₁, hstep₁⟩ := X.invokevirtual hc.1 hc.2.2.2.1 (xw hG hW hlk) hnamed hmethM hstM hkP hkPi ⟨hmh.1, hmh.2.1⟩ (a := b) (cell := cellB) (by rw [hT]; exact hcell)
      hobj hselP hmethM habM hkP hkPi (g := F0 m pc ls (As.reverse ++ .ref b :: st)) rfl (argsL := As) (rest := st) (hlen.trans (hmh.len hsigM)) rfl (by rw [hc.2.1]; exact hd)
  exact xfin X₁ hc hl (H := H) hT hr hv hM hstep₁ (X₁.named hnamed) hini hcw hG hd hst
theorem z_aastO (hG : xOK G) {a j v : Nat} {i : Int32} {E : String} (hd : decode K.cc pc = .ok (.aastore, 1)) (ht : A.tg a = 200 + j) (hj : xty j = .object E) (hN : G.N ≤ a) (hi : vp_in i (A.ln a)) (hob : xOO G v E) (kk : ∀ B, B = A.setP a (ix i) (some v) → X G d K Q B (pc + 1) lv st) : X G d K Q A pc lv (.ref v :: .int i :: .ref a :: st) := by
  intro p e s m args below meth cd H ls locs hc hr hl hv
  have hW := hc.2.2.2.2.1
  obtain ⟨h7, hcell⟩ := xarr hr hN ht
  obtain ⟨hb, cellV, hcell0, -, hobj, hcls0⟩ := hob
  have g1 : H[v]? = some cellV := by rw [hr.2.2.1 v hb]; exact hcell0
  have hcls : s.vm.findClass E = some cellV.cls := by rw [hW.alike.findClass]; exact hcls0
  have hRA := ((xKn hG hW).2 j _ (xtys_at h7)).2
  rw [hj] at hRA
  obtain ⟨kA, comp, f1, f2, f3, f4⟩ := hRA
  obtain ⟨kcomp, hkcomp, -⟩ := Vm.findClass_spec f3
  have hcc : comp = cellV.cls := Option.some.inj (f3.symm.trans hcls)
  subst hcc
  refine W.aast hc.1 hc.2.1 hcell (fun q h => by cases h) (fun q => by cases q) f1 f2 rfl hkcomp ⟨fun q => hi (Or.inl q), by rw [arrV_size]; exact xin_lt hi⟩ g1 hobj hkcomp (xassign _ _) rfl rfl hd fun H' e1 e2 e3 => ?_
  exact kk _ rfl p e s m args below meth cd H' ls _ hc (hr.arr (v := .ref v) hN ht e2 e1 e3 (by rw [hj]; exact Or.inr ⟨_, rfl⟩)) (xlocs hl hN) hv
end ZS
