/-! ===== a call of the method above (super.m) ===== -/
set_option maxRecDepth 100000
theorem xsub_self (vm : Vm) (c : ClassId) (k : Class) (hk : vm.classes[c]? = some k) : vm.isSubclass c c = true := by
  show vm.isSubclassAux _ c c = true
  unfold Vm.isSubclassAux
  simp
section ZN
variable {G : xG} {d : Nat} {K : xK} {Q : Outcome → xA → Prop} {A : xA} {pc : Nat} {lv : List (Option Value)} {st : List Value}
theorem x_callN (hG : xOK G) {b c idx n : Nat} {As : List Value} {stk : List Value} {r : vw_C} {Ky : xK} (hd : decode K.cc pc = .ok (.invokespecial idx, 3)) (ht : A.tg b = c + 1) (hcl : xcl[c]? = some r) (hlk : Cond.methodLink K.y.cls idx Ky.y ∈ lw_all) (hsame : Cond.sameMethod Ky.y.cls Ky.y.cls Ky.y.name Ky.y.desc ∈ lw_all)
    (hsup : Cond.superclass K.y.cls Ky.y.cls ∈ lw_all) (hnm : Ky.y.name ≠ "<init>") (hme : xMe Ky n) (hinst : Cond.instanceMethod Ky.y ∈ lw_all) (hrc : r.1 = K.y.cls)
    (hlen : As.length = n) (hstk : stk = As.reverse ++ .ref b :: st) (hst : (st.map fun v => v.category).sum + (Ky.nL + 11) ≤ 41) (hM : MX G d Ky (.ref b :: As) A (xBack G (d + 1) K Q pc lv st)) : X G (d + 1) K Q A pc lv stk := by
  intro p e s m args below meth cd H ls locs hc hr hl hv T hT X
  subst hstk
  obtain ⟨hcw, hini, hmh⟩ := hme
  have hW := hc.2.2.2.2.1
  obtain ⟨cellB, hcell, hobj, hcls⟩ := xrecv hG hr hW ht hcl
  obtain ⟨r0, meth0, hn, hrm, hstatic, habs⟩ := Cond.instanceMethod_spec (xw (args := args) hG hW hinst)
  obtain ⟨methM, cM, hm1, -, -, -, -, -, -, hsig⟩ := xcw_spec hn (xw (args := args) hG hW hcw)
  cases hrm.symm.trans hm1
  obtain ⟨cn, dk, kp, hcn, hdk, hkp, hsuper, -, -, hnid⟩ := Cond.superclass_spec hc.2.2.2.1 (xw (args := args) hG hW hsup)
  have hcn' : s.vm.findClass Ky.y.cls = some r0.cls := findClass_of_methodNamed hn
  cases hcn.symm.trans hcn'
  obtain ⟨kr, hkr, -⟩ := className_of_methodNamed hn
  have hsub : s.vm.isSubclass r0.cls r0.cls = true := xsub_self _ _ _ hkr
  rw [hrc] at hcls
  have hcc : m.cls = cellB.cls := Option.some.inj (hc.2.2.2.1.symm.trans hcls)
  obtain ⟨vm₁, X₁, hstep₁⟩ := X.invokespecialUp hc.1 hc.2.2.2.1 (xw hG hW hlk) (xw hG hW hsame) hn hrm hstatic habs hnm hdk hnid hcn hsuper hsub (a := b) (cell := cellB) (by rw [hT]; exact hcell)
    hobj (by rw [← hcc]; exact hdk) (g := F0 m pc ls (As.reverse ++ .ref b :: st)) rfl (argsL := As) (rest := st) (hlen.trans (hmh.len hsig)) rfl (by rw [hc.2.1]; exact hd)
  exact xfin X₁ hc hl (H := H) hT hr hv hM (fun t h => hstep₁ t (h [])) (X₁.named hn) hini hcw hG hd hst
end ZN
