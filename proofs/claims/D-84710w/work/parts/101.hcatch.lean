/-! ===== what a method's own handler catches: a Stop ===== -/
set_option maxRecDepth 100000
section ZH
variable {G : xG} {d : Nat} {K : xK} {Q : Outcome → xA → Prop} {A : xA} {pc : Nat} {lv : List (Option Value)} {st : List Value}
theorem xassign (vm : Vm) (c : ClassId) : vm.assignable c c = true := by
  show vm.assignableAux (255 + 1) c c = true
  rw [Vm.assignableAux]
  simp
/-- from the note of a thrown Stop to the one handler of the method -/
theorem xcaught (hG : xOK G) {p : Program} {e : Env} {R : Room} {s : State} {m : MethodId} {args : Array Value} {below : List Frame} {meth : Method} {c : Code} {T : State} {locs : List Loc} {cells slots : Nat}
    (X : Stand p G.l e R s m args below meth c T locs cells slots) (hc : xCtx G K p s m meth c) {a : Addr} {g : JFrame} (hg : g.method = m) {lo hi hp ct : Nat} (hh : K.hh = [(lo, hi, hp, ct)]) (h1 : lo ≤ g.pc) (h2 : g.pc < hi) (h0 : ct ≠ 0)
    (hlk : Cond.classLink K.y.cls ct "CompiledHouse$Stop" ∈ lw_all) {cell : Cell} (hcell : T.heap[a]? = some cell) (hobj : ∀ k, cell.vm ≠ .statics k) (hcls : s.vm.findClass "CompiledHouse$Stop" = some cell.cls) :
    ∃ vm', Stand p G.l e R s m args below meth c (T.setVm vm') locs cells slots ∧ ∀ target, Steps p.tables e below ((T.setVm vm').setTop { g with pc := hp, stack := [.ref a] }) target → Steps p.tables e below ((T.setTop g).pushFrame (.throwing a)) target := by
  have hW := hc.2.2.2.2.1
  have htab := hc.2.2.2.2.2.2.2.2.1
  rw [hh] at htab
  obtain ⟨x, hx, hxe⟩ : ∃ x, c.exceptionTable.toList = [x] ∧ (x.startPc, x.endPc, x.handlerPc, x.catchType) = (lo, hi, hp, ct) := by
    cases ht : c.exceptionTable.toList with
    | nil => rw [ht] at htab; cases htab
    | cons y t =>
      rw [ht] at htab
      cases t with
      | nil => exact ⟨y, rfl, by simpa using htab⟩
      | cons z t => simp at htab
  simp only [Prod.mk.injEq] at hxe
  obtain ⟨e1, e2, e3, e4⟩ := hxe
  have hpl : e.platform.magicAccessors = ({} : Platform).magicAccessors := by rw [X.admits.platform]
  obtain ⟨c', hc', hcl⟩ := Cond.classLink_spec hc.2.2.2.1 (xw (args := args) hG hW hlk) e.platform hpl
  cases hcls.symm.trans hc'
  obtain ⟨dk, _, _, kt, hd, _, _, _, _, hkt, _, hopen⟩ := hcl.here
  have hW' : s.WarmedH (T.vm.noted m.cls ct (.cls cell.cls)) := X.warmed.noted hd hopen (State.rightAt_cls hcl)
  refine ⟨_, X.noted hW', fun target hrest => ?_⟩
  subst hg
  have hat : At T g.method c below := X.here
  have hfind : ∀ (Q' : Handler → Pre) (E' : CtlPost) (d' : Bool) (acts : List Action), wp (findHandler g a) Q' E' e d' acts ((T.setTop g).pushFrame (.throwing a)) ↔ Q' (.found hp) d' acts (((T.setTop g).pushFrame (.throwing a)).setVm (T.vm.noted g.method.cls ct (.cls cell.cls))) := by
    intro Q' E' d' acts
    have hvm : ((T.setTop g).pushFrame (.throwing a)).vm = T.vm := Stand.throwing_vm T g a
    have hhp : ((T.setTop g).pushFrame (.throwing a)).heap[a]? = some cell := by rw [Stand.throwing_heap]; exact hcell
    rw [W.findHandler_eq (meth := meth) (code := c) (by rw [hvm]; exact X.method') X.code, hx]
    have hl2 : ((T.setTop g).pushFrame (.throwing a)).vm.ClassLinks e.platform g.method.cls ct cell.cls := by rw [hvm]; exact X.warmed.classLinks hcl
    obtain ⟨ha, ht⟩ := (resolveClass_links e.toSetting hl2).op (op := VmOp.resolveClass g.method.cls ct) rfl
    have hal : T.vm.Alike (T.vm.noted g.method.cls ct (.cls cell.cls)) := (Vm.Alike.refl T.vm).noted _ _ _
    obtain ⟨kt', hkt', -⟩ := X.warmed.alike.2.2 _ _ hkt
    obtain ⟨k2, hk2, -⟩ := hal.2.2 _ _ hkt'
    rw [hvm] at ha ht
    have hcov : (x.startPc ≤ g.pc && g.pc < x.endPc) = true := by rw [e1, e2]; simp [h1, h2]
    have hself := xassign (T.vm.noted g.method.cls ct (.cls cell.cls)) cell.cls
    simp [findHandler.go, hcov, e3, e4, h0, ha, ht, hhp, hobj, hk2, hself, VmOp.dirties, VmOp.acts, hvm]
  obtain ⟨hgo, hw⟩ := hat.throwing a
  refine Steps.head hgo hw ?_
  rw [stepThread_throwing (frames_entered hat.top _)]
  obtain ⟨g₀, hg0⟩ := Option.isSome_iff_exists.mp hat.top
  obtain ⟨r, hr⟩ := State.topJava?_eq_some.mp hg0
  have hst : (stepThrowing e ((T.setTop g).pushFrame (.throwing a)) a (.java g :: T.frames.tail)).1 = (((T.setTop g).pushFrame (.throwing a)).setVm (T.vm.noted g.method.cls ct (.cls cell.cls))).setFrames (.java { g with pc := hp, stack := [.ref a] } :: T.frames.tail) := by
    simp only [stepThrowing, searchFrame, vmDo]
    generalize hres : Sem.go _ e false [] _ = res
    obtain ⟨as, rfl, ha⟩ := Sem.eq_ok_of hres (a := Handler.found hp) (s' := ((T.setTop g).pushFrame (.throwing a)).setVm (T.vm.noted g.method.cls ct (.cls cell.cls))) (acts' := []) (by simp [hfind _ _ _ _])
    rfl
  rw [hst]
  have hr' : (T.setVm (T.vm.noted g.method.cls ct (.cls cell.cls))).frames = .java g₀ :: r := hr
  rw [State.setTop_of_frames _ hr'] at hrest
  have hsf : ∀ (u : State) (vm' : Vm) (F F' : List Frame), ((u.setFrames F).setVm vm').setFrames F' = (u.setVm vm').setFrames F' := fun u vm' F F' => by
    rw [show (u.setFrames F).setVm vm' = (u.setVm vm').setFrames F from rfl, State.setFrames_setFrames]
  rw [hr, List.tail_cons, State.pushFrame, hsf, State.setTop_of_frames _ hr, hsf]
  exact hrest
def xBackH (G : xG) (d : Nat) (K : xK) (Q : Outcome → xA → Prop) (pc hp : Nat) (lv : List (Option Value)) (st : List Value) : Outcome → xA → Prop := fun o A => match o with
  | .returned v => X G d K Q A (pc + 3) lv (v.toList ++ st)
  | .threw x => A.tg x = 4 ∧ X G d K Q A hp lv [.ref x]
theorem xfinH {p : Program} {e : Env} {s : State} {m : MethodId} {args : Array Value} {below : List Frame} {meth : Method} {c : Code} {T T₁ : State} {locs : List Loc} {H : Heap} {ls : Array Slot} {Ky : xK} {as : List Value} {mk : MethodId} {ig : Instr} {st0 : List Value} {lo hi hp ct : Nat} (hh : K.hh = [(lo, hi, hp, ct)]) (h1 : lo ≤ pc) (h2 : pc < hi) (h0 : ct ≠ 0) (hlc : Cond.classLink K.y.cls ct "CompiledHouse$Stop" ∈ lw_all)
    (X₁ : Stand p G.l e (xR G (d + 1) s.heap) s m args below meth c T₁ locs (xR G (d + 1) s.heap).cells (xR G (d + 1) s.heap).slots) (hc : xCtx G K p s m meth c) (hl : ∀ q ∈ locs, G.N ≤ q.base) (hT : T₁.heap = H) (hr : xRel G A H) (hv : xlv ls K.nL lv) (hM : MX G d Ky as A (xBackH G (d + 1) K Q pc hp lv st))
    (hstep : ∀ target, (∀ acts, Steps p.tables e below (doInvoke e (T₁.setTop (F0 m pc ls st)) acts mk as.toArray).1 target) → Steps p.tables e below (T.setTop (F0 m pc ls st0)) target)
    (hn : T₁.methodNamed? Ky.y = some mk) (hcw : Cond.initialized Ky.y.cls ∈ lw_all) (hcw2 : xcw Ky ∈ lw_all) (hG : xOK G) (hdg : decode K.cc pc = .ok (ig, 3)) (hst : (st.map fun v => v.category).sum + (Ky.nL + 11) ≤ 41) :
    ∃ t, Steps p.tables e below (T.setTop (F0 m pc ls st0)) t ∧ xEnd G (xR G (d + 1) s.heap) s below Q t := by
  have hWT : G.z.WarmedH T₁.vm := State.WarmedH.trans hc.2.2.2.2.1 X₁.warmed
  obtain ⟨T', L, A', XT', hL, hA', hout⟩ := xinv X₁ hc hl hT hr hM hn (args0 := #[]) (xw hG hWT hcw2) (xw hG hWT hcw) (g := F0 m pc ls st) rfl (by rw [hc.2.2.1]; exact hv.1) (by rw [hc.2.1]; exact hdg) (by show 2 * 0 + (st.map fun v => v.category).sum + (Ky.nL + 11) ≤ 41; omega) (xw hG hWT hcw2)
  rcases hout with ⟨v, hQ, hsteps⟩ | ⟨x, hQ, hsteps⟩
  · have hk : X G (d + 1) K Q A' (pc + 3) lv (v.toList ++ st) := hQ
    obtain ⟨t, h1, h2⟩ := hk p e s m args below meth c T'.heap ls (locs ++ L) hc hA' hL hv T' rfl XT'
    exact ⟨t, hstep t fun acts => by rw [doInvoke_state]; exact hsteps.trans h1, h2⟩
  · obtain ⟨ht, hk⟩ := hQ
    obtain ⟨cell, q1, q2, q3⟩ := xrecv hG hA' hc.2.2.2.2.1 (c := 3) ht rfl
    obtain ⟨vm', X2, hgo⟩ := xcaught hG XT' hc (g := F0 m pc ls st) rfl hh h1 h2 h0 hlc q1 q2 q3
    obtain ⟨t, h3, h4⟩ := hk p e s m args below meth c T'.heap ls (locs ++ L) hc hA' hL hv (T'.setVm vm') rfl X2
    exact ⟨t, hstep t fun acts => by rw [doInvoke_state]; exact hsteps.trans (hgo t h3), h4⟩

theorem x_callVH (hG : xOK G) {b c idx n lo hi hp ct : Nat} {As : List Value} {stk : List Value} {r : vw_C} {Ky : xK} (hh : K.hh = [(lo, hi, hp, ct)]) (h1 : lo ≤ pc) (h2 : pc < hi) (h0 : ct ≠ 0) (hlc : Cond.classLink K.y.cls ct "CompiledHouse$Stop" ∈ lw_all) (hd : decode K.cc pc = .ok (.invokevirtual idx, 3)) (ht : A.tg b = c + 1) (hcl : xcl[c]? = some r) (hlk : xLk K.y.cls idx Ky.y) (hme : xMe Ky n) (hinst : Cond.instanceMethod Ky.y ∈ lw_all) (hsel : Cond.selects r.1 Ky.y Ky.y ∈ lw_all)
    (hlen : As.length = n) (hstk : stk = As.reverse ++ .ref b :: st) (hst : (st.map fun v => v.category).sum + (Ky.nL + 11) ≤ 41) (hM : MX G d Ky (.ref b :: As) A (xBackH G (d + 1) K Q pc hp lv st)) : X G (d + 1) K Q A pc lv stk := by
  intro p e s m args below meth cd H ls locs hc hr hl hv T hT X
  subst hstk
  obtain ⟨hcw, hini, hmh⟩ := hme
  have hW := hc.2.2.2.2.1
  obtain ⟨cellB, hcell, hobj, hcls⟩ := xrecv hG hr hW ht hcl
  obtain ⟨mk, methM, hnamed, hmethM, hstM, habM⟩ := Cond.instanceMethod_spec (xw (args := args) hG hW hinst)
  obtain ⟨methM', cM, hmethM', -, -, -, -, -, -, hsigM⟩ := xcw_spec hnamed (xw (args := args) hG hW hcw)
  cases hmethM.symm.trans hmethM'
  obtain ⟨c2, r2, m2, q1, q2, q3, q4, kP, hkP, hkPi⟩ := Cond.selects_spec (xw (args := args) hG hW hsel)
  cases hcls.symm.trans q1
  cases (State.methodFound?_of_named hnamed ⟨hmh.1, hmh.2.1⟩).symm.trans q2
  cases hnamed.symm.trans q3
  have hselP : selectMethod e.platform s.vm cellB.cls mk = .method mk := by rw [Launch.admits_selectMethod X.admits]; exact q4
  rcases hlk with h | ⟨host, h⟩
  · obtain ⟨vm₁, X₁, hstep₁⟩ := X.invokevirtual hc.1 hc.2.2.2.1 (xw hG hW h) hnamed hmethM hstM hkP hkPi ⟨hmh.1, hmh.2.1⟩ (a := b) (cell := cellB) (by rw [hT]; exact hcell)
      hobj hselP hmethM habM hkP hkPi (g := F0 m pc ls (As.reverse ++ .ref b :: st)) rfl (argsL := As) (rest := st) (hlen.trans (hmh.len hsigM)) rfl (by rw [hc.2.1]; exact hd)
    exact xfinH hh h1 h2 h0 hlc X₁ hc hl (H := H) hT hr hv hM hstep₁ (X₁.named hnamed) hini hcw hG hd hst
  · obtain ⟨vm₁, X₁, hstep₁⟩ := X.invokevirtualNest hc.1 hc.2.2.2.1 (va_Nw.use rfl (va_Nw.warmM hW (va_Nw.of rfl (hG.1 _ h)))) hnamed hmethM hstM hkP hkPi ⟨hmh.1, hmh.2.1⟩ (a := b) (cell := cellB) (by rw [hT]; exact hcell)
      hobj hselP hmethM habM hkP hkPi (g := F0 m pc ls (As.reverse ++ .ref b :: st)) rfl (argsL := As) (rest := st) (hlen.trans (hmh.len hsigM)) rfl (by rw [hc.2.1]; exact hd)
    exact xfinH hh h1 h2 h0 hlc X₁ hc hl (H := H) hT hr hv hM hstep₁ (X₁.named hnamed) hini hcw hG hd hst
/-- a Stop that is thrown under the method's own handler -/
theorem x_athrowH (hG : xOK G) {a lo hi hp ct : Nat} (hd : decode K.cc pc = .ok (.athrow, 1)) (hh : K.hh = [(lo, hi, hp, ct)]) (h1 : lo ≤ pc) (h2 : pc < hi) (h0 : ct ≠ 0) (hlc : Cond.classLink K.y.cls ct "CompiledHouse$Stop" ∈ lw_all) (ht : A.tg a = 4) (kk : X G d K Q A hp lv [.ref a]) : X G d K Q A pc lv (.ref a :: st) := by
  intro p e s m args below meth cd H ls locs hc hr hl hv
  intro T hT X
  obtain ⟨cell, q1, q2, q3⟩ := xrecv hG hr hc.2.2.2.2.1 (c := 3) ht rfl
  obtain ⟨vm', X2, hgo⟩ := xcaught hG X hc (g := F0 m pc ls st) rfl hh h1 h2 h0 hlc (by rw [hT]; exact q1) q2 q3
  obtain ⟨t, h3, h4⟩ := kk p e s m args below meth cd H ls locs hc hr hl hv (T.setVm vm') hT X2
  refine ⟨t, ?_, h4⟩
  have hdg : decode cd.code (F0 m pc ls (.ref a :: st)).pc = .ok (.athrow, 1) := by rw [hc.2.1]; exact hd
  have hexec := hc.1
  have hstack : (F0 m pc ls (.ref a :: st)).stack = .ref a :: st := rfl
  have hm : (F0 m pc ls (.ref a :: st)).method = m := rfl
  have hX : At T (F0 m pc ls (.ref a :: st)).method cd below := X.here
  jvm_step hX [hexec, hdg, athrow.wp_sem, hstack]
  exact hgo t h3
end ZH
