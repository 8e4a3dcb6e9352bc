/-! ===== THE BRIDGE: rows of calls ===== -/
set_option maxRecDepth 100000
/-- neither of two classes, and so many parameters -/
def xmh (y : MethodName) (n : Nat) : Prop := y.cls ≠ "java/lang/invoke/MethodHandle" ∧ y.cls ≠ "java/lang/invoke/VarHandle" ∧ (parseMethodDescriptor y.desc).map (fun d => d.parameters.length) = some n
theorem xmh.len {y : MethodName} {n : Nat} (h : xmh y n) {sig : MethodDescriptor} (hs : parseMethodDescriptor y.desc = some sig) : n = sig.parameters.length := by
  have h2 := h.2.2
  rw [hs] at h2
  exact (Option.some.inj h2).symm
/-- a link to a method -/
def xLk (own : String) (idx : Nat) (y : MethodName) : Prop := Cond.methodLink own idx y ∈ lw_all ∨ ∃ host, Cond.methodLinkNest own idx y host ∈ lw_tbl
/-- a callee: its code word, its class is initialised -/
def xMe (Ky : xK) (n : Nat) : Prop := xcw Ky ∈ lw_all ∧ Cond.initialized Ky.y.cls ∈ lw_all ∧ xmh Ky.y n
section XC
variable {G : xG} {d : Nat} {K : xK} {Q : Outcome → xA → Prop} {A : xA} {pc : Nat} {lv : List (Option Value)} {st : List Value}
theorem xrecv (hG : xOK G) {H : Heap} (hr : xRel G A H) {s : State} (hW : G.z.WarmedH s.vm) {b c : Nat} {r : vw_C} (ht : A.tg b = c + 1) (hcl : xcl[c]? = some r) : ∃ cell : Cell, H[b]? = some cell ∧ (∀ z, cell.vm ≠ .statics z) ∧ s.vm.findClass r.1 = some cell.cls := by
  obtain ⟨hc1, -⟩ := xclass_ok c r hcl
  obtain ⟨r', cellV, hr', g1, g2, -, g3, -⟩ := xobR hG hr ht hc1
  cases hcl.symm.trans hr'
  exact ⟨cellV, g1, g3, by rw [g2]; exact ((xKn hG hW).1 c r hcl).2.1⟩
/-- a call through an object, of the method that is named -/
theorem x_callV (hG : xOK G) {b c idx n : Nat} {As : List Value} {stk : List Value} {r : vw_C} {Ky : xK} (hd : decode K.cc pc = .ok (.invokevirtual idx, 3)) (ht : A.tg b = c + 1) (hcl : xcl[c]? = some r) (hlk : xLk K.y.cls idx Ky.y) (hme : xMe Ky n) (hinst : Cond.instanceMethod Ky.y ∈ lw_all) (hsel : Cond.selects r.1 Ky.y Ky.y ∈ lw_all)
    (hlen : As.length = n) (hstk : stk = As.reverse ++ .ref b :: st) (hst : (st.map fun v => v.category).sum + (Ky.nL + 11) ≤ 41) (hM : MX G d Ky (.ref b :: As) A (xBack G (d + 1) K Q pc lv st)) : X G (d + 1) K Q A pc lv stk := by
  intro p e s m args below meth cd H ls locs hc hr hl hv T hT X
  subst hstk
  obtain ⟨hcw, hini, hmh⟩ := hme
  have hW := hc.2.2.2.2.1
  obtain ⟨cellB, hcell, hobj, hcls⟩ := xrecv hG hr hW ht hcl
  obtain ⟨mk, methM, hnamed, hmethM, hstM, habM⟩ := Cond.instanceMethod_spec (xw (args := args) hG hW hinst)
  obtain ⟨methM', cM, hmethM', -, -, -, -, -, -, hsigM⟩ := xcw_spec hnamed (xw (args := args) hG hW hcw)
  cases hmethM.symm.trans hmethM'
  obtain ⟨c2, r2, m2, q1, q2, q3, q4, kP, hkP, hkPi⟩ := Cond.selects_spec (xw (args := args) hG hW hsel)
  cases hcls.symm.trans q1
  cases (State.methodFound?_of_named hnamed ⟨hmh.1, hmh.2.1⟩).symm.trans q2
  cases hnamed.symm.trans q3
  have hselP : selectMethod e.platform s.vm cellB.cls mk = .method mk := by rw [Launch.admits_selectMethod X.admits]; exact q4
  rcases hlk with h | ⟨host, h⟩
  · obtain ⟨vm₁, X₁, hstep₁⟩ := X.invokevirtual hc.1 hc.2.2.2.1 (xw hG hW h) hnamed hmethM hstM hkP hkPi ⟨hmh.1, hmh.2.1⟩ (a := b) (cell := cellB) (by rw [hT]; exact hcell)
      hobj hselP hmethM habM hkP hkPi (g := F0 m pc ls (As.reverse ++ .ref b :: st)) rfl (argsL := As) (rest := st) (hlen.trans (hmh.len hsigM)) rfl (by rw [hc.2.1]; exact hd)
    exact xfin X₁ hc hl (H := H) hT hr hv hM hstep₁ (X₁.named hnamed) hini hcw hG hd hst
  · obtain ⟨vm₁, X₁, hstep₁⟩ := X.invokevirtualNest hc.1 hc.2.2.2.1 (va_Nw.use rfl (va_Nw.warmM hW (va_Nw.of rfl (hG.1 _ h)))) hnamed hmethM hstM hkP hkPi ⟨hmh.1, hmh.2.1⟩ (a := b) (cell := cellB) (by rw [hT]; exact hcell)
      hobj hselP hmethM habM hkP hkPi (g := F0 m pc ls (As.reverse ++ .ref b :: st)) rfl (argsL := As) (rest := st) (hlen.trans (hmh.len hsigM)) rfl (by rw [hc.2.1]; exact hd)
    exact xfin X₁ hc hl (H := H) hT hr hv hM hstep₁ (X₁.named hnamed) hini hcw hG hd hst
/-- a call through an object, of a method that its class selects for the one that is named -/
theorem x_callU (hG : xOK G) {b c idx n : Nat} {As : List Value} {stk : List Value} {r : vw_C} {Ky : xK} {x : MethodName} (hd : decode K.cc pc = .ok (.invokevirtual idx, 3)) (ht : A.tg b = c + 1) (hcl : xcl[c]? = some r) (hlk : Cond.methodLink K.y.cls idx x ∈ lw_all) (hsame : Cond.sameMethod x.cls x.cls x.name x.desc ∈ lw_all)
    (hdec : Cond.declares x ∈ lw_tbl ∨ (Cond.instanceMethod x ∈ lw_all ∧ ∃ b m r, Cond.code x b m r ∈ lw_all)) (hmx : xmh x n) (hme : xMe Ky n) (hinst : Cond.instanceMethod Ky.y ∈ lw_all) (hsel : Cond.selects r.1 x Ky.y ∈ lw_all)
    (hlen : As.length = n) (hstk : stk = As.reverse ++ .ref b :: st) (hst : (st.map fun v => v.category).sum + (Ky.nL + 11) ≤ 41) (hM : MX G d Ky (.ref b :: As) A (xBack G (d + 1) K Q pc lv st)) : X G (d + 1) K Q A pc lv stk := by
  intro p e s m args below meth cd H ls locs hc hr hl hv T hT X
  subst hstk
  obtain ⟨hcw, hini, hmh⟩ := hme
  have hW := hc.2.2.2.2.1
  obtain ⟨cellB, hcell, hobj, hcls⟩ := xrecv hG hr hW ht hcl
  have hd0 : va_Decl s x := by
    rcases hdec with h | ⟨h1, b0, m0, r0, h2⟩
    · exact va_Decl.abs (va_Nw.warmD hW (va_Nw.of rfl (hG.1 _ h)))
    · exact va_Decl.of (xw (args := args) hG hW h1) (xw (args := args) hG hW h2)
  obtain ⟨r0, r1, hn, hrm, hstR, hsigR⟩ := hd0
  obtain ⟨cn, ck, r3, hcn, hck, hni, hf, hn1⟩ := Cond.sameMethod_found (xw (args := args) hG hW hsame)
  cases hn.symm.trans hn1
  obtain ⟨mk, methM, hnamed, hmethM, -, habM⟩ := Cond.instanceMethod_spec (xw (args := args) hG hW hinst)
  obtain ⟨c2, r2, m2, q1, q2, q3, q4, kP, hkP, hkPi⟩ := Cond.selects_spec (xw (args := args) hG hW hsel)
  cases hcls.symm.trans q1
  cases hf.symm.trans q2
  cases hnamed.symm.trans q3
  have hselP : selectMethod e.platform s.vm cellB.cls r0 = .method mk := by rw [Launch.admits_selectMethod X.admits]; exact q4
  obtain ⟨vm₁, X₁, hstep₁⟩ := X.invokevirtualUp hc.1 hc.2.2.2.1 (xw hG hW hlk) (xw hG hW hsame) ⟨hmx.1, hmx.2.1⟩ hn hrm hstR (a := b) (cell := cellB) (by rw [hT]; exact hcell)
    hobj hselP hmethM habM hkP hkPi (g := F0 m pc ls (As.reverse ++ .ref b :: st)) rfl (argsL := As) (rest := st) (hlen.trans (hmx.len hsigR)) rfl (by rw [hc.2.1]; exact hd)
  exact xfin X₁ hc hl (H := H) hT hr hv hM hstep₁ (X₁.named hnamed) hini hcw hG hd hst
/-- a static call -/
theorem x_callS (hG : xOK G) {idx n : Nat} {As : List Value} {stk : List Value} {Ky : xK} (hd : decode K.cc pc = .ok (.invokestatic idx, 3)) (hlk : xLk K.y.cls idx Ky.y) (hme : xMe Ky n) (hstat : Cond.static Ky.y ∈ lw_all)
    (hlen : As.length = n) (hstk : stk = As.reverse ++ st) (hst : (st.map fun v => v.category).sum + (Ky.nL + 11) ≤ 41) (hM : MX G d Ky As A (xBack G (d + 1) K Q pc lv st)) : X G (d + 1) K Q A pc lv stk := by
  intro p e s m args below meth cd H ls locs hc hr hl hv T hT X
  subst hstk
  obtain ⟨hcw, hini, hmh⟩ := hme
  have hW := hc.2.2.2.2.1
  have hcw' : (xcw Ky).before args s = true := xw hG hW hcw
  have hex : ∃ mk, s.methodNamed? Ky.y = some mk := by
    obtain ⟨y, cc, nL, ret, hh⟩ := Ky
    cases hh with
    | nil => exact Cond.code_named hcw'
    | cons q t =>
      obtain ⟨m', _, _, h0, -⟩ := Cond.codeWith_spec hcw'
      exact ⟨m', h0⟩
  obtain ⟨mk, hnamed⟩ := hex
  obtain ⟨methM, cM, hmethM, -, -, -, -, -, -, hsigM⟩ := xcw_spec hnamed hcw'
  have hstatic : methM.isStatic = true := Cond.static_spec hnamed hmethM (xw (args := args) hG hW hstat)
  obtain ⟨kP, hkP, -⟩ := className_of_methodNamed hnamed
  have hinitP : kP.init = .initialized := Cond.initialized_spec (findClass_of_methodNamed hnamed) hkP (xw (args := args) hG hW hini)
  rcases hlk with h | ⟨host, h⟩
  · obtain ⟨vm₁, X₁, hstep₁⟩ := X.invokestatic hc.1 hc.2.2.2.1 (xw hG hW h) hnamed hmethM hstatic hkP hinitP ⟨hmh.1, hmh.2.1⟩ (g := F0 m pc ls (As.reverse ++ st)) rfl (argsL := As) (rest := st) (hlen.trans (hmh.len hsigM)) rfl (by rw [hc.2.1]; exact hd)
    exact xfin X₁ hc hl (H := H) hT hr hv hM hstep₁ (X₁.named hnamed) hini hcw hG hd hst
  · obtain ⟨vm₁, X₁, hstep₁⟩ := X.invokestaticNest hc.1 hc.2.2.2.1 (va_Nw.use rfl (va_Nw.warmM hW (va_Nw.of rfl (hG.1 _ h)))) hnamed hmethM hstatic hkP hinitP ⟨hmh.1, hmh.2.1⟩ (g := F0 m pc ls (As.reverse ++ st)) rfl (argsL := As) (rest := st) (hlen.trans (hmh.len hsigM)) rfl (by rw [hc.2.1]; exact hd)
    exact xfin X₁ hc hl (H := H) hT hr hv hM hstep₁ (X₁.named hnamed) hini hcw hG hd hst
/-- a constructor (without handlers) -/
theorem x_callI (hG : xOK G) {b idx n : Nat} {As : List Value} {stk : List Value} {Ky : xK} (hd : decode K.cc pc = .ok (.invokespecial idx, 3)) (hlk : xLk K.y.cls idx Ky.y) (hme : xMe Ky n) (hinst : Cond.instanceMethod Ky.y ∈ lw_all) (hnm : Ky.y.name = "<init>") (hh : Ky.hh = []) (hret : Ky.ret = none)
    (hlen : As.length = n) (hstk : stk = As.reverse ++ .ref b :: st) (hst : (st.map fun v => v.category).sum + (Ky.nL + 11) ≤ 41) (hM : MX G d Ky (.ref b :: As) A (xBack G (d + 1) K Q pc lv st)) : X G (d + 1) K Q A pc lv stk := by
  intro p e s m args below meth cd H ls locs hc hr hl hv T hT X
  subst hstk
  obtain ⟨hcw, hini, hmh⟩ := hme
  have hW := hc.2.2.2.2.1
  have hcode : (Cond.code Ky.y Ky.cc Ky.nL none).before args s = true := by
    have h1 := xw (args := args) hG hW hcw
    unfold xcw at h1
    rw [hh, hret] at h1
    exact h1
  have hpl : e.platform.magicAccessors = ({} : Platform).magicAccessors := by rw [X.admits.platform]
  have hx := hc.1
  rcases hlk with h | ⟨host, h⟩
  · obtain ⟨mk, methM, cM, kP, vm₁, hnamed, hmethM, hcodeM, -, hlocalsM, -, hkP, -, hW₁, hstep₁⟩ := Steps.initColdArgs (e := e) X.here hx X.warmed hpl hc.2.2.2.1 hnm ⟨hmh.1, hmh.2.1⟩ (xw hG hW h) (xw hG hW hinst) hcode (f := F0 m pc ls (As.reverse ++ .ref b :: st)) rfl (fun sig hs => hlen.trans (hmh.len hs)) rfl (by rw [hc.2.1]; exact hd)
    have X₁ := X.noted hW₁
    exact xfin X₁ hc hl (H := H) hT hr hv hM hstep₁ (X₁.named hnamed) hini hcw hG hd hst
  · obtain ⟨mk, methM, cM, kP, vm₁, hnamed, hmethM, hcodeM, -, hlocalsM, -, hkP, -, hW₁, hstep₁⟩ := Steps.initColdArgsNest (e := e) X.here hx X.warmed hpl hc.2.2.2.1 hnm ⟨hmh.1, hmh.2.1⟩ (va_Nw.use (A := args) rfl (va_Nw.warmM hW (va_Nw.of rfl (hG.1 _ h)))) (xw hG hW hinst) hcode (f := F0 m pc ls (As.reverse ++ .ref b :: st)) rfl (fun sig hs => hlen.trans (hmh.len hs)) rfl (by rw [hc.2.1]; exact hd)
    have X₁ := X.noted hW₁
    exact xfin X₁ hc hl (H := H) hT hr hv hM hstep₁ (X₁.named hnamed) hini hcw hG hd hst
/-- Object's constructor -/
theorem x_objInit (hG : xOK G) {b idx : Nat} (hd : decode K.cc pc = .ok (.invokespecial idx, 3)) (hlk : Cond.methodLink K.y.cls idx Lib.objectInit ∈ lw_all) (hinst : Cond.instanceMethod Lib.objectInit ∈ lw_all) (hcode : Cond.code Lib.objectInit ⟨#[0xb1]⟩ 1 none ∈ lw_all) (hst : (st.map fun v => v.category).sum + 12 ≤ 41) (k : X G (d + 1) K Q A (pc + 3) lv st) : X G (d + 1) K Q A pc lv (.ref b :: st) := by
  intro p e s m args below meth cd H ls locs hc hr hl hv
  have hW := hc.2.2.2.2.1
  have k0 := k p e s m args below meth cd H ls locs hc hr hl hv
  exact W.objInit hc.1 hc.2.1 hc.2.2.2.1 (xw hG hW hlk) (xw hG hW hinst) (xw hG hW hcode) rfl (by rw [hc.2.2.1]; exact hv.1) rfl hd (by show 1 ≤ d + 1; omega) (by show 2 * 0 + (st.map fun v => v.category).sum + 12 ≤ 41 * (d + 1) + 32; omega) k0
/-- a contract serves deeper rooms and weaker ends -/
theorem MX.post {Ky : xK} {as : List Value} {Q' : Outcome → xA → Prop} (h : MX G d Ky as A Q) (hq : ∀ o A', Q o A' → Q' o A') : MX G d Ky as A Q' := by
  intro H hr p e ha hc hk s m args below hf happ hP hK
  obtain ⟨n, o, h1, h2, h3, ⟨A', h4, h5⟩, h6⟩ := h H hr p e ha hc hk s m args below hf happ hP hK
  exact ⟨n, o, h1, h2, h3, ⟨A', h4, hq o A' h5⟩, h6⟩
end XC
