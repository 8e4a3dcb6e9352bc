/-! ===== THE BRIDGE: calls ===== -/
set_option maxRecDepth 100000
section XC
variable {G : xG} {d : Nat} {K : xK} {Q : Outcome → xA → Prop} {A : xA} {pc : Nat} {lv : List (Option Value)} {st : List Value}
theorem xheapTop (T : State) (g : JFrame) : (T.setTop g).heap = T.heap := by simp [State.setTop, State.modifyTopJava]
/-- the core of a call: from the stand behind the link, the callee's contract brings the walk on: back with an answer, or at the note of a thrown object -/
theorem xinv {p : Program} {e : Env} {s : State} {m : MethodId} {args : Array Value} {below : List Frame} {meth : Method} {c : Code} {T : State} {locs : List Loc} {H : Heap} {Ky : xK} {as : List Value} {Qy : Outcome → xA → Prop} {g : JFrame} {mk : MethodId} {ig : Instr} {args0 : Array Value}
    (X : Stand p G.l e (xR G (d + 1) s.heap) s m args below meth c T locs (xR G (d + 1) s.heap).cells (xR G (d + 1) s.heap).slots) (hc : xCtx G K p s m meth c) (hl : ∀ q ∈ locs, G.N ≤ q.base) (hT : T.heap = H) (hr : xRel G A H) (hM : MX G d Ky as A Qy)
    (hn : T.methodNamed? Ky.y = some mk) (hcw : (xcw Ky).before args0 T = true) (hini : (Cond.initialized Ky.y.cls).before args0 T = true) (hg : g.method = m) (hsize : g.locals.size = c.maxLocals) (hdg : decode c.code g.pc = .ok (ig, 3)) (hst : 2 * g.monitorRoom + (g.stack.map fun v => v.category).sum + (Ky.nL + 11) ≤ 41) (hpt : (xcw Ky).before as.toArray T = true) :
    ∃ (T' : State) (L : List Loc) (A' : xA), Stand p G.l e (xR G (d + 1) s.heap) s m args below meth c T' (locs ++ L) (xR G (d + 1) s.heap).cells (xR G (d + 1) s.heap).slots ∧ (∀ q ∈ locs ++ L, G.N ≤ q.base) ∧ xRel G A' T'.heap ∧
      ((∃ v, Qy (.returned v) A' ∧ Steps p.tables e below (doInvoke e (T.setTop g) [] mk as.toArray).1 (T'.setTop { g with pc := g.pc + 3, stack := v.toList ++ g.stack })) ∨
       (∃ x, Qy (.threw x) A' ∧ Steps p.tables e below (doInvoke e (T.setTop g) [] mk as.toArray).1 ((T'.setTop g).pushFrame (.throwing x)))) := by
  obtain ⟨hx, hb, hml, hown, hW, hret, hlk, hnm, hex, hs1, hs2, hs3⟩ := hc
  obtain ⟨o1, o2, o3, o4⟩ := stand_old X
  rw [hT] at o1 o2 o3 o4
  have o2' : H.size ≤ s.heap.size + (G.N + 386503 - s.heap.size) := o2
  have o4' : hU H ≤ hU s.heap + (hU G.z.heap + 7941971 - hU s.heap) := o4
  have Xt : Stand p G.l e (xR G (d + 1) s.heap) s m args below meth c T locs (H.size - s.heap.size) (hU H - hU s.heap) := stand_tight X (by rw [hT]; omega) (by rw [hT]; omega)
  obtain ⟨methY, cY, hmY, hcY, -, hlY, -, -, -, -⟩ := xcw_spec hn hcw
  obtain ⟨kY, hkY, -⟩ := className_of_methodNamed hn
  have hinitY : kY.init = .initialized := Cond.initialized_spec (findClass_of_methodNamed hn) hkY hini
  have h : At T g.method c below := by rw [hg]; exact X.here
  have hR1 : (xR G d H).frames + 1 ≤ (xR G (d + 1) s.heap).frames := Nat.le_refl _
  have hR2 : 2 * g.monitorRoom + (g.stack.map fun v => v.category).sum + (cY.maxLocals + 11) + (xR G d H).locals ≤ (xR G (d + 1) s.heap).locals := by
    rw [hlY]
    show _ + (41 * d + 32) ≤ 41 * (d + 1) + 32
    omega
  have hR3 : (H.size - s.heap.size) + (xR G d H).cells ≤ (xR G (d + 1) s.heap).cells := by
    show _ + (G.N + 386503 - H.size) ≤ G.N + 386503 - s.heap.size
    omega
  have hR4 : (hU H - hU s.heap) + (xR G d H).slots ≤ (xR G (d + 1) s.heap).slots := by
    show _ + (hU G.z.heap + 7941971 - hU H) ≤ hU G.z.heap + 7941971 - hU s.heap
    omega
  have happ : (headSpec [xcw Ky] (xR G d H)).appliesLoose Ky.y e.platform (T.calling g mk as.toArray) = true :=
    Spec.appliesLoose_calling (g := g) h hdg hn hkY hinitY (Xt.room_calling (g := g) (R' := xR G d H) hsize hmY hcY hR1 hR2 hR3 hR4) (atoms_intro fun w hw => by rw [List.mem_singleton.mp hw]; exact hpt)
  obtain ⟨mid, hmid⟩ := h.above
  have hfr : (T.setTop g).frames = (.java g :: mid) ++ below := by rw [State.frames_setTop' g h.top, hmid]; rfl
  have hP : xPre G as H as.toArray (T.calling g mk as.toArray) := ⟨rfl, hT, State.WarmedH.trans hW X.warmed, by omega, by omega, by omega⟩
  obtain ⟨o, s₂, hsteps, -, hend, hq⟩ := Steps.callFree (hM H hr) p X.admits X.cas X.clock (acts := []) hfr happ hP trivial
  rw [State.frames_setTop' g h.top, X.tail] at hend
  obtain ⟨⟨A', hA', hQ⟩, hW2, L, hsame, hL⟩ := hq
  have hlL : ∀ q ∈ locs ++ L, G.N ≤ q.base := fun q hq => by
    rcases List.mem_append.mp hq with h | h
    · exact hl q h
    · exact hL q h
  cases o with
  | returned v =>
    obtain ⟨T', XT', -, -, ht⟩ := Xt.outOf hg hdg hend hW2 hsame
    refine ⟨T', L, A', stand_widen XT' hR3 hR4, hlL, ?_, Or.inl ⟨v, hQ, ?_⟩⟩
    · rw [ht, xheapTop] at hA'
      exact hA'
    · rw [← ht]
      exact hsteps
  | threw x =>
    obtain ⟨T', XT', -, -, ht⟩ := Xt.outOfThrown hg hend hW2 hsame
    refine ⟨T', L, A', stand_widen XT' hR3 hR4, hlL, ?_, Or.inr ⟨x, hQ, ?_⟩⟩
    · rw [ht, Stand.throwing_heap] at hA'
      exact hA'
    · rw [← ht]
      exact hsteps
/-- what comes behind a call: the answer on the stack; or the object that was thrown leaves this method too -/
def xBack (G : xG) (d : Nat) (K : xK) (Q : Outcome → xA → Prop) (pc : Nat) (lv : List (Option Value)) (st : List Value) : Outcome → xA → Prop := fun o A => match o with
  | .returned v => X G d K Q A (pc + 3) lv (v.toList ++ st)
  | .threw x => K.hh = [] ∧ Q (.threw x) A
theorem xfin {p : Program} {e : Env} {s : State} {m : MethodId} {args : Array Value} {below : List Frame} {meth : Method} {c : Code} {T T₁ : State} {locs : List Loc} {H : Heap} {ls : Array Slot} {Ky : xK} {as : List Value} {mk : MethodId} {ig : Instr} {st0 : List Value}
    (X₁ : Stand p G.l e (xR G (d + 1) s.heap) s m args below meth c T₁ locs (xR G (d + 1) s.heap).cells (xR G (d + 1) s.heap).slots) (hc : xCtx G K p s m meth c) (hl : ∀ q ∈ locs, G.N ≤ q.base) (hT : T₁.heap = H) (hr : xRel G A H) (hv : xlv ls K.nL lv) (hM : MX G d Ky as A (xBack G (d + 1) K Q pc lv st))
    (hstep : ∀ target, (∀ acts, Steps p.tables e below (doInvoke e (T₁.setTop (F0 m pc ls st)) acts mk as.toArray).1 target) → Steps p.tables e below (T.setTop (F0 m pc ls st0)) target)
    (hn : T₁.methodNamed? Ky.y = some mk) (hcw : Cond.initialized Ky.y.cls ∈ lw_all) (hcw2 : xcw Ky ∈ lw_all) (hG : xOK G) (hdg : decode K.cc pc = .ok (ig, 3)) (hst : (st.map fun v => v.category).sum + (Ky.nL + 11) ≤ 41) :
    ∃ t, Steps p.tables e below (T.setTop (F0 m pc ls st0)) t ∧ xEnd G (xR G (d + 1) s.heap) s below Q t := by
  have hWT : G.z.WarmedH T₁.vm := State.WarmedH.trans hc.2.2.2.2.1 X₁.warmed
  obtain ⟨T', L, A', XT', hL, hA', hout⟩ := xinv X₁ hc hl hT hr hM hn (args0 := #[]) (xw hG hWT hcw2) (xw hG hWT hcw) (g := F0 m pc ls st) rfl (by rw [hc.2.2.1]; exact hv.1) (by rw [hc.2.1]; exact hdg) (by show 2 * 0 + (st.map fun v => v.category).sum + (Ky.nL + 11) ≤ 41; omega) (xw hG hWT hcw2)
  rcases hout with ⟨v, hQ, hsteps⟩ | ⟨x, hQ, hsteps⟩
  · have hk : X G (d + 1) K Q A' (pc + 3) lv (v.toList ++ st) := hQ
    obtain ⟨t, h1, h2⟩ := hk p e s m args below meth c T'.heap ls (locs ++ L) hc hA' hL hv T' rfl XT'
    exact ⟨t, hstep t fun acts => by rw [doInvoke_state]; exact hsteps.trans h1, h2⟩
  · obtain ⟨hh, hQ⟩ := hQ
    have hex : ∀ x ∈ c.exceptionTable.toList, covers x pc = false := by
      have h0 := hc.2.2.2.2.2.2.2.2.1
      rw [hh] at h0
      have : c.exceptionTable.toList = [] := by simpa using h0
      rw [this]
      intro x hx
      cases hx
    obtain ⟨h1, h2, h3, h4, h5⟩ := XT'.leaveThrown x (g := F0 m pc ls st) rfl rfl rfl hex (hlocks := hc.2.2.2.2.2.2.1)
    exact ⟨_, hstep _ fun acts => by rw [doInvoke_state]; exact hsteps.trans h1, .threw x, h2, h3, ⟨A', hA', hQ⟩, h4, locs ++ L, h5, hL⟩
end XC
