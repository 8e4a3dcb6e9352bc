/-! ===== THE BRIDGE: new arrays, constants, casts, returns ===== -/
set_option maxRecDepth 100000
section XH
variable {G : xG} {d : Nat} {K : xK} {Q : Outcome → xA → Prop} {A : xA} {pc : Nat} {lv : List (Option Value)} {st : List Value}
theorem x_newa (hG : xOK G) (g : Nat) {j N : Nat} {n : Int32} {aty : ArrayType} (hd : decode K.cc pc = .ok (.newarray aty, 2)) (hj : j < 4) (hty : newarray.typeOf aty = xty j) (hn : ¬ n < 0) (hN : n.toNatClampNeg = N) (hb : N ≤ 60000000) (hC : A.n + 1 ≤ G.N + 386503) (hS : A.u + N ≤ hU G.z.heap + 7941971)
    (hw : Cond.arrayClass (xty j) ∈ lw_all) (kk : X G d K Q (A.new (200 + j) N N g) (pc + 2) lv (.ref A.n :: st)) : X G d K Q A pc lv (.int n :: st) := by
  intro p e s m args below meth cd H ls locs hc hr hl hv
  have hW := hc.2.2.2.2.1
  refine xroom fun k n' hk hn' => ?_
  have hNs : G.N ≤ H.size := by have := xold hc; omega
  have hcb : componentBytes (xty j) ≤ 8 := by
    match j, hj with
    | 0, _ => decide
    | 1, _ => decide
    | 2, _ => decide
    | 3, _ => decide
  refine va_newaK hc.1 hc.2.1 (by rw [hty]; exact xw hG hW hw) rfl hd rfl hn hN (by rw [hty]; exact Nat.le_trans (Nat.mul_le_mul hb hcb) (by decide)) (by show _ ≤ G.N + 386503 - s.heap.size; have := hr.1; omega) (by show _ ≤ hU G.z.heap + 7941971 - hU s.heap; have := hr.2.1; omega) rfl fun H' cA e1 e2 e3 hA hf => ?_
  have hAj := ((xKn hG hW).2 j _ (xtys_at (dA := G.dA) (j := j) (by omega))).2
  have hcA : cA = G.dA j := by
    have h2 : s.vm.findClass ("[" ++ (xty j).toString) = some (G.dA j) := by
      match j, hj, hAj with
      | 0, _, h => exact h
      | 1, _, h => exact h
      | 2, _, h => exact h
      | 3, _, h => exact h
    rw [hty] at hf
    exact Option.some.inj (hf.symm.trans h2)
  have hdv : defaultValue (newarray.typeOf aty) = xval (xty j) 0 0 none := by
    rw [hty]
    match j, hj with
    | 0, _ => rfl
    | 1, _ => rfl
    | 2, _ => rfl
    | 3, _ => rfl
  have hr2 : xRel G (A.new (200 + j) N N g) H' := by
    refine hr.new hNs e1 e2 e3 (arrV_size _ _ _) (fun c h h' => by omega) (fun j' h => ?_)
    have : j' = j := by omega
    subst this
    exact ⟨by omega, by rw [hcA, hdv]⟩
  have := kk p e s m args below meth cd H' ls locs hc hr2 hl hv
  rw [← hr.1] at this
  exact W.widen (by show _ ≤ G.N + 386503 - s.heap.size; have := hr.1; omega) (by show _ ≤ hU G.z.heap + 7941971 - hU s.heap; have := hr.2.1; omega) this
theorem x_anew (hG : xOK G) (g : Nat) {j N idx : Nat} {n : Int32} {C : String} (hd : decode K.cc pc = .ok (.anewarray idx, 3)) (hj : j < 7) (hty : xty j = .object C) (hn : ¬ n < 0) (hN : n.toNatClampNeg = N) (hb : N ≤ 60000000) (hC : A.n + 1 ≤ G.N + 386503) (hS : A.u + N ≤ hU G.z.heap + 7941971)
    (hlk : Cond.classLink K.y.cls idx C ∈ lw_all) (hov : Cond.arrayOver (.object C) ∈ lw_tbl) (kk : X G d K Q (A.new (200 + j) N N g) (pc + 3) lv (.ref A.n :: st)) : X G d K Q A pc lv (.int n :: st) := by
  intro p e s m args below meth cd H ls locs hc hr hl hv
  have hW := hc.2.2.2.2.1
  refine xroom fun k n' hk hn' => ?_
  have hNs : G.N ≤ H.size := by have := xold hc; omega
  subst hN
  refine W.anew hc.1 hc.2.1 hc.2.2.2.1 (xw hG hW hlk) (va_AO.use (va_AO.moved hW.alike (va_AO.of (C := C) (A := G.za) (hG.1 _ hov)))) rfl hd rfl hn (by omega) (by show _ ≤ G.N + 386503 - s.heap.size; have := hr.1; omega) (by show _ ≤ hU G.z.heap + 7941971 - hU s.heap; have := hr.2.1; omega) fun cA kA comp f1 f2 f3 f4 => ?_
  have hAj := ((xKn hG hW).2 j _ (xtys_at (dA := G.dA) (j := j) hj)).2
  rw [hty] at hAj
  obtain ⟨kA', comp', g1, g2, g3, g4⟩ := hAj
  have hcA : cA = G.dA j := Option.some.inj (f1.symm.trans g4)
  have hr2 : xRel G (A.new (200 + j) n.toNatClampNeg n.toNatClampNeg g) (H.push ({ cls := cA, slots := Array.replicate n.toNatClampNeg .null, vm := .none } : Cell)) := by
    refine hr.new hNs (cell := arrV cA n.toNatClampNeg (fun _ => .null)) (by rw [Array.getElem?_push_size, ← arrV_new]) (by simp) (fun q hq => by rw [Array.getElem?_push, if_neg (Nat.ne_of_lt hq)]) (arrV_size _ _ _) (fun c h h' => by omega) (fun j' h => ?_)
    have : j' = j := by omega
    subst this
    exact ⟨hj, by rw [hcA, hty]; rfl⟩
  have := kk p e s m args below meth cd _ ls locs hc hr2 hl hv
  rw [← hr.1] at this
  exact W.widen (by show _ ≤ G.N + 386503 - s.heap.size; have := hr.1; omega) (by show _ ≤ hU G.z.heap + 7941971 - hU s.heap; have := hr.2.1; omega) this
theorem x_ldc (hG : xOK G) {idx : Nat} {v : Int32} (hd : decode K.cc pc = .ok (.ldc idx, 2)) (hq : Cond.constant K.y.cls idx v ∈ lw_all) (k : X G d K Q A (pc + 2) lv (.int v :: st)) : X G d K Q A pc lv st := fun p e s m args below meth c H ls locs hc hr hl hv => lv_ldc hc.1 hc.2.1 hc.2.2.2.1 (xw hG hc.2.2.2.2.1 hq) hd (k p e s m args below meth c H ls locs hc hr hl hv)
theorem x_ldcw (hG : xOK G) {idx : Nat} {v : Int32} (hd : decode K.cc pc = .ok (.ldc_w idx, 3)) (hq : Cond.constant K.y.cls idx v ∈ lw_all) (k : X G d K Q A (pc + 3) lv (.int v :: st)) : X G d K Q A pc lv st := fun p e s m args below meth c H ls locs hc hr hl hv => lv_ldcw hc.1 hc.2.1 hc.2.2.2.1 (xw hG hc.2.2.2.2.1 hq) hd (k p e s m args below meth c H ls locs hc hr hl hv)
theorem x_ldc2 (hG : xOK G) {idx : Nat} {v : Int64} (hd : decode K.cc pc = .ok (.ldc2_w idx, 3)) (hq : Cond.constantLong K.y.cls idx v ∈ lw_all) (k : X G d K Q A (pc + 3) lv (.long v :: st)) : X G d K Q A pc lv st := fun p e s m args below meth c H ls locs hc hr hl hv => lv_ldc2 hc.1 hc.2.1 hc.2.2.2.1 (xw hG hc.2.2.2.2.1 hq) hd (k p e s m args below meth c H ls locs hc hr hl hv)
theorem x_lcmp {x y : Int64} (hd : decode K.cc pc = .ok (.lcmp, 1)) (k : X G d K Q A (pc + 1) lv (.int (lg_cmp x y) :: st)) : X G d K Q A pc lv (.long y :: .long x :: st) := fun p e s m args below meth c H ls locs hc hr hl hv => W.lcmp hc.1 hc.2.1 hd (k p e s m args below meth c H ls locs hc hr hl hv)
/-- a cast that holds: of an object of class c to its own class or one above -/
theorem x_cast (hG : xOK G) {a c idx : Nat} {r : vw_C} {nm : String} (hd : decode K.cc pc = .ok (.checkcast idx, 3)) (hlk : Cond.classLink K.y.cls idx nm ∈ lw_all) (ht : A.tg a = c + 1) (hcl : xcl[c]? = some r) (hca : r.1 = nm ∨ Cond.castable r.1 nm ∈ lw_tbl) (k : X G d K Q A (pc + 3) lv (.ref a :: st)) : X G d K Q A pc lv (.ref a :: st) := by
  intro p e s m args below meth cd H ls locs hc hr hl hv
  have k0 := k p e s m args below meth cd H ls locs hc hr hl hv
  have hW := hc.2.2.2.2.1
  obtain ⟨hc1, -⟩ := xclass_ok c r hcl
  obtain ⟨r', cellV, hr', g1, g2, -, g3, -⟩ := xobR hG hr ht hc1
  cases hcl.symm.trans hr'
  have hcls := ((xKn hG hW).1 c r hcl).2
  have g3' : cellV.vm.isStatics = false := by
    cases hv : cellV.vm with
    | statics z => exact absurd hv (g3 z)
    | _ => rfl
  have hrc : ∃ cell : Cell, H[a]? = some cell ∧ cell.vm.isStatics = false ∧ s.vm.findClass r.1 = some cell.cls := ⟨cellV, g1, g3', by rw [g2]; exact hcls.1⟩
  rcases hca with h | h
  · subst h
    exact va_castS hc.1 hc.2.1 hc.2.2.2.1 (xw hG hW hlk) hcls hrc hd k0
  · exact va_castY hc.1 hc.2.1 hc.2.2.2.1 (xw hG hW hlk) (va_Nw.warmC hW (va_Nw.of rfl (hG.1 _ h))) hrc hd k0
theorem x_castN {idx : Nat} (hd : decode K.cc pc = .ok (.checkcast idx, 3)) (k : X G d K Q A (pc + 3) lv (.null :: st)) : X G d K Q A pc lv (.null :: st) := fun p e s m args below meth c H ls locs hc hr hl hv => lv_castN hc.1 hc.2.1 hd (k p e s m args below meth c H ls locs hc hr hl hv)
/-- the end of a walk out of the kit's -/
theorem xEnd.of {R : Room} {s : State} {below : List Frame} {args : Array Value} {t : State} (h : MQ below (fun _ _ o t => ∃ A, xRel G A t.heap ∧ Q o A) args s R.cells R.slots (fun q => G.N ≤ q) t) : xEnd G R s below Q t := by
  obtain ⟨o, h1, h2, h3, L, ⟨-, h5, h6⟩, h7⟩ := h
  exact ⟨o, h1, h2, h3, h5, L, h6, h7⟩
theorem W.post {p : Program} {l : Launch} {e : Env} {R : Room} {s : State} {m : MethodId} {args : Array Value} {below : List Frame} {meth : Method} {c : Code} {H : Heap} {locs : List Loc} {cells slots : Nat} {P P' : State → Prop} {g : JFrame} (h : ∀ t, P t → P' t) (k : W p l e R s m args below meth c H locs cells slots P g) : W p l e R s m args below meth c H locs cells slots P' g := by
  intro T hT X
  obtain ⟨t, a, b⟩ := k T hT X
  exact ⟨t, a, h t b⟩
theorem x_iret {v : Int32} (hd : decode K.cc pc = .ok (.ireturn, 1)) (hret : K.ret = some .int) (hq : Q (.returned (some (.int v))) A) : X G d K Q A pc lv [.int v] := by
  intro p e s m args below meth cd H ls locs hc hr hl hv
  exact W.post (fun t => xEnd.of) (W.iret hc.1 hc.2.1 (hc.2.2.2.2.2.1.trans hret) (fun t ht hW => ⟨A, by rw [ht]; exact hr, hq⟩) hl hd (hlocks := hc.2.2.2.2.2.2.1))
theorem x_zret {v : Int32} (hd : decode K.cc pc = .ok (.ireturn, 1)) (hret : K.ret = some .boolean) (hv0 : v = 0 ∨ v = 1) (hq : Q (.returned (some (.int v))) A) : X G d K Q A pc lv [.int v] := by
  intro p e s m args below meth cd H ls locs hc hr hl hv
  exact W.post (fun t => xEnd.of) (W.zret hc.1 hc.2.1 (hc.2.2.2.2.2.1.trans hret) (by rcases hv0 with rfl | rfl <;> rfl) (fun t ht hW => ⟨A, by rw [ht]; exact hr, hq⟩) hl hd (hlocks := hc.2.2.2.2.2.2.1))
theorem x_nret {v : Int32} {ty : FieldType} (hd : decode K.cc pc = .ok (.ireturn, 1)) (hret : K.ret = some ty) (hv0 : narrow ty (.int v) = .int v) (hq : Q (.returned (some (.int v))) A) : X G d K Q A pc lv [.int v] := by
  intro p e s m args below meth cd H ls locs hc hr hl hv
  exact W.post (fun t => xEnd.of) (W.zret hc.1 hc.2.1 (hc.2.2.2.2.2.1.trans hret) hv0 (fun t ht hW => ⟨A, by rw [ht]; exact hr, hq⟩) hl hd (hlocks := hc.2.2.2.2.2.2.1))
theorem x_lret {v : Int64} (hd : decode K.cc pc = .ok (.lreturn, 1)) (hret : K.ret = some .long) (hq : Q (.returned (some (.long v))) A) : X G d K Q A pc lv [.long v] := by
  intro p e s m args below meth cd H ls locs hc hr hl hv
  exact W.post (fun t => xEnd.of) (W.lret hc.1 hc.2.1 (hc.2.2.2.2.2.1.trans hret) (fun t ht hW => ⟨A, by rw [ht]; exact hr, hq⟩) hl hd (hlocks := hc.2.2.2.2.2.2.1))
theorem x_vret (hd : decode K.cc pc = .ok (.return_, 1)) (hret : K.ret = none) (hq : Q (.returned none) A) : X G d K Q A pc lv [] := by
  intro p e s m args below meth cd H ls locs hc hr hl hv
  exact W.post (fun t => xEnd.of) (W.vret hc.1 hc.2.1 (hc.2.2.2.2.2.1.trans hret) (fun t ht hW => ⟨A, by rw [ht]; exact hr, hq⟩) hl hd (hlocks := hc.2.2.2.2.2.2.1))
theorem x_aret {r : Option Nat} {rt : FieldType} (hd : decode K.cc pc = .ok (.areturn, 1)) (hret : K.ret = some rt) (hrt : (∃ n, rt = .object n) ∨ ∃ t, rt = .array t) (hq : Q (.returned (some (va_rf r))) A) : X G d K Q A pc lv [va_rf r] := by
  intro p e s m args below meth cd H ls locs hc hr hl hv
  exact W.post (fun t => xEnd.of) (W.aret hc.1 hc.2.1 (hc.2.2.2.2.2.1.trans hret) hrt (by cases r with
    | none => exact Or.inl rfl
    | some a => exact Or.inr ⟨a, rfl⟩) (fun t ht hW => ⟨A, by rw [ht]; exact hr, hq⟩) hl hd (hlocks := hc.2.2.2.2.2.2.1))
/-- a thrown object leaves a method without handlers at this pc -/
theorem x_athrow {a : Nat} (hd : decode K.cc pc = .ok (.athrow, 1)) (hh : K.hh = []) (hq : Q (.threw a) A) : X G d K Q A pc lv (.ref a :: st) := by
  intro p e s m args below meth cd H ls locs hc hr hl hv
  intro T hT X
  have hex : ∀ x ∈ cd.exceptionTable.toList, covers x pc = false := by
    have h0 := hc.2.2.2.2.2.2.2.2.1
    rw [hh] at h0
    have : cd.exceptionTable.toList = [] := by simpa using h0
    rw [this]
    intro x hx
    cases hx
  obtain ⟨h1, h2, h3, h4, h5⟩ := X.athrowLeaves hc.1 (g := F0 m pc ls (.ref a :: st)) rfl rfl rfl hex rfl (by rw [hc.2.1]; exact hd) (hlocks := hc.2.2.2.2.2.2.1)
  exact ⟨_, h1, .threw a, h2, h3, ⟨A, by show xRel G A T.heap; rw [hT]; exact hr, hq⟩, h4, locs, h5, hl⟩
/-- the post may be weakened -/
theorem X.post {Q' : Outcome → xA → Prop} (h : ∀ o A, Q o A → Q' o A) (k : X G d K Q A pc lv st) : X G d K Q' A pc lv st := by
  intro p e s m args below meth cd H ls locs hc hr hl hv
  refine W.post (fun t ht => ?_) (k p e s m args below meth cd H ls locs hc hr hl hv)
  obtain ⟨o, h1, h2, ⟨A', h3, h4⟩, h5⟩ := ht
  exact ⟨o, h1, h2, ⟨A', h3, h o A' h4⟩, h5⟩
end XH
