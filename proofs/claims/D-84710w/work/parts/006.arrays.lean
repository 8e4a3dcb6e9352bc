/-! ===== THE BRIDGE: arrays, new cells, constants, returns ===== -/
set_option maxRecDepth 100000
section XH
variable {G : xG} {d : Nat} {K : xK} {Q : Outcome → xA → Prop} {A : xA} {pc : Nat} {lv : List (Option Value)} {st : List Value}
/-- the cell of an array -/
theorem xarr {H : Heap} (hr : xRel G A H) {a j : Nat} (hN : G.N ≤ a) (ht : A.tg a = 200 + j) : j < 7 ∧ H[a]? = some (arrV (G.dA j) (A.ln a) (fun k => xval (xty j) (A.I a k) (A.L a k) (A.P a k))) := hr.2.2.2.2.1 a j hN ht
theorem xarrOf (hG : xOK G) {s : State} (hW : G.z.WarmedH s.vm) {j : Nat} (hj : j < 7) (n : Nat) (f : Nat → Value) : s.isArrayOf (arrV (G.dA j) n f) (xty j) := ((xKn hG hW).2 j _ (xtys_at hj)).1 n f
theorem xin {i : Int32} {n : Nat} {cA : ClassId} {f : Nat → Value} (h : vp_in i n) : ¬ (i < 0 ∨ (arrV cA n f).slots.size ≤ i.toNatClampNeg) := by
  rw [arrV_size]; exact h
theorem xin_lt {i : Int32} {n : Nat} (h : vp_in i n) : i.toNatClampNeg < n := Nat.not_le.mp fun q => h (Or.inr q)
theorem xinR {i : Int32} {n m : Nat} (h : vp_in i n) (hm : n ≤ m) : ¬ (i < 0 ∨ m ≤ i.toNatClampNeg) := fun q => h (q.elim Or.inl fun z => Or.inr (Nat.le_trans hm z))
theorem x_iald (hG : xOK G) {a : Nat} {i : Int32} (hd : decode K.cc pc = .ok (.iaload, 1)) (ht : A.tg a = 200) (hi : vp_in i (A.ln a)) (kk : X G d K Q A (pc + 1) lv (.int (A.I a i.toNatClampNeg) :: st)) : X G d K Q A pc lv (.int i :: .ref a :: st) := by
  intro p e s m args below meth cd H ls locs hc hr hl hv
  have k0 := kk p e s m args below meth cd H ls locs hc hr hl hv
  obtain ⟨h7, cell, c1, c2, c3, c4, c5, c6⟩ := xarrR (j := 0) hG hc.2.2.2.2.1 hr ht
  exact W.iald hc.1 hc.2.1 c1 c2 c3 (xinR hi c4) (c6 _ (xin_lt hi)) rfl rfl hd k0
theorem x_lald (hG : xOK G) {a : Nat} {i : Int32} (hd : decode K.cc pc = .ok (.laload, 1)) (ht : A.tg a = 201) (hi : vp_in i (A.ln a)) (kk : X G d K Q A (pc + 1) lv (.long (A.L a i.toNatClampNeg) :: st)) : X G d K Q A pc lv (.int i :: .ref a :: st) := by
  intro p e s m args below meth cd H ls locs hc hr hl hv
  have k0 := kk p e s m args below meth cd H ls locs hc hr hl hv
  obtain ⟨h7, cell, c1, c2, c3, c4, c5, c6⟩ := xarrR (j := 1) hG hc.2.2.2.2.1 hr ht
  exact W.lald hc.1 hc.2.1 c1 c2 c3 (xinR hi c4) (c6 _ (xin_lt hi)) rfl rfl hd k0
theorem x_bald (hG : xOK G) {a : Nat} {i : Int32} (hd : decode K.cc pc = .ok (.baload, 1)) (ht : A.tg a = 202) (hi : vp_in i (A.ln a)) (kk : X G d K Q A (pc + 1) lv (.int (A.I a i.toNatClampNeg) :: st)) : X G d K Q A pc lv (.int i :: .ref a :: st) := by
  intro p e s m args below meth cd H ls locs hc hr hl hv
  have k0 := kk p e s m args below meth cd H ls locs hc hr hl hv
  obtain ⟨h7, cell, c1, c2, c3, c4, c5, c6⟩ := xarrR (j := 2) hG hc.2.2.2.2.1 hr ht
  exact W.bald hc.1 hc.2.1 c1 c2 c3 (xinR hi c4) (c6 _ (xin_lt hi)) rfl rfl hd k0
theorem x_zald (hG : xOK G) {a : Nat} {i : Int32} (hd : decode K.cc pc = .ok (.baload, 1)) (ht : A.tg a = 203) (hi : vp_in i (A.ln a)) (kk : X G d K Q A (pc + 1) lv (.int (A.I a i.toNatClampNeg) :: st)) : X G d K Q A pc lv (.int i :: .ref a :: st) := by
  intro p e s m args below meth cd H ls locs hc hr hl hv
  have k0 := kk p e s m args below meth cd H ls locs hc hr hl hv
  obtain ⟨h7, cell, c1, c2, c3, c4, c5, c6⟩ := xarrR (j := 3) hG hc.2.2.2.2.1 hr ht
  exact W.zald hc.1 hc.2.1 c1 c2 c3 (xinR hi c4) (c6 _ (xin_lt hi)) rfl rfl hd k0
theorem x_aald (hG : xOK G) {a j : Nat} {i : Int32} {C : String} (hd : decode K.cc pc = .ok (.aaload, 1)) (ht : A.tg a = 200 + j) (hj : xty j = .object C) (hi : vp_in i (A.ln a)) (kk : X G d K Q A (pc + 1) lv (va_rf (A.P a i.toNatClampNeg) :: st)) : X G d K Q A pc lv (.int i :: .ref a :: st) := by
  intro p e s m args below meth cd H ls locs hc hr hl hv
  have k0 := kk p e s m args below meth cd H ls locs hc hr hl hv
  obtain ⟨h7, cell, c1, c2, c3, c4, c5, c6⟩ := xarrR hG hc.2.2.2.2.1 hr ht
  refine W.aald hc.1 hc.2.1 c1 c2 (by rw [hj]; rfl) c3 (xinR hi c4) (c6 _ (xin_lt hi)) rfl rfl hd ?_
  rw [hj]
  exact k0
theorem x_alen (hG : xOK G) {a j : Nat} (hd : decode K.cc pc = .ok (.arraylength, 1)) (ht : A.tg a = 200 + j) (kk : X G d K Q A (pc + 1) lv (.int (nI (A.ln a)) :: st)) : X G d K Q A pc lv (.ref a :: st) := by
  intro p e s m args below meth cd H ls locs hc hr hl hv
  have k0 := kk p e s m args below meth cd H ls locs hc hr hl hv
  obtain ⟨h7, cell, c1, c2, c3, c4, c5, c6⟩ := xarrR hG hc.2.2.2.2.1 hr ht
  exact W.alen hc.1 hc.2.1 c1 c2 c5 rfl rfl hd k0
theorem xlocs {locs : List Loc} {a i : Nat} (hl : ∀ q ∈ locs, G.N ≤ q.base) (hN : G.N ≤ a) : ∀ q ∈ locs ++ [(⟨a, i⟩ : Loc)], G.N ≤ q.base := by
  intro q hq
  rcases List.mem_append.mp hq with h | h
  · exact hl q h
  · rw [List.mem_singleton.mp h]
    exact hN
theorem x_iast (hG : xOK G) {a : Nat} {i x : Int32} (hd : decode K.cc pc = .ok (.iastore, 1)) (ht : A.tg a = 200) (hN : G.N ≤ a) (hi : vp_in i (A.ln a)) (kk : X G d K Q (A.setI a i.toNatClampNeg x) (pc + 1) lv st) : X G d K Q A pc lv (.int x :: .int i :: .ref a :: st) := by
  intro p e s m args below meth cd H ls locs hc hr hl hv
  obtain ⟨h7, hcell⟩ := xarr (j := 0) hr hN ht
  refine W.iast hc.1 hc.2.1 hcell (xarrOf hG hc.2.2.2.2.1 h7 _ _) (fun q => by cases q) (xin hi) rfl rfl hd fun H' e1 e2 e3 => ?_
  exact kk p e s m args below meth cd H' ls _ hc (hr.arr (j := 0) (v := .int x) hN ht e2 e1 e3 ⟨x, rfl⟩) (xlocs hl hN) hv
theorem x_last (hG : xOK G) {a : Nat} {i : Int32} {x : Int64} (hd : decode K.cc pc = .ok (.lastore, 1)) (ht : A.tg a = 201) (hN : G.N ≤ a) (hi : vp_in i (A.ln a)) (kk : X G d K Q (A.setL a i.toNatClampNeg x) (pc + 1) lv st) : X G d K Q A pc lv (.long x :: .int i :: .ref a :: st) := by
  intro p e s m args below meth cd H ls locs hc hr hl hv
  obtain ⟨h7, hcell⟩ := xarr (j := 1) hr hN ht
  refine W.last hc.1 hc.2.1 hcell (xarrOf hG hc.2.2.2.2.1 h7 _ _) (fun q => by cases q) (xin hi) rfl rfl hd fun H' e1 e2 e3 => ?_
  exact kk p e s m args below meth cd H' ls _ hc (hr.arr (j := 1) (v := .long x) hN ht e2 e1 e3 ⟨x, rfl⟩) (xlocs hl hN) hv
theorem x_bast (hG : xOK G) {a : Nat} {i x : Int32} (hd : decode K.cc pc = .ok (.bastore, 1)) (ht : A.tg a = 202) (hN : G.N ≤ a) (hi : vp_in i (A.ln a)) (kk : X G d K Q (A.setI a i.toNatClampNeg x.toInt8.toInt32) (pc + 1) lv st) : X G d K Q A pc lv (.int x :: .int i :: .ref a :: st) := by
  intro p e s m args below meth cd H ls locs hc hr hl hv
  obtain ⟨h7, hcell⟩ := xarr (j := 2) hr hN ht
  refine W.bast hc.1 hc.2.1 hcell (xarrOf hG hc.2.2.2.2.1 h7 _ _) (fun q => by cases q) (xin hi) rfl rfl hd fun H' e1 e2 e3 => ?_
  exact kk p e s m args below meth cd H' ls _ hc (hr.arr (j := 2) (v := .int x.toInt8.toInt32) hN ht e2 e1 e3 ⟨_, rfl⟩) (xlocs hl hN) hv
theorem x_zast (hG : xOK G) {a : Nat} {i x : Int32} (hd : decode K.cc pc = .ok (.bastore, 1)) (ht : A.tg a = 203) (hN : G.N ≤ a) (hi : vp_in i (A.ln a)) (hx : x = 0 ∨ x = 1) (kk : X G d K Q (A.setI a i.toNatClampNeg x) (pc + 1) lv st) : X G d K Q A pc lv (.int x :: .int i :: .ref a :: st) := by
  intro p e s m args below meth cd H ls locs hc hr hl hv
  obtain ⟨h7, hcell⟩ := xarr (j := 3) hr hN ht
  refine W.zast hc.1 hc.2.1 hcell (xarrOf hG hc.2.2.2.2.1 h7 _ _) (fun q => by cases q) (xin hi) rfl rfl hd fun H' e1 e2 e3 => ?_
  have en : narrow .boolean (.int x) = .int x := by rcases hx with rfl | rfl <;> rfl
  rw [en] at e1
  exact kk p e s m args below meth cd H' ls _ hc (hr.arr (j := 3) (v := .int x) hN ht e2 e1 e3 ⟨_, rfl⟩) (xlocs hl hN) hv
theorem x_aastN (hG : xOK G) {a j : Nat} {i : Int32} {C : String} (hd : decode K.cc pc = .ok (.aastore, 1)) (ht : A.tg a = 200 + j) (hj : xty j = .object C) (hN : G.N ≤ a) (hi : vp_in i (A.ln a)) (kk : X G d K Q (A.setP a i.toNatClampNeg none) (pc + 1) lv st) : X G d K Q A pc lv (.null :: .int i :: .ref a :: st) := by
  intro p e s m args below meth cd H ls locs hc hr hl hv
  obtain ⟨h7, hcell⟩ := xarr hr hN ht
  have hA := xarrOf hG hc.2.2.2.2.1 h7 (A.ln a) (fun k => xval (xty j) (A.I a k) (A.L a k) (A.P a k))
  refine va_WaastN (C := C) hc.1 hc.2.1 hcell (by rw [← hj]; exact hA) (fun q => by cases q) (xin hi) rfl rfl hd fun H' e1 e2 e3 => ?_
  exact kk p e s m args below meth cd H' ls _ hc (hr.arr (v := .null) hN ht e2 e1 e3 (by rw [hj]; exact Or.inl rfl)) (xlocs hl hN) hv
/-- a reference v to an object of class c goes into an array of references to E: c can be cast to E -/
theorem x_aast (hG : xOK G) {a j v c : Nat} {i : Int32} {r : vw_C} {E : String} (hd : decode K.cc pc = .ok (.aastore, 1)) (ht : A.tg a = 200 + j) (hj : xty j = .object E) (hN : G.N ≤ a) (hi : vp_in i (A.ln a)) (htv : A.tg v = c + 1) (hcl : xcl[c]? = some r) (hca : r.1 = E ∨ Cond.castable r.1 E ∈ lw_tbl) (kk : X G d K Q (A.setP a i.toNatClampNeg (some v)) (pc + 1) lv st) : X G d K Q A pc lv (.ref v :: .int i :: .ref a :: st) := by
  intro p e s m args below meth cd H ls locs hc hr hl hv
  have hW := hc.2.2.2.2.1
  obtain ⟨h7, hcell⟩ := xarr hr hN ht
  obtain ⟨hc1, -⟩ := xclass_ok c r hcl
  obtain ⟨r', cellV, hr', g1, g2, -, g3, -⟩ := xobR hG hr htv hc1
  cases hcl.symm.trans hr'
  have hcls := ((xKn hG hW).1 c r hcl).2
  have hRA := ((xKn hG hW).2 j _ (xtys_at h7)).2
  rw [hj] at hRA
  obtain ⟨kA, comp, f1, f2, f3, f4⟩ := hRA
  obtain ⟨kcomp, hkcomp, -⟩ := Vm.findClass_spec f3
  obtain ⟨hfc, kC, hkC, hkind⟩ := hcls
  have hasg : s.vm.assignable cellV.cls comp = true := by
    rw [g2]
    rcases hca with h | h
    · have : comp = G.D.1 c := Option.some.inj (f3.symm.trans (h ▸ hfc))
      rw [this]
      exact va_assign ⟨hfc, kC, hkC, hkind⟩
    · obtain ⟨c0, t0, p1, p2, p3⟩ := Cond.castable_spec (va_Nw.use (A := args) rfl (va_Nw.warmC hW (va_Nw.of rfl (hG.1 _ h))))
      cases hfc.symm.trans p1
      cases f3.symm.trans p2
      exact p3
  refine W.aast hc.1 hc.2.1 hcell (fun q h => by cases h) (fun q => by cases q) f1 f2 rfl hkcomp ⟨fun q => hi (Or.inl q), by rw [arrV_size]; exact xin_lt hi⟩ g1 g3 (by rw [g2]; exact hkC) hasg rfl rfl hd fun H' e1 e2 e3 => ?_
  exact kk p e s m args below meth cd H' ls _ hc (hr.arr (v := .ref v) hN ht e2 e1 e3 (by rw [hj]; exact Or.inr ⟨_, rfl⟩)) (xlocs hl hN) hv
/-- new cells: the walk stands within its room -/
theorem xroom {p : Program} {e : Env} {s : State} {m : MethodId} {args : Array Value} {below : List Frame} {meth : Method} {c : Code} {H : Heap} {locs : List Loc} {P : State → Prop} {g : JFrame}
    (k : ∀ k n, H.size = s.heap.size + k → hU H = hU s.heap + n → W p G.l e (xR G d s.heap) s m args below meth c H locs k n P g) : W p G.l e (xR G d s.heap) s m args below meth c H locs (xR G d s.heap).cells (xR G d s.heap).slots P g := by
  intro T hT X
  obtain ⟨o1, o2, o3, o4⟩ := stand_old X
  rw [hT] at o1 o2 o3 o4
  exact k (H.size - s.heap.size) (hU H - hU s.heap) (by omega) (by omega) T hT (stand_tight X (by rw [hT]; omega) (by rw [hT]; omega))
theorem xRel.new {H H' : Heap} (hr : xRel G A H) (hN : G.N ≤ H.size) {t w n g : Nat} {cell : Cell} (e1 : H'[H.size]? = some cell) (e2 : H'.size = H.size + 1) (e3 : ∀ q, q < H.size → H'[q]? = H[q]?) (hw : cell.slots.size = w)
    (ho : ∀ c, t = c + 1 → c < 100 → ∃ r : vw_C, xcl[c]? = some r ∧ t_OB H.size (G.D.1 c) r.2.2 (G.D.2 c) H' (fun k => xval (xct c k) 0 0 none)) (hA : ∀ j, t = 200 + j → j < 7 ∧ cell = arrV (G.dA j) n (fun _ => xval (xty j) 0 0 none)) : xRel G (A.new t n w g) H' := by
  obtain ⟨q1, q2, q3, q4, q5, q6, q7⟩ := hr
  have hlt : ∀ b c', G.N ≤ b → A.tg b = c' + 1 → c' < 100 → b < H.size := fun b c' h0 h1 h2 => by
    obtain ⟨_, _, cell', g1, -⟩ := q4 b c' h0 h1 h2
    exact (Array.getElem?_eq_some_iff.mp g1).1
  have hlt2 : ∀ b j, G.N ≤ b → A.tg b = 200 + j → b < H.size := fun b j h0 h1 => (Array.getElem?_eq_some_iff.mp (q5 b j h0 h1).2).1
  have eH : H' = H.push cell := by
    apply Array.ext_getElem?
    intro i
    rw [Array.getElem?_push]
    split
    · rename_i h; rw [h]; exact e1
    · rename_i h
      by_cases hi : i < H.size
      · exact e3 i hi
      · rw [Array.getElem?_eq_none (by omega), Array.getElem?_eq_none (by omega)]
  refine ⟨by rw [e2, q1]; rfl, by rw [eH, hU_push, q2, hw]; rfl, fun q hq => by rw [e3 q (by omega)]; exact q3 q hq, fun b c' hbN hb hc' => ?_, fun b j hbN hb => ?_, fun b hb => ?_, Nat.le_succ_of_le q7⟩
  · rw [xnew_tg] at hb
    by_cases hbn : b = A.n
    · rw [hbn, xu1_s] at hb
      obtain ⟨r, g1, g2⟩ := ho c' hb hc'
      refine ⟨r, g1, ?_⟩
      rw [hbn, xnew_I, xnew_L, xnew_P, xu1_s, xu1_s, xu1_s, ← q1]
      exact g2
    · rw [xu1_n hbn] at hb
      rw [xnew_I, xnew_L, xnew_P, xu1_n hbn, xu1_n hbn, xu1_n hbn]
      obtain ⟨r', hr', h⟩ := q4 b c' hbN hb hc'
      exact ⟨r', hr', h.kept (e3 b (hlt b c' hbN hb hc'))⟩
  · rw [xnew_tg] at hb
    by_cases hbn : b = A.n
    · rw [hbn, xu1_s] at hb
      obtain ⟨g1, g2⟩ := hA j hb
      refine ⟨g1, ?_⟩
      rw [hbn, xnew_I, xnew_L, xnew_P, xnew_ln, xu1_s, xu1_s, xu1_s, xu1_s, ← q1, e1, g2]
    · rw [xu1_n hbn] at hb
      rw [xnew_I, xnew_L, xnew_P, xnew_ln, xu1_n hbn, xu1_n hbn, xu1_n hbn, xu1_n hbn, e3 b (hlt2 b j hbN hb)]
      exact q5 b j hbN hb
  · have hbn : b ≠ A.n := by omega
    unfold xat
    rw [xnew_tg, xnew_ln, xnew_gh, xnew_I, xnew_L, xnew_P, xu1_n hbn, xu1_n hbn, xu1_n hbn, xu1_n hbn, xu1_n hbn, xu1_n hbn]
    exact q6 b hb
theorem xold {p : Program} {s : State} {m : MethodId} {meth : Method} {c : Code} (hc : xCtx G K p s m meth c) : G.N ≤ s.heap.size := hc.2.2.2.2.2.2.2.2.2.1
theorem xval0 (ty : FieldType) (h : ty ≠ .float ∧ ty ≠ .double) : defaultValue ty = xval ty 0 0 none := by
  cases ty <;> first | rfl | exact absurd rfl h.1 | exact absurd rfl h.2
theorem x_new (hG : xOK G) (g : Nat) {c idx : Nat} {r : vw_C} (hd : decode K.cc pc = .ok (.new idx, 3)) (hcl : xcl[c]? = some r) (hlk : Cond.classLink K.y.cls idx r.1 ∈ lw_all) (hfl : ∀ k, k < r.2.2 → xct c k ≠ .float ∧ xct c k ≠ .double) (hC : A.n + 1 ≤ G.N + 386503) (hS : A.u + r.2.2 ≤ hU G.z.heap + 7941971) (kk : X G d K Q (A.new (c + 1) 0 r.2.2 g) (pc + 3) lv (.ref A.n :: st)) : X G d K Q A pc lv st := by
  intro p e s m args below meth cd H ls locs hc hr hl hv
  have hW := hc.2.2.2.2.1
  obtain ⟨hc1, hin, hnm, hty, hq1, hq2⟩ := xclass_ok c r hcl
  have hKn := (xKn hG hW).1 c r hcl
  refine xroom fun k n hk hn => ?_
  have hN : G.N ≤ H.size := by have := xold hc; omega
  refine W.newcK hc.1 hc.2.1 hc.2.2.2.1 (xw hG hW hlk) (xw hG hW hq1) (xw hG hW hq2) rfl hd (by show _ ≤ G.N + 386503 - s.heap.size; have := hr.1; omega) (by show _ ≤ hU G.z.heap + 7941971 - hU s.heap; have := hr.2.1; omega) hKn.2.1 rfl fun H' kC hkC e1 e2 e3 => ?_
  have hb := u_born (xct c) (args := args) (fun w h => xw hG hW h) hin hKn hkC e1 hty
  have hsz : (blank (G.D.1 c) kC).slots.size = r.2.2 := by
    obtain ⟨cC, kC', i1, i2, i3, i4⟩ := Cond.instantiable_spec (xw (args := args) hG hW hq1)
    cases hKn.2.1.symm.trans i1
    cases hkC.symm.trans i2
    simp [blank]
    first | exact i4.2 | exact i4.2.1 | exact i4.2.2
  have hr2 : xRel G (A.new (c + 1) 0 r.2.2 g) H' := by
    refine hr.new hN e1 e2 e3 hsz (fun c' h h' => ?_) (fun j h => by omega)
    have : c' = c := by omega
    subst this
    refine ⟨r, hcl, ?_⟩
    obtain ⟨cell, g1, g2, g3, g4⟩ := hb
    exact ⟨cell, g1, g2, g3, fun k hk => by rw [g4 k hk]; exact congrArg some (xval0 _ (hfl k hk))⟩
  have := kk p e s m args below meth cd H' ls locs hc hr2 hl hv
  rw [← hr.1] at this
  exact W.widen (by show _ ≤ G.N + 386503 - s.heap.size; have := hr.1; omega) (by show _ ≤ hU G.z.heap + 7941971 - hU s.heap; have := hr.2.1; omega) this
end XH
