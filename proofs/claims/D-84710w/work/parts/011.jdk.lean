/-! ===== THE BRIDGE: static fields, class objects, arraycopy of references ===== -/
set_option maxRecDepth 100000
/-- the references of a world replaced -/
def xA.wP (A : xA) (f : Nat → Nat → Option Nat) : xA := (A.n, A.u, A.tg, A.ln, A.I, A.L, f, A.gh)
def xA.wI (A : xA) (f : Nat → Nat → Int32) : xA := (A.n, A.u, A.tg, A.ln, f, A.L, A.P, A.gh)
def xA.wL (A : xA) (f : Nat → Nat → Int64) : xA := (A.n, A.u, A.tg, A.ln, A.I, f, A.P, A.gh)
/-- an object that any array of references may hold -/
def xEl (A : xA) (y : Nat) : Prop := ∃ (c : Nat) (r : vw_C), A.tg y = c + 1 ∧ xcl[c]? = some r ∧ Cond.castable r.1 "java/lang/Object" ∈ lw_tbl
/-- what a static field holds at the start, for good -/
def xSt (G : xG) (C n d : String) (v : Value) : Prop := va_Z C n d v (fun q => G.N ≤ q) G.z G.z.heap
section XJ
variable {G : xG} {d : Nat} {K : xK} {Q : Outcome → xA → Prop} {A : xA} {pc : Nat} {lv : List (Option Value)} {st : List Value}
theorem x_gets (hG : xOK G) {C n ds ref : String} {v : Value} {idx : Nat} (hZ : xSt G C n ds v) (hlk : Cond.fieldLink K.y.cls idx ref n ds ∈ lw_all ∨ ∃ host, Cond.fieldLinkNest K.y.cls idx ref n ds host ∈ lw_tbl) (hsame : ref = C ∨ Cond.sameField ref C n ds ∈ lw_all) (hd : decode K.cc pc = .ok (.getstatic idx, 3)) (kk : X G d K Q A (pc + 3) lv (v :: st)) : X G d K Q A pc lv st := by
  intro p e s m args below meth cd H ls locs hc hr hl hv
  have k0 := kk p e s m args below meth cd H ls locs hc hr hl hv
  have hW := hc.2.2.2.2.1
  obtain ⟨cf, kf, fi, f, a, cell, h1, h2, h3, h4, h5, h6, h7, h8⟩ := va_Z.moved hW.alike hZ
  have hcell : H[a]? = some cell := by rw [hr.2.2.1 a (Nat.lt_of_not_le h8)]; exact h5
  have hkn : cell.vm ≠ .unknown := fun e => by rw [e] at h6; cases h6
  rcases hlk with h | ⟨host, h⟩
  · exact W.gets hc.1 hc.2.1 hc.2.2.2.1 (xw hG hW h) (xsame hG hW hsame _ h1) h2 h3 h4 hcell hkn h7 rfl hd k0
  · exact va_WgetsN hc.1 hc.2.1 hc.2.2.2.1 (va_Nw.use rfl (va_Nw.warmF hW (va_Nw.of rfl (hG.1 _ h)))) (xsame hG hW hsame _ h1) h2 h3 h4 hcell hkn h7 rfl hd k0
theorem x_ldcM (hG : xOK G) {C : String} {idx mi : Nat} (hlk : Cond.classLink K.y.cls idx C ∈ lw_all) (hM : va_Mi C mi G.z) (hd : decode K.cc pc = .ok (.ldc idx, 2)) (kk : X G d K Q A (pc + 2) lv (.ref mi :: st)) : X G d K Q A pc lv st := by
  intro p e s m args below meth cd H ls locs hc hr hl hv
  have hW := hc.2.2.2.2.1
  exact va_ldcM hc.1 hc.2.1 hc.2.2.2.1 (xw hG hW hlk) (va_Mi.moved hW.alike hM) hd (kk p e s m args below meth cd H ls locs hc hr hl hv)
/-- getClass of an array of references to Object -/
theorem x_getC (hG : xOK G) {a idx mi : Nat} (ht : A.tg a = 204) (hex : G.N ≤ a ∨ va_O "[Ljava/lang/Object;" a (fun q => G.N ≤ q) G.z G.z.heap) (hlk : Cond.methodLink K.y.cls idx ⟨"java/lang/Object", "getClass", "()Ljava/lang/Class;"⟩ ∈ lw_all) (hdec : Cond.declares ⟨"java/lang/Object", "getClass", "()Ljava/lang/Class;"⟩ ∈ lw_tbl)
    (hsel : Cond.selects "[Ljava/lang/Object;" ⟨"java/lang/Object", "getClass", "()Ljava/lang/Class;"⟩ ⟨"java/lang/Object", "getClass", "()Ljava/lang/Class;"⟩ ∈ lw_all) (hinst : Cond.instanceMethod ⟨"java/lang/Object", "getClass", "()Ljava/lang/Class;"⟩ ∈ lw_all) (hnat : Cond.native ⟨"java/lang/Object", "getClass", "()Ljava/lang/Class;"⟩ ∈ lw_all) (hM : va_Mi "[Ljava/lang/Object;" mi G.z)
    (hst : (st.map fun v => v.category).sum + 14 ≤ 41) (hd : decode K.cc pc = .ok (.invokevirtual idx, 3)) (kk : X G (d + 1) K Q A (pc + 3) lv (.ref mi :: st)) : X G (d + 1) K Q A pc lv (.ref a :: st) := by
  intro p e s m args below meth cd H ls locs hc hr hl hv
  have hW := hc.2.2.2.2.1
  have k0 := kk p e s m args below meth cd H ls locs hc hr hl hv
  have hex2 : ∃ cell : Cell, H[a]? = some cell ∧ cell.vm.isStatics = false ∧ s.vm.findClass "[Ljava/lang/Object;" = some cell.cls := by
    rcases hex with hN | hO
    · obtain ⟨h7, hcell⟩ := xarr (j := 4) hr hN ht
      have hRA := ((xKn hG hW).2 4 _ (xtys_at (dA := G.dA) h7)).2
      have hfc : s.vm.findClass "[Ljava/lang/Object;" = some (G.dA 4) := va_nmO (C := "java/lang/Object") hRA (by decide)
      exact ⟨_, hcell, rfl, hfc⟩
    · obtain ⟨cell, h1, h2, h3, h4⟩ := va_O.moved hW.alike hO
      exact ⟨cell, by rw [hr.2.2.1 a (Nat.lt_of_not_le h4)]; exact h1, h2, h3⟩
  exact va_getC (C := "[Ljava/lang/Object;") hc.1 hc.2.1 (by rw [hc.2.2.1]; exact hv.1.symm) hc.2.2.2.1 (xw hG hW hlk) (va_Nw.use rfl (va_Nw.warmD hW (va_Nw.of rfl (hG.1 _ hdec)))) (xw hG hW hsel) (xw hG hW hinst) (xw hG hW hnat) (va_Mi.moved hW.alike hM) hex2 (by show 1 ≤ d + 1; omega) (by show _ ≤ 41 * (d + 1) + 32; omega) hd k0
theorem xany (hG : xOK G) {s : State} (hW : G.z.WarmedH s.vm) {H : Heap} (hr : xRel G A H) {y : Nat} (h : xEl A y) : va_Any "java/lang/Object" s H y := by
  obtain ⟨c, r, ht, hcl, hca⟩ := h
  obtain ⟨cell, g1, g2, g3⟩ := xrecv hG hr hW ht hcl
  obtain ⟨kC, hkC, -⟩ := Vm.findClass_spec g3
  have g2' : cell.vm.isStatics = false := by
    cases hv : cell.vm with
    | statics z => exact absurd hv (g2 z)
    | _ => rfl
  refine ⟨cell, g1, g2', ⟨kC, hkC⟩, fun comp hcomp => ?_⟩
  obtain ⟨c0, t0, p1, p2, p3⟩ := Cond.castable_spec (va_Nw.use (A := #[]) rfl (va_Nw.warmC hW (va_Nw.of rfl (hG.1 _ hca))))
  cases g3.symm.trans p1
  cases hcomp.symm.trans p2
  exact p3
/-- System.arraycopy between two different arrays of references to Object -/
theorem x_copy (hG : xOK G) {a a0 idx : Nat} {sp dp n : Int32} (ht0 : A.tg a0 = 204) (ht : A.tg a = 204) (hN : G.N ≤ a) (hlk : Cond.methodLink K.y.cls idx arraycopyName ∈ lw_all) (hnat : Cond.native arraycopyName ∈ lw_all) (hstat : Cond.static arraycopyName ∈ lw_all) (hini : Cond.initialized "java/lang/System" ∈ lw_all)
    (h1 : ¬ sp < 0) (h2 : ¬ dp < 0) (h3 : ¬ n < 0) (h4 : sp.toNatClampNeg + n.toNatClampNeg ≤ A.ln a0) (h5 : dp.toNatClampNeg + n.toNatClampNeg ≤ A.ln a) (hel : ∀ i : Nat, i < n.toNatClampNeg → ∀ y : Nat, A.P a0 (sp.toNatClampNeg + i) = some y → xEl A y)
    (hst : (st.map fun v => v.category).sum + 18 ≤ 41) (hd : decode K.cc pc = .ok (.invokestatic idx, 3)) (kk : X G (d + 1) K Q (A.wP (xu1 A.P a (va_cpy (A.P a0) (A.P a) sp.toNatClampNeg dp.toNatClampNeg n.toNatClampNeg))) (pc + 3) lv st) : X G (d + 1) K Q A pc lv (.int n :: .int dp :: .ref a :: .int sp :: .ref a0 :: st) := by
  intro p e s m args below meth cd H ls locs hc hr hl hv
  have hW := hc.2.2.2.2.1
  have hK := xKn hG hW
  obtain ⟨h7, hc1⟩ := xarr (j := 4) hr hN ht
  obtain ⟨-, cs, c1, c2, c3, c4, c5, c6⟩ := xarrR (j := 4) hG hW hr ht0
  have nn : ∀ z : Int32, ¬ z < 0 → z.toInt = (z.toNatClampNeg : Int) := by
    intro z hz
    have hz0 : (0 : Int) ≤ z.toInt := by
      have := Int32.not_lt.mp hz
      simpa using Int32.le_iff_toInt_le.mp this
    show z.toInt = ((z.toInt.toNat : Nat) : Int)
    omega
  intro T hT X
  have ht4 : (xtys G.dA)[4]? = some (G.dA 4, .object "java/lang/Object") := rfl
  obtain ⟨hs0, k0, hk0, cm0, hkk0⟩ := c2
  obtain ⟨-, k1, hk1, cm1, hkk1⟩ := (hK.2 4 _ ht4).1 (A.ln a) (fun j => va_rf (A.P a j))
  have hc1' : H[a]? = some (arrV (G.dA 4) (A.ln a) (fun j => va_rf (A.P a j))) := hc1
  obtain ⟨vm', X', step⟩ := X.arraycopy hc.1 hc.2.2.2.1 (xw hG hW hlk) (xw hG hW hnat) (xw hG hW hstat) (xw hG hW hini) (src := a0) (dst := a) (cs := cs) (cd := arrV (G.dA 4) (A.ln a) (fun j => va_rf (A.P a j))) (srcPos := sp) (destPos := dp) (n := n) (by rw [hT]; exact c1) (by rw [hT]; exact hc1')
    hs0 (fun _ h => by cases h) c3 (fun h => by cases h) hk0 hk1 hkk0 hkk1 rfl h1 h2 h3
    (by rw [nn sp h1, nn n h3]; omega)
    (by rw [nn dp h2, nn n h3, arrV_size]; omega)
    (fun vm₁ hal i hi => by
      have e : cs.slots.getD (sp.toNatClampNeg + i) .null = va_rf (A.P a0 (sp.toNatClampNeg + i)) := by
        rw [Array.getD_eq_getD_getElem?, c6 _ (by omega)]
        rfl
      rw [e]
      cases hy : A.P a0 (sp.toNatClampNeg + i) with
      | none => exact ⟨rfl, trivial⟩
      | some y =>
        obtain ⟨cellV, g1, g2, ⟨kC, hkC⟩, hasg⟩ := xany hG hW hr (hel i hi y hy)
        obtain ⟨kA, comp, r1, r2, r3, -⟩ := (hK.2 4 _ ht4).2
        cases hk1.symm.trans r1
        cases hkk1.symm.trans r2
        obtain ⟨kE, hkE, -⟩ := Vm.findClass_spec r3
        obtain ⟨kC', hkC', -⟩ := hal.2.2 _ _ hkC
        obtain ⟨kE', hkE', -⟩ := hal.2.2 _ _ hkE
        refine ⟨rfl, cellV, (show T.heap[y]? = some cellV by rw [hT]; exact g1), (fun q h => by rw [h] at g2; cases g2), ⟨kC', hkC'⟩, ?_, ?_⟩
        · exact ⟨kE', hkE'⟩
        · show vm₁.assignable _ _ = true
          rw [hal.assignable]
          exact hasg _ r3)
    (g := F0 m pc ls (.int n :: .int dp :: .ref a :: .int sp :: .ref a0 :: st)) rfl (by rw [hc.2.2.1]; exact hv.1) (rest := st) rfl (by rw [hc.2.1]; exact hd) (by show 1 ≤ d + 1; omega) (by show 2 * 0 + _ + _ ≤ 41 * (d + 1) + 32; have hw : nativeFrameWords "java/lang/System" "arraycopy" 5 = 7 := (by decide); rw [hw]; omega)
  have est : cs.stretch sp.toNatClampNeg n.toNatClampNeg = (arrV (G.dA 4) (A.ln a0) (fun j => va_rf (A.P a0 j))).stretch sp.toNatClampNeg n.toNatClampNeg := by
    unfold Cell.stretch
    apply List.map_congr_left
    intro i hi
    have hi' := List.mem_range.mp hi
    rw [Array.getD_eq_getD_getElem?, Array.getD_eq_getD_getElem?, c6 _ (by omega), arrV_read _ _ (by omega)]
    rfl
  have e1 : copied cs (arrV (G.dA 4) (A.ln a) (fun j => va_rf (A.P a j))) sp dp n = arrV (G.dA 4) (A.ln a) (fun j => va_rf (va_cpy (A.P a0) (A.P a) sp.toNatClampNeg dp.toNatClampNeg n.toNatClampNeg j)) := by
    show (arrV (G.dA 4) (A.ln a) (fun j => va_rf (A.P a j))).storeRun dp.toNatClampNeg (cs.stretch sp.toNatClampNeg n.toNatClampNeg) = _
    rw [est]
    exact va_copied (fun z => va_rf z) (G.dA 4) (G.dA 4) (A.P a0) (A.P a) h4
  rw [e1] at X' step
  have hlt : a < H.size := (Array.getElem?_eq_some_iff.mp hc1').1
  have hr2 : xRel G (A.wP (xu1 A.P a (va_cpy (A.P a0) (A.P a) sp.toNatClampNeg dp.toNatClampNeg n.toNatClampNeg))) (H.setIfInBounds a (arrV (G.dA 4) (A.ln a) (fun j => va_rf (va_cpy (A.P a0) (A.P a) sp.toNatClampNeg dp.toNatClampNeg n.toNatClampNeg j)))) := by
    obtain ⟨q1, q2, q3, q4, q5, q6, q7⟩ := hr
    have oq : ∀ q : Nat, q ≠ a → (H.setIfInBounds a (arrV (G.dA 4) (A.ln a) (fun j => va_rf (va_cpy (A.P a0) (A.P a) sp.toNatClampNeg dp.toNatClampNeg n.toNatClampNeg j))))[q]? = H[q]? := fun q hq => by simp [Array.getElem?_setIfInBounds, Ne.symm hq]
    have os : (H.setIfInBounds a (arrV (G.dA 4) (A.ln a) (fun j => va_rf (va_cpy (A.P a0) (A.P a) sp.toNatClampNeg dp.toNatClampNeg n.toNatClampNeg j))))[a]? = some (arrV (G.dA 4) (A.ln a) (fun j => va_rf (va_cpy (A.P a0) (A.P a) sp.toNatClampNeg dp.toNatClampNeg n.toNatClampNeg j))) := by simp [Array.getElem?_setIfInBounds, hlt]
    refine ⟨by simp; exact q1, ?_, fun q hq => by rw [oq q (by omega)]; exact q3 q hq, fun b c' hbN hb hc' => ?_, fun b j hbN hb => ?_, fun b hb => ?_, q7⟩
    · rw [hU_same (H := H)]
      · exact q2
      · intro q
        by_cases hq : q = a
        · rw [hq, os, hc1']
          simp [arrV_size]
        · rw [oq q hq]
    · have hba : b ≠ a := by
        intro q
        rw [q] at hb
        have hb' : A.tg a = c' + 1 := hb
        omega
      obtain ⟨r', hr', cell', g1, g2⟩ := q4 b c' hbN hb hc'
      refine ⟨r', hr', cell', by rw [oq b hba]; exact g1, ?_⟩
      show _ ∧ _ ∧ ∀ k, k < r'.2.2 → cell'.slots[G.D.2 c' k]? = some (xval (xct c' k) (A.I b k) (A.L b k) (xu1 A.P a _ b k))
      rw [xu1_n hba]
      exact g2
    · have hb' : A.tg b = 200 + j := hb
      by_cases hba : b = a
      · subst hba
        have : j = 4 := by omega
        subst this
        refine ⟨h7, ?_⟩
        rw [os]
        show _ = some (arrV (G.dA 4) (A.ln b) (fun k => xval (xty 4) (A.I b k) (A.L b k) (xu1 A.P b _ b k)))
        rw [xu1_s]
        rfl
      · rw [oq b hba]
        show _ ∧ _ = some (arrV (G.dA j) (A.ln b) (fun k => xval (xty j) (A.I b k) (A.L b k) (xu1 A.P a _ b k)))
        rw [xu1_n hba]
        exact q5 b j hbN hb'
    · have hba : b ≠ a := by omega
      obtain ⟨g1, g2, g3, g4, g5, g6⟩ := q6 b hb
      exact ⟨g1, g2, g3, g4, g5, (xu1_n hba).trans g6⟩
  obtain ⟨t, t1, t2⟩ := kk p e s m args below meth cd _ ls _ hc hr2 (fun q hq => by
    rcases List.mem_append.mp hq with h | h
    · exact hl q h
    · obtain ⟨z, -, hz⟩ := List.mem_map.mp h
      rw [← hz]
      exact hN) hv ((T.setVm vm').setCell a _) (by rw [← hT]; rfl) X'
  exact ⟨t, step t t1, t2⟩
end XJ
