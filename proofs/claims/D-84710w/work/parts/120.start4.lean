/-! ===== the start: all that the walks lean on ===== -/
set_option maxRecDepth 100000
theorem zq_rf {C n d : String} {A : Nat → Prop} {U : State} {H : Heap} (h : va_Zq C n d A U H) : ∃ r, va_Z C n d (va_rf r) A U H := by
  rcases h with h | ⟨t, h⟩
  · exact ⟨none, h⟩
  · exact ⟨some t, h⟩
theorem sStr_x {s : State} {D : va_G} {q : String × Nat × Nat × List Int32} {a v : Nat} {l : Launch} {za : Array Value} {dA : Nat → ClassId} {cs : Nat → Nat} (h : sStr s q a v) (hl : q.2.2.2.length < 1000) : xSR (l, s, za, D, dA, sA s D, cs) q.1 q.2.1 a ∧ xStr (l, s, za, D, dA, sA s D, cs) a v q.2.2.2.length ∧ ∀ k, k < q.2.2.2.length → (sA s D).I v k = q.2.2.2.getD k 0 := by
  obtain ⟨h1, ⟨cell, o1, o2, o3, o4⟩, ⟨cf, k, i, f, c2, f1, f2, f3, f4, f5, -⟩, ⟨cf', k', i', f', c3, g1, g2, g3, g4, g5, -⟩, hT⟩ := h
  cases f3.symm.trans o1
  have ha : a < s.heap.size := (Array.getElem?_eq_some_iff.mp o1).1
  obtain ⟨t1, t2, t3, t4⟩ := sArr_of (j := 2) hT (Nat.lt_trans hl (by decide))
  have tg := tg_arr2 (D := D) t1
  refine ⟨h1, ⟨⟨ha, cell, o1, f4, fun k e => (by rw [e] at o2; cases o2), o3⟩, ⟨cf', i', k', f', c3, g1, g2, g3, g4, g5⟩, ⟨cf, i, k, f, cell, f1, f2, o1, f4, f5⟩, t2, tg, t3, hl⟩, fun k hk => ?_⟩
  rw [sA_I (by rw [tg]; decide)]
  exact t4 k hk
theorem start_ex (l : Launch) {b L : Nat} {xs : Nat → Int32} {s : State} (hL : L ≤ 384) (hts : ∀ w ∈ lw_tbl, w.before #[Value.ref b] s = true) (hX : va_X b L xs s s.heap) (hgv : (Jvm.Cond.and given_1 narrow_1).before #[Value.ref b] s = true) :
    ∃ G : xG, G.l = l ∧ G.z = s ∧ xOK G ∧ xHO G ∧ xRel G G.A0 s.heap ∧ b < G.N ∧ G.A0.tg b = 200 ∧ G.A0.ln b = L ∧ (∀ j, j < L → G.A0.I b j = xs j) ∧ G.A0.n = s.heap.size ∧ G.A0.u = hU s.heap := by
  have hs : ∀ c ∈ nF, c.before #[Value.ref b] s = true := flat_of_before _ hgv
  have hA : ∀ a : Nat, a < s.heap.size → ¬ (fun z => s.heap.size ≤ z) a := fun a h => Nat.not_le.mpr h
  obtain ⟨D, dA, hK⟩ := s_K hts
  have hcl : ∀ q ∈ strT, ∃ cur, s.vm.findClass q.1 = some cur := fun q hq => by
    rcases (strT_cls q hq).1 with e | e
    · exact ⟨_, by rw [e]; exact (hK.1 2 _ rfl).2.1⟩
    · exact ⟨_, by rw [e]; exact (hK.1 12 _ rfl).2.1⟩
  obtain ⟨sf, hsf⟩ := s_strs hts hs hcl
  -- statics
  obtain ⟨co, co1, co2⟩ := va_Tof (tm := .static "CompiledHouse" "COLOUR" "[I") (ty := .int) (N := 15) (f := fun j => .int (colourOf j)) (A := fun z => s.heap.size ≤ z) (by decide) (hs _ (by decide +kernel)) (va_eqt (hs _ (by decide +kernel))) (fun j hj => va_eqt (hs _ (col_flat.1 j hj))) hA
  obtain ⟨ac, ac1, ac2⟩ := va_Tof (tm := .static "CompiledHouse" "ACTS" "[I") (ty := .int) (N := 8) (f := fun j => .int (Int32.ofNat j)) (A := fun z => s.heap.size ≤ z) (by decide) (hs _ (by decide +kernel)) (va_eqt (hs _ (by decide +kernel))) (fun j hj => va_eqt (hs _ (col_flat.2 j hj))) hA
  obtain ⟨e0, e01, e02⟩ := va_Tof (tm := .static "java/util/ArrayList" "DEFAULTCAPACITY_EMPTY_ELEMENTDATA" "[Ljava/lang/Object;") (ty := .object "java/lang/Object") (N := 0) (f := fun _ => .null) (A := fun z => s.heap.size ≤ z) (by decide) (hs _ (by decide +kernel)) (va_eqt (hs _ (by decide +kernel))) (fun j hj => absurd hj (Nat.not_lt_zero _)) hA
  obtain ⟨e1, e11, e12⟩ := va_Tof (tm := .static "java/util/ArrayList" "EMPTY_ELEMENTDATA" "[Ljava/lang/Object;") (ty := .object "java/lang/Object") (N := 0) (f := fun _ => .null) (A := fun z => s.heap.size ≤ z) (by decide) (hs _ (by decide +kernel)) (va_eqt (hs _ (by decide +kernel))) (fun j hj => absurd hj (Nat.not_lt_zero _)) hA
  obtain ⟨mi, hmi⟩ := va_Mi.of (C := "[Ljava/lang/Object;") (hs _ (by decide +kernel))
  obtain ⟨ad, ad1, ad2⟩ := vb_Cof (st := .static "java/lang/Integer$IntegerCache" "cache" "[Ljava/lang/Integer;") (A := fun z => s.heap.size ≤ z) rfl (va_eqt (hs _ (by decide +kernel))) (hs _ (by decide +kernel)) hA
  obtain ⟨ic, ic1, ic2⟩ := va_Tof (tm := .static "java/lang/Integer$IntegerCache" "cache" "[Ljava/lang/Integer;") (ty := .object "java/lang/Integer") (N := 256) (f := fun j => .ref (ad j)) (A := fun z => s.heap.size ≤ z) (by decide) (hs _ (by decide +kernel)) (va_eqt (hs _ (by decide +kernel))) ad2 hA
  have emp : ∀ {t : Nat}, va_T (.object "java/lang/Object") t 0 (fun _ => .null) (fun z => s.heap.size ≤ z) s s.heap → sEmp s t ∧ t < s.heap.size ∧ sLn s.heap t = 0 := by
    rintro t ⟨cell, h1, h2, h3, -, h5, -⟩
    have h7 := sz_mod h5 (by decide)
    exact ⟨⟨cell, h1, h2, h3, h7⟩, (Array.getElem?_eq_some_iff.mp h1).1, by simp [sLn, h1, h7]⟩
  let cs : Nat → Nat := fun k => if k < 100 then [e0, e1, mi, co, ac, ic].getD k 0 else if k < 200 then (sf (k - 100)).1 else if k < 1000 then (sf (k - 200)).2 else ad (k - 1000)
  have hca : ∀ i, i < 63 → cs (100 + i) = (sf i).1 ∧ cs (200 + i) = (sf i).2 := fun i hi => by
    constructor
    · show (if 100 + i < 100 then _ else if 100 + i < 200 then (sf (100 + i - 100)).1 else _) = _
      rw [if_neg (by omega), if_pos (by omega), show 100 + i - 100 = i by omega]
    · show (if 200 + i < 100 then _ else if 200 + i < 200 then _ else if 200 + i < 1000 then (sf (200 + i - 200)).2 else _) = _
      rw [if_neg (by omega), if_neg (by omega), if_pos (by omega), show 200 + i - 200 = i by omega]
  have hci : ∀ k, cs (1000 + k) = ad k := fun k => by
    show (if 1000 + k < 100 then _ else if 1000 + k < 200 then _ else if 1000 + k < 1000 then _ else ad (1000 + k - 1000)) = _
    rw [if_neg (by omega), if_neg (by omega), if_neg (by omega), show 1000 + k - 1000 = k by omega]
  have hint : ∀ k, k < 256 → ad k < s.heap.size ∧ sTg s D (ad k) = 38 ∧ (sA s D).I (ad k) 0 = nI k - 128 := by
    intro k hk
    obtain ⟨cell, o1, o2, o3, -⟩ := ad1.1 k hk
    obtain ⟨cf, kk, i, f, c2, f1, f2, f3, f4, f5, -⟩ := ad1.2 k hk
    cases f3.symm.trans o1
    have hKn := hK.1 37 _ rfl
    have hcls : cell.cls = D.1 37 := Option.some.inj (o3.symm.trans hKn.2.1)
    obtain ⟨cf', kf', fi', fd', g1, g2⟩ := hKn.1 0 (by decide)
    have hslot : f.slot = D.2 37 0 := by
      have g1' : s.fieldFound? "java/lang/Integer" "value" "I" = some (cf', kf', fi', fd') := g1
      rw [f1] at g1'
      injection g1' with g1'
      injection g1' with _ g1'
      injection g1' with _ g1'
      injection g1' with _ g1'
      rw [g1', g2]
    have hsi : sInt s D (ad k) := ⟨cell, vb_c k, o1, hcls, f4, fun z e => (by rw [e] at o2; cases o2), by rw [← hslot]; exact f5⟩
    have htg := tg_int hKn.2 hsi
    refine ⟨(Array.getElem?_eq_some_iff.mp o1).1, htg, ?_⟩
    show (if sTg s D (ad k) = 38 then rdI s.heap (ad k) (D.2 37 0) else rdI s.heap (ad k) 0) = _
    rw [if_pos htg, ← hslot]
    simp [rdI, o1, f5, vb_c]
    rfl
  obtain ⟨c1, c2, c3, c4⟩ := sArr_of (j := 0) co2 (by decide)
  obtain ⟨a1, a2, a3, a4⟩ := sArr_of (j := 0) ac2 (by decide)
  obtain ⟨z1, z2, z3⟩ := emp e02
  obtain ⟨y1, y2, y3⟩ := emp e12
  have hb : sArr s 0 b ∧ b < s.heap.size ∧ sLn s.heap b = L ∧ ∀ k, k < L → rdI s.heap b k = xs k := by
    obtain ⟨scr, x1, x2, x3, x4, x5⟩ := hX
    exact sArr_of (A := fun _ => False) (f := xs) ⟨scr, x1, x2, x3, Nat.le_of_eq x4.symm, by rw [x4], x5, fun h => h⟩ (by omega)
  refine ⟨(l, s, #[Value.ref b], D, dA, sA s D, cs), rfl, rfl, sA_ok hts hK, ⟨fun a ha => ?_, ⟨⟨?_, z2, tg_emp z1, z3⟩, ⟨?_, y2, tg_emp y1, y3, va_Oof (hs _ (by decide +kernel)) e11 hA⟩, hmi⟩, ⟨⟨?_, c2, tg_arr0 c1, c3, fun i hi => ?_⟩, ⟨?_, a2, tg_arr0 a1, a3, fun i hi => ?_⟩⟩, ⟨?_, ?_, ?_, fun k hk => ?_⟩, ⟨?_, ?_, fun q hq => ?_⟩, ⟨?_, ?_⟩⟩, sA_rel, hb.2.1, tg_arr0 hb.1, hb.2.2.1, fun j hj => ?_, rfl, rfl⟩
  · show sTg s D a = 0 ∨ 38 ≤ sTg s D a
    rcases sTg_cases s D a with ⟨e, -⟩ | ⟨e, -⟩ | ⟨e, -⟩ | ⟨e, -⟩ | e <;> omega
  · exact va_Zref (hts _ q466) (hts _ (lw_all_tbl q208)) e01 hA
  · exact va_Zref (hts _ q1223) (hts _ (lw_all_tbl q208)) e11 hA
  · exact va_Zref (hts _ q2709) (hts _ (lw_all_tbl q197)) co1 hA
  · show (sA s D).I co i = _
    rw [sA_I (by rw [tg_arr0 c1]; decide)]
    exact c4 i hi
  · exact va_Zref (hts _ q1634) (hts _ (lw_all_tbl q197)) ac1 hA
  · show (sA s D).I ac i = _
    rw [sA_I (by rw [tg_arr0 a1]; decide)]
    exact a4 i hi
  · exact va_Zof (hts _ q1884) (hts _ (lw_all_tbl q251)) (va_eqt (hs _ (by decide +kernel))) hA
  · exact va_Zref (hts _ q1886) (hts _ (lw_all_tbl q251)) ic1 hA
  · obtain ⟨cell, h1, h2, h3, h4, h5, h6, -⟩ := ic2
    refine ⟨(Array.getElem?_eq_some_iff.mp h1).1, cell, h1, h2, h3, h4, fun k hk => ?_⟩
    show cell.slots[k]? = some (.ref (cs (1000 + k)))
    rw [hci]
    exact h6 k hk
  · show cs (1000 + k) < s.heap.size ∧ sTg s D (cs (1000 + k)) = 38 ∧ (sA s D).I (cs (1000 + k)) 0 = nI k - 128
    rw [hci]
    exact hint k hk
  · exact va_Zof (hts _ q1015) (hts _ (lw_all_tbl q217)) (va_eqt (hs _ (by decide +kernel))) hA
  · exact zq_rf (va_Zqof (hts _ q1031) (hts _ (lw_all_tbl q219)) (hs _ (by decide +kernel)) hA)
  · have hn : q.2.2.1 < 63 := by
      have := strT_at q hq
      exact (List.getElem?_eq_some_iff.mp this).1
    obtain ⟨k1, k2⟩ := hca _ hn
    have := sStr_x (D := D) (l := l) (za := #[Value.ref b]) (dA := dA) (cs := cs) (hsf q hq) (strT_cls q hq).2
    show xSR _ q.1 q.2.1 (cs (100 + q.2.2.1)) ∧ xStr _ (cs (100 + q.2.2.1)) (cs (200 + q.2.2.1)) q.2.2.2.length ∧ ∀ k, k < q.2.2.2.length → (sA s D).I (cs (200 + q.2.2.1)) k = q.2.2.2.getD k 0
    rw [k1, k2]
    exact this
  · exact zq_rf (va_Zqof (hts _ q406) (hts _ (lw_all_tbl q200)) (hs _ (by decide +kernel)) hA)
  · exact zq_rf (va_Zqof (hts _ q408) (hts _ (lw_all_tbl q200)) (hs _ (by decide +kernel)) hA)
  · show (sA s D).I b j = xs j
    rw [sA_I (by rw [tg_arr0 hb.1]; decide)]
    exact hb.2.2.2 j hj
