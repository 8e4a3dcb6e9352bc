/-! ===== java.util.ArrayList: add, get, set, remove the last, clear ===== -/
set_option maxRecDepth 100000
section J5e
variable {G : xG}
theorem m_J5_add_2 (hG : xOK G) (hC : xCO G) {d : Nat} {A : xA} {l v e : Nat} {vs : List Nat} (ht : A.tg l = 37) (hN : G.N ≤ l) (hs : A.I l 2 = nI vs.length) (hl1 : vs.length + 1 < 1048576) (he : A.P l 1 = some e) (hte : A.tg e = 204) (hlen : vs.length ≤ A.ln e) (hcp : A.ln e < 2097152) (hcp2 : 2 * vs.length + 10 < 2097152) (hown : (A.ln e = 0 ∧ (e = G.cs 0 ∨ e = G.cs 1)) ∨ (G.N ≤ e ∧ A.gh e = 1000 + l)) (hvs : ∀ i w, vs[i]? = some w → A.P e i = some w) (hel : ∀ w ∈ vs, xEl A w) (hv : xEl A v) (hNn : G.N ≤ A.n) (hc1 : A.n + 1 ≤ G.N + 386503) (hc2' : A.u + (2 * vs.length + 10) ≤ hU G.z.heap + 7941971) :
    MX G (d + 5) kJ5_add_2 [.ref l, .ref v, .ref e, .int (nI vs.length)] A (fun o B => o = .returned none ∧ xAdded G A l v vs B ∧ xAd2 A l B) := by
  refine MX.wf fun hw ho => ?_
  have hlt := hw.lt ht
  by_cases hfull : vs.length = A.ln e
  · have hs2 : A.I l 2 = nI (A.ln e) := by rw [← hfull]; exact hs
    have hc2 : A.u + (2 * A.ln e + 10) ≤ hU G.z.heap + 7941971 := by rw [← hfull]; exact hc2'
    have hel2 : ∀ i : Nat, i < A.ln e → ∀ y, A.P e i = some y → xEl A y := by
      intro i hi y hy
      rw [← hfull] at hi
      have h1 := hvs i vs[i] (List.getElem?_eq_getElem hi)
      rw [hy] at h1
      cases h1
      exact hel _ (List.getElem_mem hi)
    refine MX.of rfl (Nat.le_of_ble_eq_true rfl) ?_
    change X _ _ _ _ _ _ [some (.ref l), some (.ref v), some (.ref e), some (.int (nI vs.length))] _
    refine x_iload_n dJ5_add_2_0 rfl ?_
    refine x_aload_n dJ5_add_2_1 rfl ?_
    refine x_alen hG (j := 4) dJ5_add_2_2 hte ?_
    refine x_icmp_ne (tgt := 11) dJ5_add_2_3 (by decide) (fun c3 => absurd (by rw [hfull]) c3) (fun c3 => ?_)
    refine x_aload_n dJ5_add_2_6 rfl ?_
    refine x_callV hG (Ky := kJ5_grow) (As := []) dJ5_add_2_7 ht rfl lk_J5_129 me_J5_grow is_J5_grow se_J5_grow rfl rfl (Nat.le_of_ble_eq_true rfl) (MX.post (m_J5_grow hG hC ht hN he hte hs2 hcp hown hNn hc1 hc2 hel2) ?_)
    rintro _ B ⟨rfl, n', g1, g2, g3, g4, g5, g6, g7, g8, g9, g10, g11, g12⟩
    change X _ _ _ _ _ _ _ (_ :: _)
    refine x_astore_n dJ5_add_2_10 (by decide) ?_
    have hf := g11.mono (S' := fun a => a = l ∨ A.gh a = 1000 + l) (fun a _ h => Or.inl h)
    refine add2_tail hG (g11.tg hw ht) hN hNn g7 (by omega) (by omega) (xEl.mono g11 hw hv) ⟨rfl, ?_⟩
    have hnl : A.n ≠ l := fun q => absurd hlt (by rw [q]; exact Nat.lt_irrefl _)
    have hp := xL.push (G := G) (A := B) (l := l) (e := A.n) (v := v) (vs := vs) (g11.tg hw ht) hN g6 g7 (by omega) (by omega) hl1 ⟨hNn, g9⟩ (fun i w hi => by
      have h0 : i < vs.length := (List.getElem?_eq_some_iff.mp hi).1
      rw [g10 i (by omega)]
      exact hvs i w hi) (fun w h => xEl.mono g11 hw (hel w h)) (xEl.mono g11 hw hv) rfl
    have hP : ((B.setP A.n vs.length (some v)).setI l 2 (nI (vs.length + 1))).P l 1 = some A.n := (xup_a (Ne.symm hnl)).trans g6
    refine ⟨⟨hp, ?_, Nat.le_of_eq g4, ?_, ?_, fun a h1 h2 => ?_⟩, Or.inr ⟨g4, ?_, ?_, ?_⟩⟩
    · refine hf.trans' (S2 := fun a => a = A.n ∨ a = l) (xFrm.trans (xFrm.setP (Or.inl rfl)) (xFrm.setI (Or.inr rfl))) (fun a ha h => ?_)
      rcases h with h | h
      · omega
      · exact Or.inl h
    · rw [xcap_of he, xcap_of hP]
      show B.u + _ ≤ _ + 3 * B.ln A.n + 1
      omega
    · rw [xcap_of he, xcap_of hP]
      show B.ln A.n ≤ _
      omega
    · have : a = A.n := by
        have h3 : a < B.n := h2
        omega
      subst this
      exact ⟨g7, g9⟩
    · rw [xcap_of hP]
      show B.u = A.u + B.ln A.n
      omega
    · rw [xcap_of he, xcap_of hP]
      show 3 * A.ln e ≤ 2 * B.ln A.n + 1
      omega
    · rw [xcap_of he, xcap_of hP]
      show A.ln e < B.ln A.n
      omega
  · refine MX.of rfl (Nat.le_of_ble_eq_true rfl) ?_
    change X _ _ _ _ _ _ [some (.ref l), some (.ref v), some (.ref e), some (.int (nI vs.length))] _
    refine x_iload_n dJ5_add_2_0 rfl ?_
    refine x_aload_n dJ5_add_2_1 rfl ?_
    refine x_alen hG (j := 4) dJ5_add_2_2 hte ?_
    refine x_icmp_ne (tgt := 11) dJ5_add_2_3 (by decide) (fun c3 => ?_) (fun c3 => absurd c3 (fun q => hfull ((nI_eq (by omega) (by omega)).mp q)))
    have hown' : G.N ≤ e ∧ A.gh e = 1000 + l := hown.resolve_left (fun q => absurd q.1 (by omega))
    refine add2_tail hG ht hN hown'.1 hte (by omega) (by omega) hv ⟨rfl, ?_⟩
    have hne := xL.ne ht hte
    have hp := xL.push (G := G) (A := A) (l := l) (e := e) (v := v) (vs := vs) ht hN he hte (by omega) hcp hl1 hown' hvs hel hv rfl
    have hP : ((A.setP e vs.length (some v)).setI l 2 (nI (vs.length + 1))).P l 1 = some e := (xup_a hne).trans he
    refine ⟨⟨hp, xFrm.trans (xFrm.setP (Or.inr hown'.2)) (xFrm.setI (Or.inl rfl)), Nat.le_succ _, ?_, ?_, fun a h1 h2 => absurd h2 (Nat.not_lt.mpr h1)⟩, Or.inl ⟨rfl, rfl, by rw [xcap_of he, xcap_of hP]; rfl⟩⟩
    · rw [xcap_of he, xcap_of hP]
      exact Nat.le_succ _
    · rw [xcap_of he, xcap_of hP]
      exact Nat.le_max_left _ _
/-- ADD: v comes behind -/
theorem m_J5_add (hG : xOK G) (hC : xCO G) {d : Nat} {A : xA} {l v : Nat} {vs : List Nat} (h : xL G A l vs) (hl0 : vs.length < 1000000) (hv : xEl A v) (hc1 : A.n + 1 ≤ G.N + 386503) (hc2 : A.u + (2 * vs.length + 10) ≤ hU G.z.heap + 7941971) :
    MX G (d + 6) kJ5_add [.ref l, .ref v] A (fun o B => o = .returned (some (.int 1)) ∧ xAdded G A l v vs B ∧ xAd2 A l B) := by
  obtain ⟨ht, hN, hs, -, e, he, hte, hlen, hcp, hown, hvs, hel⟩ := h
  have hl1 : vs.length + 1 < 1048576 := by omega
  have hcp2 : 2 * vs.length + 10 < 2097152 := by omega
  refine MX.of rfl (Nat.le_of_ble_eq_true rfl) (X.wf fun hw hNn _ => ?_)
  change X _ _ _ _ _ _ [some (.ref l), some (.ref v)] _
  refine x_aload_n dJ5_add_0 rfl ?_
  refine x_dup dJ5_add_1 rfl ?_
  refine x_get (v := .int _) hG dJ5_add_2 f_J5_63_36 ht rfl ?_
  refine x_iconst_ (v := 1) dJ5_add_5 (by decide) ?_
  refine x_iadd dJ5_add_6 ?_
  refine x_put hG dJ5_add_7 f_J5_63_36 ⟨_, rfl, Or.inl rfl⟩ ht hN rfl rfl ⟨_, rfl⟩ ?_
  refine x_aload_n dJ5_add_10 rfl ?_
  refine x_aload_n dJ5_add_11 rfl ?_
  refine x_aload_n dJ5_add_12 rfl ?_
  refine x_get (v := .ref e) hG dJ5_add_13 f_J5_9_36 ht (congrArg va_rf he) ?_
  refine x_aload_n dJ5_add_16 rfl ?_
  refine x_get (v := .int (nI vs.length)) hG dJ5_add_17 f_J5_48_36 ht (congrArg Value.int ((xup_k (by decide)).trans hs)) ?_
  refine x_callV hG (Ky := kJ5_add_2) (As := [_, _, _]) dJ5_add_20 ht rfl lk_J5_131 me_J5_add_2 is_J5_add_2 se_J5_add_2 rfl rfl (Nat.le_of_ble_eq_true rfl) (MX.post (m_J5_add_2 (A := A.setI l 0 (A.I l 0 + 1)) hG hC ht hN ((xup_k (by decide)).trans hs) hl1 he hte hlen hcp hcp2 hown hvs hel hv hNn hc1 hc2) ?_)
  rintro _ B ⟨rfl, hB, hB2⟩
  change X _ _ _ _ _ _ _ _
  refine x_iconst_ (v := 1) dJ5_add_23 (by decide) ?_
  refine x_zret dJ5_add_24 rfl (by decide) ?_
  refine ⟨rfl, ?_⟩
  obtain ⟨b1, b2, b3, b4, b5, b6⟩ := hB
  exact ⟨⟨b1, xFrm.trans (xFrm.setI (Or.inl rfl)) b2, b3, b4, b5, b6⟩, hB2⟩
theorem xL.get {A : xA} {l : Nat} {vs : List Nat} {i v : Nat} (h : xL G A l vs) (hi : vs[i]? = some v) : i < vs.length := (List.getElem?_eq_some_iff.mp hi).1
/-- GET: the i-th -/
theorem m_J5_get (hG : xOK G) {d : Nat} {A : xA} {l i v : Nat} {vs : List Nat} (h : xL G A l vs) (hi : vs[i]? = some v) : MX G (d + 2) kJ5_get [.ref l, .int (nI i)] A (xIs (some (.ref v)) A) := by
  have h0 := xL.get h hi
  obtain ⟨ht, hN, hs, hlm, e, he, hte, hlen, hcp, hown, hvs, hel⟩ := h
  have := m_J5_get0 (d := d) (i := nI i) hG ht he hte (vp_in_nI (by omega) (by omega)) (nI_pos (by omega)) (by rw [hs]; exact nI_lt h0 (by omega))
  rw [nI_clamp (by omega), hvs i v hi] at this
  exact this
/-- SIZE -/
theorem m_J5_sz (hG : xOK G) {d : Nat} {A : xA} {l : Nat} {vs : List Nat} (h : xL G A l vs) : MX G d kJ5_size [.ref l] A (xIs (some (.int (nI vs.length))) A) := by
  have := m_J5_size (d := d) hG h.1
  rw [h.2.2.1] at this
  exact this
/-- ISEMPTY -/
theorem m_J5_empty (hG : xOK G) {d : Nat} {A : xA} {l : Nat} {vs : List Nat} (h : xL G A l vs) : MX G d kJ5_isEmpty [.ref l] A (xIs (some (.int (if vs = [] then 1 else 0))) A) := by
  have := m_J5_isEmpty (d := d) hG h.1
  rw [h.2.2.1] at this
  cases vs with
  | nil => simpa [nI_0] using this
  | cons a t =>
    rw [if_neg (nI_ne0 (by simp) (by have := h.2.2.2.1; omega))] at this
    simpa using this
theorem xL.set {A : xA} {l e v k : Nat} {vs : List Nat} (ht : A.tg l = 37) (hN : G.N ≤ l) (hs : A.I l 2 = nI vs.length) (hlm : vs.length < 1048576) (he : A.P l 1 = some e) (hte : A.tg e = 204) (hlen : vs.length ≤ A.ln e) (hcp : A.ln e < 2097152) (hown : (A.ln e = 0 ∧ (e = G.cs 0 ∨ e = G.cs 1)) ∨ (G.N ≤ e ∧ A.gh e = 1000 + l)) (hvs : ∀ i w, vs[i]? = some w → A.P e i = some w) (hel : ∀ w ∈ vs, xEl A w) (hv : xEl A v) (hk : k < vs.length) : xL G (A.setP e k (some v)) l (vs.set k v) := by
  have hne := xL.ne ht hte
  refine ⟨ht, hN, by rw [List.length_set]; exact hs, by rw [List.length_set]; exact hlm, e, (xup_a hne).trans he, hte, by rw [List.length_set]; exact hlen, hcp, hown, fun i w hi => ?_, fun w hw => ?_⟩
  · show xup A.P e k (some v) e i = some w
    rw [List.getElem?_set] at hi
    split at hi
    · rename_i q
      subst q
      simp [hk] at hi
      rw [xup_s, hi]
    · rename_i q
      rw [xup_k (Ne.symm q)]
      exact hvs i w hi
  · rcases List.mem_or_eq_of_mem_set hw with h | h
    · exact hel w h
    · rw [h]
      exact hv
/-- SET: v takes the k-th place; what was there comes back -/
theorem m_J5_set (hG : xOK G) {d : Nat} {A : xA} {l k v w e : Nat} {vs : List Nat} (h : xL G A l vs) (he0 : A.P l 1 = some e) (hk : vs[k]? = some w) (hv : xEl A v) : MX G (d + 2) kJ5_set [.ref l, .int (nI k), .ref v] A (fun o B => o = .returned (some (.ref w)) ∧ xL G B l (vs.set k v) ∧ B = A.setP e k (some v)) := by
  have hkl := xL.get h hk
  obtain ⟨ht, hN, hs, hlm, e', he, hte, hlen, hcp, hown, hvs, hel⟩ := h
  cases he0.symm.trans he
  obtain ⟨cv, rv, hv1, hv2, hv3⟩ := id hv
  have hi : vp_in (nI k) (A.ln e) := vp_in_nI (by omega) (by omega)
  have h0 : ¬ nI k < 0 := nI_pos (by omega)
  have h1 : nI k < A.I l 2 := by rw [hs]; exact nI_lt hkl (by omega)
  have hNe : G.N ≤ e := (hown.resolve_left (fun q => absurd q.1 (by omega))).1
  refine MX.of rfl (Nat.le_of_ble_eq_true rfl) ?_
  change X _ _ _ _ _ _ [some (.ref l), some (.int (nI k)), some (.ref v), none] _
  refine x_iload_n dJ5_set_0 rfl ?_
  refine x_aload_n dJ5_set_1 rfl ?_
  refine x_get (v := .int _) hG dJ5_set_2 f_J5_48_36 ht rfl ?_
  refine x_callS hG (Ky := kJ13_checkIndex) (As := [_, _]) dJ5_set_5 lk_J5_118 me_J13_checkIndex st_J13_checkIndex rfl rfl (Nat.le_of_ble_eq_true rfl) (MX.post (m_J13_checkIndex hG h0 h1) ?_)
  rintro _ _ ⟨rfl, rfl⟩
  change X _ _ _ _ _ _ _ (_ :: _)
  refine x_pop dJ5_set_8 rfl ?_
  refine x_aload_n dJ5_set_9 rfl ?_
  refine x_iload_n dJ5_set_10 rfl ?_
  refine x_callV hG (Ky := kJ5_elementData) (As := [_]) dJ5_set_11 ht rfl lk_J5_123 me_J5_elementData is_J5_elementData se_J5_elementData rfl rfl (Nat.le_of_ble_eq_true rfl) (MX.post (m_J5_elementData hG ht he hte hi) ?_)
  rintro _ _ ⟨rfl, rfl⟩
  change X _ _ _ _ _ _ _ (_ :: _)
  refine x_astoreq_n dJ5_set_14 (by decide) ?_
  refine x_aload_n dJ5_set_15 rfl ?_
  refine x_get (v := .ref e) hG dJ5_set_16 f_J5_9_36 ht (congrArg va_rf he) ?_
  refine x_iload_n dJ5_set_19 rfl ?_
  refine x_aload_n dJ5_set_20 rfl ?_
  refine x_aast hG (j := 4) (E := "java/lang/Object") dJ5_set_21 hte rfl hNe hi hv1 hv2 (Or.inr hv3) ?_
  refine x_aloadq_n dJ5_set_22 rfl ?_
  refine x_aret (r := _) dJ5_set_23 rfl (Or.inl ⟨_, rfl⟩) ?_
  refine ⟨by rw [nI_clamp (by omega), hvs k w hk]; rfl, ?_, ?_⟩
  · rw [nI_clamp (by omega)]
    exact xL.set ht hN hs hlm he hte hlen hcp hown hvs hel hv hkl
  · rw [nI_clamp (by omega)]
/-- the loop of clear: places from i on become null -/
theorem clear_loop (hG : xOK G) {d : Nat} {Q : Outcome → xA → Prop} {l e n : Nat} (hn : n < 2097152) : ∀ (m i : Nat) (A : xA), i + m = n → A.tg e = 204 → n ≤ A.ln e → A.ln e < 2097152 → (i < n → G.N ≤ e) → (∀ B, xFrm (fun a => a = e ∧ i < n) A B → B.n = A.n → B.u = A.u → B.I = A.I → (∀ a, a ≠ e → B.P a = A.P a) → Q (.returned none) B) → X G d kJ5_clear Q A 27 [some (.ref l), some (.ref e), some (.int (nI n)), some (.int (nI i))] [] := by
  intro m
  induction m with
  | zero =>
    intro i A him hte hln hcp hNe hQ
    refine x_iload_n dJ5_clear_27 rfl ?_
    refine x_iload_n dJ5_clear_28 rfl ?_
    refine x_icmp_ge (tgt := 42) dJ5_clear_29 (by decide) (fun c29 => ?_) (fun c29 => absurd (by rw [show i = n by omega]; exact Int32.le_refl _) c29)
    refine x_vret dJ5_clear_42 rfl ?_
    exact hQ A xFrm.rf rfl rfl rfl (fun _ _ => rfl)
  | succ m ih =>
    intro i A him hte hln hcp hNe hQ
    have hin : i < n := by omega
    refine x_iload_n dJ5_clear_27 rfl ?_
    refine x_iload_n dJ5_clear_28 rfl ?_
    refine x_icmp_ge (tgt := 42) dJ5_clear_29 (by decide) (fun c29 => absurd c29 (nI_ge hin (by omega))) (fun c29 => ?_)
    refine x_aload_n dJ5_clear_32 rfl ?_
    refine x_iload_n dJ5_clear_33 rfl ?_
    refine x_null dJ5_clear_34 ?_
    refine x_aastN hG (j := 4) dJ5_clear_35 hte rfl (hNe hin) (vp_in_nI (by omega) (by omega)) ?_
    rw [nI_clamp (by omega)]
    refine x_iinc (v := _ + 1) dJ5_clear_36 rfl rfl (by decide) ?_
    refine x_goto (tgt := 27) dJ5_clear_39 (by decide) ?_
    rw [nI_1]
    refine ih (i + 1) (A.setP e i none) (by omega) hte hln hcp (fun h => hNe hin) (fun B b1 b2 b3 b4 b5 => hQ B (xFrm.trans (xFrm.setP ⟨rfl, hin⟩) (b1.mono fun a _ h => ⟨h.1, hin⟩)) b2 b3 b4 (fun a ha => (b5 a ha).trans (by funext j; exact xup_a ha)))
/-- CLEAR -/
theorem m_J5_clear (hG : xOK G) {d : Nat} {A : xA} {l : Nat} {vs : List Nat} (h : xL G A l vs) : MX G d kJ5_clear [.ref l] A (fun o B => o = .returned none ∧ xL G B l [] ∧ xFrm (fun a => a = l ∨ A.gh a = 1000 + l) A B ∧ B.n = A.n ∧ B.u = A.u ∧ xcap B l = xcap A l) := by
  refine MX.wf fun hw _ => ?_
  obtain ⟨ht, hN, hs, hlm, e, he, hte, hlen, hcp, hown, hvs, hel⟩ := h
  refine MX.of rfl (Nat.le_of_ble_eq_true rfl) ?_
  change X _ _ _ _ _ _ [some (.ref l), none, none, none] _
  refine x_aload_n dJ5_clear_0 rfl ?_
  refine x_dup dJ5_clear_1 rfl ?_
  refine x_get (v := .int _) hG dJ5_clear_2 f_J5_63_36 ht rfl ?_
  refine x_iconst_ (v := 1) dJ5_clear_5 (by decide) ?_
  refine x_iadd dJ5_clear_6 ?_
  refine x_put hG dJ5_clear_7 f_J5_63_36 ⟨_, rfl, Or.inl rfl⟩ ht hN rfl rfl ⟨_, rfl⟩ ?_
  refine x_aload_n dJ5_clear_10 rfl ?_
  refine x_get (v := .ref e) hG dJ5_clear_11 f_J5_9_36 ht (congrArg va_rf he) ?_
  refine x_astore_n dJ5_clear_14 (by decide) ?_
  refine x_aload_n dJ5_clear_15 rfl ?_
  refine x_get (v := .int (nI vs.length)) hG dJ5_clear_16 f_J5_48_36 ht (congrArg Value.int ((xup_k (by decide)).trans hs)) ?_
  refine x_istore_n dJ5_clear_19 (by decide) ?_
  refine x_aload_n dJ5_clear_20 rfl ?_
  refine x_iconst_ (v := 0) dJ5_clear_21 (by decide) ?_
  refine x_dup_x1 dJ5_clear_22 rfl rfl ?_
  refine x_put hG dJ5_clear_23 f_J5_48_36 ⟨_, rfl, Or.inl rfl⟩ ht hN rfl rfl ⟨_, rfl⟩ ?_
  refine x_istore_n dJ5_clear_26 (by decide) ?_
  refine clear_loop hG (n := vs.length) (by omega) vs.length 0 _ (by omega) hte hlen hcp (fun h => (hown.resolve_left (fun q => absurd q.1 (by omega))).1) (fun B b1 b2 b3 b4 b5 => ⟨rfl, ?_⟩)
  have hne := xL.ne ht hte
  have hle := hw.lt hte
  have hll := hw.lt ht
  have f0 : xFrm (fun a => a = l ∨ A.gh a = 1000 + l) A ((A.setI l 0 (A.I l 0 + 1)).setI l 2 0) := xFrm.trans (xFrm.setI (Or.inl rfl)) (xFrm.setI (Or.inl rfl))
  have hP : B.P l 1 = some e := by rw [b5 l hne]; exact he
  have hlB : B.ln e = A.ln e := b1.ln hle
  refine ⟨⟨b1.tg hw ht, hN, by rw [b4]; exact xup_s, by simp, e, hP, b1.tg hw hte, by simp, by rw [hlB]; exact hcp, ?_, fun i w hi => by simp at hi, fun w h => by simp at h⟩, ?_, b2, b3, ?_⟩
  · rcases hown with h | h
    · exact Or.inl ⟨hlB.trans h.1, h.2⟩
    · exact Or.inr ⟨h.1, (b1.gh hle).trans h.2⟩
  · refine f0.trans' b1 (fun a _ h => Or.inr ?_)
    rw [h.1]
    exact (hown.resolve_left (fun q => absurd q.1 (by omega))).2
  · rw [xcap_of hP, xcap_of he]
    exact hlB
theorem m_J5_fastRemove (hG : xOK G) {d : Nat} {A : xA} {l e k : Nat} (ht : A.tg l = 37) (hN : G.N ≤ l) (hs : A.I l 2 = nI (k + 1)) (hte : A.tg e = 204) (hNe : G.N ≤ e) (hk : k < A.ln e) (hcp : A.ln e < 2097152) : MX G d kJ5_fastRemove [.ref l, .ref e, .int (nI k)] A (xIs none (((A.setI l 0 (A.I l 0 + 1)).setI l 2 (nI k)).setP e k none)) := by
  refine MX.of rfl (Nat.le_of_ble_eq_true rfl) ?_
  change X _ _ _ _ _ _ [some (.ref l), some (.ref e), some (.int (nI k)), none] _
  refine x_aload_n dJ5_fastRemove_0 rfl ?_
  refine x_dup dJ5_fastRemove_1 rfl ?_
  refine x_get (v := .int _) hG dJ5_fastRemove_2 f_J5_63_36 ht rfl ?_
  refine x_iconst_ (v := 1) dJ5_fastRemove_5 (by decide) ?_
  refine x_iadd dJ5_fastRemove_6 ?_
  refine x_put hG dJ5_fastRemove_7 f_J5_63_36 ⟨_, rfl, Or.inl rfl⟩ ht hN rfl rfl ⟨_, rfl⟩ ?_
  refine x_aload_n dJ5_fastRemove_10 rfl ?_
  refine x_get (v := .int (nI (k + 1))) hG dJ5_fastRemove_11 f_J5_48_36 ht (congrArg Value.int ((xup_k (by decide)).trans hs)) ?_
  refine x_iconst_ (v := 1) dJ5_fastRemove_14 (by decide) ?_
  refine x_isub dJ5_fastRemove_15 ?_
  refine x_dup dJ5_fastRemove_16 rfl ?_
  refine x_istore_n dJ5_fastRemove_17 (by decide) ?_
  refine x_iload_n dJ5_fastRemove_18 rfl ?_
  refine x_icmp_le (tgt := 34) dJ5_fastRemove_19 (by decide) (fun c19 => ?_) (fun c19 => absurd (by rw [nI_pred]; exact Int32.le_refl _) c19)
  refine x_aload_n dJ5_fastRemove_34 rfl ?_
  refine x_aload_n dJ5_fastRemove_35 rfl ?_
  refine x_iload_n dJ5_fastRemove_36 rfl ?_
  refine x_dup_x1 dJ5_fastRemove_37 rfl rfl ?_
  refine x_put hG dJ5_fastRemove_38 f_J5_48_36 ⟨_, rfl, Or.inl rfl⟩ ht hN rfl rfl ⟨_, rfl⟩ ?_
  refine x_null dJ5_fastRemove_41 ?_
  rw [nI_pred]
  refine x_aastN hG (j := 4) dJ5_fastRemove_42 hte rfl hNe (vp_in_nI (N := A.ln e) hk (by omega)) ?_
  rw [nI_clamp (by omega)]
  refine x_vret dJ5_fastRemove_43 rfl ?_
  exact ⟨rfl, rfl⟩
/-- REMOVE, of the last -/
theorem m_J5_remove (hG : xOK G) {d : Nat} {A : xA} {l v : Nat} {vs : List Nat} (h : xL G A l (vs ++ [v])) : MX G (d + 2) kJ5_remove [.ref l, .int (nI vs.length)] A (fun o B => o = .returned (some (.ref v)) ∧ xL G B l vs ∧ xFrm (fun a => a = l ∨ A.gh a = 1000 + l) A B ∧ B.n = A.n ∧ B.u = A.u ∧ xcap B l = xcap A l) := by
  obtain ⟨ht, hN, hs, hlm, e, he, hte, hlen, hcp, hown, hvs, hel⟩ := h
  rw [List.length_append] at hs hlm hlen
  have hs : A.I l 2 = nI (vs.length + 1) := hs
  have hlen : vs.length + 1 ≤ A.ln e := hlen
  have hlm : vs.length + 1 < 1048576 := hlm
  have hk : vs.length < A.ln e := hlen
  have hi : vp_in (nI vs.length) (A.ln e) := vp_in_nI (by omega) (by omega)
  have h0 : ¬ nI vs.length < 0 := nI_pos (by omega)
  have h1 : nI vs.length < A.I l 2 := by rw [hs]; exact nI_lt (by omega) (by omega)
  have hNe : G.N ≤ e := (hown.resolve_left (fun q => absurd q.1 (by omega))).1
  refine MX.of rfl (Nat.le_of_ble_eq_true rfl) ?_
  change X _ _ _ _ _ _ [some (.ref l), some (.int (nI vs.length)), none, none] _
  refine x_iload_n dJ5_remove_0 rfl ?_
  refine x_aload_n dJ5_remove_1 rfl ?_
  refine x_get (v := .int _) hG dJ5_remove_2 f_J5_48_36 ht rfl ?_
  refine x_callS hG (Ky := kJ13_checkIndex) (As := [_, _]) dJ5_remove_5 lk_J5_118 me_J13_checkIndex st_J13_checkIndex rfl rfl (Nat.le_of_ble_eq_true rfl) (MX.post (m_J13_checkIndex hG h0 h1) ?_)
  rintro _ _ ⟨rfl, rfl⟩
  change X _ _ _ _ _ _ _ (_ :: _)
  refine x_pop dJ5_remove_8 rfl ?_
  refine x_aload_n dJ5_remove_9 rfl ?_
  refine x_get (v := .ref e) hG dJ5_remove_10 f_J5_9_36 ht (congrArg va_rf he) ?_
  refine x_astore_n dJ5_remove_13 (by decide) ?_
  refine x_aload_n dJ5_remove_14 rfl ?_
  refine x_iload_n dJ5_remove_15 rfl ?_
  refine x_aald hG (j := 4) dJ5_remove_16 hte rfl hi ?_
  refine x_astoreq_n dJ5_remove_17 (by decide) ?_
  refine x_aload_n dJ5_remove_18 rfl ?_
  refine x_aload_n dJ5_remove_19 rfl ?_
  refine x_iload_n dJ5_remove_20 rfl ?_
  refine x_callV hG (Ky := kJ5_fastRemove) (As := [_, _]) dJ5_remove_21 ht rfl lk_J5_144 me_J5_fastRemove is_J5_fastRemove se_J5_fastRemove rfl rfl (Nat.le_of_ble_eq_true rfl) (MX.post (m_J5_fastRemove hG ht hN hs hte hNe hk hcp) ?_)
  rintro _ _ ⟨rfl, rfl⟩
  change X _ _ _ _ _ _ _ _
  refine x_aloadq_n dJ5_remove_24 rfl ?_
  refine x_aret (r := _) dJ5_remove_25 rfl (Or.inl ⟨_, rfl⟩) ?_
  refine ⟨by rw [nI_clamp (by omega), hvs vs.length v (by simp)]; rfl, ?_, ?_, rfl, rfl, ?_⟩
  · have hne := xL.ne ht hte
    refine ⟨ht, hN, xup_s, by omega, e, (xup_a hne).trans he, hte, (show vs.length ≤ A.ln e by omega), hcp, hown, fun i w hi => ?_, fun w hw => hel w (List.mem_append_left _ hw)⟩
    have h9 : i < vs.length := (List.getElem?_eq_some_iff.mp hi).1
    exact (xup_k (Nat.ne_of_lt h9)).trans (hvs i w (by rw [List.getElem?_append_left h9]; exact hi))
  · exact xFrm.trans (xFrm.trans (xFrm.setI (Or.inl rfl)) (xFrm.setI (Or.inl rfl))) (xFrm.setP (Or.inr (hown.resolve_left (fun q => absurd q.1 (by omega))).2))
  · rw [xcap_of he, xcap_of ((xup_a (xL.ne ht hte)).trans he)]
    rfl
end J5e
