/-! ===== java.util.ArrayList ===== -/
set_option maxRecDepth 100000
/-- the constants that lists use: the two empty arrays, the class object of Object[] -/
def xCO (G : xG) : Prop := (xSt G "java/util/ArrayList" "DEFAULTCAPACITY_EMPTY_ELEMENTDATA" "[Ljava/lang/Object;" (.ref (G.cs 0)) ∧ G.cs 0 < G.N ∧ G.A0.tg (G.cs 0) = 204 ∧ G.A0.ln (G.cs 0) = 0) ∧
  (xSt G "java/util/ArrayList" "EMPTY_ELEMENTDATA" "[Ljava/lang/Object;" (.ref (G.cs 1)) ∧ G.cs 1 < G.N ∧ G.A0.tg (G.cs 1) = 204 ∧ G.A0.ln (G.cs 1) = 0 ∧ va_O "[Ljava/lang/Object;" (G.cs 1) (fun q => G.N ≤ q) G.z G.z.heap) ∧ va_Mi "[Ljava/lang/Object;" (G.cs 2) G.z
/-- a list: an object of ArrayList, its array, what it holds -/
def xL (G : xG) (A : xA) (l : Nat) (vs : List Nat) : Prop := A.tg l = 37 ∧ G.N ≤ l ∧ A.I l 2 = nI vs.length ∧ vs.length < 1048576 ∧ ∃ e, A.P l 1 = some e ∧ A.tg e = 204 ∧ vs.length ≤ A.ln e ∧ A.ln e < 2097152 ∧ ((A.ln e = 0 ∧ (e = G.cs 0 ∨ e = G.cs 1)) ∨ (G.N ≤ e ∧ A.gh e = 1000 + l)) ∧ (∀ i v, vs[i]? = some v → A.P e i = some v) ∧ ∀ v ∈ vs, xEl A v
def xcap (A : xA) (l : Nat) : Nat := A.ln ((A.P l 1).getD 0)
section J5
variable {G : xG}
theorem m_J3_init (hG : xOK G) {d : Nat} {A : xA} {l : Nat} : MX G (d + 1) kJ3_init [.ref l] A (xIs none A) := by
  refine MX.of rfl (Nat.le_of_ble_eq_true rfl) ?_
  change X _ _ _ _ _ _ [some (.ref l)] _
  refine x_aload_n dJ3_init_0 rfl ?_
  refine x_objInit hG dJ3_init_1 q464 q261 q262 (Nat.le_of_ble_eq_true rfl) ?_
  refine x_vret dJ3_init_4 rfl ?_
  exact ⟨rfl, rfl⟩
theorem m_J4_init (hG : xOK G) {d : Nat} {A : xA} {l : Nat} (ht : A.tg l = 37) (hN : G.N ≤ l) : MX G (d + 2) kJ4_init [.ref l] A (xIs none (A.setI l 0 0)) := by
  refine MX.of rfl (Nat.le_of_ble_eq_true rfl) ?_
  change X _ _ _ _ _ _ [some (.ref l)] _
  refine x_aload_n dJ4_init_0 rfl ?_
  refine x_callI hG (Ky := kJ3_init) (As := []) dJ4_init_1 lk_J4_1 me_J3_init is_J3_init rfl rfl rfl rfl rfl (Nat.le_of_ble_eq_true rfl) (MX.post (m_J3_init hG) ?_)
  rintro _ _ ⟨rfl, rfl⟩
  change X _ _ _ _ _ _ _ _
  refine x_aload_n dJ4_init_4 rfl ?_
  refine x_iconst_ (v := 0) dJ4_init_5 (by decide) ?_
  refine x_put hG dJ4_init_6 f_J4_7_36 ⟨_, rfl, Or.inl rfl⟩ ht hN rfl rfl ⟨_, rfl⟩ ?_
  refine x_vret dJ4_init_9 rfl ?_
  exact ⟨rfl, rfl⟩
theorem m_J5_init (hG : xOK G) (hC : xCO G) {d : Nat} {A : xA} {l : Nat} (ht : A.tg l = 37) (hN : G.N ≤ l) : MX G (d + 3) kJ5_init [.ref l] A (xIs none ((A.setI l 0 0).setP l 1 (some (G.cs 0)))) := by
  refine MX.of rfl (Nat.le_of_ble_eq_true rfl) ?_
  change X _ _ _ _ _ _ [some (.ref l)] _
  refine x_aload_n dJ5_init_0 rfl ?_
  refine x_callI hG (Ky := kJ4_init) (As := []) dJ5_init_1 lk_J5_1 me_J4_init is_J4_init rfl rfl rfl rfl rfl (Nat.le_of_ble_eq_true rfl) (MX.post (m_J4_init hG ht hN) ?_)
  rintro _ _ ⟨rfl, rfl⟩
  change X _ _ _ _ _ _ _ _
  refine x_aload_n dJ5_init_4 rfl ?_
  refine x_gets hG hC.1.1 (Or.inl q465) (Or.inl rfl) dJ5_init_5 ?_
  refine x_put hG dJ5_init_8 f_J5_9_36 ⟨_, rfl, Or.inl rfl⟩ ht hN rfl rfl (Or.inr ⟨_, rfl⟩) ?_
  refine x_vret dJ5_init_11 rfl ?_
  exact ⟨rfl, rfl⟩
theorem q1221 : (Jvm.Cond.arrayOver (Jvm.ClassFile.FieldType.object "java/lang/Object")) ∈ lw_tbl := lw_at lw_m5 65 rfl
theorem xnew_old {A : xA} {t m w g a u : Nat} (ha : a < A.n) (h : A.tg a = u) : (A.new t m w g).tg a = u := (xu1_n (Nat.ne_of_lt ha)).trans h
theorem m_J5_init_2 (hG : xOK G) {d : Nat} {A : xA} {l n : Nat} (ht : A.tg l = 37) (hN : G.N ≤ l) (h0 : 0 < n) (hn : n < 1000) (hc1 : A.n + 1 ≤ G.N + 386503) (hc2 : A.u + n ≤ hU G.z.heap + 7941971) : MX G (d + 3) kJ5_init_2 [.ref l, .int (nI n)] A (xIs none (((A.setI l 0 0).new 204 n n (1000 + l)).setP l 1 (some A.n))) := by
  refine MX.wf fun hw _ => ?_
  have htl : ((A.setI l 0 0).new 204 n n (1000 + l)).tg l = 37 := xnew_old (A := A.setI l 0 0) (hw.lt ht) ht
  refine MX.of rfl (Nat.le_of_ble_eq_true rfl) ?_
  change X _ _ _ _ _ _ [some (.ref l), some (.int (nI n))] _
  refine x_aload_n dJ5_init_2_0 rfl ?_
  refine x_callI hG (Ky := kJ4_init) (As := []) dJ5_init_2_1 lk_J5_1 me_J4_init is_J4_init rfl rfl rfl rfl rfl (Nat.le_of_ble_eq_true rfl) (MX.post (m_J4_init hG ht hN) ?_)
  rintro _ _ ⟨rfl, rfl⟩
  change X _ _ _ _ _ _ _ _
  refine x_iload_n dJ5_init_2_4 rfl ?_
  refine x_if_le (tgt := 19) dJ5_init_2_5 (by decide) (fun c5 => absurd c5 (nI_nle h0 (by omega))) (fun c5 => ?_)
  refine x_aload_n dJ5_init_2_8 rfl ?_
  refine x_iload_n dJ5_init_2_9 rfl ?_
  refine x_anew hG (1000 + l) (j := 4) (N := n) dJ5_init_2_10 (by decide) rfl (by exact nI_pos (by omega)) (nI_clamp (by omega)) (by omega) hc1 hc2 q1220 q1221 ?_
  refine x_put hG dJ5_init_2_13 f_J5_9_36 ⟨_, rfl, Or.inl rfl⟩ htl hN rfl rfl (Or.inr ⟨_, rfl⟩) ?_
  refine x_goto (tgt := 60) dJ5_init_2_16 (by decide) ?_
  refine x_vret dJ5_init_2_60 rfl ?_
  exact ⟨rfl, rfl⟩
theorem m_J5_init_20 (hG : xOK G) (hC : xCO G) {d : Nat} {A : xA} {l : Nat} (ht : A.tg l = 37) (hN : G.N ≤ l) : MX G (d + 3) kJ5_init_2 [.ref l, .int 0] A (xIs none ((A.setI l 0 0).setP l 1 (some (G.cs 1)))) := by
  refine MX.of rfl (Nat.le_of_ble_eq_true rfl) ?_
  change X _ _ _ _ _ _ [some (.ref l), some (.int 0)] _
  refine x_aload_n dJ5_init_2_0 rfl ?_
  refine x_callI hG (Ky := kJ4_init) (As := []) dJ5_init_2_1 lk_J5_1 me_J4_init is_J4_init rfl rfl rfl rfl rfl (Nat.le_of_ble_eq_true rfl) (MX.post (m_J4_init hG ht hN) ?_)
  rintro _ _ ⟨rfl, rfl⟩
  change X _ _ _ _ _ _ _ _
  refine x_iload_n dJ5_init_2_4 rfl ?_
  refine x_if_le (tgt := 19) dJ5_init_2_5 (by decide) (fun c5 => ?_) (fun c5 => absurd (by decide) c5)
  refine x_iload_n dJ5_init_2_19 rfl ?_
  refine x_if_ne (tgt := 33) dJ5_init_2_20 (by decide) (fun c20 => absurd rfl c20) (fun c20 => ?_)
  refine x_aload_n dJ5_init_2_23 rfl ?_
  refine x_gets hG hC.2.1.1 (Or.inl q1222) (Or.inl rfl) dJ5_init_2_24 ?_
  refine x_put hG dJ5_init_2_27 f_J5_9_36 ⟨_, rfl, Or.inl rfl⟩ ht hN rfl rfl (Or.inr ⟨_, rfl⟩) ?_
  refine x_goto (tgt := 60) dJ5_init_2_30 (by decide) ?_
  refine x_vret dJ5_init_2_60 rfl ?_
  exact ⟨rfl, rfl⟩
theorem m_J5_size (hG : xOK G) {d : Nat} {A : xA} {l : Nat} (ht : A.tg l = 37) : MX G d kJ5_size [.ref l] A (xIs (some (.int (A.I l 2))) A) := by
  refine MX.of rfl (Nat.le_of_ble_eq_true rfl) ?_
  change X _ _ _ _ _ _ [some (.ref l)] _
  refine x_aload_n dJ5_size_0 rfl ?_
  refine x_get (v := .int _) hG dJ5_size_1 f_J5_48_36 ht rfl ?_
  refine x_iret dJ5_size_4 rfl ?_
  exact ⟨rfl, rfl⟩
theorem m_J5_isEmpty (hG : xOK G) {d : Nat} {A : xA} {l : Nat} (ht : A.tg l = 37) : MX G d kJ5_isEmpty [.ref l] A (xIs (some (.int (if A.I l 2 = 0 then 1 else 0))) A) := by
  refine MX.of rfl (Nat.le_of_ble_eq_true rfl) ?_
  change X _ _ _ _ _ _ [some (.ref l)] _
  refine x_aload_n dJ5_isEmpty_0 rfl ?_
  refine x_get (v := .int _) hG dJ5_isEmpty_1 f_J5_48_36 ht rfl ?_
  refine x_if_ne (tgt := 11) dJ5_isEmpty_4 (by decide) (fun c4 => ?_) (fun c4 => ?_)
  · refine x_iconst_ (v := 0) dJ5_isEmpty_11 (by decide) ?_
    refine x_zret dJ5_isEmpty_12 rfl (by decide) ?_
    exact ⟨by simp_all, rfl⟩
  · refine x_iconst_ (v := 1) dJ5_isEmpty_7 (by decide) ?_
    refine x_goto (tgt := 12) dJ5_isEmpty_8 (by decide) ?_
    refine x_zret dJ5_isEmpty_12 rfl (by decide) ?_
    exact ⟨by simp_all, rfl⟩
theorem m_J8_checkIndex (hG : xOK G) {d : Nat} {A : xA} {i n : Int32} (h0 : ¬ i < 0) (h1 : i < n) : MX G d kJ8_checkIndex [.int i, .int n, .null] A (xIs (some (.int i)) A) := by
  refine MX.of rfl (Nat.le_of_ble_eq_true rfl) ?_
  change X _ _ _ _ _ _ [some (.int i), some (.int n), some (.null)] _
  refine x_iload_n dJ8_checkIndex_0 rfl ?_
  refine x_if_lt (tgt := 9) dJ8_checkIndex_1 (by decide) (fun c1 => absurd c1 h0) (fun c1 => ?_)
  refine x_iload_n dJ8_checkIndex_4 rfl ?_
  refine x_iload_n dJ8_checkIndex_5 rfl ?_
  refine x_icmp_lt (tgt := 16) dJ8_checkIndex_6 (by decide) (fun c6 => ?_) (fun c6 => absurd h1 c6)
  refine x_iload_n dJ8_checkIndex_16 rfl ?_
  refine x_iret dJ8_checkIndex_17 rfl ?_
  exact ⟨rfl, rfl⟩
theorem m_J13_checkIndex (hG : xOK G) {d : Nat} {A : xA} {i n : Int32} (h0 : ¬ i < 0) (h1 : i < n) : MX G (d + 1) kJ13_checkIndex [.int i, .int n] A (xIs (some (.int i)) A) := by
  refine MX.of rfl (Nat.le_of_ble_eq_true rfl) ?_
  change X _ _ _ _ _ _ [some (.int i), some (.int n)] _
  refine x_iload_n dJ13_checkIndex_0 rfl ?_
  refine x_iload_n dJ13_checkIndex_1 rfl ?_
  refine x_null dJ13_checkIndex_2 ?_
  refine x_callS hG (Ky := kJ8_checkIndex) (As := [_, _, _]) dJ13_checkIndex_3 lk_J13_105 me_J8_checkIndex st_J8_checkIndex rfl rfl (Nat.le_of_ble_eq_true rfl) (MX.post (m_J8_checkIndex hG h0 h1) ?_)
  rintro _ _ ⟨rfl, rfl⟩
  change X _ _ _ _ _ _ _ (_ :: _)
  refine x_iret dJ13_checkIndex_6 rfl ?_
  exact ⟨rfl, rfl⟩
theorem m_J5_elementData (hG : xOK G) {d : Nat} {A : xA} {l e : Nat} {i : Int32} (ht : A.tg l = 37) (he : A.P l 1 = some e) (hte : A.tg e = 204) (hi : vp_in i (A.ln e)) : MX G d kJ5_elementData [.ref l, .int i] A (xIs (some (va_rf (A.P e i.toNatClampNeg))) A) := by
  refine MX.of rfl (Nat.le_of_ble_eq_true rfl) ?_
  change X _ _ _ _ _ _ [some (.ref l), some (.int i)] _
  refine x_aload_n dJ5_elementData_0 rfl ?_
  refine x_get (v := .ref e) hG dJ5_elementData_1 f_J5_9_36 ht (congrArg va_rf he) ?_
  refine x_iload_n dJ5_elementData_4 rfl ?_
  refine x_aald hG (j := 4) dJ5_elementData_5 hte rfl hi ?_
  refine x_aret (r := _) dJ5_elementData_6 rfl (Or.inl ⟨_, rfl⟩) ?_
  exact ⟨rfl, rfl⟩
theorem m_J5_get0 (hG : xOK G) {d : Nat} {A : xA} {l e : Nat} {i : Int32} (ht : A.tg l = 37) (he : A.P l 1 = some e) (hte : A.tg e = 204) (hi : vp_in i (A.ln e)) (h0 : ¬ i < 0) (h1 : i < A.I l 2) : MX G (d + 2) kJ5_get [.ref l, .int i] A (xIs (some (va_rf (A.P e i.toNatClampNeg))) A) := by
  refine MX.of rfl (Nat.le_of_ble_eq_true rfl) ?_
  change X _ _ _ _ _ _ [some (.ref l), some (.int i)] _
  refine x_iload_n dJ5_get_0 rfl ?_
  refine x_aload_n dJ5_get_1 rfl ?_
  refine x_get (v := .int _) hG dJ5_get_2 f_J5_48_36 ht rfl ?_
  refine x_callS hG (Ky := kJ13_checkIndex) (As := [_, _]) dJ5_get_5 lk_J5_118 me_J13_checkIndex st_J13_checkIndex rfl rfl (Nat.le_of_ble_eq_true rfl) (MX.post (m_J13_checkIndex hG h0 h1) ?_)
  rintro _ _ ⟨rfl, rfl⟩
  change X _ _ _ _ _ _ _ (_ :: _)
  refine x_pop dJ5_get_8 rfl ?_
  refine x_aload_n dJ5_get_9 rfl ?_
  refine x_iload_n dJ5_get_10 rfl ?_
  refine x_callV hG (Ky := kJ5_elementData) (As := [_]) dJ5_get_11 ht rfl lk_J5_123 me_J5_elementData is_J5_elementData se_J5_elementData rfl rfl (Nat.le_of_ble_eq_true rfl) (MX.post (m_J5_elementData hG ht he hte hi) ?_)
  rintro _ _ ⟨rfl, rfl⟩
  change X _ _ _ _ _ _ _ (_ :: _)
  refine x_aret (r := _) dJ5_get_14 rfl (Or.inl ⟨_, rfl⟩) ?_
  exact ⟨rfl, rfl⟩
end J5
