/-! ===== java.util.ArrayList: grow, add ===== -/
set_option maxRecDepth 100000
section J5c
variable {G : xG}
/-- what growing leaves: a longer array of the list's own, with the same beginning -/
def xGrew (G : xG) (A : xA) (l e : Nat) (B : xA) : Prop := ∃ n', A.ln e < n' ∧ n' ≤ 2 * A.ln e + 10 ∧ n' + 3 * A.ln e ≤ 3 * n' + 1 ∧ B.n = A.n + 1 ∧ B.u = A.u + n' ∧ B.P l 1 = some A.n ∧ B.tg A.n = 204 ∧ B.ln A.n = n' ∧ B.gh A.n = 1000 + l ∧ (∀ i, i < A.ln e → B.P A.n i = A.P e i) ∧ xFrm (fun a => a = l) A B ∧ (∀ a, a < A.n → B.I a = A.I a)
theorem xgrown_frm {A : xA} {a n g : Nat} {S : Nat → Prop} : xFrm S A (xgrown A a n g) := by
  refine ⟨Nat.le_succ _, Nat.le_add_right _ _, fun b hb => ?_⟩
  have hbn := Nat.ne_of_lt hb
  refine ⟨⟨xu1_n hbn, xu1_n hbn, xu1_n hbn⟩, fun _ => ⟨xu1_n hbn, xu1_n hbn, ?_⟩⟩
  show xu1 (A.new 204 n n g).P A.n _ b = _
  rw [xu1_n hbn]
  exact xu1_n hbn
theorem xgrown_P {A : xA} {a n g i : Nat} (ha : a < A.n) (hi : i < A.ln a) : (xgrown A a n g).P A.n i = A.P a i := by
  show xu1 (A.new 204 n n g).P A.n _ A.n i = _
  rw [xu1_s, pk_cpy_in (Nat.zero_le _) (by omega)]
  show xu1 A.P A.n _ a (0 + (i - 0)) = _
  rw [xu1_n (Nat.ne_of_lt ha), Nat.zero_add, Nat.sub_zero]
theorem xgrew_of {A : xA} {l e n' : Nat} (hl : l < A.n) (he : e < A.n) (h1 : A.ln e < n') (h2 : n' ≤ 2 * A.ln e + 10) (h3 : n' + 3 * A.ln e ≤ 3 * n' + 1) : xGrew G A l e ((xgrown A e n' (1000 + l)).setP l 1 (some A.n)) := by
  have hln : A.n ≠ l := fun q => absurd hl (by rw [q]; exact Nat.lt_irrefl _)
  refine ⟨n', h1, h2, h3, rfl, rfl, xup_s, xu1_s, xu1_s, xu1_s, fun i hi => ?_, xFrm.trans xgrown_frm (xFrm.setP rfl), fun a ha => xu1_n (Nat.ne_of_lt ha)⟩
  show xup (xgrown A e n' (1000 + l)).P l 1 (some A.n) A.n i = _
  rw [xup_a hln]
  exact xgrown_P he hi
theorem xgrew0 {A : xA} {l e : Nat} (hl : l < A.n) (h0 : A.ln e = 0) : xGrew G A l e ((A.new 204 10 10 (1000 + l)).setP l 1 (some A.n)) := by
  refine ⟨10, by omega, by omega, by omega, rfl, rfl, xup_s, xu1_s, xu1_s, xu1_s, fun i hi => absurd hi (by omega), xFrm.trans xFrm.new (xFrm.setP rfl), fun a ha => xu1_n (Nat.ne_of_lt ha)⟩
theorem m_J5_grow_20 (hG : xOK G) (hC : xCO G) {d : Nat} {A : xA} {l : Nat} (ht : A.tg l = 37) (hN : G.N ≤ l) (he : A.P l 1 = some (G.cs 0)) (hc1 : A.n + 1 ≤ G.N + 386503) (hc2 : A.u + 10 ≤ hU G.z.heap + 7941971) : MX G (d + 1) kJ5_grow_2 [.ref l, .int 1] A (fun o B => o = .returned (some (.ref A.n)) ∧ xGrew G A l (G.cs 0) B) := by
  refine MX.wf fun hw ho => ?_
  have hte : A.tg (G.cs 0) = 204 := (ho _ hC.1.2.1).1.trans hC.1.2.2.1
  have h0 : A.ln (G.cs 0) = 0 := (ho _ hC.1.2.1).2.1.trans hC.1.2.2.2
  have hl := hw.lt ht
  have htl : (A.new 204 10 10 (1000 + l)).tg l = 37 := xnew_old hl ht
  refine MX.of rfl (Nat.le_of_ble_eq_true rfl) ?_
  change X _ _ _ _ _ _ [some (.ref l), some (.int 1), none, none] _
  refine x_aload_n dJ5_grow_2_0 rfl ?_
  refine x_get (v := .ref (G.cs 0)) hG dJ5_grow_2_1 f_J5_9_36 ht (congrArg va_rf he) ?_
  refine x_alen hG (j := 4) dJ5_grow_2_4 hte ?_
  refine x_istore_n dJ5_grow_2_5 (by decide) ?_
  refine x_iload_n dJ5_grow_2_6 rfl ?_
  refine x_if_gt (tgt := 20) dJ5_grow_2_7 (by decide) (fun c7 => absurd c7 (by rw [h0]; decide)) (fun c7 => ?_)
  refine x_aload_n dJ5_grow_2_10 rfl ?_
  refine x_get (v := .ref (G.cs 0)) hG dJ5_grow_2_11 f_J5_9_36 ht (congrArg va_rf he) ?_
  refine x_gets hG hC.1.1 (Or.inl q465) (Or.inl rfl) dJ5_grow_2_14 ?_
  refine x_acmp_eq (ry := some _) (rx := some _) (tgt := 45) dJ5_grow_2_17 (by decide) (fun c17 => ?_) (fun c17 => absurd rfl c17)
  refine x_aload_n dJ5_grow_2_45 rfl ?_
  refine x_bipush_ (v := 10) dJ5_grow_2_46 (by decide) ?_
  refine x_iload_n dJ5_grow_2_48 rfl ?_
  refine x_callS hG (Ky := kJ11_max) (As := [_, _]) dJ5_grow_2_49 lk_J5_79 me_J11_max st_J11_max rfl rfl (Nat.le_of_ble_eq_true rfl) (MX.post (m_J11_max hG) ?_)
  rintro _ _ ⟨rfl, rfl⟩
  change X _ _ _ _ _ _ _ (_ :: _)
  refine x_topi (fun y ey => ?_)
  have ey : y = nI 10 := by rw [ey]; decide
  subst ey
  refine x_anew hG (1000 + l) (j := 4) (N := 10) dJ5_grow_2_52 (by decide) rfl (by decide) (by decide) (by decide) hc1 hc2 q1220 q1221 ?_
  refine x_dup_x1 dJ5_grow_2_55 rfl rfl ?_
  refine x_put hG dJ5_grow_2_56 f_J5_9_36 ⟨_, rfl, Or.inl rfl⟩ htl hN rfl rfl (Or.inr ⟨_, rfl⟩) ?_
  refine x_aret (r := some _) dJ5_grow_2_59 rfl (Or.inr ⟨_, rfl⟩) ?_
  refine ⟨rfl, ?_⟩
  exact xgrew0 hl h0
theorem xnewlen {c : Nat} (hc : c < 2097152) : nI c + (if (nI (c + 1) - nI c) < nI c >>> ((1 : Int32) &&& 31) then nI c >>> ((1 : Int32) &&& 31) else (nI (c + 1) - nI c)) = nI (c + max 1 (c / 2)) := by
  have e1 : nI (c + 1) - nI c = nI 1 := by rw [pk_sub (by omega)]; congr 1; omega
  have e2 : nI c >>> ((1 : Int32) &&& 31) = nI (c / 2) := by rw [pk_shrN (by omega) _ 1 (by decide)]
  rw [e1, e2]
  by_cases h : 1 < c / 2
  · rw [if_pos ((nI_ltI (by omega) (by omega)).mpr h), nI_add]
    congr 1
    omega
  · rw [if_neg (fun q => h ((nI_ltI (by omega) (by omega)).mp q)), nI_add]
    congr 1
    omega
theorem m_J5_grow_21 (hG : xOK G) (hC : xCO G) {d : Nat} {A : xA} {l e : Nat} (ht : A.tg l = 37) (hN : G.N ≤ l) (he : A.P l 1 = some e) (hte : A.tg e = 204) (hc : A.ln e < 2097152) (hne : 0 < A.ln e ∨ e ≠ G.cs 0) (hex : G.N ≤ e ∨ va_O "[Ljava/lang/Object;" e (fun q => G.N ≤ q) G.z G.z.heap) (hNn : G.N ≤ A.n) (hc1 : A.n + 1 ≤ G.N + 386503) (hc2' : A.u + (2 * A.ln e + 10) ≤ hU G.z.heap + 7941971) (hel : ∀ i : Nat, i < A.ln e → ∀ y, A.P e i = some y → xEl A y) : MX G (d + 3) kJ5_grow_2 [.ref l, .int (nI (A.ln e + 1))] A (fun o B => o = .returned (some (.ref A.n)) ∧ xGrew G A l e B) := by
  refine MX.wf fun hw ho => ?_
  have hl := hw.lt ht
  have hel0 := hw.lt hte
  have hnl := xnewlen hc
  generalize hn' : A.ln e + max 1 (A.ln e / 2) = n' at hnl
  have hb1 : A.ln e < n' := by omega
  have hb2 : n' ≤ 2 * A.ln e + 10 := by omega
  have hb3 : n' + 3 * A.ln e ≤ 3 * n' + 1 := by omega
  have hn1 : A.ln e ≤ n' := by omega
  have hn2 : n' < 4194304 := by omega
  have hc2 : A.u + n' ≤ hU G.z.heap + 7941971 := by omega
  have hnl1 : ¬ nI (A.ln e) + (if (nI (A.ln e + 1) - nI (A.ln e)) < nI (A.ln e) >>> ((1 : Int32) &&& 31) then nI (A.ln e) >>> ((1 : Int32) &&& 31) else (nI (A.ln e + 1) - nI (A.ln e))) ≤ 0 := by rw [hnl]; exact nI_nle (by omega) (by omega)
  have hnl2 : ¬ (2147483639 : Int32) < nI (A.ln e) + (if (nI (A.ln e + 1) - nI (A.ln e)) < nI (A.ln e) >>> ((1 : Int32) &&& 31) then nI (A.ln e) >>> ((1 : Int32) &&& 31) else (nI (A.ln e + 1) - nI (A.ln e))) := by
    rw [hnl]
    exact nI_nlt (a := 2147483639) (by omega) (by omega)
  have htl : (xgrown A e n' (1000 + l)).tg l = 37 := (xu1_n (Nat.ne_of_lt hl)).trans ht
  by_cases hz : 0 < A.ln e
  · refine MX.of rfl (Nat.le_of_ble_eq_true rfl) ?_
    change X _ _ _ _ _ _ [some (.ref l), some (.int (nI (A.ln e + 1))), none, none] _
    refine x_aload_n dJ5_grow_2_0 rfl ?_
    refine x_get (v := .ref e) hG dJ5_grow_2_1 f_J5_9_36 ht (congrArg va_rf he) ?_
    refine x_alen hG (j := 4) dJ5_grow_2_4 hte ?_
    refine x_istore_n dJ5_grow_2_5 (by decide) ?_
    refine x_iload_n dJ5_grow_2_6 rfl ?_
    refine x_if_gt (tgt := 20) dJ5_grow_2_7 (by decide) (fun c7 => ?_) (fun c7 => absurd (nI_lt hz (by omega)) c7)
    refine x_iload_n dJ5_grow_2_20 rfl ?_
    refine x_iload_n dJ5_grow_2_21 rfl ?_
    refine x_iload_n dJ5_grow_2_22 rfl ?_
    refine x_isub dJ5_grow_2_23 ?_
    refine x_iload_n dJ5_grow_2_24 rfl ?_
    refine x_iconst_ (v := 1) dJ5_grow_2_25 (by decide) ?_
    refine x_ishr dJ5_grow_2_26 ?_
    refine x_callS hG (Ky := kJ10_newLength) (As := [_, _, _]) dJ5_grow_2_27 lk_J5_73 me_J10_newLength st_J10_newLength rfl rfl (Nat.le_of_ble_eq_true rfl) (MX.post (m_J10_newLength hG hnl1 hnl2) ?_)
    rintro _ _ ⟨rfl, rfl⟩
    change X _ _ _ _ _ _ _ (_ :: _)
    refine x_topi (fun y ey => ?_)
    rw [hnl] at ey
    subst ey
    refine x_istore_n dJ5_grow_2_30 (by decide) ?_
    refine x_aload_n dJ5_grow_2_31 rfl ?_
    refine x_aload_n dJ5_grow_2_32 rfl ?_
    refine x_get (v := .ref e) hG dJ5_grow_2_33 f_J5_9_36 ht (congrArg va_rf he) ?_
    refine x_iload_n dJ5_grow_2_36 rfl ?_
    refine x_callS hG (Ky := kJ12_copyOf) (As := [_, _]) dJ5_grow_2_37 lk_J5_66 me_J12_copyOf st_J12_copyOf rfl rfl (Nat.le_of_ble_eq_true rfl) (MX.post (m_J12_copyOf hG hC (1000 + l) hte hex hNn hn1 hn2 hc1 hc2 hel) ?_)
    rintro _ _ ⟨rfl, rfl⟩
    change X _ _ _ _ _ _ _ (_ :: _)
    refine x_dup_x1 dJ5_grow_2_40 rfl rfl ?_
    refine x_put hG dJ5_grow_2_41 f_J5_9_36 ⟨_, rfl, Or.inl rfl⟩ htl hN rfl rfl (Or.inr ⟨_, rfl⟩) ?_
    refine x_aret (r := some _) dJ5_grow_2_44 rfl (Or.inr ⟨_, rfl⟩) ?_
    refine ⟨rfl, ?_⟩
    exact xgrew_of hl hel0 hb1 hb2 hb3
  · refine MX.of rfl (Nat.le_of_ble_eq_true rfl) ?_
    change X _ _ _ _ _ _ [some (.ref l), some (.int (nI (A.ln e + 1))), none, none] _
    refine x_aload_n dJ5_grow_2_0 rfl ?_
    refine x_get (v := .ref e) hG dJ5_grow_2_1 f_J5_9_36 ht (congrArg va_rf he) ?_
    refine x_alen hG (j := 4) dJ5_grow_2_4 hte ?_
    refine x_istore_n dJ5_grow_2_5 (by decide) ?_
    refine x_iload_n dJ5_grow_2_6 rfl ?_
    refine x_if_gt (tgt := 20) dJ5_grow_2_7 (by decide) (fun c7 => absurd c7 (by rw [show A.ln e = 0 by omega]; decide)) (fun c7 => ?_)
    refine x_aload_n dJ5_grow_2_10 rfl ?_
    refine x_get (v := .ref e) hG dJ5_grow_2_11 f_J5_9_36 ht (congrArg va_rf he) ?_
    refine x_gets hG hC.1.1 (Or.inl q465) (Or.inl rfl) dJ5_grow_2_14 ?_
    refine x_acmp_eq (ry := some _) (rx := some _) (tgt := 45) dJ5_grow_2_17 (by decide) (fun c17 => absurd c17 (fun q => (hne.resolve_left hz) (Option.some.inj q))) (fun c17 => ?_)
    refine x_iload_n dJ5_grow_2_20 rfl ?_
    refine x_iload_n dJ5_grow_2_21 rfl ?_
    refine x_iload_n dJ5_grow_2_22 rfl ?_
    refine x_isub dJ5_grow_2_23 ?_
    refine x_iload_n dJ5_grow_2_24 rfl ?_
    refine x_iconst_ (v := 1) dJ5_grow_2_25 (by decide) ?_
    refine x_ishr dJ5_grow_2_26 ?_
    refine x_callS hG (Ky := kJ10_newLength) (As := [_, _, _]) dJ5_grow_2_27 lk_J5_73 me_J10_newLength st_J10_newLength rfl rfl (Nat.le_of_ble_eq_true rfl) (MX.post (m_J10_newLength hG hnl1 hnl2) ?_)
    rintro _ _ ⟨rfl, rfl⟩
    change X _ _ _ _ _ _ _ (_ :: _)
    refine x_topi (fun y ey => ?_)
    rw [hnl] at ey
    subst ey
    refine x_istore_n dJ5_grow_2_30 (by decide) ?_
    refine x_aload_n dJ5_grow_2_31 rfl ?_
    refine x_aload_n dJ5_grow_2_32 rfl ?_
    refine x_get (v := .ref e) hG dJ5_grow_2_33 f_J5_9_36 ht (congrArg va_rf he) ?_
    refine x_iload_n dJ5_grow_2_36 rfl ?_
    refine x_callS hG (Ky := kJ12_copyOf) (As := [_, _]) dJ5_grow_2_37 lk_J5_66 me_J12_copyOf st_J12_copyOf rfl rfl (Nat.le_of_ble_eq_true rfl) (MX.post (m_J12_copyOf hG hC (1000 + l) hte hex hNn hn1 hn2 hc1 hc2 hel) ?_)
    rintro _ _ ⟨rfl, rfl⟩
    change X _ _ _ _ _ _ _ (_ :: _)
    refine x_dup_x1 dJ5_grow_2_40 rfl rfl ?_
    refine x_put hG dJ5_grow_2_41 f_J5_9_36 ⟨_, rfl, Or.inl rfl⟩ htl hN rfl rfl (Or.inr ⟨_, rfl⟩) ?_
    refine x_aret (r := some _) dJ5_grow_2_44 rfl (Or.inr ⟨_, rfl⟩) ?_
    refine ⟨rfl, ?_⟩
    exact xgrew_of hl hel0 hb1 hb2 hb3
end J5c
