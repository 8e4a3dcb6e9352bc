/-! ===== java.util.ArrayList: growing, adding ===== -/
set_option maxRecDepth 100000
theorem q227 : (Jvm.Cond.initialized "java/lang/System") ∈ lw_all := lw_g (lw_at lw_m1 31 rfl) rfl
theorem q1309 : (Jvm.Cond.static ({ cls := "java/lang/System", name := "arraycopy", desc := "(Ljava/lang/Object;ILjava/lang/Object;II)V" } : Jvm.MethodName)) ∈ lw_all := lw_g (lw_at lw_m5 153 rfl) rfl
theorem q1310 : (Jvm.Cond.native ({ cls := "java/lang/System", name := "arraycopy", desc := "(Ljava/lang/Object;ILjava/lang/Object;II)V" } : Jvm.MethodName)) ∈ lw_all := lw_g (lw_at lw_m5 154 rfl) rfl
theorem q1258 : (Jvm.Cond.instanceMethod ({ cls := "java/lang/Object", name := "getClass", desc := "()Ljava/lang/Class;" } : Jvm.MethodName)) ∈ lw_all := lw_g (lw_at lw_m5 102 rfl) rfl
theorem q1299 : (Jvm.Cond.native ({ cls := "java/lang/Object", name := "getClass", desc := "()Ljava/lang/Class;" } : Jvm.MethodName)) ∈ lw_all := lw_g (lw_at lw_m5 143 rfl) rfl
theorem q3728 : (Jvm.Cond.declares ({ cls := "java/lang/Object", name := "getClass", desc := "()Ljava/lang/Class;" } : Jvm.MethodName)) ∈ lw_tbl := lw_at lw_m15 172 rfl
theorem q3727 : (Jvm.Cond.selects "[Ljava/lang/Object;" ({ cls := "java/lang/Object", name := "getClass", desc := "()Ljava/lang/Class;" } : Jvm.MethodName) ({ cls := "java/lang/Object", name := "getClass", desc := "()Ljava/lang/Class;" } : Jvm.MethodName)) ∈ lw_all := lw_g (lw_at lw_m15 171 rfl) rfl
section J5b
variable {G : xG}
theorem m_J11_max (hG : xOK G) {d : Nat} {A : xA} {a b : Int32} : MX G d kJ11_max [.int a, .int b] A (xIs (some (.int (if a < b then b else a))) A) := by
  refine MX.of (by decide +kernel) (Nat.le_of_ble_eq_true rfl) ?_
  change X _ _ _ _ _ _ [some (.int a), some (.int b)] _
  refine x_iload_n dJ11_max_0 rfl ?_
  refine x_iload_n dJ11_max_1 rfl ?_
  refine x_icmp_lt (tgt := 9) dJ11_max_2 (by decide) (fun c2 => ?_) (fun c2 => ?_)
  · refine x_iload_n dJ11_max_9 rfl ?_
    refine x_iret dJ11_max_10 rfl ?_
    exact ⟨by simp [c2], rfl⟩
  · refine x_iload_n dJ11_max_5 rfl ?_
    refine x_goto (tgt := 10) dJ11_max_6 (by decide) ?_
    refine x_iret dJ11_max_10 rfl ?_
    exact ⟨by simp [c2], rfl⟩
theorem m_J11_min (hG : xOK G) {d : Nat} {A : xA} {a b : Int32} : MX G d kJ11_min [.int a, .int b] A (xIs (some (.int (if b < a then b else a))) A) := by
  refine MX.of (by decide +kernel) (Nat.le_of_ble_eq_true rfl) ?_
  change X _ _ _ _ _ _ [some (.int a), some (.int b)] _
  refine x_iload_n dJ11_min_0 rfl ?_
  refine x_iload_n dJ11_min_1 rfl ?_
  refine x_icmp_gt (tgt := 9) dJ11_min_2 (by decide) (fun c2 => ?_) (fun c2 => ?_)
  · refine x_iload_n dJ11_min_9 rfl ?_
    refine x_iret dJ11_min_10 rfl ?_
    exact ⟨by simp [c2], rfl⟩
  · refine x_iload_n dJ11_min_5 rfl ?_
    refine x_goto (tgt := 10) dJ11_min_6 (by decide) ?_
    refine x_iret dJ11_min_10 rfl ?_
    exact ⟨by simp [c2], rfl⟩
theorem m_J10_newLength (hG : xOK G) {d : Nat} {A : xA} {a b p : Int32} (h1 : ¬ a + (if b < p then p else b) ≤ 0) (h2 : ¬ 2147483639 < a + (if b < p then p else b)) : MX G (d + 1) kJ10_newLength [.int a, .int b, .int p] A (xIs (some (.int (a + (if b < p then p else b)))) A) := by
  refine MX.of rfl (Nat.le_of_ble_eq_true rfl) ?_
  change X _ _ _ _ _ _ [some (.int a), some (.int b), some (.int p), none] _
  refine x_iload_n dJ10_newLength_0 rfl ?_
  refine x_iload_n dJ10_newLength_1 rfl ?_
  refine x_iload_n dJ10_newLength_2 rfl ?_
  refine x_callS hG (Ky := kJ11_max) (As := [_, _]) dJ10_newLength_3 lk_J10_194 me_J11_max st_J11_max rfl rfl (Nat.le_of_ble_eq_true rfl) (MX.post (m_J11_max hG) ?_)
  rintro _ _ ⟨rfl, rfl⟩
  change X _ _ _ _ _ _ _ (_ :: _)
  refine x_iadd dJ10_newLength_6 ?_
  refine x_istore_n dJ10_newLength_7 (by decide) ?_
  refine x_iconst_ (v := 0) dJ10_newLength_8 (by decide) ?_
  refine x_iload_n dJ10_newLength_9 rfl ?_
  refine x_icmp_ge (tgt := 21) dJ10_newLength_10 (by decide) (fun c10 => absurd c10 h1) (fun c10 => ?_)
  refine x_iload_n dJ10_newLength_13 rfl ?_
  refine x_ldc hG dJ10_newLength_14 q1250 ?_
  refine x_icmp_gt (tgt := 21) dJ10_newLength_16 (by decide) (fun c16 => absurd c16 h2) (fun c16 => ?_)
  refine x_iload_n dJ10_newLength_19 rfl ?_
  refine x_iret dJ10_newLength_20 rfl ?_
  exact ⟨rfl, rfl⟩
/-- a longer array with the same beginning -/
def xgrown (A : xA) (a n g : Nat) : xA := (A.new 204 n n g).wP (xu1 (A.new 204 n n g).P A.n (va_cpy ((A.new 204 n n g).P a) ((A.new 204 n n g).P A.n) 0 0 (A.ln a)))
theorem m_J12_copyOf_2 (hG : xOK G) (hC : xCO G) {d : Nat} {A : xA} {a n : Nat} (g : Nat) (hta : A.tg a = 204) (hN : G.N ≤ A.n) (hn : A.ln a ≤ n) (hn2 : n < 4194304) (hc1 : A.n + 1 ≤ G.N + 386503) (hc2 : A.u + n ≤ hU G.z.heap + 7941971) (hel0 : ∀ i : Nat, i < A.ln a → ∀ y, A.P a i = some y → xEl A y) : MX G (d + 1) kJ12_copyOf_2 [.ref a, .int (nI n), .ref (G.cs 2)] A (xIs (some (.ref A.n)) (xgrown A a n g)) := by
  refine MX.wf fun hw _ => ?_
  have hla := hw.lt hta
  have hta1 : (A.new 204 n n g).tg a = 204 := xnew_old hla hta
  have htm : (A.new 204 n n g).tg A.n = 204 := xu1_s
  have hNm : G.N ≤ A.n := hN
  have hln : (A.new 204 n n g).ln a = A.ln a := xu1_n (Nat.ne_of_lt hla)
  have hlm : (A.new 204 n n g).ln A.n = n := xu1_s
  have hPa : (A.new 204 n n g).P a = A.P a := xu1_n (Nat.ne_of_lt hla)
  have hel : ∀ i : Nat, i < (nI (A.ln a)).toNatClampNeg → ∀ y : Nat, (A.new 204 n n g).P a ((0 : Int32).toNatClampNeg + i) = some y → xEl (A.new 204 n n g) y := by
    intro i hi y hy
    rw [nI_clamp (by omega)] at hi
    rw [hPa, show (0 : Int32).toNatClampNeg = 0 from rfl, Nat.zero_add] at hy
    exact xEl.mono (S := fun _ => False) xFrm.new hw (hel0 i hi y hy)
  refine MX.of rfl (Nat.le_of_ble_eq_true rfl) ?_
  change X _ _ _ _ _ _ [some (.ref a), some (.int (nI n)), some (.ref (G.cs 2)), none] _
  refine x_aload_n dJ12_copyOf_2_0 rfl ?_
  refine x_ldcM hG q1303 hC.2.2 dJ12_copyOf_2_1 ?_
  refine x_acmp_ne (ry := some _) (rx := some _) (tgt := 13) dJ12_copyOf_2_3 (by decide) (fun c3 => absurd rfl c3) (fun c3 => ?_)
  refine x_iload_n dJ12_copyOf_2_6 rfl ?_
  refine x_anew hG g (j := 4) (N := n) dJ12_copyOf_2_7 (by decide) rfl (nI_pos (by omega)) (nI_clamp (by omega)) (by omega) hc1 hc2 q1304 q1221 ?_
  refine x_goto (tgt := 24) dJ12_copyOf_2_10 (by decide) ?_
  refine x_astore_n dJ12_copyOf_2_24 (by decide) ?_
  refine x_aload_n dJ12_copyOf_2_25 rfl ?_
  refine x_iconst_ (v := 0) dJ12_copyOf_2_26 (by decide) ?_
  refine x_aload_n dJ12_copyOf_2_27 rfl ?_
  refine x_iconst_ (v := 0) dJ12_copyOf_2_28 (by decide) ?_
  refine x_aload_n dJ12_copyOf_2_29 rfl ?_
  refine x_alen hG (j := 4) dJ12_copyOf_2_30 hta1 ?_
  refine x_iload_n dJ12_copyOf_2_31 rfl ?_
  refine x_callS hG (Ky := kJ11_min) (As := [_, _]) dJ12_copyOf_2_32 lk_J12_304 me_J11_min st_J11_min rfl rfl (Nat.le_of_ble_eq_true rfl) (MX.post (m_J11_min hG) ?_)
  rintro _ _ ⟨rfl, rfl⟩
  change X _ _ _ _ _ _ _ (_ :: _)
  refine x_topi (fun y ey => ?_)
  have ey : y = nI (A.ln a) := by
    rw [ey, if_neg (nI_nlt (by rw [hln]; exact hn) (by omega)), hln]
  subst ey
  refine x_copy hG (a := A.n) (a0 := a) hta1 htm hNm q1308 q1310 q1309 q227 (by decide) (by decide) (nI_pos (by omega)) (by rw [nI_clamp (by omega), hln]; exact Nat.le_of_eq (Nat.zero_add _)) (by rw [nI_clamp (by omega), hlm]; show 0 + _ ≤ n; omega) hel (Nat.le_of_ble_eq_true rfl) dJ12_copyOf_2_35 ?_
  refine x_aload_n dJ12_copyOf_2_38 rfl ?_
  refine x_aret (r := some _) dJ12_copyOf_2_39 rfl (Or.inr ⟨_, rfl⟩) ?_
  refine ⟨rfl, ?_⟩
  unfold xgrown
  rw [nI_clamp (by omega)]
  rfl
theorem m_J12_copyOf (hG : xOK G) (hC : xCO G) {d : Nat} {A : xA} {a n : Nat} (g : Nat) (hta : A.tg a = 204) (hex : G.N ≤ a ∨ va_O "[Ljava/lang/Object;" a (fun q => G.N ≤ q) G.z G.z.heap) (hN : G.N ≤ A.n) (hn : A.ln a ≤ n) (hn2 : n < 4194304) (hc1 : A.n + 1 ≤ G.N + 386503) (hc2 : A.u + n ≤ hU G.z.heap + 7941971) (hel0 : ∀ i : Nat, i < A.ln a → ∀ y, A.P a i = some y → xEl A y) : MX G (d + 2) kJ12_copyOf [.ref a, .int (nI n)] A (xIs (some (.ref A.n)) (xgrown A a n g)) := by
  refine MX.of rfl (Nat.le_of_ble_eq_true rfl) ?_
  change X _ _ _ _ _ _ [some (.ref a), some (.int (nI n))] _
  refine x_aload_n dJ12_copyOf_0 rfl ?_
  refine x_iload_n dJ12_copyOf_1 rfl ?_
  refine x_aload_n dJ12_copyOf_2 rfl ?_
  refine x_getC hG (a := a) hta hex q1257 q3728 q3727 q1258 q1299 hC.2.2 (Nat.le_of_ble_eq_true rfl) dJ12_copyOf_3 ?_
  refine x_callS hG (Ky := kJ12_copyOf_2) (As := [_, _, _]) dJ12_copyOf_6 lk_J12_300 me_J12_copyOf_2 st_J12_copyOf_2 rfl rfl (Nat.le_of_ble_eq_true rfl) (MX.post (m_J12_copyOf_2 hG hC g hta hN hn hn2 hc1 hc2 hel0) ?_)
  rintro _ _ ⟨rfl, rfl⟩
  change X _ _ _ _ _ _ _ (_ :: _)
  refine x_aret (r := some _) dJ12_copyOf_9 rfl (Or.inr ⟨_, rfl⟩) ?_
  exact ⟨rfl, rfl⟩
end J5b
