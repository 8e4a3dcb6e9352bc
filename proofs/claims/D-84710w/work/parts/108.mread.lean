/-! ===== 108.mread (tools/w030.py) ===== -/
set_option maxRecDepth 100000
section W108
variable {G : xG}
def w_X13_placeIn (m : Nat) (r : Nat) (f : Int32) (n : Int32) (Q : Int32 → xII → Prop) (I : xII) : Prop := ∃ L1 : Nat → Int32 → Int32 → xII → Prop, (∃ n1 : Nat, L1 n1 (1 : Int32) (0 : Int32) I) ∧ (∀ (n1 : Nat) (y1_4 : Int32) (y1_5 : Int32) (I1 : xII), L1 n1 y1_4 y1_5 I1 → r < 63 ∧ ((((nI (strB r).length) ≤ y1_4 → Q (-1 : Int32) I1) ∧ (¬ (nI (strB r).length) ≤ y1_4 → ∃ L3 : Nat → Int32 → xII → Prop, (∃ n3 : Nat, L3 n3 (0 : Int32) I1) ∧ (∀ (n3 : Nat) (y3_6 : Int32) (I3 : xII), L3 n3 y3_6 I3 → vp_in (y1_4 + y3_6) (strB r).length ∧ (∃ J5 : xII → Prop, (∀ (I5 : xII), J5 I5 → ((y3_6 = n → (((strC r (ix (y1_4 + y3_6))) = (32 : Int32) → Q y1_5 I5) ∧ (¬ (strC r (ix (y1_4 + y3_6))) = (32 : Int32) → ∃ L8 : Nat → Int32 → xII → Prop, (∃ n8 : Nat, L8 n8 y1_4 I5) ∧ (∀ (n8 : Nat) (y8_4 : Int32) (I8 : xII), L8 n8 y8_4 I8 → vp_in y8_4 (strB r).length ∧ ((((strC r (ix y8_4)) = (32 : Int32) → (∃ q1 : Nat, q1 < n1 ∧ L1 q1 (y8_4 + (1 : Int32)) (y1_5 + (1 : Int32)) I8)) ∧ (¬ (strC r (ix y8_4)) = (32 : Int32) → (∃ q8 : Nat, q8 < n8 ∧ L8 q8 (y8_4 + (1 : Int32)) I8)))))))) ∧ (¬ y3_6 = n → ∃ L6 : Nat → Int32 → xII → Prop, (∃ n6 : Nat, L6 n6 y1_4 I5) ∧ (∀ (n6 : Nat) (y6_4 : Int32) (I6 : xII), L6 n6 y6_4 I6 → vp_in y6_4 (strB r).length ∧ ((((strC r (ix y6_4)) = (32 : Int32) → (∃ q1 : Nat, q1 < n1 ∧ L1 q1 (y6_4 + (1 : Int32)) (y1_5 + (1 : Int32)) I6)) ∧ (¬ (strC r (ix y6_4)) = (32 : Int32) → (∃ q6 : Nat, q6 < n6 ∧ L6 q6 (y6_4 + (1 : Int32)) I6)))))))) ∧ (((strC r (ix (y1_4 + y3_6))) = (32 : Int32) → J5 I3) ∧ (¬ (strC r (ix (y1_4 + y3_6))) = (32 : Int32) → ((n ≤ y3_6 → J5 I3) ∧ (¬ n ≤ y3_6 → ∃ R10 : Int32 → xII → Prop, w_X13_at m (f + y3_6) R10 I3 ∧ (∀ (v10 : Int32) (I10 : xII), R10 v10 I10 → ((((strC r (ix (y1_4 + y3_6))) = v10 → (∃ q3 : Nat, q3 < n3 ∧ L3 q3 (y3_6 + (1 : Int32)) I10)) ∧ (¬ (strC r (ix (y1_4 + y3_6))) = v10 → J5 I10))))))))))))))
theorem m_X13_placeIn (hG : xOK G) (hO : xHO G) {dp : Nat} {A : xA} {m : Nat} (hM : xMo G A m) {r : Nat} {f : Int32} {n : Int32} {Q : Int32 → xII → Prop} {I : xII} (h : w_X13_placeIn m r f n Q I) : MX G (dp + 5) kX13_placeIn [.ref m, .ref (G.cs (100 + r)), .int f, .int n] (A.wI I) (oI A Q) := by
  unfold w_X13_placeIn at h
  refine MX.of rfl (Nat.le_of_ble_eq_true rfl) ?_
  change X _ _ _ _ _ _ [some (.ref m), some (.ref (G.cs (100 + r))), some (.int f), some (.int n), none, none, none] _
  refine x_iconst_ (v := (1 : Int32)) dX13_placeIn_0 (by decide) ?_
  refine x_istore dX13_placeIn_1 (by decide) ?_
  refine x_iconst_ (v := (0 : Int32)) dX13_placeIn_3 (by decide) ?_
  refine x_istore dX13_placeIn_4 (by decide) ?_
  obtain ⟨L1, ⟨n1, i1⟩, g1⟩ := h
  have kl1 : ∀ n1 : Nat, ∀ (y1_4 : Int32) (y1_5 : Int32) (I1 : xII), L1 n1 y1_4 y1_5 I1 → X G (dp + 5) kX13_placeIn (oI A Q) (A.wI I1) 6 [some (.ref m), some (.ref (G.cs (100 + r))), some (.int f), some (.int n), some (.int y1_4), some (.int y1_5), none] [] := by
    intro n1
    induction n1 using Nat.strongRecOn with
    | ind n1 ih1 =>
      intro y1_4 y1_5 I1 h
      replace h := g1 n1 y1_4 y1_5 I1 h
      refine x_iload dX13_placeIn_6 rfl ?_
      refine x_aload_n dX13_placeIn_8 rfl ?_
      obtain ⟨o2, h⟩ := h
      refine x_callVO hG (Ky := kJ6_length) (As := []) dX13_placeIn_9 (str_oo hO o2) q3337 me_J6_length is_J6_length se_J6_length rfl rfl (Nat.le_of_ble_eq_true rfl) (MX.post (m_str_len hG hO o2) ?_)
      rintro _ _ ⟨rfl, rfl⟩
      change X _ _ _ _ _ _ _ (.int (nI (strB r).length) :: _)
      refine x_icmp_ge (tgt := 113) dX13_placeIn_12 (by decide) (fun c12 => ?_) (fun c12 => ?_)
      · replace h := h.1 c12
        refine x_iconst_ (v := (-1 : Int32)) dX13_placeIn_113 (by decide) ?_
        exact x_iret dX13_placeIn_114 rfl ⟨_, _, rfl, rfl, h⟩
      · replace h := h.2 c12
        refine x_iconst_ (v := (0 : Int32)) dX13_placeIn_15 (by decide) ?_
        refine x_istore dX13_placeIn_16 (by decide) ?_
        obtain ⟨L3, ⟨n3, i3⟩, g3⟩ := h
        have kl3 : ∀ n3 : Nat, ∀ (y3_6 : Int32) (I3 : xII), L3 n3 y3_6 I3 → X G (dp + 5) kX13_placeIn (oI A Q) (A.wI I3) 18 [some (.ref m), some (.ref (G.cs (100 + r))), some (.int f), some (.int n), some (.int y1_4), some (.int y1_5), some (.int y3_6)] [] := by
          intro n3
          induction n3 using Nat.strongRecOn with
          | ind n3 ih3 =>
            intro y3_6 I3 h
            replace h := g3 n3 y3_6 I3 h
            refine x_aload_n dX13_placeIn_18 rfl ?_
            refine x_iload dX13_placeIn_19 rfl ?_
            refine x_iload dX13_placeIn_21 rfl ?_
            refine x_iadd dX13_placeIn_23 ?_
            obtain ⟨o4, h⟩ := h
            refine x_callVO hG (Ky := kJ6_charAt) (As := [.int (y1_4 + y3_6)]) dX13_placeIn_24 (str_oo hO o2) q3338 me_J6_charAt is_J6_charAt se_J6_charAt rfl rfl (Nat.le_of_ble_eq_true rfl) (MX.post (m_str_at hG hO o2 o4) ?_)
            rintro _ _ ⟨rfl, rfl⟩
            change X _ _ _ _ _ _ _ (.int (strC r (ix (y1_4 + y3_6))) :: _)
            refine x_bipush_ (v := (32 : Int32)) dX13_placeIn_27 (by decide) ?_
            obtain ⟨J5, g5, h⟩ := h
            have kj5 : ∀ (I5 : xII), J5 I5 → X G (dp + 5) kX13_placeIn (oI A Q) (A.wI I5) 64 [some (.ref m), some (.ref (G.cs (100 + r))), some (.int f), some (.int n), some (.int y1_4), some (.int y1_5), some (.int y3_6)] [] := by
              intro I5 h
              replace h := g5 I5 h
              refine x_iload dX13_placeIn_64 rfl ?_
              refine x_iload_n dX13_placeIn_66 rfl ?_
              refine x_icmp_ne (tgt := 87) dX13_placeIn_67 (by decide) (fun c67 => ?_) (fun c67 => ?_)
              · replace h := h.2 c67
                obtain ⟨L6, ⟨n6, i6⟩, g6⟩ := h
                have kl6 : ∀ n6 : Nat, ∀ (y6_4 : Int32) (I6 : xII), L6 n6 y6_4 I6 → X G (dp + 5) kX13_placeIn (oI A Q) (A.wI I6) 87 [some (.ref m), some (.ref (G.cs (100 + r))), some (.int f), some (.int n), some (.int y6_4), some (.int y1_5), none] [] := by
                  intro n6
                  induction n6 using Nat.strongRecOn with
                  | ind n6 ih6 =>
                    intro y6_4 I6 h
                    replace h := g6 n6 y6_4 I6 h
                    refine x_aload_n dX13_placeIn_87 rfl ?_
                    refine x_iload dX13_placeIn_88 rfl ?_
                    obtain ⟨o7, h⟩ := h
                    refine x_callVO hG (Ky := kJ6_charAt) (As := [.int y6_4]) dX13_placeIn_90 (str_oo hO o2) q3338 me_J6_charAt is_J6_charAt se_J6_charAt rfl rfl (Nat.le_of_ble_eq_true rfl) (MX.post (m_str_at hG hO o2 o7) ?_)
                    rintro _ _ ⟨rfl, rfl⟩
                    change X _ _ _ _ _ _ _ (.int (strC r (ix y6_4)) :: _)
                    refine x_bipush_ (v := (32 : Int32)) dX13_placeIn_93 (by decide) ?_
                    refine x_icmp_eq (tgt := 104) dX13_placeIn_95 (by decide) (fun c95 => ?_) (fun c95 => ?_)
                    · replace h := h.1 c95
                      refine x_iinc (v := (y6_4 + (1 : Int32))) dX13_placeIn_104 rfl rfl (by decide) ?_
                      refine x_iinc (v := (y1_5 + (1 : Int32))) dX13_placeIn_107 rfl rfl (by decide) ?_
                      refine x_goto (tgt := 6) dX13_placeIn_110 (by decide) ?_
                      obtain ⟨q1, l1, h⟩ := h
                      change X _ _ _ _ _ _ [some (.ref m), some (.ref (G.cs (100 + r))), some (.int f), some (.int n), some (.int (y6_4 + (1 : Int32))), some (.int (y1_5 + (1 : Int32))), none] []
                      exact X.weak (xle_c rfl (xle_c rfl (xle_c rfl (xle_c rfl (xle_c rfl (xle_c rfl (xle_n xle_nil))))))) (ih1 q1 l1 (y6_4 + (1 : Int32)) (y1_5 + (1 : Int32)) I6 h)
                    · replace h := h.2 c95
                      refine x_iinc (v := (y6_4 + (1 : Int32))) dX13_placeIn_98 rfl rfl (by decide) ?_
                      refine x_goto (tgt := 87) dX13_placeIn_101 (by decide) ?_
                      obtain ⟨q6, l6, h⟩ := h
                      change X _ _ _ _ _ _ [some (.ref m), some (.ref (G.cs (100 + r))), some (.int f), some (.int n), some (.int (y6_4 + (1 : Int32))), some (.int y1_5), none] []
                      exact X.weak (xle_c rfl (xle_c rfl (xle_c rfl (xle_c rfl (xle_c rfl (xle_c rfl (xle_n xle_nil))))))) (ih6 q6 l6 (y6_4 + (1 : Int32)) I6 h)
                change X _ _ _ _ _ _ [some (.ref m), some (.ref (G.cs (100 + r))), some (.int f), some (.int n), some (.int y1_4), some (.int y1_5), some (.int y3_6)] []
                exact X.weak (xle_c rfl (xle_c rfl (xle_c rfl (xle_c rfl (xle_c rfl (xle_c rfl (xle_n xle_nil))))))) (kl6 n6 y1_4 I5 i6)
              · replace h := h.1 c67
                refine x_aload_n dX13_placeIn_70 rfl ?_
                refine x_iload dX13_placeIn_71 rfl ?_
                refine x_iload dX13_placeIn_73 rfl ?_
                refine x_iadd dX13_placeIn_75 ?_
                refine x_callVO hG (Ky := kJ6_charAt) (As := [.int (y1_4 + y3_6)]) dX13_placeIn_76 (str_oo hO o2) q3338 me_J6_charAt is_J6_charAt se_J6_charAt rfl rfl (Nat.le_of_ble_eq_true rfl) (MX.post (m_str_at hG hO o2 o4) ?_)
                rintro _ _ ⟨rfl, rfl⟩
                change X _ _ _ _ _ _ _ (.int (strC r (ix (y1_4 + y3_6))) :: _)
                refine x_bipush_ (v := (32 : Int32)) dX13_placeIn_79 (by decide) ?_
                refine x_icmp_ne (tgt := 87) dX13_placeIn_81 (by decide) (fun c81 => ?_) (fun c81 => ?_)
                · replace h := h.2 c81
                  obtain ⟨L8, ⟨n8, i8⟩, g8⟩ := h
                  have kl8 : ∀ n8 : Nat, ∀ (y8_4 : Int32) (I8 : xII), L8 n8 y8_4 I8 → X G (dp + 5) kX13_placeIn (oI A Q) (A.wI I8) 87 [some (.ref m), some (.ref (G.cs (100 + r))), some (.int f), some (.int n), some (.int y8_4), some (.int y1_5), none] [] := by
                    intro n8
                    induction n8 using Nat.strongRecOn with
                    | ind n8 ih8 =>
                      intro y8_4 I8 h
                      replace h := g8 n8 y8_4 I8 h
                      refine x_aload_n dX13_placeIn_87 rfl ?_
                      refine x_iload dX13_placeIn_88 rfl ?_
                      obtain ⟨o9, h⟩ := h
                      refine x_callVO hG (Ky := kJ6_charAt) (As := [.int y8_4]) dX13_placeIn_90 (str_oo hO o2) q3338 me_J6_charAt is_J6_charAt se_J6_charAt rfl rfl (Nat.le_of_ble_eq_true rfl) (MX.post (m_str_at hG hO o2 o9) ?_)
                      rintro _ _ ⟨rfl, rfl⟩
                      change X _ _ _ _ _ _ _ (.int (strC r (ix y8_4)) :: _)
                      refine x_bipush_ (v := (32 : Int32)) dX13_placeIn_93 (by decide) ?_
                      refine x_icmp_eq (tgt := 104) dX13_placeIn_95 (by decide) (fun c95 => ?_) (fun c95 => ?_)
                      · replace h := h.1 c95
                        refine x_iinc (v := (y8_4 + (1 : Int32))) dX13_placeIn_104 rfl rfl (by decide) ?_
                        refine x_iinc (v := (y1_5 + (1 : Int32))) dX13_placeIn_107 rfl rfl (by decide) ?_
                        refine x_goto (tgt := 6) dX13_placeIn_110 (by decide) ?_
                        obtain ⟨q1, l1, h⟩ := h
                        change X _ _ _ _ _ _ [some (.ref m), some (.ref (G.cs (100 + r))), some (.int f), some (.int n), some (.int (y8_4 + (1 : Int32))), some (.int (y1_5 + (1 : Int32))), none] []
                        exact X.weak (xle_c rfl (xle_c rfl (xle_c rfl (xle_c rfl (xle_c rfl (xle_c rfl (xle_n xle_nil))))))) (ih1 q1 l1 (y8_4 + (1 : Int32)) (y1_5 + (1 : Int32)) I8 h)
                      · replace h := h.2 c95
                        refine x_iinc (v := (y8_4 + (1 : Int32))) dX13_placeIn_98 rfl rfl (by decide) ?_
                        refine x_goto (tgt := 87) dX13_placeIn_101 (by decide) ?_
                        obtain ⟨q8, l8, h⟩ := h
                        change X _ _ _ _ _ _ [some (.ref m), some (.ref (G.cs (100 + r))), some (.int f), some (.int n), some (.int (y8_4 + (1 : Int32))), some (.int y1_5), none] []
                        exact X.weak (xle_c rfl (xle_c rfl (xle_c rfl (xle_c rfl (xle_c rfl (xle_c rfl (xle_n xle_nil))))))) (ih8 q8 l8 (y8_4 + (1 : Int32)) I8 h)
                  change X _ _ _ _ _ _ [some (.ref m), some (.ref (G.cs (100 + r))), some (.int f), some (.int n), some (.int y1_4), some (.int y1_5), some (.int y3_6)] []
                  exact X.weak (xle_c rfl (xle_c rfl (xle_c rfl (xle_c rfl (xle_c rfl (xle_c rfl (xle_n xle_nil))))))) (kl8 n8 y1_4 I5 i8)
                · replace h := h.1 c81
                  refine x_iload dX13_placeIn_84 rfl ?_
                  exact x_iret dX13_placeIn_86 rfl ⟨_, _, rfl, rfl, h⟩
            refine x_icmp_eq (tgt := 64) dX13_placeIn_29 (by decide) (fun c29 => ?_) (fun c29 => ?_)
            · replace h := h.1 c29
              change X _ _ _ _ _ _ [some (.ref m), some (.ref (G.cs (100 + r))), some (.int f), some (.int n), some (.int y1_4), some (.int y1_5), some (.int y3_6)] []
              exact X.weak (xle_c rfl (xle_c rfl (xle_c rfl (xle_c rfl (xle_c rfl (xle_c rfl (xle_c rfl xle_nil))))))) (kj5 I3 h)
            · replace h := h.2 c29
              refine x_iload dX13_placeIn_32 rfl ?_
              refine x_iload_n dX13_placeIn_34 rfl ?_
              refine x_icmp_ge (tgt := 64) dX13_placeIn_35 (by decide) (fun c35 => ?_) (fun c35 => ?_)
              · replace h := h.1 c35
                change X _ _ _ _ _ _ [some (.ref m), some (.ref (G.cs (100 + r))), some (.int f), some (.int n), some (.int y1_4), some (.int y1_5), some (.int y3_6)] []
                exact X.weak (xle_c rfl (xle_c rfl (xle_c rfl (xle_c rfl (xle_c rfl (xle_c rfl (xle_c rfl xle_nil))))))) (kj5 I3 h)
              · replace h := h.2 c35
                refine x_aload_n dX13_placeIn_38 rfl ?_
                refine x_iload dX13_placeIn_39 rfl ?_
                refine x_iload dX13_placeIn_41 rfl ?_
                refine x_iadd dX13_placeIn_43 ?_
                refine x_callVO hG (Ky := kJ6_charAt) (As := [.int (y1_4 + y3_6)]) dX13_placeIn_44 (str_oo hO o2) q3338 me_J6_charAt is_J6_charAt se_J6_charAt rfl rfl (Nat.le_of_ble_eq_true rfl) (MX.post (m_str_at hG hO o2 o4) ?_)
                rintro _ _ ⟨rfl, rfl⟩
                change X _ _ _ _ _ _ _ (.int (strC r (ix (y1_4 + y3_6))) :: _)
                refine x_aload_n dX13_placeIn_47 rfl ?_
                refine x_iload_n dX13_placeIn_48 rfl ?_
                refine x_iload dX13_placeIn_49 rfl ?_
                refine x_iadd dX13_placeIn_51 ?_
                obtain ⟨R10, g10, h⟩ := h
                refine x_callV hG (Ky := kX13_at) (As := [.int (f + y3_6)]) dX13_placeIn_52 (mo_t hM) rfl lk_X13_177 me_X13_at is_X13_at se_X13_at rfl rfl (Nat.le_of_ble_eq_true rfl) (MX.post (m_X13_at hG hM g10) ?_)
                rintro _ _ ⟨v10, I10, rfl, rfl, h1⟩
                replace h := h v10 I10 h1
                change X _ _ _ _ (A.wI I10) _ _ (.int v10 :: _)
                refine x_icmp_ne (tgt := 64) dX13_placeIn_55 (by decide) (fun c55 => ?_) (fun c55 => ?_)
                · replace h := h.2 c55
                  change X _ _ _ _ _ _ [some (.ref m), some (.ref (G.cs (100 + r))), some (.int f), some (.int n), some (.int y1_4), some (.int y1_5), some (.int y3_6)] []
                  exact X.weak (xle_c rfl (xle_c rfl (xle_c rfl (xle_c rfl (xle_c rfl (xle_c rfl (xle_c rfl xle_nil))))))) (kj5 I10 h)
                · replace h := h.1 c55
                  refine x_iinc (v := (y3_6 + (1 : Int32))) dX13_placeIn_58 rfl rfl (by decide) ?_
                  refine x_goto (tgt := 18) dX13_placeIn_61 (by decide) ?_
                  obtain ⟨q3, l3, h⟩ := h
                  change X _ _ _ _ _ _ [some (.ref m), some (.ref (G.cs (100 + r))), some (.int f), some (.int n), some (.int y1_4), some (.int y1_5), some (.int (y3_6 + (1 : Int32)))] []
                  exact X.weak (xle_c rfl (xle_c rfl (xle_c rfl (xle_c rfl (xle_c rfl (xle_c rfl (xle_c rfl xle_nil))))))) (ih3 q3 l3 (y3_6 + (1 : Int32)) I10 h)
        change X _ _ _ _ _ _ [some (.ref m), some (.ref (G.cs (100 + r))), some (.int f), some (.int n), some (.int y1_4), some (.int y1_5), some (.int (0 : Int32))] []
        exact X.weak (xle_c rfl (xle_c rfl (xle_c rfl (xle_c rfl (xle_c rfl (xle_c rfl (xle_c rfl xle_nil))))))) (kl3 n3 (0 : Int32) I1 i3)
  change X _ _ _ _ _ _ [some (.ref m), some (.ref (G.cs (100 + r))), some (.int f), some (.int n), some (.int (1 : Int32)), some (.int (0 : Int32)), none] []
  exact X.weak (xle_c rfl (xle_c rfl (xle_c rfl (xle_c rfl (xle_c rfl (xle_c rfl (xle_n xle_nil))))))) (kl1 n1 (1 : Int32) (0 : Int32) I i1)
def w_X13_wordToken (m : Nat) (k : Int32) (Q : Int32 → xII → Prop) (I : xII) : Prop := ∃ L1 : Nat → Int32 → xII → Prop, (∃ n1 : Nat, L1 n1 k I) ∧ (∀ (n1 : Nat) (y1_2 : Int32) (I1 : xII), L1 n1 y1_2 I1 → ∃ R2 : Int32 → xII → Prop, w_X13_at m y1_2 R2 I1 ∧ (∀ (v2 : Int32) (I2 : xII), R2 v2 I2 → ((((f_X13_isInner v2) = 0 → (((y1_2 - k) ≤ (16 : Int32) → ∃ R3 : Int32 → xII → Prop, w_X13_placeIn m 61 k (y1_2 - k) R3 I2 ∧ (∀ (v3 : Int32) (I3 : xII), R3 v3 I3 → (∃ J4 : Int32 → xII → Prop, (∀ (y4_s0 : Int32) (I4 : xII), J4 y4_s0 I4 → ∃ R5 : xII → Prop, w_X13_token m (if v3 = (-1 : Int32) then (1 : Int32) else (2 : Int32)) y4_s0 k R5 I4 ∧ (∀ I5 : xII, R5 I5 → (Q y1_2 I5))) ∧ ((v3 = (-1 : Int32) → ∃ R6 : Int32 → xII → Prop, w_X13_nameOf m k (y1_2 - k) R6 I3 ∧ (∀ (v6 : Int32) (I6 : xII), R6 v6 I6 → (J4 v6 I6))) ∧ (¬ v3 = (-1 : Int32) → J4 v3 I3))))) ∧ (¬ (y1_2 - k) ≤ (16 : Int32) → Q (-1 : Int32) I2))) ∧ (¬ (f_X13_isInner v2) = 0 → (∃ q1 : Nat, q1 < n1 ∧ L1 q1 (y1_2 + (1 : Int32)) I2))))))
theorem m_X13_wordToken (hG : xOK G) (hO : xHO G) {dp : Nat} {A : xA} {m : Nat} (hM : xMo G A m) {k : Int32} {Q : Int32 → xII → Prop} {I : xII} (h : w_X13_wordToken m k Q I) : MX G (dp + 6) kX13_wordToken [.ref m, .int k] (A.wI I) (oI A Q) := by
  unfold w_X13_wordToken at h
  refine MX.of rfl (Nat.le_of_ble_eq_true rfl) ?_
  change X _ _ _ _ _ _ [some (.ref m), some (.int k), none, none] _
  refine x_iload_n dX13_wordToken_0 rfl ?_
  refine x_istore_n dX13_wordToken_1 (by decide) ?_
  obtain ⟨L1, ⟨n1, i1⟩, g1⟩ := h
  have kl1 : ∀ n1 : Nat, ∀ (y1_2 : Int32) (I1 : xII), L1 n1 y1_2 I1 → X G (dp + 6) kX13_wordToken (oI A Q) (A.wI I1) 2 [some (.ref m), some (.int k), some (.int y1_2), none] [] := by
    intro n1
    induction n1 using Nat.strongRecOn with
    | ind n1 ih1 =>
      intro y1_2 I1 h
      replace h := g1 n1 y1_2 I1 h
      refine x_aload_n dX13_wordToken_2 rfl ?_
      refine x_iload_n dX13_wordToken_3 rfl ?_
      obtain ⟨R2, g2, h⟩ := h
      refine x_callV hG (Ky := kX13_at) (As := [.int y1_2]) dX13_wordToken_4 (mo_t hM) rfl lk_X13_177 me_X13_at is_X13_at se_X13_at rfl rfl (Nat.le_of_ble_eq_true rfl) (MX.post (m_X13_at hG hM g2) ?_)
      rintro _ _ ⟨v2, I2, rfl, rfl, h1⟩
      replace h := h v2 I2 h1
      change X _ _ _ _ (A.wI I2) _ _ (.int v2 :: _)
      refine x_callS hG (Ky := kX13_isInner) (As := [.int v2]) dX13_wordToken_7 lk_X13_212 me_X13_isInner st_X13_isInner rfl rfl (Nat.le_of_ble_eq_true rfl) (MX.post (m_X13_isInner hG) ?_)
      rintro _ _ ⟨rfl, rfl⟩
      change X _ _ _ _ _ _ _ (.int (f_X13_isInner v2) :: _)
      refine x_if_eq (tgt := 19) dX13_wordToken_10 (by decide) (fun c10 => ?_) (fun c10 => ?_)
      · replace h := h.1 c10
        refine x_iload_n dX13_wordToken_19 rfl ?_
        refine x_iload_n dX13_wordToken_20 rfl ?_
        refine x_isub dX13_wordToken_21 ?_
        refine x_bipush_ (v := (16 : Int32)) dX13_wordToken_22 (by decide) ?_
        refine x_icmp_le (tgt := 29) dX13_wordToken_24 (by decide) (fun c24 => ?_) (fun c24 => ?_)
        · replace h := h.1 c24
          refine x_aload_n dX13_wordToken_29 rfl ?_
          refine x_ldcS hG dX13_wordToken_30 q3332 (hO.2.2.2.2.1.2.2 _ (List.mem_of_getElem? (i := 61) rfl)).1 ?_
          refine x_iload_n dX13_wordToken_32 rfl ?_
          refine x_iload_n dX13_wordToken_33 rfl ?_
          refine x_iload_n dX13_wordToken_34 rfl ?_
          refine x_isub dX13_wordToken_35 ?_
          obtain ⟨R3, g3, h⟩ := h
          refine x_callV hG (Ky := kX13_placeIn) (As := [.ref (G.cs (100 + 61)), .int k, .int (y1_2 - k)]) dX13_wordToken_36 (mo_t hM) rfl lk_X13_204 me_X13_placeIn is_X13_placeIn se_X13_placeIn rfl rfl (Nat.le_of_ble_eq_true rfl) (MX.post (m_X13_placeIn hG hO hM g3) ?_)
          rintro _ _ ⟨v3, I3, rfl, rfl, h1⟩
          replace h := h v3 I3 h1
          change X _ _ _ _ (A.wI I3) _ _ (.int v3 :: _)
          refine x_istore_n dX13_wordToken_39 (by decide) ?_
          refine x_aload_n dX13_wordToken_40 rfl ?_
          refine x_iload_n dX13_wordToken_41 rfl ?_
          refine x_iconst_ (v := (-1 : Int32)) dX13_wordToken_42 (by decide) ?_
          refine x_via 51 (A' := (A.wI I3)) (lv' := [some (.ref m), some (.int k), some (.int y1_2), some (.int v3)]) (st' := [.int (if v3 = (-1 : Int32) then (1 : Int32) else (2 : Int32)), .ref m]) ?_ (fun k51 => ?_)
          rotate_left
          · refine x_icmp_ne (tgt := 50) dX13_wordToken_43 (by decide) (fun c43 => ?_) (fun c43 => ?_)
            · refine x_iconst_ (v := (2 : Int32)) dX13_wordToken_50 (by decide) ?_
              change X _ _ _ _ _ _ [some (.ref m), some (.int k), some (.int y1_2), some (.int v3)] [.int (2 : Int32), .ref m]
              simp only [if_neg c43] at k51 ⊢
              exact X.weak (xle_c rfl (xle_c rfl (xle_c rfl (xle_c rfl xle_nil)))) k51
            · refine x_iconst_ (v := (1 : Int32)) dX13_wordToken_46 (by decide) ?_
              refine x_goto (tgt := 51) dX13_wordToken_47 (by decide) ?_
              change X _ _ _ _ _ _ [some (.ref m), some (.int k), some (.int y1_2), some (.int v3)] [.int (1 : Int32), .ref m]
              simp only [if_pos c43] at k51 ⊢
              exact X.weak (xle_c rfl (xle_c rfl (xle_c rfl (xle_c rfl xle_nil)))) k51
          refine x_iload_n dX13_wordToken_51 rfl ?_
          refine x_iconst_ (v := (-1 : Int32)) dX13_wordToken_52 (by decide) ?_
          obtain ⟨J4, g4, h⟩ := h
          have kj4 : ∀ (y4_s0 : Int32) (I4 : xII), J4 y4_s0 I4 → X G (dp + 6) kX13_wordToken (oI A Q) (A.wI I4) 68 [none, some (.int k), some (.int y1_2), none] [.int y4_s0, .int (if v3 = (-1 : Int32) then (1 : Int32) else (2 : Int32)), .ref m] := by
            intro y4_s0 I4 h
            replace h := g4 y4_s0 I4 h
            refine x_iload_n dX13_wordToken_68 rfl ?_
            obtain ⟨R5, g5, h⟩ := h
            refine x_callV hG (Ky := kX13_token) (As := [.int (if v3 = (-1 : Int32) then (1 : Int32) else (2 : Int32)), .int y4_s0, .int k]) dX13_wordToken_69 (mo_t hM) rfl lk_X13_208 me_X13_token is_X13_token se_X13_token rfl rfl (Nat.le_of_ble_eq_true rfl) (MX.post (m_X13_token hG hM g5) ?_)
            rintro _ _ ⟨I5, rfl, rfl, h1⟩
            replace h := h I5 h1
            change X _ _ _ _ (A.wI I5) _ _ _
            refine x_iload_n dX13_wordToken_72 rfl ?_
            exact x_iret dX13_wordToken_73 rfl ⟨_, _, rfl, rfl, h⟩
          refine x_icmp_ne (tgt := 67) dX13_wordToken_53 (by decide) (fun c53 => ?_) (fun c53 => ?_)
          · replace h := h.2 c53
            refine x_iload_n dX13_wordToken_67 rfl ?_
            change X _ _ _ _ _ _ [some (.ref m), some (.int k), some (.int y1_2), some (.int v3)] [.int v3, .int (if v3 = (-1 : Int32) then (1 : Int32) else (2 : Int32)), .ref m]
            exact X.weak (xle_n (xle_c rfl (xle_c rfl (xle_n xle_nil)))) (kj4 v3 I3 h)
          · replace h := h.1 c53
            refine x_aload_n dX13_wordToken_56 rfl ?_
            refine x_iload_n dX13_wordToken_57 rfl ?_
            refine x_iload_n dX13_wordToken_58 rfl ?_
            refine x_iload_n dX13_wordToken_59 rfl ?_
            refine x_isub dX13_wordToken_60 ?_
            obtain ⟨R6, g6, h⟩ := h
            refine x_callV hG (Ky := kX13_nameOf) (As := [.int k, .int (y1_2 - k)]) dX13_wordToken_61 (mo_t hM) rfl lk_X13_217 me_X13_nameOf is_X13_nameOf se_X13_nameOf rfl rfl (Nat.le_of_ble_eq_true rfl) (MX.post (m_X13_nameOf hG hM g6) ?_)
            rintro _ _ ⟨v6, I6, rfl, rfl, h1⟩
            replace h := h v6 I6 h1
            change X _ _ _ _ (A.wI I6) _ _ (.int v6 :: _)
            refine x_goto (tgt := 68) dX13_wordToken_64 (by decide) ?_
            change X _ _ _ _ _ _ [some (.ref m), some (.int k), some (.int y1_2), some (.int v3)] [.int v6, .int (if v3 = (-1 : Int32) then (1 : Int32) else (2 : Int32)), .ref m]
            exact X.weak (xle_n (xle_c rfl (xle_c rfl (xle_n xle_nil)))) (kj4 v6 I6 h)
        · replace h := h.2 c24
          refine x_iconst_ (v := (-1 : Int32)) dX13_wordToken_27 (by decide) ?_
          exact x_iret dX13_wordToken_28 rfl ⟨_, _, rfl, rfl, h⟩
      · replace h := h.2 c10
        refine x_iinc (v := (y1_2 + (1 : Int32))) dX13_wordToken_13 rfl rfl (by decide) ?_
        refine x_goto (tgt := 2) dX13_wordToken_16 (by decide) ?_
        obtain ⟨q1, l1, h⟩ := h
        change X _ _ _ _ _ _ [some (.ref m), some (.int k), some (.int (y1_2 + (1 : Int32))), none] []
        exact X.weak (xle_c rfl (xle_c rfl (xle_c rfl (xle_n xle_nil)))) (ih1 q1 l1 (y1_2 + (1 : Int32)) I2 h)
  change X _ _ _ _ _ _ [some (.ref m), some (.int k), some (.int k), none] []
  exact X.weak (xle_c rfl (xle_c rfl (xle_c rfl (xle_n xle_nil)))) (kl1 n1 k I i1)
def w_X13_tokenAt (m : Nat) (k : Int32) (Q : Int32 → xII → Prop) (I : xII) : Prop := ∃ R1 : Int32 → xII → Prop, w_X13_at m k R1 I ∧ (∀ (v1 : Int32) (I1 : xII), R1 v1 I1 → ((((f_X13_isLetter v1) = 0 → (((f_X13_isDigit v1) = 0 → ∃ L2 : Nat → Int32 → xII → Prop, (∃ n2 : Nat, L2 n2 (4 : Int32) I1) ∧ (∀ (n2 : Nat) (y2_3 : Int32) (I2 : xII), L2 n2 y2_3 I2 → ((y2_3 ≤ 0 → Q (-1 : Int32) I2) ∧ (¬ y2_3 ≤ 0 → ∃ J3 : Int32 → xII → Prop, (∀ (y3_s0 : Int32) (I3 : xII), J3 y3_s0 I3 → ((y3_s0 = (-1 : Int32) → (∃ q2 : Nat, q2 < n2 ∧ L2 q2 (y2_3 + (-1 : Int32)) I3)) ∧ (¬ y3_s0 = (-1 : Int32) → ∃ R4 : xII → Prop, w_X13_token m (4 : Int32) y3_s0 k R4 I3 ∧ (∀ I4 : xII, R4 I4 → (Q (k + y2_3) I4))))) ∧ (((I2 m 3) < (k + y2_3) → J3 (-1 : Int32) I2) ∧ (¬ (I2 m 3) < (k + y2_3) → ∃ R5 : Int32 → xII → Prop, w_X13_placeIn m 62 k y2_3 R5 I2 ∧ (∀ (v5 : Int32) (I5 : xII), R5 v5 I5 → (J3 v5 I5)))))))) ∧ (¬ (f_X13_isDigit v1) = 0 → ∃ R6 : Int32 → xII → Prop, w_X13_numberToken m k R6 I1 ∧ (∀ (v6 : Int32) (I6 : xII), R6 v6 I6 → (Q v6 I6))))) ∧ (¬ (f_X13_isLetter v1) = 0 → ∃ R7 : Int32 → xII → Prop, w_X13_wordToken m k R7 I1 ∧ (∀ (v7 : Int32) (I7 : xII), R7 v7 I7 → (Q v7 I7))))))
theorem m_X13_tokenAt (hG : xOK G) (hO : xHO G) {dp : Nat} {A : xA} {m : Nat} (hM : xMo G A m) {k : Int32} {Q : Int32 → xII → Prop} {I : xII} (h : w_X13_tokenAt m k Q I) : MX G (dp + 7) kX13_tokenAt [.ref m, .int k] (A.wI I) (oI A Q) := by
  unfold w_X13_tokenAt at h
  refine MX.of rfl (Nat.le_of_ble_eq_true rfl) ?_
  change X _ _ _ _ _ _ [some (.ref m), some (.int k), none, none, none] _
  refine x_aload_n dX13_tokenAt_0 rfl ?_
  refine x_iload_n dX13_tokenAt_1 rfl ?_
  obtain ⟨R1, g1, h⟩ := h
  refine x_callV hG (Ky := kX13_at) (As := [.int k]) dX13_tokenAt_2 (mo_t hM) rfl lk_X13_177 me_X13_at is_X13_at se_X13_at rfl rfl (Nat.le_of_ble_eq_true rfl) (MX.post (m_X13_at hG hM g1) ?_)
  rintro _ _ ⟨v1, I1, rfl, rfl, h1⟩
  replace h := h v1 I1 h1
  change X _ _ _ _ (A.wI I1) _ _ (.int v1 :: _)
  refine x_istore_n dX13_tokenAt_5 (by decide) ?_
  refine x_iload_n dX13_tokenAt_6 rfl ?_
  refine x_callS hG (Ky := kX13_isLetter) (As := [.int v1]) dX13_tokenAt_7 lk_X13_160 me_X13_isLetter st_X13_isLetter rfl rfl (Nat.le_of_ble_eq_true rfl) (MX.post (m_X13_isLetter hG) ?_)
  rintro _ _ ⟨rfl, rfl⟩
  change X _ _ _ _ _ _ _ (.int (f_X13_isLetter v1) :: _)
  refine x_if_eq (tgt := 19) dX13_tokenAt_10 (by decide) (fun c10 => ?_) (fun c10 => ?_)
  · replace h := h.1 c10
    refine x_iload_n dX13_tokenAt_19 rfl ?_
    refine x_callS hG (Ky := kX13_isDigit) (As := [.int v1]) dX13_tokenAt_20 lk_X13_164 me_X13_isDigit st_X13_isDigit rfl rfl (Nat.le_of_ble_eq_true rfl) (MX.post (m_X13_isDigit hG) ?_)
    rintro _ _ ⟨rfl, rfl⟩
    change X _ _ _ _ _ _ _ (.int (f_X13_isDigit v1) :: _)
    refine x_if_eq (tgt := 32) dX13_tokenAt_23 (by decide) (fun c23 => ?_) (fun c23 => ?_)
    · replace h := h.1 c23
      refine x_iconst_ (v := (4 : Int32)) dX13_tokenAt_32 (by decide) ?_
      refine x_istore_n dX13_tokenAt_33 (by decide) ?_
      obtain ⟨L2, ⟨n2, i2⟩, g2⟩ := h
      have kl2 : ∀ n2 : Nat, ∀ (y2_3 : Int32) (I2 : xII), L2 n2 y2_3 I2 → X G (dp + 7) kX13_tokenAt (oI A Q) (A.wI I2) 34 [some (.ref m), some (.int k), none, some (.int y2_3), none] [] := by
        intro n2
        induction n2 using Nat.strongRecOn with
        | ind n2 ih2 =>
          intro y2_3 I2 h
          replace h := g2 n2 y2_3 I2 h
          refine x_iload_n dX13_tokenAt_34 rfl ?_
          refine x_if_le (tgt := 89) dX13_tokenAt_35 (by decide) (fun c35 => ?_) (fun c35 => ?_)
          · replace h := h.1 c35
            refine x_iconst_ (v := (-1 : Int32)) dX13_tokenAt_89 (by decide) ?_
            exact x_iret dX13_tokenAt_90 rfl ⟨_, _, rfl, rfl, h⟩
          · replace h := h.2 c35
            refine x_iload_n dX13_tokenAt_38 rfl ?_
            refine x_iload_n dX13_tokenAt_39 rfl ?_
            refine x_iadd dX13_tokenAt_40 ?_
            refine x_aload_n dX13_tokenAt_41 rfl ?_
            refine x_get (v := .int (I2 m 3)) hG dX13_tokenAt_42 f_X13_157_12 (mo_t hM) rfl ?_
            obtain ⟨J3, g3, h⟩ := h
            have kj3 : ∀ (y3_s0 : Int32) (I3 : xII), J3 y3_s0 I3 → X G (dp + 7) kX13_tokenAt (oI A Q) (A.wI I3) 60 [some (.ref m), some (.int k), none, some (.int y2_3), none] [.int y3_s0] := by
              intro y3_s0 I3 h
              replace h := g3 y3_s0 I3 h
              refine x_istore dX13_tokenAt_60 (by decide) ?_
              refine x_iload dX13_tokenAt_62 rfl ?_
              refine x_iconst_ (v := (-1 : Int32)) dX13_tokenAt_64 (by decide) ?_
              refine x_icmp_ne (tgt := 71) dX13_tokenAt_65 (by decide) (fun c65 => ?_) (fun c65 => ?_)
              · replace h := h.2 c65
                refine x_aload_n dX13_tokenAt_71 rfl ?_
                refine x_iconst_ (v := (4 : Int32)) dX13_tokenAt_72 (by decide) ?_
                refine x_iload dX13_tokenAt_73 rfl ?_
                refine x_iload_n dX13_tokenAt_75 rfl ?_
                obtain ⟨R4, g4, h⟩ := h
                refine x_callV hG (Ky := kX13_token) (As := [.int (4 : Int32), .int y3_s0, .int k]) dX13_tokenAt_76 (mo_t hM) rfl lk_X13_208 me_X13_token is_X13_token se_X13_token rfl rfl (Nat.le_of_ble_eq_true rfl) (MX.post (m_X13_token hG hM g4) ?_)
                rintro _ _ ⟨I4, rfl, rfl, h1⟩
                replace h := h I4 h1
                change X _ _ _ _ (A.wI I4) _ _ _
                refine x_iload_n dX13_tokenAt_79 rfl ?_
                refine x_iload_n dX13_tokenAt_80 rfl ?_
                refine x_iadd dX13_tokenAt_81 ?_
                exact x_iret dX13_tokenAt_82 rfl ⟨_, _, rfl, rfl, h⟩
              · replace h := h.1 c65
                refine x_goto (tgt := 83) dX13_tokenAt_68 (by decide) ?_
                refine x_iinc (v := (y2_3 + (-1 : Int32))) dX13_tokenAt_83 rfl rfl (by decide) ?_
                refine x_goto (tgt := 34) dX13_tokenAt_86 (by decide) ?_
                obtain ⟨q2, l2, h⟩ := h
                change X _ _ _ _ _ _ [some (.ref m), some (.int k), none, some (.int (y2_3 + (-1 : Int32))), some (.int y3_s0)] []
                exact X.weak (xle_c rfl (xle_c rfl (xle_n (xle_c rfl (xle_n xle_nil))))) (ih2 q2 l2 (y2_3 + (-1 : Int32)) I3 h)
            refine x_icmp_gt (tgt := 59) dX13_tokenAt_45 (by decide) (fun c45 => ?_) (fun c45 => ?_)
            · replace h := h.1 c45
              refine x_iconst_ (v := (-1 : Int32)) dX13_tokenAt_59 (by decide) ?_
              change X _ _ _ _ _ _ [some (.ref m), some (.int k), none, some (.int y2_3), none] [.int (-1 : Int32)]
              exact X.weak (xle_c rfl (xle_c rfl (xle_n (xle_c rfl (xle_n xle_nil))))) (kj3 (-1 : Int32) I2 h)
            · replace h := h.2 c45
              refine x_aload_n dX13_tokenAt_48 rfl ?_
              refine x_ldcS hG dX13_tokenAt_49 q3357 (hO.2.2.2.2.1.2.2 _ (List.mem_of_getElem? (i := 62) rfl)).1 ?_
              refine x_iload_n dX13_tokenAt_51 rfl ?_
              refine x_iload_n dX13_tokenAt_52 rfl ?_
              obtain ⟨R5, g5, h⟩ := h
              refine x_callV hG (Ky := kX13_placeIn) (As := [.ref (G.cs (100 + 62)), .int k, .int y2_3]) dX13_tokenAt_53 (mo_t hM) rfl lk_X13_204 me_X13_placeIn is_X13_placeIn se_X13_placeIn rfl rfl (Nat.le_of_ble_eq_true rfl) (MX.post (m_X13_placeIn hG hO hM g5) ?_)
              rintro _ _ ⟨v5, I5, rfl, rfl, h1⟩
              replace h := h v5 I5 h1
              change X _ _ _ _ (A.wI I5) _ _ (.int v5 :: _)
              refine x_goto (tgt := 60) dX13_tokenAt_56 (by decide) ?_
              change X _ _ _ _ _ _ [some (.ref m), some (.int k), none, some (.int y2_3), none] [.int v5]
              exact X.weak (xle_c rfl (xle_c rfl (xle_n (xle_c rfl (xle_n xle_nil))))) (kj3 v5 I5 h)
      change X _ _ _ _ _ _ [some (.ref m), some (.int k), some (.int v1), some (.int (4 : Int32)), none] []
      exact X.weak (xle_c rfl (xle_c rfl (xle_n (xle_c rfl (xle_n xle_nil))))) (kl2 n2 (4 : Int32) I1 i2)
    · replace h := h.2 c23
      refine x_aload_n dX13_tokenAt_26 rfl ?_
      refine x_iload_n dX13_tokenAt_27 rfl ?_
      obtain ⟨R6, g6, h⟩ := h
      refine x_callV hG (Ky := kX13_numberToken) (As := [.int k]) dX13_tokenAt_28 (mo_t hM) rfl lk_X13_199 me_X13_numberToken is_X13_numberToken se_X13_numberToken rfl rfl (Nat.le_of_ble_eq_true rfl) (MX.post (m_X13_numberToken hG hM g6) ?_)
      rintro _ _ ⟨v6, I6, rfl, rfl, h1⟩
      replace h := h v6 I6 h1
      change X _ _ _ _ (A.wI I6) _ _ (.int v6 :: _)
      exact x_iret dX13_tokenAt_31 rfl ⟨_, _, rfl, rfl, h⟩
  · replace h := h.2 c10
    refine x_aload_n dX13_tokenAt_13 rfl ?_
    refine x_iload_n dX13_tokenAt_14 rfl ?_
    obtain ⟨R7, g7, h⟩ := h
    refine x_callV hG (Ky := kX13_wordToken) (As := [.int k]) dX13_tokenAt_15 (mo_t hM) rfl lk_X13_196 me_X13_wordToken is_X13_wordToken se_X13_wordToken rfl rfl (Nat.le_of_ble_eq_true rfl) (MX.post (m_X13_wordToken hG hO hM g7) ?_)
    rintro _ _ ⟨v7, I7, rfl, rfl, h1⟩
    replace h := h v7 I7 h1
    change X _ _ _ _ (A.wI I7) _ _ (.int v7 :: _)
    exact x_iret dX13_tokenAt_18 rfl ⟨_, _, rfl, rfl, h⟩
def w_X13_cut (m : Nat) (Q : xII → Prop) (I : xII) : Prop := ∀ I1 : xII, I1 = xup I m 7 (0 : Int32) → (∀ I2 : xII, I2 = xup I1 m 13 (0 : Int32) → (∀ I3 : xII, I3 = xup I2 m 8 (-1 : Int32) → (∃ L4 : Nat → Int32 → xII → Prop, (∃ n4 : Nat, L4 n4 (0 : Int32) I3) ∧ (∀ (n4 : Nat) (y4_1 : Int32) (I4 : xII), L4 n4 y4_1 I4 → (((64 : Int32) ≤ y4_1 → ∃ R5 : Int32 → xII → Prop, w_X13_skip m (0 : Int32) R5 I4 ∧ (∀ (v5 : Int32) (I5 : xII), R5 v5 I5 → (∃ L6 : Nat → Int32 → xII → Prop, (∃ n6 : Nat, L6 n6 v5 I5) ∧ (∀ (n6 : Nat) (y6_1 : Int32) (I6 : xII), L6 n6 y6_1 I6 → ∃ J7 : Prop, (J7 → vp_in (I6 m 7) 4002 ∧ (∀ I9 : xII, I9 = xup I6 (m + 3) (ix (I6 m 7)) (0 : Int32) → (∀ I10 : xII, I10 = xup I9 (m + 5) (ix (I6 m 7)) (I6 m 3) → (Q I10)))) ∧ ((y6_1 = (-1 : Int32) → J7) ∧ (¬ y6_1 = (-1 : Int32) → (((I6 m 3) ≤ y6_1 → J7) ∧ (¬ (I6 m 3) ≤ y6_1 → ∃ R11 : Int32 → xII → Prop, w_X13_tokenAt m y6_1 R11 I6 ∧ (∀ (v11 : Int32) (I11 : xII), R11 v11 I11 → (∃ J12 : xII → Prop, (∀ (I12 : xII), J12 I12 → ∃ J13 : Int32 → xII → Prop, (∀ (y13_s0 : Int32) (I13 : xII), J13 y13_s0 I13 → (∃ q6 : Nat, q6 < n6 ∧ L6 q6 y13_s0 I13)) ∧ ((v11 = (-1 : Int32) → J13 (-1 : Int32) I12) ∧ (¬ v11 = (-1 : Int32) → ∃ R14 : Int32 → xII → Prop, w_X13_skip m v11 R14 I12 ∧ (∀ (v14 : Int32) (I14 : xII), R14 v14 I14 → (J13 v14 I14))))) ∧ ((v11 = (-1 : Int32) → ∀ I15 : xII, I15 = xup I11 m 8 y6_1 → (J12 I15)) ∧ (¬ v11 = (-1 : Int32) → J12 I11)))))))))))) ∧ (¬ (64 : Int32) ≤ y4_1 → vp_in y4_1 64 ∧ (∀ I17 : xII, I17 = xup I4 (m + 9) (ix y4_1) (-1 : Int32) → ((∃ q4 : Nat, q4 < n4 ∧ L4 q4 (y4_1 + (1 : Int32)) I17)))))))))
theorem m_X13_cut (hG : xOK G) (hO : xHO G) {dp : Nat} {A : xA} {m : Nat} (hM : xMo G A m) {Q : xII → Prop} {I : xII} (h : w_X13_cut m Q I) : MX G (dp + 8) kX13_cut [.ref m] (A.wI I) (oV A Q) := by
  unfold w_X13_cut at h
  refine MX.of rfl (Nat.le_of_ble_eq_true rfl) ?_
  change X _ _ _ _ _ _ [some (.ref m), none, none] _
  refine x_aload_n dX13_cut_0 rfl ?_
  refine x_iconst_ (v := (0 : Int32)) dX13_cut_1 (by decide) ?_
  refine y_put hG hM dX13_cut_2 f_X13_187_12 ⟨_, rfl, Or.inl rfl⟩ rfl rfl ⟨_, rfl⟩ (fun I1 e1 => ?_)
  replace h := h I1 e1
  refine x_aload_n dX13_cut_5 rfl ?_
  refine x_iconst_ (v := (0 : Int32)) dX13_cut_6 (by decide) ?_
  refine y_put hG hM dX13_cut_7 f_X13_181_12 ⟨_, rfl, Or.inl rfl⟩ rfl rfl ⟨_, rfl⟩ (fun I2 e2 => ?_)
  replace h := h I2 e2
  refine x_aload_n dX13_cut_10 rfl ?_
  refine x_iconst_ (v := (-1 : Int32)) dX13_cut_11 (by decide) ?_
  refine y_put hG hM dX13_cut_12 f_X13_184_12 ⟨_, rfl, Or.inl rfl⟩ rfl rfl ⟨_, rfl⟩ (fun I3 e3 => ?_)
  replace h := h I3 e3
  refine x_iconst_ (v := (0 : Int32)) dX13_cut_15 (by decide) ?_
  refine x_istore_n dX13_cut_16 (by decide) ?_
  obtain ⟨L4, ⟨n4, i4⟩, g4⟩ := h
  have kl4 : ∀ n4 : Nat, ∀ (y4_1 : Int32) (I4 : xII), L4 n4 y4_1 I4 → X G (dp + 8) kX13_cut (oV A Q) (A.wI I4) 17 [some (.ref m), some (.int y4_1), none] [] := by
    intro n4
    induction n4 using Nat.strongRecOn with
    | ind n4 ih4 =>
      intro y4_1 I4 h
      replace h := g4 n4 y4_1 I4 h
      refine x_iload_n dX13_cut_17 rfl ?_
      refine x_bipush_ (v := (64 : Int32)) dX13_cut_18 (by decide) ?_
      refine x_icmp_ge (tgt := 36) dX13_cut_20 (by decide) (fun c20 => ?_) (fun c20 => ?_)
      · replace h := h.1 c20
        refine x_aload_n dX13_cut_36 rfl ?_
        refine x_iconst_ (v := (0 : Int32)) dX13_cut_37 (by decide) ?_
        obtain ⟨R5, g5, h⟩ := h
        refine x_callV hG (Ky := kX13_skip) (As := [.int (0 : Int32)]) dX13_cut_38 (mo_t hM) rfl lk_X13_190 me_X13_skip is_X13_skip se_X13_skip rfl rfl (Nat.le_of_ble_eq_true rfl) (MX.post (m_X13_skip hG hM g5) ?_)
        rintro _ _ ⟨v5, I5, rfl, rfl, h1⟩
        replace h := h v5 I5 h1
        change X _ _ _ _ (A.wI I5) _ _ (.int v5 :: _)
        refine x_istore_n dX13_cut_41 (by decide) ?_
        obtain ⟨L6, ⟨n6, i6⟩, g6⟩ := h
        have kl6 : ∀ n6 : Nat, ∀ (y6_1 : Int32) (I6 : xII), L6 n6 y6_1 I6 → X G (dp + 8) kX13_cut (oV A Q) (A.wI I6) 42 [some (.ref m), some (.int y6_1), none] [] := by
          intro n6
          induction n6 using Nat.strongRecOn with
          | ind n6 ih6 =>
            intro y6_1 I6 h
            replace h := g6 n6 y6_1 I6 h
            refine x_iload_n dX13_cut_42 rfl ?_
            refine x_iconst_ (v := (-1 : Int32)) dX13_cut_43 (by decide) ?_
            obtain ⟨J7, g7, h⟩ := h
            have kj7 : J7 → X G (dp + 8) kX13_cut (oV A Q) (A.wI I6) 89 [some (.ref m), none, none] [] := by
              intro h
              replace h := g7 h
              refine x_aload_n dX13_cut_89 rfl ?_
              refine x_get (v := .ref (m + 3)) hG dX13_cut_90 f_X13_16_12 (mo_t hM) (congrArg va_rf (mo_P4 hM)) ?_
              refine x_aload_n dX13_cut_93 rfl ?_
              refine x_get (v := .int (I6 m 7)) hG dX13_cut_94 f_X13_187_12 (mo_t hM) rfl ?_
              refine x_iconst_ (v := (0 : Int32)) dX13_cut_97 (by decide) ?_
              obtain ⟨o8, h⟩ := h
              refine y_iast hG dX13_cut_98 (mo_t4 hM) (mo_aN hM) (mo_n4 hM) o8 (fun I9 e9 => ?_)
              replace h := h I9 e9
              refine x_aload_n dX13_cut_99 rfl ?_
              refine x_get (v := .ref (m + 5)) hG dX13_cut_100 f_X13_22_12 (mo_t hM) (congrArg va_rf (mo_P6 hM)) ?_
              refine x_aload_n dX13_cut_103 rfl ?_
              refine x_get (v := .int (I9 m 7)) hG dX13_cut_104 f_X13_187_12 (mo_t hM) rfl ?_
              refine x_eqi (v := (I6 m 7)) (xup_ra e9 (by omega)) ?_
              refine x_aload_n dX13_cut_107 rfl ?_
              refine x_get (v := .int (I9 m 3)) hG dX13_cut_108 f_X13_157_12 (mo_t hM) rfl ?_
              refine x_eqi (v := (I6 m 3)) (xup_ra e9 (by omega)) ?_
              refine y_iast hG dX13_cut_111 (mo_t6 hM) (mo_aN hM) (mo_n6 hM) o8 (fun I10 e10 => ?_)
              replace h := h I10 e10
              exact x_vret dX13_cut_112 rfl ⟨_, rfl, rfl, h⟩
            refine x_icmp_eq (tgt := 89) dX13_cut_44 (by decide) (fun c44 => ?_) (fun c44 => ?_)
            · replace h := h.1 c44
              change X _ _ _ _ _ _ [some (.ref m), some (.int y6_1), none] []
              exact X.weak (xle_c rfl (xle_n (xle_n xle_nil))) (kj7 h)
            · replace h := h.2 c44
              refine x_iload_n dX13_cut_47 rfl ?_
              refine x_aload_n dX13_cut_48 rfl ?_
              refine x_get (v := .int (I6 m 3)) hG dX13_cut_49 f_X13_157_12 (mo_t hM) rfl ?_
              refine x_icmp_ge (tgt := 89) dX13_cut_52 (by decide) (fun c52 => ?_) (fun c52 => ?_)
              · replace h := h.1 c52
                change X _ _ _ _ _ _ [some (.ref m), some (.int y6_1), none] []
                exact X.weak (xle_c rfl (xle_n (xle_n xle_nil))) (kj7 h)
              · replace h := h.2 c52
                refine x_aload_n dX13_cut_55 rfl ?_
                refine x_iload_n dX13_cut_56 rfl ?_
                obtain ⟨R11, g11, h⟩ := h
                refine x_callV hG (Ky := kX13_tokenAt) (As := [.int y6_1]) dX13_cut_57 (mo_t hM) rfl lk_X13_193 me_X13_tokenAt is_X13_tokenAt se_X13_tokenAt rfl rfl (Nat.le_of_ble_eq_true rfl) (MX.post (m_X13_tokenAt hG hO hM g11) ?_)
                rintro _ _ ⟨v11, I11, rfl, rfl, h1⟩
                replace h := h v11 I11 h1
                change X _ _ _ _ (A.wI I11) _ _ (.int v11 :: _)
                refine x_istore_n dX13_cut_60 (by decide) ?_
                refine x_iload_n dX13_cut_61 rfl ?_
                refine x_iconst_ (v := (-1 : Int32)) dX13_cut_62 (by decide) ?_
                obtain ⟨J12, g12, h⟩ := h
                have kj12 : ∀ (I12 : xII), J12 I12 → X G (dp + 8) kX13_cut (oV A Q) (A.wI I12) 71 [some (.ref m), none, some (.int v11)] [] := by
                  intro I12 h
                  replace h := g12 I12 h
                  refine x_iload_n dX13_cut_71 rfl ?_
                  refine x_iconst_ (v := (-1 : Int32)) dX13_cut_72 (by decide) ?_
                  obtain ⟨J13, g13, h⟩ := h
                  have kj13 : ∀ (y13_s0 : Int32) (I13 : xII), J13 y13_s0 I13 → X G (dp + 8) kX13_cut (oV A Q) (A.wI I13) 85 [some (.ref m), none, none] [.int y13_s0] := by
                    intro y13_s0 I13 h
                    replace h := g13 y13_s0 I13 h
                    refine x_istore_n dX13_cut_85 (by decide) ?_
                    refine x_goto (tgt := 42) dX13_cut_86 (by decide) ?_
                    obtain ⟨q6, l6, h⟩ := h
                    change X _ _ _ _ _ _ [some (.ref m), some (.int y13_s0), none] []
                    exact X.weak (xle_c rfl (xle_c rfl (xle_n xle_nil))) (ih6 q6 l6 y13_s0 I13 h)
                  refine x_icmp_ne (tgt := 80) dX13_cut_73 (by decide) (fun c73 => ?_) (fun c73 => ?_)
                  · replace h := h.2 c73
                    refine x_aload_n dX13_cut_80 rfl ?_
                    refine x_iload_n dX13_cut_81 rfl ?_
                    obtain ⟨R14, g14, h⟩ := h
                    refine x_callV hG (Ky := kX13_skip) (As := [.int v11]) dX13_cut_82 (mo_t hM) rfl lk_X13_190 me_X13_skip is_X13_skip se_X13_skip rfl rfl (Nat.le_of_ble_eq_true rfl) (MX.post (m_X13_skip hG hM g14) ?_)
                    rintro _ _ ⟨v14, I14, rfl, rfl, h1⟩
                    replace h := h v14 I14 h1
                    change X _ _ _ _ (A.wI I14) _ _ (.int v14 :: _)
                    change X _ _ _ _ _ _ [some (.ref m), none, some (.int v11)] [.int v14]
                    exact X.weak (xle_c rfl (xle_n (xle_n xle_nil))) (kj13 v14 I14 h)
                  · replace h := h.1 c73
                    refine x_iconst_ (v := (-1 : Int32)) dX13_cut_76 (by decide) ?_
                    refine x_goto (tgt := 85) dX13_cut_77 (by decide) ?_
                    change X _ _ _ _ _ _ [some (.ref m), none, some (.int v11)] [.int (-1 : Int32)]
                    exact X.weak (xle_c rfl (xle_n (xle_n xle_nil))) (kj13 (-1 : Int32) I12 h)
                refine x_icmp_ne (tgt := 71) dX13_cut_63 (by decide) (fun c63 => ?_) (fun c63 => ?_)
                · replace h := h.2 c63
                  change X _ _ _ _ _ _ [some (.ref m), some (.int y6_1), some (.int v11)] []
                  exact X.weak (xle_c rfl (xle_n (xle_c rfl xle_nil))) (kj12 I11 h)
                · replace h := h.1 c63
                  refine x_aload_n dX13_cut_66 rfl ?_
                  refine x_iload_n dX13_cut_67 rfl ?_
                  refine y_put hG hM dX13_cut_68 f_X13_184_12 ⟨_, rfl, Or.inl rfl⟩ rfl rfl ⟨_, rfl⟩ (fun I15 e15 => ?_)
                  replace h := h I15 e15
                  change X _ _ _ _ _ _ [some (.ref m), some (.int y6_1), some (.int v11)] []
                  exact X.weak (xle_c rfl (xle_n (xle_c rfl xle_nil))) (kj12 I15 h)
        change X _ _ _ _ _ _ [some (.ref m), some (.int v5), none] []
        exact X.weak (xle_c rfl (xle_c rfl (xle_n xle_nil))) (kl6 n6 v5 I5 i6)
      · replace h := h.2 c20
        refine x_aload_n dX13_cut_23 rfl ?_
        refine x_get (v := .ref (m + 9)) hG dX13_cut_24 f_X13_34_12 (mo_t hM) (congrArg va_rf (mo_P12 hM)) ?_
        refine x_iload_n dX13_cut_27 rfl ?_
        refine x_iconst_ (v := (-1 : Int32)) dX13_cut_28 (by decide) ?_
        obtain ⟨o16, h⟩ := h
        refine y_iast hG dX13_cut_29 (mo_t12 hM) (mo_aN hM) (mo_n12 hM) o16 (fun I17 e17 => ?_)
        replace h := h I17 e17
        refine x_iinc (v := (y4_1 + (1 : Int32))) dX13_cut_30 rfl rfl (by decide) ?_
        refine x_goto (tgt := 17) dX13_cut_33 (by decide) ?_
        obtain ⟨q4, l4, h⟩ := h
        change X _ _ _ _ _ _ [some (.ref m), some (.int (y4_1 + (1 : Int32))), none] []
        exact X.weak (xle_c rfl (xle_c rfl (xle_n xle_nil))) (ih4 q4 l4 (y4_1 + (1 : Int32)) I17 h)
  change X _ _ _ _ _ _ [some (.ref m), some (.int (0 : Int32)), none] []
  exact X.weak (xle_c rfl (xle_c rfl (xle_n xle_nil))) (kl4 n4 (0 : Int32) I3 i4)
def w_X13_read (m : Nat) (Q : Int32 → xII → Prop) (I : xII) : Prop := ∀ I1 : xII, I1 = xup I m 3 (I m 2) → (∃ L2 : Nat → Int32 → xII → Prop, (∃ n2 : Nat, L2 n2 (0 : Int32) I1) ∧ (∀ (n2 : Nat) (y2_1 : Int32) (I2 : xII), L2 n2 y2_1 I2 → (((I2 m 3) ≤ y2_1 → ∀ I3 : xII, I3 = xup I2 m 2 (0 : Int32) → (∀ I4 : xII, I4 = xup I3 m 73 (0 : Int32) → (∀ I5 : xII, I5 = xup I4 m 75 (0 : Int32) → (∀ I6 : xII, I6 = xup I5 m 80 (0 : Int32) → (∀ I7 : xII, I7 = xup I6 m 79 (0 : Int32) → (∀ I8 : xII, I8 = xup I7 m 44 (0 : Int32) → (∀ I9 : xII, I9 = xup I8 m 47 (0 : Int32) → (∀ I10 : xII, I10 = xup I9 m 54 (0 : Int32) → (∃ R11 : xII → Prop, w_X13_cut m R11 I10 ∧ (∀ I11 : xII, R11 I11 → (∀ I12 : xII, I12 = xup I11 m 46 (0 : Int32) → (∃ R13 : Int32 → xII → Prop, w_X13_texts m R13 I12 ∧ (∀ (v13 : Int32) (I13 : xII), (v13 = 0 ∨ v13 = 1) → R13 v13 I13 → (((v13 = 0 → Q (((16 : Int32) * (I13 m 45)) + (I13 m 44)) I13) ∧ (¬ v13 = 0 → ∀ I14 : xII, I14 = xup I13 m 46 (1 : Int32) → (∃ R15 : Int32 → xII → Prop, w_X13_texts m R15 I14 ∧ (∀ (v15 : Int32) (I15 : xII), (v15 = 0 ∨ v15 = 1) → R15 v15 I15 → (∀ I16 : xII, I16 = xup I15 m 74 (-1 : Int32) → (∃ L17 : Nat → Int32 → xII → Prop, (∃ n17 : Nat, L17 n17 ((I15 m 24) - (1 : Int32)) I16) ∧ (∀ (n17 : Nat) (y17_1 : Int32) (I17 : xII), L17 n17 y17_1 I17 → ((y17_1 < 0 → ∃ J18 : xII → Prop, (∀ (I18 : xII), J18 I18 → (((I18 m 47) ≤ 0 → ∀ I19 : xII, I19 = xup I18 m 73 (1 : Int32) → (Q (0 : Int32) I19)) ∧ (¬ (I18 m 47) ≤ 0 → Q (((16 : Int32) * (I18 m 48)) + (I18 m 47)) I18))) ∧ (((I17 m 74) = (-1 : Int32) → ∃ R20 : xII → Prop, w_X13_note m (12 : Int32) (I17 m 3) R20 I17 ∧ (∀ I20 : xII, R20 I20 → (J18 I20))) ∧ (¬ (I17 m 74) = (-1 : Int32) → J18 I17))) ∧ (¬ y17_1 < 0 → vp_in y17_1 500 ∧ (vp_in (I17 (m + 18) (ix y17_1)) 2100 ∧ (∃ J23 : xII → Prop, (∀ (I23 : xII), J23 I23 → (∃ q17 : Nat, q17 < n17 ∧ L17 q17 (y17_1 + (-1 : Int32)) I23)) ∧ (((I17 (m + 7) (ix (I17 (m + 18) (ix y17_1)))) = (4 : Int32) → ∃ R24 : Int32 → xII → Prop, w_X13_at m (I17 (m + 19) (ix y17_1)) R24 I17 ∧ (∀ (v24 : Int32) (I24 : xII), R24 v24 I24 → (((v24 = (109 : Int32) → ∃ R25 : Int32 → xII → Prop, w_X13_at m ((I17 (m + 19) (ix y17_1)) + (1 : Int32)) R25 I24 ∧ (∀ (v25 : Int32) (I25 : xII), R25 v25 I25 → (((v25 = (97 : Int32) → ∃ R26 : Int32 → xII → Prop, w_X13_at m ((I17 (m + 19) (ix y17_1)) + (2 : Int32)) R26 I25 ∧ (∀ (v26 : Int32) (I26 : xII), R26 v26 I26 → (((v26 = (105 : Int32) → ∃ R27 : Int32 → xII → Prop, w_X13_at m ((I17 (m + 19) (ix y17_1)) + (3 : Int32)) R27 I26 ∧ (∀ (v27 : Int32) (I27 : xII), R27 v27 I27 → (((v27 = (110 : Int32) → ∀ I28 : xII, I28 = xup I27 m 74 y17_1 → ((((I27 (m + 25) (ix y17_1)) = (-1 : Int32) → J23 I28) ∧ (¬ (I27 (m + 25) (ix y17_1)) = (-1 : Int32) → vp_in (I27 (m + 25) (ix y17_1)) 4002 ∧ (∃ R30 : xII → Prop, w_X13_note m (12 : Int32) (I27 (m + 5) (ix (I27 (m + 25) (ix y17_1)))) R30 I28 ∧ (∀ I30 : xII, R30 I30 → (J23 I30))))))) ∧ (¬ v27 = (110 : Int32) → J23 I27))))) ∧ (¬ v26 = (105 : Int32) → J23 I26))))) ∧ (¬ v25 = (97 : Int32) → J23 I25))))) ∧ (¬ v24 = (109 : Int32) → J23 I24))))) ∧ (¬ (I17 (m + 7) (ix (I17 (m + 18) (ix y17_1)))) = (4 : Int32) → J23 I17))))))))))))))))))))))))))) ∧ (¬ (I2 m 3) ≤ y2_1 → vp_in y2_1 4000 ∧ (∀ I32 : xII, I32 = xup I2 (m + 2) (ix y2_1) (I2 (m + 1) (ix y2_1)) → ((∃ q2 : Nat, q2 < n2 ∧ L2 q2 (y2_1 + (1 : Int32)) I32)))))))
theorem m_X13_read (hG : xOK G) (hO : xHO G) {dp : Nat} {A : xA} {m : Nat} (hM : xMo G A m) {Q : Int32 → xII → Prop} {I : xII} (h : w_X13_read m Q I) : MX G (dp + 920) kX13_read [.ref m] (A.wI I) (oI A Q) := by
  unfold w_X13_read at h
  refine MX.of rfl (Nat.le_of_ble_eq_true rfl) ?_
  change X _ _ _ _ _ _ [some (.ref m), none, none] _
  refine x_aload_n dX13_read_0 rfl ?_
  refine x_aload_n dX13_read_1 rfl ?_
  refine x_get (v := .int (I m 2)) hG dX13_read_2 f_X13_153_12 (mo_t hM) rfl ?_
  refine y_put hG hM dX13_read_5 f_X13_157_12 ⟨_, rfl, Or.inl rfl⟩ rfl rfl ⟨_, rfl⟩ (fun I1 e1 => ?_)
  replace h := h I1 e1
  refine x_iconst_ (v := (0 : Int32)) dX13_read_8 (by decide) ?_
  refine x_istore_n dX13_read_9 (by decide) ?_
  obtain ⟨L2, ⟨n2, i2⟩, g2⟩ := h
  have kl2 : ∀ n2 : Nat, ∀ (y2_1 : Int32) (I2 : xII), L2 n2 y2_1 I2 → X G (dp + 920) kX13_read (oI A Q) (A.wI I2) 10 [some (.ref m), some (.int y2_1), none] [] := by
    intro n2
    induction n2 using Nat.strongRecOn with
    | ind n2 ih2 =>
      intro y2_1 I2 h
      replace h := g2 n2 y2_1 I2 h
      refine x_iload_n dX13_read_10 rfl ?_
      refine x_aload_n dX13_read_11 rfl ?_
      refine x_get (v := .int (I2 m 3)) hG dX13_read_12 f_X13_157_12 (mo_t hM) rfl ?_
      refine x_icmp_ge (tgt := 36) dX13_read_15 (by decide) (fun c15 => ?_) (fun c15 => ?_)
      · replace h := h.1 c15
        refine x_aload_n dX13_read_36 rfl ?_
        refine x_iconst_ (v := (0 : Int32)) dX13_read_37 (by decide) ?_
        refine y_put hG hM dX13_read_38 f_X13_153_12 ⟨_, rfl, Or.inl rfl⟩ rfl rfl ⟨_, rfl⟩ (fun I3 e3 => ?_)
        replace h := h I3 e3
        refine x_aload_n dX13_read_41 rfl ?_
        refine x_iconst_ (v := (0 : Int32)) dX13_read_42 (by decide) ?_
        refine y_put hG hM dX13_read_43 f_X13_509_12 ⟨_, rfl, Or.inl rfl⟩ (narrow01 (by decide)) (fits01 (by decide)) ⟨_, rfl⟩ (fun I4 e4 => ?_)
        replace h := h I4 e4
        refine x_aload_n dX13_read_46 rfl ?_
        refine x_iconst_ (v := (0 : Int32)) dX13_read_47 (by decide) ?_
        refine y_put hG hM dX13_read_48 f_X13_512_12 ⟨_, rfl, Or.inl rfl⟩ rfl rfl ⟨_, rfl⟩ (fun I5 e5 => ?_)
        replace h := h I5 e5
        refine x_aload_n dX13_read_51 rfl ?_
        refine x_iconst_ (v := (0 : Int32)) dX13_read_52 (by decide) ?_
        refine y_put hG hM dX13_read_53 f_X13_515_12 ⟨_, rfl, Or.inl rfl⟩ rfl rfl ⟨_, rfl⟩ (fun I6 e6 => ?_)
        replace h := h I6 e6
        refine x_aload_n dX13_read_56 rfl ?_
        refine x_iconst_ (v := (0 : Int32)) dX13_read_57 (by decide) ?_
        refine y_put hG hM dX13_read_58 f_X13_518_12 ⟨_, rfl, Or.inl rfl⟩ rfl rfl ⟨_, rfl⟩ (fun I7 e7 => ?_)
        replace h := h I7 e7
        refine x_aload_n dX13_read_61 rfl ?_
        refine x_iconst_ (v := (0 : Int32)) dX13_read_62 (by decide) ?_
        refine y_put hG hM dX13_read_63 f_X13_230_12 ⟨_, rfl, Or.inl rfl⟩ rfl rfl ⟨_, rfl⟩ (fun I8 e8 => ?_)
        replace h := h I8 e8
        refine x_aload_n dX13_read_66 rfl ?_
        refine x_iconst_ (v := (0 : Int32)) dX13_read_67 (by decide) ?_
        refine y_put hG hM dX13_read_68 f_X13_248_12 ⟨_, rfl, Or.inl rfl⟩ rfl rfl ⟨_, rfl⟩ (fun I9 e9 => ?_)
        replace h := h I9 e9
        refine x_aload_n dX13_read_71 rfl ?_
        refine x_iconst_ (v := (0 : Int32)) dX13_read_72 (by decide) ?_
        refine y_put hG hM dX13_read_73 f_X13_365_12 ⟨_, rfl, Or.inl rfl⟩ (narrow01 (by decide)) (fits01 (by decide)) ⟨_, rfl⟩ (fun I10 e10 => ?_)
        replace h := h I10 e10
        refine x_aload_n dX13_read_76 rfl ?_
        obtain ⟨R11, g11, h⟩ := h
        refine x_callV hG (Ky := kX13_cut) (As := []) dX13_read_77 (mo_t hM) rfl lk_X13_521 me_X13_cut is_X13_cut se_X13_cut rfl rfl (Nat.le_of_ble_eq_true rfl) (MX.post (m_X13_cut hG hO hM g11) ?_)
        rintro _ _ ⟨I11, rfl, rfl, h1⟩
        replace h := h I11 h1
        change X _ _ _ _ (A.wI I11) _ _ _
        refine x_aload_n dX13_read_80 rfl ?_
        refine x_iconst_ (v := (0 : Int32)) dX13_read_81 (by decide) ?_
        refine y_put hG hM dX13_read_82 f_X13_245_12 ⟨_, rfl, Or.inl rfl⟩ rfl rfl ⟨_, rfl⟩ (fun I12 e12 => ?_)
        replace h := h I12 e12
        refine x_aload_n dX13_read_85 rfl ?_
        obtain ⟨R13, g13, h⟩ := h
        refine x_callV hG (Ky := kX13_texts) (As := []) dX13_read_86 (mo_t hM) rfl lk_X13_524 me_X13_texts is_X13_texts se_X13_texts rfl rfl (Nat.le_of_ble_eq_true rfl) (MX.post (m_X13_texts hG hM g13) ?_)
        rintro _ _ ⟨v13, I13, rfl, rfl, zv13, h1⟩
        replace h := h v13 I13 zv13 h1
        change X _ _ _ _ (A.wI I13) _ _ (.int v13 :: _)
        refine x_if_ne (tgt := 105) dX13_read_89 (by decide) (fun c89 => ?_) (fun c89 => ?_)
        · replace h := h.2 c89
          refine x_aload_n dX13_read_105 rfl ?_
          refine x_iconst_ (v := (1 : Int32)) dX13_read_106 (by decide) ?_
          refine y_put hG hM dX13_read_107 f_X13_245_12 ⟨_, rfl, Or.inl rfl⟩ rfl rfl ⟨_, rfl⟩ (fun I14 e14 => ?_)
          replace h := h I14 e14
          refine x_aload_n dX13_read_110 rfl ?_
          obtain ⟨R15, g15, h⟩ := h
          refine x_callV hG (Ky := kX13_texts) (As := []) dX13_read_111 (mo_t hM) rfl lk_X13_524 me_X13_texts is_X13_texts se_X13_texts rfl rfl (Nat.le_of_ble_eq_true rfl) (MX.post (m_X13_texts hG hM g15) ?_)
          rintro _ _ ⟨v15, I15, rfl, rfl, zv15, h1⟩
          replace h := h v15 I15 zv15 h1
          change X _ _ _ _ (A.wI I15) _ _ (.int v15 :: _)
          refine x_pop dX13_read_114 rfl ?_
          refine x_aload_n dX13_read_115 rfl ?_
          refine x_iconst_ (v := (-1 : Int32)) dX13_read_116 (by decide) ?_
          refine y_put hG hM dX13_read_117 f_X13_527_12 ⟨_, rfl, Or.inl rfl⟩ rfl rfl ⟨_, rfl⟩ (fun I16 e16 => ?_)
          replace h := h I16 e16
          refine x_aload_n dX13_read_120 rfl ?_
          refine x_get (v := .int (I16 m 24)) hG dX13_read_121 f_X13_297_12 (mo_t hM) rfl ?_
          refine x_eqi (v := (I15 m 24)) (xup_rk e16 (by decide)) ?_
          refine x_iconst_ (v := (1 : Int32)) dX13_read_124 (by decide) ?_
          refine x_isub dX13_read_125 ?_
          refine x_istore_n dX13_read_126 (by decide) ?_
          obtain ⟨L17, ⟨n17, i17⟩, g17⟩ := h
          have kl17 : ∀ n17 : Nat, ∀ (y17_1 : Int32) (I17 : xII), L17 n17 y17_1 I17 → X G (dp + 920) kX13_read (oI A Q) (A.wI I17) 127 [some (.ref m), some (.int y17_1), none] [] := by
            intro n17
            induction n17 using Nat.strongRecOn with
            | ind n17 ih17 =>
              intro y17_1 I17 h
              replace h := g17 n17 y17_1 I17 h
              refine x_iload_n dX13_read_127 rfl ?_
              refine x_if_lt (tgt := 240) dX13_read_128 (by decide) (fun c128 => ?_) (fun c128 => ?_)
              · replace h := h.1 c128
                refine x_aload_n dX13_read_240 rfl ?_
                refine x_get (v := .int (I17 m 74)) hG dX13_read_241 f_X13_527_12 (mo_t hM) rfl ?_
                refine x_iconst_ (v := (-1 : Int32)) dX13_read_244 (by decide) ?_
                obtain ⟨J18, g18, h⟩ := h
                have kj18 : ∀ (I18 : xII), J18 I18 → X G (dp + 920) kX13_read (oI A Q) (A.wI I18) 258 [some (.ref m), none, none] [] := by
                  intro I18 h
                  replace h := g18 I18 h
                  refine x_aload_n dX13_read_258 rfl ?_
                  refine x_get (v := .int (I18 m 47)) hG dX13_read_259 f_X13_248_12 (mo_t hM) rfl ?_
                  refine x_if_le (tgt := 278) dX13_read_262 (by decide) (fun c262 => ?_) (fun c262 => ?_)
                  · replace h := h.1 c262
                    refine x_aload_n dX13_read_278 rfl ?_
                    refine x_iconst_ (v := (1 : Int32)) dX13_read_279 (by decide) ?_
                    refine y_put hG hM dX13_read_280 f_X13_509_12 ⟨_, rfl, Or.inl rfl⟩ (narrow01 (by decide)) (fits01 (by decide)) ⟨_, rfl⟩ (fun I19 e19 => ?_)
                    replace h := h I19 e19
                    refine x_iconst_ (v := (0 : Int32)) dX13_read_283 (by decide) ?_
                    exact x_iret dX13_read_284 rfl ⟨_, _, rfl, rfl, h⟩
                  · replace h := h.2 c262
                    refine x_bipush_ (v := (16 : Int32)) dX13_read_265 (by decide) ?_
                    refine x_aload_n dX13_read_267 rfl ?_
                    refine x_get (v := .int (I18 m 48)) hG dX13_read_268 f_X13_251_12 (mo_t hM) rfl ?_
                    refine x_imul dX13_read_271 ?_
                    refine x_aload_n dX13_read_272 rfl ?_
                    refine x_get (v := .int (I18 m 47)) hG dX13_read_273 f_X13_248_12 (mo_t hM) rfl ?_
                    refine x_iadd dX13_read_276 ?_
                    exact x_iret dX13_read_277 rfl ⟨_, _, rfl, rfl, h⟩
                refine x_icmp_ne (tgt := 258) dX13_read_245 (by decide) (fun c245 => ?_) (fun c245 => ?_)
                · replace h := h.2 c245
                  change X _ _ _ _ _ _ [some (.ref m), some (.int y17_1), none] []
                  exact X.weak (xle_c rfl (xle_n (xle_n xle_nil))) (kj18 I17 h)
                · replace h := h.1 c245
                  refine x_aload_n dX13_read_248 rfl ?_
                  refine x_bipush_ (v := (12 : Int32)) dX13_read_249 (by decide) ?_
                  refine x_aload_n dX13_read_251 rfl ?_
                  refine x_get (v := .int (I17 m 3)) hG dX13_read_252 f_X13_157_12 (mo_t hM) rfl ?_
                  obtain ⟨R20, g20, h⟩ := h
                  refine x_callV hG (Ky := kX13_note) (As := [.int (12 : Int32), .int (I17 m 3)]) dX13_read_255 (mo_t hM) rfl lk_X13_352 me_X13_note is_X13_note se_X13_note rfl rfl (Nat.le_of_ble_eq_true rfl) (MX.post (m_X13_note hG hM g20) ?_)
                  rintro _ _ ⟨I20, rfl, rfl, h1⟩
                  replace h := h I20 h1
                  change X _ _ _ _ (A.wI I20) _ _ _
                  change X _ _ _ _ _ _ [some (.ref m), some (.int y17_1), none] []
                  exact X.weak (xle_c rfl (xle_n (xle_n xle_nil))) (kj18 I20 h)
              · replace h := h.2 c128
                refine x_aload_n dX13_read_131 rfl ?_
                refine x_get (v := .ref (m + 19)) hG dX13_read_132 f_X13_65_12 (mo_t hM) (congrArg va_rf (mo_P26 hM)) ?_
                refine x_iload_n dX13_read_135 rfl ?_
                obtain ⟨o21, h⟩ := h
                refine y_iald hG dX13_read_136 (mo_t26 hM) (mo_n26 hM) o21 ?_
                refine x_istore_n dX13_read_137 (by decide) ?_
                refine x_aload_n dX13_read_138 rfl ?_
                refine x_get (v := .ref (m + 7)) hG dX13_read_139 f_X13_28_12 (mo_t hM) (congrArg va_rf (mo_P10 hM)) ?_
                refine x_aload_n dX13_read_142 rfl ?_
                refine x_get (v := .ref (m + 18)) hG dX13_read_143 f_X13_62_12 (mo_t hM) (congrArg va_rf (mo_P25 hM)) ?_
                refine x_iload_n dX13_read_146 rfl ?_
                refine y_iald hG dX13_read_147 (mo_t25 hM) (mo_n25 hM) o21 ?_
                obtain ⟨o22, h⟩ := h
                refine y_iald hG dX13_read_148 (mo_t10 hM) (mo_n10 hM) o22 ?_
                refine x_iconst_ (v := (4 : Int32)) dX13_read_149 (by decide) ?_
                obtain ⟨J23, g23, h⟩ := h
                have kj23 : ∀ (I23 : xII), J23 I23 → X G (dp + 920) kX13_read (oI A Q) (A.wI I23) 234 [some (.ref m), some (.int y17_1), none] [] := by
                  intro I23 h
                  replace h := g23 I23 h
                  refine x_iinc (v := (y17_1 + (-1 : Int32))) dX13_read_234 rfl rfl (by decide) ?_
                  refine x_goto (tgt := 127) dX13_read_237 (by decide) ?_
                  obtain ⟨q17, l17, h⟩ := h
                  change X _ _ _ _ _ _ [some (.ref m), some (.int (y17_1 + (-1 : Int32))), none] []
                  exact X.weak (xle_c rfl (xle_c rfl (xle_n xle_nil))) (ih17 q17 l17 (y17_1 + (-1 : Int32)) I23 h)
                refine x_icmp_ne (tgt := 234) dX13_read_150 (by decide) (fun c150 => ?_) (fun c150 => ?_)
                · replace h := h.2 c150
                  change X _ _ _ _ _ _ [some (.ref m), some (.int y17_1), some (.int (I17 (m + 19) (ix y17_1)))] []
                  exact X.weak (xle_c rfl (xle_c rfl (xle_n xle_nil))) (kj23 I17 h)
                · replace h := h.1 c150
                  refine x_aload_n dX13_read_153 rfl ?_
                  refine x_iload_n dX13_read_154 rfl ?_
                  obtain ⟨R24, g24, h⟩ := h
                  refine x_callV hG (Ky := kX13_at) (As := [.int (I17 (m + 19) (ix y17_1))]) dX13_read_155 (mo_t hM) rfl lk_X13_177 me_X13_at is_X13_at se_X13_at rfl rfl (Nat.le_of_ble_eq_true rfl) (MX.post (m_X13_at hG hM g24) ?_)
                  rintro _ _ ⟨v24, I24, rfl, rfl, h1⟩
                  replace h := h v24 I24 h1
                  change X _ _ _ _ (A.wI I24) _ _ (.int v24 :: _)
                  refine x_bipush_ (v := (109 : Int32)) dX13_read_158 (by decide) ?_
                  refine x_icmp_ne (tgt := 234) dX13_read_160 (by decide) (fun c160 => ?_) (fun c160 => ?_)
                  · replace h := h.2 c160
                    change X _ _ _ _ _ _ [some (.ref m), some (.int y17_1), some (.int (I17 (m + 19) (ix y17_1)))] []
                    exact X.weak (xle_c rfl (xle_c rfl (xle_n xle_nil))) (kj23 I24 h)
                  · replace h := h.1 c160
                    refine x_aload_n dX13_read_163 rfl ?_
                    refine x_iload_n dX13_read_164 rfl ?_
                    refine x_iconst_ (v := (1 : Int32)) dX13_read_165 (by decide) ?_
                    refine x_iadd dX13_read_166 ?_
                    obtain ⟨R25, g25, h⟩ := h
                    refine x_callV hG (Ky := kX13_at) (As := [.int ((I17 (m + 19) (ix y17_1)) + (1 : Int32))]) dX13_read_167 (mo_t hM) rfl lk_X13_177 me_X13_at is_X13_at se_X13_at rfl rfl (Nat.le_of_ble_eq_true rfl) (MX.post (m_X13_at hG hM g25) ?_)
                    rintro _ _ ⟨v25, I25, rfl, rfl, h1⟩
                    replace h := h v25 I25 h1
                    change X _ _ _ _ (A.wI I25) _ _ (.int v25 :: _)
                    refine x_bipush_ (v := (97 : Int32)) dX13_read_170 (by decide) ?_
                    refine x_icmp_ne (tgt := 234) dX13_read_172 (by decide) (fun c172 => ?_) (fun c172 => ?_)
                    · replace h := h.2 c172
                      change X _ _ _ _ _ _ [some (.ref m), some (.int y17_1), some (.int (I17 (m + 19) (ix y17_1)))] []
                      exact X.weak (xle_c rfl (xle_c rfl (xle_n xle_nil))) (kj23 I25 h)
                    · replace h := h.1 c172
                      refine x_aload_n dX13_read_175 rfl ?_
                      refine x_iload_n dX13_read_176 rfl ?_
                      refine x_iconst_ (v := (2 : Int32)) dX13_read_177 (by decide) ?_
                      refine x_iadd dX13_read_178 ?_
                      obtain ⟨R26, g26, h⟩ := h
                      refine x_callV hG (Ky := kX13_at) (As := [.int ((I17 (m + 19) (ix y17_1)) + (2 : Int32))]) dX13_read_179 (mo_t hM) rfl lk_X13_177 me_X13_at is_X13_at se_X13_at rfl rfl (Nat.le_of_ble_eq_true rfl) (MX.post (m_X13_at hG hM g26) ?_)
                      rintro _ _ ⟨v26, I26, rfl, rfl, h1⟩
                      replace h := h v26 I26 h1
                      change X _ _ _ _ (A.wI I26) _ _ (.int v26 :: _)
                      refine x_bipush_ (v := (105 : Int32)) dX13_read_182 (by decide) ?_
                      refine x_icmp_ne (tgt := 234) dX13_read_184 (by decide) (fun c184 => ?_) (fun c184 => ?_)
                      · replace h := h.2 c184
                        change X _ _ _ _ _ _ [some (.ref m), some (.int y17_1), some (.int (I17 (m + 19) (ix y17_1)))] []
                        exact X.weak (xle_c rfl (xle_c rfl (xle_n xle_nil))) (kj23 I26 h)
                      · replace h := h.1 c184
                        refine x_aload_n dX13_read_187 rfl ?_
                        refine x_iload_n dX13_read_188 rfl ?_
                        refine x_iconst_ (v := (3 : Int32)) dX13_read_189 (by decide) ?_
                        refine x_iadd dX13_read_190 ?_
                        obtain ⟨R27, g27, h⟩ := h
                        refine x_callV hG (Ky := kX13_at) (As := [.int ((I17 (m + 19) (ix y17_1)) + (3 : Int32))]) dX13_read_191 (mo_t hM) rfl lk_X13_177 me_X13_at is_X13_at se_X13_at rfl rfl (Nat.le_of_ble_eq_true rfl) (MX.post (m_X13_at hG hM g27) ?_)
                        rintro _ _ ⟨v27, I27, rfl, rfl, h1⟩
                        replace h := h v27 I27 h1
                        change X _ _ _ _ (A.wI I27) _ _ (.int v27 :: _)
                        refine x_bipush_ (v := (110 : Int32)) dX13_read_194 (by decide) ?_
                        refine x_icmp_eq (tgt := 202) dX13_read_196 (by decide) (fun c196 => ?_) (fun c196 => ?_)
                        · replace h := h.1 c196
                          refine x_aload_n dX13_read_202 rfl ?_
                          refine x_iload_n dX13_read_203 rfl ?_
                          refine y_put hG hM dX13_read_204 f_X13_527_12 ⟨_, rfl, Or.inl rfl⟩ rfl rfl ⟨_, rfl⟩ (fun I28 e28 => ?_)
                          replace h := h I28 e28
                          refine x_aload_n dX13_read_207 rfl ?_
                          refine x_get (v := .ref (m + 25)) hG dX13_read_208 f_X13_83_12 (mo_t hM) (congrArg va_rf (mo_P32 hM)) ?_
                          refine x_iload_n dX13_read_211 rfl ?_
                          refine y_iald hG dX13_read_212 (mo_t32 hM) (mo_n32 hM) o21 ?_
                          refine x_eqi (v := (I27 (m + 25) (ix y17_1))) (xup_ra e28 (by omega)) ?_
                          refine x_iconst_ (v := (-1 : Int32)) dX13_read_213 (by decide) ?_
                          refine x_icmp_eq (tgt := 234) dX13_read_214 (by decide) (fun c214 => ?_) (fun c214 => ?_)
                          · replace h := h.1 c214
                            change X _ _ _ _ _ _ [some (.ref m), some (.int y17_1), some (.int (I17 (m + 19) (ix y17_1)))] []
                            exact X.weak (xle_c rfl (xle_c rfl (xle_n xle_nil))) (kj23 I28 h)
                          · replace h := h.2 c214
                            refine x_aload_n dX13_read_217 rfl ?_
                            refine x_bipush_ (v := (12 : Int32)) dX13_read_218 (by decide) ?_
                            refine x_aload_n dX13_read_220 rfl ?_
                            refine x_get (v := .ref (m + 5)) hG dX13_read_221 f_X13_22_12 (mo_t hM) (congrArg va_rf (mo_P6 hM)) ?_
                            refine x_aload_n dX13_read_224 rfl ?_
                            refine x_get (v := .ref (m + 25)) hG dX13_read_225 f_X13_83_12 (mo_t hM) (congrArg va_rf (mo_P32 hM)) ?_
                            refine x_iload_n dX13_read_228 rfl ?_
                            refine y_iald hG dX13_read_229 (mo_t32 hM) (mo_n32 hM) o21 ?_
                            refine x_eqi (v := (I27 (m + 25) (ix y17_1))) (xup_ra e28 (by omega)) ?_
                            obtain ⟨o29, h⟩ := h
                            refine y_iald hG dX13_read_230 (mo_t6 hM) (mo_n6 hM) o29 ?_
                            refine x_eqi (v := (I27 (m + 5) (ix (I27 (m + 25) (ix y17_1))))) (xup_ra e28 (by omega)) ?_
                            obtain ⟨R30, g30, h⟩ := h
                            refine x_callV hG (Ky := kX13_note) (As := [.int (12 : Int32), .int (I27 (m + 5) (ix (I27 (m + 25) (ix y17_1))))]) dX13_read_231 (mo_t hM) rfl lk_X13_352 me_X13_note is_X13_note se_X13_note rfl rfl (Nat.le_of_ble_eq_true rfl) (MX.post (m_X13_note hG hM g30) ?_)
                            rintro _ _ ⟨I30, rfl, rfl, h1⟩
                            replace h := h I30 h1
                            change X _ _ _ _ (A.wI I30) _ _ _
                            change X _ _ _ _ _ _ [some (.ref m), some (.int y17_1), some (.int (I17 (m + 19) (ix y17_1)))] []
                            exact X.weak (xle_c rfl (xle_c rfl (xle_n xle_nil))) (kj23 I30 h)
                        · replace h := h.2 c196
                          refine x_goto (tgt := 234) dX13_read_199 (by decide) ?_
                          change X _ _ _ _ _ _ [some (.ref m), some (.int y17_1), some (.int (I17 (m + 19) (ix y17_1)))] []
                          exact X.weak (xle_c rfl (xle_c rfl (xle_n xle_nil))) (kj23 I27 h)
          change X _ _ _ _ _ _ [some (.ref m), some (.int ((I15 m 24) - (1 : Int32))), none] []
          exact X.weak (xle_c rfl (xle_c rfl (xle_n xle_nil))) (kl17 n17 ((I15 m 24) - (1 : Int32)) I16 i17)
        · replace h := h.1 c89
          refine x_bipush_ (v := (16 : Int32)) dX13_read_92 (by decide) ?_
          refine x_aload_n dX13_read_94 rfl ?_
          refine x_get (v := .int (I13 m 45)) hG dX13_read_95 f_X13_236_12 (mo_t hM) rfl ?_
          refine x_imul dX13_read_98 ?_
          refine x_aload_n dX13_read_99 rfl ?_
          refine x_get (v := .int (I13 m 44)) hG dX13_read_100 f_X13_230_12 (mo_t hM) rfl ?_
          refine x_iadd dX13_read_103 ?_
          exact x_iret dX13_read_104 rfl ⟨_, _, rfl, rfl, h⟩
      · replace h := h.2 c15
        refine x_aload_n dX13_read_18 rfl ?_
        refine x_get (v := .ref (m + 2)) hG dX13_read_19 f_X13_13_12 (mo_t hM) (congrArg va_rf (mo_P1 hM)) ?_
        refine x_iload_n dX13_read_22 rfl ?_
        refine x_aload_n dX13_read_23 rfl ?_
        refine x_get (v := .ref (m + 1)) hG dX13_read_24 f_X13_9_12 (mo_t hM) (congrArg va_rf (mo_P0 hM)) ?_
        refine x_iload_n dX13_read_27 rfl ?_
        obtain ⟨o31, h⟩ := h
        refine y_iald hG dX13_read_28 (mo_t0 hM) (mo_n0 hM) o31 ?_
        refine y_iast hG dX13_read_29 (mo_t1 hM) (mo_aN hM) (mo_n1 hM) o31 (fun I32 e32 => ?_)
        replace h := h I32 e32
        refine x_iinc (v := (y2_1 + (1 : Int32))) dX13_read_30 rfl rfl (by decide) ?_
        refine x_goto (tgt := 10) dX13_read_33 (by decide) ?_
        obtain ⟨q2, l2, h⟩ := h
        change X _ _ _ _ _ _ [some (.ref m), some (.int (y2_1 + (1 : Int32))), none] []
        exact X.weak (xle_c rfl (xle_c rfl (xle_n xle_nil))) (ih2 q2 l2 (y2_1 + (1 : Int32)) I32 h)
  change X _ _ _ _ _ _ [some (.ref m), some (.int (0 : Int32)), none] []
  exact X.weak (xle_c rfl (xle_c rfl (xle_n xle_nil))) (kl2 n2 (0 : Int32) I1 i2)
end W108
