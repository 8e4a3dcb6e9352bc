/-! ===== 045.hpure (tools/h045.py) ===== -/
set_option maxRecDepth 100000
section W045
variable {G : xG}
def f_J11_max (a b : Int32) : Int32 := if a < b then b else a
def f_X0_below (a : Int32) : Int32 := (if (16 : Int32) < a then (0 : Int32) else (1 : Int32))
theorem m_X0_below (hG : xOK G) {d : Nat} {A : xA} {a : Int32} : MX G (d + 0) kX0_below [.int a] A (xIs (some (.int (f_X0_below a))) A) := by
  refine MX.of rfl (Nat.le_of_ble_eq_true rfl) ?_
  change X _ _ _ _ _ _ [some (.int a)] _
  refine x_iload_n dX0_below_0 rfl ?_
  refine x_bipush_ (v := (16 : Int32)) dX0_below_1 (by decide) ?_
  refine x_via 11 (A' := A) (lv' := [some (.int a)]) (st' := [.int (if (16 : Int32) < a then (0 : Int32) else (1 : Int32))]) ?_ (fun k11 => ?_)
  · refine x_zret dX0_below_11 rfl ite01 ?_
    exact ⟨by simp only [f_X0_below], rfl⟩
  · refine x_icmp_gt (tgt := 10) dX0_below_3 (by decide) (fun c3 => ?_) (fun c3 => ?_)
    · refine x_iconst_ (v := (0 : Int32)) dX0_below_10 (by decide) ?_
      simp only [if_pos c3] at k11 ⊢
      first | exact k11 | exact X.weak (by simp [xle]) k11
    · refine x_iconst_ (v := (1 : Int32)) dX0_below_6 (by decide) ?_
      refine x_goto (tgt := 11) dX0_below_7 (by decide) ?_
      simp only [if_neg c3] at k11 ⊢
      first | exact k11 | exact X.weak (by simp [xle]) k11
theorem z_X0_below {a : Int32} : f_X0_below a = 0 ∨ f_X0_below a = 1 := by
  unfold f_X0_below
  (repeat' split) <;> decide
def f_X0_done (t : Int32) (a : Int32) (b : Int32) : Int32 := (if t = (0 : Int32) then (a + b) else (if t = (1 : Int32) then (a - b) else (if t = (2 : Int32) then (a * b) else (if t = (3 : Int32) then (if b = 0 then (-1 : Int32) else (if b = (-1 : Int32) then (-a) else (a / b))) else (if t = (4 : Int32) then (if b = 0 then a else (if b = (-1 : Int32) then (0 : Int32) else (a - a / b * b))) else (if t = (5 : Int32) then (a &&& b) else (if t = (6 : Int32) then (a ||| b) else (if t = (7 : Int32) then (a ^^^ b) else (if t = (8 : Int32) then (jishl a (b &&& (31 : Int32))) else (if t = (9 : Int32) then (jishr a (b &&& (31 : Int32))) else (if t = (10 : Int32) then (jiushr a (b &&& (31 : Int32))) else (if t = (11 : Int32) then (if a = b then (1 : Int32) else (0 : Int32)) else (if t = (12 : Int32) then (if a = b then (0 : Int32) else (1 : Int32)) else (if t = (13 : Int32) then (if b ≤ a then (0 : Int32) else (1 : Int32)) else (if t = (14 : Int32) then (if a ≤ b then (0 : Int32) else (1 : Int32)) else (if t = (15 : Int32) then (if b < a then (0 : Int32) else (1 : Int32)) else (if a < b then (0 : Int32) else (1 : Int32))))))))))))))))))
def p_X0_done (t : Int32) (a : Int32) (b : Int32) : Prop := (((¬ t = (0 : Int32) → (((¬ t = (1 : Int32) → (((¬ t = (2 : Int32) → (((t = (3 : Int32) → (((¬ b = 0 → (((¬ b = (-1 : Int32) → ((¬ b = 0))))))))) ∧ (¬ t = (3 : Int32) → (((t = (4 : Int32) → (((¬ b = 0 → (((¬ b = (-1 : Int32) → ((¬ b = 0)))))))))))))))))))))))
theorem m_X0_done (hG : xOK G) {d : Nat} {A : xA} {t : Int32} {a : Int32} {b : Int32} (h : p_X0_done t a b) : MX G (d + 0) kX0_done [.int t, .int a, .int b] A (xIs (some (.int (f_X0_done t a b))) A) := by
  unfold p_X0_done at h
  refine MX.of rfl (Nat.le_of_ble_eq_true rfl) ?_
  change X _ _ _ _ _ _ [some (.int t), some (.int a), some (.int b)] _
  refine x_iload_n dX0_done_0 rfl ?_
  refine x_sw (0 : Int32) (fun s1_0 => ?_) (fun s1_0 => ?_)
  · refine x_tableIn (off := 79) (tgt := 80) dX0_done_1 (by rw [s1_0]; decide) (by rw [s1_0]; decide) (by rw [s1_0]; rfl) (by decide) ?_
    refine x_iload_n dX0_done_80 rfl ?_
    refine x_iload_n dX0_done_81 rfl ?_
    refine x_iadd dX0_done_82 ?_
    refine x_iret dX0_done_83 rfl ?_
    exact ⟨by simp only [f_X0_done, if_pos s1_0], rfl⟩
  refine x_sw (1 : Int32) (fun s1_1 => ?_) (fun s1_1 => ?_)
  · refine x_tableIn (off := 83) (tgt := 84) dX0_done_1 (by rw [s1_1]; decide) (by rw [s1_1]; decide) (by rw [s1_1]; rfl) (by decide) ?_
    refine x_iload_n dX0_done_84 rfl ?_
    refine x_iload_n dX0_done_85 rfl ?_
    refine x_isub dX0_done_86 ?_
    refine x_iret dX0_done_87 rfl ?_
    exact ⟨by simp only [f_X0_done, if_neg s1_0, if_pos s1_1], rfl⟩
  refine x_sw (2 : Int32) (fun s1_2 => ?_) (fun s1_2 => ?_)
  · refine x_tableIn (off := 87) (tgt := 88) dX0_done_1 (by rw [s1_2]; decide) (by rw [s1_2]; decide) (by rw [s1_2]; rfl) (by decide) ?_
    refine x_iload_n dX0_done_88 rfl ?_
    refine x_iload_n dX0_done_89 rfl ?_
    refine x_imul dX0_done_90 ?_
    refine x_iret dX0_done_91 rfl ?_
    exact ⟨by simp only [f_X0_done, if_neg s1_0, if_neg s1_1, if_pos s1_2], rfl⟩
  refine x_sw (3 : Int32) (fun s1_3 => ?_) (fun s1_3 => ?_)
  · refine x_tableIn (off := 91) (tgt := 92) dX0_done_1 (by rw [s1_3]; decide) (by rw [s1_3]; decide) (by rw [s1_3]; rfl) (by decide) ?_
    refine x_iload_n dX0_done_92 rfl ?_
    refine x_via 113 (A' := A) (lv' := [some (.int t), some (.int a), some (.int b)]) (st' := [.int (if b = 0 then (-1 : Int32) else (if b = (-1 : Int32) then (-a) else (a / b)))]) ?_ (fun k113 => ?_)
    · refine x_iret dX0_done_113 rfl ?_
      exact ⟨by simp only [f_X0_done, if_neg s1_0, if_neg s1_1, if_neg s1_2, if_pos s1_3], rfl⟩
    · refine x_if_ne (tgt := 100) dX0_done_93 (by decide) (fun c93 => ?_) (fun c93 => ?_)
      · refine x_iload_n dX0_done_100 rfl ?_
        refine x_iconst_ (v := (-1 : Int32)) dX0_done_101 (by decide) ?_
        refine x_icmp_ne (tgt := 110) dX0_done_102 (by decide) (fun c102 => ?_) (fun c102 => ?_)
        · refine x_iload_n dX0_done_110 rfl ?_
          refine x_iload_n dX0_done_111 rfl ?_
          refine x_idiv dX0_done_112 (((((((h s1_0) s1_1) s1_2).1 s1_3) c93) c102)) ?_
          simp only [if_neg c93, if_neg c102] at k113 ⊢
          first | exact k113 | exact X.weak (by simp [xle]) k113
        · refine x_iload_n dX0_done_105 rfl ?_
          refine x_ineg dX0_done_106 ?_
          refine x_goto (tgt := 113) dX0_done_107 (by decide) ?_
          simp only [if_neg c93, if_pos c102] at k113 ⊢
          first | exact k113 | exact X.weak (by simp [xle]) k113
      · refine x_iconst_ (v := (-1 : Int32)) dX0_done_96 (by decide) ?_
        refine x_goto (tgt := 113) dX0_done_97 (by decide) ?_
        simp only [if_pos c93] at k113 ⊢
        first | exact k113 | exact X.weak (by simp [xle]) k113
  refine x_sw (4 : Int32) (fun s1_4 => ?_) (fun s1_4 => ?_)
  · refine x_tableIn (off := 113) (tgt := 114) dX0_done_1 (by rw [s1_4]; decide) (by rw [s1_4]; decide) (by rw [s1_4]; rfl) (by decide) ?_
    refine x_iload_n dX0_done_114 rfl ?_
    refine x_via 134 (A' := A) (lv' := [some (.int t), some (.int a), some (.int b)]) (st' := [.int (if b = 0 then a else (if b = (-1 : Int32) then (0 : Int32) else (a - a / b * b)))]) ?_ (fun k134 => ?_)
    · refine x_iret dX0_done_134 rfl ?_
      exact ⟨by simp only [f_X0_done, if_neg s1_0, if_neg s1_1, if_neg s1_2, if_neg s1_3, if_pos s1_4], rfl⟩
    · refine x_if_ne (tgt := 122) dX0_done_115 (by decide) (fun c115 => ?_) (fun c115 => ?_)
      · refine x_iload_n dX0_done_122 rfl ?_
        refine x_iconst_ (v := (-1 : Int32)) dX0_done_123 (by decide) ?_
        refine x_icmp_ne (tgt := 131) dX0_done_124 (by decide) (fun c124 => ?_) (fun c124 => ?_)
        · refine x_iload_n dX0_done_131 rfl ?_
          refine x_iload_n dX0_done_132 rfl ?_
          refine x_irem dX0_done_133 ((((((((h s1_0) s1_1) s1_2).2 s1_3) s1_4) c115) c124)) ?_
          simp only [if_neg c115, if_neg c124] at k134 ⊢
          first | exact k134 | exact X.weak (by simp [xle]) k134
        · refine x_iconst_ (v := (0 : Int32)) dX0_done_127 (by decide) ?_
          refine x_goto (tgt := 134) dX0_done_128 (by decide) ?_
          simp only [if_neg c115, if_pos c124] at k134 ⊢
          first | exact k134 | exact X.weak (by simp [xle]) k134
      · refine x_iload_n dX0_done_118 rfl ?_
        refine x_goto (tgt := 134) dX0_done_119 (by decide) ?_
        simp only [if_pos c115] at k134 ⊢
        first | exact k134 | exact X.weak (by simp [xle]) k134
  refine x_sw (5 : Int32) (fun s1_5 => ?_) (fun s1_5 => ?_)
  · refine x_tableIn (off := 134) (tgt := 135) dX0_done_1 (by rw [s1_5]; decide) (by rw [s1_5]; decide) (by rw [s1_5]; rfl) (by decide) ?_
    refine x_iload_n dX0_done_135 rfl ?_
    refine x_iload_n dX0_done_136 rfl ?_
    refine x_iand dX0_done_137 ?_
    refine x_iret dX0_done_138 rfl ?_
    exact ⟨by simp only [f_X0_done, if_neg s1_0, if_neg s1_1, if_neg s1_2, if_neg s1_3, if_neg s1_4, if_pos s1_5], rfl⟩
  refine x_sw (6 : Int32) (fun s1_6 => ?_) (fun s1_6 => ?_)
  · refine x_tableIn (off := 138) (tgt := 139) dX0_done_1 (by rw [s1_6]; decide) (by rw [s1_6]; decide) (by rw [s1_6]; rfl) (by decide) ?_
    refine x_iload_n dX0_done_139 rfl ?_
    refine x_iload_n dX0_done_140 rfl ?_
    refine x_ior dX0_done_141 ?_
    refine x_iret dX0_done_142 rfl ?_
    exact ⟨by simp only [f_X0_done, if_neg s1_0, if_neg s1_1, if_neg s1_2, if_neg s1_3, if_neg s1_4, if_neg s1_5, if_pos s1_6], rfl⟩
  refine x_sw (7 : Int32) (fun s1_7 => ?_) (fun s1_7 => ?_)
  · refine x_tableIn (off := 142) (tgt := 143) dX0_done_1 (by rw [s1_7]; decide) (by rw [s1_7]; decide) (by rw [s1_7]; rfl) (by decide) ?_
    refine x_iload_n dX0_done_143 rfl ?_
    refine x_iload_n dX0_done_144 rfl ?_
    refine x_ixor dX0_done_145 ?_
    refine x_iret dX0_done_146 rfl ?_
    exact ⟨by simp only [f_X0_done, if_neg s1_0, if_neg s1_1, if_neg s1_2, if_neg s1_3, if_neg s1_4, if_neg s1_5, if_neg s1_6, if_pos s1_7], rfl⟩
  refine x_sw (8 : Int32) (fun s1_8 => ?_) (fun s1_8 => ?_)
  · refine x_tableIn (off := 146) (tgt := 147) dX0_done_1 (by rw [s1_8]; decide) (by rw [s1_8]; decide) (by rw [s1_8]; rfl) (by decide) ?_
    refine x_iload_n dX0_done_147 rfl ?_
    refine x_iload_n dX0_done_148 rfl ?_
    refine x_bipush_ (v := (31 : Int32)) dX0_done_149 (by decide) ?_
    refine x_iand dX0_done_151 ?_
    refine x_ishl dX0_done_152 ?_
    refine x_eqi (v := (jishl a (b &&& (31 : Int32)))) rfl ?_
    refine x_iret dX0_done_153 rfl ?_
    exact ⟨by simp only [f_X0_done, if_neg s1_0, if_neg s1_1, if_neg s1_2, if_neg s1_3, if_neg s1_4, if_neg s1_5, if_neg s1_6, if_neg s1_7, if_pos s1_8], rfl⟩
  refine x_sw (9 : Int32) (fun s1_9 => ?_) (fun s1_9 => ?_)
  · refine x_tableIn (off := 153) (tgt := 154) dX0_done_1 (by rw [s1_9]; decide) (by rw [s1_9]; decide) (by rw [s1_9]; rfl) (by decide) ?_
    refine x_iload_n dX0_done_154 rfl ?_
    refine x_iload_n dX0_done_155 rfl ?_
    refine x_bipush_ (v := (31 : Int32)) dX0_done_156 (by decide) ?_
    refine x_iand dX0_done_158 ?_
    refine x_ishr dX0_done_159 ?_
    refine x_eqi (v := (jishr a (b &&& (31 : Int32)))) rfl ?_
    refine x_iret dX0_done_160 rfl ?_
    exact ⟨by simp only [f_X0_done, if_neg s1_0, if_neg s1_1, if_neg s1_2, if_neg s1_3, if_neg s1_4, if_neg s1_5, if_neg s1_6, if_neg s1_7, if_neg s1_8, if_pos s1_9], rfl⟩
  refine x_sw (10 : Int32) (fun s1_10 => ?_) (fun s1_10 => ?_)
  · refine x_tableIn (off := 160) (tgt := 161) dX0_done_1 (by rw [s1_10]; decide) (by rw [s1_10]; decide) (by rw [s1_10]; rfl) (by decide) ?_
    refine x_iload_n dX0_done_161 rfl ?_
    refine x_iload_n dX0_done_162 rfl ?_
    refine x_bipush_ (v := (31 : Int32)) dX0_done_163 (by decide) ?_
    refine x_iand dX0_done_165 ?_
    refine x_iushr dX0_done_166 ?_
    refine x_eqi (v := (jiushr a (b &&& (31 : Int32)))) rfl ?_
    refine x_iret dX0_done_167 rfl ?_
    exact ⟨by simp only [f_X0_done, if_neg s1_0, if_neg s1_1, if_neg s1_2, if_neg s1_3, if_neg s1_4, if_neg s1_5, if_neg s1_6, if_neg s1_7, if_neg s1_8, if_neg s1_9, if_pos s1_10], rfl⟩
  refine x_sw (11 : Int32) (fun s1_11 => ?_) (fun s1_11 => ?_)
  · refine x_tableIn (off := 167) (tgt := 168) dX0_done_1 (by rw [s1_11]; decide) (by rw [s1_11]; decide) (by rw [s1_11]; rfl) (by decide) ?_
    refine x_iload_n dX0_done_168 rfl ?_
    refine x_iload_n dX0_done_169 rfl ?_
    refine x_via 178 (A' := A) (lv' := [some (.int t), some (.int a), some (.int b)]) (st' := [.int (if a = b then (1 : Int32) else (0 : Int32))]) ?_ (fun k178 => ?_)
    · refine x_iret dX0_done_178 rfl ?_
      exact ⟨by simp only [f_X0_done, if_neg s1_0, if_neg s1_1, if_neg s1_2, if_neg s1_3, if_neg s1_4, if_neg s1_5, if_neg s1_6, if_neg s1_7, if_neg s1_8, if_neg s1_9, if_neg s1_10, if_pos s1_11], rfl⟩
    · refine x_icmp_ne (tgt := 177) dX0_done_170 (by decide) (fun c170 => ?_) (fun c170 => ?_)
      · refine x_iconst_ (v := (0 : Int32)) dX0_done_177 (by decide) ?_
        simp only [if_neg c170] at k178 ⊢
        first | exact k178 | exact X.weak (by simp [xle]) k178
      · refine x_iconst_ (v := (1 : Int32)) dX0_done_173 (by decide) ?_
        refine x_goto (tgt := 178) dX0_done_174 (by decide) ?_
        simp only [if_pos c170] at k178 ⊢
        first | exact k178 | exact X.weak (by simp [xle]) k178
  refine x_sw (12 : Int32) (fun s1_12 => ?_) (fun s1_12 => ?_)
  · refine x_tableIn (off := 178) (tgt := 179) dX0_done_1 (by rw [s1_12]; decide) (by rw [s1_12]; decide) (by rw [s1_12]; rfl) (by decide) ?_
    refine x_iload_n dX0_done_179 rfl ?_
    refine x_iload_n dX0_done_180 rfl ?_
    refine x_via 189 (A' := A) (lv' := [some (.int t), some (.int a), some (.int b)]) (st' := [.int (if a = b then (0 : Int32) else (1 : Int32))]) ?_ (fun k189 => ?_)
    · refine x_iret dX0_done_189 rfl ?_
      exact ⟨by simp only [f_X0_done, if_neg s1_0, if_neg s1_1, if_neg s1_2, if_neg s1_3, if_neg s1_4, if_neg s1_5, if_neg s1_6, if_neg s1_7, if_neg s1_8, if_neg s1_9, if_neg s1_10, if_neg s1_11, if_pos s1_12], rfl⟩
    · refine x_icmp_eq (tgt := 188) dX0_done_181 (by decide) (fun c181 => ?_) (fun c181 => ?_)
      · refine x_iconst_ (v := (0 : Int32)) dX0_done_188 (by decide) ?_
        simp only [if_pos c181] at k189 ⊢
        first | exact k189 | exact X.weak (by simp [xle]) k189
      · refine x_iconst_ (v := (1 : Int32)) dX0_done_184 (by decide) ?_
        refine x_goto (tgt := 189) dX0_done_185 (by decide) ?_
        simp only [if_neg c181] at k189 ⊢
        first | exact k189 | exact X.weak (by simp [xle]) k189
  refine x_sw (13 : Int32) (fun s1_13 => ?_) (fun s1_13 => ?_)
  · refine x_tableIn (off := 189) (tgt := 190) dX0_done_1 (by rw [s1_13]; decide) (by rw [s1_13]; decide) (by rw [s1_13]; rfl) (by decide) ?_
    refine x_iload_n dX0_done_190 rfl ?_
    refine x_iload_n dX0_done_191 rfl ?_
    refine x_via 200 (A' := A) (lv' := [some (.int t), some (.int a), some (.int b)]) (st' := [.int (if b ≤ a then (0 : Int32) else (1 : Int32))]) ?_ (fun k200 => ?_)
    · refine x_iret dX0_done_200 rfl ?_
      exact ⟨by simp only [f_X0_done, if_neg s1_0, if_neg s1_1, if_neg s1_2, if_neg s1_3, if_neg s1_4, if_neg s1_5, if_neg s1_6, if_neg s1_7, if_neg s1_8, if_neg s1_9, if_neg s1_10, if_neg s1_11, if_neg s1_12, if_pos s1_13], rfl⟩
    · refine x_icmp_ge (tgt := 199) dX0_done_192 (by decide) (fun c192 => ?_) (fun c192 => ?_)
      · refine x_iconst_ (v := (0 : Int32)) dX0_done_199 (by decide) ?_
        simp only [if_pos c192] at k200 ⊢
        first | exact k200 | exact X.weak (by simp [xle]) k200
      · refine x_iconst_ (v := (1 : Int32)) dX0_done_195 (by decide) ?_
        refine x_goto (tgt := 200) dX0_done_196 (by decide) ?_
        simp only [if_neg c192] at k200 ⊢
        first | exact k200 | exact X.weak (by simp [xle]) k200
  refine x_sw (14 : Int32) (fun s1_14 => ?_) (fun s1_14 => ?_)
  · refine x_tableIn (off := 200) (tgt := 201) dX0_done_1 (by rw [s1_14]; decide) (by rw [s1_14]; decide) (by rw [s1_14]; rfl) (by decide) ?_
    refine x_iload_n dX0_done_201 rfl ?_
    refine x_iload_n dX0_done_202 rfl ?_
    refine x_via 211 (A' := A) (lv' := [some (.int t), some (.int a), some (.int b)]) (st' := [.int (if a ≤ b then (0 : Int32) else (1 : Int32))]) ?_ (fun k211 => ?_)
    · refine x_iret dX0_done_211 rfl ?_
      exact ⟨by simp only [f_X0_done, if_neg s1_0, if_neg s1_1, if_neg s1_2, if_neg s1_3, if_neg s1_4, if_neg s1_5, if_neg s1_6, if_neg s1_7, if_neg s1_8, if_neg s1_9, if_neg s1_10, if_neg s1_11, if_neg s1_12, if_neg s1_13, if_pos s1_14], rfl⟩
    · refine x_icmp_le (tgt := 210) dX0_done_203 (by decide) (fun c203 => ?_) (fun c203 => ?_)
      · refine x_iconst_ (v := (0 : Int32)) dX0_done_210 (by decide) ?_
        simp only [if_pos c203] at k211 ⊢
        first | exact k211 | exact X.weak (by simp [xle]) k211
      · refine x_iconst_ (v := (1 : Int32)) dX0_done_206 (by decide) ?_
        refine x_goto (tgt := 211) dX0_done_207 (by decide) ?_
        simp only [if_neg c203] at k211 ⊢
        first | exact k211 | exact X.weak (by simp [xle]) k211
  refine x_sw (15 : Int32) (fun s1_15 => ?_) (fun s1_15 => ?_)
  · refine x_tableIn (off := 211) (tgt := 212) dX0_done_1 (by rw [s1_15]; decide) (by rw [s1_15]; decide) (by rw [s1_15]; rfl) (by decide) ?_
    refine x_iload_n dX0_done_212 rfl ?_
    refine x_iload_n dX0_done_213 rfl ?_
    refine x_via 222 (A' := A) (lv' := [some (.int t), some (.int a), some (.int b)]) (st' := [.int (if b < a then (0 : Int32) else (1 : Int32))]) ?_ (fun k222 => ?_)
    · refine x_iret dX0_done_222 rfl ?_
      exact ⟨by simp only [f_X0_done, if_neg s1_0, if_neg s1_1, if_neg s1_2, if_neg s1_3, if_neg s1_4, if_neg s1_5, if_neg s1_6, if_neg s1_7, if_neg s1_8, if_neg s1_9, if_neg s1_10, if_neg s1_11, if_neg s1_12, if_neg s1_13, if_neg s1_14, if_pos s1_15], rfl⟩
    · refine x_icmp_gt (tgt := 221) dX0_done_214 (by decide) (fun c214 => ?_) (fun c214 => ?_)
      · refine x_iconst_ (v := (0 : Int32)) dX0_done_221 (by decide) ?_
        simp only [if_pos c214] at k222 ⊢
        first | exact k222 | exact X.weak (by simp [xle]) k222
      · refine x_iconst_ (v := (1 : Int32)) dX0_done_217 (by decide) ?_
        refine x_goto (tgt := 222) dX0_done_218 (by decide) ?_
        simp only [if_neg c214] at k222 ⊢
        first | exact k222 | exact X.weak (by simp [xle]) k222
  have t1_0 := lv_neT s1_0 (a := 0) (by decide)
  have t1_1 := lv_neT s1_1 (a := 1) (by decide)
  have t1_2 := lv_neT s1_2 (a := 2) (by decide)
  have t1_3 := lv_neT s1_3 (a := 3) (by decide)
  have t1_4 := lv_neT s1_4 (a := 4) (by decide)
  have t1_5 := lv_neT s1_5 (a := 5) (by decide)
  have t1_6 := lv_neT s1_6 (a := 6) (by decide)
  have t1_7 := lv_neT s1_7 (a := 7) (by decide)
  have t1_8 := lv_neT s1_8 (a := 8) (by decide)
  have t1_9 := lv_neT s1_9 (a := 9) (by decide)
  have t1_10 := lv_neT s1_10 (a := 10) (by decide)
  have t1_11 := lv_neT s1_11 (a := 11) (by decide)
  have t1_12 := lv_neT s1_12 (a := 12) (by decide)
  have t1_13 := lv_neT s1_13 (a := 13) (by decide)
  have t1_14 := lv_neT s1_14 (a := 14) (by decide)
  have t1_15 := lv_neT s1_15 (a := 15) (by decide)
  refine x_tableOut (tgt := 223) dX0_done_1 (by omega) (by decide) ?_
  refine x_iload_n dX0_done_223 rfl ?_
  refine x_iload_n dX0_done_224 rfl ?_
  refine x_via 233 (A' := A) (lv' := [some (.int t), some (.int a), some (.int b)]) (st' := [.int (if a < b then (0 : Int32) else (1 : Int32))]) ?_ (fun k233 => ?_)
  · refine x_iret dX0_done_233 rfl ?_
    exact ⟨by simp only [f_X0_done, if_neg s1_0, if_neg s1_1, if_neg s1_2, if_neg s1_3, if_neg s1_4, if_neg s1_5, if_neg s1_6, if_neg s1_7, if_neg s1_8, if_neg s1_9, if_neg s1_10, if_neg s1_11, if_neg s1_12, if_neg s1_13, if_neg s1_14, if_neg s1_15], rfl⟩
  · refine x_icmp_lt (tgt := 232) dX0_done_225 (by decide) (fun c225 => ?_) (fun c225 => ?_)
    · refine x_iconst_ (v := (0 : Int32)) dX0_done_232 (by decide) ?_
      simp only [if_pos c225] at k233 ⊢
      first | exact k233 | exact X.weak (by simp [xle]) k233
    · refine x_iconst_ (v := (1 : Int32)) dX0_done_228 (by decide) ?_
      refine x_goto (tgt := 233) dX0_done_229 (by decide) ?_
      simp only [if_neg c225] at k233 ⊢
      first | exact k233 | exact X.weak (by simp [xle]) k233
theorem pp_X0_done {t : Int32} {a : Int32} {b : Int32} : p_X0_done t a b := fun _ _ _ => ⟨fun _ h _ => h, fun _ _ h _ => h⟩
def f_X0_isConstant (o : Int64) : Int32 := (if (lg_cmp (o &&& (4294967296 : Int64)) (0 : Int64)) = 0 then (0 : Int32) else (1 : Int32))
theorem m_X0_isConstant (hG : xOK G) {d : Nat} {A : xA} {o : Int64} : MX G (d + 0) kX0_isConstant [.long o] A (xIs (some (.int (f_X0_isConstant o))) A) := by
  refine MX.of rfl (Nat.le_of_ble_eq_true rfl) ?_
  change X _ _ _ _ _ _ [some (.long o), none] _
  refine x_lload_n dX0_isConstant_0 rfl ?_
  refine x_ldc2 hG dX0_isConstant_1 q2112 ?_
  refine x_land dX0_isConstant_4 ?_
  refine x_lconst_ (v := (0 : Int64)) dX0_isConstant_5 (by decide) ?_
  refine x_lcmp dX0_isConstant_6 ?_
  refine x_via 15 (A' := A) (lv' := [some (.long o), none]) (st' := [.int (if (lg_cmp (o &&& (4294967296 : Int64)) (0 : Int64)) = 0 then (0 : Int32) else (1 : Int32))]) ?_ (fun k15 => ?_)
  · refine x_zret dX0_isConstant_15 rfl ite01 ?_
    exact ⟨by simp only [f_X0_isConstant], rfl⟩
  · refine x_if_eq (tgt := 14) dX0_isConstant_7 (by decide) (fun c7 => ?_) (fun c7 => ?_)
    · refine x_iconst_ (v := (0 : Int32)) dX0_isConstant_14 (by decide) ?_
      simp only [if_pos c7] at k15 ⊢
      first | exact k15 | exact X.weak (by simp [xle]) k15
    · refine x_iconst_ (v := (1 : Int32)) dX0_isConstant_10 (by decide) ?_
      refine x_goto (tgt := 15) dX0_isConstant_11 (by decide) ?_
      simp only [if_neg c7] at k15 ⊢
      first | exact k15 | exact X.weak (by simp [xle]) k15
theorem z_X0_isConstant {o : Int64} : f_X0_isConstant o = 0 ∨ f_X0_isConstant o = 1 := by
  unfold f_X0_isConstant
  (repeat' split) <;> decide
def f_X0_wordsOf (b : Int32) (n : Int32) : Int32 := (if b = 0 then n else ((n + (3 : Int32)) / (4 : Int32)))
def p_X0_wordsOf (b : Int32) (n : Int32) : Prop := (((¬ b = 0 → ((¬ (4 : Int32) = 0)))))
theorem m_X0_wordsOf (hG : xOK G) {d : Nat} {A : xA} {b : Int32} {n : Int32} (h : p_X0_wordsOf b n) : MX G (d + 0) kX0_wordsOf [.int b, .int n] A (xIs (some (.int (f_X0_wordsOf b n))) A) := by
  unfold p_X0_wordsOf at h
  refine MX.of rfl (Nat.le_of_ble_eq_true rfl) ?_
  change X _ _ _ _ _ _ [some (.int b), some (.int n)] _
  refine x_iload_n dX0_wordsOf_0 rfl ?_
  refine x_via 13 (A' := A) (lv' := [some (.int b), some (.int n)]) (st' := [.int (if b = 0 then n else ((n + (3 : Int32)) / (4 : Int32)))]) ?_ (fun k13 => ?_)
  · refine x_iret dX0_wordsOf_13 rfl ?_
    exact ⟨by simp only [f_X0_wordsOf], rfl⟩
  · refine x_if_eq (tgt := 12) dX0_wordsOf_1 (by decide) (fun c1 => ?_) (fun c1 => ?_)
    · refine x_iload_n dX0_wordsOf_12 rfl ?_
      simp only [if_pos c1] at k13 ⊢
      first | exact k13 | exact X.weak (by simp [xle]) k13
    · refine x_iload_n dX0_wordsOf_4 rfl ?_
      refine x_iconst_ (v := (3 : Int32)) dX0_wordsOf_5 (by decide) ?_
      refine x_iadd dX0_wordsOf_6 ?_
      refine x_iconst_ (v := (4 : Int32)) dX0_wordsOf_7 (by decide) ?_
      refine x_idiv dX0_wordsOf_8 ((h c1)) ?_
      refine x_goto (tgt := 13) dX0_wordsOf_9 (by decide) ?_
      simp only [if_neg c1] at k13 ⊢
      first | exact k13 | exact X.weak (by simp [xle]) k13
theorem pp_X0_wordsOf {b : Int32} {n : Int32} : p_X0_wordsOf b n := fun _ => by decide
def f_X10_isSmall (o : Int64) : Int32 := (if (f_X0_isConstant o) = 0 then (0 : Int32) else (if o.toInt32 < (-2048 : Int32) then (0 : Int32) else (if (2048 : Int32) ≤ o.toInt32 then (0 : Int32) else (1 : Int32))))
theorem m_X10_isSmall (hG : xOK G) {d : Nat} {A : xA} {o : Int64} : MX G (d + 1) kX10_isSmall [.long o] A (xIs (some (.int (f_X10_isSmall o))) A) := by
  refine MX.of rfl (Nat.le_of_ble_eq_true rfl) ?_
  change X _ _ _ _ _ _ [some (.long o), none] _
  refine x_lload_n dX10_isSmall_0 rfl ?_
  refine x_callS hG (Ky := kX0_isConstant) (As := [.long o]) dX10_isSmall_1 lk_X10_165 me_X0_isConstant st_X0_isConstant rfl rfl (Nat.le_of_ble_eq_true rfl) (MX.post (m_X0_isConstant hG) ?_)
  rintro _ _ ⟨rfl, rfl⟩
  change X _ _ _ _ A _ _ (.int (f_X0_isConstant o) :: _)
  refine x_via 28 (A' := A) (lv' := [some (.long o), none]) (st' := [.int (if (f_X0_isConstant o) = 0 then (0 : Int32) else (if o.toInt32 < (-2048 : Int32) then (0 : Int32) else (if (2048 : Int32) ≤ o.toInt32 then (0 : Int32) else (1 : Int32))))]) ?_ (fun k28 => ?_)
  · refine x_zret dX10_isSmall_28 rfl (by (repeat' split) <;> decide) ?_
    exact ⟨by simp only [f_X10_isSmall], rfl⟩
  · refine x_if_eq (tgt := 27) dX10_isSmall_4 (by decide) (fun c4 => ?_) (fun c4 => ?_)
    · refine x_iconst_ (v := (0 : Int32)) dX10_isSmall_27 (by decide) ?_
      simp only [if_pos c4] at k28 ⊢
      first | exact k28 | exact X.weak (by simp [xle]) k28
    · refine x_lload_n dX10_isSmall_7 rfl ?_
      refine x_l2i dX10_isSmall_8 ?_
      refine x_sipush_ (v := (-2048 : Int32)) dX10_isSmall_9 (by decide) ?_
      refine x_icmp_lt (tgt := 27) dX10_isSmall_12 (by decide) (fun c12 => ?_) (fun c12 => ?_)
      · refine x_iconst_ (v := (0 : Int32)) dX10_isSmall_27 (by decide) ?_
        simp only [if_neg c4, if_pos c12] at k28 ⊢
        first | exact k28 | exact X.weak (by simp [xle]) k28
      · refine x_lload_n dX10_isSmall_15 rfl ?_
        refine x_l2i dX10_isSmall_16 ?_
        refine x_sipush_ (v := (2048 : Int32)) dX10_isSmall_17 (by decide) ?_
        refine x_icmp_ge (tgt := 27) dX10_isSmall_20 (by decide) (fun c20 => ?_) (fun c20 => ?_)
        · refine x_iconst_ (v := (0 : Int32)) dX10_isSmall_27 (by decide) ?_
          simp only [if_neg c4, if_neg c12, if_pos c20] at k28 ⊢
          first | exact k28 | exact X.weak (by simp [xle]) k28
        · refine x_iconst_ (v := (1 : Int32)) dX10_isSmall_23 (by decide) ?_
          refine x_goto (tgt := 28) dX10_isSmall_24 (by decide) ?_
          simp only [if_neg c4, if_neg c12, if_neg c20] at k28 ⊢
          first | exact k28 | exact X.weak (by simp [xle]) k28
theorem z_X10_isSmall {o : Int64} : f_X10_isSmall o = 0 ∨ f_X10_isSmall o = 1 := by
  unfold f_X10_isSmall
  (repeat' split) <;> decide
def f_X1_actOf (s : Int32) (r : Int32) : Int32 := (if s = (43 : Int32) then (if r = (7 : Int32) then (10 : Int32) else (-1 : Int32)) else (if s = (44 : Int32) then (-1 : Int32) else (if s = (45 : Int32) then (-1 : Int32) else (if s = (46 : Int32) then (-1 : Int32) else (if s = (47 : Int32) then (-1 : Int32) else (if s = (48 : Int32) then (-1 : Int32) else (if s = (49 : Int32) then (-1 : Int32) else (if s = (50 : Int32) then (-1 : Int32) else (if s = (51 : Int32) then (-1 : Int32) else (if s = (52 : Int32) then (-1 : Int32) else (if s = (53 : Int32) then (-1 : Int32) else (if s = (54 : Int32) then (if r = 0 then (6 : Int32) else (-1 : Int32)) else (if s = (55 : Int32) then (if r = (1 : Int32) then (5 : Int32) else (-1 : Int32)) else (if s = (56 : Int32) then (if r = (5 : Int32) then (11 : Int32) else (-1 : Int32)) else (if s = (57 : Int32) then (if r = (5 : Int32) then (12 : Int32) else (-1 : Int32)) else (if s = (58 : Int32) then (if r = (6 : Int32) then (15 : Int32) else (-1 : Int32)) else (if s = (59 : Int32) then (if r = (6 : Int32) then (16 : Int32) else (-1 : Int32)) else (if s = (60 : Int32) then (if r = (7 : Int32) then (8 : Int32) else (-1 : Int32)) else (if s = (61 : Int32) then (if r = (7 : Int32) then (9 : Int32) else (-1 : Int32)) else (if s = (62 : Int32) then (-1 : Int32) else (if s = (63 : Int32) then (-1 : Int32) else (if s = (64 : Int32) then (-1 : Int32) else (if s = (65 : Int32) then (-1 : Int32) else (if s = (66 : Int32) then (-1 : Int32) else (if s = (67 : Int32) then (-1 : Int32) else (if s = (68 : Int32) then (-1 : Int32) else (if s = (69 : Int32) then (-1 : Int32) else (if s = (70 : Int32) then (-1 : Int32) else (if s = (71 : Int32) then (-1 : Int32) else (if s = (72 : Int32) then (-1 : Int32) else (if s = (73 : Int32) then (if r = (2 : Int32) then (6 : Int32) else (-1 : Int32)) else (if s = (74 : Int32) then (if r = (3 : Int32) then (7 : Int32) else (-1 : Int32)) else (if s = (75 : Int32) then (if r = (4 : Int32) then (5 : Int32) else (-1 : Int32)) else (if s = (76 : Int32) then (if r = (6 : Int32) then (13 : Int32) else (-1 : Int32)) else (if s = (77 : Int32) then (if r = (6 : Int32) then (14 : Int32) else (-1 : Int32)) else (if s = (78 : Int32) then (if r = (8 : Int32) then (0 : Int32) else (-1 : Int32)) else (if s = (79 : Int32) then (if r = (8 : Int32) then (1 : Int32) else (-1 : Int32)) else (if s = (80 : Int32) then (if r = (9 : Int32) then (2 : Int32) else (-1 : Int32)) else (if s = (81 : Int32) then (if r = (9 : Int32) then (3 : Int32) else (-1 : Int32)) else (if s = (82 : Int32) then (if r = (9 : Int32) then (4 : Int32) else (-1 : Int32)) else (-1 : Int32)))))))))))))))))))))))))))))))))))))))))
theorem m_X1_actOf (hG : xOK G) {d : Nat} {A : xA} {s : Int32} {r : Int32} : MX G (d + 0) kX1_actOf [.int s, .int r] A (xIs (some (.int (f_X1_actOf s r))) A) := by
  refine MX.of rfl (Nat.le_of_ble_eq_true rfl) ?_
  change X _ _ _ _ _ _ [some (.int s), some (.int r)] _
  refine x_iload_n dX1_actOf_0 rfl ?_
  refine x_sw (43 : Int32) (fun s1_0 => ?_) (fun s1_0 => ?_)
  · refine x_tableIn (off := 334) (tgt := 335) dX1_actOf_1 (by rw [s1_0]; decide) (by rw [s1_0]; decide) (by rw [s1_0]; rfl) (by decide) ?_
    refine x_iload_n dX1_actOf_335 rfl ?_
    refine x_bipush_ (v := (7 : Int32)) dX1_actOf_336 (by decide) ?_
    refine x_via 347 (A' := A) (lv' := [some (.int s), some (.int r)]) (st' := [.int (if r = (7 : Int32) then (10 : Int32) else (-1 : Int32))]) ?_ (fun k347 => ?_)
    · refine x_iret dX1_actOf_347 rfl ?_
      exact ⟨by simp only [f_X1_actOf, if_pos s1_0], rfl⟩
    · refine x_icmp_ne (tgt := 346) dX1_actOf_338 (by decide) (fun c338 => ?_) (fun c338 => ?_)
      · refine x_iconst_ (v := (-1 : Int32)) dX1_actOf_346 (by decide) ?_
        simp only [if_neg c338] at k347 ⊢
        first | exact k347 | exact X.weak (by simp [xle]) k347
      · refine x_bipush_ (v := (10 : Int32)) dX1_actOf_341 (by decide) ?_
        refine x_goto (tgt := 347) dX1_actOf_343 (by decide) ?_
        simp only [if_pos c338] at k347 ⊢
        first | exact k347 | exact X.weak (by simp [xle]) k347
  refine x_sw (44 : Int32) (fun s1_1 => ?_) (fun s1_1 => ?_)
  · refine x_tableIn (off := 407) (tgt := 408) dX1_actOf_1 (by rw [s1_1]; decide) (by rw [s1_1]; decide) (by rw [s1_1]; rfl) (by decide) ?_
    refine x_iconst_ (v := (-1 : Int32)) dX1_actOf_408 (by decide) ?_
    refine x_iret dX1_actOf_409 rfl ?_
    exact ⟨by simp only [f_X1_actOf, if_neg s1_0, if_pos s1_1], rfl⟩
  refine x_sw (45 : Int32) (fun s1_2 => ?_) (fun s1_2 => ?_)
  · refine x_tableIn (off := 407) (tgt := 408) dX1_actOf_1 (by rw [s1_2]; decide) (by rw [s1_2]; decide) (by rw [s1_2]; rfl) (by decide) ?_
    refine x_iconst_ (v := (-1 : Int32)) dX1_actOf_408 (by decide) ?_
    refine x_iret dX1_actOf_409 rfl ?_
    exact ⟨by simp only [f_X1_actOf, if_neg s1_0, if_neg s1_1, if_pos s1_2], rfl⟩
  refine x_sw (46 : Int32) (fun s1_3 => ?_) (fun s1_3 => ?_)
  · refine x_tableIn (off := 407) (tgt := 408) dX1_actOf_1 (by rw [s1_3]; decide) (by rw [s1_3]; decide) (by rw [s1_3]; rfl) (by decide) ?_
    refine x_iconst_ (v := (-1 : Int32)) dX1_actOf_408 (by decide) ?_
    refine x_iret dX1_actOf_409 rfl ?_
    exact ⟨by simp only [f_X1_actOf, if_neg s1_0, if_neg s1_1, if_neg s1_2, if_pos s1_3], rfl⟩
  refine x_sw (47 : Int32) (fun s1_4 => ?_) (fun s1_4 => ?_)
  · refine x_tableIn (off := 407) (tgt := 408) dX1_actOf_1 (by rw [s1_4]; decide) (by rw [s1_4]; decide) (by rw [s1_4]; rfl) (by decide) ?_
    refine x_iconst_ (v := (-1 : Int32)) dX1_actOf_408 (by decide) ?_
    refine x_iret dX1_actOf_409 rfl ?_
    exact ⟨by simp only [f_X1_actOf, if_neg s1_0, if_neg s1_1, if_neg s1_2, if_neg s1_3, if_pos s1_4], rfl⟩
  refine x_sw (48 : Int32) (fun s1_5 => ?_) (fun s1_5 => ?_)
  · refine x_tableIn (off := 407) (tgt := 408) dX1_actOf_1 (by rw [s1_5]; decide) (by rw [s1_5]; decide) (by rw [s1_5]; rfl) (by decide) ?_
    refine x_iconst_ (v := (-1 : Int32)) dX1_actOf_408 (by decide) ?_
    refine x_iret dX1_actOf_409 rfl ?_
    exact ⟨by simp only [f_X1_actOf, if_neg s1_0, if_neg s1_1, if_neg s1_2, if_neg s1_3, if_neg s1_4, if_pos s1_5], rfl⟩
  refine x_sw (49 : Int32) (fun s1_6 => ?_) (fun s1_6 => ?_)
  · refine x_tableIn (off := 407) (tgt := 408) dX1_actOf_1 (by rw [s1_6]; decide) (by rw [s1_6]; decide) (by rw [s1_6]; rfl) (by decide) ?_
    refine x_iconst_ (v := (-1 : Int32)) dX1_actOf_408 (by decide) ?_
    refine x_iret dX1_actOf_409 rfl ?_
    exact ⟨by simp only [f_X1_actOf, if_neg s1_0, if_neg s1_1, if_neg s1_2, if_neg s1_3, if_neg s1_4, if_neg s1_5, if_pos s1_6], rfl⟩
  refine x_sw (50 : Int32) (fun s1_7 => ?_) (fun s1_7 => ?_)
  · refine x_tableIn (off := 407) (tgt := 408) dX1_actOf_1 (by rw [s1_7]; decide) (by rw [s1_7]; decide) (by rw [s1_7]; rfl) (by decide) ?_
    refine x_iconst_ (v := (-1 : Int32)) dX1_actOf_408 (by decide) ?_
    refine x_iret dX1_actOf_409 rfl ?_
    exact ⟨by simp only [f_X1_actOf, if_neg s1_0, if_neg s1_1, if_neg s1_2, if_neg s1_3, if_neg s1_4, if_neg s1_5, if_neg s1_6, if_pos s1_7], rfl⟩
  refine x_sw (51 : Int32) (fun s1_8 => ?_) (fun s1_8 => ?_)
  · refine x_tableIn (off := 407) (tgt := 408) dX1_actOf_1 (by rw [s1_8]; decide) (by rw [s1_8]; decide) (by rw [s1_8]; rfl) (by decide) ?_
    refine x_iconst_ (v := (-1 : Int32)) dX1_actOf_408 (by decide) ?_
    refine x_iret dX1_actOf_409 rfl ?_
    exact ⟨by simp only [f_X1_actOf, if_neg s1_0, if_neg s1_1, if_neg s1_2, if_neg s1_3, if_neg s1_4, if_neg s1_5, if_neg s1_6, if_neg s1_7, if_pos s1_8], rfl⟩
  refine x_sw (52 : Int32) (fun s1_9 => ?_) (fun s1_9 => ?_)
  · refine x_tableIn (off := 407) (tgt := 408) dX1_actOf_1 (by rw [s1_9]; decide) (by rw [s1_9]; decide) (by rw [s1_9]; rfl) (by decide) ?_
    refine x_iconst_ (v := (-1 : Int32)) dX1_actOf_408 (by decide) ?_
    refine x_iret dX1_actOf_409 rfl ?_
    exact ⟨by simp only [f_X1_actOf, if_neg s1_0, if_neg s1_1, if_neg s1_2, if_neg s1_3, if_neg s1_4, if_neg s1_5, if_neg s1_6, if_neg s1_7, if_neg s1_8, if_pos s1_9], rfl⟩
  refine x_sw (53 : Int32) (fun s1_10 => ?_) (fun s1_10 => ?_)
  · refine x_tableIn (off := 407) (tgt := 408) dX1_actOf_1 (by rw [s1_10]; decide) (by rw [s1_10]; decide) (by rw [s1_10]; rfl) (by decide) ?_
    refine x_iconst_ (v := (-1 : Int32)) dX1_actOf_408 (by decide) ?_
    refine x_iret dX1_actOf_409 rfl ?_
    exact ⟨by simp only [f_X1_actOf, if_neg s1_0, if_neg s1_1, if_neg s1_2, if_neg s1_3, if_neg s1_4, if_neg s1_5, if_neg s1_6, if_neg s1_7, if_neg s1_8, if_neg s1_9, if_pos s1_10], rfl⟩
  refine x_sw (54 : Int32) (fun s1_11 => ?_) (fun s1_11 => ?_)
  · refine x_tableIn (off := 175) (tgt := 176) dX1_actOf_1 (by rw [s1_11]; decide) (by rw [s1_11]; decide) (by rw [s1_11]; rfl) (by decide) ?_
    refine x_iload_n dX1_actOf_176 rfl ?_
    refine x_via 186 (A' := A) (lv' := [some (.int s), some (.int r)]) (st' := [.int (if r = 0 then (6 : Int32) else (-1 : Int32))]) ?_ (fun k186 => ?_)
    · refine x_iret dX1_actOf_186 rfl ?_
      exact ⟨by simp only [f_X1_actOf, if_neg s1_0, if_neg s1_1, if_neg s1_2, if_neg s1_3, if_neg s1_4, if_neg s1_5, if_neg s1_6, if_neg s1_7, if_neg s1_8, if_neg s1_9, if_neg s1_10, if_pos s1_11], rfl⟩
    · refine x_if_ne (tgt := 185) dX1_actOf_177 (by decide) (fun c177 => ?_) (fun c177 => ?_)
      · refine x_iconst_ (v := (-1 : Int32)) dX1_actOf_185 (by decide) ?_
        simp only [if_neg c177] at k186 ⊢
        first | exact k186 | exact X.weak (by simp [xle]) k186
      · refine x_bipush_ (v := (6 : Int32)) dX1_actOf_180 (by decide) ?_
        refine x_goto (tgt := 186) dX1_actOf_182 (by decide) ?_
        simp only [if_pos c177] at k186 ⊢
        first | exact k186 | exact X.weak (by simp [xle]) k186
  refine x_sw (55 : Int32) (fun s1_12 => ?_) (fun s1_12 => ?_)
  · refine x_tableIn (off := 186) (tgt := 187) dX1_actOf_1 (by rw [s1_12]; decide) (by rw [s1_12]; decide) (by rw [s1_12]; rfl) (by decide) ?_
    refine x_iload_n dX1_actOf_187 rfl ?_
    refine x_iconst_ (v := (1 : Int32)) dX1_actOf_188 (by decide) ?_
    refine x_via 197 (A' := A) (lv' := [some (.int s), some (.int r)]) (st' := [.int (if r = (1 : Int32) then (5 : Int32) else (-1 : Int32))]) ?_ (fun k197 => ?_)
    · refine x_iret dX1_actOf_197 rfl ?_
      exact ⟨by simp only [f_X1_actOf, if_neg s1_0, if_neg s1_1, if_neg s1_2, if_neg s1_3, if_neg s1_4, if_neg s1_5, if_neg s1_6, if_neg s1_7, if_neg s1_8, if_neg s1_9, if_neg s1_10, if_neg s1_11, if_pos s1_12], rfl⟩
    · refine x_icmp_ne (tgt := 196) dX1_actOf_189 (by decide) (fun c189 => ?_) (fun c189 => ?_)
      · refine x_iconst_ (v := (-1 : Int32)) dX1_actOf_196 (by decide) ?_
        simp only [if_neg c189] at k197 ⊢
        first | exact k197 | exact X.weak (by simp [xle]) k197
      · refine x_iconst_ (v := (5 : Int32)) dX1_actOf_192 (by decide) ?_
        refine x_goto (tgt := 197) dX1_actOf_193 (by decide) ?_
        simp only [if_pos c189] at k197 ⊢
        first | exact k197 | exact X.weak (by simp [xle]) k197
  refine x_sw (56 : Int32) (fun s1_13 => ?_) (fun s1_13 => ?_)
  · refine x_tableIn (off := 232) (tgt := 233) dX1_actOf_1 (by rw [s1_13]; decide) (by rw [s1_13]; decide) (by rw [s1_13]; rfl) (by decide) ?_
    refine x_iload_n dX1_actOf_233 rfl ?_
    refine x_iconst_ (v := (5 : Int32)) dX1_actOf_234 (by decide) ?_
    refine x_via 244 (A' := A) (lv' := [some (.int s), some (.int r)]) (st' := [.int (if r = (5 : Int32) then (11 : Int32) else (-1 : Int32))]) ?_ (fun k244 => ?_)
    · refine x_iret dX1_actOf_244 rfl ?_
      exact ⟨by simp only [f_X1_actOf, if_neg s1_0, if_neg s1_1, if_neg s1_2, if_neg s1_3, if_neg s1_4, if_neg s1_5, if_neg s1_6, if_neg s1_7, if_neg s1_8, if_neg s1_9, if_neg s1_10, if_neg s1_11, if_neg s1_12, if_pos s1_13], rfl⟩
    · refine x_icmp_ne (tgt := 243) dX1_actOf_235 (by decide) (fun c235 => ?_) (fun c235 => ?_)
      · refine x_iconst_ (v := (-1 : Int32)) dX1_actOf_243 (by decide) ?_
        simp only [if_neg c235] at k244 ⊢
        first | exact k244 | exact X.weak (by simp [xle]) k244
      · refine x_bipush_ (v := (11 : Int32)) dX1_actOf_238 (by decide) ?_
        refine x_goto (tgt := 244) dX1_actOf_240 (by decide) ?_
        simp only [if_pos c235] at k244 ⊢
        first | exact k244 | exact X.weak (by simp [xle]) k244
  refine x_sw (57 : Int32) (fun s1_14 => ?_) (fun s1_14 => ?_)
  · refine x_tableIn (off := 244) (tgt := 245) dX1_actOf_1 (by rw [s1_14]; decide) (by rw [s1_14]; decide) (by rw [s1_14]; rfl) (by decide) ?_
    refine x_iload_n dX1_actOf_245 rfl ?_
    refine x_iconst_ (v := (5 : Int32)) dX1_actOf_246 (by decide) ?_
    refine x_via 256 (A' := A) (lv' := [some (.int s), some (.int r)]) (st' := [.int (if r = (5 : Int32) then (12 : Int32) else (-1 : Int32))]) ?_ (fun k256 => ?_)
    · refine x_iret dX1_actOf_256 rfl ?_
      exact ⟨by simp only [f_X1_actOf, if_neg s1_0, if_neg s1_1, if_neg s1_2, if_neg s1_3, if_neg s1_4, if_neg s1_5, if_neg s1_6, if_neg s1_7, if_neg s1_8, if_neg s1_9, if_neg s1_10, if_neg s1_11, if_neg s1_12, if_neg s1_13, if_pos s1_14], rfl⟩
    · refine x_icmp_ne (tgt := 255) dX1_actOf_247 (by decide) (fun c247 => ?_) (fun c247 => ?_)
      · refine x_iconst_ (v := (-1 : Int32)) dX1_actOf_255 (by decide) ?_
        simp only [if_neg c247] at k256 ⊢
        first | exact k256 | exact X.weak (by simp [xle]) k256
      · refine x_bipush_ (v := (12 : Int32)) dX1_actOf_250 (by decide) ?_
        refine x_goto (tgt := 256) dX1_actOf_252 (by decide) ?_
        simp only [if_pos c247] at k256 ⊢
        first | exact k256 | exact X.weak (by simp [xle]) k256
  refine x_sw (58 : Int32) (fun s1_15 => ?_) (fun s1_15 => ?_)
  · refine x_tableIn (off := 282) (tgt := 283) dX1_actOf_1 (by rw [s1_15]; decide) (by rw [s1_15]; decide) (by rw [s1_15]; rfl) (by decide) ?_
    refine x_iload_n dX1_actOf_283 rfl ?_
    refine x_bipush_ (v := (6 : Int32)) dX1_actOf_284 (by decide) ?_
    refine x_via 295 (A' := A) (lv' := [some (.int s), some (.int r)]) (st' := [.int (if r = (6 : Int32) then (15 : Int32) else (-1 : Int32))]) ?_ (fun k295 => ?_)
    · refine x_iret dX1_actOf_295 rfl ?_
      exact ⟨by simp only [f_X1_actOf, if_neg s1_0, if_neg s1_1, if_neg s1_2, if_neg s1_3, if_neg s1_4, if_neg s1_5, if_neg s1_6, if_neg s1_7, if_neg s1_8, if_neg s1_9, if_neg s1_10, if_neg s1_11, if_neg s1_12, if_neg s1_13, if_neg s1_14, if_pos s1_15], rfl⟩
    · refine x_icmp_ne (tgt := 294) dX1_actOf_286 (by decide) (fun c286 => ?_) (fun c286 => ?_)
      · refine x_iconst_ (v := (-1 : Int32)) dX1_actOf_294 (by decide) ?_
        simp only [if_neg c286] at k295 ⊢
        first | exact k295 | exact X.weak (by simp [xle]) k295
      · refine x_bipush_ (v := (15 : Int32)) dX1_actOf_289 (by decide) ?_
        refine x_goto (tgt := 295) dX1_actOf_291 (by decide) ?_
        simp only [if_pos c286] at k295 ⊢
        first | exact k295 | exact X.weak (by simp [xle]) k295
  refine x_sw (59 : Int32) (fun s1_16 => ?_) (fun s1_16 => ?_)
  · refine x_tableIn (off := 295) (tgt := 296) dX1_actOf_1 (by rw [s1_16]; decide) (by rw [s1_16]; decide) (by rw [s1_16]; rfl) (by decide) ?_
    refine x_iload_n dX1_actOf_296 rfl ?_
    refine x_bipush_ (v := (6 : Int32)) dX1_actOf_297 (by decide) ?_
    refine x_via 308 (A' := A) (lv' := [some (.int s), some (.int r)]) (st' := [.int (if r = (6 : Int32) then (16 : Int32) else (-1 : Int32))]) ?_ (fun k308 => ?_)
    · refine x_iret dX1_actOf_308 rfl ?_
      exact ⟨by simp only [f_X1_actOf, if_neg s1_0, if_neg s1_1, if_neg s1_2, if_neg s1_3, if_neg s1_4, if_neg s1_5, if_neg s1_6, if_neg s1_7, if_neg s1_8, if_neg s1_9, if_neg s1_10, if_neg s1_11, if_neg s1_12, if_neg s1_13, if_neg s1_14, if_neg s1_15, if_pos s1_16], rfl⟩
    · refine x_icmp_ne (tgt := 307) dX1_actOf_299 (by decide) (fun c299 => ?_) (fun c299 => ?_)
      · refine x_iconst_ (v := (-1 : Int32)) dX1_actOf_307 (by decide) ?_
        simp only [if_neg c299] at k308 ⊢
        first | exact k308 | exact X.weak (by simp [xle]) k308
      · refine x_bipush_ (v := (16 : Int32)) dX1_actOf_302 (by decide) ?_
        refine x_goto (tgt := 308) dX1_actOf_304 (by decide) ?_
        simp only [if_pos c299] at k308 ⊢
        first | exact k308 | exact X.weak (by simp [xle]) k308
  refine x_sw (60 : Int32) (fun s1_17 => ?_) (fun s1_17 => ?_)
  · refine x_tableIn (off := 308) (tgt := 309) dX1_actOf_1 (by rw [s1_17]; decide) (by rw [s1_17]; decide) (by rw [s1_17]; rfl) (by decide) ?_
    refine x_iload_n dX1_actOf_309 rfl ?_
    refine x_bipush_ (v := (7 : Int32)) dX1_actOf_310 (by decide) ?_
    refine x_via 321 (A' := A) (lv' := [some (.int s), some (.int r)]) (st' := [.int (if r = (7 : Int32) then (8 : Int32) else (-1 : Int32))]) ?_ (fun k321 => ?_)
    · refine x_iret dX1_actOf_321 rfl ?_
      exact ⟨by simp only [f_X1_actOf, if_neg s1_0, if_neg s1_1, if_neg s1_2, if_neg s1_3, if_neg s1_4, if_neg s1_5, if_neg s1_6, if_neg s1_7, if_neg s1_8, if_neg s1_9, if_neg s1_10, if_neg s1_11, if_neg s1_12, if_neg s1_13, if_neg s1_14, if_neg s1_15, if_neg s1_16, if_pos s1_17], rfl⟩
    · refine x_icmp_ne (tgt := 320) dX1_actOf_312 (by decide) (fun c312 => ?_) (fun c312 => ?_)
      · refine x_iconst_ (v := (-1 : Int32)) dX1_actOf_320 (by decide) ?_
        simp only [if_neg c312] at k321 ⊢
        first | exact k321 | exact X.weak (by simp [xle]) k321
      · refine x_bipush_ (v := (8 : Int32)) dX1_actOf_315 (by decide) ?_
        refine x_goto (tgt := 321) dX1_actOf_317 (by decide) ?_
        simp only [if_pos c312] at k321 ⊢
        first | exact k321 | exact X.weak (by simp [xle]) k321
  refine x_sw (61 : Int32) (fun s1_18 => ?_) (fun s1_18 => ?_)
  · refine x_tableIn (off := 321) (tgt := 322) dX1_actOf_1 (by rw [s1_18]; decide) (by rw [s1_18]; decide) (by rw [s1_18]; rfl) (by decide) ?_
    refine x_iload_n dX1_actOf_322 rfl ?_
    refine x_bipush_ (v := (7 : Int32)) dX1_actOf_323 (by decide) ?_
    refine x_via 334 (A' := A) (lv' := [some (.int s), some (.int r)]) (st' := [.int (if r = (7 : Int32) then (9 : Int32) else (-1 : Int32))]) ?_ (fun k334 => ?_)
    · refine x_iret dX1_actOf_334 rfl ?_
      exact ⟨by simp only [f_X1_actOf, if_neg s1_0, if_neg s1_1, if_neg s1_2, if_neg s1_3, if_neg s1_4, if_neg s1_5, if_neg s1_6, if_neg s1_7, if_neg s1_8, if_neg s1_9, if_neg s1_10, if_neg s1_11, if_neg s1_12, if_neg s1_13, if_neg s1_14, if_neg s1_15, if_neg s1_16, if_neg s1_17, if_pos s1_18], rfl⟩
    · refine x_icmp_ne (tgt := 333) dX1_actOf_325 (by decide) (fun c325 => ?_) (fun c325 => ?_)
      · refine x_iconst_ (v := (-1 : Int32)) dX1_actOf_333 (by decide) ?_
        simp only [if_neg c325] at k334 ⊢
        first | exact k334 | exact X.weak (by simp [xle]) k334
      · refine x_bipush_ (v := (9 : Int32)) dX1_actOf_328 (by decide) ?_
        refine x_goto (tgt := 334) dX1_actOf_330 (by decide) ?_
        simp only [if_pos c325] at k334 ⊢
        first | exact k334 | exact X.weak (by simp [xle]) k334
  refine x_sw (62 : Int32) (fun s1_19 => ?_) (fun s1_19 => ?_)
  · refine x_tableIn (off := 407) (tgt := 408) dX1_actOf_1 (by rw [s1_19]; decide) (by rw [s1_19]; decide) (by rw [s1_19]; rfl) (by decide) ?_
    refine x_iconst_ (v := (-1 : Int32)) dX1_actOf_408 (by decide) ?_
    refine x_iret dX1_actOf_409 rfl ?_
    exact ⟨by simp only [f_X1_actOf, if_neg s1_0, if_neg s1_1, if_neg s1_2, if_neg s1_3, if_neg s1_4, if_neg s1_5, if_neg s1_6, if_neg s1_7, if_neg s1_8, if_neg s1_9, if_neg s1_10, if_neg s1_11, if_neg s1_12, if_neg s1_13, if_neg s1_14, if_neg s1_15, if_neg s1_16, if_neg s1_17, if_neg s1_18, if_pos s1_19], rfl⟩
  refine x_sw (63 : Int32) (fun s1_20 => ?_) (fun s1_20 => ?_)
  · refine x_tableIn (off := 407) (tgt := 408) dX1_actOf_1 (by rw [s1_20]; decide) (by rw [s1_20]; decide) (by rw [s1_20]; rfl) (by decide) ?_
    refine x_iconst_ (v := (-1 : Int32)) dX1_actOf_408 (by decide) ?_
    refine x_iret dX1_actOf_409 rfl ?_
    exact ⟨by simp only [f_X1_actOf, if_neg s1_0, if_neg s1_1, if_neg s1_2, if_neg s1_3, if_neg s1_4, if_neg s1_5, if_neg s1_6, if_neg s1_7, if_neg s1_8, if_neg s1_9, if_neg s1_10, if_neg s1_11, if_neg s1_12, if_neg s1_13, if_neg s1_14, if_neg s1_15, if_neg s1_16, if_neg s1_17, if_neg s1_18, if_neg s1_19, if_pos s1_20], rfl⟩
  refine x_sw (64 : Int32) (fun s1_21 => ?_) (fun s1_21 => ?_)
  · refine x_tableIn (off := 407) (tgt := 408) dX1_actOf_1 (by rw [s1_21]; decide) (by rw [s1_21]; decide) (by rw [s1_21]; rfl) (by decide) ?_
    refine x_iconst_ (v := (-1 : Int32)) dX1_actOf_408 (by decide) ?_
    refine x_iret dX1_actOf_409 rfl ?_
    exact ⟨by simp only [f_X1_actOf, if_neg s1_0, if_neg s1_1, if_neg s1_2, if_neg s1_3, if_neg s1_4, if_neg s1_5, if_neg s1_6, if_neg s1_7, if_neg s1_8, if_neg s1_9, if_neg s1_10, if_neg s1_11, if_neg s1_12, if_neg s1_13, if_neg s1_14, if_neg s1_15, if_neg s1_16, if_neg s1_17, if_neg s1_18, if_neg s1_19, if_neg s1_20, if_pos s1_21], rfl⟩
  refine x_sw (65 : Int32) (fun s1_22 => ?_) (fun s1_22 => ?_)
  · refine x_tableIn (off := 407) (tgt := 408) dX1_actOf_1 (by rw [s1_22]; decide) (by rw [s1_22]; decide) (by rw [s1_22]; rfl) (by decide) ?_
    refine x_iconst_ (v := (-1 : Int32)) dX1_actOf_408 (by decide) ?_
    refine x_iret dX1_actOf_409 rfl ?_
    exact ⟨by simp only [f_X1_actOf, if_neg s1_0, if_neg s1_1, if_neg s1_2, if_neg s1_3, if_neg s1_4, if_neg s1_5, if_neg s1_6, if_neg s1_7, if_neg s1_8, if_neg s1_9, if_neg s1_10, if_neg s1_11, if_neg s1_12, if_neg s1_13, if_neg s1_14, if_neg s1_15, if_neg s1_16, if_neg s1_17, if_neg s1_18, if_neg s1_19, if_neg s1_20, if_neg s1_21, if_pos s1_22], rfl⟩
  refine x_sw (66 : Int32) (fun s1_23 => ?_) (fun s1_23 => ?_)
  · refine x_tableIn (off := 407) (tgt := 408) dX1_actOf_1 (by rw [s1_23]; decide) (by rw [s1_23]; decide) (by rw [s1_23]; rfl) (by decide) ?_
    refine x_iconst_ (v := (-1 : Int32)) dX1_actOf_408 (by decide) ?_
    refine x_iret dX1_actOf_409 rfl ?_
    exact ⟨by simp only [f_X1_actOf, if_neg s1_0, if_neg s1_1, if_neg s1_2, if_neg s1_3, if_neg s1_4, if_neg s1_5, if_neg s1_6, if_neg s1_7, if_neg s1_8, if_neg s1_9, if_neg s1_10, if_neg s1_11, if_neg s1_12, if_neg s1_13, if_neg s1_14, if_neg s1_15, if_neg s1_16, if_neg s1_17, if_neg s1_18, if_neg s1_19, if_neg s1_20, if_neg s1_21, if_neg s1_22, if_pos s1_23], rfl⟩
  refine x_sw (67 : Int32) (fun s1_24 => ?_) (fun s1_24 => ?_)
  · refine x_tableIn (off := 407) (tgt := 408) dX1_actOf_1 (by rw [s1_24]; decide) (by rw [s1_24]; decide) (by rw [s1_24]; rfl) (by decide) ?_
    refine x_iconst_ (v := (-1 : Int32)) dX1_actOf_408 (by decide) ?_
    refine x_iret dX1_actOf_409 rfl ?_
    exact ⟨by simp only [f_X1_actOf, if_neg s1_0, if_neg s1_1, if_neg s1_2, if_neg s1_3, if_neg s1_4, if_neg s1_5, if_neg s1_6, if_neg s1_7, if_neg s1_8, if_neg s1_9, if_neg s1_10, if_neg s1_11, if_neg s1_12, if_neg s1_13, if_neg s1_14, if_neg s1_15, if_neg s1_16, if_neg s1_17, if_neg s1_18, if_neg s1_19, if_neg s1_20, if_neg s1_21, if_neg s1_22, if_neg s1_23, if_pos s1_24], rfl⟩
  refine x_sw (68 : Int32) (fun s1_25 => ?_) (fun s1_25 => ?_)
  · refine x_tableIn (off := 407) (tgt := 408) dX1_actOf_1 (by rw [s1_25]; decide) (by rw [s1_25]; decide) (by rw [s1_25]; rfl) (by decide) ?_
    refine x_iconst_ (v := (-1 : Int32)) dX1_actOf_408 (by decide) ?_
    refine x_iret dX1_actOf_409 rfl ?_
    exact ⟨by simp only [f_X1_actOf, if_neg s1_0, if_neg s1_1, if_neg s1_2, if_neg s1_3, if_neg s1_4, if_neg s1_5, if_neg s1_6, if_neg s1_7, if_neg s1_8, if_neg s1_9, if_neg s1_10, if_neg s1_11, if_neg s1_12, if_neg s1_13, if_neg s1_14, if_neg s1_15, if_neg s1_16, if_neg s1_17, if_neg s1_18, if_neg s1_19, if_neg s1_20, if_neg s1_21, if_neg s1_22, if_neg s1_23, if_neg s1_24, if_pos s1_25], rfl⟩
  refine x_sw (69 : Int32) (fun s1_26 => ?_) (fun s1_26 => ?_)
  · refine x_tableIn (off := 407) (tgt := 408) dX1_actOf_1 (by rw [s1_26]; decide) (by rw [s1_26]; decide) (by rw [s1_26]; rfl) (by decide) ?_
    refine x_iconst_ (v := (-1 : Int32)) dX1_actOf_408 (by decide) ?_
    refine x_iret dX1_actOf_409 rfl ?_
    exact ⟨by simp only [f_X1_actOf, if_neg s1_0, if_neg s1_1, if_neg s1_2, if_neg s1_3, if_neg s1_4, if_neg s1_5, if_neg s1_6, if_neg s1_7, if_neg s1_8, if_neg s1_9, if_neg s1_10, if_neg s1_11, if_neg s1_12, if_neg s1_13, if_neg s1_14, if_neg s1_15, if_neg s1_16, if_neg s1_17, if_neg s1_18, if_neg s1_19, if_neg s1_20, if_neg s1_21, if_neg s1_22, if_neg s1_23, if_neg s1_24, if_neg s1_25, if_pos s1_26], rfl⟩
  refine x_sw (70 : Int32) (fun s1_27 => ?_) (fun s1_27 => ?_)
  · refine x_tableIn (off := 407) (tgt := 408) dX1_actOf_1 (by rw [s1_27]; decide) (by rw [s1_27]; decide) (by rw [s1_27]; rfl) (by decide) ?_
    refine x_iconst_ (v := (-1 : Int32)) dX1_actOf_408 (by decide) ?_
    refine x_iret dX1_actOf_409 rfl ?_
    exact ⟨by simp only [f_X1_actOf, if_neg s1_0, if_neg s1_1, if_neg s1_2, if_neg s1_3, if_neg s1_4, if_neg s1_5, if_neg s1_6, if_neg s1_7, if_neg s1_8, if_neg s1_9, if_neg s1_10, if_neg s1_11, if_neg s1_12, if_neg s1_13, if_neg s1_14, if_neg s1_15, if_neg s1_16, if_neg s1_17, if_neg s1_18, if_neg s1_19, if_neg s1_20, if_neg s1_21, if_neg s1_22, if_neg s1_23, if_neg s1_24, if_neg s1_25, if_neg s1_26, if_pos s1_27], rfl⟩
  refine x_sw (71 : Int32) (fun s1_28 => ?_) (fun s1_28 => ?_)
  · refine x_tableIn (off := 407) (tgt := 408) dX1_actOf_1 (by rw [s1_28]; decide) (by rw [s1_28]; decide) (by rw [s1_28]; rfl) (by decide) ?_
    refine x_iconst_ (v := (-1 : Int32)) dX1_actOf_408 (by decide) ?_
    refine x_iret dX1_actOf_409 rfl ?_
    exact ⟨by simp only [f_X1_actOf, if_neg s1_0, if_neg s1_1, if_neg s1_2, if_neg s1_3, if_neg s1_4, if_neg s1_5, if_neg s1_6, if_neg s1_7, if_neg s1_8, if_neg s1_9, if_neg s1_10, if_neg s1_11, if_neg s1_12, if_neg s1_13, if_neg s1_14, if_neg s1_15, if_neg s1_16, if_neg s1_17, if_neg s1_18, if_neg s1_19, if_neg s1_20, if_neg s1_21, if_neg s1_22, if_neg s1_23, if_neg s1_24, if_neg s1_25, if_neg s1_26, if_neg s1_27, if_pos s1_28], rfl⟩
  refine x_sw (72 : Int32) (fun s1_29 => ?_) (fun s1_29 => ?_)
  · refine x_tableIn (off := 407) (tgt := 408) dX1_actOf_1 (by rw [s1_29]; decide) (by rw [s1_29]; decide) (by rw [s1_29]; rfl) (by decide) ?_
    refine x_iconst_ (v := (-1 : Int32)) dX1_actOf_408 (by decide) ?_
    refine x_iret dX1_actOf_409 rfl ?_
    exact ⟨by simp only [f_X1_actOf, if_neg s1_0, if_neg s1_1, if_neg s1_2, if_neg s1_3, if_neg s1_4, if_neg s1_5, if_neg s1_6, if_neg s1_7, if_neg s1_8, if_neg s1_9, if_neg s1_10, if_neg s1_11, if_neg s1_12, if_neg s1_13, if_neg s1_14, if_neg s1_15, if_neg s1_16, if_neg s1_17, if_neg s1_18, if_neg s1_19, if_neg s1_20, if_neg s1_21, if_neg s1_22, if_neg s1_23, if_neg s1_24, if_neg s1_25, if_neg s1_26, if_neg s1_27, if_neg s1_28, if_pos s1_29], rfl⟩
  refine x_sw (73 : Int32) (fun s1_30 => ?_) (fun s1_30 => ?_)
  · refine x_tableIn (off := 197) (tgt := 198) dX1_actOf_1 (by rw [s1_30]; decide) (by rw [s1_30]; decide) (by rw [s1_30]; rfl) (by decide) ?_
    refine x_iload_n dX1_actOf_198 rfl ?_
    refine x_iconst_ (v := (2 : Int32)) dX1_actOf_199 (by decide) ?_
    refine x_via 209 (A' := A) (lv' := [some (.int s), some (.int r)]) (st' := [.int (if r = (2 : Int32) then (6 : Int32) else (-1 : Int32))]) ?_ (fun k209 => ?_)
    · refine x_iret dX1_actOf_209 rfl ?_
      exact ⟨by simp only [f_X1_actOf, if_neg s1_0, if_neg s1_1, if_neg s1_2, if_neg s1_3, if_neg s1_4, if_neg s1_5, if_neg s1_6, if_neg s1_7, if_neg s1_8, if_neg s1_9, if_neg s1_10, if_neg s1_11, if_neg s1_12, if_neg s1_13, if_neg s1_14, if_neg s1_15, if_neg s1_16, if_neg s1_17, if_neg s1_18, if_neg s1_19, if_neg s1_20, if_neg s1_21, if_neg s1_22, if_neg s1_23, if_neg s1_24, if_neg s1_25, if_neg s1_26, if_neg s1_27, if_neg s1_28, if_neg s1_29, if_pos s1_30], rfl⟩
    · refine x_icmp_ne (tgt := 208) dX1_actOf_200 (by decide) (fun c200 => ?_) (fun c200 => ?_)
      · refine x_iconst_ (v := (-1 : Int32)) dX1_actOf_208 (by decide) ?_
        simp only [if_neg c200] at k209 ⊢
        first | exact k209 | exact X.weak (by simp [xle]) k209
      · refine x_bipush_ (v := (6 : Int32)) dX1_actOf_203 (by decide) ?_
        refine x_goto (tgt := 209) dX1_actOf_205 (by decide) ?_
        simp only [if_pos c200] at k209 ⊢
        first | exact k209 | exact X.weak (by simp [xle]) k209
  refine x_sw (74 : Int32) (fun s1_31 => ?_) (fun s1_31 => ?_)
  · refine x_tableIn (off := 209) (tgt := 210) dX1_actOf_1 (by rw [s1_31]; decide) (by rw [s1_31]; decide) (by rw [s1_31]; rfl) (by decide) ?_
    refine x_iload_n dX1_actOf_210 rfl ?_
    refine x_iconst_ (v := (3 : Int32)) dX1_actOf_211 (by decide) ?_
    refine x_via 221 (A' := A) (lv' := [some (.int s), some (.int r)]) (st' := [.int (if r = (3 : Int32) then (7 : Int32) else (-1 : Int32))]) ?_ (fun k221 => ?_)
    · refine x_iret dX1_actOf_221 rfl ?_
      exact ⟨by simp only [f_X1_actOf, if_neg s1_0, if_neg s1_1, if_neg s1_2, if_neg s1_3, if_neg s1_4, if_neg s1_5, if_neg s1_6, if_neg s1_7, if_neg s1_8, if_neg s1_9, if_neg s1_10, if_neg s1_11, if_neg s1_12, if_neg s1_13, if_neg s1_14, if_neg s1_15, if_neg s1_16, if_neg s1_17, if_neg s1_18, if_neg s1_19, if_neg s1_20, if_neg s1_21, if_neg s1_22, if_neg s1_23, if_neg s1_24, if_neg s1_25, if_neg s1_26, if_neg s1_27, if_neg s1_28, if_neg s1_29, if_neg s1_30, if_pos s1_31], rfl⟩
    · refine x_icmp_ne (tgt := 220) dX1_actOf_212 (by decide) (fun c212 => ?_) (fun c212 => ?_)
      · refine x_iconst_ (v := (-1 : Int32)) dX1_actOf_220 (by decide) ?_
        simp only [if_neg c212] at k221 ⊢
        first | exact k221 | exact X.weak (by simp [xle]) k221
      · refine x_bipush_ (v := (7 : Int32)) dX1_actOf_215 (by decide) ?_
        refine x_goto (tgt := 221) dX1_actOf_217 (by decide) ?_
        simp only [if_pos c212] at k221 ⊢
        first | exact k221 | exact X.weak (by simp [xle]) k221
  refine x_sw (75 : Int32) (fun s1_32 => ?_) (fun s1_32 => ?_)
  · refine x_tableIn (off := 221) (tgt := 222) dX1_actOf_1 (by rw [s1_32]; decide) (by rw [s1_32]; decide) (by rw [s1_32]; rfl) (by decide) ?_
    refine x_iload_n dX1_actOf_222 rfl ?_
    refine x_iconst_ (v := (4 : Int32)) dX1_actOf_223 (by decide) ?_
    refine x_via 232 (A' := A) (lv' := [some (.int s), some (.int r)]) (st' := [.int (if r = (4 : Int32) then (5 : Int32) else (-1 : Int32))]) ?_ (fun k232 => ?_)
    · refine x_iret dX1_actOf_232 rfl ?_
      exact ⟨by simp only [f_X1_actOf, if_neg s1_0, if_neg s1_1, if_neg s1_2, if_neg s1_3, if_neg s1_4, if_neg s1_5, if_neg s1_6, if_neg s1_7, if_neg s1_8, if_neg s1_9, if_neg s1_10, if_neg s1_11, if_neg s1_12, if_neg s1_13, if_neg s1_14, if_neg s1_15, if_neg s1_16, if_neg s1_17, if_neg s1_18, if_neg s1_19, if_neg s1_20, if_neg s1_21, if_neg s1_22, if_neg s1_23, if_neg s1_24, if_neg s1_25, if_neg s1_26, if_neg s1_27, if_neg s1_28, if_neg s1_29, if_neg s1_30, if_neg s1_31, if_pos s1_32], rfl⟩
    · refine x_icmp_ne (tgt := 231) dX1_actOf_224 (by decide) (fun c224 => ?_) (fun c224 => ?_)
      · refine x_iconst_ (v := (-1 : Int32)) dX1_actOf_231 (by decide) ?_
        simp only [if_neg c224] at k232 ⊢
        first | exact k232 | exact X.weak (by simp [xle]) k232
      · refine x_iconst_ (v := (5 : Int32)) dX1_actOf_227 (by decide) ?_
        refine x_goto (tgt := 232) dX1_actOf_228 (by decide) ?_
        simp only [if_pos c224] at k232 ⊢
        first | exact k232 | exact X.weak (by simp [xle]) k232
  refine x_sw (76 : Int32) (fun s1_33 => ?_) (fun s1_33 => ?_)
  · refine x_tableIn (off := 256) (tgt := 257) dX1_actOf_1 (by rw [s1_33]; decide) (by rw [s1_33]; decide) (by rw [s1_33]; rfl) (by decide) ?_
    refine x_iload_n dX1_actOf_257 rfl ?_
    refine x_bipush_ (v := (6 : Int32)) dX1_actOf_258 (by decide) ?_
    refine x_via 269 (A' := A) (lv' := [some (.int s), some (.int r)]) (st' := [.int (if r = (6 : Int32) then (13 : Int32) else (-1 : Int32))]) ?_ (fun k269 => ?_)
    · refine x_iret dX1_actOf_269 rfl ?_
      exact ⟨by simp only [f_X1_actOf, if_neg s1_0, if_neg s1_1, if_neg s1_2, if_neg s1_3, if_neg s1_4, if_neg s1_5, if_neg s1_6, if_neg s1_7, if_neg s1_8, if_neg s1_9, if_neg s1_10, if_neg s1_11, if_neg s1_12, if_neg s1_13, if_neg s1_14, if_neg s1_15, if_neg s1_16, if_neg s1_17, if_neg s1_18, if_neg s1_19, if_neg s1_20, if_neg s1_21, if_neg s1_22, if_neg s1_23, if_neg s1_24, if_neg s1_25, if_neg s1_26, if_neg s1_27, if_neg s1_28, if_neg s1_29, if_neg s1_30, if_neg s1_31, if_neg s1_32, if_pos s1_33], rfl⟩
    · refine x_icmp_ne (tgt := 268) dX1_actOf_260 (by decide) (fun c260 => ?_) (fun c260 => ?_)
      · refine x_iconst_ (v := (-1 : Int32)) dX1_actOf_268 (by decide) ?_
        simp only [if_neg c260] at k269 ⊢
        first | exact k269 | exact X.weak (by simp [xle]) k269
      · refine x_bipush_ (v := (13 : Int32)) dX1_actOf_263 (by decide) ?_
        refine x_goto (tgt := 269) dX1_actOf_265 (by decide) ?_
        simp only [if_pos c260] at k269 ⊢
        first | exact k269 | exact X.weak (by simp [xle]) k269
  refine x_sw (77 : Int32) (fun s1_34 => ?_) (fun s1_34 => ?_)
  · refine x_tableIn (off := 269) (tgt := 270) dX1_actOf_1 (by rw [s1_34]; decide) (by rw [s1_34]; decide) (by rw [s1_34]; rfl) (by decide) ?_
    refine x_iload_n dX1_actOf_270 rfl ?_
    refine x_bipush_ (v := (6 : Int32)) dX1_actOf_271 (by decide) ?_
    refine x_via 282 (A' := A) (lv' := [some (.int s), some (.int r)]) (st' := [.int (if r = (6 : Int32) then (14 : Int32) else (-1 : Int32))]) ?_ (fun k282 => ?_)
    · refine x_iret dX1_actOf_282 rfl ?_
      exact ⟨by simp only [f_X1_actOf, if_neg s1_0, if_neg s1_1, if_neg s1_2, if_neg s1_3, if_neg s1_4, if_neg s1_5, if_neg s1_6, if_neg s1_7, if_neg s1_8, if_neg s1_9, if_neg s1_10, if_neg s1_11, if_neg s1_12, if_neg s1_13, if_neg s1_14, if_neg s1_15, if_neg s1_16, if_neg s1_17, if_neg s1_18, if_neg s1_19, if_neg s1_20, if_neg s1_21, if_neg s1_22, if_neg s1_23, if_neg s1_24, if_neg s1_25, if_neg s1_26, if_neg s1_27, if_neg s1_28, if_neg s1_29, if_neg s1_30, if_neg s1_31, if_neg s1_32, if_neg s1_33, if_pos s1_34], rfl⟩
    · refine x_icmp_ne (tgt := 281) dX1_actOf_273 (by decide) (fun c273 => ?_) (fun c273 => ?_)
      · refine x_iconst_ (v := (-1 : Int32)) dX1_actOf_281 (by decide) ?_
        simp only [if_neg c273] at k282 ⊢
        first | exact k282 | exact X.weak (by simp [xle]) k282
      · refine x_bipush_ (v := (14 : Int32)) dX1_actOf_276 (by decide) ?_
        refine x_goto (tgt := 282) dX1_actOf_278 (by decide) ?_
        simp only [if_pos c273] at k282 ⊢
        first | exact k282 | exact X.weak (by simp [xle]) k282
  refine x_sw (78 : Int32) (fun s1_35 => ?_) (fun s1_35 => ?_)
  · refine x_tableIn (off := 347) (tgt := 348) dX1_actOf_1 (by rw [s1_35]; decide) (by rw [s1_35]; decide) (by rw [s1_35]; rfl) (by decide) ?_
    refine x_iload_n dX1_actOf_348 rfl ?_
    refine x_bipush_ (v := (8 : Int32)) dX1_actOf_349 (by decide) ?_
    refine x_via 359 (A' := A) (lv' := [some (.int s), some (.int r)]) (st' := [.int (if r = (8 : Int32) then (0 : Int32) else (-1 : Int32))]) ?_ (fun k359 => ?_)
    · refine x_iret dX1_actOf_359 rfl ?_
      exact ⟨by simp only [f_X1_actOf, if_neg s1_0, if_neg s1_1, if_neg s1_2, if_neg s1_3, if_neg s1_4, if_neg s1_5, if_neg s1_6, if_neg s1_7, if_neg s1_8, if_neg s1_9, if_neg s1_10, if_neg s1_11, if_neg s1_12, if_neg s1_13, if_neg s1_14, if_neg s1_15, if_neg s1_16, if_neg s1_17, if_neg s1_18, if_neg s1_19, if_neg s1_20, if_neg s1_21, if_neg s1_22, if_neg s1_23, if_neg s1_24, if_neg s1_25, if_neg s1_26, if_neg s1_27, if_neg s1_28, if_neg s1_29, if_neg s1_30, if_neg s1_31, if_neg s1_32, if_neg s1_33, if_neg s1_34, if_pos s1_35], rfl⟩
    · refine x_icmp_ne (tgt := 358) dX1_actOf_351 (by decide) (fun c351 => ?_) (fun c351 => ?_)
      · refine x_iconst_ (v := (-1 : Int32)) dX1_actOf_358 (by decide) ?_
        simp only [if_neg c351] at k359 ⊢
        first | exact k359 | exact X.weak (by simp [xle]) k359
      · refine x_iconst_ (v := (0 : Int32)) dX1_actOf_354 (by decide) ?_
        refine x_goto (tgt := 359) dX1_actOf_355 (by decide) ?_
        simp only [if_pos c351] at k359 ⊢
        first | exact k359 | exact X.weak (by simp [xle]) k359
  refine x_sw (79 : Int32) (fun s1_36 => ?_) (fun s1_36 => ?_)
  · refine x_tableIn (off := 359) (tgt := 360) dX1_actOf_1 (by rw [s1_36]; decide) (by rw [s1_36]; decide) (by rw [s1_36]; rfl) (by decide) ?_
    refine x_iload_n dX1_actOf_360 rfl ?_
    refine x_bipush_ (v := (8 : Int32)) dX1_actOf_361 (by decide) ?_
    refine x_via 371 (A' := A) (lv' := [some (.int s), some (.int r)]) (st' := [.int (if r = (8 : Int32) then (1 : Int32) else (-1 : Int32))]) ?_ (fun k371 => ?_)
    · refine x_iret dX1_actOf_371 rfl ?_
      exact ⟨by simp only [f_X1_actOf, if_neg s1_0, if_neg s1_1, if_neg s1_2, if_neg s1_3, if_neg s1_4, if_neg s1_5, if_neg s1_6, if_neg s1_7, if_neg s1_8, if_neg s1_9, if_neg s1_10, if_neg s1_11, if_neg s1_12, if_neg s1_13, if_neg s1_14, if_neg s1_15, if_neg s1_16, if_neg s1_17, if_neg s1_18, if_neg s1_19, if_neg s1_20, if_neg s1_21, if_neg s1_22, if_neg s1_23, if_neg s1_24, if_neg s1_25, if_neg s1_26, if_neg s1_27, if_neg s1_28, if_neg s1_29, if_neg s1_30, if_neg s1_31, if_neg s1_32, if_neg s1_33, if_neg s1_34, if_neg s1_35, if_pos s1_36], rfl⟩
    · refine x_icmp_ne (tgt := 370) dX1_actOf_363 (by decide) (fun c363 => ?_) (fun c363 => ?_)
      · refine x_iconst_ (v := (-1 : Int32)) dX1_actOf_370 (by decide) ?_
        simp only [if_neg c363] at k371 ⊢
        first | exact k371 | exact X.weak (by simp [xle]) k371
      · refine x_iconst_ (v := (1 : Int32)) dX1_actOf_366 (by decide) ?_
        refine x_goto (tgt := 371) dX1_actOf_367 (by decide) ?_
        simp only [if_pos c363] at k371 ⊢
        first | exact k371 | exact X.weak (by simp [xle]) k371
  refine x_sw (80 : Int32) (fun s1_37 => ?_) (fun s1_37 => ?_)
  · refine x_tableIn (off := 371) (tgt := 372) dX1_actOf_1 (by rw [s1_37]; decide) (by rw [s1_37]; decide) (by rw [s1_37]; rfl) (by decide) ?_
    refine x_iload_n dX1_actOf_372 rfl ?_
    refine x_bipush_ (v := (9 : Int32)) dX1_actOf_373 (by decide) ?_
    refine x_via 383 (A' := A) (lv' := [some (.int s), some (.int r)]) (st' := [.int (if r = (9 : Int32) then (2 : Int32) else (-1 : Int32))]) ?_ (fun k383 => ?_)
    · refine x_iret dX1_actOf_383 rfl ?_
      exact ⟨by simp only [f_X1_actOf, if_neg s1_0, if_neg s1_1, if_neg s1_2, if_neg s1_3, if_neg s1_4, if_neg s1_5, if_neg s1_6, if_neg s1_7, if_neg s1_8, if_neg s1_9, if_neg s1_10, if_neg s1_11, if_neg s1_12, if_neg s1_13, if_neg s1_14, if_neg s1_15, if_neg s1_16, if_neg s1_17, if_neg s1_18, if_neg s1_19, if_neg s1_20, if_neg s1_21, if_neg s1_22, if_neg s1_23, if_neg s1_24, if_neg s1_25, if_neg s1_26, if_neg s1_27, if_neg s1_28, if_neg s1_29, if_neg s1_30, if_neg s1_31, if_neg s1_32, if_neg s1_33, if_neg s1_34, if_neg s1_35, if_neg s1_36, if_pos s1_37], rfl⟩
    · refine x_icmp_ne (tgt := 382) dX1_actOf_375 (by decide) (fun c375 => ?_) (fun c375 => ?_)
      · refine x_iconst_ (v := (-1 : Int32)) dX1_actOf_382 (by decide) ?_
        simp only [if_neg c375] at k383 ⊢
        first | exact k383 | exact X.weak (by simp [xle]) k383
      · refine x_iconst_ (v := (2 : Int32)) dX1_actOf_378 (by decide) ?_
        refine x_goto (tgt := 383) dX1_actOf_379 (by decide) ?_
        simp only [if_pos c375] at k383 ⊢
        first | exact k383 | exact X.weak (by simp [xle]) k383
  refine x_sw (81 : Int32) (fun s1_38 => ?_) (fun s1_38 => ?_)
  · refine x_tableIn (off := 383) (tgt := 384) dX1_actOf_1 (by rw [s1_38]; decide) (by rw [s1_38]; decide) (by rw [s1_38]; rfl) (by decide) ?_
    refine x_iload_n dX1_actOf_384 rfl ?_
    refine x_bipush_ (v := (9 : Int32)) dX1_actOf_385 (by decide) ?_
    refine x_via 395 (A' := A) (lv' := [some (.int s), some (.int r)]) (st' := [.int (if r = (9 : Int32) then (3 : Int32) else (-1 : Int32))]) ?_ (fun k395 => ?_)
    · refine x_iret dX1_actOf_395 rfl ?_
      exact ⟨by simp only [f_X1_actOf, if_neg s1_0, if_neg s1_1, if_neg s1_2, if_neg s1_3, if_neg s1_4, if_neg s1_5, if_neg s1_6, if_neg s1_7, if_neg s1_8, if_neg s1_9, if_neg s1_10, if_neg s1_11, if_neg s1_12, if_neg s1_13, if_neg s1_14, if_neg s1_15, if_neg s1_16, if_neg s1_17, if_neg s1_18, if_neg s1_19, if_neg s1_20, if_neg s1_21, if_neg s1_22, if_neg s1_23, if_neg s1_24, if_neg s1_25, if_neg s1_26, if_neg s1_27, if_neg s1_28, if_neg s1_29, if_neg s1_30, if_neg s1_31, if_neg s1_32, if_neg s1_33, if_neg s1_34, if_neg s1_35, if_neg s1_36, if_neg s1_37, if_pos s1_38], rfl⟩
    · refine x_icmp_ne (tgt := 394) dX1_actOf_387 (by decide) (fun c387 => ?_) (fun c387 => ?_)
      · refine x_iconst_ (v := (-1 : Int32)) dX1_actOf_394 (by decide) ?_
        simp only [if_neg c387] at k395 ⊢
        first | exact k395 | exact X.weak (by simp [xle]) k395
      · refine x_iconst_ (v := (3 : Int32)) dX1_actOf_390 (by decide) ?_
        refine x_goto (tgt := 395) dX1_actOf_391 (by decide) ?_
        simp only [if_pos c387] at k395 ⊢
        first | exact k395 | exact X.weak (by simp [xle]) k395
  refine x_sw (82 : Int32) (fun s1_39 => ?_) (fun s1_39 => ?_)
  · refine x_tableIn (off := 395) (tgt := 396) dX1_actOf_1 (by rw [s1_39]; decide) (by rw [s1_39]; decide) (by rw [s1_39]; rfl) (by decide) ?_
    refine x_iload_n dX1_actOf_396 rfl ?_
    refine x_bipush_ (v := (9 : Int32)) dX1_actOf_397 (by decide) ?_
    refine x_via 407 (A' := A) (lv' := [some (.int s), some (.int r)]) (st' := [.int (if r = (9 : Int32) then (4 : Int32) else (-1 : Int32))]) ?_ (fun k407 => ?_)
    · refine x_iret dX1_actOf_407 rfl ?_
      exact ⟨by simp only [f_X1_actOf, if_neg s1_0, if_neg s1_1, if_neg s1_2, if_neg s1_3, if_neg s1_4, if_neg s1_5, if_neg s1_6, if_neg s1_7, if_neg s1_8, if_neg s1_9, if_neg s1_10, if_neg s1_11, if_neg s1_12, if_neg s1_13, if_neg s1_14, if_neg s1_15, if_neg s1_16, if_neg s1_17, if_neg s1_18, if_neg s1_19, if_neg s1_20, if_neg s1_21, if_neg s1_22, if_neg s1_23, if_neg s1_24, if_neg s1_25, if_neg s1_26, if_neg s1_27, if_neg s1_28, if_neg s1_29, if_neg s1_30, if_neg s1_31, if_neg s1_32, if_neg s1_33, if_neg s1_34, if_neg s1_35, if_neg s1_36, if_neg s1_37, if_neg s1_38, if_pos s1_39], rfl⟩
    · refine x_icmp_ne (tgt := 406) dX1_actOf_399 (by decide) (fun c399 => ?_) (fun c399 => ?_)
      · refine x_iconst_ (v := (-1 : Int32)) dX1_actOf_406 (by decide) ?_
        simp only [if_neg c399] at k407 ⊢
        first | exact k407 | exact X.weak (by simp [xle]) k407
      · refine x_iconst_ (v := (4 : Int32)) dX1_actOf_402 (by decide) ?_
        refine x_goto (tgt := 407) dX1_actOf_403 (by decide) ?_
        simp only [if_pos c399] at k407 ⊢
        first | exact k407 | exact X.weak (by simp [xle]) k407
  have t1_0 := lv_neT s1_0 (a := 43) (by decide)
  have t1_1 := lv_neT s1_1 (a := 44) (by decide)
  have t1_2 := lv_neT s1_2 (a := 45) (by decide)
  have t1_3 := lv_neT s1_3 (a := 46) (by decide)
  have t1_4 := lv_neT s1_4 (a := 47) (by decide)
  have t1_5 := lv_neT s1_5 (a := 48) (by decide)
  have t1_6 := lv_neT s1_6 (a := 49) (by decide)
  have t1_7 := lv_neT s1_7 (a := 50) (by decide)
  have t1_8 := lv_neT s1_8 (a := 51) (by decide)
  have t1_9 := lv_neT s1_9 (a := 52) (by decide)
  have t1_10 := lv_neT s1_10 (a := 53) (by decide)
  have t1_11 := lv_neT s1_11 (a := 54) (by decide)
  have t1_12 := lv_neT s1_12 (a := 55) (by decide)
  have t1_13 := lv_neT s1_13 (a := 56) (by decide)
  have t1_14 := lv_neT s1_14 (a := 57) (by decide)
  have t1_15 := lv_neT s1_15 (a := 58) (by decide)
  have t1_16 := lv_neT s1_16 (a := 59) (by decide)
  have t1_17 := lv_neT s1_17 (a := 60) (by decide)
  have t1_18 := lv_neT s1_18 (a := 61) (by decide)
  have t1_19 := lv_neT s1_19 (a := 62) (by decide)
  have t1_20 := lv_neT s1_20 (a := 63) (by decide)
  have t1_21 := lv_neT s1_21 (a := 64) (by decide)
  have t1_22 := lv_neT s1_22 (a := 65) (by decide)
  have t1_23 := lv_neT s1_23 (a := 66) (by decide)
  have t1_24 := lv_neT s1_24 (a := 67) (by decide)
  have t1_25 := lv_neT s1_25 (a := 68) (by decide)
  have t1_26 := lv_neT s1_26 (a := 69) (by decide)
  have t1_27 := lv_neT s1_27 (a := 70) (by decide)
  have t1_28 := lv_neT s1_28 (a := 71) (by decide)
  have t1_29 := lv_neT s1_29 (a := 72) (by decide)
  have t1_30 := lv_neT s1_30 (a := 73) (by decide)
  have t1_31 := lv_neT s1_31 (a := 74) (by decide)
  have t1_32 := lv_neT s1_32 (a := 75) (by decide)
  have t1_33 := lv_neT s1_33 (a := 76) (by decide)
  have t1_34 := lv_neT s1_34 (a := 77) (by decide)
  have t1_35 := lv_neT s1_35 (a := 78) (by decide)
  have t1_36 := lv_neT s1_36 (a := 79) (by decide)
  have t1_37 := lv_neT s1_37 (a := 80) (by decide)
  have t1_38 := lv_neT s1_38 (a := 81) (by decide)
  have t1_39 := lv_neT s1_39 (a := 82) (by decide)
  refine x_tableOut (tgt := 408) dX1_actOf_1 (by omega) (by decide) ?_
  refine x_iconst_ (v := (-1 : Int32)) dX1_actOf_408 (by decide) ?_
  refine x_iret dX1_actOf_409 rfl ?_
  exact ⟨by simp only [f_X1_actOf, if_neg s1_0, if_neg s1_1, if_neg s1_2, if_neg s1_3, if_neg s1_4, if_neg s1_5, if_neg s1_6, if_neg s1_7, if_neg s1_8, if_neg s1_9, if_neg s1_10, if_neg s1_11, if_neg s1_12, if_neg s1_13, if_neg s1_14, if_neg s1_15, if_neg s1_16, if_neg s1_17, if_neg s1_18, if_neg s1_19, if_neg s1_20, if_neg s1_21, if_neg s1_22, if_neg s1_23, if_neg s1_24, if_neg s1_25, if_neg s1_26, if_neg s1_27, if_neg s1_28, if_neg s1_29, if_neg s1_30, if_neg s1_31, if_neg s1_32, if_neg s1_33, if_neg s1_34, if_neg s1_35, if_neg s1_36, if_neg s1_37, if_neg s1_38, if_neg s1_39], rfl⟩
def f_X20_act (s : Int32) : Int32 := (if s = (79 : Int32) then (1 : Int32) else (if s = (83 : Int32) then (7 : Int32) else (11 : Int32)))
theorem m_X20_act (hG : xOK G) {d : Nat} {A : xA} {s : Int32} : MX G (d + 0) kX20_act [.int s] A (xIs (some (.int (f_X20_act s))) A) := by
  refine MX.of rfl (Nat.le_of_ble_eq_true rfl) ?_
  change X _ _ _ _ _ _ [some (.int s)] _
  refine x_iload_n dX20_act_0 rfl ?_
  refine x_bipush_ (v := (79 : Int32)) dX20_act_1 (by decide) ?_
  refine x_via 23 (A' := A) (lv' := [some (.int s)]) (st' := [.int (if s = (79 : Int32) then (1 : Int32) else (if s = (83 : Int32) then (7 : Int32) else (11 : Int32)))]) ?_ (fun k23 => ?_)
  · refine x_iret dX20_act_23 rfl ?_
    exact ⟨by simp only [f_X20_act], rfl⟩
  · refine x_icmp_ne (tgt := 10) dX20_act_3 (by decide) (fun c3 => ?_) (fun c3 => ?_)
    · refine x_iload_n dX20_act_10 rfl ?_
      refine x_bipush_ (v := (83 : Int32)) dX20_act_11 (by decide) ?_
      refine x_icmp_ne (tgt := 21) dX20_act_13 (by decide) (fun c13 => ?_) (fun c13 => ?_)
      · refine x_bipush_ (v := (11 : Int32)) dX20_act_21 (by decide) ?_
        simp only [if_neg c3, if_neg c13] at k23 ⊢
        first | exact k23 | exact X.weak (by simp [xle]) k23
      · refine x_bipush_ (v := (7 : Int32)) dX20_act_16 (by decide) ?_
        refine x_goto (tgt := 23) dX20_act_18 (by decide) ?_
        simp only [if_neg c3, if_pos c13] at k23 ⊢
        first | exact k23 | exact X.weak (by simp [xle]) k23
    · refine x_iconst_ (v := (1 : Int32)) dX20_act_6 (by decide) ?_
      refine x_goto (tgt := 23) dX20_act_7 (by decide) ?_
      simp only [if_pos c3] at k23 ⊢
      first | exact k23 | exact X.weak (by simp [xle]) k23
def f_X2_isDigit (c : Int32) : Int32 := (if c < (48 : Int32) then (0 : Int32) else (if (57 : Int32) < c then (0 : Int32) else (1 : Int32)))
theorem m_X2_isDigit (hG : xOK G) {d : Nat} {A : xA} {c : Int32} : MX G (d + 0) kX2_isDigit [.int c] A (xIs (some (.int (f_X2_isDigit c))) A) := by
  refine MX.of rfl (Nat.le_of_ble_eq_true rfl) ?_
  change X _ _ _ _ _ _ [some (.int c)] _
  refine x_iload_n dX2_isDigit_0 rfl ?_
  refine x_bipush_ (v := (48 : Int32)) dX2_isDigit_1 (by decide) ?_
  refine x_via 17 (A' := A) (lv' := [some (.int c)]) (st' := [.int (if c < (48 : Int32) then (0 : Int32) else (if (57 : Int32) < c then (0 : Int32) else (1 : Int32)))]) ?_ (fun k17 => ?_)
  · refine x_zret dX2_isDigit_17 rfl (by (repeat' split) <;> decide) ?_
    exact ⟨by simp only [f_X2_isDigit], rfl⟩
  · refine x_icmp_lt (tgt := 16) dX2_isDigit_3 (by decide) (fun c3 => ?_) (fun c3 => ?_)
    · refine x_iconst_ (v := (0 : Int32)) dX2_isDigit_16 (by decide) ?_
      simp only [if_pos c3] at k17 ⊢
      first | exact k17 | exact X.weak (by simp [xle]) k17
    · refine x_iload_n dX2_isDigit_6 rfl ?_
      refine x_bipush_ (v := (57 : Int32)) dX2_isDigit_7 (by decide) ?_
      refine x_icmp_gt (tgt := 16) dX2_isDigit_9 (by decide) (fun c9 => ?_) (fun c9 => ?_)
      · refine x_iconst_ (v := (0 : Int32)) dX2_isDigit_16 (by decide) ?_
        simp only [if_neg c3, if_pos c9] at k17 ⊢
        first | exact k17 | exact X.weak (by simp [xle]) k17
      · refine x_iconst_ (v := (1 : Int32)) dX2_isDigit_12 (by decide) ?_
        refine x_goto (tgt := 17) dX2_isDigit_13 (by decide) ?_
        simp only [if_neg c3, if_neg c9] at k17 ⊢
        first | exact k17 | exact X.weak (by simp [xle]) k17
theorem z_X2_isDigit {c : Int32} : f_X2_isDigit c = 0 ∨ f_X2_isDigit c = 1 := by
  unfold f_X2_isDigit
  (repeat' split) <;> decide
def f_X2_isLetter (c : Int32) : Int32 := (if c < (97 : Int32) then (if c < (65 : Int32) then (if c = (95 : Int32) then (1 : Int32) else (0 : Int32)) else (if c ≤ (90 : Int32) then (1 : Int32) else (if c = (95 : Int32) then (1 : Int32) else (0 : Int32)))) else (if c ≤ (122 : Int32) then (1 : Int32) else (if c < (65 : Int32) then (if c = (95 : Int32) then (1 : Int32) else (0 : Int32)) else (if c ≤ (90 : Int32) then (1 : Int32) else (if c = (95 : Int32) then (1 : Int32) else (0 : Int32))))))
theorem m_X2_isLetter (hG : xOK G) {d : Nat} {A : xA} {c : Int32} : MX G (d + 0) kX2_isLetter [.int c] A (xIs (some (.int (f_X2_isLetter c))) A) := by
  refine MX.of rfl (Nat.le_of_ble_eq_true rfl) ?_
  change X _ _ _ _ _ _ [some (.int c)] _
  refine x_iload_n dX2_isLetter_0 rfl ?_
  refine x_bipush_ (v := (97 : Int32)) dX2_isLetter_1 (by decide) ?_
  refine x_via 35 (A' := A) (lv' := [some (.int c)]) (st' := [.int (if c < (97 : Int32) then (if c < (65 : Int32) then (if c = (95 : Int32) then (1 : Int32) else (0 : Int32)) else (if c ≤ (90 : Int32) then (1 : Int32) else (if c = (95 : Int32) then (1 : Int32) else (0 : Int32)))) else (if c ≤ (122 : Int32) then (1 : Int32) else (if c < (65 : Int32) then (if c = (95 : Int32) then (1 : Int32) else (0 : Int32)) else (if c ≤ (90 : Int32) then (1 : Int32) else (if c = (95 : Int32) then (1 : Int32) else (0 : Int32))))))]) ?_ (fun k35 => ?_)
  · refine x_zret dX2_isLetter_35 rfl (by (repeat' split) <;> decide) ?_
    exact ⟨by simp only [f_X2_isLetter], rfl⟩
  · refine x_icmp_lt (tgt := 12) dX2_isLetter_3 (by decide) (fun c3 => ?_) (fun c3 => ?_)
    · refine x_iload_n dX2_isLetter_12 rfl ?_
      refine x_bipush_ (v := (65 : Int32)) dX2_isLetter_13 (by decide) ?_
      refine x_icmp_lt (tgt := 24) dX2_isLetter_15 (by decide) (fun c15 => ?_) (fun c15 => ?_)
      · refine x_iload_n dX2_isLetter_24 rfl ?_
        refine x_bipush_ (v := (95 : Int32)) dX2_isLetter_25 (by decide) ?_
        refine x_icmp_ne (tgt := 34) dX2_isLetter_27 (by decide) (fun c27 => ?_) (fun c27 => ?_)
        · refine x_iconst_ (v := (0 : Int32)) dX2_isLetter_34 (by decide) ?_
          simp only [if_pos c3, if_pos c15, if_neg c27] at k35 ⊢
          first | exact k35 | exact X.weak (by simp [xle]) k35
        · refine x_iconst_ (v := (1 : Int32)) dX2_isLetter_30 (by decide) ?_
          refine x_goto (tgt := 35) dX2_isLetter_31 (by decide) ?_
          simp only [if_pos c3, if_pos c15, if_pos c27] at k35 ⊢
          first | exact k35 | exact X.weak (by simp [xle]) k35
      · refine x_iload_n dX2_isLetter_18 rfl ?_
        refine x_bipush_ (v := (90 : Int32)) dX2_isLetter_19 (by decide) ?_
        refine x_icmp_le (tgt := 30) dX2_isLetter_21 (by decide) (fun c21 => ?_) (fun c21 => ?_)
        · refine x_iconst_ (v := (1 : Int32)) dX2_isLetter_30 (by decide) ?_
          refine x_goto (tgt := 35) dX2_isLetter_31 (by decide) ?_
          simp only [if_pos c3, if_neg c15, if_pos c21] at k35 ⊢
          first | exact k35 | exact X.weak (by simp [xle]) k35
        · refine x_iload_n dX2_isLetter_24 rfl ?_
          refine x_bipush_ (v := (95 : Int32)) dX2_isLetter_25 (by decide) ?_
          refine x_icmp_ne (tgt := 34) dX2_isLetter_27 (by decide) (fun c27 => ?_) (fun c27 => ?_)
          · refine x_iconst_ (v := (0 : Int32)) dX2_isLetter_34 (by decide) ?_
            simp only [if_pos c3, if_neg c15, if_neg c21, if_neg c27] at k35 ⊢
            first | exact k35 | exact X.weak (by simp [xle]) k35
          · refine x_iconst_ (v := (1 : Int32)) dX2_isLetter_30 (by decide) ?_
            refine x_goto (tgt := 35) dX2_isLetter_31 (by decide) ?_
            simp only [if_pos c3, if_neg c15, if_neg c21, if_pos c27] at k35 ⊢
            first | exact k35 | exact X.weak (by simp [xle]) k35
    · refine x_iload_n dX2_isLetter_6 rfl ?_
      refine x_bipush_ (v := (122 : Int32)) dX2_isLetter_7 (by decide) ?_
      refine x_icmp_le (tgt := 30) dX2_isLetter_9 (by decide) (fun c9 => ?_) (fun c9 => ?_)
      · refine x_iconst_ (v := (1 : Int32)) dX2_isLetter_30 (by decide) ?_
        refine x_goto (tgt := 35) dX2_isLetter_31 (by decide) ?_
        simp only [if_neg c3, if_pos c9] at k35 ⊢
        first | exact k35 | exact X.weak (by simp [xle]) k35
      · refine x_iload_n dX2_isLetter_12 rfl ?_
        refine x_bipush_ (v := (65 : Int32)) dX2_isLetter_13 (by decide) ?_
        refine x_icmp_lt (tgt := 24) dX2_isLetter_15 (by decide) (fun c15 => ?_) (fun c15 => ?_)
        · refine x_iload_n dX2_isLetter_24 rfl ?_
          refine x_bipush_ (v := (95 : Int32)) dX2_isLetter_25 (by decide) ?_
          refine x_icmp_ne (tgt := 34) dX2_isLetter_27 (by decide) (fun c27 => ?_) (fun c27 => ?_)
          · refine x_iconst_ (v := (0 : Int32)) dX2_isLetter_34 (by decide) ?_
            simp only [if_neg c3, if_neg c9, if_pos c15, if_neg c27] at k35 ⊢
            first | exact k35 | exact X.weak (by simp [xle]) k35
          · refine x_iconst_ (v := (1 : Int32)) dX2_isLetter_30 (by decide) ?_
            refine x_goto (tgt := 35) dX2_isLetter_31 (by decide) ?_
            simp only [if_neg c3, if_neg c9, if_pos c15, if_pos c27] at k35 ⊢
            first | exact k35 | exact X.weak (by simp [xle]) k35
        · refine x_iload_n dX2_isLetter_18 rfl ?_
          refine x_bipush_ (v := (90 : Int32)) dX2_isLetter_19 (by decide) ?_
          refine x_icmp_le (tgt := 30) dX2_isLetter_21 (by decide) (fun c21 => ?_) (fun c21 => ?_)
          · refine x_iconst_ (v := (1 : Int32)) dX2_isLetter_30 (by decide) ?_
            refine x_goto (tgt := 35) dX2_isLetter_31 (by decide) ?_
            simp only [if_neg c3, if_neg c9, if_neg c15, if_pos c21] at k35 ⊢
            first | exact k35 | exact X.weak (by simp [xle]) k35
          · refine x_iload_n dX2_isLetter_24 rfl ?_
            refine x_bipush_ (v := (95 : Int32)) dX2_isLetter_25 (by decide) ?_
            refine x_icmp_ne (tgt := 34) dX2_isLetter_27 (by decide) (fun c27 => ?_) (fun c27 => ?_)
            · refine x_iconst_ (v := (0 : Int32)) dX2_isLetter_34 (by decide) ?_
              simp only [if_neg c3, if_neg c9, if_neg c15, if_neg c21, if_neg c27] at k35 ⊢
              first | exact k35 | exact X.weak (by simp [xle]) k35
            · refine x_iconst_ (v := (1 : Int32)) dX2_isLetter_30 (by decide) ?_
              refine x_goto (tgt := 35) dX2_isLetter_31 (by decide) ?_
              simp only [if_neg c3, if_neg c9, if_neg c15, if_neg c21, if_pos c27] at k35 ⊢
              first | exact k35 | exact X.weak (by simp [xle]) k35
theorem z_X2_isLetter {c : Int32} : f_X2_isLetter c = 0 ∨ f_X2_isLetter c = 1 := by
  unfold f_X2_isLetter
  (repeat' split) <;> decide
def f_X2_digit (c : Int32) : Int32 := (if (f_X2_isDigit c) = 0 then (if c < (97 : Int32) then (if c < (65 : Int32) then (-1 : Int32) else (if (70 : Int32) < c then (-1 : Int32) else ((c - (65 : Int32)) + (10 : Int32)))) else (if (102 : Int32) < c then (if c < (65 : Int32) then (-1 : Int32) else (if (70 : Int32) < c then (-1 : Int32) else ((c - (65 : Int32)) + (10 : Int32)))) else ((c - (97 : Int32)) + (10 : Int32)))) else (c - (48 : Int32)))
theorem m_X2_digit (hG : xOK G) {d : Nat} {A : xA} {c : Int32} : MX G (d + 1) kX2_digit [.int c] A (xIs (some (.int (f_X2_digit c))) A) := by
  refine MX.of rfl (Nat.le_of_ble_eq_true rfl) ?_
  change X _ _ _ _ _ _ [some (.int c)] _
  refine x_iload_n dX2_digit_0 rfl ?_
  refine x_callS hG (Ky := kX2_isDigit) (As := [.int c]) dX2_digit_1 lk_X2_181 me_X2_isDigit st_X2_isDigit rfl rfl (Nat.le_of_ble_eq_true rfl) (MX.post (m_X2_isDigit hG) ?_)
  rintro _ _ ⟨rfl, rfl⟩
  change X _ _ _ _ A _ _ (.int (f_X2_isDigit c) :: _)
  refine x_via 59 (A' := A) (lv' := [some (.int c)]) (st' := [.int (if (f_X2_isDigit c) = 0 then (if c < (97 : Int32) then (if c < (65 : Int32) then (-1 : Int32) else (if (70 : Int32) < c then (-1 : Int32) else ((c - (65 : Int32)) + (10 : Int32)))) else (if (102 : Int32) < c then (if c < (65 : Int32) then (-1 : Int32) else (if (70 : Int32) < c then (-1 : Int32) else ((c - (65 : Int32)) + (10 : Int32)))) else ((c - (97 : Int32)) + (10 : Int32)))) else (c - (48 : Int32)))]) ?_ (fun k59 => ?_)
  · refine x_iret dX2_digit_59 rfl ?_
    exact ⟨by simp only [f_X2_digit], rfl⟩
  · refine x_if_eq (tgt := 14) dX2_digit_4 (by decide) (fun c4 => ?_) (fun c4 => ?_)
    · refine x_iload_n dX2_digit_14 rfl ?_
      refine x_bipush_ (v := (97 : Int32)) dX2_digit_15 (by decide) ?_
      refine x_icmp_lt (tgt := 36) dX2_digit_17 (by decide) (fun c17 => ?_) (fun c17 => ?_)
      · refine x_iload_n dX2_digit_36 rfl ?_
        refine x_bipush_ (v := (65 : Int32)) dX2_digit_37 (by decide) ?_
        refine x_icmp_lt (tgt := 58) dX2_digit_39 (by decide) (fun c39 => ?_) (fun c39 => ?_)
        · refine x_iconst_ (v := (-1 : Int32)) dX2_digit_58 (by decide) ?_
          simp only [if_pos c4, if_pos c17, if_pos c39] at k59 ⊢
          first | exact k59 | exact X.weak (by simp [xle]) k59
        · refine x_iload_n dX2_digit_42 rfl ?_
          refine x_bipush_ (v := (70 : Int32)) dX2_digit_43 (by decide) ?_
          refine x_icmp_gt (tgt := 58) dX2_digit_45 (by decide) (fun c45 => ?_) (fun c45 => ?_)
          · refine x_iconst_ (v := (-1 : Int32)) dX2_digit_58 (by decide) ?_
            simp only [if_pos c4, if_pos c17, if_neg c39, if_pos c45] at k59 ⊢
            first | exact k59 | exact X.weak (by simp [xle]) k59
          · refine x_iload_n dX2_digit_48 rfl ?_
            refine x_bipush_ (v := (65 : Int32)) dX2_digit_49 (by decide) ?_
            refine x_isub dX2_digit_51 ?_
            refine x_bipush_ (v := (10 : Int32)) dX2_digit_52 (by decide) ?_
            refine x_iadd dX2_digit_54 ?_
            refine x_goto (tgt := 59) dX2_digit_55 (by decide) ?_
            simp only [if_pos c4, if_pos c17, if_neg c39, if_neg c45] at k59 ⊢
            first | exact k59 | exact X.weak (by simp [xle]) k59
      · refine x_iload_n dX2_digit_20 rfl ?_
        refine x_bipush_ (v := (102 : Int32)) dX2_digit_21 (by decide) ?_
        refine x_icmp_gt (tgt := 36) dX2_digit_23 (by decide) (fun c23 => ?_) (fun c23 => ?_)
        · refine x_iload_n dX2_digit_36 rfl ?_
          refine x_bipush_ (v := (65 : Int32)) dX2_digit_37 (by decide) ?_
          refine x_icmp_lt (tgt := 58) dX2_digit_39 (by decide) (fun c39 => ?_) (fun c39 => ?_)
          · refine x_iconst_ (v := (-1 : Int32)) dX2_digit_58 (by decide) ?_
            simp only [if_pos c4, if_neg c17, if_pos c23, if_pos c39] at k59 ⊢
            first | exact k59 | exact X.weak (by simp [xle]) k59
          · refine x_iload_n dX2_digit_42 rfl ?_
            refine x_bipush_ (v := (70 : Int32)) dX2_digit_43 (by decide) ?_
            refine x_icmp_gt (tgt := 58) dX2_digit_45 (by decide) (fun c45 => ?_) (fun c45 => ?_)
            · refine x_iconst_ (v := (-1 : Int32)) dX2_digit_58 (by decide) ?_
              simp only [if_pos c4, if_neg c17, if_pos c23, if_neg c39, if_pos c45] at k59 ⊢
              first | exact k59 | exact X.weak (by simp [xle]) k59
            · refine x_iload_n dX2_digit_48 rfl ?_
              refine x_bipush_ (v := (65 : Int32)) dX2_digit_49 (by decide) ?_
              refine x_isub dX2_digit_51 ?_
              refine x_bipush_ (v := (10 : Int32)) dX2_digit_52 (by decide) ?_
              refine x_iadd dX2_digit_54 ?_
              refine x_goto (tgt := 59) dX2_digit_55 (by decide) ?_
              simp only [if_pos c4, if_neg c17, if_pos c23, if_neg c39, if_neg c45] at k59 ⊢
              first | exact k59 | exact X.weak (by simp [xle]) k59
        · refine x_iload_n dX2_digit_26 rfl ?_
          refine x_bipush_ (v := (97 : Int32)) dX2_digit_27 (by decide) ?_
          refine x_isub dX2_digit_29 ?_
          refine x_bipush_ (v := (10 : Int32)) dX2_digit_30 (by decide) ?_
          refine x_iadd dX2_digit_32 ?_
          refine x_goto (tgt := 59) dX2_digit_33 (by decide) ?_
          simp only [if_pos c4, if_neg c17, if_neg c23] at k59 ⊢
          first | exact k59 | exact X.weak (by simp [xle]) k59
    · refine x_iload_n dX2_digit_7 rfl ?_
      refine x_bipush_ (v := (48 : Int32)) dX2_digit_8 (by decide) ?_
      refine x_isub dX2_digit_10 ?_
      refine x_goto (tgt := 59) dX2_digit_11 (by decide) ?_
      simp only [if_neg c4] at k59 ⊢
      first | exact k59 | exact X.weak (by simp [xle]) k59
def f_X6_constant (v : Int32) : Int64 := ((4294967296 : Int64) ||| (v.toInt64 &&& (4294967295 : Int64)))
theorem m_X6_constant (hG : xOK G) {d : Nat} {A : xA} {v : Int32} : MX G (d + 0) kX6_constant [.int v] A (xIs (some (.long (f_X6_constant v))) A) := by
  refine MX.of rfl (Nat.le_of_ble_eq_true rfl) ?_
  change X _ _ _ _ _ _ [some (.int v)] _
  refine x_ldc2 hG dX6_constant_0 q2006 ?_
  refine x_iload_n dX6_constant_3 rfl ?_
  refine x_i2l dX6_constant_4 ?_
  refine x_ldc2 hG dX6_constant_5 q2007 ?_
  refine x_land dX6_constant_8 ?_
  refine x_lor dX6_constant_9 ?_
  refine x_lret dX6_constant_10 rfl ?_
  exact ⟨by simp only [f_X6_constant], rfl⟩
def f_J15_bitCount (i : Int32) : Int32 := ((((((((i - ((jiushr i (1 : Int32)) &&& (1431655765 : Int32))) &&& (858993459 : Int32)) + ((jiushr (i - ((jiushr i (1 : Int32)) &&& (1431655765 : Int32))) (2 : Int32)) &&& (858993459 : Int32))) + (jiushr (((i - ((jiushr i (1 : Int32)) &&& (1431655765 : Int32))) &&& (858993459 : Int32)) + ((jiushr (i - ((jiushr i (1 : Int32)) &&& (1431655765 : Int32))) (2 : Int32)) &&& (858993459 : Int32))) (4 : Int32))) &&& (252645135 : Int32)) + (jiushr (((((i - ((jiushr i (1 : Int32)) &&& (1431655765 : Int32))) &&& (858993459 : Int32)) + ((jiushr (i - ((jiushr i (1 : Int32)) &&& (1431655765 : Int32))) (2 : Int32)) &&& (858993459 : Int32))) + (jiushr (((i - ((jiushr i (1 : Int32)) &&& (1431655765 : Int32))) &&& (858993459 : Int32)) + ((jiushr (i - ((jiushr i (1 : Int32)) &&& (1431655765 : Int32))) (2 : Int32)) &&& (858993459 : Int32))) (4 : Int32))) &&& (252645135 : Int32)) (8 : Int32))) + (jiushr ((((((i - ((jiushr i (1 : Int32)) &&& (1431655765 : Int32))) &&& (858993459 : Int32)) + ((jiushr (i - ((jiushr i (1 : Int32)) &&& (1431655765 : Int32))) (2 : Int32)) &&& (858993459 : Int32))) + (jiushr (((i - ((jiushr i (1 : Int32)) &&& (1431655765 : Int32))) &&& (858993459 : Int32)) + ((jiushr (i - ((jiushr i (1 : Int32)) &&& (1431655765 : Int32))) (2 : Int32)) &&& (858993459 : Int32))) (4 : Int32))) &&& (252645135 : Int32)) + (jiushr (((((i - ((jiushr i (1 : Int32)) &&& (1431655765 : Int32))) &&& (858993459 : Int32)) + ((jiushr (i - ((jiushr i (1 : Int32)) &&& (1431655765 : Int32))) (2 : Int32)) &&& (858993459 : Int32))) + (jiushr (((i - ((jiushr i (1 : Int32)) &&& (1431655765 : Int32))) &&& (858993459 : Int32)) + ((jiushr (i - ((jiushr i (1 : Int32)) &&& (1431655765 : Int32))) (2 : Int32)) &&& (858993459 : Int32))) (4 : Int32))) &&& (252645135 : Int32)) (8 : Int32))) (16 : Int32))) &&& (63 : Int32))
theorem m_J15_bitCount (hG : xOK G) {d : Nat} {A : xA} {i : Int32} : MX G (d + 0) kJ15_bitCount [.int i] A (xIs (some (.int (f_J15_bitCount i))) A) := by
  refine MX.of rfl (Nat.le_of_ble_eq_true rfl) ?_
  change X _ _ _ _ _ _ [some (.int i)] _
  refine x_iload_n dJ15_bitCount_0 rfl ?_
  refine x_iload_n dJ15_bitCount_1 rfl ?_
  refine x_iconst_ (v := (1 : Int32)) dJ15_bitCount_2 (by decide) ?_
  refine x_iushr dJ15_bitCount_3 ?_
  refine x_eqi (v := (jiushr i (1 : Int32))) rfl ?_
  refine x_ldcw hG dJ15_bitCount_4 q2721 ?_
  refine x_iand dJ15_bitCount_7 ?_
  refine x_isub dJ15_bitCount_8 ?_
  refine x_istore_n dJ15_bitCount_9 (by decide) ?_
  refine x_iload_n dJ15_bitCount_10 rfl ?_
  refine x_ldcw hG dJ15_bitCount_11 q2722 ?_
  refine x_iand dJ15_bitCount_14 ?_
  refine x_iload_n dJ15_bitCount_15 rfl ?_
  refine x_iconst_ (v := (2 : Int32)) dJ15_bitCount_16 (by decide) ?_
  refine x_iushr dJ15_bitCount_17 ?_
  refine x_eqi (v := (jiushr (i - ((jiushr i (1 : Int32)) &&& (1431655765 : Int32))) (2 : Int32))) rfl ?_
  refine x_ldcw hG dJ15_bitCount_18 q2722 ?_
  refine x_iand dJ15_bitCount_21 ?_
  refine x_iadd dJ15_bitCount_22 ?_
  refine x_istore_n dJ15_bitCount_23 (by decide) ?_
  refine x_iload_n dJ15_bitCount_24 rfl ?_
  refine x_iload_n dJ15_bitCount_25 rfl ?_
  refine x_iconst_ (v := (4 : Int32)) dJ15_bitCount_26 (by decide) ?_
  refine x_iushr dJ15_bitCount_27 ?_
  refine x_eqi (v := (jiushr (((i - ((jiushr i (1 : Int32)) &&& (1431655765 : Int32))) &&& (858993459 : Int32)) + ((jiushr (i - ((jiushr i (1 : Int32)) &&& (1431655765 : Int32))) (2 : Int32)) &&& (858993459 : Int32))) (4 : Int32))) rfl ?_
  refine x_iadd dJ15_bitCount_28 ?_
  refine x_ldcw hG dJ15_bitCount_29 q2723 ?_
  refine x_iand dJ15_bitCount_32 ?_
  refine x_istore_n dJ15_bitCount_33 (by decide) ?_
  refine x_iload_n dJ15_bitCount_34 rfl ?_
  refine x_iload_n dJ15_bitCount_35 rfl ?_
  refine x_bipush_ (v := (8 : Int32)) dJ15_bitCount_36 (by decide) ?_
  refine x_iushr dJ15_bitCount_38 ?_
  refine x_eqi (v := (jiushr (((((i - ((jiushr i (1 : Int32)) &&& (1431655765 : Int32))) &&& (858993459 : Int32)) + ((jiushr (i - ((jiushr i (1 : Int32)) &&& (1431655765 : Int32))) (2 : Int32)) &&& (858993459 : Int32))) + (jiushr (((i - ((jiushr i (1 : Int32)) &&& (1431655765 : Int32))) &&& (858993459 : Int32)) + ((jiushr (i - ((jiushr i (1 : Int32)) &&& (1431655765 : Int32))) (2 : Int32)) &&& (858993459 : Int32))) (4 : Int32))) &&& (252645135 : Int32)) (8 : Int32))) rfl ?_
  refine x_iadd dJ15_bitCount_39 ?_
  refine x_istore_n dJ15_bitCount_40 (by decide) ?_
  refine x_iload_n dJ15_bitCount_41 rfl ?_
  refine x_iload_n dJ15_bitCount_42 rfl ?_
  refine x_bipush_ (v := (16 : Int32)) dJ15_bitCount_43 (by decide) ?_
  refine x_iushr dJ15_bitCount_45 ?_
  refine x_eqi (v := (jiushr ((((((i - ((jiushr i (1 : Int32)) &&& (1431655765 : Int32))) &&& (858993459 : Int32)) + ((jiushr (i - ((jiushr i (1 : Int32)) &&& (1431655765 : Int32))) (2 : Int32)) &&& (858993459 : Int32))) + (jiushr (((i - ((jiushr i (1 : Int32)) &&& (1431655765 : Int32))) &&& (858993459 : Int32)) + ((jiushr (i - ((jiushr i (1 : Int32)) &&& (1431655765 : Int32))) (2 : Int32)) &&& (858993459 : Int32))) (4 : Int32))) &&& (252645135 : Int32)) + (jiushr (((((i - ((jiushr i (1 : Int32)) &&& (1431655765 : Int32))) &&& (858993459 : Int32)) + ((jiushr (i - ((jiushr i (1 : Int32)) &&& (1431655765 : Int32))) (2 : Int32)) &&& (858993459 : Int32))) + (jiushr (((i - ((jiushr i (1 : Int32)) &&& (1431655765 : Int32))) &&& (858993459 : Int32)) + ((jiushr (i - ((jiushr i (1 : Int32)) &&& (1431655765 : Int32))) (2 : Int32)) &&& (858993459 : Int32))) (4 : Int32))) &&& (252645135 : Int32)) (8 : Int32))) (16 : Int32))) rfl ?_
  refine x_iadd dJ15_bitCount_46 ?_
  refine x_istore_n dJ15_bitCount_47 (by decide) ?_
  refine x_iload_n dJ15_bitCount_48 rfl ?_
  refine x_bipush_ (v := (63 : Int32)) dJ15_bitCount_49 (by decide) ?_
  refine x_iand dJ15_bitCount_51 ?_
  refine x_iret dJ15_bitCount_52 rfl ?_
  exact ⟨by simp only [f_J15_bitCount], rfl⟩
def f_J15_numberOfTrailingZeros (i : Int32) : Int32 := (if 0 < ((i ^^^ (-1 : Int32)) &&& (i - (1 : Int32))) then ((if (if (if (if ((i ^^^ (-1 : Int32)) &&& (i - (1 : Int32))) ≤ (65536 : Int32) then ((i ^^^ (-1 : Int32)) &&& (i - (1 : Int32))) else (jiushr ((i ^^^ (-1 : Int32)) &&& (i - (1 : Int32))) (16 : Int32))) ≤ (256 : Int32) then (if ((i ^^^ (-1 : Int32)) &&& (i - (1 : Int32))) ≤ (65536 : Int32) then ((i ^^^ (-1 : Int32)) &&& (i - (1 : Int32))) else (jiushr ((i ^^^ (-1 : Int32)) &&& (i - (1 : Int32))) (16 : Int32))) else (jiushr (if ((i ^^^ (-1 : Int32)) &&& (i - (1 : Int32))) ≤ (65536 : Int32) then ((i ^^^ (-1 : Int32)) &&& (i - (1 : Int32))) else (jiushr ((i ^^^ (-1 : Int32)) &&& (i - (1 : Int32))) (16 : Int32))) (8 : Int32))) ≤ (16 : Int32) then (if (if ((i ^^^ (-1 : Int32)) &&& (i - (1 : Int32))) ≤ (65536 : Int32) then ((i ^^^ (-1 : Int32)) &&& (i - (1 : Int32))) else (jiushr ((i ^^^ (-1 : Int32)) &&& (i - (1 : Int32))) (16 : Int32))) ≤ (256 : Int32) then (if ((i ^^^ (-1 : Int32)) &&& (i - (1 : Int32))) ≤ (65536 : Int32) then ((i ^^^ (-1 : Int32)) &&& (i - (1 : Int32))) else (jiushr ((i ^^^ (-1 : Int32)) &&& (i - (1 : Int32))) (16 : Int32))) else (jiushr (if ((i ^^^ (-1 : Int32)) &&& (i - (1 : Int32))) ≤ (65536 : Int32) then ((i ^^^ (-1 : Int32)) &&& (i - (1 : Int32))) else (jiushr ((i ^^^ (-1 : Int32)) &&& (i - (1 : Int32))) (16 : Int32))) (8 : Int32))) else (jiushr (if (if ((i ^^^ (-1 : Int32)) &&& (i - (1 : Int32))) ≤ (65536 : Int32) then ((i ^^^ (-1 : Int32)) &&& (i - (1 : Int32))) else (jiushr ((i ^^^ (-1 : Int32)) &&& (i - (1 : Int32))) (16 : Int32))) ≤ (256 : Int32) then (if ((i ^^^ (-1 : Int32)) &&& (i - (1 : Int32))) ≤ (65536 : Int32) then ((i ^^^ (-1 : Int32)) &&& (i - (1 : Int32))) else (jiushr ((i ^^^ (-1 : Int32)) &&& (i - (1 : Int32))) (16 : Int32))) else (jiushr (if ((i ^^^ (-1 : Int32)) &&& (i - (1 : Int32))) ≤ (65536 : Int32) then ((i ^^^ (-1 : Int32)) &&& (i - (1 : Int32))) else (jiushr ((i ^^^ (-1 : Int32)) &&& (i - (1 : Int32))) (16 : Int32))) (8 : Int32))) (4 : Int32))) ≤ (4 : Int32) then (if (if (if ((i ^^^ (-1 : Int32)) &&& (i - (1 : Int32))) ≤ (65536 : Int32) then ((i ^^^ (-1 : Int32)) &&& (i - (1 : Int32))) else (jiushr ((i ^^^ (-1 : Int32)) &&& (i - (1 : Int32))) (16 : Int32))) ≤ (256 : Int32) then (if ((i ^^^ (-1 : Int32)) &&& (i - (1 : Int32))) ≤ (65536 : Int32) then ((i ^^^ (-1 : Int32)) &&& (i - (1 : Int32))) else (jiushr ((i ^^^ (-1 : Int32)) &&& (i - (1 : Int32))) (16 : Int32))) else (jiushr (if ((i ^^^ (-1 : Int32)) &&& (i - (1 : Int32))) ≤ (65536 : Int32) then ((i ^^^ (-1 : Int32)) &&& (i - (1 : Int32))) else (jiushr ((i ^^^ (-1 : Int32)) &&& (i - (1 : Int32))) (16 : Int32))) (8 : Int32))) ≤ (16 : Int32) then (if (if ((i ^^^ (-1 : Int32)) &&& (i - (1 : Int32))) ≤ (65536 : Int32) then ((i ^^^ (-1 : Int32)) &&& (i - (1 : Int32))) else (jiushr ((i ^^^ (-1 : Int32)) &&& (i - (1 : Int32))) (16 : Int32))) ≤ (256 : Int32) then (if ((i ^^^ (-1 : Int32)) &&& (i - (1 : Int32))) ≤ (65536 : Int32) then (1 : Int32) else ((1 : Int32) + (16 : Int32))) else ((if ((i ^^^ (-1 : Int32)) &&& (i - (1 : Int32))) ≤ (65536 : Int32) then (1 : Int32) else ((1 : Int32) + (16 : Int32))) + (8 : Int32))) else ((if (if ((i ^^^ (-1 : Int32)) &&& (i - (1 : Int32))) ≤ (65536 : Int32) then ((i ^^^ (-1 : Int32)) &&& (i - (1 : Int32))) else (jiushr ((i ^^^ (-1 : Int32)) &&& (i - (1 : Int32))) (16 : Int32))) ≤ (256 : Int32) then (if ((i ^^^ (-1 : Int32)) &&& (i - (1 : Int32))) ≤ (65536 : Int32) then (1 : Int32) else ((1 : Int32) + (16 : Int32))) else ((if ((i ^^^ (-1 : Int32)) &&& (i - (1 : Int32))) ≤ (65536 : Int32) then (1 : Int32) else ((1 : Int32) + (16 : Int32))) + (8 : Int32))) + (4 : Int32))) else ((if (if (if ((i ^^^ (-1 : Int32)) &&& (i - (1 : Int32))) ≤ (65536 : Int32) then ((i ^^^ (-1 : Int32)) &&& (i - (1 : Int32))) else (jiushr ((i ^^^ (-1 : Int32)) &&& (i - (1 : Int32))) (16 : Int32))) ≤ (256 : Int32) then (if ((i ^^^ (-1 : Int32)) &&& (i - (1 : Int32))) ≤ (65536 : Int32) then ((i ^^^ (-1 : Int32)) &&& (i - (1 : Int32))) else (jiushr ((i ^^^ (-1 : Int32)) &&& (i - (1 : Int32))) (16 : Int32))) else (jiushr (if ((i ^^^ (-1 : Int32)) &&& (i - (1 : Int32))) ≤ (65536 : Int32) then ((i ^^^ (-1 : Int32)) &&& (i - (1 : Int32))) else (jiushr ((i ^^^ (-1 : Int32)) &&& (i - (1 : Int32))) (16 : Int32))) (8 : Int32))) ≤ (16 : Int32) then (if (if ((i ^^^ (-1 : Int32)) &&& (i - (1 : Int32))) ≤ (65536 : Int32) then ((i ^^^ (-1 : Int32)) &&& (i - (1 : Int32))) else (jiushr ((i ^^^ (-1 : Int32)) &&& (i - (1 : Int32))) (16 : Int32))) ≤ (256 : Int32) then (if ((i ^^^ (-1 : Int32)) &&& (i - (1 : Int32))) ≤ (65536 : Int32) then (1 : Int32) else ((1 : Int32) + (16 : Int32))) else ((if ((i ^^^ (-1 : Int32)) &&& (i - (1 : Int32))) ≤ (65536 : Int32) then (1 : Int32) else ((1 : Int32) + (16 : Int32))) + (8 : Int32))) else ((if (if ((i ^^^ (-1 : Int32)) &&& (i - (1 : Int32))) ≤ (65536 : Int32) then ((i ^^^ (-1 : Int32)) &&& (i - (1 : Int32))) else (jiushr ((i ^^^ (-1 : Int32)) &&& (i - (1 : Int32))) (16 : Int32))) ≤ (256 : Int32) then (if ((i ^^^ (-1 : Int32)) &&& (i - (1 : Int32))) ≤ (65536 : Int32) then (1 : Int32) else ((1 : Int32) + (16 : Int32))) else ((if ((i ^^^ (-1 : Int32)) &&& (i - (1 : Int32))) ≤ (65536 : Int32) then (1 : Int32) else ((1 : Int32) + (16 : Int32))) + (8 : Int32))) + (4 : Int32))) + (2 : Int32))) + (jiushr (if (if (if (if ((i ^^^ (-1 : Int32)) &&& (i - (1 : Int32))) ≤ (65536 : Int32) then ((i ^^^ (-1 : Int32)) &&& (i - (1 : Int32))) else (jiushr ((i ^^^ (-1 : Int32)) &&& (i - (1 : Int32))) (16 : Int32))) ≤ (256 : Int32) then (if ((i ^^^ (-1 : Int32)) &&& (i - (1 : Int32))) ≤ (65536 : Int32) then ((i ^^^ (-1 : Int32)) &&& (i - (1 : Int32))) else (jiushr ((i ^^^ (-1 : Int32)) &&& (i - (1 : Int32))) (16 : Int32))) else (jiushr (if ((i ^^^ (-1 : Int32)) &&& (i - (1 : Int32))) ≤ (65536 : Int32) then ((i ^^^ (-1 : Int32)) &&& (i - (1 : Int32))) else (jiushr ((i ^^^ (-1 : Int32)) &&& (i - (1 : Int32))) (16 : Int32))) (8 : Int32))) ≤ (16 : Int32) then (if (if ((i ^^^ (-1 : Int32)) &&& (i - (1 : Int32))) ≤ (65536 : Int32) then ((i ^^^ (-1 : Int32)) &&& (i - (1 : Int32))) else (jiushr ((i ^^^ (-1 : Int32)) &&& (i - (1 : Int32))) (16 : Int32))) ≤ (256 : Int32) then (if ((i ^^^ (-1 : Int32)) &&& (i - (1 : Int32))) ≤ (65536 : Int32) then ((i ^^^ (-1 : Int32)) &&& (i - (1 : Int32))) else (jiushr ((i ^^^ (-1 : Int32)) &&& (i - (1 : Int32))) (16 : Int32))) else (jiushr (if ((i ^^^ (-1 : Int32)) &&& (i - (1 : Int32))) ≤ (65536 : Int32) then ((i ^^^ (-1 : Int32)) &&& (i - (1 : Int32))) else (jiushr ((i ^^^ (-1 : Int32)) &&& (i - (1 : Int32))) (16 : Int32))) (8 : Int32))) else (jiushr (if (if ((i ^^^ (-1 : Int32)) &&& (i - (1 : Int32))) ≤ (65536 : Int32) then ((i ^^^ (-1 : Int32)) &&& (i - (1 : Int32))) else (jiushr ((i ^^^ (-1 : Int32)) &&& (i - (1 : Int32))) (16 : Int32))) ≤ (256 : Int32) then (if ((i ^^^ (-1 : Int32)) &&& (i - (1 : Int32))) ≤ (65536 : Int32) then ((i ^^^ (-1 : Int32)) &&& (i - (1 : Int32))) else (jiushr ((i ^^^ (-1 : Int32)) &&& (i - (1 : Int32))) (16 : Int32))) else (jiushr (if ((i ^^^ (-1 : Int32)) &&& (i - (1 : Int32))) ≤ (65536 : Int32) then ((i ^^^ (-1 : Int32)) &&& (i - (1 : Int32))) else (jiushr ((i ^^^ (-1 : Int32)) &&& (i - (1 : Int32))) (16 : Int32))) (8 : Int32))) (4 : Int32))) ≤ (4 : Int32) then (if (if (if ((i ^^^ (-1 : Int32)) &&& (i - (1 : Int32))) ≤ (65536 : Int32) then ((i ^^^ (-1 : Int32)) &&& (i - (1 : Int32))) else (jiushr ((i ^^^ (-1 : Int32)) &&& (i - (1 : Int32))) (16 : Int32))) ≤ (256 : Int32) then (if ((i ^^^ (-1 : Int32)) &&& (i - (1 : Int32))) ≤ (65536 : Int32) then ((i ^^^ (-1 : Int32)) &&& (i - (1 : Int32))) else (jiushr ((i ^^^ (-1 : Int32)) &&& (i - (1 : Int32))) (16 : Int32))) else (jiushr (if ((i ^^^ (-1 : Int32)) &&& (i - (1 : Int32))) ≤ (65536 : Int32) then ((i ^^^ (-1 : Int32)) &&& (i - (1 : Int32))) else (jiushr ((i ^^^ (-1 : Int32)) &&& (i - (1 : Int32))) (16 : Int32))) (8 : Int32))) ≤ (16 : Int32) then (if (if ((i ^^^ (-1 : Int32)) &&& (i - (1 : Int32))) ≤ (65536 : Int32) then ((i ^^^ (-1 : Int32)) &&& (i - (1 : Int32))) else (jiushr ((i ^^^ (-1 : Int32)) &&& (i - (1 : Int32))) (16 : Int32))) ≤ (256 : Int32) then (if ((i ^^^ (-1 : Int32)) &&& (i - (1 : Int32))) ≤ (65536 : Int32) then ((i ^^^ (-1 : Int32)) &&& (i - (1 : Int32))) else (jiushr ((i ^^^ (-1 : Int32)) &&& (i - (1 : Int32))) (16 : Int32))) else (jiushr (if ((i ^^^ (-1 : Int32)) &&& (i - (1 : Int32))) ≤ (65536 : Int32) then ((i ^^^ (-1 : Int32)) &&& (i - (1 : Int32))) else (jiushr ((i ^^^ (-1 : Int32)) &&& (i - (1 : Int32))) (16 : Int32))) (8 : Int32))) else (jiushr (if (if ((i ^^^ (-1 : Int32)) &&& (i - (1 : Int32))) ≤ (65536 : Int32) then ((i ^^^ (-1 : Int32)) &&& (i - (1 : Int32))) else (jiushr ((i ^^^ (-1 : Int32)) &&& (i - (1 : Int32))) (16 : Int32))) ≤ (256 : Int32) then (if ((i ^^^ (-1 : Int32)) &&& (i - (1 : Int32))) ≤ (65536 : Int32) then ((i ^^^ (-1 : Int32)) &&& (i - (1 : Int32))) else (jiushr ((i ^^^ (-1 : Int32)) &&& (i - (1 : Int32))) (16 : Int32))) else (jiushr (if ((i ^^^ (-1 : Int32)) &&& (i - (1 : Int32))) ≤ (65536 : Int32) then ((i ^^^ (-1 : Int32)) &&& (i - (1 : Int32))) else (jiushr ((i ^^^ (-1 : Int32)) &&& (i - (1 : Int32))) (16 : Int32))) (8 : Int32))) (4 : Int32))) else (jiushr (if (if (if ((i ^^^ (-1 : Int32)) &&& (i - (1 : Int32))) ≤ (65536 : Int32) then ((i ^^^ (-1 : Int32)) &&& (i - (1 : Int32))) else (jiushr ((i ^^^ (-1 : Int32)) &&& (i - (1 : Int32))) (16 : Int32))) ≤ (256 : Int32) then (if ((i ^^^ (-1 : Int32)) &&& (i - (1 : Int32))) ≤ (65536 : Int32) then ((i ^^^ (-1 : Int32)) &&& (i - (1 : Int32))) else (jiushr ((i ^^^ (-1 : Int32)) &&& (i - (1 : Int32))) (16 : Int32))) else (jiushr (if ((i ^^^ (-1 : Int32)) &&& (i - (1 : Int32))) ≤ (65536 : Int32) then ((i ^^^ (-1 : Int32)) &&& (i - (1 : Int32))) else (jiushr ((i ^^^ (-1 : Int32)) &&& (i - (1 : Int32))) (16 : Int32))) (8 : Int32))) ≤ (16 : Int32) then (if (if ((i ^^^ (-1 : Int32)) &&& (i - (1 : Int32))) ≤ (65536 : Int32) then ((i ^^^ (-1 : Int32)) &&& (i - (1 : Int32))) else (jiushr ((i ^^^ (-1 : Int32)) &&& (i - (1 : Int32))) (16 : Int32))) ≤ (256 : Int32) then (if ((i ^^^ (-1 : Int32)) &&& (i - (1 : Int32))) ≤ (65536 : Int32) then ((i ^^^ (-1 : Int32)) &&& (i - (1 : Int32))) else (jiushr ((i ^^^ (-1 : Int32)) &&& (i - (1 : Int32))) (16 : Int32))) else (jiushr (if ((i ^^^ (-1 : Int32)) &&& (i - (1 : Int32))) ≤ (65536 : Int32) then ((i ^^^ (-1 : Int32)) &&& (i - (1 : Int32))) else (jiushr ((i ^^^ (-1 : Int32)) &&& (i - (1 : Int32))) (16 : Int32))) (8 : Int32))) else (jiushr (if (if ((i ^^^ (-1 : Int32)) &&& (i - (1 : Int32))) ≤ (65536 : Int32) then ((i ^^^ (-1 : Int32)) &&& (i - (1 : Int32))) else (jiushr ((i ^^^ (-1 : Int32)) &&& (i - (1 : Int32))) (16 : Int32))) ≤ (256 : Int32) then (if ((i ^^^ (-1 : Int32)) &&& (i - (1 : Int32))) ≤ (65536 : Int32) then ((i ^^^ (-1 : Int32)) &&& (i - (1 : Int32))) else (jiushr ((i ^^^ (-1 : Int32)) &&& (i - (1 : Int32))) (16 : Int32))) else (jiushr (if ((i ^^^ (-1 : Int32)) &&& (i - (1 : Int32))) ≤ (65536 : Int32) then ((i ^^^ (-1 : Int32)) &&& (i - (1 : Int32))) else (jiushr ((i ^^^ (-1 : Int32)) &&& (i - (1 : Int32))) (16 : Int32))) (8 : Int32))) (4 : Int32))) (2 : Int32))) (1 : Int32))) else (((i ^^^ (-1 : Int32)) &&& (i - (1 : Int32))) &&& (32 : Int32)))
theorem m_J15_numberOfTrailingZeros (hG : xOK G) {d : Nat} {A : xA} {i : Int32} : MX G (d + 0) kJ15_numberOfTrailingZeros [.int i] A (xIs (some (.int (f_J15_numberOfTrailingZeros i))) A) := by
  refine MX.of rfl (Nat.le_of_ble_eq_true rfl) ?_
  change X _ _ _ _ _ _ [some (.int i), none] _
  refine x_iload_n dJ15_numberOfTrailingZeros_0 rfl ?_
  refine x_iconst_ (v := (-1 : Int32)) dJ15_numberOfTrailingZeros_1 (by decide) ?_
  refine x_ixor dJ15_numberOfTrailingZeros_2 ?_
  refine x_iload_n dJ15_numberOfTrailingZeros_3 rfl ?_
  refine x_iconst_ (v := (1 : Int32)) dJ15_numberOfTrailingZeros_4 (by decide) ?_
  refine x_isub dJ15_numberOfTrailingZeros_5 ?_
  refine x_iand dJ15_numberOfTrailingZeros_6 ?_
  refine x_istore_n dJ15_numberOfTrailingZeros_7 (by decide) ?_
  refine x_iload_n dJ15_numberOfTrailingZeros_8 rfl ?_
  refine x_if_gt (tgt := 17) dJ15_numberOfTrailingZeros_9 (by decide) (fun c9 => ?_) (fun c9 => ?_)
  · refine x_iconst_ (v := (1 : Int32)) dJ15_numberOfTrailingZeros_17 (by decide) ?_
    refine x_istore_n dJ15_numberOfTrailingZeros_18 (by decide) ?_
    refine x_iload_n dJ15_numberOfTrailingZeros_19 rfl ?_
    refine x_ldcw hG dJ15_numberOfTrailingZeros_20 q2564 ?_
    refine x_via 34 (A' := A) (lv' := [some (.int (if ((i ^^^ (-1 : Int32)) &&& (i - (1 : Int32))) ≤ (65536 : Int32) then ((i ^^^ (-1 : Int32)) &&& (i - (1 : Int32))) else (jiushr ((i ^^^ (-1 : Int32)) &&& (i - (1 : Int32))) (16 : Int32)))), some (.int (if ((i ^^^ (-1 : Int32)) &&& (i - (1 : Int32))) ≤ (65536 : Int32) then (1 : Int32) else ((1 : Int32) + (16 : Int32))))]) (st' := []) ?_ (fun k34 => ?_)
    · refine x_iload_n dJ15_numberOfTrailingZeros_34 rfl ?_
      refine x_sipush_ (v := (256 : Int32)) dJ15_numberOfTrailingZeros_35 (by decide) ?_
      refine x_via 49 (A' := A) (lv' := [some (.int (if (if ((i ^^^ (-1 : Int32)) &&& (i - (1 : Int32))) ≤ (65536 : Int32) then ((i ^^^ (-1 : Int32)) &&& (i - (1 : Int32))) else (jiushr ((i ^^^ (-1 : Int32)) &&& (i - (1 : Int32))) (16 : Int32))) ≤ (256 : Int32) then (if ((i ^^^ (-1 : Int32)) &&& (i - (1 : Int32))) ≤ (65536 : Int32) then ((i ^^^ (-1 : Int32)) &&& (i - (1 : Int32))) else (jiushr ((i ^^^ (-1 : Int32)) &&& (i - (1 : Int32))) (16 : Int32))) else (jiushr (if ((i ^^^ (-1 : Int32)) &&& (i - (1 : Int32))) ≤ (65536 : Int32) then ((i ^^^ (-1 : Int32)) &&& (i - (1 : Int32))) else (jiushr ((i ^^^ (-1 : Int32)) &&& (i - (1 : Int32))) (16 : Int32))) (8 : Int32)))), some (.int (if (if ((i ^^^ (-1 : Int32)) &&& (i - (1 : Int32))) ≤ (65536 : Int32) then ((i ^^^ (-1 : Int32)) &&& (i - (1 : Int32))) else (jiushr ((i ^^^ (-1 : Int32)) &&& (i - (1 : Int32))) (16 : Int32))) ≤ (256 : Int32) then (if ((i ^^^ (-1 : Int32)) &&& (i - (1 : Int32))) ≤ (65536 : Int32) then (1 : Int32) else ((1 : Int32) + (16 : Int32))) else ((if ((i ^^^ (-1 : Int32)) &&& (i - (1 : Int32))) ≤ (65536 : Int32) then (1 : Int32) else ((1 : Int32) + (16 : Int32))) + (8 : Int32))))]) (st' := []) ?_ (fun k49 => ?_)
      · refine x_iload_n dJ15_numberOfTrailingZeros_49 rfl ?_
        refine x_bipush_ (v := (16 : Int32)) dJ15_numberOfTrailingZeros_50 (by decide) ?_
        refine x_via 62 (A' := A) (lv' := [some (.int (if (if (if ((i ^^^ (-1 : Int32)) &&& (i - (1 : Int32))) ≤ (65536 : Int32) then ((i ^^^ (-1 : Int32)) &&& (i - (1 : Int32))) else (jiushr ((i ^^^ (-1 : Int32)) &&& (i - (1 : Int32))) (16 : Int32))) ≤ (256 : Int32) then (if ((i ^^^ (-1 : Int32)) &&& (i - (1 : Int32))) ≤ (65536 : Int32) then ((i ^^^ (-1 : Int32)) &&& (i - (1 : Int32))) else (jiushr ((i ^^^ (-1 : Int32)) &&& (i - (1 : Int32))) (16 : Int32))) else (jiushr (if ((i ^^^ (-1 : Int32)) &&& (i - (1 : Int32))) ≤ (65536 : Int32) then ((i ^^^ (-1 : Int32)) &&& (i - (1 : Int32))) else (jiushr ((i ^^^ (-1 : Int32)) &&& (i - (1 : Int32))) (16 : Int32))) (8 : Int32))) ≤ (16 : Int32) then (if (if ((i ^^^ (-1 : Int32)) &&& (i - (1 : Int32))) ≤ (65536 : Int32) then ((i ^^^ (-1 : Int32)) &&& (i - (1 : Int32))) else (jiushr ((i ^^^ (-1 : Int32)) &&& (i - (1 : Int32))) (16 : Int32))) ≤ (256 : Int32) then (if ((i ^^^ (-1 : Int32)) &&& (i - (1 : Int32))) ≤ (65536 : Int32) then ((i ^^^ (-1 : Int32)) &&& (i - (1 : Int32))) else (jiushr ((i ^^^ (-1 : Int32)) &&& (i - (1 : Int32))) (16 : Int32))) else (jiushr (if ((i ^^^ (-1 : Int32)) &&& (i - (1 : Int32))) ≤ (65536 : Int32) then ((i ^^^ (-1 : Int32)) &&& (i - (1 : Int32))) else (jiushr ((i ^^^ (-1 : Int32)) &&& (i - (1 : Int32))) (16 : Int32))) (8 : Int32))) else (jiushr (if (if ((i ^^^ (-1 : Int32)) &&& (i - (1 : Int32))) ≤ (65536 : Int32) then ((i ^^^ (-1 : Int32)) &&& (i - (1 : Int32))) else (jiushr ((i ^^^ (-1 : Int32)) &&& (i - (1 : Int32))) (16 : Int32))) ≤ (256 : Int32) then (if ((i ^^^ (-1 : Int32)) &&& (i - (1 : Int32))) ≤ (65536 : Int32) then ((i ^^^ (-1 : Int32)) &&& (i - (1 : Int32))) else (jiushr ((i ^^^ (-1 : Int32)) &&& (i - (1 : Int32))) (16 : Int32))) else (jiushr (if ((i ^^^ (-1 : Int32)) &&& (i - (1 : Int32))) ≤ (65536 : Int32) then ((i ^^^ (-1 : Int32)) &&& (i - (1 : Int32))) else (jiushr ((i ^^^ (-1 : Int32)) &&& (i - (1 : Int32))) (16 : Int32))) (8 : Int32))) (4 : Int32)))), some (.int (if (if (if ((i ^^^ (-1 : Int32)) &&& (i - (1 : Int32))) ≤ (65536 : Int32) then ((i ^^^ (-1 : Int32)) &&& (i - (1 : Int32))) else (jiushr ((i ^^^ (-1 : Int32)) &&& (i - (1 : Int32))) (16 : Int32))) ≤ (256 : Int32) then (if ((i ^^^ (-1 : Int32)) &&& (i - (1 : Int32))) ≤ (65536 : Int32) then ((i ^^^ (-1 : Int32)) &&& (i - (1 : Int32))) else (jiushr ((i ^^^ (-1 : Int32)) &&& (i - (1 : Int32))) (16 : Int32))) else (jiushr (if ((i ^^^ (-1 : Int32)) &&& (i - (1 : Int32))) ≤ (65536 : Int32) then ((i ^^^ (-1 : Int32)) &&& (i - (1 : Int32))) else (jiushr ((i ^^^ (-1 : Int32)) &&& (i - (1 : Int32))) (16 : Int32))) (8 : Int32))) ≤ (16 : Int32) then (if (if ((i ^^^ (-1 : Int32)) &&& (i - (1 : Int32))) ≤ (65536 : Int32) then ((i ^^^ (-1 : Int32)) &&& (i - (1 : Int32))) else (jiushr ((i ^^^ (-1 : Int32)) &&& (i - (1 : Int32))) (16 : Int32))) ≤ (256 : Int32) then (if ((i ^^^ (-1 : Int32)) &&& (i - (1 : Int32))) ≤ (65536 : Int32) then (1 : Int32) else ((1 : Int32) + (16 : Int32))) else ((if ((i ^^^ (-1 : Int32)) &&& (i - (1 : Int32))) ≤ (65536 : Int32) then (1 : Int32) else ((1 : Int32) + (16 : Int32))) + (8 : Int32))) else ((if (if ((i ^^^ (-1 : Int32)) &&& (i - (1 : Int32))) ≤ (65536 : Int32) then ((i ^^^ (-1 : Int32)) &&& (i - (1 : Int32))) else (jiushr ((i ^^^ (-1 : Int32)) &&& (i - (1 : Int32))) (16 : Int32))) ≤ (256 : Int32) then (if ((i ^^^ (-1 : Int32)) &&& (i - (1 : Int32))) ≤ (65536 : Int32) then (1 : Int32) else ((1 : Int32) + (16 : Int32))) else ((if ((i ^^^ (-1 : Int32)) &&& (i - (1 : Int32))) ≤ (65536 : Int32) then (1 : Int32) else ((1 : Int32) + (16 : Int32))) + (8 : Int32))) + (4 : Int32))))]) (st' := []) ?_ (fun k62 => ?_)
        · refine x_iload_n dJ15_numberOfTrailingZeros_62 rfl ?_
          refine x_iconst_ (v := (4 : Int32)) dJ15_numberOfTrailingZeros_63 (by decide) ?_
          refine x_via 74 (A' := A) (lv' := [some (.int (if (if (if (if ((i ^^^ (-1 : Int32)) &&& (i - (1 : Int32))) ≤ (65536 : Int32) then ((i ^^^ (-1 : Int32)) &&& (i - (1 : Int32))) else (jiushr ((i ^^^ (-1 : Int32)) &&& (i - (1 : Int32))) (16 : Int32))) ≤ (256 : Int32) then (if ((i ^^^ (-1 : Int32)) &&& (i - (1 : Int32))) ≤ (65536 : Int32) then ((i ^^^ (-1 : Int32)) &&& (i - (1 : Int32))) else (jiushr ((i ^^^ (-1 : Int32)) &&& (i - (1 : Int32))) (16 : Int32))) else (jiushr (if ((i ^^^ (-1 : Int32)) &&& (i - (1 : Int32))) ≤ (65536 : Int32) then ((i ^^^ (-1 : Int32)) &&& (i - (1 : Int32))) else (jiushr ((i ^^^ (-1 : Int32)) &&& (i - (1 : Int32))) (16 : Int32))) (8 : Int32))) ≤ (16 : Int32) then (if (if ((i ^^^ (-1 : Int32)) &&& (i - (1 : Int32))) ≤ (65536 : Int32) then ((i ^^^ (-1 : Int32)) &&& (i - (1 : Int32))) else (jiushr ((i ^^^ (-1 : Int32)) &&& (i - (1 : Int32))) (16 : Int32))) ≤ (256 : Int32) then (if ((i ^^^ (-1 : Int32)) &&& (i - (1 : Int32))) ≤ (65536 : Int32) then ((i ^^^ (-1 : Int32)) &&& (i - (1 : Int32))) else (jiushr ((i ^^^ (-1 : Int32)) &&& (i - (1 : Int32))) (16 : Int32))) else (jiushr (if ((i ^^^ (-1 : Int32)) &&& (i - (1 : Int32))) ≤ (65536 : Int32) then ((i ^^^ (-1 : Int32)) &&& (i - (1 : Int32))) else (jiushr ((i ^^^ (-1 : Int32)) &&& (i - (1 : Int32))) (16 : Int32))) (8 : Int32))) else (jiushr (if (if ((i ^^^ (-1 : Int32)) &&& (i - (1 : Int32))) ≤ (65536 : Int32) then ((i ^^^ (-1 : Int32)) &&& (i - (1 : Int32))) else (jiushr ((i ^^^ (-1 : Int32)) &&& (i - (1 : Int32))) (16 : Int32))) ≤ (256 : Int32) then (if ((i ^^^ (-1 : Int32)) &&& (i - (1 : Int32))) ≤ (65536 : Int32) then ((i ^^^ (-1 : Int32)) &&& (i - (1 : Int32))) else (jiushr ((i ^^^ (-1 : Int32)) &&& (i - (1 : Int32))) (16 : Int32))) else (jiushr (if ((i ^^^ (-1 : Int32)) &&& (i - (1 : Int32))) ≤ (65536 : Int32) then ((i ^^^ (-1 : Int32)) &&& (i - (1 : Int32))) else (jiushr ((i ^^^ (-1 : Int32)) &&& (i - (1 : Int32))) (16 : Int32))) (8 : Int32))) (4 : Int32))) ≤ (4 : Int32) then (if (if (if ((i ^^^ (-1 : Int32)) &&& (i - (1 : Int32))) ≤ (65536 : Int32) then ((i ^^^ (-1 : Int32)) &&& (i - (1 : Int32))) else (jiushr ((i ^^^ (-1 : Int32)) &&& (i - (1 : Int32))) (16 : Int32))) ≤ (256 : Int32) then (if ((i ^^^ (-1 : Int32)) &&& (i - (1 : Int32))) ≤ (65536 : Int32) then ((i ^^^ (-1 : Int32)) &&& (i - (1 : Int32))) else (jiushr ((i ^^^ (-1 : Int32)) &&& (i - (1 : Int32))) (16 : Int32))) else (jiushr (if ((i ^^^ (-1 : Int32)) &&& (i - (1 : Int32))) ≤ (65536 : Int32) then ((i ^^^ (-1 : Int32)) &&& (i - (1 : Int32))) else (jiushr ((i ^^^ (-1 : Int32)) &&& (i - (1 : Int32))) (16 : Int32))) (8 : Int32))) ≤ (16 : Int32) then (if (if ((i ^^^ (-1 : Int32)) &&& (i - (1 : Int32))) ≤ (65536 : Int32) then ((i ^^^ (-1 : Int32)) &&& (i - (1 : Int32))) else (jiushr ((i ^^^ (-1 : Int32)) &&& (i - (1 : Int32))) (16 : Int32))) ≤ (256 : Int32) then (if ((i ^^^ (-1 : Int32)) &&& (i - (1 : Int32))) ≤ (65536 : Int32) then ((i ^^^ (-1 : Int32)) &&& (i - (1 : Int32))) else (jiushr ((i ^^^ (-1 : Int32)) &&& (i - (1 : Int32))) (16 : Int32))) else (jiushr (if ((i ^^^ (-1 : Int32)) &&& (i - (1 : Int32))) ≤ (65536 : Int32) then ((i ^^^ (-1 : Int32)) &&& (i - (1 : Int32))) else (jiushr ((i ^^^ (-1 : Int32)) &&& (i - (1 : Int32))) (16 : Int32))) (8 : Int32))) else (jiushr (if (if ((i ^^^ (-1 : Int32)) &&& (i - (1 : Int32))) ≤ (65536 : Int32) then ((i ^^^ (-1 : Int32)) &&& (i - (1 : Int32))) else (jiushr ((i ^^^ (-1 : Int32)) &&& (i - (1 : Int32))) (16 : Int32))) ≤ (256 : Int32) then (if ((i ^^^ (-1 : Int32)) &&& (i - (1 : Int32))) ≤ (65536 : Int32) then ((i ^^^ (-1 : Int32)) &&& (i - (1 : Int32))) else (jiushr ((i ^^^ (-1 : Int32)) &&& (i - (1 : Int32))) (16 : Int32))) else (jiushr (if ((i ^^^ (-1 : Int32)) &&& (i - (1 : Int32))) ≤ (65536 : Int32) then ((i ^^^ (-1 : Int32)) &&& (i - (1 : Int32))) else (jiushr ((i ^^^ (-1 : Int32)) &&& (i - (1 : Int32))) (16 : Int32))) (8 : Int32))) (4 : Int32))) else (jiushr (if (if (if ((i ^^^ (-1 : Int32)) &&& (i - (1 : Int32))) ≤ (65536 : Int32) then ((i ^^^ (-1 : Int32)) &&& (i - (1 : Int32))) else (jiushr ((i ^^^ (-1 : Int32)) &&& (i - (1 : Int32))) (16 : Int32))) ≤ (256 : Int32) then (if ((i ^^^ (-1 : Int32)) &&& (i - (1 : Int32))) ≤ (65536 : Int32) then ((i ^^^ (-1 : Int32)) &&& (i - (1 : Int32))) else (jiushr ((i ^^^ (-1 : Int32)) &&& (i - (1 : Int32))) (16 : Int32))) else (jiushr (if ((i ^^^ (-1 : Int32)) &&& (i - (1 : Int32))) ≤ (65536 : Int32) then ((i ^^^ (-1 : Int32)) &&& (i - (1 : Int32))) else (jiushr ((i ^^^ (-1 : Int32)) &&& (i - (1 : Int32))) (16 : Int32))) (8 : Int32))) ≤ (16 : Int32) then (if (if ((i ^^^ (-1 : Int32)) &&& (i - (1 : Int32))) ≤ (65536 : Int32) then ((i ^^^ (-1 : Int32)) &&& (i - (1 : Int32))) else (jiushr ((i ^^^ (-1 : Int32)) &&& (i - (1 : Int32))) (16 : Int32))) ≤ (256 : Int32) then (if ((i ^^^ (-1 : Int32)) &&& (i - (1 : Int32))) ≤ (65536 : Int32) then ((i ^^^ (-1 : Int32)) &&& (i - (1 : Int32))) else (jiushr ((i ^^^ (-1 : Int32)) &&& (i - (1 : Int32))) (16 : Int32))) else (jiushr (if ((i ^^^ (-1 : Int32)) &&& (i - (1 : Int32))) ≤ (65536 : Int32) then ((i ^^^ (-1 : Int32)) &&& (i - (1 : Int32))) else (jiushr ((i ^^^ (-1 : Int32)) &&& (i - (1 : Int32))) (16 : Int32))) (8 : Int32))) else (jiushr (if (if ((i ^^^ (-1 : Int32)) &&& (i - (1 : Int32))) ≤ (65536 : Int32) then ((i ^^^ (-1 : Int32)) &&& (i - (1 : Int32))) else (jiushr ((i ^^^ (-1 : Int32)) &&& (i - (1 : Int32))) (16 : Int32))) ≤ (256 : Int32) then (if ((i ^^^ (-1 : Int32)) &&& (i - (1 : Int32))) ≤ (65536 : Int32) then ((i ^^^ (-1 : Int32)) &&& (i - (1 : Int32))) else (jiushr ((i ^^^ (-1 : Int32)) &&& (i - (1 : Int32))) (16 : Int32))) else (jiushr (if ((i ^^^ (-1 : Int32)) &&& (i - (1 : Int32))) ≤ (65536 : Int32) then ((i ^^^ (-1 : Int32)) &&& (i - (1 : Int32))) else (jiushr ((i ^^^ (-1 : Int32)) &&& (i - (1 : Int32))) (16 : Int32))) (8 : Int32))) (4 : Int32))) (2 : Int32)))), some (.int (if (if (if (if ((i ^^^ (-1 : Int32)) &&& (i - (1 : Int32))) ≤ (65536 : Int32) then ((i ^^^ (-1 : Int32)) &&& (i - (1 : Int32))) else (jiushr ((i ^^^ (-1 : Int32)) &&& (i - (1 : Int32))) (16 : Int32))) ≤ (256 : Int32) then (if ((i ^^^ (-1 : Int32)) &&& (i - (1 : Int32))) ≤ (65536 : Int32) then ((i ^^^ (-1 : Int32)) &&& (i - (1 : Int32))) else (jiushr ((i ^^^ (-1 : Int32)) &&& (i - (1 : Int32))) (16 : Int32))) else (jiushr (if ((i ^^^ (-1 : Int32)) &&& (i - (1 : Int32))) ≤ (65536 : Int32) then ((i ^^^ (-1 : Int32)) &&& (i - (1 : Int32))) else (jiushr ((i ^^^ (-1 : Int32)) &&& (i - (1 : Int32))) (16 : Int32))) (8 : Int32))) ≤ (16 : Int32) then (if (if ((i ^^^ (-1 : Int32)) &&& (i - (1 : Int32))) ≤ (65536 : Int32) then ((i ^^^ (-1 : Int32)) &&& (i - (1 : Int32))) else (jiushr ((i ^^^ (-1 : Int32)) &&& (i - (1 : Int32))) (16 : Int32))) ≤ (256 : Int32) then (if ((i ^^^ (-1 : Int32)) &&& (i - (1 : Int32))) ≤ (65536 : Int32) then ((i ^^^ (-1 : Int32)) &&& (i - (1 : Int32))) else (jiushr ((i ^^^ (-1 : Int32)) &&& (i - (1 : Int32))) (16 : Int32))) else (jiushr (if ((i ^^^ (-1 : Int32)) &&& (i - (1 : Int32))) ≤ (65536 : Int32) then ((i ^^^ (-1 : Int32)) &&& (i - (1 : Int32))) else (jiushr ((i ^^^ (-1 : Int32)) &&& (i - (1 : Int32))) (16 : Int32))) (8 : Int32))) else (jiushr (if (if ((i ^^^ (-1 : Int32)) &&& (i - (1 : Int32))) ≤ (65536 : Int32) then ((i ^^^ (-1 : Int32)) &&& (i - (1 : Int32))) else (jiushr ((i ^^^ (-1 : Int32)) &&& (i - (1 : Int32))) (16 : Int32))) ≤ (256 : Int32) then (if ((i ^^^ (-1 : Int32)) &&& (i - (1 : Int32))) ≤ (65536 : Int32) then ((i ^^^ (-1 : Int32)) &&& (i - (1 : Int32))) else (jiushr ((i ^^^ (-1 : Int32)) &&& (i - (1 : Int32))) (16 : Int32))) else (jiushr (if ((i ^^^ (-1 : Int32)) &&& (i - (1 : Int32))) ≤ (65536 : Int32) then ((i ^^^ (-1 : Int32)) &&& (i - (1 : Int32))) else (jiushr ((i ^^^ (-1 : Int32)) &&& (i - (1 : Int32))) (16 : Int32))) (8 : Int32))) (4 : Int32))) ≤ (4 : Int32) then (if (if (if ((i ^^^ (-1 : Int32)) &&& (i - (1 : Int32))) ≤ (65536 : Int32) then ((i ^^^ (-1 : Int32)) &&& (i - (1 : Int32))) else (jiushr ((i ^^^ (-1 : Int32)) &&& (i - (1 : Int32))) (16 : Int32))) ≤ (256 : Int32) then (if ((i ^^^ (-1 : Int32)) &&& (i - (1 : Int32))) ≤ (65536 : Int32) then ((i ^^^ (-1 : Int32)) &&& (i - (1 : Int32))) else (jiushr ((i ^^^ (-1 : Int32)) &&& (i - (1 : Int32))) (16 : Int32))) else (jiushr (if ((i ^^^ (-1 : Int32)) &&& (i - (1 : Int32))) ≤ (65536 : Int32) then ((i ^^^ (-1 : Int32)) &&& (i - (1 : Int32))) else (jiushr ((i ^^^ (-1 : Int32)) &&& (i - (1 : Int32))) (16 : Int32))) (8 : Int32))) ≤ (16 : Int32) then (if (if ((i ^^^ (-1 : Int32)) &&& (i - (1 : Int32))) ≤ (65536 : Int32) then ((i ^^^ (-1 : Int32)) &&& (i - (1 : Int32))) else (jiushr ((i ^^^ (-1 : Int32)) &&& (i - (1 : Int32))) (16 : Int32))) ≤ (256 : Int32) then (if ((i ^^^ (-1 : Int32)) &&& (i - (1 : Int32))) ≤ (65536 : Int32) then (1 : Int32) else ((1 : Int32) + (16 : Int32))) else ((if ((i ^^^ (-1 : Int32)) &&& (i - (1 : Int32))) ≤ (65536 : Int32) then (1 : Int32) else ((1 : Int32) + (16 : Int32))) + (8 : Int32))) else ((if (if ((i ^^^ (-1 : Int32)) &&& (i - (1 : Int32))) ≤ (65536 : Int32) then ((i ^^^ (-1 : Int32)) &&& (i - (1 : Int32))) else (jiushr ((i ^^^ (-1 : Int32)) &&& (i - (1 : Int32))) (16 : Int32))) ≤ (256 : Int32) then (if ((i ^^^ (-1 : Int32)) &&& (i - (1 : Int32))) ≤ (65536 : Int32) then (1 : Int32) else ((1 : Int32) + (16 : Int32))) else ((if ((i ^^^ (-1 : Int32)) &&& (i - (1 : Int32))) ≤ (65536 : Int32) then (1 : Int32) else ((1 : Int32) + (16 : Int32))) + (8 : Int32))) + (4 : Int32))) else ((if (if (if ((i ^^^ (-1 : Int32)) &&& (i - (1 : Int32))) ≤ (65536 : Int32) then ((i ^^^ (-1 : Int32)) &&& (i - (1 : Int32))) else (jiushr ((i ^^^ (-1 : Int32)) &&& (i - (1 : Int32))) (16 : Int32))) ≤ (256 : Int32) then (if ((i ^^^ (-1 : Int32)) &&& (i - (1 : Int32))) ≤ (65536 : Int32) then ((i ^^^ (-1 : Int32)) &&& (i - (1 : Int32))) else (jiushr ((i ^^^ (-1 : Int32)) &&& (i - (1 : Int32))) (16 : Int32))) else (jiushr (if ((i ^^^ (-1 : Int32)) &&& (i - (1 : Int32))) ≤ (65536 : Int32) then ((i ^^^ (-1 : Int32)) &&& (i - (1 : Int32))) else (jiushr ((i ^^^ (-1 : Int32)) &&& (i - (1 : Int32))) (16 : Int32))) (8 : Int32))) ≤ (16 : Int32) then (if (if ((i ^^^ (-1 : Int32)) &&& (i - (1 : Int32))) ≤ (65536 : Int32) then ((i ^^^ (-1 : Int32)) &&& (i - (1 : Int32))) else (jiushr ((i ^^^ (-1 : Int32)) &&& (i - (1 : Int32))) (16 : Int32))) ≤ (256 : Int32) then (if ((i ^^^ (-1 : Int32)) &&& (i - (1 : Int32))) ≤ (65536 : Int32) then (1 : Int32) else ((1 : Int32) + (16 : Int32))) else ((if ((i ^^^ (-1 : Int32)) &&& (i - (1 : Int32))) ≤ (65536 : Int32) then (1 : Int32) else ((1 : Int32) + (16 : Int32))) + (8 : Int32))) else ((if (if ((i ^^^ (-1 : Int32)) &&& (i - (1 : Int32))) ≤ (65536 : Int32) then ((i ^^^ (-1 : Int32)) &&& (i - (1 : Int32))) else (jiushr ((i ^^^ (-1 : Int32)) &&& (i - (1 : Int32))) (16 : Int32))) ≤ (256 : Int32) then (if ((i ^^^ (-1 : Int32)) &&& (i - (1 : Int32))) ≤ (65536 : Int32) then (1 : Int32) else ((1 : Int32) + (16 : Int32))) else ((if ((i ^^^ (-1 : Int32)) &&& (i - (1 : Int32))) ≤ (65536 : Int32) then (1 : Int32) else ((1 : Int32) + (16 : Int32))) + (8 : Int32))) + (4 : Int32))) + (2 : Int32))))]) (st' := []) ?_ (fun k74 => ?_)
          · refine x_iload_n dJ15_numberOfTrailingZeros_74 rfl ?_
            refine x_iload_n dJ15_numberOfTrailingZeros_75 rfl ?_
            refine x_iconst_ (v := (1 : Int32)) dJ15_numberOfTrailingZeros_76 (by decide) ?_
            refine x_iushr dJ15_numberOfTrailingZeros_77 ?_
            refine x_eqi (v := (jiushr (if (if (if (if ((i ^^^ (-1 : Int32)) &&& (i - (1 : Int32))) ≤ (65536 : Int32) then ((i ^^^ (-1 : Int32)) &&& (i - (1 : Int32))) else (jiushr ((i ^^^ (-1 : Int32)) &&& (i - (1 : Int32))) (16 : Int32))) ≤ (256 : Int32) then (if ((i ^^^ (-1 : Int32)) &&& (i - (1 : Int32))) ≤ (65536 : Int32) then ((i ^^^ (-1 : Int32)) &&& (i - (1 : Int32))) else (jiushr ((i ^^^ (-1 : Int32)) &&& (i - (1 : Int32))) (16 : Int32))) else (jiushr (if ((i ^^^ (-1 : Int32)) &&& (i - (1 : Int32))) ≤ (65536 : Int32) then ((i ^^^ (-1 : Int32)) &&& (i - (1 : Int32))) else (jiushr ((i ^^^ (-1 : Int32)) &&& (i - (1 : Int32))) (16 : Int32))) (8 : Int32))) ≤ (16 : Int32) then (if (if ((i ^^^ (-1 : Int32)) &&& (i - (1 : Int32))) ≤ (65536 : Int32) then ((i ^^^ (-1 : Int32)) &&& (i - (1 : Int32))) else (jiushr ((i ^^^ (-1 : Int32)) &&& (i - (1 : Int32))) (16 : Int32))) ≤ (256 : Int32) then (if ((i ^^^ (-1 : Int32)) &&& (i - (1 : Int32))) ≤ (65536 : Int32) then ((i ^^^ (-1 : Int32)) &&& (i - (1 : Int32))) else (jiushr ((i ^^^ (-1 : Int32)) &&& (i - (1 : Int32))) (16 : Int32))) else (jiushr (if ((i ^^^ (-1 : Int32)) &&& (i - (1 : Int32))) ≤ (65536 : Int32) then ((i ^^^ (-1 : Int32)) &&& (i - (1 : Int32))) else (jiushr ((i ^^^ (-1 : Int32)) &&& (i - (1 : Int32))) (16 : Int32))) (8 : Int32))) else (jiushr (if (if ((i ^^^ (-1 : Int32)) &&& (i - (1 : Int32))) ≤ (65536 : Int32) then ((i ^^^ (-1 : Int32)) &&& (i - (1 : Int32))) else (jiushr ((i ^^^ (-1 : Int32)) &&& (i - (1 : Int32))) (16 : Int32))) ≤ (256 : Int32) then (if ((i ^^^ (-1 : Int32)) &&& (i - (1 : Int32))) ≤ (65536 : Int32) then ((i ^^^ (-1 : Int32)) &&& (i - (1 : Int32))) else (jiushr ((i ^^^ (-1 : Int32)) &&& (i - (1 : Int32))) (16 : Int32))) else (jiushr (if ((i ^^^ (-1 : Int32)) &&& (i - (1 : Int32))) ≤ (65536 : Int32) then ((i ^^^ (-1 : Int32)) &&& (i - (1 : Int32))) else (jiushr ((i ^^^ (-1 : Int32)) &&& (i - (1 : Int32))) (16 : Int32))) (8 : Int32))) (4 : Int32))) ≤ (4 : Int32) then (if (if (if ((i ^^^ (-1 : Int32)) &&& (i - (1 : Int32))) ≤ (65536 : Int32) then ((i ^^^ (-1 : Int32)) &&& (i - (1 : Int32))) else (jiushr ((i ^^^ (-1 : Int32)) &&& (i - (1 : Int32))) (16 : Int32))) ≤ (256 : Int32) then (if ((i ^^^ (-1 : Int32)) &&& (i - (1 : Int32))) ≤ (65536 : Int32) then ((i ^^^ (-1 : Int32)) &&& (i - (1 : Int32))) else (jiushr ((i ^^^ (-1 : Int32)) &&& (i - (1 : Int32))) (16 : Int32))) else (jiushr (if ((i ^^^ (-1 : Int32)) &&& (i - (1 : Int32))) ≤ (65536 : Int32) then ((i ^^^ (-1 : Int32)) &&& (i - (1 : Int32))) else (jiushr ((i ^^^ (-1 : Int32)) &&& (i - (1 : Int32))) (16 : Int32))) (8 : Int32))) ≤ (16 : Int32) then (if (if ((i ^^^ (-1 : Int32)) &&& (i - (1 : Int32))) ≤ (65536 : Int32) then ((i ^^^ (-1 : Int32)) &&& (i - (1 : Int32))) else (jiushr ((i ^^^ (-1 : Int32)) &&& (i - (1 : Int32))) (16 : Int32))) ≤ (256 : Int32) then (if ((i ^^^ (-1 : Int32)) &&& (i - (1 : Int32))) ≤ (65536 : Int32) then ((i ^^^ (-1 : Int32)) &&& (i - (1 : Int32))) else (jiushr ((i ^^^ (-1 : Int32)) &&& (i - (1 : Int32))) (16 : Int32))) else (jiushr (if ((i ^^^ (-1 : Int32)) &&& (i - (1 : Int32))) ≤ (65536 : Int32) then ((i ^^^ (-1 : Int32)) &&& (i - (1 : Int32))) else (jiushr ((i ^^^ (-1 : Int32)) &&& (i - (1 : Int32))) (16 : Int32))) (8 : Int32))) else (jiushr (if (if ((i ^^^ (-1 : Int32)) &&& (i - (1 : Int32))) ≤ (65536 : Int32) then ((i ^^^ (-1 : Int32)) &&& (i - (1 : Int32))) else (jiushr ((i ^^^ (-1 : Int32)) &&& (i - (1 : Int32))) (16 : Int32))) ≤ (256 : Int32) then (if ((i ^^^ (-1 : Int32)) &&& (i - (1 : Int32))) ≤ (65536 : Int32) then ((i ^^^ (-1 : Int32)) &&& (i - (1 : Int32))) else (jiushr ((i ^^^ (-1 : Int32)) &&& (i - (1 : Int32))) (16 : Int32))) else (jiushr (if ((i ^^^ (-1 : Int32)) &&& (i - (1 : Int32))) ≤ (65536 : Int32) then ((i ^^^ (-1 : Int32)) &&& (i - (1 : Int32))) else (jiushr ((i ^^^ (-1 : Int32)) &&& (i - (1 : Int32))) (16 : Int32))) (8 : Int32))) (4 : Int32))) else (jiushr (if (if (if ((i ^^^ (-1 : Int32)) &&& (i - (1 : Int32))) ≤ (65536 : Int32) then ((i ^^^ (-1 : Int32)) &&& (i - (1 : Int32))) else (jiushr ((i ^^^ (-1 : Int32)) &&& (i - (1 : Int32))) (16 : Int32))) ≤ (256 : Int32) then (if ((i ^^^ (-1 : Int32)) &&& (i - (1 : Int32))) ≤ (65536 : Int32) then ((i ^^^ (-1 : Int32)) &&& (i - (1 : Int32))) else (jiushr ((i ^^^ (-1 : Int32)) &&& (i - (1 : Int32))) (16 : Int32))) else (jiushr (if ((i ^^^ (-1 : Int32)) &&& (i - (1 : Int32))) ≤ (65536 : Int32) then ((i ^^^ (-1 : Int32)) &&& (i - (1 : Int32))) else (jiushr ((i ^^^ (-1 : Int32)) &&& (i - (1 : Int32))) (16 : Int32))) (8 : Int32))) ≤ (16 : Int32) then (if (if ((i ^^^ (-1 : Int32)) &&& (i - (1 : Int32))) ≤ (65536 : Int32) then ((i ^^^ (-1 : Int32)) &&& (i - (1 : Int32))) else (jiushr ((i ^^^ (-1 : Int32)) &&& (i - (1 : Int32))) (16 : Int32))) ≤ (256 : Int32) then (if ((i ^^^ (-1 : Int32)) &&& (i - (1 : Int32))) ≤ (65536 : Int32) then ((i ^^^ (-1 : Int32)) &&& (i - (1 : Int32))) else (jiushr ((i ^^^ (-1 : Int32)) &&& (i - (1 : Int32))) (16 : Int32))) else (jiushr (if ((i ^^^ (-1 : Int32)) &&& (i - (1 : Int32))) ≤ (65536 : Int32) then ((i ^^^ (-1 : Int32)) &&& (i - (1 : Int32))) else (jiushr ((i ^^^ (-1 : Int32)) &&& (i - (1 : Int32))) (16 : Int32))) (8 : Int32))) else (jiushr (if (if ((i ^^^ (-1 : Int32)) &&& (i - (1 : Int32))) ≤ (65536 : Int32) then ((i ^^^ (-1 : Int32)) &&& (i - (1 : Int32))) else (jiushr ((i ^^^ (-1 : Int32)) &&& (i - (1 : Int32))) (16 : Int32))) ≤ (256 : Int32) then (if ((i ^^^ (-1 : Int32)) &&& (i - (1 : Int32))) ≤ (65536 : Int32) then ((i ^^^ (-1 : Int32)) &&& (i - (1 : Int32))) else (jiushr ((i ^^^ (-1 : Int32)) &&& (i - (1 : Int32))) (16 : Int32))) else (jiushr (if ((i ^^^ (-1 : Int32)) &&& (i - (1 : Int32))) ≤ (65536 : Int32) then ((i ^^^ (-1 : Int32)) &&& (i - (1 : Int32))) else (jiushr ((i ^^^ (-1 : Int32)) &&& (i - (1 : Int32))) (16 : Int32))) (8 : Int32))) (4 : Int32))) (2 : Int32))) (1 : Int32))) rfl ?_
            refine x_iadd dJ15_numberOfTrailingZeros_78 ?_
            refine x_iret dJ15_numberOfTrailingZeros_79 rfl ?_
            exact ⟨by simp only [f_J15_numberOfTrailingZeros, if_pos c9], rfl⟩
          · refine x_icmp_le (tgt := 74) dJ15_numberOfTrailingZeros_64 (by decide) (fun c64 => ?_) (fun c64 => ?_)
            · simp only [if_pos c64] at k74 ⊢
              first | exact k74 | exact X.weak (by simp [xle]) k74
            · refine x_iinc (v := ((if (if (if ((i ^^^ (-1 : Int32)) &&& (i - (1 : Int32))) ≤ (65536 : Int32) then ((i ^^^ (-1 : Int32)) &&& (i - (1 : Int32))) else (jiushr ((i ^^^ (-1 : Int32)) &&& (i - (1 : Int32))) (16 : Int32))) ≤ (256 : Int32) then (if ((i ^^^ (-1 : Int32)) &&& (i - (1 : Int32))) ≤ (65536 : Int32) then ((i ^^^ (-1 : Int32)) &&& (i - (1 : Int32))) else (jiushr ((i ^^^ (-1 : Int32)) &&& (i - (1 : Int32))) (16 : Int32))) else (jiushr (if ((i ^^^ (-1 : Int32)) &&& (i - (1 : Int32))) ≤ (65536 : Int32) then ((i ^^^ (-1 : Int32)) &&& (i - (1 : Int32))) else (jiushr ((i ^^^ (-1 : Int32)) &&& (i - (1 : Int32))) (16 : Int32))) (8 : Int32))) ≤ (16 : Int32) then (if (if ((i ^^^ (-1 : Int32)) &&& (i - (1 : Int32))) ≤ (65536 : Int32) then ((i ^^^ (-1 : Int32)) &&& (i - (1 : Int32))) else (jiushr ((i ^^^ (-1 : Int32)) &&& (i - (1 : Int32))) (16 : Int32))) ≤ (256 : Int32) then (if ((i ^^^ (-1 : Int32)) &&& (i - (1 : Int32))) ≤ (65536 : Int32) then (1 : Int32) else ((1 : Int32) + (16 : Int32))) else ((if ((i ^^^ (-1 : Int32)) &&& (i - (1 : Int32))) ≤ (65536 : Int32) then (1 : Int32) else ((1 : Int32) + (16 : Int32))) + (8 : Int32))) else ((if (if ((i ^^^ (-1 : Int32)) &&& (i - (1 : Int32))) ≤ (65536 : Int32) then ((i ^^^ (-1 : Int32)) &&& (i - (1 : Int32))) else (jiushr ((i ^^^ (-1 : Int32)) &&& (i - (1 : Int32))) (16 : Int32))) ≤ (256 : Int32) then (if ((i ^^^ (-1 : Int32)) &&& (i - (1 : Int32))) ≤ (65536 : Int32) then (1 : Int32) else ((1 : Int32) + (16 : Int32))) else ((if ((i ^^^ (-1 : Int32)) &&& (i - (1 : Int32))) ≤ (65536 : Int32) then (1 : Int32) else ((1 : Int32) + (16 : Int32))) + (8 : Int32))) + (4 : Int32))) + (2 : Int32))) dJ15_numberOfTrailingZeros_67 rfl rfl (by decide) ?_
              refine x_iload_n dJ15_numberOfTrailingZeros_70 rfl ?_
              refine x_iconst_ (v := (2 : Int32)) dJ15_numberOfTrailingZeros_71 (by decide) ?_
              refine x_iushr dJ15_numberOfTrailingZeros_72 ?_
              refine x_eqi (v := (jiushr (if (if (if ((i ^^^ (-1 : Int32)) &&& (i - (1 : Int32))) ≤ (65536 : Int32) then ((i ^^^ (-1 : Int32)) &&& (i - (1 : Int32))) else (jiushr ((i ^^^ (-1 : Int32)) &&& (i - (1 : Int32))) (16 : Int32))) ≤ (256 : Int32) then (if ((i ^^^ (-1 : Int32)) &&& (i - (1 : Int32))) ≤ (65536 : Int32) then ((i ^^^ (-1 : Int32)) &&& (i - (1 : Int32))) else (jiushr ((i ^^^ (-1 : Int32)) &&& (i - (1 : Int32))) (16 : Int32))) else (jiushr (if ((i ^^^ (-1 : Int32)) &&& (i - (1 : Int32))) ≤ (65536 : Int32) then ((i ^^^ (-1 : Int32)) &&& (i - (1 : Int32))) else (jiushr ((i ^^^ (-1 : Int32)) &&& (i - (1 : Int32))) (16 : Int32))) (8 : Int32))) ≤ (16 : Int32) then (if (if ((i ^^^ (-1 : Int32)) &&& (i - (1 : Int32))) ≤ (65536 : Int32) then ((i ^^^ (-1 : Int32)) &&& (i - (1 : Int32))) else (jiushr ((i ^^^ (-1 : Int32)) &&& (i - (1 : Int32))) (16 : Int32))) ≤ (256 : Int32) then (if ((i ^^^ (-1 : Int32)) &&& (i - (1 : Int32))) ≤ (65536 : Int32) then ((i ^^^ (-1 : Int32)) &&& (i - (1 : Int32))) else (jiushr ((i ^^^ (-1 : Int32)) &&& (i - (1 : Int32))) (16 : Int32))) else (jiushr (if ((i ^^^ (-1 : Int32)) &&& (i - (1 : Int32))) ≤ (65536 : Int32) then ((i ^^^ (-1 : Int32)) &&& (i - (1 : Int32))) else (jiushr ((i ^^^ (-1 : Int32)) &&& (i - (1 : Int32))) (16 : Int32))) (8 : Int32))) else (jiushr (if (if ((i ^^^ (-1 : Int32)) &&& (i - (1 : Int32))) ≤ (65536 : Int32) then ((i ^^^ (-1 : Int32)) &&& (i - (1 : Int32))) else (jiushr ((i ^^^ (-1 : Int32)) &&& (i - (1 : Int32))) (16 : Int32))) ≤ (256 : Int32) then (if ((i ^^^ (-1 : Int32)) &&& (i - (1 : Int32))) ≤ (65536 : Int32) then ((i ^^^ (-1 : Int32)) &&& (i - (1 : Int32))) else (jiushr ((i ^^^ (-1 : Int32)) &&& (i - (1 : Int32))) (16 : Int32))) else (jiushr (if ((i ^^^ (-1 : Int32)) &&& (i - (1 : Int32))) ≤ (65536 : Int32) then ((i ^^^ (-1 : Int32)) &&& (i - (1 : Int32))) else (jiushr ((i ^^^ (-1 : Int32)) &&& (i - (1 : Int32))) (16 : Int32))) (8 : Int32))) (4 : Int32))) (2 : Int32))) rfl ?_
              refine x_istore_n dJ15_numberOfTrailingZeros_73 (by decide) ?_
              simp only [if_neg c64] at k74 ⊢
              first | exact k74 | exact X.weak (by simp [xle]) k74
        · refine x_icmp_le (tgt := 62) dJ15_numberOfTrailingZeros_52 (by decide) (fun c52 => ?_) (fun c52 => ?_)
          · simp only [if_pos c52] at k62 ⊢
            first | exact k62 | exact X.weak (by simp [xle]) k62
          · refine x_iinc (v := ((if (if ((i ^^^ (-1 : Int32)) &&& (i - (1 : Int32))) ≤ (65536 : Int32) then ((i ^^^ (-1 : Int32)) &&& (i - (1 : Int32))) else (jiushr ((i ^^^ (-1 : Int32)) &&& (i - (1 : Int32))) (16 : Int32))) ≤ (256 : Int32) then (if ((i ^^^ (-1 : Int32)) &&& (i - (1 : Int32))) ≤ (65536 : Int32) then (1 : Int32) else ((1 : Int32) + (16 : Int32))) else ((if ((i ^^^ (-1 : Int32)) &&& (i - (1 : Int32))) ≤ (65536 : Int32) then (1 : Int32) else ((1 : Int32) + (16 : Int32))) + (8 : Int32))) + (4 : Int32))) dJ15_numberOfTrailingZeros_55 rfl rfl (by decide) ?_
            refine x_iload_n dJ15_numberOfTrailingZeros_58 rfl ?_
            refine x_iconst_ (v := (4 : Int32)) dJ15_numberOfTrailingZeros_59 (by decide) ?_
            refine x_iushr dJ15_numberOfTrailingZeros_60 ?_
            refine x_eqi (v := (jiushr (if (if ((i ^^^ (-1 : Int32)) &&& (i - (1 : Int32))) ≤ (65536 : Int32) then ((i ^^^ (-1 : Int32)) &&& (i - (1 : Int32))) else (jiushr ((i ^^^ (-1 : Int32)) &&& (i - (1 : Int32))) (16 : Int32))) ≤ (256 : Int32) then (if ((i ^^^ (-1 : Int32)) &&& (i - (1 : Int32))) ≤ (65536 : Int32) then ((i ^^^ (-1 : Int32)) &&& (i - (1 : Int32))) else (jiushr ((i ^^^ (-1 : Int32)) &&& (i - (1 : Int32))) (16 : Int32))) else (jiushr (if ((i ^^^ (-1 : Int32)) &&& (i - (1 : Int32))) ≤ (65536 : Int32) then ((i ^^^ (-1 : Int32)) &&& (i - (1 : Int32))) else (jiushr ((i ^^^ (-1 : Int32)) &&& (i - (1 : Int32))) (16 : Int32))) (8 : Int32))) (4 : Int32))) rfl ?_
            refine x_istore_n dJ15_numberOfTrailingZeros_61 (by decide) ?_
            simp only [if_neg c52] at k62 ⊢
            first | exact k62 | exact X.weak (by simp [xle]) k62
      · refine x_icmp_le (tgt := 49) dJ15_numberOfTrailingZeros_38 (by decide) (fun c38 => ?_) (fun c38 => ?_)
        · simp only [if_pos c38] at k49 ⊢
          first | exact k49 | exact X.weak (by simp [xle]) k49
        · refine x_iinc (v := ((if ((i ^^^ (-1 : Int32)) &&& (i - (1 : Int32))) ≤ (65536 : Int32) then (1 : Int32) else ((1 : Int32) + (16 : Int32))) + (8 : Int32))) dJ15_numberOfTrailingZeros_41 rfl rfl (by decide) ?_
          refine x_iload_n dJ15_numberOfTrailingZeros_44 rfl ?_
          refine x_bipush_ (v := (8 : Int32)) dJ15_numberOfTrailingZeros_45 (by decide) ?_
          refine x_iushr dJ15_numberOfTrailingZeros_47 ?_
          refine x_eqi (v := (jiushr (if ((i ^^^ (-1 : Int32)) &&& (i - (1 : Int32))) ≤ (65536 : Int32) then ((i ^^^ (-1 : Int32)) &&& (i - (1 : Int32))) else (jiushr ((i ^^^ (-1 : Int32)) &&& (i - (1 : Int32))) (16 : Int32))) (8 : Int32))) rfl ?_
          refine x_istore_n dJ15_numberOfTrailingZeros_48 (by decide) ?_
          simp only [if_neg c38] at k49 ⊢
          first | exact k49 | exact X.weak (by simp [xle]) k49
    · refine x_icmp_le (tgt := 34) dJ15_numberOfTrailingZeros_23 (by decide) (fun c23 => ?_) (fun c23 => ?_)
      · simp only [if_pos c23] at k34 ⊢
        first | exact k34 | exact X.weak (by simp [xle]) k34
      · refine x_iinc (v := ((1 : Int32) + (16 : Int32))) dJ15_numberOfTrailingZeros_26 rfl rfl (by decide) ?_
        refine x_iload_n dJ15_numberOfTrailingZeros_29 rfl ?_
        refine x_bipush_ (v := (16 : Int32)) dJ15_numberOfTrailingZeros_30 (by decide) ?_
        refine x_iushr dJ15_numberOfTrailingZeros_32 ?_
        refine x_eqi (v := (jiushr ((i ^^^ (-1 : Int32)) &&& (i - (1 : Int32))) (16 : Int32))) rfl ?_
        refine x_istore_n dJ15_numberOfTrailingZeros_33 (by decide) ?_
        simp only [if_neg c23] at k34 ⊢
        first | exact k34 | exact X.weak (by simp [xle]) k34
  · refine x_iload_n dJ15_numberOfTrailingZeros_12 rfl ?_
    refine x_bipush_ (v := (32 : Int32)) dJ15_numberOfTrailingZeros_13 (by decide) ?_
    refine x_iand dJ15_numberOfTrailingZeros_15 ?_
    refine x_iret dJ15_numberOfTrailingZeros_16 rfl ?_
    exact ⟨by simp only [f_J15_numberOfTrailingZeros, if_neg c9], rfl⟩
def f_J16_bitCount (i : Int64) : Int32 := (((((((((i - ((jlushr i (1 : Int32)) &&& (6148914691236517205 : Int64))) &&& (3689348814741910323 : Int64)) + ((jlushr (i - ((jlushr i (1 : Int32)) &&& (6148914691236517205 : Int64))) (2 : Int32)) &&& (3689348814741910323 : Int64))) + (jlushr (((i - ((jlushr i (1 : Int32)) &&& (6148914691236517205 : Int64))) &&& (3689348814741910323 : Int64)) + ((jlushr (i - ((jlushr i (1 : Int32)) &&& (6148914691236517205 : Int64))) (2 : Int32)) &&& (3689348814741910323 : Int64))) (4 : Int32))) &&& (1085102592571150095 : Int64)) + (jlushr (((((i - ((jlushr i (1 : Int32)) &&& (6148914691236517205 : Int64))) &&& (3689348814741910323 : Int64)) + ((jlushr (i - ((jlushr i (1 : Int32)) &&& (6148914691236517205 : Int64))) (2 : Int32)) &&& (3689348814741910323 : Int64))) + (jlushr (((i - ((jlushr i (1 : Int32)) &&& (6148914691236517205 : Int64))) &&& (3689348814741910323 : Int64)) + ((jlushr (i - ((jlushr i (1 : Int32)) &&& (6148914691236517205 : Int64))) (2 : Int32)) &&& (3689348814741910323 : Int64))) (4 : Int32))) &&& (1085102592571150095 : Int64)) (8 : Int32))) + (jlushr ((((((i - ((jlushr i (1 : Int32)) &&& (6148914691236517205 : Int64))) &&& (3689348814741910323 : Int64)) + ((jlushr (i - ((jlushr i (1 : Int32)) &&& (6148914691236517205 : Int64))) (2 : Int32)) &&& (3689348814741910323 : Int64))) + (jlushr (((i - ((jlushr i (1 : Int32)) &&& (6148914691236517205 : Int64))) &&& (3689348814741910323 : Int64)) + ((jlushr (i - ((jlushr i (1 : Int32)) &&& (6148914691236517205 : Int64))) (2 : Int32)) &&& (3689348814741910323 : Int64))) (4 : Int32))) &&& (1085102592571150095 : Int64)) + (jlushr (((((i - ((jlushr i (1 : Int32)) &&& (6148914691236517205 : Int64))) &&& (3689348814741910323 : Int64)) + ((jlushr (i - ((jlushr i (1 : Int32)) &&& (6148914691236517205 : Int64))) (2 : Int32)) &&& (3689348814741910323 : Int64))) + (jlushr (((i - ((jlushr i (1 : Int32)) &&& (6148914691236517205 : Int64))) &&& (3689348814741910323 : Int64)) + ((jlushr (i - ((jlushr i (1 : Int32)) &&& (6148914691236517205 : Int64))) (2 : Int32)) &&& (3689348814741910323 : Int64))) (4 : Int32))) &&& (1085102592571150095 : Int64)) (8 : Int32))) (16 : Int32))) + (jlushr (((((((i - ((jlushr i (1 : Int32)) &&& (6148914691236517205 : Int64))) &&& (3689348814741910323 : Int64)) + ((jlushr (i - ((jlushr i (1 : Int32)) &&& (6148914691236517205 : Int64))) (2 : Int32)) &&& (3689348814741910323 : Int64))) + (jlushr (((i - ((jlushr i (1 : Int32)) &&& (6148914691236517205 : Int64))) &&& (3689348814741910323 : Int64)) + ((jlushr (i - ((jlushr i (1 : Int32)) &&& (6148914691236517205 : Int64))) (2 : Int32)) &&& (3689348814741910323 : Int64))) (4 : Int32))) &&& (1085102592571150095 : Int64)) + (jlushr (((((i - ((jlushr i (1 : Int32)) &&& (6148914691236517205 : Int64))) &&& (3689348814741910323 : Int64)) + ((jlushr (i - ((jlushr i (1 : Int32)) &&& (6148914691236517205 : Int64))) (2 : Int32)) &&& (3689348814741910323 : Int64))) + (jlushr (((i - ((jlushr i (1 : Int32)) &&& (6148914691236517205 : Int64))) &&& (3689348814741910323 : Int64)) + ((jlushr (i - ((jlushr i (1 : Int32)) &&& (6148914691236517205 : Int64))) (2 : Int32)) &&& (3689348814741910323 : Int64))) (4 : Int32))) &&& (1085102592571150095 : Int64)) (8 : Int32))) + (jlushr ((((((i - ((jlushr i (1 : Int32)) &&& (6148914691236517205 : Int64))) &&& (3689348814741910323 : Int64)) + ((jlushr (i - ((jlushr i (1 : Int32)) &&& (6148914691236517205 : Int64))) (2 : Int32)) &&& (3689348814741910323 : Int64))) + (jlushr (((i - ((jlushr i (1 : Int32)) &&& (6148914691236517205 : Int64))) &&& (3689348814741910323 : Int64)) + ((jlushr (i - ((jlushr i (1 : Int32)) &&& (6148914691236517205 : Int64))) (2 : Int32)) &&& (3689348814741910323 : Int64))) (4 : Int32))) &&& (1085102592571150095 : Int64)) + (jlushr (((((i - ((jlushr i (1 : Int32)) &&& (6148914691236517205 : Int64))) &&& (3689348814741910323 : Int64)) + ((jlushr (i - ((jlushr i (1 : Int32)) &&& (6148914691236517205 : Int64))) (2 : Int32)) &&& (3689348814741910323 : Int64))) + (jlushr (((i - ((jlushr i (1 : Int32)) &&& (6148914691236517205 : Int64))) &&& (3689348814741910323 : Int64)) + ((jlushr (i - ((jlushr i (1 : Int32)) &&& (6148914691236517205 : Int64))) (2 : Int32)) &&& (3689348814741910323 : Int64))) (4 : Int32))) &&& (1085102592571150095 : Int64)) (8 : Int32))) (16 : Int32))) (32 : Int32))).toInt32 &&& (127 : Int32))
theorem m_J16_bitCount (hG : xOK G) {d : Nat} {A : xA} {i : Int64} : MX G (d + 0) kJ16_bitCount [.long i] A (xIs (some (.int (f_J16_bitCount i))) A) := by
  refine MX.of rfl (Nat.le_of_ble_eq_true rfl) ?_
  change X _ _ _ _ _ _ [some (.long i), none] _
  refine x_lload_n dJ16_bitCount_0 rfl ?_
  refine x_lload_n dJ16_bitCount_1 rfl ?_
  refine x_iconst_ (v := (1 : Int32)) dJ16_bitCount_2 (by decide) ?_
  refine x_lushr dJ16_bitCount_3 ?_
  refine x_eql (v := (jlushr i (1 : Int32))) rfl ?_
  refine x_ldc2 hG dJ16_bitCount_4 q2701 ?_
  refine x_land dJ16_bitCount_7 ?_
  refine x_lsub dJ16_bitCount_8 ?_
  refine x_lstore_n dJ16_bitCount_9 (by decide) ?_
  refine x_lload_n dJ16_bitCount_10 rfl ?_
  refine x_ldc2 hG dJ16_bitCount_11 q2702 ?_
  refine x_land dJ16_bitCount_14 ?_
  refine x_lload_n dJ16_bitCount_15 rfl ?_
  refine x_iconst_ (v := (2 : Int32)) dJ16_bitCount_16 (by decide) ?_
  refine x_lushr dJ16_bitCount_17 ?_
  refine x_eql (v := (jlushr (i - ((jlushr i (1 : Int32)) &&& (6148914691236517205 : Int64))) (2 : Int32))) rfl ?_
  refine x_ldc2 hG dJ16_bitCount_18 q2702 ?_
  refine x_land dJ16_bitCount_21 ?_
  refine x_ladd dJ16_bitCount_22 ?_
  refine x_lstore_n dJ16_bitCount_23 (by decide) ?_
  refine x_lload_n dJ16_bitCount_24 rfl ?_
  refine x_lload_n dJ16_bitCount_25 rfl ?_
  refine x_iconst_ (v := (4 : Int32)) dJ16_bitCount_26 (by decide) ?_
  refine x_lushr dJ16_bitCount_27 ?_
  refine x_eql (v := (jlushr (((i - ((jlushr i (1 : Int32)) &&& (6148914691236517205 : Int64))) &&& (3689348814741910323 : Int64)) + ((jlushr (i - ((jlushr i (1 : Int32)) &&& (6148914691236517205 : Int64))) (2 : Int32)) &&& (3689348814741910323 : Int64))) (4 : Int32))) rfl ?_
  refine x_ladd dJ16_bitCount_28 ?_
  refine x_ldc2 hG dJ16_bitCount_29 q2703 ?_
  refine x_land dJ16_bitCount_32 ?_
  refine x_lstore_n dJ16_bitCount_33 (by decide) ?_
  refine x_lload_n dJ16_bitCount_34 rfl ?_
  refine x_lload_n dJ16_bitCount_35 rfl ?_
  refine x_bipush_ (v := (8 : Int32)) dJ16_bitCount_36 (by decide) ?_
  refine x_lushr dJ16_bitCount_38 ?_
  refine x_eql (v := (jlushr (((((i - ((jlushr i (1 : Int32)) &&& (6148914691236517205 : Int64))) &&& (3689348814741910323 : Int64)) + ((jlushr (i - ((jlushr i (1 : Int32)) &&& (6148914691236517205 : Int64))) (2 : Int32)) &&& (3689348814741910323 : Int64))) + (jlushr (((i - ((jlushr i (1 : Int32)) &&& (6148914691236517205 : Int64))) &&& (3689348814741910323 : Int64)) + ((jlushr (i - ((jlushr i (1 : Int32)) &&& (6148914691236517205 : Int64))) (2 : Int32)) &&& (3689348814741910323 : Int64))) (4 : Int32))) &&& (1085102592571150095 : Int64)) (8 : Int32))) rfl ?_
  refine x_ladd dJ16_bitCount_39 ?_
  refine x_lstore_n dJ16_bitCount_40 (by decide) ?_
  refine x_lload_n dJ16_bitCount_41 rfl ?_
  refine x_lload_n dJ16_bitCount_42 rfl ?_
  refine x_bipush_ (v := (16 : Int32)) dJ16_bitCount_43 (by decide) ?_
  refine x_lushr dJ16_bitCount_45 ?_
  refine x_eql (v := (jlushr ((((((i - ((jlushr i (1 : Int32)) &&& (6148914691236517205 : Int64))) &&& (3689348814741910323 : Int64)) + ((jlushr (i - ((jlushr i (1 : Int32)) &&& (6148914691236517205 : Int64))) (2 : Int32)) &&& (3689348814741910323 : Int64))) + (jlushr (((i - ((jlushr i (1 : Int32)) &&& (6148914691236517205 : Int64))) &&& (3689348814741910323 : Int64)) + ((jlushr (i - ((jlushr i (1 : Int32)) &&& (6148914691236517205 : Int64))) (2 : Int32)) &&& (3689348814741910323 : Int64))) (4 : Int32))) &&& (1085102592571150095 : Int64)) + (jlushr (((((i - ((jlushr i (1 : Int32)) &&& (6148914691236517205 : Int64))) &&& (3689348814741910323 : Int64)) + ((jlushr (i - ((jlushr i (1 : Int32)) &&& (6148914691236517205 : Int64))) (2 : Int32)) &&& (3689348814741910323 : Int64))) + (jlushr (((i - ((jlushr i (1 : Int32)) &&& (6148914691236517205 : Int64))) &&& (3689348814741910323 : Int64)) + ((jlushr (i - ((jlushr i (1 : Int32)) &&& (6148914691236517205 : Int64))) (2 : Int32)) &&& (3689348814741910323 : Int64))) (4 : Int32))) &&& (1085102592571150095 : Int64)) (8 : Int32))) (16 : Int32))) rfl ?_
  refine x_ladd dJ16_bitCount_46 ?_
  refine x_lstore_n dJ16_bitCount_47 (by decide) ?_
  refine x_lload_n dJ16_bitCount_48 rfl ?_
  refine x_lload_n dJ16_bitCount_49 rfl ?_
  refine x_bipush_ (v := (32 : Int32)) dJ16_bitCount_50 (by decide) ?_
  refine x_lushr dJ16_bitCount_52 ?_
  refine x_eql (v := (jlushr (((((((i - ((jlushr i (1 : Int32)) &&& (6148914691236517205 : Int64))) &&& (3689348814741910323 : Int64)) + ((jlushr (i - ((jlushr i (1 : Int32)) &&& (6148914691236517205 : Int64))) (2 : Int32)) &&& (3689348814741910323 : Int64))) + (jlushr (((i - ((jlushr i (1 : Int32)) &&& (6148914691236517205 : Int64))) &&& (3689348814741910323 : Int64)) + ((jlushr (i - ((jlushr i (1 : Int32)) &&& (6148914691236517205 : Int64))) (2 : Int32)) &&& (3689348814741910323 : Int64))) (4 : Int32))) &&& (1085102592571150095 : Int64)) + (jlushr (((((i - ((jlushr i (1 : Int32)) &&& (6148914691236517205 : Int64))) &&& (3689348814741910323 : Int64)) + ((jlushr (i - ((jlushr i (1 : Int32)) &&& (6148914691236517205 : Int64))) (2 : Int32)) &&& (3689348814741910323 : Int64))) + (jlushr (((i - ((jlushr i (1 : Int32)) &&& (6148914691236517205 : Int64))) &&& (3689348814741910323 : Int64)) + ((jlushr (i - ((jlushr i (1 : Int32)) &&& (6148914691236517205 : Int64))) (2 : Int32)) &&& (3689348814741910323 : Int64))) (4 : Int32))) &&& (1085102592571150095 : Int64)) (8 : Int32))) + (jlushr ((((((i - ((jlushr i (1 : Int32)) &&& (6148914691236517205 : Int64))) &&& (3689348814741910323 : Int64)) + ((jlushr (i - ((jlushr i (1 : Int32)) &&& (6148914691236517205 : Int64))) (2 : Int32)) &&& (3689348814741910323 : Int64))) + (jlushr (((i - ((jlushr i (1 : Int32)) &&& (6148914691236517205 : Int64))) &&& (3689348814741910323 : Int64)) + ((jlushr (i - ((jlushr i (1 : Int32)) &&& (6148914691236517205 : Int64))) (2 : Int32)) &&& (3689348814741910323 : Int64))) (4 : Int32))) &&& (1085102592571150095 : Int64)) + (jlushr (((((i - ((jlushr i (1 : Int32)) &&& (6148914691236517205 : Int64))) &&& (3689348814741910323 : Int64)) + ((jlushr (i - ((jlushr i (1 : Int32)) &&& (6148914691236517205 : Int64))) (2 : Int32)) &&& (3689348814741910323 : Int64))) + (jlushr (((i - ((jlushr i (1 : Int32)) &&& (6148914691236517205 : Int64))) &&& (3689348814741910323 : Int64)) + ((jlushr (i - ((jlushr i (1 : Int32)) &&& (6148914691236517205 : Int64))) (2 : Int32)) &&& (3689348814741910323 : Int64))) (4 : Int32))) &&& (1085102592571150095 : Int64)) (8 : Int32))) (16 : Int32))) (32 : Int32))) rfl ?_
  refine x_ladd dJ16_bitCount_53 ?_
  refine x_lstore_n dJ16_bitCount_54 (by decide) ?_
  refine x_lload_n dJ16_bitCount_55 rfl ?_
  refine x_l2i dJ16_bitCount_56 ?_
  refine x_bipush_ (v := (127 : Int32)) dJ16_bitCount_57 (by decide) ?_
  refine x_iand dJ16_bitCount_59 ?_
  refine x_iret dJ16_bitCount_60 rfl ?_
  exact ⟨by simp only [f_J16_bitCount], rfl⟩
def f_J16_numberOfTrailingZeros (i : Int64) : Int32 := (if i.toInt32 = 0 then ((32 : Int32) + (f_J15_numberOfTrailingZeros (jlushr i (32 : Int32)).toInt32)) else (f_J15_numberOfTrailingZeros i.toInt32))
theorem m_J16_numberOfTrailingZeros (hG : xOK G) {d : Nat} {A : xA} {i : Int64} : MX G (d + 1) kJ16_numberOfTrailingZeros [.long i] A (xIs (some (.int (f_J16_numberOfTrailingZeros i))) A) := by
  refine MX.of rfl (Nat.le_of_ble_eq_true rfl) ?_
  change X _ _ _ _ _ _ [some (.long i), none, none] _
  refine x_lload_n dJ16_numberOfTrailingZeros_0 rfl ?_
  refine x_l2i dJ16_numberOfTrailingZeros_1 ?_
  refine x_istore_n dJ16_numberOfTrailingZeros_2 (by decide) ?_
  refine x_iload_n dJ16_numberOfTrailingZeros_3 rfl ?_
  refine x_via 25 (A' := A) (lv' := [some (.long i), none, some (.int i.toInt32)]) (st' := [.int (if i.toInt32 = 0 then ((32 : Int32) + (f_J15_numberOfTrailingZeros (jlushr i (32 : Int32)).toInt32)) else (f_J15_numberOfTrailingZeros i.toInt32))]) ?_ (fun k25 => ?_)
  · refine x_iret dJ16_numberOfTrailingZeros_25 rfl ?_
    exact ⟨by simp only [f_J16_numberOfTrailingZeros], rfl⟩
  · refine x_if_ne (tgt := 21) dJ16_numberOfTrailingZeros_4 (by decide) (fun c4 => ?_) (fun c4 => ?_)
    · refine x_iload_n dJ16_numberOfTrailingZeros_21 rfl ?_
      refine x_callS hG (Ky := kJ15_numberOfTrailingZeros) (As := [.int i.toInt32]) dJ16_numberOfTrailingZeros_22 lk_J16_311 me_J15_numberOfTrailingZeros st_J15_numberOfTrailingZeros rfl rfl (Nat.le_of_ble_eq_true rfl) (MX.post (m_J15_numberOfTrailingZeros hG) ?_)
      rintro _ _ ⟨rfl, rfl⟩
      change X _ _ _ _ A _ _ (.int (f_J15_numberOfTrailingZeros i.toInt32) :: _)
      simp only [if_neg c4] at k25 ⊢
      first | exact k25 | exact X.weak (by simp [xle]) k25
    · refine x_bipush_ (v := (32 : Int32)) dJ16_numberOfTrailingZeros_7 (by decide) ?_
      refine x_lload_n dJ16_numberOfTrailingZeros_9 rfl ?_
      refine x_bipush_ (v := (32 : Int32)) dJ16_numberOfTrailingZeros_10 (by decide) ?_
      refine x_lushr dJ16_numberOfTrailingZeros_12 ?_
      refine x_eql (v := (jlushr i (32 : Int32))) rfl ?_
      refine x_l2i dJ16_numberOfTrailingZeros_13 ?_
      refine x_callS hG (Ky := kJ15_numberOfTrailingZeros) (As := [.int (jlushr i (32 : Int32)).toInt32]) dJ16_numberOfTrailingZeros_14 lk_J16_311 me_J15_numberOfTrailingZeros st_J15_numberOfTrailingZeros rfl rfl (Nat.le_of_ble_eq_true rfl) (MX.post (m_J15_numberOfTrailingZeros hG) ?_)
      rintro _ _ ⟨rfl, rfl⟩
      change X _ _ _ _ A _ _ (.int (f_J15_numberOfTrailingZeros (jlushr i (32 : Int32)).toInt32) :: _)
      refine x_iadd dJ16_numberOfTrailingZeros_17 ?_
      refine x_goto (tgt := 25) dJ16_numberOfTrailingZeros_18 (by decide) ?_
      simp only [if_pos c4] at k25 ⊢
      first | exact k25 | exact X.weak (by simp [xle]) k25
def f_X9_branch (b : Int32) : Int32 := ((((jishl ((jishr b (12 : Int32)) &&& (1 : Int32)) (31 : Int32)) ||| (jishl ((jishr b (5 : Int32)) &&& (63 : Int32)) (25 : Int32))) ||| (jishl ((jishr b (1 : Int32)) &&& (15 : Int32)) (8 : Int32))) ||| (jishl ((jishr b (11 : Int32)) &&& (1 : Int32)) (7 : Int32)))
theorem m_X9_branch (hG : xOK G) {d : Nat} {A : xA} {b : Int32} : MX G (d + 0) kX9_branch [.int b] A (xIs (some (.int (f_X9_branch b))) A) := by
  refine MX.of rfl (Nat.le_of_ble_eq_true rfl) ?_
  change X _ _ _ _ _ _ [some (.int b)] _
  refine x_iload_n dX9_branch_0 rfl ?_
  refine x_bipush_ (v := (12 : Int32)) dX9_branch_1 (by decide) ?_
  refine x_ishr dX9_branch_3 ?_
  refine x_eqi (v := (jishr b (12 : Int32))) rfl ?_
  refine x_iconst_ (v := (1 : Int32)) dX9_branch_4 (by decide) ?_
  refine x_iand dX9_branch_5 ?_
  refine x_bipush_ (v := (31 : Int32)) dX9_branch_6 (by decide) ?_
  refine x_ishl dX9_branch_8 ?_
  refine x_eqi (v := (jishl ((jishr b (12 : Int32)) &&& (1 : Int32)) (31 : Int32))) rfl ?_
  refine x_iload_n dX9_branch_9 rfl ?_
  refine x_iconst_ (v := (5 : Int32)) dX9_branch_10 (by decide) ?_
  refine x_ishr dX9_branch_11 ?_
  refine x_eqi (v := (jishr b (5 : Int32))) rfl ?_
  refine x_bipush_ (v := (63 : Int32)) dX9_branch_12 (by decide) ?_
  refine x_iand dX9_branch_14 ?_
  refine x_bipush_ (v := (25 : Int32)) dX9_branch_15 (by decide) ?_
  refine x_ishl dX9_branch_17 ?_
  refine x_eqi (v := (jishl ((jishr b (5 : Int32)) &&& (63 : Int32)) (25 : Int32))) rfl ?_
  refine x_ior dX9_branch_18 ?_
  refine x_iload_n dX9_branch_19 rfl ?_
  refine x_iconst_ (v := (1 : Int32)) dX9_branch_20 (by decide) ?_
  refine x_ishr dX9_branch_21 ?_
  refine x_eqi (v := (jishr b (1 : Int32))) rfl ?_
  refine x_bipush_ (v := (15 : Int32)) dX9_branch_22 (by decide) ?_
  refine x_iand dX9_branch_24 ?_
  refine x_bipush_ (v := (8 : Int32)) dX9_branch_25 (by decide) ?_
  refine x_ishl dX9_branch_27 ?_
  refine x_eqi (v := (jishl ((jishr b (1 : Int32)) &&& (15 : Int32)) (8 : Int32))) rfl ?_
  refine x_ior dX9_branch_28 ?_
  refine x_iload_n dX9_branch_29 rfl ?_
  refine x_bipush_ (v := (11 : Int32)) dX9_branch_30 (by decide) ?_
  refine x_ishr dX9_branch_32 ?_
  refine x_eqi (v := (jishr b (11 : Int32))) rfl ?_
  refine x_iconst_ (v := (1 : Int32)) dX9_branch_33 (by decide) ?_
  refine x_iand dX9_branch_34 ?_
  refine x_bipush_ (v := (7 : Int32)) dX9_branch_35 (by decide) ?_
  refine x_ishl dX9_branch_37 ?_
  refine x_eqi (v := (jishl ((jishr b (11 : Int32)) &&& (1 : Int32)) (7 : Int32))) rfl ?_
  refine x_ior dX9_branch_38 ?_
  refine x_iret dX9_branch_39 rfl ?_
  exact ⟨by simp only [f_X9_branch], rfl⟩
def f_X9_jump (b : Int32) : Int32 := ((((jishl ((jishr b (20 : Int32)) &&& (1 : Int32)) (31 : Int32)) ||| (jishl ((jishr b (1 : Int32)) &&& (1023 : Int32)) (21 : Int32))) ||| (jishl ((jishr b (11 : Int32)) &&& (1 : Int32)) (20 : Int32))) ||| (jishl ((jishr b (12 : Int32)) &&& (255 : Int32)) (12 : Int32)))
theorem m_X9_jump (hG : xOK G) {d : Nat} {A : xA} {b : Int32} : MX G (d + 0) kX9_jump [.int b] A (xIs (some (.int (f_X9_jump b))) A) := by
  refine MX.of rfl (Nat.le_of_ble_eq_true rfl) ?_
  change X _ _ _ _ _ _ [some (.int b)] _
  refine x_iload_n dX9_jump_0 rfl ?_
  refine x_bipush_ (v := (20 : Int32)) dX9_jump_1 (by decide) ?_
  refine x_ishr dX9_jump_3 ?_
  refine x_eqi (v := (jishr b (20 : Int32))) rfl ?_
  refine x_iconst_ (v := (1 : Int32)) dX9_jump_4 (by decide) ?_
  refine x_iand dX9_jump_5 ?_
  refine x_bipush_ (v := (31 : Int32)) dX9_jump_6 (by decide) ?_
  refine x_ishl dX9_jump_8 ?_
  refine x_eqi (v := (jishl ((jishr b (20 : Int32)) &&& (1 : Int32)) (31 : Int32))) rfl ?_
  refine x_iload_n dX9_jump_9 rfl ?_
  refine x_iconst_ (v := (1 : Int32)) dX9_jump_10 (by decide) ?_
  refine x_ishr dX9_jump_11 ?_
  refine x_eqi (v := (jishr b (1 : Int32))) rfl ?_
  refine x_sipush_ (v := (1023 : Int32)) dX9_jump_12 (by decide) ?_
  refine x_iand dX9_jump_15 ?_
  refine x_bipush_ (v := (21 : Int32)) dX9_jump_16 (by decide) ?_
  refine x_ishl dX9_jump_18 ?_
  refine x_eqi (v := (jishl ((jishr b (1 : Int32)) &&& (1023 : Int32)) (21 : Int32))) rfl ?_
  refine x_ior dX9_jump_19 ?_
  refine x_iload_n dX9_jump_20 rfl ?_
  refine x_bipush_ (v := (11 : Int32)) dX9_jump_21 (by decide) ?_
  refine x_ishr dX9_jump_23 ?_
  refine x_eqi (v := (jishr b (11 : Int32))) rfl ?_
  refine x_iconst_ (v := (1 : Int32)) dX9_jump_24 (by decide) ?_
  refine x_iand dX9_jump_25 ?_
  refine x_bipush_ (v := (20 : Int32)) dX9_jump_26 (by decide) ?_
  refine x_ishl dX9_jump_28 ?_
  refine x_eqi (v := (jishl ((jishr b (11 : Int32)) &&& (1 : Int32)) (20 : Int32))) rfl ?_
  refine x_ior dX9_jump_29 ?_
  refine x_iload_n dX9_jump_30 rfl ?_
  refine x_bipush_ (v := (12 : Int32)) dX9_jump_31 (by decide) ?_
  refine x_ishr dX9_jump_33 ?_
  refine x_eqi (v := (jishr b (12 : Int32))) rfl ?_
  refine x_sipush_ (v := (255 : Int32)) dX9_jump_34 (by decide) ?_
  refine x_iand dX9_jump_37 ?_
  refine x_bipush_ (v := (12 : Int32)) dX9_jump_38 (by decide) ?_
  refine x_ishl dX9_jump_40 ?_
  refine x_eqi (v := (jishl ((jishr b (12 : Int32)) &&& (255 : Int32)) (12 : Int32))) rfl ?_
  refine x_ior dX9_jump_41 ?_
  refine x_iret dX9_jump_42 rfl ?_
  exact ⟨by simp only [f_X9_jump], rfl⟩
def f_X9_branchWord (h : Int32) (a : Int32) (b : Int32) : Int32 := ((((jishl b (20 : Int32)) ||| (jishl a (15 : Int32))) ||| (jishl h (12 : Int32))) ||| (99 : Int32))
theorem m_X9_branchWord (hG : xOK G) {d : Nat} {A : xA} {h : Int32} {a : Int32} {b : Int32} : MX G (d + 0) kX9_branchWord [.int h, .int a, .int b] A (xIs (some (.int (f_X9_branchWord h a b))) A) := by
  refine MX.of rfl (Nat.le_of_ble_eq_true rfl) ?_
  change X _ _ _ _ _ _ [some (.int h), some (.int a), some (.int b)] _
  refine x_iload_n dX9_branchWord_0 rfl ?_
  refine x_bipush_ (v := (20 : Int32)) dX9_branchWord_1 (by decide) ?_
  refine x_ishl dX9_branchWord_3 ?_
  refine x_eqi (v := (jishl b (20 : Int32))) rfl ?_
  refine x_iload_n dX9_branchWord_4 rfl ?_
  refine x_bipush_ (v := (15 : Int32)) dX9_branchWord_5 (by decide) ?_
  refine x_ishl dX9_branchWord_7 ?_
  refine x_eqi (v := (jishl a (15 : Int32))) rfl ?_
  refine x_ior dX9_branchWord_8 ?_
  refine x_iload_n dX9_branchWord_9 rfl ?_
  refine x_bipush_ (v := (12 : Int32)) dX9_branchWord_10 (by decide) ?_
  refine x_ishl dX9_branchWord_12 ?_
  refine x_eqi (v := (jishl h (12 : Int32))) rfl ?_
  refine x_ior dX9_branchWord_13 ?_
  refine x_bipush_ (v := (99 : Int32)) dX9_branchWord_14 (by decide) ?_
  refine x_ior dX9_branchWord_16 ?_
  refine x_iret dX9_branchWord_17 rfl ?_
  exact ⟨by simp only [f_X9_branchWord], rfl⟩
def f_X12_goes (f : Int32) (a : Int32) (b : Int32) : Int32 := (if (if (4 : Int32) ≤ f then (if (6 : Int32) ≤ f then (if (b + (-2147483648 : Int32)) ≤ (a + (-2147483648 : Int32)) then (0 : Int32) else (1 : Int32)) else (if b ≤ a then (0 : Int32) else (1 : Int32))) else (if a = b then (1 : Int32) else (0 : Int32))) = (if (f &&& (1 : Int32)) = 0 then (1 : Int32) else (0 : Int32)) then (1 : Int32) else (0 : Int32))
theorem m_X12_goes (hG : xOK G) {d : Nat} {A : xA} {f : Int32} {a : Int32} {b : Int32} : MX G (d + 0) kX12_goes [.int f, .int a, .int b] A (xIs (some (.int (f_X12_goes f a b))) A) := by
  refine MX.of rfl (Nat.le_of_ble_eq_true rfl) ?_
  change X _ _ _ _ _ _ [some (.int f), some (.int a), some (.int b), none] _
  refine x_iload_n dX12_goes_0 rfl ?_
  refine x_iconst_ (v := (4 : Int32)) dX12_goes_1 (by decide) ?_
  refine x_via 53 (A' := A) (lv' := [some (.int f), some (.int a), some (.int b), none]) (st' := [.int (if (4 : Int32) ≤ f then (if (6 : Int32) ≤ f then (if (b + (-2147483648 : Int32)) ≤ (a + (-2147483648 : Int32)) then (0 : Int32) else (1 : Int32)) else (if b ≤ a then (0 : Int32) else (1 : Int32))) else (if a = b then (1 : Int32) else (0 : Int32)))]) ?_ (fun k53 => ?_)
  · refine x_istore_n dX12_goes_53 (by decide) ?_
    refine x_iload_n dX12_goes_54 rfl ?_
    refine x_iload_n dX12_goes_55 rfl ?_
    refine x_iconst_ (v := (1 : Int32)) dX12_goes_56 (by decide) ?_
    refine x_iand dX12_goes_57 ?_
    refine x_via 66 (A' := A) (lv' := [some (.int f), some (.int a), some (.int b), some (.int (if (4 : Int32) ≤ f then (if (6 : Int32) ≤ f then (if (b + (-2147483648 : Int32)) ≤ (a + (-2147483648 : Int32)) then (0 : Int32) else (1 : Int32)) else (if b ≤ a then (0 : Int32) else (1 : Int32))) else (if a = b then (1 : Int32) else (0 : Int32))))]) (st' := [.int (if (f &&& (1 : Int32)) = 0 then (1 : Int32) else (0 : Int32)), .int (if (4 : Int32) ≤ f then (if (6 : Int32) ≤ f then (if (b + (-2147483648 : Int32)) ≤ (a + (-2147483648 : Int32)) then (0 : Int32) else (1 : Int32)) else (if b ≤ a then (0 : Int32) else (1 : Int32))) else (if a = b then (1 : Int32) else (0 : Int32)))]) ?_ (fun k66 => ?_)
    · refine x_via 74 (A' := A) (lv' := [some (.int f), some (.int a), some (.int b), some (.int (if (4 : Int32) ≤ f then (if (6 : Int32) ≤ f then (if (b + (-2147483648 : Int32)) ≤ (a + (-2147483648 : Int32)) then (0 : Int32) else (1 : Int32)) else (if b ≤ a then (0 : Int32) else (1 : Int32))) else (if a = b then (1 : Int32) else (0 : Int32))))]) (st' := [.int (if (if (4 : Int32) ≤ f then (if (6 : Int32) ≤ f then (if (b + (-2147483648 : Int32)) ≤ (a + (-2147483648 : Int32)) then (0 : Int32) else (1 : Int32)) else (if b ≤ a then (0 : Int32) else (1 : Int32))) else (if a = b then (1 : Int32) else (0 : Int32))) = (if (f &&& (1 : Int32)) = 0 then (1 : Int32) else (0 : Int32)) then (1 : Int32) else (0 : Int32))]) ?_ (fun k74 => ?_)
      · refine x_zret dX12_goes_74 rfl ite10 ?_
        exact ⟨by simp only [f_X12_goes], rfl⟩
      · refine x_icmp_ne (tgt := 73) dX12_goes_66 (by decide) (fun c66 => ?_) (fun c66 => ?_)
        · refine x_iconst_ (v := (0 : Int32)) dX12_goes_73 (by decide) ?_
          simp only [if_neg c66] at k74 ⊢
          first | exact k74 | exact X.weak (by simp [xle]) k74
        · refine x_iconst_ (v := (1 : Int32)) dX12_goes_69 (by decide) ?_
          refine x_goto (tgt := 74) dX12_goes_70 (by decide) ?_
          simp only [if_pos c66] at k74 ⊢
          first | exact k74 | exact X.weak (by simp [xle]) k74
    · refine x_if_ne (tgt := 65) dX12_goes_58 (by decide) (fun c58 => ?_) (fun c58 => ?_)
      · refine x_iconst_ (v := (0 : Int32)) dX12_goes_65 (by decide) ?_
        simp only [if_neg c58] at k66 ⊢
        first | exact k66 | exact X.weak (by simp [xle]) k66
      · refine x_iconst_ (v := (1 : Int32)) dX12_goes_61 (by decide) ?_
        refine x_goto (tgt := 66) dX12_goes_62 (by decide) ?_
        simp only [if_pos c58] at k66 ⊢
        first | exact k66 | exact X.weak (by simp [xle]) k66
  · refine x_icmp_ge (tgt := 18) dX12_goes_2 (by decide) (fun c2 => ?_) (fun c2 => ?_)
    · refine x_iload_n dX12_goes_18 rfl ?_
      refine x_bipush_ (v := (6 : Int32)) dX12_goes_19 (by decide) ?_
      refine x_icmp_ge (tgt := 37) dX12_goes_21 (by decide) (fun c21 => ?_) (fun c21 => ?_)
      · refine x_iload_n dX12_goes_37 rfl ?_
        refine x_ldc hG dX12_goes_38 q2907 ?_
        refine x_iadd dX12_goes_40 ?_
        refine x_iload_n dX12_goes_41 rfl ?_
        refine x_ldc hG dX12_goes_42 q2907 ?_
        refine x_iadd dX12_goes_44 ?_
        refine x_icmp_ge (tgt := 52) dX12_goes_45 (by decide) (fun c45 => ?_) (fun c45 => ?_)
        · refine x_iconst_ (v := (0 : Int32)) dX12_goes_52 (by decide) ?_
          simp only [if_pos c2, if_pos c21, if_pos c45] at k53 ⊢
          first | exact k53 | exact X.weak (by simp [xle]) k53
        · refine x_iconst_ (v := (1 : Int32)) dX12_goes_48 (by decide) ?_
          refine x_goto (tgt := 53) dX12_goes_49 (by decide) ?_
          simp only [if_pos c2, if_pos c21, if_neg c45] at k53 ⊢
          first | exact k53 | exact X.weak (by simp [xle]) k53
      · refine x_iload_n dX12_goes_24 rfl ?_
        refine x_iload_n dX12_goes_25 rfl ?_
        refine x_icmp_ge (tgt := 33) dX12_goes_26 (by decide) (fun c26 => ?_) (fun c26 => ?_)
        · refine x_iconst_ (v := (0 : Int32)) dX12_goes_33 (by decide) ?_
          refine x_goto (tgt := 53) dX12_goes_34 (by decide) ?_
          simp only [if_pos c2, if_neg c21, if_pos c26] at k53 ⊢
          first | exact k53 | exact X.weak (by simp [xle]) k53
        · refine x_iconst_ (v := (1 : Int32)) dX12_goes_29 (by decide) ?_
          refine x_goto (tgt := 53) dX12_goes_30 (by decide) ?_
          simp only [if_pos c2, if_neg c21, if_neg c26] at k53 ⊢
          first | exact k53 | exact X.weak (by simp [xle]) k53
    · refine x_iload_n dX12_goes_5 rfl ?_
      refine x_iload_n dX12_goes_6 rfl ?_
      refine x_icmp_ne (tgt := 14) dX12_goes_7 (by decide) (fun c7 => ?_) (fun c7 => ?_)
      · refine x_iconst_ (v := (0 : Int32)) dX12_goes_14 (by decide) ?_
        refine x_goto (tgt := 53) dX12_goes_15 (by decide) ?_
        simp only [if_neg c2, if_neg c7] at k53 ⊢
        first | exact k53 | exact X.weak (by simp [xle]) k53
      · refine x_iconst_ (v := (1 : Int32)) dX12_goes_10 (by decide) ?_
        refine x_goto (tgt := 53) dX12_goes_11 (by decide) ?_
        simp only [if_neg c2, if_pos c7] at k53 ⊢
        first | exact k53 | exact X.weak (by simp [xle]) k53
theorem z_X12_goes {f : Int32} {a : Int32} {b : Int32} : f_X12_goes f a b = 0 ∨ f_X12_goes f a b = 1 := by
  unfold f_X12_goes
  (repeat' split) <;> decide
def f_X12_plain (f : Int32) (a : Int32) (b : Int32) : Int32 := (if f = (0 : Int32) then (a + b) else (if f = (1 : Int32) then (jishl a (b &&& (31 : Int32))) else (if f = (2 : Int32) then (if b ≤ a then (0 : Int32) else (1 : Int32)) else (if f = (3 : Int32) then (if (b + (-2147483648 : Int32)) ≤ (a + (-2147483648 : Int32)) then (0 : Int32) else (1 : Int32)) else (if f = (4 : Int32) then (a ^^^ b) else (if f = (5 : Int32) then (jiushr a (b &&& (31 : Int32))) else (if f = (6 : Int32) then (a ||| b) else (a &&& b))))))))
theorem m_X12_plain (hG : xOK G) {d : Nat} {A : xA} {f : Int32} {a : Int32} {b : Int32} : MX G (d + 0) kX12_plain [.int f, .int a, .int b] A (xIs (some (.int (f_X12_plain f a b))) A) := by
  refine MX.of rfl (Nat.le_of_ble_eq_true rfl) ?_
  change X _ _ _ _ _ _ [some (.int f), some (.int a), some (.int b)] _
  refine x_iload_n dX12_plain_0 rfl ?_
  refine x_sw (0 : Int32) (fun s1_0 => ?_) (fun s1_0 => ?_)
  · refine x_tableIn (off := 43) (tgt := 44) dX12_plain_1 (by rw [s1_0]; decide) (by rw [s1_0]; decide) (by rw [s1_0]; rfl) (by decide) ?_
    refine x_iload_n dX12_plain_44 rfl ?_
    refine x_iload_n dX12_plain_45 rfl ?_
    refine x_iadd dX12_plain_46 ?_
    refine x_iret dX12_plain_47 rfl ?_
    exact ⟨by simp only [f_X12_plain, if_pos s1_0], rfl⟩
  refine x_sw (1 : Int32) (fun s1_1 => ?_) (fun s1_1 => ?_)
  · refine x_tableIn (off := 47) (tgt := 48) dX12_plain_1 (by rw [s1_1]; decide) (by rw [s1_1]; decide) (by rw [s1_1]; rfl) (by decide) ?_
    refine x_iload_n dX12_plain_48 rfl ?_
    refine x_iload_n dX12_plain_49 rfl ?_
    refine x_bipush_ (v := (31 : Int32)) dX12_plain_50 (by decide) ?_
    refine x_iand dX12_plain_52 ?_
    refine x_ishl dX12_plain_53 ?_
    refine x_eqi (v := (jishl a (b &&& (31 : Int32)))) rfl ?_
    refine x_iret dX12_plain_54 rfl ?_
    exact ⟨by simp only [f_X12_plain, if_neg s1_0, if_pos s1_1], rfl⟩
  refine x_sw (2 : Int32) (fun s1_2 => ?_) (fun s1_2 => ?_)
  · refine x_tableIn (off := 54) (tgt := 55) dX12_plain_1 (by rw [s1_2]; decide) (by rw [s1_2]; decide) (by rw [s1_2]; rfl) (by decide) ?_
    refine x_iload_n dX12_plain_55 rfl ?_
    refine x_iload_n dX12_plain_56 rfl ?_
    refine x_via 65 (A' := A) (lv' := [some (.int f), some (.int a), some (.int b)]) (st' := [.int (if b ≤ a then (0 : Int32) else (1 : Int32))]) ?_ (fun k65 => ?_)
    · refine x_iret dX12_plain_65 rfl ?_
      exact ⟨by simp only [f_X12_plain, if_neg s1_0, if_neg s1_1, if_pos s1_2], rfl⟩
    · refine x_icmp_ge (tgt := 64) dX12_plain_57 (by decide) (fun c57 => ?_) (fun c57 => ?_)
      · refine x_iconst_ (v := (0 : Int32)) dX12_plain_64 (by decide) ?_
        simp only [if_pos c57] at k65 ⊢
        first | exact k65 | exact X.weak (by simp [xle]) k65
      · refine x_iconst_ (v := (1 : Int32)) dX12_plain_60 (by decide) ?_
        refine x_goto (tgt := 65) dX12_plain_61 (by decide) ?_
        simp only [if_neg c57] at k65 ⊢
        first | exact k65 | exact X.weak (by simp [xle]) k65
  refine x_sw (3 : Int32) (fun s1_3 => ?_) (fun s1_3 => ?_)
  · refine x_tableIn (off := 65) (tgt := 66) dX12_plain_1 (by rw [s1_3]; decide) (by rw [s1_3]; decide) (by rw [s1_3]; rfl) (by decide) ?_
    refine x_iload_n dX12_plain_66 rfl ?_
    refine x_ldc hG dX12_plain_67 q2907 ?_
    refine x_iadd dX12_plain_69 ?_
    refine x_iload_n dX12_plain_70 rfl ?_
    refine x_ldc hG dX12_plain_71 q2907 ?_
    refine x_iadd dX12_plain_73 ?_
    refine x_via 82 (A' := A) (lv' := [some (.int f), some (.int a), some (.int b)]) (st' := [.int (if (b + (-2147483648 : Int32)) ≤ (a + (-2147483648 : Int32)) then (0 : Int32) else (1 : Int32))]) ?_ (fun k82 => ?_)
    · refine x_iret dX12_plain_82 rfl ?_
      exact ⟨by simp only [f_X12_plain, if_neg s1_0, if_neg s1_1, if_neg s1_2, if_pos s1_3], rfl⟩
    · refine x_icmp_ge (tgt := 81) dX12_plain_74 (by decide) (fun c74 => ?_) (fun c74 => ?_)
      · refine x_iconst_ (v := (0 : Int32)) dX12_plain_81 (by decide) ?_
        simp only [if_pos c74] at k82 ⊢
        first | exact k82 | exact X.weak (by simp [xle]) k82
      · refine x_iconst_ (v := (1 : Int32)) dX12_plain_77 (by decide) ?_
        refine x_goto (tgt := 82) dX12_plain_78 (by decide) ?_
        simp only [if_neg c74] at k82 ⊢
        first | exact k82 | exact X.weak (by simp [xle]) k82
  refine x_sw (4 : Int32) (fun s1_4 => ?_) (fun s1_4 => ?_)
  · refine x_tableIn (off := 82) (tgt := 83) dX12_plain_1 (by rw [s1_4]; decide) (by rw [s1_4]; decide) (by rw [s1_4]; rfl) (by decide) ?_
    refine x_iload_n dX12_plain_83 rfl ?_
    refine x_iload_n dX12_plain_84 rfl ?_
    refine x_ixor dX12_plain_85 ?_
    refine x_iret dX12_plain_86 rfl ?_
    exact ⟨by simp only [f_X12_plain, if_neg s1_0, if_neg s1_1, if_neg s1_2, if_neg s1_3, if_pos s1_4], rfl⟩
  refine x_sw (5 : Int32) (fun s1_5 => ?_) (fun s1_5 => ?_)
  · refine x_tableIn (off := 86) (tgt := 87) dX12_plain_1 (by rw [s1_5]; decide) (by rw [s1_5]; decide) (by rw [s1_5]; rfl) (by decide) ?_
    refine x_iload_n dX12_plain_87 rfl ?_
    refine x_iload_n dX12_plain_88 rfl ?_
    refine x_bipush_ (v := (31 : Int32)) dX12_plain_89 (by decide) ?_
    refine x_iand dX12_plain_91 ?_
    refine x_iushr dX12_plain_92 ?_
    refine x_eqi (v := (jiushr a (b &&& (31 : Int32)))) rfl ?_
    refine x_iret dX12_plain_93 rfl ?_
    exact ⟨by simp only [f_X12_plain, if_neg s1_0, if_neg s1_1, if_neg s1_2, if_neg s1_3, if_neg s1_4, if_pos s1_5], rfl⟩
  refine x_sw (6 : Int32) (fun s1_6 => ?_) (fun s1_6 => ?_)
  · refine x_tableIn (off := 93) (tgt := 94) dX12_plain_1 (by rw [s1_6]; decide) (by rw [s1_6]; decide) (by rw [s1_6]; rfl) (by decide) ?_
    refine x_iload_n dX12_plain_94 rfl ?_
    refine x_iload_n dX12_plain_95 rfl ?_
    refine x_ior dX12_plain_96 ?_
    refine x_iret dX12_plain_97 rfl ?_
    exact ⟨by simp only [f_X12_plain, if_neg s1_0, if_neg s1_1, if_neg s1_2, if_neg s1_3, if_neg s1_4, if_neg s1_5, if_pos s1_6], rfl⟩
  have t1_0 := lv_neT s1_0 (a := 0) (by decide)
  have t1_1 := lv_neT s1_1 (a := 1) (by decide)
  have t1_2 := lv_neT s1_2 (a := 2) (by decide)
  have t1_3 := lv_neT s1_3 (a := 3) (by decide)
  have t1_4 := lv_neT s1_4 (a := 4) (by decide)
  have t1_5 := lv_neT s1_5 (a := 5) (by decide)
  have t1_6 := lv_neT s1_6 (a := 6) (by decide)
  refine x_tableOut (tgt := 98) dX12_plain_1 (by omega) (by decide) ?_
  refine x_iload_n dX12_plain_98 rfl ?_
  refine x_iload_n dX12_plain_99 rfl ?_
  refine x_iand dX12_plain_100 ?_
  refine x_iret dX12_plain_101 rfl ?_
  exact ⟨by simp only [f_X12_plain, if_neg s1_0, if_neg s1_1, if_neg s1_2, if_neg s1_3, if_neg s1_4, if_neg s1_5, if_neg s1_6], rfl⟩
def f_X12_product (f : Int32) (a : Int32) (b : Int32) : Int32 := (if f = (0 : Int32) then (a * b) else (if f = (1 : Int32) then (jlshr (a.toInt64 * b.toInt64) (32 : Int32)).toInt32 else (if f = (2 : Int32) then (jlshr (a.toInt64 * (b.toInt64 &&& (4294967295 : Int64))) (32 : Int32)).toInt32 else (if f = (3 : Int32) then (jlushr ((a.toInt64 &&& (4294967295 : Int64)) * (b.toInt64 &&& (4294967295 : Int64))) (32 : Int32)).toInt32 else (if f = (4 : Int32) then (f_X0_done (3 : Int32) a b) else (if f = (5 : Int32) then (if b = 0 then (-1 : Int32) else ((a.toInt64 &&& (4294967295 : Int64)) / (b.toInt64 &&& (4294967295 : Int64))).toInt32) else (if f = (6 : Int32) then (f_X0_done (4 : Int32) a b) else (if b = 0 then a else (lrem_ (a.toInt64 &&& (4294967295 : Int64)) (b.toInt64 &&& (4294967295 : Int64))).toInt32))))))))
def p_X12_product (f : Int32) (a : Int32) (b : Int32) : Prop := (((¬ f = (0 : Int32) → (((¬ f = (1 : Int32) → (((¬ f = (2 : Int32) → (((¬ f = (3 : Int32) → (((f = (4 : Int32) → ((p_X0_done (3 : Int32) a b))) ∧ (¬ f = (4 : Int32) → (((f = (5 : Int32) → (((¬ b = 0 → ((¬ (b.toInt64 &&& (4294967295 : Int64)) = 0)))))) ∧ (¬ f = (5 : Int32) → (((f = (6 : Int32) → ((p_X0_done (4 : Int32) a b))) ∧ (¬ f = (6 : Int32) → (((¬ b = 0 → ((¬ (b.toInt64 &&& (4294967295 : Int64)) = 0))))))))))))))))))))))))))
theorem m_X12_product (hG : xOK G) {d : Nat} {A : xA} {f : Int32} {a : Int32} {b : Int32} (h : p_X12_product f a b) : MX G (d + 1) kX12_product [.int f, .int a, .int b] A (xIs (some (.int (f_X12_product f a b))) A) := by
  unfold p_X12_product at h
  refine MX.of rfl (Nat.le_of_ble_eq_true rfl) ?_
  change X _ _ _ _ _ _ [some (.int f), some (.int a), some (.int b), none, none, none, none] _
  refine x_iload_n dX12_product_0 rfl ?_
  refine x_i2l dX12_product_1 ?_
  refine x_ldc2 hG dX12_product_2 q2935 ?_
  refine x_land dX12_product_5 ?_
  refine x_lstore_n dX12_product_6 (by decide) ?_
  refine x_iload_n dX12_product_7 rfl ?_
  refine x_i2l dX12_product_8 ?_
  refine x_ldc2 hG dX12_product_9 q2935 ?_
  refine x_land dX12_product_12 ?_
  refine x_lstore dX12_product_13 (by decide) ?_
  refine x_iload_n dX12_product_15 rfl ?_
  refine x_sw (0 : Int32) (fun s16_0 => ?_) (fun s16_0 => ?_)
  · refine x_tableIn (off := 44) (tgt := 60) dX12_product_16 (by rw [s16_0]; decide) (by rw [s16_0]; decide) (by rw [s16_0]; rfl) (by decide) ?_
    refine x_iload_n dX12_product_60 rfl ?_
    refine x_iload_n dX12_product_61 rfl ?_
    refine x_imul dX12_product_62 ?_
    refine x_iret dX12_product_63 rfl ?_
    exact ⟨by simp only [f_X12_product, if_pos s16_0], rfl⟩
  refine x_sw (1 : Int32) (fun s16_1 => ?_) (fun s16_1 => ?_)
  · refine x_tableIn (off := 48) (tgt := 64) dX12_product_16 (by rw [s16_1]; decide) (by rw [s16_1]; decide) (by rw [s16_1]; rfl) (by decide) ?_
    refine x_iload_n dX12_product_64 rfl ?_
    refine x_i2l dX12_product_65 ?_
    refine x_iload_n dX12_product_66 rfl ?_
    refine x_i2l dX12_product_67 ?_
    refine x_lmul dX12_product_68 ?_
    refine x_bipush_ (v := (32 : Int32)) dX12_product_69 (by decide) ?_
    refine x_lshr dX12_product_71 ?_
    refine x_eql (v := (jlshr (a.toInt64 * b.toInt64) (32 : Int32))) rfl ?_
    refine x_l2i dX12_product_72 ?_
    refine x_iret dX12_product_73 rfl ?_
    exact ⟨by simp only [f_X12_product, if_neg s16_0, if_pos s16_1], rfl⟩
  refine x_sw (2 : Int32) (fun s16_2 => ?_) (fun s16_2 => ?_)
  · refine x_tableIn (off := 58) (tgt := 74) dX12_product_16 (by rw [s16_2]; decide) (by rw [s16_2]; decide) (by rw [s16_2]; rfl) (by decide) ?_
    refine x_iload_n dX12_product_74 rfl ?_
    refine x_i2l dX12_product_75 ?_
    refine x_lload dX12_product_76 rfl ?_
    refine x_lmul dX12_product_78 ?_
    refine x_bipush_ (v := (32 : Int32)) dX12_product_79 (by decide) ?_
    refine x_lshr dX12_product_81 ?_
    refine x_eql (v := (jlshr (a.toInt64 * (b.toInt64 &&& (4294967295 : Int64))) (32 : Int32))) rfl ?_
    refine x_l2i dX12_product_82 ?_
    refine x_iret dX12_product_83 rfl ?_
    exact ⟨by simp only [f_X12_product, if_neg s16_0, if_neg s16_1, if_pos s16_2], rfl⟩
  refine x_sw (3 : Int32) (fun s16_3 => ?_) (fun s16_3 => ?_)
  · refine x_tableIn (off := 68) (tgt := 84) dX12_product_16 (by rw [s16_3]; decide) (by rw [s16_3]; decide) (by rw [s16_3]; rfl) (by decide) ?_
    refine x_lload_n dX12_product_84 rfl ?_
    refine x_lload dX12_product_85 rfl ?_
    refine x_lmul dX12_product_87 ?_
    refine x_bipush_ (v := (32 : Int32)) dX12_product_88 (by decide) ?_
    refine x_lushr dX12_product_90 ?_
    refine x_eql (v := (jlushr ((a.toInt64 &&& (4294967295 : Int64)) * (b.toInt64 &&& (4294967295 : Int64))) (32 : Int32))) rfl ?_
    refine x_l2i dX12_product_91 ?_
    refine x_iret dX12_product_92 rfl ?_
    exact ⟨by simp only [f_X12_product, if_neg s16_0, if_neg s16_1, if_neg s16_2, if_pos s16_3], rfl⟩
  refine x_sw (4 : Int32) (fun s16_4 => ?_) (fun s16_4 => ?_)
  · refine x_tableIn (off := 77) (tgt := 93) dX12_product_16 (by rw [s16_4]; decide) (by rw [s16_4]; decide) (by rw [s16_4]; rfl) (by decide) ?_
    refine x_iconst_ (v := (3 : Int32)) dX12_product_93 (by decide) ?_
    refine x_iload_n dX12_product_94 rfl ?_
    refine x_iload_n dX12_product_95 rfl ?_
    refine x_callS hG (Ky := kX0_done) (As := [.int (3 : Int32), .int a, .int b]) dX12_product_96 lk_X12_74 me_X0_done st_X0_done rfl rfl (Nat.le_of_ble_eq_true rfl) (MX.post (m_X0_done hG ((((((h s16_0) s16_1) s16_2) s16_3).1 s16_4))) ?_)
    rintro _ _ ⟨rfl, rfl⟩
    change X _ _ _ _ A _ _ (.int (f_X0_done (3 : Int32) a b) :: _)
    refine x_iret dX12_product_99 rfl ?_
    exact ⟨by simp only [f_X12_product, if_neg s16_0, if_neg s16_1, if_neg s16_2, if_neg s16_3, if_pos s16_4], rfl⟩
  refine x_sw (5 : Int32) (fun s16_5 => ?_) (fun s16_5 => ?_)
  · refine x_tableIn (off := 84) (tgt := 100) dX12_product_16 (by rw [s16_5]; decide) (by rw [s16_5]; decide) (by rw [s16_5]; rfl) (by decide) ?_
    refine x_iload_n dX12_product_100 rfl ?_
    refine x_via 113 (A' := A) (lv' := [some (.int f), some (.int a), some (.int b), some (.long (a.toInt64 &&& (4294967295 : Int64))), none, some (.long (b.toInt64 &&& (4294967295 : Int64))), none]) (st' := [.int (if b = 0 then (-1 : Int32) else ((a.toInt64 &&& (4294967295 : Int64)) / (b.toInt64 &&& (4294967295 : Int64))).toInt32)]) ?_ (fun k113 => ?_)
    · refine x_iret dX12_product_113 rfl ?_
      exact ⟨by simp only [f_X12_product, if_neg s16_0, if_neg s16_1, if_neg s16_2, if_neg s16_3, if_neg s16_4, if_pos s16_5], rfl⟩
    · refine x_if_ne (tgt := 108) dX12_product_101 (by decide) (fun c101 => ?_) (fun c101 => ?_)
      · refine x_lload_n dX12_product_108 rfl ?_
        refine x_lload dX12_product_109 rfl ?_
        refine x_ldiv dX12_product_111 ((((((((h s16_0) s16_1) s16_2) s16_3).2 s16_4).1 s16_5) c101)) ?_
        refine x_l2i dX12_product_112 ?_
        simp only [if_neg c101] at k113 ⊢
        first | exact k113 | exact X.weak (by simp [xle]) k113
      · refine x_iconst_ (v := (-1 : Int32)) dX12_product_104 (by decide) ?_
        refine x_goto (tgt := 113) dX12_product_105 (by decide) ?_
        simp only [if_pos c101] at k113 ⊢
        first | exact k113 | exact X.weak (by simp [xle]) k113
  refine x_sw (6 : Int32) (fun s16_6 => ?_) (fun s16_6 => ?_)
  · refine x_tableIn (off := 98) (tgt := 114) dX12_product_16 (by rw [s16_6]; decide) (by rw [s16_6]; decide) (by rw [s16_6]; rfl) (by decide) ?_
    refine x_iconst_ (v := (4 : Int32)) dX12_product_114 (by decide) ?_
    refine x_iload_n dX12_product_115 rfl ?_
    refine x_iload_n dX12_product_116 rfl ?_
    refine x_callS hG (Ky := kX0_done) (As := [.int (4 : Int32), .int a, .int b]) dX12_product_117 lk_X12_74 me_X0_done st_X0_done rfl rfl (Nat.le_of_ble_eq_true rfl) (MX.post (m_X0_done hG ((((((((h s16_0) s16_1) s16_2) s16_3).2 s16_4).2 s16_5).1 s16_6))) ?_)
    rintro _ _ ⟨rfl, rfl⟩
    change X _ _ _ _ A _ _ (.int (f_X0_done (4 : Int32) a b) :: _)
    refine x_iret dX12_product_120 rfl ?_
    exact ⟨by simp only [f_X12_product, if_neg s16_0, if_neg s16_1, if_neg s16_2, if_neg s16_3, if_neg s16_4, if_neg s16_5, if_pos s16_6], rfl⟩
  have t16_0 := lv_neT s16_0 (a := 0) (by decide)
  have t16_1 := lv_neT s16_1 (a := 1) (by decide)
  have t16_2 := lv_neT s16_2 (a := 2) (by decide)
  have t16_3 := lv_neT s16_3 (a := 3) (by decide)
  have t16_4 := lv_neT s16_4 (a := 4) (by decide)
  have t16_5 := lv_neT s16_5 (a := 5) (by decide)
  have t16_6 := lv_neT s16_6 (a := 6) (by decide)
  refine x_tableOut (tgt := 121) dX12_product_16 (by omega) (by decide) ?_
  refine x_iload_n dX12_product_121 rfl ?_
  refine x_via 134 (A' := A) (lv' := [some (.int f), some (.int a), some (.int b), some (.long (a.toInt64 &&& (4294967295 : Int64))), none, some (.long (b.toInt64 &&& (4294967295 : Int64))), none]) (st' := [.int (if b = 0 then a else (lrem_ (a.toInt64 &&& (4294967295 : Int64)) (b.toInt64 &&& (4294967295 : Int64))).toInt32)]) ?_ (fun k134 => ?_)
  · refine x_iret dX12_product_134 rfl ?_
    exact ⟨by simp only [f_X12_product, if_neg s16_0, if_neg s16_1, if_neg s16_2, if_neg s16_3, if_neg s16_4, if_neg s16_5, if_neg s16_6], rfl⟩
  · refine x_if_ne (tgt := 129) dX12_product_122 (by decide) (fun c122 => ?_) (fun c122 => ?_)
    · refine x_lload_n dX12_product_129 rfl ?_
      refine x_lload dX12_product_130 rfl ?_
      refine x_lrem dX12_product_132 (((((((((h s16_0) s16_1) s16_2) s16_3).2 s16_4).2 s16_5).2 s16_6) c122)) ?_
      refine x_eql (v := (lrem_ (a.toInt64 &&& (4294967295 : Int64)) (b.toInt64 &&& (4294967295 : Int64)))) rfl ?_
      refine x_l2i dX12_product_133 ?_
      simp only [if_neg c122] at k134 ⊢
      first | exact k134 | exact X.weak (by simp [xle]) k134
    · refine x_iload_n dX12_product_125 rfl ?_
      refine x_goto (tgt := 134) dX12_product_126 (by decide) ?_
      simp only [if_pos c122] at k134 ⊢
      first | exact k134 | exact X.weak (by simp [xle]) k134
theorem pp_X12_product {f : Int32} {a : Int32} {b : Int32} : p_X12_product f a b := by unfold p_X12_product; simp only [pp_X0_done, imp_true_iff, true_and, and_true]; exact fun _ _ _ _ _ => ⟨fun _ h => low_ne h, fun _ _ h => low_ne h⟩
end W045
