/-! ===== how the House lies (tools/m122.py): objects and arrays that stay, from x on; the Model at x + 62 ===== -/
set_option maxRecDepth 100000
def hTag : List (Nat × Nat × Nat) := [(0, 1, 0), (1, 202, 4000), (2, 2, 0), (3, 3, 0), (4, 205, 15), (5, 205, 45), (6, 200, 4002), (7, 200, 4002), (8, 200, 4002), (9, 200, 4000), (10, 200, 4000), (11, 4, 0), (12, 5, 0), (13, 37, 0), (14, 6, 0), (15, 4, 0), (16, 37, 0), (17, 200, 2000), (18, 7, 0), (22, 8, 0), (24, 37, 0), (35, 9, 0), (41, 10, 0), (42, 200, 40), (43, 11, 0), (53, 37, 0), (54, 200, 500), (55, 200, 2000), (56, 12, 0), (57, 200, 32), (58, 12, 0), (59, 200, 32), (61, 200, 4096)]
def hRef : List (Nat × Nat × Nat) := [(0, 0, 1), (0, 2, 2), (0, 3, 14), (0, 4, 18), (0, 5, 22), (0, 6, 35), (0, 7, 41), (0, 9, 53), (0, 13, 54), (0, 14, 55), (0, 17, 56), (0, 18, 58), (2, 0, 3), (2, 1, 11), (2, 2, 12), (3, 0, 4), (3, 1, 5), (3, 2, 6), (3, 3, 7), (3, 4, 8), (3, 5, 9), (3, 6, 10), (12, 0, 13), (14, 0, 15), (14, 1, 16), (14, 15, 17), (22, 0, 18), (22, 3, 24), (41, 0, 35), (41, 1, 43), (41, 7, 42), (43, 0, 18), (56, 1, 57), (58, 0, 61), (58, 1, 59)]
def xHs (G : xG) (A : xA) (x : Nat) : Prop := G.N ≤ x ∧ x + 110 ≤ A.n ∧ (∀ q ∈ hTag, A.tg (x + q.1) = q.2.1 ∧ A.ln (x + q.1) = q.2.2) ∧ ∀ q ∈ hRef, A.P (x + q.1) q.2.1 = some (x + q.2.2)
section HS
variable {G : xG} {A : xA} {x : Nat}
theorem hs_t0 (h : xHs G A x) : A.tg x = 1 := (h.2.2.1 (0, 1, 0) (by decide)).1
theorem hs_t1 (h : xHs G A x) : A.tg (x + 1) = 202 := (h.2.2.1 (1, 202, 4000) (by decide)).1
theorem hs_n1 (h : xHs G A x) : A.ln (x + 1) = 4000 := (h.2.2.1 (1, 202, 4000) (by decide)).2
theorem hs_t2 (h : xHs G A x) : A.tg (x + 2) = 2 := (h.2.2.1 (2, 2, 0) (by decide)).1
theorem hs_t3 (h : xHs G A x) : A.tg (x + 3) = 3 := (h.2.2.1 (3, 3, 0) (by decide)).1
theorem hs_t4 (h : xHs G A x) : A.tg (x + 4) = 205 := (h.2.2.1 (4, 205, 15) (by decide)).1
theorem hs_n4 (h : xHs G A x) : A.ln (x + 4) = 15 := (h.2.2.1 (4, 205, 15) (by decide)).2
theorem hs_t5 (h : xHs G A x) : A.tg (x + 5) = 205 := (h.2.2.1 (5, 205, 45) (by decide)).1
theorem hs_n5 (h : xHs G A x) : A.ln (x + 5) = 45 := (h.2.2.1 (5, 205, 45) (by decide)).2
theorem hs_t6 (h : xHs G A x) : A.tg (x + 6) = 200 := (h.2.2.1 (6, 200, 4002) (by decide)).1
theorem hs_n6 (h : xHs G A x) : A.ln (x + 6) = 4002 := (h.2.2.1 (6, 200, 4002) (by decide)).2
theorem hs_t7 (h : xHs G A x) : A.tg (x + 7) = 200 := (h.2.2.1 (7, 200, 4002) (by decide)).1
theorem hs_n7 (h : xHs G A x) : A.ln (x + 7) = 4002 := (h.2.2.1 (7, 200, 4002) (by decide)).2
theorem hs_t8 (h : xHs G A x) : A.tg (x + 8) = 200 := (h.2.2.1 (8, 200, 4002) (by decide)).1
theorem hs_n8 (h : xHs G A x) : A.ln (x + 8) = 4002 := (h.2.2.1 (8, 200, 4002) (by decide)).2
theorem hs_t9 (h : xHs G A x) : A.tg (x + 9) = 200 := (h.2.2.1 (9, 200, 4000) (by decide)).1
theorem hs_n9 (h : xHs G A x) : A.ln (x + 9) = 4000 := (h.2.2.1 (9, 200, 4000) (by decide)).2
theorem hs_t10 (h : xHs G A x) : A.tg (x + 10) = 200 := (h.2.2.1 (10, 200, 4000) (by decide)).1
theorem hs_n10 (h : xHs G A x) : A.ln (x + 10) = 4000 := (h.2.2.1 (10, 200, 4000) (by decide)).2
theorem hs_t11 (h : xHs G A x) : A.tg (x + 11) = 4 := (h.2.2.1 (11, 4, 0) (by decide)).1
theorem hs_t12 (h : xHs G A x) : A.tg (x + 12) = 5 := (h.2.2.1 (12, 5, 0) (by decide)).1
theorem hs_t13 (h : xHs G A x) : A.tg (x + 13) = 37 := (h.2.2.1 (13, 37, 0) (by decide)).1
theorem hs_t14 (h : xHs G A x) : A.tg (x + 14) = 6 := (h.2.2.1 (14, 6, 0) (by decide)).1
theorem hs_t15 (h : xHs G A x) : A.tg (x + 15) = 4 := (h.2.2.1 (15, 4, 0) (by decide)).1
theorem hs_t16 (h : xHs G A x) : A.tg (x + 16) = 37 := (h.2.2.1 (16, 37, 0) (by decide)).1
theorem hs_t17 (h : xHs G A x) : A.tg (x + 17) = 200 := (h.2.2.1 (17, 200, 2000) (by decide)).1
theorem hs_n17 (h : xHs G A x) : A.ln (x + 17) = 2000 := (h.2.2.1 (17, 200, 2000) (by decide)).2
theorem hs_t18 (h : xHs G A x) : A.tg (x + 18) = 7 := (h.2.2.1 (18, 7, 0) (by decide)).1
theorem hs_t22 (h : xHs G A x) : A.tg (x + 22) = 8 := (h.2.2.1 (22, 8, 0) (by decide)).1
theorem hs_t24 (h : xHs G A x) : A.tg (x + 24) = 37 := (h.2.2.1 (24, 37, 0) (by decide)).1
theorem hs_t35 (h : xHs G A x) : A.tg (x + 35) = 9 := (h.2.2.1 (35, 9, 0) (by decide)).1
theorem hs_t41 (h : xHs G A x) : A.tg (x + 41) = 10 := (h.2.2.1 (41, 10, 0) (by decide)).1
theorem hs_t42 (h : xHs G A x) : A.tg (x + 42) = 200 := (h.2.2.1 (42, 200, 40) (by decide)).1
theorem hs_n42 (h : xHs G A x) : A.ln (x + 42) = 40 := (h.2.2.1 (42, 200, 40) (by decide)).2
theorem hs_t43 (h : xHs G A x) : A.tg (x + 43) = 11 := (h.2.2.1 (43, 11, 0) (by decide)).1
theorem hs_t53 (h : xHs G A x) : A.tg (x + 53) = 37 := (h.2.2.1 (53, 37, 0) (by decide)).1
theorem hs_t54 (h : xHs G A x) : A.tg (x + 54) = 200 := (h.2.2.1 (54, 200, 500) (by decide)).1
theorem hs_n54 (h : xHs G A x) : A.ln (x + 54) = 500 := (h.2.2.1 (54, 200, 500) (by decide)).2
theorem hs_t55 (h : xHs G A x) : A.tg (x + 55) = 200 := (h.2.2.1 (55, 200, 2000) (by decide)).1
theorem hs_n55 (h : xHs G A x) : A.ln (x + 55) = 2000 := (h.2.2.1 (55, 200, 2000) (by decide)).2
theorem hs_t56 (h : xHs G A x) : A.tg (x + 56) = 12 := (h.2.2.1 (56, 12, 0) (by decide)).1
theorem hs_t57 (h : xHs G A x) : A.tg (x + 57) = 200 := (h.2.2.1 (57, 200, 32) (by decide)).1
theorem hs_n57 (h : xHs G A x) : A.ln (x + 57) = 32 := (h.2.2.1 (57, 200, 32) (by decide)).2
theorem hs_t58 (h : xHs G A x) : A.tg (x + 58) = 12 := (h.2.2.1 (58, 12, 0) (by decide)).1
theorem hs_t59 (h : xHs G A x) : A.tg (x + 59) = 200 := (h.2.2.1 (59, 200, 32) (by decide)).1
theorem hs_n59 (h : xHs G A x) : A.ln (x + 59) = 32 := (h.2.2.1 (59, 200, 32) (by decide)).2
theorem hs_t61 (h : xHs G A x) : A.tg (x + 61) = 200 := (h.2.2.1 (61, 200, 4096) (by decide)).1
theorem hs_n61 (h : xHs G A x) : A.ln (x + 61) = 4096 := (h.2.2.1 (61, 200, 4096) (by decide)).2
theorem hs_P0_0 (h : xHs G A x) : A.P x 0 = some (x + 1) := h.2.2.2 (0, 0, 1) (by decide)
theorem hs_P0_2 (h : xHs G A x) : A.P x 2 = some (x + 2) := h.2.2.2 (0, 2, 2) (by decide)
theorem hs_P0_3 (h : xHs G A x) : A.P x 3 = some (x + 14) := h.2.2.2 (0, 3, 14) (by decide)
theorem hs_P0_4 (h : xHs G A x) : A.P x 4 = some (x + 18) := h.2.2.2 (0, 4, 18) (by decide)
theorem hs_P0_5 (h : xHs G A x) : A.P x 5 = some (x + 22) := h.2.2.2 (0, 5, 22) (by decide)
theorem hs_P0_6 (h : xHs G A x) : A.P x 6 = some (x + 35) := h.2.2.2 (0, 6, 35) (by decide)
theorem hs_P0_7 (h : xHs G A x) : A.P x 7 = some (x + 41) := h.2.2.2 (0, 7, 41) (by decide)
theorem hs_P0_9 (h : xHs G A x) : A.P x 9 = some (x + 53) := h.2.2.2 (0, 9, 53) (by decide)
theorem hs_P0_13 (h : xHs G A x) : A.P x 13 = some (x + 54) := h.2.2.2 (0, 13, 54) (by decide)
theorem hs_P0_14 (h : xHs G A x) : A.P x 14 = some (x + 55) := h.2.2.2 (0, 14, 55) (by decide)
theorem hs_P0_17 (h : xHs G A x) : A.P x 17 = some (x + 56) := h.2.2.2 (0, 17, 56) (by decide)
theorem hs_P0_18 (h : xHs G A x) : A.P x 18 = some (x + 58) := h.2.2.2 (0, 18, 58) (by decide)
theorem hs_P2_0 (h : xHs G A x) : A.P (x + 2) 0 = some (x + 3) := h.2.2.2 (2, 0, 3) (by decide)
theorem hs_P2_1 (h : xHs G A x) : A.P (x + 2) 1 = some (x + 11) := h.2.2.2 (2, 1, 11) (by decide)
theorem hs_P2_2 (h : xHs G A x) : A.P (x + 2) 2 = some (x + 12) := h.2.2.2 (2, 2, 12) (by decide)
theorem hs_P3_0 (h : xHs G A x) : A.P (x + 3) 0 = some (x + 4) := h.2.2.2 (3, 0, 4) (by decide)
theorem hs_P3_1 (h : xHs G A x) : A.P (x + 3) 1 = some (x + 5) := h.2.2.2 (3, 1, 5) (by decide)
theorem hs_P3_2 (h : xHs G A x) : A.P (x + 3) 2 = some (x + 6) := h.2.2.2 (3, 2, 6) (by decide)
theorem hs_P3_3 (h : xHs G A x) : A.P (x + 3) 3 = some (x + 7) := h.2.2.2 (3, 3, 7) (by decide)
theorem hs_P3_4 (h : xHs G A x) : A.P (x + 3) 4 = some (x + 8) := h.2.2.2 (3, 4, 8) (by decide)
theorem hs_P3_5 (h : xHs G A x) : A.P (x + 3) 5 = some (x + 9) := h.2.2.2 (3, 5, 9) (by decide)
theorem hs_P3_6 (h : xHs G A x) : A.P (x + 3) 6 = some (x + 10) := h.2.2.2 (3, 6, 10) (by decide)
theorem hs_P12_0 (h : xHs G A x) : A.P (x + 12) 0 = some (x + 13) := h.2.2.2 (12, 0, 13) (by decide)
theorem hs_P14_0 (h : xHs G A x) : A.P (x + 14) 0 = some (x + 15) := h.2.2.2 (14, 0, 15) (by decide)
theorem hs_P14_1 (h : xHs G A x) : A.P (x + 14) 1 = some (x + 16) := h.2.2.2 (14, 1, 16) (by decide)
theorem hs_P14_15 (h : xHs G A x) : A.P (x + 14) 15 = some (x + 17) := h.2.2.2 (14, 15, 17) (by decide)
theorem hs_P22_0 (h : xHs G A x) : A.P (x + 22) 0 = some (x + 18) := h.2.2.2 (22, 0, 18) (by decide)
theorem hs_P22_3 (h : xHs G A x) : A.P (x + 22) 3 = some (x + 24) := h.2.2.2 (22, 3, 24) (by decide)
theorem hs_P41_0 (h : xHs G A x) : A.P (x + 41) 0 = some (x + 35) := h.2.2.2 (41, 0, 35) (by decide)
theorem hs_P41_1 (h : xHs G A x) : A.P (x + 41) 1 = some (x + 43) := h.2.2.2 (41, 1, 43) (by decide)
theorem hs_P41_7 (h : xHs G A x) : A.P (x + 41) 7 = some (x + 42) := h.2.2.2 (41, 7, 42) (by decide)
theorem hs_P43_0 (h : xHs G A x) : A.P (x + 43) 0 = some (x + 18) := h.2.2.2 (43, 0, 18) (by decide)
theorem hs_P56_1 (h : xHs G A x) : A.P (x + 56) 1 = some (x + 57) := h.2.2.2 (56, 1, 57) (by decide)
theorem hs_P58_0 (h : xHs G A x) : A.P (x + 58) 0 = some (x + 61) := h.2.2.2 (58, 0, 61) (by decide)
theorem hs_P58_1 (h : xHs G A x) : A.P (x + 58) 1 = some (x + 59) := h.2.2.2 (58, 1, 59) (by decide)
theorem xHs.wI (h : xHs G A x) (J : xII) : xHs G (A.wI J) x := h
theorem xHs.frm {B : xA} {S : Nat → Prop} (h : xHs G A x) (hf : xFrm S A B) (hP : ∀ q ∈ hRef, B.P (x + q.1) q.2.1 = A.P (x + q.1) q.2.1) : xHs G B x := by
  refine ⟨h.1, Nat.le_trans h.2.1 hf.1, fun q hq => ?_, fun q hq => by rw [hP q hq]; exact h.2.2.2 q hq⟩
  have hlt : x + q.1 < A.n := by
    have h1 : ∀ q ∈ hTag, q.1 < 110 := by decide
    have := h1 q hq
    have := h.2.1
    omega
  obtain ⟨⟨e1, e2, -⟩, -⟩ := hf.2.2 _ hlt
  rw [e1, e2]
  exact h.2.2.1 q hq
end HS
