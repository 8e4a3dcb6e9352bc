/-! ===== the Model: how it lies, and rows for its walks (tools/gen028.py) ===== -/
set_option maxRecDepth 100000
abbrev xII : Type := Nat → Nat → Int32
/-- the Model at m, its arrays behind it -/
def mTab : List (Nat × Nat × Nat × Nat) := [(0, 1, 200, 4000), (1, 2, 200, 4000), (4, 3, 200, 4002), (5, 4, 200, 4002), (6, 5, 200, 4002), (9, 6, 200, 2100), (10, 7, 200, 2100), (11, 8, 200, 2100), (12, 9, 200, 64), (16, 10, 200, 900), (17, 11, 200, 900), (18, 12, 200, 900), (19, 13, 200, 900), (20, 14, 200, 900), (21, 15, 200, 900), (22, 16, 203, 900), (23, 17, 203, 900), (25, 18, 200, 500), (26, 19, 200, 500), (27, 20, 200, 500), (28, 21, 200, 500), (29, 22, 200, 500), (30, 23, 200, 500), (31, 24, 200, 500), (32, 25, 200, 500), (33, 26, 203, 500), (34, 27, 200, 900), (38, 28, 200, 2001), (39, 29, 200, 2001), (40, 30, 203, 2001), (41, 31, 200, 8008), (56, 32, 200, 9000), (57, 33, 200, 9000), (58, 34, 200, 9000), (59, 35, 200, 9000), (67, 36, 200, 600), (68, 37, 200, 600), (69, 38, 200, 600), (71, 39, 200, 280000), (88, 40, 200, 500), (89, 41, 200, 2000), (90, 42, 200, 20000), (91, 43, 200, 520), (92, 44, 200, 520), (93, 45, 200, 520), (94, 46, 200, 4096), (95, 47, 200, 33)]
def xMo (G : xG) (A : xA) (m : Nat) : Prop := A.tg m = 13 ∧ G.N ≤ m ∧ ∀ q ∈ mTab, A.P m q.1 = some (m + q.2.1) ∧ A.tg (m + q.2.1) = q.2.2.1 ∧ A.ln (m + q.2.1) = q.2.2.2
theorem mo_t {G : xG} {A : xA} {m : Nat} (h : xMo G A m) : A.tg m = 13 := h.1
theorem mo_N {G : xG} {A : xA} {m : Nat} (h : xMo G A m) : G.N ≤ m := h.2.1
theorem mo_aN {G : xG} {A : xA} {m j : Nat} (h : xMo G A m) : G.N ≤ m + j := Nat.le_trans h.2.1 (Nat.le_add_right _ _)
theorem mo_P0 {G : xG} {A : xA} {m : Nat} (h : xMo G A m) : A.P m 0 = some (m + 1) := (h.2.2 (0, 1, 200, 4000) (by decide)).1
theorem mo_t0 {G : xG} {A : xA} {m : Nat} (h : xMo G A m) : A.tg (m + 1) = 200 := (h.2.2 (0, 1, 200, 4000) (by decide)).2.1
theorem mo_n0 {G : xG} {A : xA} {m : Nat} (h : xMo G A m) : A.ln (m + 1) = 4000 := (h.2.2 (0, 1, 200, 4000) (by decide)).2.2
theorem mo_b0 {G : xG} {A : xA} {m : Nat} (h : xMo G A m) {i : Int32} (hi : vp_in i 4000) : vp_in i (A.ln (m + 1)) := by rw [mo_n0 h]; exact hi
theorem mo_P1 {G : xG} {A : xA} {m : Nat} (h : xMo G A m) : A.P m 1 = some (m + 2) := (h.2.2 (1, 2, 200, 4000) (by decide)).1
theorem mo_t1 {G : xG} {A : xA} {m : Nat} (h : xMo G A m) : A.tg (m + 2) = 200 := (h.2.2 (1, 2, 200, 4000) (by decide)).2.1
theorem mo_n1 {G : xG} {A : xA} {m : Nat} (h : xMo G A m) : A.ln (m + 2) = 4000 := (h.2.2 (1, 2, 200, 4000) (by decide)).2.2
theorem mo_b1 {G : xG} {A : xA} {m : Nat} (h : xMo G A m) {i : Int32} (hi : vp_in i 4000) : vp_in i (A.ln (m + 2)) := by rw [mo_n1 h]; exact hi
theorem mo_P4 {G : xG} {A : xA} {m : Nat} (h : xMo G A m) : A.P m 4 = some (m + 3) := (h.2.2 (4, 3, 200, 4002) (by decide)).1
theorem mo_t4 {G : xG} {A : xA} {m : Nat} (h : xMo G A m) : A.tg (m + 3) = 200 := (h.2.2 (4, 3, 200, 4002) (by decide)).2.1
theorem mo_n4 {G : xG} {A : xA} {m : Nat} (h : xMo G A m) : A.ln (m + 3) = 4002 := (h.2.2 (4, 3, 200, 4002) (by decide)).2.2
theorem mo_b4 {G : xG} {A : xA} {m : Nat} (h : xMo G A m) {i : Int32} (hi : vp_in i 4002) : vp_in i (A.ln (m + 3)) := by rw [mo_n4 h]; exact hi
theorem mo_P5 {G : xG} {A : xA} {m : Nat} (h : xMo G A m) : A.P m 5 = some (m + 4) := (h.2.2 (5, 4, 200, 4002) (by decide)).1
theorem mo_t5 {G : xG} {A : xA} {m : Nat} (h : xMo G A m) : A.tg (m + 4) = 200 := (h.2.2 (5, 4, 200, 4002) (by decide)).2.1
theorem mo_n5 {G : xG} {A : xA} {m : Nat} (h : xMo G A m) : A.ln (m + 4) = 4002 := (h.2.2 (5, 4, 200, 4002) (by decide)).2.2
theorem mo_b5 {G : xG} {A : xA} {m : Nat} (h : xMo G A m) {i : Int32} (hi : vp_in i 4002) : vp_in i (A.ln (m + 4)) := by rw [mo_n5 h]; exact hi
theorem mo_P6 {G : xG} {A : xA} {m : Nat} (h : xMo G A m) : A.P m 6 = some (m + 5) := (h.2.2 (6, 5, 200, 4002) (by decide)).1
theorem mo_t6 {G : xG} {A : xA} {m : Nat} (h : xMo G A m) : A.tg (m + 5) = 200 := (h.2.2 (6, 5, 200, 4002) (by decide)).2.1
theorem mo_n6 {G : xG} {A : xA} {m : Nat} (h : xMo G A m) : A.ln (m + 5) = 4002 := (h.2.2 (6, 5, 200, 4002) (by decide)).2.2
theorem mo_b6 {G : xG} {A : xA} {m : Nat} (h : xMo G A m) {i : Int32} (hi : vp_in i 4002) : vp_in i (A.ln (m + 5)) := by rw [mo_n6 h]; exact hi
theorem mo_P9 {G : xG} {A : xA} {m : Nat} (h : xMo G A m) : A.P m 9 = some (m + 6) := (h.2.2 (9, 6, 200, 2100) (by decide)).1
theorem mo_t9 {G : xG} {A : xA} {m : Nat} (h : xMo G A m) : A.tg (m + 6) = 200 := (h.2.2 (9, 6, 200, 2100) (by decide)).2.1
theorem mo_n9 {G : xG} {A : xA} {m : Nat} (h : xMo G A m) : A.ln (m + 6) = 2100 := (h.2.2 (9, 6, 200, 2100) (by decide)).2.2
theorem mo_b9 {G : xG} {A : xA} {m : Nat} (h : xMo G A m) {i : Int32} (hi : vp_in i 2100) : vp_in i (A.ln (m + 6)) := by rw [mo_n9 h]; exact hi
theorem mo_P10 {G : xG} {A : xA} {m : Nat} (h : xMo G A m) : A.P m 10 = some (m + 7) := (h.2.2 (10, 7, 200, 2100) (by decide)).1
theorem mo_t10 {G : xG} {A : xA} {m : Nat} (h : xMo G A m) : A.tg (m + 7) = 200 := (h.2.2 (10, 7, 200, 2100) (by decide)).2.1
theorem mo_n10 {G : xG} {A : xA} {m : Nat} (h : xMo G A m) : A.ln (m + 7) = 2100 := (h.2.2 (10, 7, 200, 2100) (by decide)).2.2
theorem mo_b10 {G : xG} {A : xA} {m : Nat} (h : xMo G A m) {i : Int32} (hi : vp_in i 2100) : vp_in i (A.ln (m + 7)) := by rw [mo_n10 h]; exact hi
theorem mo_P11 {G : xG} {A : xA} {m : Nat} (h : xMo G A m) : A.P m 11 = some (m + 8) := (h.2.2 (11, 8, 200, 2100) (by decide)).1
theorem mo_t11 {G : xG} {A : xA} {m : Nat} (h : xMo G A m) : A.tg (m + 8) = 200 := (h.2.2 (11, 8, 200, 2100) (by decide)).2.1
theorem mo_n11 {G : xG} {A : xA} {m : Nat} (h : xMo G A m) : A.ln (m + 8) = 2100 := (h.2.2 (11, 8, 200, 2100) (by decide)).2.2
theorem mo_b11 {G : xG} {A : xA} {m : Nat} (h : xMo G A m) {i : Int32} (hi : vp_in i 2100) : vp_in i (A.ln (m + 8)) := by rw [mo_n11 h]; exact hi
theorem mo_P12 {G : xG} {A : xA} {m : Nat} (h : xMo G A m) : A.P m 12 = some (m + 9) := (h.2.2 (12, 9, 200, 64) (by decide)).1
theorem mo_t12 {G : xG} {A : xA} {m : Nat} (h : xMo G A m) : A.tg (m + 9) = 200 := (h.2.2 (12, 9, 200, 64) (by decide)).2.1
theorem mo_n12 {G : xG} {A : xA} {m : Nat} (h : xMo G A m) : A.ln (m + 9) = 64 := (h.2.2 (12, 9, 200, 64) (by decide)).2.2
theorem mo_b12 {G : xG} {A : xA} {m : Nat} (h : xMo G A m) {i : Int32} (hi : vp_in i 64) : vp_in i (A.ln (m + 9)) := by rw [mo_n12 h]; exact hi
theorem mo_P16 {G : xG} {A : xA} {m : Nat} (h : xMo G A m) : A.P m 16 = some (m + 10) := (h.2.2 (16, 10, 200, 900) (by decide)).1
theorem mo_t16 {G : xG} {A : xA} {m : Nat} (h : xMo G A m) : A.tg (m + 10) = 200 := (h.2.2 (16, 10, 200, 900) (by decide)).2.1
theorem mo_n16 {G : xG} {A : xA} {m : Nat} (h : xMo G A m) : A.ln (m + 10) = 900 := (h.2.2 (16, 10, 200, 900) (by decide)).2.2
theorem mo_b16 {G : xG} {A : xA} {m : Nat} (h : xMo G A m) {i : Int32} (hi : vp_in i 900) : vp_in i (A.ln (m + 10)) := by rw [mo_n16 h]; exact hi
theorem mo_P17 {G : xG} {A : xA} {m : Nat} (h : xMo G A m) : A.P m 17 = some (m + 11) := (h.2.2 (17, 11, 200, 900) (by decide)).1
theorem mo_t17 {G : xG} {A : xA} {m : Nat} (h : xMo G A m) : A.tg (m + 11) = 200 := (h.2.2 (17, 11, 200, 900) (by decide)).2.1
theorem mo_n17 {G : xG} {A : xA} {m : Nat} (h : xMo G A m) : A.ln (m + 11) = 900 := (h.2.2 (17, 11, 200, 900) (by decide)).2.2
theorem mo_b17 {G : xG} {A : xA} {m : Nat} (h : xMo G A m) {i : Int32} (hi : vp_in i 900) : vp_in i (A.ln (m + 11)) := by rw [mo_n17 h]; exact hi
theorem mo_P18 {G : xG} {A : xA} {m : Nat} (h : xMo G A m) : A.P m 18 = some (m + 12) := (h.2.2 (18, 12, 200, 900) (by decide)).1
theorem mo_t18 {G : xG} {A : xA} {m : Nat} (h : xMo G A m) : A.tg (m + 12) = 200 := (h.2.2 (18, 12, 200, 900) (by decide)).2.1
theorem mo_n18 {G : xG} {A : xA} {m : Nat} (h : xMo G A m) : A.ln (m + 12) = 900 := (h.2.2 (18, 12, 200, 900) (by decide)).2.2
theorem mo_b18 {G : xG} {A : xA} {m : Nat} (h : xMo G A m) {i : Int32} (hi : vp_in i 900) : vp_in i (A.ln (m + 12)) := by rw [mo_n18 h]; exact hi
theorem mo_P19 {G : xG} {A : xA} {m : Nat} (h : xMo G A m) : A.P m 19 = some (m + 13) := (h.2.2 (19, 13, 200, 900) (by decide)).1
theorem mo_t19 {G : xG} {A : xA} {m : Nat} (h : xMo G A m) : A.tg (m + 13) = 200 := (h.2.2 (19, 13, 200, 900) (by decide)).2.1
theorem mo_n19 {G : xG} {A : xA} {m : Nat} (h : xMo G A m) : A.ln (m + 13) = 900 := (h.2.2 (19, 13, 200, 900) (by decide)).2.2
theorem mo_b19 {G : xG} {A : xA} {m : Nat} (h : xMo G A m) {i : Int32} (hi : vp_in i 900) : vp_in i (A.ln (m + 13)) := by rw [mo_n19 h]; exact hi
theorem mo_P20 {G : xG} {A : xA} {m : Nat} (h : xMo G A m) : A.P m 20 = some (m + 14) := (h.2.2 (20, 14, 200, 900) (by decide)).1
theorem mo_t20 {G : xG} {A : xA} {m : Nat} (h : xMo G A m) : A.tg (m + 14) = 200 := (h.2.2 (20, 14, 200, 900) (by decide)).2.1
theorem mo_n20 {G : xG} {A : xA} {m : Nat} (h : xMo G A m) : A.ln (m + 14) = 900 := (h.2.2 (20, 14, 200, 900) (by decide)).2.2
theorem mo_b20 {G : xG} {A : xA} {m : Nat} (h : xMo G A m) {i : Int32} (hi : vp_in i 900) : vp_in i (A.ln (m + 14)) := by rw [mo_n20 h]; exact hi
theorem mo_P21 {G : xG} {A : xA} {m : Nat} (h : xMo G A m) : A.P m 21 = some (m + 15) := (h.2.2 (21, 15, 200, 900) (by decide)).1
theorem mo_t21 {G : xG} {A : xA} {m : Nat} (h : xMo G A m) : A.tg (m + 15) = 200 := (h.2.2 (21, 15, 200, 900) (by decide)).2.1
theorem mo_n21 {G : xG} {A : xA} {m : Nat} (h : xMo G A m) : A.ln (m + 15) = 900 := (h.2.2 (21, 15, 200, 900) (by decide)).2.2
theorem mo_b21 {G : xG} {A : xA} {m : Nat} (h : xMo G A m) {i : Int32} (hi : vp_in i 900) : vp_in i (A.ln (m + 15)) := by rw [mo_n21 h]; exact hi
theorem mo_P22 {G : xG} {A : xA} {m : Nat} (h : xMo G A m) : A.P m 22 = some (m + 16) := (h.2.2 (22, 16, 203, 900) (by decide)).1
theorem mo_t22 {G : xG} {A : xA} {m : Nat} (h : xMo G A m) : A.tg (m + 16) = 203 := (h.2.2 (22, 16, 203, 900) (by decide)).2.1
theorem mo_n22 {G : xG} {A : xA} {m : Nat} (h : xMo G A m) : A.ln (m + 16) = 900 := (h.2.2 (22, 16, 203, 900) (by decide)).2.2
theorem mo_b22 {G : xG} {A : xA} {m : Nat} (h : xMo G A m) {i : Int32} (hi : vp_in i 900) : vp_in i (A.ln (m + 16)) := by rw [mo_n22 h]; exact hi
theorem mo_P23 {G : xG} {A : xA} {m : Nat} (h : xMo G A m) : A.P m 23 = some (m + 17) := (h.2.2 (23, 17, 203, 900) (by decide)).1
theorem mo_t23 {G : xG} {A : xA} {m : Nat} (h : xMo G A m) : A.tg (m + 17) = 203 := (h.2.2 (23, 17, 203, 900) (by decide)).2.1
theorem mo_n23 {G : xG} {A : xA} {m : Nat} (h : xMo G A m) : A.ln (m + 17) = 900 := (h.2.2 (23, 17, 203, 900) (by decide)).2.2
theorem mo_b23 {G : xG} {A : xA} {m : Nat} (h : xMo G A m) {i : Int32} (hi : vp_in i 900) : vp_in i (A.ln (m + 17)) := by rw [mo_n23 h]; exact hi
theorem mo_P25 {G : xG} {A : xA} {m : Nat} (h : xMo G A m) : A.P m 25 = some (m + 18) := (h.2.2 (25, 18, 200, 500) (by decide)).1
theorem mo_t25 {G : xG} {A : xA} {m : Nat} (h : xMo G A m) : A.tg (m + 18) = 200 := (h.2.2 (25, 18, 200, 500) (by decide)).2.1
theorem mo_n25 {G : xG} {A : xA} {m : Nat} (h : xMo G A m) : A.ln (m + 18) = 500 := (h.2.2 (25, 18, 200, 500) (by decide)).2.2
theorem mo_b25 {G : xG} {A : xA} {m : Nat} (h : xMo G A m) {i : Int32} (hi : vp_in i 500) : vp_in i (A.ln (m + 18)) := by rw [mo_n25 h]; exact hi
theorem mo_P26 {G : xG} {A : xA} {m : Nat} (h : xMo G A m) : A.P m 26 = some (m + 19) := (h.2.2 (26, 19, 200, 500) (by decide)).1
theorem mo_t26 {G : xG} {A : xA} {m : Nat} (h : xMo G A m) : A.tg (m + 19) = 200 := (h.2.2 (26, 19, 200, 500) (by decide)).2.1
theorem mo_n26 {G : xG} {A : xA} {m : Nat} (h : xMo G A m) : A.ln (m + 19) = 500 := (h.2.2 (26, 19, 200, 500) (by decide)).2.2
theorem mo_b26 {G : xG} {A : xA} {m : Nat} (h : xMo G A m) {i : Int32} (hi : vp_in i 500) : vp_in i (A.ln (m + 19)) := by rw [mo_n26 h]; exact hi
theorem mo_P27 {G : xG} {A : xA} {m : Nat} (h : xMo G A m) : A.P m 27 = some (m + 20) := (h.2.2 (27, 20, 200, 500) (by decide)).1
theorem mo_t27 {G : xG} {A : xA} {m : Nat} (h : xMo G A m) : A.tg (m + 20) = 200 := (h.2.2 (27, 20, 200, 500) (by decide)).2.1
theorem mo_n27 {G : xG} {A : xA} {m : Nat} (h : xMo G A m) : A.ln (m + 20) = 500 := (h.2.2 (27, 20, 200, 500) (by decide)).2.2
theorem mo_b27 {G : xG} {A : xA} {m : Nat} (h : xMo G A m) {i : Int32} (hi : vp_in i 500) : vp_in i (A.ln (m + 20)) := by rw [mo_n27 h]; exact hi
theorem mo_P28 {G : xG} {A : xA} {m : Nat} (h : xMo G A m) : A.P m 28 = some (m + 21) := (h.2.2 (28, 21, 200, 500) (by decide)).1
theorem mo_t28 {G : xG} {A : xA} {m : Nat} (h : xMo G A m) : A.tg (m + 21) = 200 := (h.2.2 (28, 21, 200, 500) (by decide)).2.1
theorem mo_n28 {G : xG} {A : xA} {m : Nat} (h : xMo G A m) : A.ln (m + 21) = 500 := (h.2.2 (28, 21, 200, 500) (by decide)).2.2
theorem mo_b28 {G : xG} {A : xA} {m : Nat} (h : xMo G A m) {i : Int32} (hi : vp_in i 500) : vp_in i (A.ln (m + 21)) := by rw [mo_n28 h]; exact hi
theorem mo_P29 {G : xG} {A : xA} {m : Nat} (h : xMo G A m) : A.P m 29 = some (m + 22) := (h.2.2 (29, 22, 200, 500) (by decide)).1
theorem mo_t29 {G : xG} {A : xA} {m : Nat} (h : xMo G A m) : A.tg (m + 22) = 200 := (h.2.2 (29, 22, 200, 500) (by decide)).2.1
theorem mo_n29 {G : xG} {A : xA} {m : Nat} (h : xMo G A m) : A.ln (m + 22) = 500 := (h.2.2 (29, 22, 200, 500) (by decide)).2.2
theorem mo_b29 {G : xG} {A : xA} {m : Nat} (h : xMo G A m) {i : Int32} (hi : vp_in i 500) : vp_in i (A.ln (m + 22)) := by rw [mo_n29 h]; exact hi
theorem mo_P30 {G : xG} {A : xA} {m : Nat} (h : xMo G A m) : A.P m 30 = some (m + 23) := (h.2.2 (30, 23, 200, 500) (by decide)).1
theorem mo_t30 {G : xG} {A : xA} {m : Nat} (h : xMo G A m) : A.tg (m + 23) = 200 := (h.2.2 (30, 23, 200, 500) (by decide)).2.1
theorem mo_n30 {G : xG} {A : xA} {m : Nat} (h : xMo G A m) : A.ln (m + 23) = 500 := (h.2.2 (30, 23, 200, 500) (by decide)).2.2
theorem mo_b30 {G : xG} {A : xA} {m : Nat} (h : xMo G A m) {i : Int32} (hi : vp_in i 500) : vp_in i (A.ln (m + 23)) := by rw [mo_n30 h]; exact hi
theorem mo_P31 {G : xG} {A : xA} {m : Nat} (h : xMo G A m) : A.P m 31 = some (m + 24) := (h.2.2 (31, 24, 200, 500) (by decide)).1
theorem mo_t31 {G : xG} {A : xA} {m : Nat} (h : xMo G A m) : A.tg (m + 24) = 200 := (h.2.2 (31, 24, 200, 500) (by decide)).2.1
theorem mo_n31 {G : xG} {A : xA} {m : Nat} (h : xMo G A m) : A.ln (m + 24) = 500 := (h.2.2 (31, 24, 200, 500) (by decide)).2.2
theorem mo_b31 {G : xG} {A : xA} {m : Nat} (h : xMo G A m) {i : Int32} (hi : vp_in i 500) : vp_in i (A.ln (m + 24)) := by rw [mo_n31 h]; exact hi
theorem mo_P32 {G : xG} {A : xA} {m : Nat} (h : xMo G A m) : A.P m 32 = some (m + 25) := (h.2.2 (32, 25, 200, 500) (by decide)).1
theorem mo_t32 {G : xG} {A : xA} {m : Nat} (h : xMo G A m) : A.tg (m + 25) = 200 := (h.2.2 (32, 25, 200, 500) (by decide)).2.1
theorem mo_n32 {G : xG} {A : xA} {m : Nat} (h : xMo G A m) : A.ln (m + 25) = 500 := (h.2.2 (32, 25, 200, 500) (by decide)).2.2
theorem mo_b32 {G : xG} {A : xA} {m : Nat} (h : xMo G A m) {i : Int32} (hi : vp_in i 500) : vp_in i (A.ln (m + 25)) := by rw [mo_n32 h]; exact hi
theorem mo_P33 {G : xG} {A : xA} {m : Nat} (h : xMo G A m) : A.P m 33 = some (m + 26) := (h.2.2 (33, 26, 203, 500) (by decide)).1
theorem mo_t33 {G : xG} {A : xA} {m : Nat} (h : xMo G A m) : A.tg (m + 26) = 203 := (h.2.2 (33, 26, 203, 500) (by decide)).2.1
theorem mo_n33 {G : xG} {A : xA} {m : Nat} (h : xMo G A m) : A.ln (m + 26) = 500 := (h.2.2 (33, 26, 203, 500) (by decide)).2.2
theorem mo_b33 {G : xG} {A : xA} {m : Nat} (h : xMo G A m) {i : Int32} (hi : vp_in i 500) : vp_in i (A.ln (m + 26)) := by rw [mo_n33 h]; exact hi
theorem mo_P34 {G : xG} {A : xA} {m : Nat} (h : xMo G A m) : A.P m 34 = some (m + 27) := (h.2.2 (34, 27, 200, 900) (by decide)).1
theorem mo_t34 {G : xG} {A : xA} {m : Nat} (h : xMo G A m) : A.tg (m + 27) = 200 := (h.2.2 (34, 27, 200, 900) (by decide)).2.1
theorem mo_n34 {G : xG} {A : xA} {m : Nat} (h : xMo G A m) : A.ln (m + 27) = 900 := (h.2.2 (34, 27, 200, 900) (by decide)).2.2
theorem mo_b34 {G : xG} {A : xA} {m : Nat} (h : xMo G A m) {i : Int32} (hi : vp_in i 900) : vp_in i (A.ln (m + 27)) := by rw [mo_n34 h]; exact hi
theorem mo_P38 {G : xG} {A : xA} {m : Nat} (h : xMo G A m) : A.P m 38 = some (m + 28) := (h.2.2 (38, 28, 200, 2001) (by decide)).1
theorem mo_t38 {G : xG} {A : xA} {m : Nat} (h : xMo G A m) : A.tg (m + 28) = 200 := (h.2.2 (38, 28, 200, 2001) (by decide)).2.1
theorem mo_n38 {G : xG} {A : xA} {m : Nat} (h : xMo G A m) : A.ln (m + 28) = 2001 := (h.2.2 (38, 28, 200, 2001) (by decide)).2.2
theorem mo_b38 {G : xG} {A : xA} {m : Nat} (h : xMo G A m) {i : Int32} (hi : vp_in i 2001) : vp_in i (A.ln (m + 28)) := by rw [mo_n38 h]; exact hi
theorem mo_P39 {G : xG} {A : xA} {m : Nat} (h : xMo G A m) : A.P m 39 = some (m + 29) := (h.2.2 (39, 29, 200, 2001) (by decide)).1
theorem mo_t39 {G : xG} {A : xA} {m : Nat} (h : xMo G A m) : A.tg (m + 29) = 200 := (h.2.2 (39, 29, 200, 2001) (by decide)).2.1
theorem mo_n39 {G : xG} {A : xA} {m : Nat} (h : xMo G A m) : A.ln (m + 29) = 2001 := (h.2.2 (39, 29, 200, 2001) (by decide)).2.2
theorem mo_b39 {G : xG} {A : xA} {m : Nat} (h : xMo G A m) {i : Int32} (hi : vp_in i 2001) : vp_in i (A.ln (m + 29)) := by rw [mo_n39 h]; exact hi
theorem mo_P40 {G : xG} {A : xA} {m : Nat} (h : xMo G A m) : A.P m 40 = some (m + 30) := (h.2.2 (40, 30, 203, 2001) (by decide)).1
theorem mo_t40 {G : xG} {A : xA} {m : Nat} (h : xMo G A m) : A.tg (m + 30) = 203 := (h.2.2 (40, 30, 203, 2001) (by decide)).2.1
theorem mo_n40 {G : xG} {A : xA} {m : Nat} (h : xMo G A m) : A.ln (m + 30) = 2001 := (h.2.2 (40, 30, 203, 2001) (by decide)).2.2
theorem mo_b40 {G : xG} {A : xA} {m : Nat} (h : xMo G A m) {i : Int32} (hi : vp_in i 2001) : vp_in i (A.ln (m + 30)) := by rw [mo_n40 h]; exact hi
theorem mo_P41 {G : xG} {A : xA} {m : Nat} (h : xMo G A m) : A.P m 41 = some (m + 31) := (h.2.2 (41, 31, 200, 8008) (by decide)).1
theorem mo_t41 {G : xG} {A : xA} {m : Nat} (h : xMo G A m) : A.tg (m + 31) = 200 := (h.2.2 (41, 31, 200, 8008) (by decide)).2.1
theorem mo_n41 {G : xG} {A : xA} {m : Nat} (h : xMo G A m) : A.ln (m + 31) = 8008 := (h.2.2 (41, 31, 200, 8008) (by decide)).2.2
theorem mo_b41 {G : xG} {A : xA} {m : Nat} (h : xMo G A m) {i : Int32} (hi : vp_in i 8008) : vp_in i (A.ln (m + 31)) := by rw [mo_n41 h]; exact hi
theorem mo_P56 {G : xG} {A : xA} {m : Nat} (h : xMo G A m) : A.P m 56 = some (m + 32) := (h.2.2 (56, 32, 200, 9000) (by decide)).1
theorem mo_t56 {G : xG} {A : xA} {m : Nat} (h : xMo G A m) : A.tg (m + 32) = 200 := (h.2.2 (56, 32, 200, 9000) (by decide)).2.1
theorem mo_n56 {G : xG} {A : xA} {m : Nat} (h : xMo G A m) : A.ln (m + 32) = 9000 := (h.2.2 (56, 32, 200, 9000) (by decide)).2.2
theorem mo_b56 {G : xG} {A : xA} {m : Nat} (h : xMo G A m) {i : Int32} (hi : vp_in i 9000) : vp_in i (A.ln (m + 32)) := by rw [mo_n56 h]; exact hi
theorem mo_P57 {G : xG} {A : xA} {m : Nat} (h : xMo G A m) : A.P m 57 = some (m + 33) := (h.2.2 (57, 33, 200, 9000) (by decide)).1
theorem mo_t57 {G : xG} {A : xA} {m : Nat} (h : xMo G A m) : A.tg (m + 33) = 200 := (h.2.2 (57, 33, 200, 9000) (by decide)).2.1
theorem mo_n57 {G : xG} {A : xA} {m : Nat} (h : xMo G A m) : A.ln (m + 33) = 9000 := (h.2.2 (57, 33, 200, 9000) (by decide)).2.2
theorem mo_b57 {G : xG} {A : xA} {m : Nat} (h : xMo G A m) {i : Int32} (hi : vp_in i 9000) : vp_in i (A.ln (m + 33)) := by rw [mo_n57 h]; exact hi
theorem mo_P58 {G : xG} {A : xA} {m : Nat} (h : xMo G A m) : A.P m 58 = some (m + 34) := (h.2.2 (58, 34, 200, 9000) (by decide)).1
theorem mo_t58 {G : xG} {A : xA} {m : Nat} (h : xMo G A m) : A.tg (m + 34) = 200 := (h.2.2 (58, 34, 200, 9000) (by decide)).2.1
theorem mo_n58 {G : xG} {A : xA} {m : Nat} (h : xMo G A m) : A.ln (m + 34) = 9000 := (h.2.2 (58, 34, 200, 9000) (by decide)).2.2
theorem mo_b58 {G : xG} {A : xA} {m : Nat} (h : xMo G A m) {i : Int32} (hi : vp_in i 9000) : vp_in i (A.ln (m + 34)) := by rw [mo_n58 h]; exact hi
theorem mo_P59 {G : xG} {A : xA} {m : Nat} (h : xMo G A m) : A.P m 59 = some (m + 35) := (h.2.2 (59, 35, 200, 9000) (by decide)).1
theorem mo_t59 {G : xG} {A : xA} {m : Nat} (h : xMo G A m) : A.tg (m + 35) = 200 := (h.2.2 (59, 35, 200, 9000) (by decide)).2.1
theorem mo_n59 {G : xG} {A : xA} {m : Nat} (h : xMo G A m) : A.ln (m + 35) = 9000 := (h.2.2 (59, 35, 200, 9000) (by decide)).2.2
theorem mo_b59 {G : xG} {A : xA} {m : Nat} (h : xMo G A m) {i : Int32} (hi : vp_in i 9000) : vp_in i (A.ln (m + 35)) := by rw [mo_n59 h]; exact hi
theorem mo_P67 {G : xG} {A : xA} {m : Nat} (h : xMo G A m) : A.P m 67 = some (m + 36) := (h.2.2 (67, 36, 200, 600) (by decide)).1
theorem mo_t67 {G : xG} {A : xA} {m : Nat} (h : xMo G A m) : A.tg (m + 36) = 200 := (h.2.2 (67, 36, 200, 600) (by decide)).2.1
theorem mo_n67 {G : xG} {A : xA} {m : Nat} (h : xMo G A m) : A.ln (m + 36) = 600 := (h.2.2 (67, 36, 200, 600) (by decide)).2.2
theorem mo_b67 {G : xG} {A : xA} {m : Nat} (h : xMo G A m) {i : Int32} (hi : vp_in i 600) : vp_in i (A.ln (m + 36)) := by rw [mo_n67 h]; exact hi
theorem mo_P68 {G : xG} {A : xA} {m : Nat} (h : xMo G A m) : A.P m 68 = some (m + 37) := (h.2.2 (68, 37, 200, 600) (by decide)).1
theorem mo_t68 {G : xG} {A : xA} {m : Nat} (h : xMo G A m) : A.tg (m + 37) = 200 := (h.2.2 (68, 37, 200, 600) (by decide)).2.1
theorem mo_n68 {G : xG} {A : xA} {m : Nat} (h : xMo G A m) : A.ln (m + 37) = 600 := (h.2.2 (68, 37, 200, 600) (by decide)).2.2
theorem mo_b68 {G : xG} {A : xA} {m : Nat} (h : xMo G A m) {i : Int32} (hi : vp_in i 600) : vp_in i (A.ln (m + 37)) := by rw [mo_n68 h]; exact hi
theorem mo_P69 {G : xG} {A : xA} {m : Nat} (h : xMo G A m) : A.P m 69 = some (m + 38) := (h.2.2 (69, 38, 200, 600) (by decide)).1
theorem mo_t69 {G : xG} {A : xA} {m : Nat} (h : xMo G A m) : A.tg (m + 38) = 200 := (h.2.2 (69, 38, 200, 600) (by decide)).2.1
theorem mo_n69 {G : xG} {A : xA} {m : Nat} (h : xMo G A m) : A.ln (m + 38) = 600 := (h.2.2 (69, 38, 200, 600) (by decide)).2.2
theorem mo_b69 {G : xG} {A : xA} {m : Nat} (h : xMo G A m) {i : Int32} (hi : vp_in i 600) : vp_in i (A.ln (m + 38)) := by rw [mo_n69 h]; exact hi
theorem mo_P71 {G : xG} {A : xA} {m : Nat} (h : xMo G A m) : A.P m 71 = some (m + 39) := (h.2.2 (71, 39, 200, 280000) (by decide)).1
theorem mo_t71 {G : xG} {A : xA} {m : Nat} (h : xMo G A m) : A.tg (m + 39) = 200 := (h.2.2 (71, 39, 200, 280000) (by decide)).2.1
theorem mo_n71 {G : xG} {A : xA} {m : Nat} (h : xMo G A m) : A.ln (m + 39) = 280000 := (h.2.2 (71, 39, 200, 280000) (by decide)).2.2
theorem mo_b71 {G : xG} {A : xA} {m : Nat} (h : xMo G A m) {i : Int32} (hi : vp_in i 280000) : vp_in i (A.ln (m + 39)) := by rw [mo_n71 h]; exact hi
theorem mo_P88 {G : xG} {A : xA} {m : Nat} (h : xMo G A m) : A.P m 88 = some (m + 40) := (h.2.2 (88, 40, 200, 500) (by decide)).1
theorem mo_t88 {G : xG} {A : xA} {m : Nat} (h : xMo G A m) : A.tg (m + 40) = 200 := (h.2.2 (88, 40, 200, 500) (by decide)).2.1
theorem mo_n88 {G : xG} {A : xA} {m : Nat} (h : xMo G A m) : A.ln (m + 40) = 500 := (h.2.2 (88, 40, 200, 500) (by decide)).2.2
theorem mo_b88 {G : xG} {A : xA} {m : Nat} (h : xMo G A m) {i : Int32} (hi : vp_in i 500) : vp_in i (A.ln (m + 40)) := by rw [mo_n88 h]; exact hi
theorem mo_P89 {G : xG} {A : xA} {m : Nat} (h : xMo G A m) : A.P m 89 = some (m + 41) := (h.2.2 (89, 41, 200, 2000) (by decide)).1
theorem mo_t89 {G : xG} {A : xA} {m : Nat} (h : xMo G A m) : A.tg (m + 41) = 200 := (h.2.2 (89, 41, 200, 2000) (by decide)).2.1
theorem mo_n89 {G : xG} {A : xA} {m : Nat} (h : xMo G A m) : A.ln (m + 41) = 2000 := (h.2.2 (89, 41, 200, 2000) (by decide)).2.2
theorem mo_b89 {G : xG} {A : xA} {m : Nat} (h : xMo G A m) {i : Int32} (hi : vp_in i 2000) : vp_in i (A.ln (m + 41)) := by rw [mo_n89 h]; exact hi
theorem mo_P90 {G : xG} {A : xA} {m : Nat} (h : xMo G A m) : A.P m 90 = some (m + 42) := (h.2.2 (90, 42, 200, 20000) (by decide)).1
theorem mo_t90 {G : xG} {A : xA} {m : Nat} (h : xMo G A m) : A.tg (m + 42) = 200 := (h.2.2 (90, 42, 200, 20000) (by decide)).2.1
theorem mo_n90 {G : xG} {A : xA} {m : Nat} (h : xMo G A m) : A.ln (m + 42) = 20000 := (h.2.2 (90, 42, 200, 20000) (by decide)).2.2
theorem mo_b90 {G : xG} {A : xA} {m : Nat} (h : xMo G A m) {i : Int32} (hi : vp_in i 20000) : vp_in i (A.ln (m + 42)) := by rw [mo_n90 h]; exact hi
theorem mo_P91 {G : xG} {A : xA} {m : Nat} (h : xMo G A m) : A.P m 91 = some (m + 43) := (h.2.2 (91, 43, 200, 520) (by decide)).1
theorem mo_t91 {G : xG} {A : xA} {m : Nat} (h : xMo G A m) : A.tg (m + 43) = 200 := (h.2.2 (91, 43, 200, 520) (by decide)).2.1
theorem mo_n91 {G : xG} {A : xA} {m : Nat} (h : xMo G A m) : A.ln (m + 43) = 520 := (h.2.2 (91, 43, 200, 520) (by decide)).2.2
theorem mo_b91 {G : xG} {A : xA} {m : Nat} (h : xMo G A m) {i : Int32} (hi : vp_in i 520) : vp_in i (A.ln (m + 43)) := by rw [mo_n91 h]; exact hi
theorem mo_P92 {G : xG} {A : xA} {m : Nat} (h : xMo G A m) : A.P m 92 = some (m + 44) := (h.2.2 (92, 44, 200, 520) (by decide)).1
theorem mo_t92 {G : xG} {A : xA} {m : Nat} (h : xMo G A m) : A.tg (m + 44) = 200 := (h.2.2 (92, 44, 200, 520) (by decide)).2.1
theorem mo_n92 {G : xG} {A : xA} {m : Nat} (h : xMo G A m) : A.ln (m + 44) = 520 := (h.2.2 (92, 44, 200, 520) (by decide)).2.2
theorem mo_b92 {G : xG} {A : xA} {m : Nat} (h : xMo G A m) {i : Int32} (hi : vp_in i 520) : vp_in i (A.ln (m + 44)) := by rw [mo_n92 h]; exact hi
theorem mo_P93 {G : xG} {A : xA} {m : Nat} (h : xMo G A m) : A.P m 93 = some (m + 45) := (h.2.2 (93, 45, 200, 520) (by decide)).1
theorem mo_t93 {G : xG} {A : xA} {m : Nat} (h : xMo G A m) : A.tg (m + 45) = 200 := (h.2.2 (93, 45, 200, 520) (by decide)).2.1
theorem mo_n93 {G : xG} {A : xA} {m : Nat} (h : xMo G A m) : A.ln (m + 45) = 520 := (h.2.2 (93, 45, 200, 520) (by decide)).2.2
theorem mo_b93 {G : xG} {A : xA} {m : Nat} (h : xMo G A m) {i : Int32} (hi : vp_in i 520) : vp_in i (A.ln (m + 45)) := by rw [mo_n93 h]; exact hi
theorem mo_P94 {G : xG} {A : xA} {m : Nat} (h : xMo G A m) : A.P m 94 = some (m + 46) := (h.2.2 (94, 46, 200, 4096) (by decide)).1
theorem mo_t94 {G : xG} {A : xA} {m : Nat} (h : xMo G A m) : A.tg (m + 46) = 200 := (h.2.2 (94, 46, 200, 4096) (by decide)).2.1
theorem mo_n94 {G : xG} {A : xA} {m : Nat} (h : xMo G A m) : A.ln (m + 46) = 4096 := (h.2.2 (94, 46, 200, 4096) (by decide)).2.2
theorem mo_b94 {G : xG} {A : xA} {m : Nat} (h : xMo G A m) {i : Int32} (hi : vp_in i 4096) : vp_in i (A.ln (m + 46)) := by rw [mo_n94 h]; exact hi
theorem mo_P95 {G : xG} {A : xA} {m : Nat} (h : xMo G A m) : A.P m 95 = some (m + 47) := (h.2.2 (95, 47, 200, 33) (by decide)).1
theorem mo_t95 {G : xG} {A : xA} {m : Nat} (h : xMo G A m) : A.tg (m + 47) = 200 := (h.2.2 (95, 47, 200, 33) (by decide)).2.1
theorem mo_n95 {G : xG} {A : xA} {m : Nat} (h : xMo G A m) : A.ln (m + 47) = 33 := (h.2.2 (95, 47, 200, 33) (by decide)).2.2
theorem mo_b95 {G : xG} {A : xA} {m : Nat} (h : xMo G A m) {i : Int32} (hi : vp_in i 33) : vp_in i (A.ln (m + 47)) := by rw [mo_n95 h]; exact hi
theorem xite {c : Prop} [Decidable c] {f g : xII} {a k : Nat} {t : Int32} (h1 : f a k = t) (h2 : g a k = t) : (if c then f else g) a k = t := by split <;> assumption
theorem xite2 {c : Prop} [Decidable c] {f g : xII} {a k : Nat} {t1 t2 : Int32} (h1 : f a k = t1) (h2 : g a k = t2) : (if c then f else g) a k = if c then t1 else t2 := by split <;> assumption
theorem narrow01 {v : Int32} (h : v = 0 ∨ v = 1) : narrow .boolean (.int v) = .int v := by
  rcases h with rfl | rfl <;> rfl
def jishl (x y : Int32) : Int32 := x <<< (y &&& 31)
def jishr (x y : Int32) : Int32 := x >>> (y &&& 31)
def jiushr (x y : Int32) : Int32 := (x.toUInt32 >>> (y.toUInt32 &&& Int32.toUInt32 31)).toInt32
def jlshl (x : Int64) (y : Int32) : Int64 := x <<< (y.toInt64 &&& 63)
def jlshr (x : Int64) (y : Int32) : Int64 := x >>> (y.toInt64 &&& 63)
def jlushr (x : Int64) (y : Int32) : Int64 := (x.toUInt64 >>> (y.toInt64.toUInt64 &&& Int64.toUInt64 63)).toInt64
def lrem_ (x y : Int64) : Int64 := x - x / y * y
section XM
variable {G : xG} {d : Nat} {K : xK} {Q : Outcome → xA → Prop} {A : xA} {pc : Nat} {lv : List (Option Value)} {st : List Value}
theorem x_via (J : Nat) {A' : xA} {lv' : List (Option Value)} {st' : List Value} (k : X G d K Q A' J lv' st') (h : X G d K Q A' J lv' st' → X G d K Q A pc lv st) : X G d K Q A pc lv st := h k
theorem x_eqi {x v : Int32} (h : x = v) (k : X G d K Q A pc lv (.int v :: st)) : X G d K Q A pc lv (.int x :: st) := h ▸ k
theorem x_eql {x v : Int64} (h : x = v) (k : X G d K Q A pc lv (.long v :: st)) : X G d K Q A pc lv (.long x :: st) := h ▸ k
end XM
