/-! ===== 116.law (tools/h045.py) ===== -/
set_option maxRecDepth 100000
section W116
variable {G : xG}
def w_L_law (G : xG) (s : Option Nat) (Q : Int32 → xA → Prop) (A : xA) : Prop := xok G A → rmO G A 26 ∧ (∀ A2 : xA, A2 = A.new 1 0 26 0 → (∃ R3 : xA → Prop, w_X0_init G A.n R3 A2 ∧ (∀ A3 : xA, xok G A3 → R3 A3 → (rmO G A3 97 ∧ (∀ A5 : xA, A5 = A3.new 13 0 97 0 → (∃ R6 : xA → Prop, w_X13_init G A3.n R6 A5 ∧ (∀ A6 : xA, xok G A6 → R6 A6 → (∃ L7 : Nat → Int32 → xA → Prop, (∃ n7 : Nat, L7 n7 (0 : Int32) A6) ∧ (∀ (n7 : Nat) (y7_3 : Int32) (A7 : xA), L7 n7 y7_3 A7 → ∃ b8 : Nat, s = some b8 ∧ (A7.tg b8 = 200 ∧ (((((nI (A7.ln b8)) - (6 : Int32)) < y7_3 → Q (1 : Int32) A7) ∧ (¬ ((nI (A7.ln b8)) - (6 : Int32)) < y7_3 → vp_in y7_3 (A7.ln b8) ∧ ((((((A7.I b8 (ix y7_3)) &&& (15 : Int32)) = (0 : Int32)) → vp_in (y7_3 + (1 : Int32)) (A7.ln b8) ∧ (vp_in (y7_3 + (2 : Int32)) (A7.ln b8) ∧ (vp_in (y7_3 + (3 : Int32)) (A7.ln b8) ∧ (vp_in (y7_3 + (4 : Int32)) (A7.ln b8) ∧ (vp_in (y7_3 + (5 : Int32)) (A7.ln b8) ∧ (A7.tg A.n = 1 ∧ (∃ R17 : Int32 → xA → Prop, w_X0_feed G A.n (A7.I b8 (ix (y7_3 + (1 : Int32)))) (A7.I b8 (ix (y7_3 + (2 : Int32)))) (A7.I b8 (ix (y7_3 + (3 : Int32)))) (A7.I b8 (ix (y7_3 + (4 : Int32)))) (A7.I b8 (ix (y7_3 + (5 : Int32)))) R17 A7 ∧ (∀ (v17 : Int32) (A17 : xA), xok G A17 → R17 v17 A17 → (A17.tg b8 = 200 ∧ (vp_in (y7_3 + (1 : Int32)) (A17.ln b8) ∧ (vp_in (y7_3 + (2 : Int32)) (A17.ln b8) ∧ (vp_in (y7_3 + (3 : Int32)) (A17.ln b8) ∧ (vp_in (y7_3 + (4 : Int32)) (A17.ln b8) ∧ (vp_in (y7_3 + (5 : Int32)) (A17.ln b8) ∧ (xMo G A17 A3.n ∧ (∃ R25 : Int32 → xII → Prop, w_X13_feed A3.n (A17.I b8 (ix (y7_3 + (1 : Int32)))) (A17.I b8 (ix (y7_3 + (2 : Int32)))) (A17.I b8 (ix (y7_3 + (3 : Int32)))) (A17.I b8 (ix (y7_3 + (4 : Int32)))) (A17.I b8 (ix (y7_3 + (5 : Int32)))) R25 A17.I ∧ (∀ (v25 : Int32) (I25 : xII) (A25 : xA), A25 = A17.wI I25 → xok G A25 → R25 v25 I25 → (((v17 = v25 → (∃ q7 : Nat, q7 < n7 ∧ L7 q7 (y7_3 + (6 : Int32)) A25)) ∧ (¬ v17 = v25 → Q (0 : Int32) A25)))))))))))))))))))) ∧ ((((A7.I b8 (ix y7_3)) &&& (15 : Int32)) = (1 : Int32)) → vp_in (y7_3 + (1 : Int32)) (A7.ln b8) ∧ (A7.tg A.n = 1 ∧ (∃ R28 : Int32 → xA → Prop, w_X0_end G A.n (A7.I b8 (ix (y7_3 + (1 : Int32)))) R28 A7 ∧ (∀ (v28 : Int32) (A28 : xA), xok G A28 → R28 v28 A28 → (A28.tg b8 = 200 ∧ (vp_in (y7_3 + (1 : Int32)) (A28.ln b8) ∧ (xMo G A28 A3.n ∧ (∃ R32 : Int32 → xII → Prop, w_X13_end A3.n (A28.I b8 (ix (y7_3 + (1 : Int32)))) R32 A28.I ∧ (∀ (v32 : Int32) (I32 : xII) (A32 : xA), A32 = A28.wI I32 → xok G A32 → R32 v32 I32 → (((v28 = v32 → (∃ q7 : Nat, q7 < n7 ∧ L7 q7 (y7_3 + (6 : Int32)) A32)) ∧ (¬ v28 = v32 → Q (0 : Int32) A32)))))))))))) ∧ ((((A7.I b8 (ix y7_3)) &&& (15 : Int32)) = (2 : Int32)) → A7.tg A.n = 1 ∧ (∃ R34 : Int32 → xA → Prop, w_X0_read G A.n R34 A7 ∧ (∀ (v34 : Int32) (A34 : xA), xok G A34 → R34 v34 A34 → (xMo G A34 A3.n ∧ (∃ R36 : Int32 → xII → Prop, w_X13_read A3.n R36 A34.I ∧ (∀ (v36 : Int32) (I36 : xII) (A36 : xA), A36 = A34.wI I36 → xok G A36 → R36 v36 I36 → (((v34 = v36 → (∃ q7 : Nat, q7 < n7 ∧ L7 q7 (y7_3 + (6 : Int32)) A36)) ∧ (¬ v34 = v36 → Q (0 : Int32) A36))))))))) ∧ ((((A7.I b8 (ix y7_3)) &&& (15 : Int32)) = (3 : Int32)) → vp_in (y7_3 + (1 : Int32)) (A7.ln b8) ∧ (vp_in (y7_3 + (2 : Int32)) (A7.ln b8) ∧ (A7.tg A.n = 1 ∧ (∃ R40 : Int32 → xA → Prop, w_X0_look G A.n (A7.I b8 (ix (y7_3 + (1 : Int32)))) (A7.I b8 (ix (y7_3 + (2 : Int32)))) R40 A7 ∧ (∀ (v40 : Int32) (A40 : xA), xok G A40 → R40 v40 A40 → (A40.tg b8 = 200 ∧ (vp_in (y7_3 + (1 : Int32)) (A40.ln b8) ∧ (vp_in (y7_3 + (2 : Int32)) (A40.ln b8) ∧ (xMo G A40 A3.n ∧ (∃ R45 : Int32 → xII → Prop, w_X13_look A3.n (A40.I b8 (ix (y7_3 + (1 : Int32)))) (A40.I b8 (ix (y7_3 + (2 : Int32)))) R45 A40.I ∧ (∀ (v45 : Int32) (I45 : xII) (A45 : xA), A45 = A40.wI I45 → xok G A45 → R45 v45 I45 → (((v40 = v45 → (∃ q7 : Nat, q7 < n7 ∧ L7 q7 (y7_3 + (6 : Int32)) A45)) ∧ (¬ v40 = v45 → Q (0 : Int32) A45)))))))))))))) ∧ ((((A7.I b8 (ix y7_3)) &&& (15 : Int32)) = (4 : Int32)) → vp_in (y7_3 + (1 : Int32)) (A7.ln b8) ∧ (A7.tg A.n = 1 ∧ (∃ R48 : Int32 → xA → Prop, w_X0_give G A.n (A7.I b8 (ix (y7_3 + (1 : Int32)))) R48 A7 ∧ (∀ (v48 : Int32) (A48 : xA), xok G A48 → R48 v48 A48 → (A48.tg b8 = 200 ∧ (vp_in (y7_3 + (1 : Int32)) (A48.ln b8) ∧ (xMo G A48 A3.n ∧ (∃ R52 : Int32 → xII → Prop, w_X13_give A3.n (A48.I b8 (ix (y7_3 + (1 : Int32)))) R52 A48.I ∧ (∀ (v52 : Int32) (I52 : xII) (A52 : xA), A52 = A48.wI I52 → xok G A52 → R52 v52 I52 → (((v48 = v52 → (∃ q7 : Nat, q7 < n7 ∧ L7 q7 (y7_3 + (6 : Int32)) A52)) ∧ (¬ v48 = v52 → Q (0 : Int32) A52)))))))))))) ∧ ((((A7.I b8 (ix y7_3)) &&& (15 : Int32)) = (5 : Int32)) → vp_in (y7_3 + (1 : Int32)) (A7.ln b8) ∧ (A7.tg A.n = 1 ∧ (∃ R55 : Int32 → xA → Prop, w_X0_begin G A.n (A7.I b8 (ix (y7_3 + (1 : Int32)))) R55 A7 ∧ (∀ (v55 : Int32) (A55 : xA), xok G A55 → (v55 = 0 ∨ v55 = 1) → R55 v55 A55 → (A55.tg b8 = 200 ∧ (vp_in (y7_3 + (1 : Int32)) (A55.ln b8) ∧ (xMo G A55 A3.n ∧ (∃ R59 : Int32 → xII → Prop, w_X13_begin A3.n (A55.I b8 (ix (y7_3 + (1 : Int32)))) R59 A55.I ∧ (∀ (v59 : Int32) (I59 : xII) (A59 : xA), A59 = A55.wI I59 → xok G A59 → (v59 = 0 ∨ v59 = 1) → R59 v59 I59 → (((v55 = v59 → (∃ q7 : Nat, q7 < n7 ∧ L7 q7 (y7_3 + (6 : Int32)) A59)) ∧ (¬ v55 = v59 → Q (0 : Int32) A59)))))))))))) ∧ ((((A7.I b8 (ix y7_3)) &&& (15 : Int32)) = (6 : Int32)) → vp_in (y7_3 + (1 : Int32)) (A7.ln b8) ∧ (A7.tg A.n = 1 ∧ (∃ R62 : Int32 → xA → Prop, w_X0_run G A.n (A7.I b8 (ix (y7_3 + (1 : Int32)))) R62 A7 ∧ (∀ (v62 : Int32) (A62 : xA), xok G A62 → R62 v62 A62 → (A62.tg b8 = 200 ∧ (vp_in (y7_3 + (1 : Int32)) (A62.ln b8) ∧ (xMo G A62 A3.n ∧ (∃ R66 : Int32 → xII → Prop, w_X13_run A3.n (A62.I b8 (ix (y7_3 + (1 : Int32)))) R66 A62.I ∧ (∀ (v66 : Int32) (I66 : xII) (A66 : xA), A66 = A62.wI I66 → xok G A66 → R66 v66 I66 → (((v62 = v66 → (∃ q7 : Nat, q7 < n7 ∧ L7 q7 (y7_3 + (6 : Int32)) A66)) ∧ (¬ v62 = v66 → Q (0 : Int32) A66)))))))))))) ∧ ((((A7.I b8 (ix y7_3)) &&& (15 : Int32)) = (7 : Int32)) → vp_in (y7_3 + (1 : Int32)) (A7.ln b8) ∧ (A7.tg A.n = 1 ∧ (∃ R69 : Int32 → xA → Prop, w_X0_output G A.n (A7.I b8 (ix (y7_3 + (1 : Int32)))) R69 A7 ∧ (∀ (v69 : Int32) (A69 : xA), xok G A69 → R69 v69 A69 → (A69.tg b8 = 200 ∧ (vp_in (y7_3 + (1 : Int32)) (A69.ln b8) ∧ (xMo G A69 A3.n ∧ (∃ R73 : Int32 → xII → Prop, w_X13_output A3.n (A69.I b8 (ix (y7_3 + (1 : Int32)))) R73 A69.I ∧ (∀ (v73 : Int32) (I73 : xII) (A73 : xA), A73 = A69.wI I73 → xok G A73 → R73 v73 I73 → (((v69 = v73 → (∃ q7 : Nat, q7 < n7 ∧ L7 q7 (y7_3 + (6 : Int32)) A73)) ∧ (¬ v69 = v73 → Q (0 : Int32) A73)))))))))))) ∧ ((((A7.I b8 (ix y7_3)) &&& (15 : Int32)) = (8 : Int32)) → vp_in (y7_3 + (1 : Int32)) (A7.ln b8) ∧ (A7.tg A.n = 1 ∧ (∃ R76 : Int32 → xA → Prop, w_X0_world G A.n (A7.I b8 (ix (y7_3 + (1 : Int32)))) R76 A7 ∧ (∀ (v76 : Int32) (A76 : xA), xok G A76 → R76 v76 A76 → (A76.tg b8 = 200 ∧ (vp_in (y7_3 + (1 : Int32)) (A76.ln b8) ∧ (xMo G A76 A3.n ∧ (∃ R80 : Int32 → xII → Prop, w_X13_world A3.n (A76.I b8 (ix (y7_3 + (1 : Int32)))) R80 A76.I ∧ (∀ (v80 : Int32) (I80 : xII) (A80 : xA), A80 = A76.wI I80 → xok G A80 → R80 v80 I80 → (((v76 = v80 → (∃ q7 : Nat, q7 < n7 ∧ L7 q7 (y7_3 + (6 : Int32)) A80)) ∧ (¬ v76 = v80 → Q (0 : Int32) A80)))))))))))) ∧ ((((A7.I b8 (ix y7_3)) &&& (15 : Int32)) = (9 : Int32)) → vp_in (y7_3 + (1 : Int32)) (A7.ln b8) ∧ (A7.tg A.n = 1 ∧ (∃ R83 : Int32 → xA → Prop, w_X0_global G A.n (A7.I b8 (ix (y7_3 + (1 : Int32)))) R83 A7 ∧ (∀ (v83 : Int32) (A83 : xA), xok G A83 → R83 v83 A83 → (A83.tg b8 = 200 ∧ (vp_in (y7_3 + (1 : Int32)) (A83.ln b8) ∧ (xMo G A83 A3.n ∧ (∃ R87 : Int32 → xII → Prop, w_X13_global A3.n (A83.I b8 (ix (y7_3 + (1 : Int32)))) R87 A83.I ∧ (∀ (v87 : Int32) (I87 : xII) (A87 : xA), A87 = A83.wI I87 → xok G A87 → R87 v87 I87 → (((v83 = v87 → (∃ q7 : Nat, q7 < n7 ∧ L7 q7 (y7_3 + (6 : Int32)) A87)) ∧ (¬ v83 = v87 → Q (0 : Int32) A87)))))))))))) ∧ ((((A7.I b8 (ix y7_3)) &&& (15 : Int32)) = (10 : Int32)) → vp_in (y7_3 + (1 : Int32)) (A7.ln b8) ∧ (vp_in (y7_3 + (2 : Int32)) (A7.ln b8) ∧ (A7.tg A.n = 1 ∧ (∃ R91 : Int32 → xA → Prop, w_X0_put G A.n (A7.I b8 (ix (y7_3 + (1 : Int32)))) (A7.I b8 (ix (y7_3 + (2 : Int32)))) R91 A7 ∧ (∀ (v91 : Int32) (A91 : xA), xok G A91 → (v91 = 0 ∨ v91 = 1) → R91 v91 A91 → (A91.tg b8 = 200 ∧ (vp_in (y7_3 + (1 : Int32)) (A91.ln b8) ∧ (vp_in (y7_3 + (2 : Int32)) (A91.ln b8) ∧ (xMo G A91 A3.n ∧ (∃ R96 : Int32 → xII → Prop, w_X13_put A3.n (A91.I b8 (ix (y7_3 + (1 : Int32)))) (A91.I b8 (ix (y7_3 + (2 : Int32)))) R96 A91.I ∧ (∀ (v96 : Int32) (I96 : xII) (A96 : xA), A96 = A91.wI I96 → xok G A96 → (v96 = 0 ∨ v96 = 1) → R96 v96 I96 → (((v91 = v96 → (∃ q7 : Nat, q7 < n7 ∧ L7 q7 (y7_3 + (6 : Int32)) A96)) ∧ (¬ v91 = v96 → Q (0 : Int32) A96)))))))))))))) ∧ ((((A7.I b8 (ix y7_3)) &&& (15 : Int32)) = (11 : Int32)) → vp_in (y7_3 + (1 : Int32)) (A7.ln b8) ∧ (vp_in (y7_3 + (2 : Int32)) (A7.ln b8) ∧ (A7.tg A.n = 1 ∧ (∃ R100 : Int32 → xA → Prop, w_X0_set G A.n (A7.I b8 (ix (y7_3 + (1 : Int32)))) (A7.I b8 (ix (y7_3 + (2 : Int32)))) R100 A7 ∧ (∀ (v100 : Int32) (A100 : xA), xok G A100 → (v100 = 0 ∨ v100 = 1) → R100 v100 A100 → (A100.tg b8 = 200 ∧ (vp_in (y7_3 + (1 : Int32)) (A100.ln b8) ∧ (vp_in (y7_3 + (2 : Int32)) (A100.ln b8) ∧ (xMo G A100 A3.n ∧ (∃ R105 : Int32 → xII → Prop, w_X13_set A3.n (A100.I b8 (ix (y7_3 + (1 : Int32)))) (A100.I b8 (ix (y7_3 + (2 : Int32)))) R105 A100.I ∧ (∀ (v105 : Int32) (I105 : xII) (A105 : xA), A105 = A100.wI I105 → xok G A105 → (v105 = 0 ∨ v105 = 1) → R105 v105 I105 → (((v100 = v105 → (∃ q7 : Nat, q7 < n7 ∧ L7 q7 (y7_3 + (6 : Int32)) A105)) ∧ (¬ v100 = v105 → Q (0 : Int32) A105)))))))))))))) ∧ ((((A7.I b8 (ix y7_3)) &&& (15 : Int32)) = (12 : Int32)) → vp_in (y7_3 + (1 : Int32)) (A7.ln b8) ∧ (A7.tg A.n = 1 ∧ (∃ R108 : Int32 → xA → Prop, w_X0_go G A.n (A7.I b8 (ix (y7_3 + (1 : Int32)))) R108 A7 ∧ (∀ (v108 : Int32) (A108 : xA), xok G A108 → R108 v108 A108 → (A108.tg b8 = 200 ∧ (vp_in (y7_3 + (1 : Int32)) (A108.ln b8) ∧ (xMo G A108 A3.n ∧ (∃ R112 : Int32 → xII → Prop, w_X13_go A3.n (A108.I b8 (ix (y7_3 + (1 : Int32)))) R112 A108.I ∧ (∀ (v112 : Int32) (I112 : xII) (A112 : xA), A112 = A108.wI I112 → xok G A112 → R112 v112 I112 → (((v108 = v112 → (∃ q7 : Nat, q7 < n7 ∧ L7 q7 (y7_3 + (6 : Int32)) A112)) ∧ (¬ v108 = v112 → Q (0 : Int32) A112)))))))))))) ∧ ((((A7.I b8 (ix y7_3)) &&& (15 : Int32)) = (13 : Int32)) → vp_in (y7_3 + (1 : Int32)) (A7.ln b8) ∧ (A7.tg A.n = 1 ∧ (∃ R115 : Int32 → xA → Prop, w_X0_board G A.n (A7.I b8 (ix (y7_3 + (1 : Int32)))) R115 A7 ∧ (∀ (v115 : Int32) (A115 : xA), xok G A115 → R115 v115 A115 → (A115.tg b8 = 200 ∧ (vp_in (y7_3 + (1 : Int32)) (A115.ln b8) ∧ (xMo G A115 A3.n ∧ (∃ R119 : Int32 → xII → Prop, w_X13_board A3.n (A115.I b8 (ix (y7_3 + (1 : Int32)))) R119 A115.I ∧ (∀ (v119 : Int32) (I119 : xII) (A119 : xA), A119 = A115.wI I119 → xok G A119 → R119 v119 I119 → (((v115 = v119 → (∃ q7 : Nat, q7 < n7 ∧ L7 q7 (y7_3 + (6 : Int32)) A119)) ∧ (¬ v115 = v119 → Q (0 : Int32) A119)))))))))))) ∧ ((¬ ((A7.I b8 (ix y7_3)) &&& (15 : Int32)) = (0 : Int32) ∧ ¬ ((A7.I b8 (ix y7_3)) &&& (15 : Int32)) = (1 : Int32) ∧ ¬ ((A7.I b8 (ix y7_3)) &&& (15 : Int32)) = (2 : Int32) ∧ ¬ ((A7.I b8 (ix y7_3)) &&& (15 : Int32)) = (3 : Int32) ∧ ¬ ((A7.I b8 (ix y7_3)) &&& (15 : Int32)) = (4 : Int32) ∧ ¬ ((A7.I b8 (ix y7_3)) &&& (15 : Int32)) = (5 : Int32) ∧ ¬ ((A7.I b8 (ix y7_3)) &&& (15 : Int32)) = (6 : Int32) ∧ ¬ ((A7.I b8 (ix y7_3)) &&& (15 : Int32)) = (7 : Int32) ∧ ¬ ((A7.I b8 (ix y7_3)) &&& (15 : Int32)) = (8 : Int32) ∧ ¬ ((A7.I b8 (ix y7_3)) &&& (15 : Int32)) = (9 : Int32) ∧ ¬ ((A7.I b8 (ix y7_3)) &&& (15 : Int32)) = (10 : Int32) ∧ ¬ ((A7.I b8 (ix y7_3)) &&& (15 : Int32)) = (11 : Int32) ∧ ¬ ((A7.I b8 (ix y7_3)) &&& (15 : Int32)) = (12 : Int32) ∧ ¬ ((A7.I b8 (ix y7_3)) &&& (15 : Int32)) = (13 : Int32)) → (∃ q7 : Nat, q7 < n7 ∧ L7 q7 (y7_3 + (6 : Int32)) A7)))))))))))))))))
theorem x_L_law (hG : xOK G) (hO : xHO G) {dp : Nat} {s : Option Nat} {Q : Int32 → xA → Prop} {A : xA} (h : w_L_law G s Q A) : X G (dp + 1920) kL_law (hZ Q) A 0 [some (va_rf s), none, none, none] [] := by
  unfold w_L_law at h
  refine X.xok (fun w0 => ?_)
  replace h := h w0
  obtain ⟨o1, h⟩ := h
  refine z_new hG (c := 0) dL_law_0 rfl q255 (by decide) rfl o1 (fun A2 e2 w2 => ?_)
  replace h := h A2 e2
  refine x_dup dL_law_3 rfl ?_
  obtain ⟨R3, g3, h⟩ := h
  refine x_callI hG (Ky := kX0_init) (As := []) dL_law_4 lk_L_9 me_X0_init is_X0_init rfl rfl rfl rfl rfl (Nat.le_of_ble_eq_true rfl) (MX.post (m_X0_init hG hO g3) ?_)
  rintro _ A3 ⟨rfl, h1⟩
  refine X.xok (fun w3 => ?_)
  replace h := h A3 w3 h1
  change X _ _ _ _ A3 _ _ [.ref A.n]
  refine x_astore_n dL_law_7 (by decide) ?_
  refine X.lvs (lv' := [some (va_rf s), some (.ref A.n), none, none]) (by generalize s = z; cases z <;> rfl) ?_
  obtain ⟨o4, h⟩ := h
  refine z_new hG (c := 12) dL_law_8 rfl q2992 (by decide) rfl o4 (fun A5 e5 w5 => ?_)
  replace h := h A5 e5
  refine x_dup dL_law_11 rfl ?_
  obtain ⟨R6, g6, h⟩ := h
  refine x_callI hG (Ky := kX13_init) (As := []) dL_law_12 lk_L_12 me_X13_init is_X13_init rfl rfl rfl rfl rfl (Nat.le_of_ble_eq_true rfl) (MX.post (m_X13_init hG hO g6) ?_)
  rintro _ A6 ⟨rfl, h1⟩
  refine X.xok (fun w6 => ?_)
  replace h := h A6 w6 h1
  change X _ _ _ _ A6 _ _ [.ref A3.n]
  refine x_astore_n dL_law_15 (by decide) ?_
  refine x_iconst_ (v := (0 : Int32)) dL_law_16 (by decide) ?_
  refine x_istore_n dL_law_17 (by decide) ?_
  obtain ⟨L7, ⟨n7, i7⟩, g7⟩ := h
  have kl7 : ∀ n7 : Nat, ∀ (y7_3 : Int32) (A7 : xA), L7 n7 y7_3 A7 → X G (dp + 1920) kL_law (hZ Q) A7 18 [some (va_rf s), some (.ref A.n), some (.ref A3.n), some (.int y7_3)] [] := by
    intro n7
    induction n7 using Nat.strongRecOn with
    | ind n7 ih7 =>
      intro y7_3 A7 h
      replace h := g7 n7 y7_3 A7 h
      refine x_iload_n dL_law_18 rfl ?_
      refine x_aloadq_n dL_law_19 rfl ?_
      obtain ⟨b8, e8, h⟩ := h
      rw [e8]
      obtain ⟨o9, h⟩ := h
      refine x_alen hG (j := 0) dL_law_20 o9 ?_
      refine x_bipush_ (v := (6 : Int32)) dL_law_21 (by decide) ?_
      refine x_isub dL_law_23 ?_
      refine x_icmp_gt (tgt := 492) dL_law_24 (by decide) (fun c24 => ?_) (fun c24 => ?_)
      · replace h := h.1 c24
        refine x_iconst_ (v := (1 : Int32)) dL_law_492 (by decide) ?_
        exact x_zret dL_law_493 rfl (by decide) ⟨_, rfl, (by decide), h⟩
      · replace h := h.2 c24
        refine x_aload_n dL_law_27 rfl ?_
        refine x_iload_n dL_law_28 rfl ?_
        obtain ⟨o10, h⟩ := h
        refine x_iald hG dL_law_29 o9 o10 ?_
        refine x_bipush_ (v := (15 : Int32)) dL_law_30 (by decide) ?_
        refine x_iand dL_law_32 ?_
        have kt11_0 : (((A7.I b8 (ix y7_3)) &&& (15 : Int32)) = (0 : Int32)) → X G (dp + 1920) kL_law (hZ Q) A7 104 [some (.ref b8), some (.ref A.n), some (.ref A3.n), some (.int y7_3)] [] := by
          intro c33
          replace h := h.1 c33
          refine x_aload_n dL_law_104 rfl ?_
          refine x_aload_n dL_law_105 rfl ?_
          refine x_iload_n dL_law_106 rfl ?_
          refine x_iconst_ (v := (1 : Int32)) dL_law_107 (by decide) ?_
          refine x_iadd dL_law_108 ?_
          obtain ⟨o12, h⟩ := h
          refine x_iald hG dL_law_109 o9 o12 ?_
          refine x_aload_n dL_law_110 rfl ?_
          refine x_iload_n dL_law_111 rfl ?_
          refine x_iconst_ (v := (2 : Int32)) dL_law_112 (by decide) ?_
          refine x_iadd dL_law_113 ?_
          obtain ⟨o13, h⟩ := h
          refine x_iald hG dL_law_114 o9 o13 ?_
          refine x_aload_n dL_law_115 rfl ?_
          refine x_iload_n dL_law_116 rfl ?_
          refine x_iconst_ (v := (3 : Int32)) dL_law_117 (by decide) ?_
          refine x_iadd dL_law_118 ?_
          obtain ⟨o14, h⟩ := h
          refine x_iald hG dL_law_119 o9 o14 ?_
          refine x_aload_n dL_law_120 rfl ?_
          refine x_iload_n dL_law_121 rfl ?_
          refine x_iconst_ (v := (4 : Int32)) dL_law_122 (by decide) ?_
          refine x_iadd dL_law_123 ?_
          obtain ⟨o15, h⟩ := h
          refine x_iald hG dL_law_124 o9 o15 ?_
          refine x_aload_n dL_law_125 rfl ?_
          refine x_iload_n dL_law_126 rfl ?_
          refine x_iconst_ (v := (5 : Int32)) dL_law_127 (by decide) ?_
          refine x_iadd dL_law_128 ?_
          obtain ⟨o16, h⟩ := h
          refine x_iald hG dL_law_129 o9 o16 ?_
          obtain ⟨o18, h⟩ := h
          obtain ⟨R17, g17, h⟩ := h
          refine x_callV hG (Ky := kX0_feed) (As := [.int (A7.I b8 (ix (y7_3 + (1 : Int32)))), .int (A7.I b8 (ix (y7_3 + (2 : Int32)))), .int (A7.I b8 (ix (y7_3 + (3 : Int32)))), .int (A7.I b8 (ix (y7_3 + (4 : Int32)))), .int (A7.I b8 (ix (y7_3 + (5 : Int32))))]) dL_law_130 o18 rfl lk_L_13 me_X0_feed is_X0_feed se_X0_feed rfl rfl (Nat.le_of_ble_eq_true rfl) (MX.post (m_X0_feed hG hO g17) ?_)
          rintro _ A17 ⟨v17, rfl, h1⟩
          refine X.xok (fun w17 => ?_)
          replace h := h v17 A17 w17 h1
          change X _ _ _ _ A17 _ _ [.int v17]
          refine x_aload_n dL_law_133 rfl ?_
          refine x_aload_n dL_law_134 rfl ?_
          refine x_iload_n dL_law_135 rfl ?_
          refine x_iconst_ (v := (1 : Int32)) dL_law_136 (by decide) ?_
          refine x_iadd dL_law_137 ?_
          obtain ⟨o19, h⟩ := h
          obtain ⟨o20, h⟩ := h
          refine x_iald hG dL_law_138 o19 o20 ?_
          refine x_aload_n dL_law_139 rfl ?_
          refine x_iload_n dL_law_140 rfl ?_
          refine x_iconst_ (v := (2 : Int32)) dL_law_141 (by decide) ?_
          refine x_iadd dL_law_142 ?_
          obtain ⟨o21, h⟩ := h
          refine x_iald hG dL_law_143 o19 o21 ?_
          refine x_aload_n dL_law_144 rfl ?_
          refine x_iload_n dL_law_145 rfl ?_
          refine x_iconst_ (v := (3 : Int32)) dL_law_146 (by decide) ?_
          refine x_iadd dL_law_147 ?_
          obtain ⟨o22, h⟩ := h
          refine x_iald hG dL_law_148 o19 o22 ?_
          refine x_aload_n dL_law_149 rfl ?_
          refine x_iload_n dL_law_150 rfl ?_
          refine x_iconst_ (v := (4 : Int32)) dL_law_151 (by decide) ?_
          refine x_iadd dL_law_152 ?_
          obtain ⟨o23, h⟩ := h
          refine x_iald hG dL_law_153 o19 o23 ?_
          refine x_aload_n dL_law_154 rfl ?_
          refine x_iload_n dL_law_155 rfl ?_
          refine x_iconst_ (v := (5 : Int32)) dL_law_156 (by decide) ?_
          refine x_iadd dL_law_157 ?_
          obtain ⟨o24, h⟩ := h
          refine x_iald hG dL_law_158 o19 o24 ?_
          obtain ⟨o26, h⟩ := h
          obtain ⟨R25, g25, h⟩ := h
          refine x_callV hG (Ky := kX13_feed) (As := [.int (A17.I b8 (ix (y7_3 + (1 : Int32)))), .int (A17.I b8 (ix (y7_3 + (2 : Int32)))), .int (A17.I b8 (ix (y7_3 + (3 : Int32)))), .int (A17.I b8 (ix (y7_3 + (4 : Int32)))), .int (A17.I b8 (ix (y7_3 + (5 : Int32))))]) dL_law_159 (mo_t o26) rfl lk_L_17 me_X13_feed is_X13_feed se_X13_feed rfl rfl (Nat.le_of_ble_eq_true rfl) (MX.post (m_X13_feed hG o26 (I := A17.I) g25) ?_)
          rintro _ A25 ⟨v25, I25, rfl, e25, h1⟩
          refine X.xok (fun w25 => ?_)
          replace h := h v25 I25 A25 e25.symm w25 h1
          change X _ _ _ _ A25 _ _ [.int v25, .int v17]
          refine x_icmp_eq (tgt := 486) dL_law_162 (by decide) (fun c162 => ?_) (fun c162 => ?_)
          · replace h := h.1 c162
            refine x_iinc (v := (y7_3 + (6 : Int32))) dL_law_486 rfl rfl (by decide) ?_
            refine x_goto (tgt := 18) dL_law_489 (by decide) ?_
            obtain ⟨q7, l7, h⟩ := h
            change X _ _ _ _ _ _ [some (.ref b8), some (.ref A.n), some (.ref A3.n), some (.int (y7_3 + (6 : Int32)))] []
            exact X.weak (xle_c (congrArg (fun z => some (va_rf z)) e8.symm) (xle_c rfl (xle_c rfl (xle_c rfl xle_nil)))) (ih7 q7 l7 (y7_3 + (6 : Int32)) A25 h)
          · replace h := h.2 c162
            refine x_iconst_ (v := (0 : Int32)) dL_law_165 (by decide) ?_
            exact x_zret dL_law_166 rfl (by decide) ⟨_, rfl, (by decide), h⟩
        have kt11_1 : (((A7.I b8 (ix y7_3)) &&& (15 : Int32)) = (1 : Int32)) → X G (dp + 1920) kL_law (hZ Q) A7 167 [some (.ref b8), some (.ref A.n), some (.ref A3.n), some (.int y7_3)] [] := by
          intro c33
          replace h := h.2.1 c33
          refine x_aload_n dL_law_167 rfl ?_
          refine x_aload_n dL_law_168 rfl ?_
          refine x_iload_n dL_law_169 rfl ?_
          refine x_iconst_ (v := (1 : Int32)) dL_law_170 (by decide) ?_
          refine x_iadd dL_law_171 ?_
          obtain ⟨o27, h⟩ := h
          refine x_iald hG dL_law_172 o9 o27 ?_
          obtain ⟨o29, h⟩ := h
          obtain ⟨R28, g28, h⟩ := h
          refine x_callV hG (Ky := kX0_end) (As := [.int (A7.I b8 (ix (y7_3 + (1 : Int32))))]) dL_law_173 o29 rfl lk_L_18 me_X0_end is_X0_end se_X0_end rfl rfl (Nat.le_of_ble_eq_true rfl) (MX.post (m_X0_end hG hO g28) ?_)
          rintro _ A28 ⟨v28, rfl, h1⟩
          refine X.xok (fun w28 => ?_)
          replace h := h v28 A28 w28 h1
          change X _ _ _ _ A28 _ _ [.int v28]
          refine x_aload_n dL_law_176 rfl ?_
          refine x_aload_n dL_law_177 rfl ?_
          refine x_iload_n dL_law_178 rfl ?_
          refine x_iconst_ (v := (1 : Int32)) dL_law_179 (by decide) ?_
          refine x_iadd dL_law_180 ?_
          obtain ⟨o30, h⟩ := h
          obtain ⟨o31, h⟩ := h
          refine x_iald hG dL_law_181 o30 o31 ?_
          obtain ⟨o33, h⟩ := h
          obtain ⟨R32, g32, h⟩ := h
          refine x_callV hG (Ky := kX13_end) (As := [.int (A28.I b8 (ix (y7_3 + (1 : Int32))))]) dL_law_182 (mo_t o33) rfl lk_L_22 me_X13_end is_X13_end se_X13_end rfl rfl (Nat.le_of_ble_eq_true rfl) (MX.post (m_X13_end hG o33 (I := A28.I) g32) ?_)
          rintro _ A32 ⟨v32, I32, rfl, e32, h1⟩
          refine X.xok (fun w32 => ?_)
          replace h := h v32 I32 A32 e32.symm w32 h1
          change X _ _ _ _ A32 _ _ [.int v32, .int v28]
          refine x_icmp_eq (tgt := 486) dL_law_185 (by decide) (fun c185 => ?_) (fun c185 => ?_)
          · replace h := h.1 c185
            refine x_iinc (v := (y7_3 + (6 : Int32))) dL_law_486 rfl rfl (by decide) ?_
            refine x_goto (tgt := 18) dL_law_489 (by decide) ?_
            obtain ⟨q7, l7, h⟩ := h
            change X _ _ _ _ _ _ [some (.ref b8), some (.ref A.n), some (.ref A3.n), some (.int (y7_3 + (6 : Int32)))] []
            exact X.weak (xle_c (congrArg (fun z => some (va_rf z)) e8.symm) (xle_c rfl (xle_c rfl (xle_c rfl xle_nil)))) (ih7 q7 l7 (y7_3 + (6 : Int32)) A32 h)
          · replace h := h.2 c185
            refine x_iconst_ (v := (0 : Int32)) dL_law_188 (by decide) ?_
            exact x_zret dL_law_189 rfl (by decide) ⟨_, rfl, (by decide), h⟩
        have kt11_2 : (((A7.I b8 (ix y7_3)) &&& (15 : Int32)) = (2 : Int32)) → X G (dp + 1920) kL_law (hZ Q) A7 190 [some (.ref b8), some (.ref A.n), some (.ref A3.n), some (.int y7_3)] [] := by
          intro c33
          replace h := h.2.2.1 c33
          refine x_aload_n dL_law_190 rfl ?_
          obtain ⟨o35, h⟩ := h
          obtain ⟨R34, g34, h⟩ := h
          refine x_callV hG (Ky := kX0_read) (As := []) dL_law_191 o35 rfl lk_L_23 me_X0_read is_X0_read se_X0_read rfl rfl (Nat.le_of_ble_eq_true rfl) (MX.post (m_X0_read hG hO g34) ?_)
          rintro _ A34 ⟨v34, rfl, h1⟩
          refine X.xok (fun w34 => ?_)
          replace h := h v34 A34 w34 h1
          change X _ _ _ _ A34 _ _ [.int v34]
          refine x_aload_n dL_law_194 rfl ?_
          obtain ⟨o37, h⟩ := h
          obtain ⟨R36, g36, h⟩ := h
          refine x_callV hG (Ky := kX13_read) (As := []) dL_law_195 (mo_t o37) rfl lk_L_27 me_X13_read is_X13_read se_X13_read rfl rfl (Nat.le_of_ble_eq_true rfl) (MX.post (m_X13_read hG hO o37 (I := A34.I) g36) ?_)
          rintro _ A36 ⟨v36, I36, rfl, e36, h1⟩
          refine X.xok (fun w36 => ?_)
          replace h := h v36 I36 A36 e36.symm w36 h1
          change X _ _ _ _ A36 _ _ [.int v36, .int v34]
          refine x_icmp_eq (tgt := 486) dL_law_198 (by decide) (fun c198 => ?_) (fun c198 => ?_)
          · replace h := h.1 c198
            refine x_iinc (v := (y7_3 + (6 : Int32))) dL_law_486 rfl rfl (by decide) ?_
            refine x_goto (tgt := 18) dL_law_489 (by decide) ?_
            obtain ⟨q7, l7, h⟩ := h
            change X _ _ _ _ _ _ [some (.ref b8), some (.ref A.n), some (.ref A3.n), some (.int (y7_3 + (6 : Int32)))] []
            exact X.weak (xle_c (congrArg (fun z => some (va_rf z)) e8.symm) (xle_c rfl (xle_c rfl (xle_c rfl xle_nil)))) (ih7 q7 l7 (y7_3 + (6 : Int32)) A36 h)
          · replace h := h.2 c198
            refine x_iconst_ (v := (0 : Int32)) dL_law_201 (by decide) ?_
            exact x_zret dL_law_202 rfl (by decide) ⟨_, rfl, (by decide), h⟩
        have kt11_3 : (((A7.I b8 (ix y7_3)) &&& (15 : Int32)) = (3 : Int32)) → X G (dp + 1920) kL_law (hZ Q) A7 203 [some (.ref b8), some (.ref A.n), some (.ref A3.n), some (.int y7_3)] [] := by
          intro c33
          replace h := h.2.2.2.1 c33
          refine x_aload_n dL_law_203 rfl ?_
          refine x_aload_n dL_law_204 rfl ?_
          refine x_iload_n dL_law_205 rfl ?_
          refine x_iconst_ (v := (1 : Int32)) dL_law_206 (by decide) ?_
          refine x_iadd dL_law_207 ?_
          obtain ⟨o38, h⟩ := h
          refine x_iald hG dL_law_208 o9 o38 ?_
          refine x_aload_n dL_law_209 rfl ?_
          refine x_iload_n dL_law_210 rfl ?_
          refine x_iconst_ (v := (2 : Int32)) dL_law_211 (by decide) ?_
          refine x_iadd dL_law_212 ?_
          obtain ⟨o39, h⟩ := h
          refine x_iald hG dL_law_213 o9 o39 ?_
          obtain ⟨o41, h⟩ := h
          obtain ⟨R40, g40, h⟩ := h
          refine x_callV hG (Ky := kX0_look) (As := [.int (A7.I b8 (ix (y7_3 + (1 : Int32)))), .int (A7.I b8 (ix (y7_3 + (2 : Int32))))]) dL_law_214 o41 rfl lk_L_28 me_X0_look is_X0_look se_X0_look rfl rfl (Nat.le_of_ble_eq_true rfl) (MX.post (m_X0_look hG hO g40) ?_)
          rintro _ A40 ⟨v40, rfl, h1⟩
          refine X.xok (fun w40 => ?_)
          replace h := h v40 A40 w40 h1
          change X _ _ _ _ A40 _ _ [.int v40]
          refine x_aload_n dL_law_217 rfl ?_
          refine x_aload_n dL_law_218 rfl ?_
          refine x_iload_n dL_law_219 rfl ?_
          refine x_iconst_ (v := (1 : Int32)) dL_law_220 (by decide) ?_
          refine x_iadd dL_law_221 ?_
          obtain ⟨o42, h⟩ := h
          obtain ⟨o43, h⟩ := h
          refine x_iald hG dL_law_222 o42 o43 ?_
          refine x_aload_n dL_law_223 rfl ?_
          refine x_iload_n dL_law_224 rfl ?_
          refine x_iconst_ (v := (2 : Int32)) dL_law_225 (by decide) ?_
          refine x_iadd dL_law_226 ?_
          obtain ⟨o44, h⟩ := h
          refine x_iald hG dL_law_227 o42 o44 ?_
          obtain ⟨o46, h⟩ := h
          obtain ⟨R45, g45, h⟩ := h
          refine x_callV hG (Ky := kX13_look) (As := [.int (A40.I b8 (ix (y7_3 + (1 : Int32)))), .int (A40.I b8 (ix (y7_3 + (2 : Int32))))]) dL_law_228 (mo_t o46) rfl lk_L_32 me_X13_look is_X13_look se_X13_look rfl rfl (Nat.le_of_ble_eq_true rfl) (MX.post (m_X13_look hG o46 (I := A40.I) g45) ?_)
          rintro _ A45 ⟨v45, I45, rfl, e45, h1⟩
          refine X.xok (fun w45 => ?_)
          replace h := h v45 I45 A45 e45.symm w45 h1
          change X _ _ _ _ A45 _ _ [.int v45, .int v40]
          refine x_icmp_eq (tgt := 486) dL_law_231 (by decide) (fun c231 => ?_) (fun c231 => ?_)
          · replace h := h.1 c231
            refine x_iinc (v := (y7_3 + (6 : Int32))) dL_law_486 rfl rfl (by decide) ?_
            refine x_goto (tgt := 18) dL_law_489 (by decide) ?_
            obtain ⟨q7, l7, h⟩ := h
            change X _ _ _ _ _ _ [some (.ref b8), some (.ref A.n), some (.ref A3.n), some (.int (y7_3 + (6 : Int32)))] []
            exact X.weak (xle_c (congrArg (fun z => some (va_rf z)) e8.symm) (xle_c rfl (xle_c rfl (xle_c rfl xle_nil)))) (ih7 q7 l7 (y7_3 + (6 : Int32)) A45 h)
          · replace h := h.2 c231
            refine x_iconst_ (v := (0 : Int32)) dL_law_234 (by decide) ?_
            exact x_zret dL_law_235 rfl (by decide) ⟨_, rfl, (by decide), h⟩
        have kt11_4 : (((A7.I b8 (ix y7_3)) &&& (15 : Int32)) = (4 : Int32)) → X G (dp + 1920) kL_law (hZ Q) A7 236 [some (.ref b8), some (.ref A.n), some (.ref A3.n), some (.int y7_3)] [] := by
          intro c33
          replace h := h.2.2.2.2.1 c33
          refine x_aload_n dL_law_236 rfl ?_
          refine x_aload_n dL_law_237 rfl ?_
          refine x_iload_n dL_law_238 rfl ?_
          refine x_iconst_ (v := (1 : Int32)) dL_law_239 (by decide) ?_
          refine x_iadd dL_law_240 ?_
          obtain ⟨o47, h⟩ := h
          refine x_iald hG dL_law_241 o9 o47 ?_
          obtain ⟨o49, h⟩ := h
          obtain ⟨R48, g48, h⟩ := h
          refine x_callV hG (Ky := kX0_give) (As := [.int (A7.I b8 (ix (y7_3 + (1 : Int32))))]) dL_law_242 o49 rfl lk_L_33 me_X0_give is_X0_give se_X0_give rfl rfl (Nat.le_of_ble_eq_true rfl) (MX.post (m_X0_give hG hO g48) ?_)
          rintro _ A48 ⟨v48, rfl, h1⟩
          refine X.xok (fun w48 => ?_)
          replace h := h v48 A48 w48 h1
          change X _ _ _ _ A48 _ _ [.int v48]
          refine x_aload_n dL_law_245 rfl ?_
          refine x_aload_n dL_law_246 rfl ?_
          refine x_iload_n dL_law_247 rfl ?_
          refine x_iconst_ (v := (1 : Int32)) dL_law_248 (by decide) ?_
          refine x_iadd dL_law_249 ?_
          obtain ⟨o50, h⟩ := h
          obtain ⟨o51, h⟩ := h
          refine x_iald hG dL_law_250 o50 o51 ?_
          obtain ⟨o53, h⟩ := h
          obtain ⟨R52, g52, h⟩ := h
          refine x_callV hG (Ky := kX13_give) (As := [.int (A48.I b8 (ix (y7_3 + (1 : Int32))))]) dL_law_251 (mo_t o53) rfl lk_L_36 me_X13_give is_X13_give se_X13_give rfl rfl (Nat.le_of_ble_eq_true rfl) (MX.post (m_X13_give hG o53 (I := A48.I) g52) ?_)
          rintro _ A52 ⟨v52, I52, rfl, e52, h1⟩
          refine X.xok (fun w52 => ?_)
          replace h := h v52 I52 A52 e52.symm w52 h1
          change X _ _ _ _ A52 _ _ [.int v52, .int v48]
          refine x_icmp_eq (tgt := 486) dL_law_254 (by decide) (fun c254 => ?_) (fun c254 => ?_)
          · replace h := h.1 c254
            refine x_iinc (v := (y7_3 + (6 : Int32))) dL_law_486 rfl rfl (by decide) ?_
            refine x_goto (tgt := 18) dL_law_489 (by decide) ?_
            obtain ⟨q7, l7, h⟩ := h
            change X _ _ _ _ _ _ [some (.ref b8), some (.ref A.n), some (.ref A3.n), some (.int (y7_3 + (6 : Int32)))] []
            exact X.weak (xle_c (congrArg (fun z => some (va_rf z)) e8.symm) (xle_c rfl (xle_c rfl (xle_c rfl xle_nil)))) (ih7 q7 l7 (y7_3 + (6 : Int32)) A52 h)
          · replace h := h.2 c254
            refine x_iconst_ (v := (0 : Int32)) dL_law_257 (by decide) ?_
            exact x_zret dL_law_258 rfl (by decide) ⟨_, rfl, (by decide), h⟩
        have kt11_5 : (((A7.I b8 (ix y7_3)) &&& (15 : Int32)) = (5 : Int32)) → X G (dp + 1920) kL_law (hZ Q) A7 259 [some (.ref b8), some (.ref A.n), some (.ref A3.n), some (.int y7_3)] [] := by
          intro c33
          replace h := h.2.2.2.2.2.1 c33
          refine x_aload_n dL_law_259 rfl ?_
          refine x_aload_n dL_law_260 rfl ?_
          refine x_iload_n dL_law_261 rfl ?_
          refine x_iconst_ (v := (1 : Int32)) dL_law_262 (by decide) ?_
          refine x_iadd dL_law_263 ?_
          obtain ⟨o54, h⟩ := h
          refine x_iald hG dL_law_264 o9 o54 ?_
          obtain ⟨o56, h⟩ := h
          obtain ⟨R55, g55, h⟩ := h
          refine x_callV hG (Ky := kX0_begin) (As := [.int (A7.I b8 (ix (y7_3 + (1 : Int32))))]) dL_law_265 o56 rfl lk_L_37 me_X0_begin is_X0_begin se_X0_begin rfl rfl (Nat.le_of_ble_eq_true rfl) (MX.post (m_X0_begin hG hO g55) ?_)
          rintro _ A55 ⟨v55, rfl, zv55, h1⟩
          refine X.xok (fun w55 => ?_)
          replace h := h v55 A55 w55 zv55 h1
          change X _ _ _ _ A55 _ _ [.int v55]
          refine x_aload_n dL_law_268 rfl ?_
          refine x_aload_n dL_law_269 rfl ?_
          refine x_iload_n dL_law_270 rfl ?_
          refine x_iconst_ (v := (1 : Int32)) dL_law_271 (by decide) ?_
          refine x_iadd dL_law_272 ?_
          obtain ⟨o57, h⟩ := h
          obtain ⟨o58, h⟩ := h
          refine x_iald hG dL_law_273 o57 o58 ?_
          obtain ⟨o60, h⟩ := h
          obtain ⟨R59, g59, h⟩ := h
          refine x_callV hG (Ky := kX13_begin) (As := [.int (A55.I b8 (ix (y7_3 + (1 : Int32))))]) dL_law_274 (mo_t o60) rfl lk_L_41 me_X13_begin is_X13_begin se_X13_begin rfl rfl (Nat.le_of_ble_eq_true rfl) (MX.post (m_X13_begin hG o60 (I := A55.I) g59) ?_)
          rintro _ A59 ⟨v59, I59, rfl, e59, zv59, h1⟩
          refine X.xok (fun w59 => ?_)
          replace h := h v59 I59 A59 e59.symm w59 zv59 h1
          change X _ _ _ _ A59 _ _ [.int v59, .int v55]
          refine x_icmp_eq (tgt := 486) dL_law_277 (by decide) (fun c277 => ?_) (fun c277 => ?_)
          · replace h := h.1 c277
            refine x_iinc (v := (y7_3 + (6 : Int32))) dL_law_486 rfl rfl (by decide) ?_
            refine x_goto (tgt := 18) dL_law_489 (by decide) ?_
            obtain ⟨q7, l7, h⟩ := h
            change X _ _ _ _ _ _ [some (.ref b8), some (.ref A.n), some (.ref A3.n), some (.int (y7_3 + (6 : Int32)))] []
            exact X.weak (xle_c (congrArg (fun z => some (va_rf z)) e8.symm) (xle_c rfl (xle_c rfl (xle_c rfl xle_nil)))) (ih7 q7 l7 (y7_3 + (6 : Int32)) A59 h)
          · replace h := h.2 c277
            refine x_iconst_ (v := (0 : Int32)) dL_law_280 (by decide) ?_
            exact x_zret dL_law_281 rfl (by decide) ⟨_, rfl, (by decide), h⟩
        have kt11_6 : (((A7.I b8 (ix y7_3)) &&& (15 : Int32)) = (6 : Int32)) → X G (dp + 1920) kL_law (hZ Q) A7 282 [some (.ref b8), some (.ref A.n), some (.ref A3.n), some (.int y7_3)] [] := by
          intro c33
          replace h := h.2.2.2.2.2.2.1 c33
          refine x_aload_n dL_law_282 rfl ?_
          refine x_aload_n dL_law_283 rfl ?_
          refine x_iload_n dL_law_284 rfl ?_
          refine x_iconst_ (v := (1 : Int32)) dL_law_285 (by decide) ?_
          refine x_iadd dL_law_286 ?_
          obtain ⟨o61, h⟩ := h
          refine x_iald hG dL_law_287 o9 o61 ?_
          obtain ⟨o63, h⟩ := h
          obtain ⟨R62, g62, h⟩ := h
          refine x_callV hG (Ky := kX0_run) (As := [.int (A7.I b8 (ix (y7_3 + (1 : Int32))))]) dL_law_288 o63 rfl lk_L_42 me_X0_run is_X0_run se_X0_run rfl rfl (Nat.le_of_ble_eq_true rfl) (MX.post (m_X0_run hG hO g62) ?_)
          rintro _ A62 ⟨v62, rfl, h1⟩
          refine X.xok (fun w62 => ?_)
          replace h := h v62 A62 w62 h1
          change X _ _ _ _ A62 _ _ [.int v62]
          refine x_aload_n dL_law_291 rfl ?_
          refine x_aload_n dL_law_292 rfl ?_
          refine x_iload_n dL_law_293 rfl ?_
          refine x_iconst_ (v := (1 : Int32)) dL_law_294 (by decide) ?_
          refine x_iadd dL_law_295 ?_
          obtain ⟨o64, h⟩ := h
          obtain ⟨o65, h⟩ := h
          refine x_iald hG dL_law_296 o64 o65 ?_
          obtain ⟨o67, h⟩ := h
          obtain ⟨R66, g66, h⟩ := h
          refine x_callV hG (Ky := kX13_run) (As := [.int (A62.I b8 (ix (y7_3 + (1 : Int32))))]) dL_law_297 (mo_t o67) rfl lk_L_45 me_X13_run is_X13_run se_X13_run rfl rfl (Nat.le_of_ble_eq_true rfl) (MX.post (m_X13_run hG o67 (I := A62.I) g66) ?_)
          rintro _ A66 ⟨v66, I66, rfl, e66, h1⟩
          refine X.xok (fun w66 => ?_)
          replace h := h v66 I66 A66 e66.symm w66 h1
          change X _ _ _ _ A66 _ _ [.int v66, .int v62]
          refine x_icmp_eq (tgt := 486) dL_law_300 (by decide) (fun c300 => ?_) (fun c300 => ?_)
          · replace h := h.1 c300
            refine x_iinc (v := (y7_3 + (6 : Int32))) dL_law_486 rfl rfl (by decide) ?_
            refine x_goto (tgt := 18) dL_law_489 (by decide) ?_
            obtain ⟨q7, l7, h⟩ := h
            change X _ _ _ _ _ _ [some (.ref b8), some (.ref A.n), some (.ref A3.n), some (.int (y7_3 + (6 : Int32)))] []
            exact X.weak (xle_c (congrArg (fun z => some (va_rf z)) e8.symm) (xle_c rfl (xle_c rfl (xle_c rfl xle_nil)))) (ih7 q7 l7 (y7_3 + (6 : Int32)) A66 h)
          · replace h := h.2 c300
            refine x_iconst_ (v := (0 : Int32)) dL_law_303 (by decide) ?_
            exact x_zret dL_law_304 rfl (by decide) ⟨_, rfl, (by decide), h⟩
        have kt11_7 : (((A7.I b8 (ix y7_3)) &&& (15 : Int32)) = (7 : Int32)) → X G (dp + 1920) kL_law (hZ Q) A7 305 [some (.ref b8), some (.ref A.n), some (.ref A3.n), some (.int y7_3)] [] := by
          intro c33
          replace h := h.2.2.2.2.2.2.2.1 c33
          refine x_aload_n dL_law_305 rfl ?_
          refine x_aload_n dL_law_306 rfl ?_
          refine x_iload_n dL_law_307 rfl ?_
          refine x_iconst_ (v := (1 : Int32)) dL_law_308 (by decide) ?_
          refine x_iadd dL_law_309 ?_
          obtain ⟨o68, h⟩ := h
          refine x_iald hG dL_law_310 o9 o68 ?_
          obtain ⟨o70, h⟩ := h
          obtain ⟨R69, g69, h⟩ := h
          refine x_callV hG (Ky := kX0_output) (As := [.int (A7.I b8 (ix (y7_3 + (1 : Int32))))]) dL_law_311 o70 rfl lk_L_46 me_X0_output is_X0_output se_X0_output rfl rfl (Nat.le_of_ble_eq_true rfl) (MX.post (m_X0_output hG hO g69) ?_)
          rintro _ A69 ⟨v69, rfl, h1⟩
          refine X.xok (fun w69 => ?_)
          replace h := h v69 A69 w69 h1
          change X _ _ _ _ A69 _ _ [.int v69]
          refine x_aload_n dL_law_314 rfl ?_
          refine x_aload_n dL_law_315 rfl ?_
          refine x_iload_n dL_law_316 rfl ?_
          refine x_iconst_ (v := (1 : Int32)) dL_law_317 (by decide) ?_
          refine x_iadd dL_law_318 ?_
          obtain ⟨o71, h⟩ := h
          obtain ⟨o72, h⟩ := h
          refine x_iald hG dL_law_319 o71 o72 ?_
          obtain ⟨o74, h⟩ := h
          obtain ⟨R73, g73, h⟩ := h
          refine x_callV hG (Ky := kX13_output) (As := [.int (A69.I b8 (ix (y7_3 + (1 : Int32))))]) dL_law_320 (mo_t o74) rfl lk_L_49 me_X13_output is_X13_output se_X13_output rfl rfl (Nat.le_of_ble_eq_true rfl) (MX.post (m_X13_output hG o74 (I := A69.I) g73) ?_)
          rintro _ A73 ⟨v73, I73, rfl, e73, h1⟩
          refine X.xok (fun w73 => ?_)
          replace h := h v73 I73 A73 e73.symm w73 h1
          change X _ _ _ _ A73 _ _ [.int v73, .int v69]
          refine x_icmp_eq (tgt := 486) dL_law_323 (by decide) (fun c323 => ?_) (fun c323 => ?_)
          · replace h := h.1 c323
            refine x_iinc (v := (y7_3 + (6 : Int32))) dL_law_486 rfl rfl (by decide) ?_
            refine x_goto (tgt := 18) dL_law_489 (by decide) ?_
            obtain ⟨q7, l7, h⟩ := h
            change X _ _ _ _ _ _ [some (.ref b8), some (.ref A.n), some (.ref A3.n), some (.int (y7_3 + (6 : Int32)))] []
            exact X.weak (xle_c (congrArg (fun z => some (va_rf z)) e8.symm) (xle_c rfl (xle_c rfl (xle_c rfl xle_nil)))) (ih7 q7 l7 (y7_3 + (6 : Int32)) A73 h)
          · replace h := h.2 c323
            refine x_iconst_ (v := (0 : Int32)) dL_law_326 (by decide) ?_
            exact x_zret dL_law_327 rfl (by decide) ⟨_, rfl, (by decide), h⟩
        have kt11_8 : (((A7.I b8 (ix y7_3)) &&& (15 : Int32)) = (8 : Int32)) → X G (dp + 1920) kL_law (hZ Q) A7 328 [some (.ref b8), some (.ref A.n), some (.ref A3.n), some (.int y7_3)] [] := by
          intro c33
          replace h := h.2.2.2.2.2.2.2.2.1 c33
          refine x_aload_n dL_law_328 rfl ?_
          refine x_aload_n dL_law_329 rfl ?_
          refine x_iload_n dL_law_330 rfl ?_
          refine x_iconst_ (v := (1 : Int32)) dL_law_331 (by decide) ?_
          refine x_iadd dL_law_332 ?_
          obtain ⟨o75, h⟩ := h
          refine x_iald hG dL_law_333 o9 o75 ?_
          obtain ⟨o77, h⟩ := h
          obtain ⟨R76, g76, h⟩ := h
          refine x_callV hG (Ky := kX0_world) (As := [.int (A7.I b8 (ix (y7_3 + (1 : Int32))))]) dL_law_334 o77 rfl lk_L_50 me_X0_world is_X0_world se_X0_world rfl rfl (Nat.le_of_ble_eq_true rfl) (MX.post (m_X0_world hG hO g76) ?_)
          rintro _ A76 ⟨v76, rfl, h1⟩
          refine X.xok (fun w76 => ?_)
          replace h := h v76 A76 w76 h1
          change X _ _ _ _ A76 _ _ [.int v76]
          refine x_aload_n dL_law_337 rfl ?_
          refine x_aload_n dL_law_338 rfl ?_
          refine x_iload_n dL_law_339 rfl ?_
          refine x_iconst_ (v := (1 : Int32)) dL_law_340 (by decide) ?_
          refine x_iadd dL_law_341 ?_
          obtain ⟨o78, h⟩ := h
          obtain ⟨o79, h⟩ := h
          refine x_iald hG dL_law_342 o78 o79 ?_
          obtain ⟨o81, h⟩ := h
          obtain ⟨R80, g80, h⟩ := h
          refine x_callV hG (Ky := kX13_world) (As := [.int (A76.I b8 (ix (y7_3 + (1 : Int32))))]) dL_law_343 (mo_t o81) rfl lk_L_53 me_X13_world is_X13_world se_X13_world rfl rfl (Nat.le_of_ble_eq_true rfl) (MX.post (m_X13_world hG o81 (I := A76.I) g80) ?_)
          rintro _ A80 ⟨v80, I80, rfl, e80, h1⟩
          refine X.xok (fun w80 => ?_)
          replace h := h v80 I80 A80 e80.symm w80 h1
          change X _ _ _ _ A80 _ _ [.int v80, .int v76]
          refine x_icmp_eq (tgt := 486) dL_law_346 (by decide) (fun c346 => ?_) (fun c346 => ?_)
          · replace h := h.1 c346
            refine x_iinc (v := (y7_3 + (6 : Int32))) dL_law_486 rfl rfl (by decide) ?_
            refine x_goto (tgt := 18) dL_law_489 (by decide) ?_
            obtain ⟨q7, l7, h⟩ := h
            change X _ _ _ _ _ _ [some (.ref b8), some (.ref A.n), some (.ref A3.n), some (.int (y7_3 + (6 : Int32)))] []
            exact X.weak (xle_c (congrArg (fun z => some (va_rf z)) e8.symm) (xle_c rfl (xle_c rfl (xle_c rfl xle_nil)))) (ih7 q7 l7 (y7_3 + (6 : Int32)) A80 h)
          · replace h := h.2 c346
            refine x_iconst_ (v := (0 : Int32)) dL_law_349 (by decide) ?_
            exact x_zret dL_law_350 rfl (by decide) ⟨_, rfl, (by decide), h⟩
        have kt11_9 : (((A7.I b8 (ix y7_3)) &&& (15 : Int32)) = (9 : Int32)) → X G (dp + 1920) kL_law (hZ Q) A7 351 [some (.ref b8), some (.ref A.n), some (.ref A3.n), some (.int y7_3)] [] := by
          intro c33
          replace h := h.2.2.2.2.2.2.2.2.2.1 c33
          refine x_aload_n dL_law_351 rfl ?_
          refine x_aload_n dL_law_352 rfl ?_
          refine x_iload_n dL_law_353 rfl ?_
          refine x_iconst_ (v := (1 : Int32)) dL_law_354 (by decide) ?_
          refine x_iadd dL_law_355 ?_
          obtain ⟨o82, h⟩ := h
          refine x_iald hG dL_law_356 o9 o82 ?_
          obtain ⟨o84, h⟩ := h
          obtain ⟨R83, g83, h⟩ := h
          refine x_callV hG (Ky := kX0_global) (As := [.int (A7.I b8 (ix (y7_3 + (1 : Int32))))]) dL_law_357 o84 rfl lk_L_54 me_X0_global is_X0_global se_X0_global rfl rfl (Nat.le_of_ble_eq_true rfl) (MX.post (m_X0_global hG hO g83) ?_)
          rintro _ A83 ⟨v83, rfl, h1⟩
          refine X.xok (fun w83 => ?_)
          replace h := h v83 A83 w83 h1
          change X _ _ _ _ A83 _ _ [.int v83]
          refine x_aload_n dL_law_360 rfl ?_
          refine x_aload_n dL_law_361 rfl ?_
          refine x_iload_n dL_law_362 rfl ?_
          refine x_iconst_ (v := (1 : Int32)) dL_law_363 (by decide) ?_
          refine x_iadd dL_law_364 ?_
          obtain ⟨o85, h⟩ := h
          obtain ⟨o86, h⟩ := h
          refine x_iald hG dL_law_365 o85 o86 ?_
          obtain ⟨o88, h⟩ := h
          obtain ⟨R87, g87, h⟩ := h
          refine x_callV hG (Ky := kX13_global) (As := [.int (A83.I b8 (ix (y7_3 + (1 : Int32))))]) dL_law_366 (mo_t o88) rfl lk_L_57 me_X13_global is_X13_global se_X13_global rfl rfl (Nat.le_of_ble_eq_true rfl) (MX.post (m_X13_global hG o88 (I := A83.I) g87) ?_)
          rintro _ A87 ⟨v87, I87, rfl, e87, h1⟩
          refine X.xok (fun w87 => ?_)
          replace h := h v87 I87 A87 e87.symm w87 h1
          change X _ _ _ _ A87 _ _ [.int v87, .int v83]
          refine x_icmp_eq (tgt := 486) dL_law_369 (by decide) (fun c369 => ?_) (fun c369 => ?_)
          · replace h := h.1 c369
            refine x_iinc (v := (y7_3 + (6 : Int32))) dL_law_486 rfl rfl (by decide) ?_
            refine x_goto (tgt := 18) dL_law_489 (by decide) ?_
            obtain ⟨q7, l7, h⟩ := h
            change X _ _ _ _ _ _ [some (.ref b8), some (.ref A.n), some (.ref A3.n), some (.int (y7_3 + (6 : Int32)))] []
            exact X.weak (xle_c (congrArg (fun z => some (va_rf z)) e8.symm) (xle_c rfl (xle_c rfl (xle_c rfl xle_nil)))) (ih7 q7 l7 (y7_3 + (6 : Int32)) A87 h)
          · replace h := h.2 c369
            refine x_iconst_ (v := (0 : Int32)) dL_law_372 (by decide) ?_
            exact x_zret dL_law_373 rfl (by decide) ⟨_, rfl, (by decide), h⟩
        have kt11_10 : (((A7.I b8 (ix y7_3)) &&& (15 : Int32)) = (10 : Int32)) → X G (dp + 1920) kL_law (hZ Q) A7 374 [some (.ref b8), some (.ref A.n), some (.ref A3.n), some (.int y7_3)] [] := by
          intro c33
          replace h := h.2.2.2.2.2.2.2.2.2.2.1 c33
          refine x_aload_n dL_law_374 rfl ?_
          refine x_aload_n dL_law_375 rfl ?_
          refine x_iload_n dL_law_376 rfl ?_
          refine x_iconst_ (v := (1 : Int32)) dL_law_377 (by decide) ?_
          refine x_iadd dL_law_378 ?_
          obtain ⟨o89, h⟩ := h
          refine x_iald hG dL_law_379 o9 o89 ?_
          refine x_aload_n dL_law_380 rfl ?_
          refine x_iload_n dL_law_381 rfl ?_
          refine x_iconst_ (v := (2 : Int32)) dL_law_382 (by decide) ?_
          refine x_iadd dL_law_383 ?_
          obtain ⟨o90, h⟩ := h
          refine x_iald hG dL_law_384 o9 o90 ?_
          obtain ⟨o92, h⟩ := h
          obtain ⟨R91, g91, h⟩ := h
          refine x_callV hG (Ky := kX0_put) (As := [.int (A7.I b8 (ix (y7_3 + (1 : Int32)))), .int (A7.I b8 (ix (y7_3 + (2 : Int32))))]) dL_law_385 o92 rfl lk_L_58 me_X0_put is_X0_put se_X0_put rfl rfl (Nat.le_of_ble_eq_true rfl) (MX.post (m_X0_put hG hO g91) ?_)
          rintro _ A91 ⟨v91, rfl, zv91, h1⟩
          refine X.xok (fun w91 => ?_)
          replace h := h v91 A91 w91 zv91 h1
          change X _ _ _ _ A91 _ _ [.int v91]
          refine x_aload_n dL_law_388 rfl ?_
          refine x_aload_n dL_law_389 rfl ?_
          refine x_iload_n dL_law_390 rfl ?_
          refine x_iconst_ (v := (1 : Int32)) dL_law_391 (by decide) ?_
          refine x_iadd dL_law_392 ?_
          obtain ⟨o93, h⟩ := h
          obtain ⟨o94, h⟩ := h
          refine x_iald hG dL_law_393 o93 o94 ?_
          refine x_aload_n dL_law_394 rfl ?_
          refine x_iload_n dL_law_395 rfl ?_
          refine x_iconst_ (v := (2 : Int32)) dL_law_396 (by decide) ?_
          refine x_iadd dL_law_397 ?_
          obtain ⟨o95, h⟩ := h
          refine x_iald hG dL_law_398 o93 o95 ?_
          obtain ⟨o97, h⟩ := h
          obtain ⟨R96, g96, h⟩ := h
          refine x_callV hG (Ky := kX13_put) (As := [.int (A91.I b8 (ix (y7_3 + (1 : Int32)))), .int (A91.I b8 (ix (y7_3 + (2 : Int32))))]) dL_law_399 (mo_t o97) rfl lk_L_62 me_X13_put is_X13_put se_X13_put rfl rfl (Nat.le_of_ble_eq_true rfl) (MX.post (m_X13_put hG o97 (I := A91.I) g96) ?_)
          rintro _ A96 ⟨v96, I96, rfl, e96, zv96, h1⟩
          refine X.xok (fun w96 => ?_)
          replace h := h v96 I96 A96 e96.symm w96 zv96 h1
          change X _ _ _ _ A96 _ _ [.int v96, .int v91]
          refine x_icmp_eq (tgt := 486) dL_law_402 (by decide) (fun c402 => ?_) (fun c402 => ?_)
          · replace h := h.1 c402
            refine x_iinc (v := (y7_3 + (6 : Int32))) dL_law_486 rfl rfl (by decide) ?_
            refine x_goto (tgt := 18) dL_law_489 (by decide) ?_
            obtain ⟨q7, l7, h⟩ := h
            change X _ _ _ _ _ _ [some (.ref b8), some (.ref A.n), some (.ref A3.n), some (.int (y7_3 + (6 : Int32)))] []
            exact X.weak (xle_c (congrArg (fun z => some (va_rf z)) e8.symm) (xle_c rfl (xle_c rfl (xle_c rfl xle_nil)))) (ih7 q7 l7 (y7_3 + (6 : Int32)) A96 h)
          · replace h := h.2 c402
            refine x_iconst_ (v := (0 : Int32)) dL_law_405 (by decide) ?_
            exact x_zret dL_law_406 rfl (by decide) ⟨_, rfl, (by decide), h⟩
        have kt11_11 : (((A7.I b8 (ix y7_3)) &&& (15 : Int32)) = (11 : Int32)) → X G (dp + 1920) kL_law (hZ Q) A7 407 [some (.ref b8), some (.ref A.n), some (.ref A3.n), some (.int y7_3)] [] := by
          intro c33
          replace h := h.2.2.2.2.2.2.2.2.2.2.2.1 c33
          refine x_aload_n dL_law_407 rfl ?_
          refine x_aload_n dL_law_408 rfl ?_
          refine x_iload_n dL_law_409 rfl ?_
          refine x_iconst_ (v := (1 : Int32)) dL_law_410 (by decide) ?_
          refine x_iadd dL_law_411 ?_
          obtain ⟨o98, h⟩ := h
          refine x_iald hG dL_law_412 o9 o98 ?_
          refine x_aload_n dL_law_413 rfl ?_
          refine x_iload_n dL_law_414 rfl ?_
          refine x_iconst_ (v := (2 : Int32)) dL_law_415 (by decide) ?_
          refine x_iadd dL_law_416 ?_
          obtain ⟨o99, h⟩ := h
          refine x_iald hG dL_law_417 o9 o99 ?_
          obtain ⟨o101, h⟩ := h
          obtain ⟨R100, g100, h⟩ := h
          refine x_callV hG (Ky := kX0_set) (As := [.int (A7.I b8 (ix (y7_3 + (1 : Int32)))), .int (A7.I b8 (ix (y7_3 + (2 : Int32))))]) dL_law_418 o101 rfl lk_L_63 me_X0_set is_X0_set se_X0_set rfl rfl (Nat.le_of_ble_eq_true rfl) (MX.post (m_X0_set hG hO g100) ?_)
          rintro _ A100 ⟨v100, rfl, zv100, h1⟩
          refine X.xok (fun w100 => ?_)
          replace h := h v100 A100 w100 zv100 h1
          change X _ _ _ _ A100 _ _ [.int v100]
          refine x_aload_n dL_law_421 rfl ?_
          refine x_aload_n dL_law_422 rfl ?_
          refine x_iload_n dL_law_423 rfl ?_
          refine x_iconst_ (v := (1 : Int32)) dL_law_424 (by decide) ?_
          refine x_iadd dL_law_425 ?_
          obtain ⟨o102, h⟩ := h
          obtain ⟨o103, h⟩ := h
          refine x_iald hG dL_law_426 o102 o103 ?_
          refine x_aload_n dL_law_427 rfl ?_
          refine x_iload_n dL_law_428 rfl ?_
          refine x_iconst_ (v := (2 : Int32)) dL_law_429 (by decide) ?_
          refine x_iadd dL_law_430 ?_
          obtain ⟨o104, h⟩ := h
          refine x_iald hG dL_law_431 o102 o104 ?_
          obtain ⟨o106, h⟩ := h
          obtain ⟨R105, g105, h⟩ := h
          refine x_callV hG (Ky := kX13_set) (As := [.int (A100.I b8 (ix (y7_3 + (1 : Int32)))), .int (A100.I b8 (ix (y7_3 + (2 : Int32))))]) dL_law_432 (mo_t o106) rfl lk_L_66 me_X13_set is_X13_set se_X13_set rfl rfl (Nat.le_of_ble_eq_true rfl) (MX.post (m_X13_set hG o106 (I := A100.I) g105) ?_)
          rintro _ A105 ⟨v105, I105, rfl, e105, zv105, h1⟩
          refine X.xok (fun w105 => ?_)
          replace h := h v105 I105 A105 e105.symm w105 zv105 h1
          change X _ _ _ _ A105 _ _ [.int v105, .int v100]
          refine x_icmp_eq (tgt := 486) dL_law_435 (by decide) (fun c435 => ?_) (fun c435 => ?_)
          · replace h := h.1 c435
            refine x_iinc (v := (y7_3 + (6 : Int32))) dL_law_486 rfl rfl (by decide) ?_
            refine x_goto (tgt := 18) dL_law_489 (by decide) ?_
            obtain ⟨q7, l7, h⟩ := h
            change X _ _ _ _ _ _ [some (.ref b8), some (.ref A.n), some (.ref A3.n), some (.int (y7_3 + (6 : Int32)))] []
            exact X.weak (xle_c (congrArg (fun z => some (va_rf z)) e8.symm) (xle_c rfl (xle_c rfl (xle_c rfl xle_nil)))) (ih7 q7 l7 (y7_3 + (6 : Int32)) A105 h)
          · replace h := h.2 c435
            refine x_iconst_ (v := (0 : Int32)) dL_law_438 (by decide) ?_
            exact x_zret dL_law_439 rfl (by decide) ⟨_, rfl, (by decide), h⟩
        have kt11_12 : (((A7.I b8 (ix y7_3)) &&& (15 : Int32)) = (12 : Int32)) → X G (dp + 1920) kL_law (hZ Q) A7 440 [some (.ref b8), some (.ref A.n), some (.ref A3.n), some (.int y7_3)] [] := by
          intro c33
          replace h := h.2.2.2.2.2.2.2.2.2.2.2.2.1 c33
          refine x_aload_n dL_law_440 rfl ?_
          refine x_aload_n dL_law_441 rfl ?_
          refine x_iload_n dL_law_442 rfl ?_
          refine x_iconst_ (v := (1 : Int32)) dL_law_443 (by decide) ?_
          refine x_iadd dL_law_444 ?_
          obtain ⟨o107, h⟩ := h
          refine x_iald hG dL_law_445 o9 o107 ?_
          obtain ⟨o109, h⟩ := h
          obtain ⟨R108, g108, h⟩ := h
          refine x_callV hG (Ky := kX0_go) (As := [.int (A7.I b8 (ix (y7_3 + (1 : Int32))))]) dL_law_446 o109 rfl lk_L_67 me_X0_go is_X0_go se_X0_go rfl rfl (Nat.le_of_ble_eq_true rfl) (MX.post (m_X0_go hG hO g108) ?_)
          rintro _ A108 ⟨v108, rfl, h1⟩
          refine X.xok (fun w108 => ?_)
          replace h := h v108 A108 w108 h1
          change X _ _ _ _ A108 _ _ [.int v108]
          refine x_aload_n dL_law_449 rfl ?_
          refine x_aload_n dL_law_450 rfl ?_
          refine x_iload_n dL_law_451 rfl ?_
          refine x_iconst_ (v := (1 : Int32)) dL_law_452 (by decide) ?_
          refine x_iadd dL_law_453 ?_
          obtain ⟨o110, h⟩ := h
          obtain ⟨o111, h⟩ := h
          refine x_iald hG dL_law_454 o110 o111 ?_
          obtain ⟨o113, h⟩ := h
          obtain ⟨R112, g112, h⟩ := h
          refine x_callV hG (Ky := kX13_go) (As := [.int (A108.I b8 (ix (y7_3 + (1 : Int32))))]) dL_law_455 (mo_t o113) rfl lk_L_70 me_X13_go is_X13_go se_X13_go rfl rfl (Nat.le_of_ble_eq_true rfl) (MX.post (m_X13_go hG o113 (I := A108.I) g112) ?_)
          rintro _ A112 ⟨v112, I112, rfl, e112, h1⟩
          refine X.xok (fun w112 => ?_)
          replace h := h v112 I112 A112 e112.symm w112 h1
          change X _ _ _ _ A112 _ _ [.int v112, .int v108]
          refine x_icmp_eq (tgt := 486) dL_law_458 (by decide) (fun c458 => ?_) (fun c458 => ?_)
          · replace h := h.1 c458
            refine x_iinc (v := (y7_3 + (6 : Int32))) dL_law_486 rfl rfl (by decide) ?_
            refine x_goto (tgt := 18) dL_law_489 (by decide) ?_
            obtain ⟨q7, l7, h⟩ := h
            change X _ _ _ _ _ _ [some (.ref b8), some (.ref A.n), some (.ref A3.n), some (.int (y7_3 + (6 : Int32)))] []
            exact X.weak (xle_c (congrArg (fun z => some (va_rf z)) e8.symm) (xle_c rfl (xle_c rfl (xle_c rfl xle_nil)))) (ih7 q7 l7 (y7_3 + (6 : Int32)) A112 h)
          · replace h := h.2 c458
            refine x_iconst_ (v := (0 : Int32)) dL_law_461 (by decide) ?_
            exact x_zret dL_law_462 rfl (by decide) ⟨_, rfl, (by decide), h⟩
        have kt11_13 : (((A7.I b8 (ix y7_3)) &&& (15 : Int32)) = (13 : Int32)) → X G (dp + 1920) kL_law (hZ Q) A7 463 [some (.ref b8), some (.ref A.n), some (.ref A3.n), some (.int y7_3)] [] := by
          intro c33
          replace h := h.2.2.2.2.2.2.2.2.2.2.2.2.2.1 c33
          refine x_aload_n dL_law_463 rfl ?_
          refine x_aload_n dL_law_464 rfl ?_
          refine x_iload_n dL_law_465 rfl ?_
          refine x_iconst_ (v := (1 : Int32)) dL_law_466 (by decide) ?_
          refine x_iadd dL_law_467 ?_
          obtain ⟨o114, h⟩ := h
          refine x_iald hG dL_law_468 o9 o114 ?_
          obtain ⟨o116, h⟩ := h
          obtain ⟨R115, g115, h⟩ := h
          refine x_callV hG (Ky := kX0_board) (As := [.int (A7.I b8 (ix (y7_3 + (1 : Int32))))]) dL_law_469 o116 rfl lk_L_71 me_X0_board is_X0_board se_X0_board rfl rfl (Nat.le_of_ble_eq_true rfl) (MX.post (m_X0_board hG hO g115) ?_)
          rintro _ A115 ⟨v115, rfl, h1⟩
          refine X.xok (fun w115 => ?_)
          replace h := h v115 A115 w115 h1
          change X _ _ _ _ A115 _ _ [.int v115]
          refine x_aload_n dL_law_472 rfl ?_
          refine x_aload_n dL_law_473 rfl ?_
          refine x_iload_n dL_law_474 rfl ?_
          refine x_iconst_ (v := (1 : Int32)) dL_law_475 (by decide) ?_
          refine x_iadd dL_law_476 ?_
          obtain ⟨o117, h⟩ := h
          obtain ⟨o118, h⟩ := h
          refine x_iald hG dL_law_477 o117 o118 ?_
          obtain ⟨o120, h⟩ := h
          obtain ⟨R119, g119, h⟩ := h
          refine x_callV hG (Ky := kX13_board) (As := [.int (A115.I b8 (ix (y7_3 + (1 : Int32))))]) dL_law_478 (mo_t o120) rfl lk_L_74 me_X13_board is_X13_board se_X13_board rfl rfl (Nat.le_of_ble_eq_true rfl) (MX.post (m_X13_board hG o120 (I := A115.I) g119) ?_)
          rintro _ A119 ⟨v119, I119, rfl, e119, h1⟩
          refine X.xok (fun w119 => ?_)
          replace h := h v119 I119 A119 e119.symm w119 h1
          change X _ _ _ _ A119 _ _ [.int v119, .int v115]
          refine x_icmp_eq (tgt := 486) dL_law_481 (by decide) (fun c481 => ?_) (fun c481 => ?_)
          · replace h := h.1 c481
            refine x_iinc (v := (y7_3 + (6 : Int32))) dL_law_486 rfl rfl (by decide) ?_
            refine x_goto (tgt := 18) dL_law_489 (by decide) ?_
            obtain ⟨q7, l7, h⟩ := h
            change X _ _ _ _ _ _ [some (.ref b8), some (.ref A.n), some (.ref A3.n), some (.int (y7_3 + (6 : Int32)))] []
            exact X.weak (xle_c (congrArg (fun z => some (va_rf z)) e8.symm) (xle_c rfl (xle_c rfl (xle_c rfl xle_nil)))) (ih7 q7 l7 (y7_3 + (6 : Int32)) A119 h)
          · replace h := h.2 c481
            refine x_iconst_ (v := (0 : Int32)) dL_law_484 (by decide) ?_
            exact x_zret dL_law_485 rfl (by decide) ⟨_, rfl, (by decide), h⟩
        have kd11 : (¬ ((A7.I b8 (ix y7_3)) &&& (15 : Int32)) = (0 : Int32) ∧ ¬ ((A7.I b8 (ix y7_3)) &&& (15 : Int32)) = (1 : Int32) ∧ ¬ ((A7.I b8 (ix y7_3)) &&& (15 : Int32)) = (2 : Int32) ∧ ¬ ((A7.I b8 (ix y7_3)) &&& (15 : Int32)) = (3 : Int32) ∧ ¬ ((A7.I b8 (ix y7_3)) &&& (15 : Int32)) = (4 : Int32) ∧ ¬ ((A7.I b8 (ix y7_3)) &&& (15 : Int32)) = (5 : Int32) ∧ ¬ ((A7.I b8 (ix y7_3)) &&& (15 : Int32)) = (6 : Int32) ∧ ¬ ((A7.I b8 (ix y7_3)) &&& (15 : Int32)) = (7 : Int32) ∧ ¬ ((A7.I b8 (ix y7_3)) &&& (15 : Int32)) = (8 : Int32) ∧ ¬ ((A7.I b8 (ix y7_3)) &&& (15 : Int32)) = (9 : Int32) ∧ ¬ ((A7.I b8 (ix y7_3)) &&& (15 : Int32)) = (10 : Int32) ∧ ¬ ((A7.I b8 (ix y7_3)) &&& (15 : Int32)) = (11 : Int32) ∧ ¬ ((A7.I b8 (ix y7_3)) &&& (15 : Int32)) = (12 : Int32) ∧ ¬ ((A7.I b8 (ix y7_3)) &&& (15 : Int32)) = (13 : Int32)) → X G (dp + 1920) kL_law (hZ Q) A7 486 [some (.ref b8), some (.ref A.n), some (.ref A3.n), some (.int y7_3)] [] := by
          intro c33
          replace h := h.2.2.2.2.2.2.2.2.2.2.2.2.2.2 c33
          refine x_iinc (v := (y7_3 + (6 : Int32))) dL_law_486 rfl rfl (by decide) ?_
          refine x_goto (tgt := 18) dL_law_489 (by decide) ?_
          obtain ⟨q7, l7, h⟩ := h
          change X _ _ _ _ _ _ [some (.ref b8), some (.ref A.n), some (.ref A3.n), some (.int (y7_3 + (6 : Int32)))] []
          exact X.weak (xle_c (congrArg (fun z => some (va_rf z)) e8.symm) (xle_c rfl (xle_c rfl (xle_c rfl xle_nil)))) (ih7 q7 l7 (y7_3 + (6 : Int32)) A7 h)
        refine x_sw (0 : Int32) (fun s33_0 => ?_) (fun s33_0 => ?_)
        · refine x_tableIn (off := 71) (tgt := 104) dL_law_33 (by rw [s33_0]; decide) (by rw [s33_0]; decide) (by rw [s33_0]; rfl) (by decide) ?_
          exact kt11_0 s33_0
        refine x_sw (1 : Int32) (fun s33_1 => ?_) (fun s33_1 => ?_)
        · refine x_tableIn (off := 134) (tgt := 167) dL_law_33 (by rw [s33_1]; decide) (by rw [s33_1]; decide) (by rw [s33_1]; rfl) (by decide) ?_
          exact kt11_1 s33_1
        refine x_sw (2 : Int32) (fun s33_2 => ?_) (fun s33_2 => ?_)
        · refine x_tableIn (off := 157) (tgt := 190) dL_law_33 (by rw [s33_2]; decide) (by rw [s33_2]; decide) (by rw [s33_2]; rfl) (by decide) ?_
          exact kt11_2 s33_2
        refine x_sw (3 : Int32) (fun s33_3 => ?_) (fun s33_3 => ?_)
        · refine x_tableIn (off := 170) (tgt := 203) dL_law_33 (by rw [s33_3]; decide) (by rw [s33_3]; decide) (by rw [s33_3]; rfl) (by decide) ?_
          exact kt11_3 s33_3
        refine x_sw (4 : Int32) (fun s33_4 => ?_) (fun s33_4 => ?_)
        · refine x_tableIn (off := 203) (tgt := 236) dL_law_33 (by rw [s33_4]; decide) (by rw [s33_4]; decide) (by rw [s33_4]; rfl) (by decide) ?_
          exact kt11_4 s33_4
        refine x_sw (5 : Int32) (fun s33_5 => ?_) (fun s33_5 => ?_)
        · refine x_tableIn (off := 226) (tgt := 259) dL_law_33 (by rw [s33_5]; decide) (by rw [s33_5]; decide) (by rw [s33_5]; rfl) (by decide) ?_
          exact kt11_5 s33_5
        refine x_sw (6 : Int32) (fun s33_6 => ?_) (fun s33_6 => ?_)
        · refine x_tableIn (off := 249) (tgt := 282) dL_law_33 (by rw [s33_6]; decide) (by rw [s33_6]; decide) (by rw [s33_6]; rfl) (by decide) ?_
          exact kt11_6 s33_6
        refine x_sw (7 : Int32) (fun s33_7 => ?_) (fun s33_7 => ?_)
        · refine x_tableIn (off := 272) (tgt := 305) dL_law_33 (by rw [s33_7]; decide) (by rw [s33_7]; decide) (by rw [s33_7]; rfl) (by decide) ?_
          exact kt11_7 s33_7
        refine x_sw (8 : Int32) (fun s33_8 => ?_) (fun s33_8 => ?_)
        · refine x_tableIn (off := 295) (tgt := 328) dL_law_33 (by rw [s33_8]; decide) (by rw [s33_8]; decide) (by rw [s33_8]; rfl) (by decide) ?_
          exact kt11_8 s33_8
        refine x_sw (9 : Int32) (fun s33_9 => ?_) (fun s33_9 => ?_)
        · refine x_tableIn (off := 318) (tgt := 351) dL_law_33 (by rw [s33_9]; decide) (by rw [s33_9]; decide) (by rw [s33_9]; rfl) (by decide) ?_
          exact kt11_9 s33_9
        refine x_sw (10 : Int32) (fun s33_10 => ?_) (fun s33_10 => ?_)
        · refine x_tableIn (off := 341) (tgt := 374) dL_law_33 (by rw [s33_10]; decide) (by rw [s33_10]; decide) (by rw [s33_10]; rfl) (by decide) ?_
          exact kt11_10 s33_10
        refine x_sw (11 : Int32) (fun s33_11 => ?_) (fun s33_11 => ?_)
        · refine x_tableIn (off := 374) (tgt := 407) dL_law_33 (by rw [s33_11]; decide) (by rw [s33_11]; decide) (by rw [s33_11]; rfl) (by decide) ?_
          exact kt11_11 s33_11
        refine x_sw (12 : Int32) (fun s33_12 => ?_) (fun s33_12 => ?_)
        · refine x_tableIn (off := 407) (tgt := 440) dL_law_33 (by rw [s33_12]; decide) (by rw [s33_12]; decide) (by rw [s33_12]; rfl) (by decide) ?_
          exact kt11_12 s33_12
        refine x_sw (13 : Int32) (fun s33_13 => ?_) (fun s33_13 => ?_)
        · refine x_tableIn (off := 430) (tgt := 463) dL_law_33 (by rw [s33_13]; decide) (by rw [s33_13]; decide) (by rw [s33_13]; rfl) (by decide) ?_
          exact kt11_13 s33_13
        have t33_0 := lv_neT s33_0 (a := 0) (by decide)
        have t33_1 := lv_neT s33_1 (a := 1) (by decide)
        have t33_2 := lv_neT s33_2 (a := 2) (by decide)
        have t33_3 := lv_neT s33_3 (a := 3) (by decide)
        have t33_4 := lv_neT s33_4 (a := 4) (by decide)
        have t33_5 := lv_neT s33_5 (a := 5) (by decide)
        have t33_6 := lv_neT s33_6 (a := 6) (by decide)
        have t33_7 := lv_neT s33_7 (a := 7) (by decide)
        have t33_8 := lv_neT s33_8 (a := 8) (by decide)
        have t33_9 := lv_neT s33_9 (a := 9) (by decide)
        have t33_10 := lv_neT s33_10 (a := 10) (by decide)
        have t33_11 := lv_neT s33_11 (a := 11) (by decide)
        have t33_12 := lv_neT s33_12 (a := 12) (by decide)
        have t33_13 := lv_neT s33_13 (a := 13) (by decide)
        refine x_tableOut (tgt := 486) dL_law_33 (by omega) (by decide) ?_
        exact kd11 ⟨s33_0, s33_1, s33_2, s33_3, s33_4, s33_5, s33_6, s33_7, s33_8, s33_9, s33_10, s33_11, s33_12, s33_13⟩
  change X _ _ _ _ _ _ [some (va_rf s), some (.ref A.n), some (.ref A3.n), some (.int (0 : Int32))] []
  exact X.weak (xle_c rfl (xle_c rfl (xle_c rfl (xle_c rfl xle_nil)))) (kl7 n7 (0 : Int32) A6 i7)
end W116
