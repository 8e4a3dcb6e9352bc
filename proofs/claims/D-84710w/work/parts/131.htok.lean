/-! ===== the House's tokens: skip, run ===== -/
set_option maxRecDepth 100000
/-- the text lies in the House -/
def tJ (J : xII) (x n : Nat) (tx : Nat → Int32) : Prop := J (x + 3) 8 = nI n ∧ n ≤ 4000 ∧ ∀ k, k < n → J (x + 1) k &&& 255 = tx k ∧ J (x + 1) k = (tx k).toInt8.toInt32
def xTE (G : xG) (A : xA) (x n : Nat) (tx : Nat → Int32) : Prop := xHs G A x ∧ A.P (x + 3) 7 = some (x + 1) ∧ tJ A.I x n tx
/-- at q -/
def aT (J : xII) (x q : Nat) : xII := xup J (x + 3) 9 (nI q)
theorem aT_9 {J : xII} {x q : Nat} : aT J x q (x + 3) 9 = nI q := xup_s
theorem aT_a {J : xII} {x q a k : Nat} (h : a ≠ x + 3) : aT J x q a k = J a k := xup_a h
theorem aT_k {J : xII} {x q a k : Nat} (h : k ≠ 9) : aT J x q a k = J a k := xup_k h
theorem xup_xup {α : Type} {f : Nat → Nat → α} {a k : Nat} {v w : α} : xup (xup f a k v) a k w = xup f a k w := by
  funext b j
  by_cases h : b = a ∧ j = k
  · simp [xup, h]
  · simp [xup, h]
theorem xup_id {α : Type} {f : Nat → Nat → α} {a k : Nat} {v : α} (h : f a k = v) : xup f a k v = f := by
  funext b j
  by_cases h' : b = a ∧ j = k
  · obtain ⟨rfl, rfl⟩ := h'
    rw [xup_s, h]
  · simp [xup, h']
theorem aT_id {J : xII} {x q : Nat} (h : J (x + 3) 9 = nI q) : aT J x q = J := xup_id h
theorem tJ_aT {J : xII} {x q n : Nat} {tx : Nat → Int32} (h : tJ J x n tx) : tJ (aT J x q) x n tx := by
  refine ⟨?_, h.2.1, fun k hk => ?_⟩
  · rw [aT_k (by decide)]
    exact h.1
  · rw [aT_a (show x + 1 ≠ x + 3 by omega)]
    exact h.2.2 k hk
section TK
variable {G : xG} {A : xA} {x n q : Nat} {tx : Nat → Int32}
theorem xTE.at (h : xTE G A x n tx) (q : Nat) : xTE G (A.wI (aT A.I x q)) x n tx := ⟨h.1, h.2.1, tJ_aT h.2.2⟩
theorem aT_set {d : Int32} {k : Nat} (hd : d = nI k) : (A.wI (aT A.I x q)).setI (x + 3) 9 ((A.wI (aT A.I x q)).I (x + 3) 9 + d) = A.wI (aT A.I x (q + k)) := by
  subst hd
  show A.wI (xup (aT A.I x q) (x + 3) 9 (aT A.I x q (x + 3) 9 + nI k)) = _
  rw [aT_9, nI_add, aT, xup_xup]
  rfl
theorem aT_set1 : (A.wI (aT A.I x q)).setI (x + 3) 9 ((A.wI (aT A.I x q)).I (x + 3) 9 + (1 : Int32)) = A.wI (aT A.I x (q + 1)) := aT_set (k := 1) rfl
theorem aT_set2 : (A.wI (aT A.I x q)).setI (x + 3) 9 ((A.wI (aT A.I x q)).I (x + 3) 9 + (2 : Int32)) = A.wI (aT A.I x (q + 2)) := aT_set (k := 2) rfl
theorem s_X2_now (h : xTE G A x n tx) (h9 : A.I (x + 3) 9 = nI q) {k : Nat} (hk : q + k < 1000000) {Q : Int32 → xA → Prop} (hQ : Q (hNow tx n (q + k)) A) : w_X2_now G (x + 3) (nI k) Q A := by
  obtain ⟨hH, h7, h8, hn, hb⟩ := h
  intro _
  refine ⟨hs_t3 hH, ?_⟩
  rw [h8, h9, nI_add]
  have hle : nI n ≤ nI (q + k) ↔ n ≤ q + k := nI_leI (by omega) (by omega)
  refine ⟨fun hc => ?_, fun hc => ⟨_, h7, hs_t1 hH, ?_, ?_⟩⟩
  · rw [hNow_ge (by have := hle.mp hc; omega)] at hQ
    exact hQ
  · rw [hs_n1 hH]
    exact vp_in_nI (by have : ¬ n ≤ q + k := fun z => hc (hle.mpr z); omega) (by decide)
  · have : q + k < n := by have : ¬ n ≤ q + k := fun z => hc (hle.mpr z); omega
    rw [show ix (nI (q + k)) = q + k from nI_clamp (by omega), (hb _ this).1]
    rw [hNow_lt this] at hQ
    exact hQ
theorem s_now (h : xTE G A x n tx) (hq : q ≤ 5000) {k : Nat} {c : Int32} (hc : c = nI k) (hk : k < 5000) : w_X2_now G (x + 3) c (fun v B => v = hNow tx n (q + k) ∧ A.wI (aT A.I x q) = B) (A.wI (aT A.I x q)) := by
  subst hc
  exact s_X2_now (h.at q) aT_9 (by omega) ⟨rfl, rfl⟩
theorem tg3 (h : xTE G A x n tx) (q : Nat) : (A.wI (aT A.I x q)).tg (x + 3) = 3 := hs_t3 h.1
/-- what follows the / of a note -/
def skBody (G : xG) (p : Nat) (Q : Int32 → xA → Prop) (K : xA → Prop) (A : xA) : Prop := A.tg p = 3 ∧ (∃ R7 : Int32 → xA → Prop, w_X2_now G p (1 : Int32) R7 A ∧ (∀ (v7 : Int32) (A7 : xA), xok G A7 → R7 v7 A7 → (A7.tg p = 3 ∧ (∀ A9 : xA, A9 = A7.setI p 9 ((A7.I p 9) + (2 : Int32)) → (∃ L10 : Nat → xA → Prop, (∃ n10 : Nat, L10 n10 A9) ∧ (∀ (n10 : Nat) (A10 : xA), L10 n10 A10 → A10.tg p = 3 ∧ (∃ J12 : xA → Prop, (∀ (A12 : xA), J12 A12 → A12.tg p = 3 ∧ ((((A12.I p 9) = (A12.I p 8) → (((if v7 = (47 : Int32) then (1 : Int32) else (0 : Int32)) = 0 → Q (A.I p 9) A12) ∧ (¬ (if v7 = (47 : Int32) then (1 : Int32) else (0 : Int32)) = 0 → ∃ J16 : xA → Prop, (∀ (A16 : xA), J16 A16 → (K A16)) ∧ (((A12.I p 8) ≤ (A12.I p 9) → J16 A12) ∧ (¬ (A12.I p 8) ≤ (A12.I p 9) → ∀ A17 : xA, A17 = A12.setI p 9 ((A12.I p 9) + (1 : Int32)) → (J16 A17)))))) ∧ (¬ (A12.I p 9) = (A12.I p 8) → ∃ J14 : xA → Prop, (∀ (A14 : xA), J14 A14 → (K A14)) ∧ (((A12.I p 8) ≤ (A12.I p 9) → J14 A12) ∧ (¬ (A12.I p 8) ≤ (A12.I p 9) → ∀ A15 : xA, A15 = A12.setI p 9 ((A12.I p 9) + (if (if v7 = (47 : Int32) then (1 : Int32) else (0 : Int32)) = 0 then (2 : Int32) else (1 : Int32))) → (J14 A15))))))) ∧ (((A10.I p 8) ≤ (A10.I p 9) → J12 A10) ∧ (¬ (A10.I p 8) ≤ (A10.I p 9) → (((if v7 = (47 : Int32) then (1 : Int32) else (0 : Int32)) = 0 → ∃ R18 : Int32 → xA → Prop, w_X2_now G p (0 : Int32) R18 A10 ∧ (∀ (v18 : Int32) (A18 : xA), xok G A18 → R18 v18 A18 → (((v18 = (42 : Int32) → A18.tg p = 3 ∧ (∃ R21 : Int32 → xA → Prop, w_X2_now G p (1 : Int32) R21 A18 ∧ (∀ (v21 : Int32) (A21 : xA), xok G A21 → R21 v21 A21 → (((v21 = (47 : Int32) → J12 A21) ∧ (¬ v21 = (47 : Int32) → A21.tg p = 3 ∧ (∀ A24 : xA, A24 = A21.setI p 9 ((A21.I p 9) + (1 : Int32)) → ((∃ q10 : Nat, q10 < n10 ∧ L10 q10 A24))))))))) ∧ (¬ v18 = (42 : Int32) → A18.tg p = 3 ∧ (∀ A20 : xA, A20 = A18.setI p 9 ((A18.I p 9) + (1 : Int32)) → ((∃ q10 : Nat, q10 < n10 ∧ L10 q10 A20)))))))) ∧ (¬ (if v7 = (47 : Int32) then (1 : Int32) else (0 : Int32)) = 0 → ∃ R25 : Int32 → xA → Prop, w_X2_now G p (0 : Int32) R25 A10 ∧ (∀ (v25 : Int32) (A25 : xA), xok G A25 → R25 v25 A25 → (((v25 = (10 : Int32) → J12 A25) ∧ (¬ v25 = (10 : Int32) → A25.tg p = 3 ∧ (∀ A27 : xA, A27 = A25.setI p 9 ((A25.I p 9) + (1 : Int32)) → ((∃ q10 : Nat, q10 < n10 ∧ L10 q10 A27))))))))))))))))))
theorem sk_body (h : xTE G A x n tx) (hq : q < n) {Q : Int32 → xA → Prop} {K : xA → Prop} (h1 : tx q = 47) (h2 : hNow tx n (q + 1) = 47 ∨ hNow tx n (q + 1) = 42)
    (hQ : (skR tx n q).1 = true → (skR tx n q).2 = q → Q (nI q) (A.wI (aT A.I x n))) (hK : ∀ q', q < q' → q' ≤ n → skR tx n q' = skR tx n q → K (A.wI (aT A.I x q'))) : skBody G (x + 3) Q K (A.wI (aT A.I x q)) := by
  have hn : n ≤ 4000 := h.2.2.2.1
  have h3 : q + 2 ≤ n := by
    by_cases z : q + 1 < n
    · omega
    · rw [hNow_ge z] at h2
      exact absurd h2 (by decide)
  refine ⟨tg3 h q, _, s_now h (by omega) (k := 1) rfl (by decide), ?_⟩
  rintro _ _ _ ⟨rfl, rfl⟩
  refine ⟨tg3 h q, ?_⟩
  rintro _ rfl
  rw [aT_set2]
  have e9 : (A.wI (aT A.I x q)).I (x + 3) 9 = nI q := aT_9
  rw [e9]
  rcases h2 with hl | hs
  · -- a line
    have hr := skR_line hq h1 hl
    have hle := run1_le (P := fun k => decide (¬ tx k = 10)) (n := n) (n - (q + 2)) (p := q + 2) rfl h3
    rw [hl, if_pos rfl]
    refine ⟨fun z B => ∃ j, q + 2 ≤ j ∧ j ≤ n ∧ z = n - j ∧ j + run1 (fun k => decide (¬ tx k = 10)) n j = q + 2 + run1 (fun k => decide (¬ tx k = 10)) n (q + 2) ∧ A.wI (aT A.I x j) = B, ⟨n - (q + 2), q + 2, Nat.le_refl _, h3, rfl, rfl, rfl⟩, ?_⟩
    rintro _ _ ⟨j, hj1, hj2, rfl, hj3, rfl⟩
    have e8 : (A.wI (aT A.I x j)).I (x + 3) 8 = nI n := (tJ_aT h.2.2).1
    have e9 : (A.wI (aT A.I x j)).I (x + 3) 9 = nI j := aT_9
    have hcc : nI n ≤ nI j ↔ n ≤ j := nI_leI (by omega) (by omega)
    refine ⟨tg3 h j, fun B => j = q + 2 + run1 (fun k => decide (¬ tx k = 10)) n (q + 2) ∧ A.wI (aT A.I x j) = B, ?_, ?_⟩
    · rintro _ ⟨ej, rfl⟩
      rw [← ej] at hr
      refine ⟨tg3 h j, ?_⟩
      rw [e8, e9]
      refine ⟨fun hc => ⟨fun z => absurd z (by decide), fun _ => ⟨fun B => K B, fun _ z => z, fun _ => ?_, fun z => ?_⟩⟩, fun hc => ⟨fun B => K B, fun _ z => z, fun z => ?_, fun z => ?_⟩⟩
      · exact hK j (by omega) hj2 hr.symm
      · exact absurd (by rw [hc]; exact Int32.le_refl _) z
      · exact hK j (by omega) hj2 hr.symm
      · rintro _ rfl
        have hlt : j < n := by have : ¬ n ≤ j := fun y => z (hcc.mpr y); omega
        rw [if_neg (by decide), ← e9, aT_set1]
        have ht : tx j = 10 := by
          have := run1_out (P := fun k => decide (¬ tx k = 10)) (n := n) (n - (q + 2)) (p := q + 2) rfl (by omega)
          rw [← ej] at this
          exact Classical.not_not.mp (of_decide_eq_false this)
        refine hK (j + 1) (by omega) (by omega) ?_
        rw [hr, skR_blank hlt (Or.inl ht)]
    · rw [e8, e9]
      refine ⟨fun hc => ⟨?_, rfl⟩, fun hc => ⟨fun z => absurd z (by decide), fun _ => ?_⟩⟩
      · have := hcc.mp hc
        rw [run1_ge this] at hj3
        omega
      · have hlt : j < n := by have : ¬ n ≤ j := fun y => hc (hcc.mpr y); omega
        refine ⟨_, s_now h (by omega) (k := 0) rfl (by decide), ?_⟩
        rintro _ _ _ ⟨rfl, rfl⟩
        rw [Nat.add_zero, hNow_lt hlt]
        refine ⟨fun ht => ⟨?_, rfl⟩, fun ht => ⟨tg3 h j, ?_⟩⟩
        · rw [run1_no (decide_eq_false (fun z => z ht))] at hj3
          omega
        · rintro _ rfl
          rw [aT_set1]
          refine ⟨n - (j + 1), by omega, j + 1, by omega, by omega, rfl, ?_, rfl⟩
          rw [run1_lt hlt (decide_eq_true ht)] at hj3
          omega
  · -- a note
    have hr := skR_note hq h1 hs
    have hle := run1_le (P := fun k => decide (¬ (tx k = 42 ∧ hNow tx n (k + 1) = 47))) (n := n) (n - (q + 2)) (p := q + 2) rfl h3
    rw [hs, if_neg (by decide)]
    refine ⟨fun z B => ∃ j, q + 2 ≤ j ∧ j ≤ n ∧ z = n - j ∧ j + run1 (fun k => decide (¬ (tx k = 42 ∧ hNow tx n (k + 1) = 47))) n j = q + 2 + run1 (fun k => decide (¬ (tx k = 42 ∧ hNow tx n (k + 1) = 47))) n (q + 2) ∧ A.wI (aT A.I x j) = B, ⟨n - (q + 2), q + 2, Nat.le_refl _, h3, rfl, rfl, rfl⟩, ?_⟩
    rintro _ _ ⟨j, hj1, hj2, rfl, hj3, rfl⟩
    have e8 : (A.wI (aT A.I x j)).I (x + 3) 8 = nI n := (tJ_aT h.2.2).1
    have e9 : (A.wI (aT A.I x j)).I (x + 3) 9 = nI j := aT_9
    have hcc : nI n ≤ nI j ↔ n ≤ j := nI_leI (by omega) (by omega)
    refine ⟨tg3 h j, fun B => j = q + 2 + run1 (fun k => decide (¬ (tx k = 42 ∧ hNow tx n (k + 1) = 47))) n (q + 2) ∧ A.wI (aT A.I x j) = B, ?_, ?_⟩
    · rintro _ ⟨ej, rfl⟩
      rw [← ej] at hr
      refine ⟨tg3 h j, ?_⟩
      rw [e8, e9]
      refine ⟨fun hc => ⟨fun _ => ?_, fun z => absurd rfl z⟩, fun hc => ⟨fun B => K B, fun _ z => z, fun z => ?_, fun z => ?_⟩⟩
      · have : j = n := by
          have := congrArg ix hc
          rwa [show ix (nI j) = j from nI_clamp (by omega), show ix (nI n) = n from nI_clamp (by omega)] at this
        subst this
        rw [if_pos (Nat.le_refl _)] at hr
        exact hQ (by rw [hr]) (by rw [hr])
      · exact absurd (congrArg nI (show j = n by have := hcc.mp z; omega)) hc
      · rintro _ rfl
        have hlt : j < n := by have : ¬ n ≤ j := fun y => z (hcc.mpr y); omega
        rw [if_pos rfl, ← e9, aT_set2]
        have ht := run1_out (P := fun k => decide (¬ (tx k = 42 ∧ hNow tx n (k + 1) = 47))) (n := n) (n - (q + 2)) (p := q + 2) rfl (by omega)
        rw [← ej] at ht
        have ht2 := Classical.not_not.mp (of_decide_eq_false ht)
        have hj4 : j + 1 < n := by
          by_cases y : j + 1 < n
          · exact y
          · rw [hNow_ge y] at ht2
            exact absurd ht2.2 (by decide)
        rw [if_neg (by omega)] at hr
        exact hK (j + 2) (by omega) (by omega) hr.symm
    · rw [e8, e9]
      refine ⟨fun hc => ⟨?_, rfl⟩, fun hc => ⟨fun _ => ?_, fun z => absurd rfl z⟩⟩
      · have := hcc.mp hc
        rw [run1_ge this] at hj3
        omega
      · have hlt : j < n := by have : ¬ n ≤ j := fun y => hc (hcc.mpr y); omega
        refine ⟨_, s_now h (by omega) (k := 0) rfl (by decide), ?_⟩
        rintro _ _ _ ⟨rfl, rfl⟩
        rw [Nat.add_zero, hNow_lt hlt]
        refine ⟨fun ht => ⟨tg3 h j, _, s_now h (by omega) (k := 1) rfl (by decide), ?_⟩, fun ht => ⟨tg3 h j, ?_⟩⟩
        · rintro _ _ _ ⟨rfl, rfl⟩
          refine ⟨fun ht2 => ⟨?_, rfl⟩, fun ht2 => ⟨tg3 h j, ?_⟩⟩
          · rw [run1_no (decide_eq_false (fun z => z ⟨ht, ht2⟩))] at hj3
            omega
          · rintro _ rfl
            rw [aT_set1]
            refine ⟨n - (j + 1), by omega, j + 1, by omega, by omega, rfl, ?_, rfl⟩
            rw [run1_lt hlt (decide_eq_true (p := ¬ (tx j = 42 ∧ hNow tx n (j + 1) = 47)) (fun z => ht2 z.2))] at hj3
            omega
        · rintro _ rfl
          rw [aT_set1]
          refine ⟨n - (j + 1), by omega, j + 1, by omega, by omega, rfl, ?_, rfl⟩
          rw [run1_lt hlt (decide_eq_true (p := ¬ (tx j = 42 ∧ hNow tx n (j + 1) = 47)) (fun z => ht z.1))] at hj3
          omega
theorem s_X2_skip (h : xTE G A x n tx) (hq : q ≤ n) {Q : Int32 → xA → Prop} (hQ1 : ∀ b, skR tx n q = (true, b) → Q (nI b) (A.wI (aT A.I x n))) (hQ0 : ∀ b, skR tx n q = (false, b) → Q (-1) (A.wI (aT A.I x b))) : w_X2_skip G (x + 3) Q (A.wI (aT A.I x q)) := by
  have hn : n ≤ 4000 := h.2.2.2.1
  intro _
  refine ⟨fun z B => ∃ j, q ≤ j ∧ j ≤ n ∧ z = n - j ∧ skR tx n j = skR tx n q ∧ A.wI (aT A.I x j) = B, ⟨n - q, q, Nat.le_refl _, hq, rfl, rfl, rfl⟩, ?_⟩
  rintro _ _ ⟨j, hj1, hj2, rfl, hj3, rfl⟩
  have body : ∀ (k1 : hNow tx n j = 47) (k2 : hNow tx n (j + 1) = 47 ∨ hNow tx n (j + 1) = 42), skBody G (x + 3) Q (fun B => ∃ q1, q1 < n - j ∧ ∃ j', q ≤ j' ∧ j' ≤ n ∧ q1 = n - j' ∧ skR tx n j' = skR tx n q ∧ A.wI (aT A.I x j') = B) (A.wI (aT A.I x j)) := by
    intro k1 k2
    have hjn : j < n := by
      by_cases y : j < n
      · exact y
      · rw [hNow_ge y] at k1
        exact absurd k1 (by decide)
    rw [hNow_lt hjn] at k1
    refine sk_body h hjn k1 k2 (fun e1 e2 => ?_) (fun j' g1 g2 g3 => ⟨n - j', by omega, j', by omega, g2, rfl, g3.trans hj3, rfl⟩)
    refine hQ1 j ?_
    rw [← hj3]
    exact Prod.ext e1 e2
  have blank : ∀ (k1 : hNow tx n j = 10 ∨ hNow tx n j = 32), ∃ q1, q1 < n - j ∧ ∃ j', q ≤ j' ∧ j' ≤ n ∧ q1 = n - j' ∧ skR tx n j' = skR tx n q ∧ A.wI (aT A.I x j') = A.wI (aT A.I x (j + 1)) := by
    intro k1
    have hjn : j < n := by
      by_cases y : j < n
      · exact y
      · rw [hNow_ge y] at k1
        exact absurd k1 (by decide)
    rw [hNow_lt hjn] at k1
    exact ⟨n - (j + 1), by omega, j + 1, by omega, by omega, rfl, (skR_blank hjn k1).symm.trans hj3, rfl⟩
  have stop : ¬ hNow tx n j = 10 → ¬ hNow tx n j = 32 → ¬ (hNow tx n j = 47 ∧ (hNow tx n (j + 1) = 47 ∨ hNow tx n (j + 1) = 42)) → Q (-1) (A.wI (aT A.I x j)) := by
    intro n1 n2 n3
    refine hQ0 j ?_
    rw [← hj3]
    by_cases y : j < n
    · rw [hNow_lt y] at n1 n2 n3
      exact skR_stop (fun z => z.elim n1 n2) n3
    · exact skR_ge y
  refine ⟨tg3 h j, _, s_now h (by omega) (k := 0) rfl (by decide), ?_⟩
  rintro _ _ _ ⟨rfl, rfl⟩
  refine ⟨fun e1 => ⟨tg3 h j, _, s_now h (by omega) (k := 0) rfl (by decide), ?_⟩, fun e1 => ⟨tg3 h j, _, s_now h (by omega) (k := 0) rfl (by decide), ?_⟩⟩
  · rintro _ _ _ ⟨rfl, rfl⟩
    refine ⟨fun e => absurd (e1.symm.trans e) (by decide), fun _ => ⟨tg3 h j, ?_⟩⟩
    rintro _ rfl
    rw [aT_set1]
    exact blank (Or.inl e1)
  · rintro _ _ _ ⟨rfl, rfl⟩
    refine ⟨fun e2 => ⟨tg3 h j, _, s_now h (by omega) (k := 0) rfl (by decide), ?_⟩, fun e2 => ⟨tg3 h j, _, s_now h (by omega) (k := 0) rfl (by decide), ?_⟩⟩
    · rintro _ _ _ ⟨rfl, rfl⟩
      refine ⟨fun e => absurd (e2.symm.trans e) (by decide), fun _ => ⟨tg3 h j, ?_⟩⟩
      rintro _ rfl
      rw [aT_set1]
      exact blank (Or.inr e2)
    · rintro _ _ _ ⟨rfl, rfl⟩
      refine ⟨fun e3 => ⟨tg3 h j, _, s_now h (by omega) (k := 1) rfl (by decide), ?_⟩, fun e3 => stop e1 e2 (fun z => e3 z.1)⟩
      rintro _ _ _ ⟨rfl, rfl⟩
      refine ⟨fun e4 => ⟨tg3 h j, _, s_now h (by omega) (k := 0) rfl (by decide), ?_⟩, fun e4 => ⟨tg3 h j, _, s_now h (by omega) (k := 1) rfl (by decide), ?_⟩⟩
      · rintro _ _ _ ⟨rfl, rfl⟩
        exact ⟨fun _ => body e3 (Or.inl e4), fun e => absurd e3 e⟩
      · rintro _ _ _ ⟨rfl, rfl⟩
        refine ⟨fun e5 => ⟨tg3 h j, _, s_now h (by omega) (k := 0) rfl (by decide), ?_⟩, fun e5 => stop e1 e2 (fun z => z.2.elim e4 e5)⟩
        rintro _ _ _ ⟨rfl, rfl⟩
        exact ⟨fun _ => body e3 (Or.inr e5), fun e => absurd e3 e⟩
theorem inB_m1 : inB (-1) = false := by decide
theorem s_X2_run (h : xTE G A x n tx) (hq : q ≤ n) : w_X2_run G (x + 3) (fun v B => v = nI (rnL tx n q) ∧ A.wI (aT A.I x q) = B) (A.wI (aT A.I x q)) := by
  have hn : n ≤ 4000 := h.2.2.2.1
  have hle : q + rnL tx n q ≤ n := rnL_le hq
  intro _
  refine ⟨fun z y B => ∃ j, z = n - q - j ∧ q + j ≤ n ∧ y = nI j ∧ j + rnL tx n (q + j) = rnL tx n q ∧ A.wI (aT A.I x q) = B, ⟨n - q, 0, by omega, hq, rfl, by rw [Nat.add_zero]; omega, rfl⟩, ?_⟩
  rintro _ _ _ ⟨j, rfl, hj1, rfl, hj2, rfl⟩
  have more : inB (hNow tx n (q + j)) = true → ∃ q1, q1 < n - q - j ∧ ∃ j', q1 = n - q - j' ∧ q + j' ≤ n ∧ nI j + 1 = nI j' ∧ j' + rnL tx n (q + j') = rnL tx n q ∧ A.wI (aT A.I x q) = A.wI (aT A.I x q) := by
    intro hi
    have hlt : q + j < n := by
      by_cases y : q + j < n
      · exact y
      · rw [hNow_ge y, inB_m1] at hi
        exact nomatch hi
    rw [hNow_lt hlt] at hi
    rw [rnL, run1_lt hlt hi] at hj2
    refine ⟨n - q - (j + 1), by omega, j + 1, rfl, by omega, nI_1 j, ?_, rfl⟩
    rw [rnL, show q + (j + 1) = q + j + 1 by omega]
    omega
  refine ⟨tg3 h q, _, s_now h (by omega) (k := j) rfl (by omega), ?_⟩
  rintro _ _ _ ⟨rfl, rfl⟩
  refine ⟨fun e1 => ⟨tg3 h q, _, s_now h (by omega) (k := j) rfl (by omega), ?_⟩, fun e1 => more (inB_let e1)⟩
  rintro _ _ _ ⟨rfl, rfl⟩
  refine ⟨fun e2 => ⟨?_, rfl⟩, fun e2 => more (inB_dig e2)⟩
  have : rnL tx n (q + j) = 0 := by
    by_cases y : q + j < n
    · rw [hNow_lt y] at e1 e2
      exact run1_no (decide_eq_false (fun z => z ⟨e1, e2⟩))
    · exact run1_ge (by omega)
  rw [← hj2, this, Nat.add_zero]
end TK
