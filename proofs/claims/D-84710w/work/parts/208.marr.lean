/-! ===== the Model: arrays outside of functions, their room ===== -/
set_option maxRecDepth 100000
def arW (g : glb) (b many : Int32) : Bool := decide (g.1 + aWd many b ≤ 2000)
def arO (g : glb) (b many : Int32) : Nat := if many = -1 ∨ arW g b many = false then 0 else ix many
def arRow (g : glb) (b many : Int32) (k : Nat) : Int32 × Int32 × Int32 := (if b = 0 then 1 else f_J11_min 4 (many - 4 * nI k), b, nI g.2.2.1.length + (if b = 0 then nI k else 4 * nI k))
/-- an array's room -/
def arG (g : glb) (b many : Int32) : glb := (g.1 + aWd many b, g.2.1 ++ (if arW g b many = true then (List.range (aWd many b)).map (arRow g b many) else []), g.2.2.1 ++ List.replicate (arO g b many) 0, g.2.2.2)
/-- the formula's middle: rows, cells -/
def arM (m : Nat) (b v3 w36 : Int32) (X : xII → Prop) (I5 : xII) : Prop := ∃ L6 : Nat → Int32 → xII → Prop, (∃ n6 : Nat, L6 n6 (0 : Int32) I5) ∧ (∀ (n6 : Nat) (y6_7 : Int32) (I6 : xII), L6 n6 y6_7 I6 → ∃ J7 : Prop, (J7 → ∀ I8 : xII, I8 = xup I6 m 36 ((I6 m 36) + (if v3 = (-1 : Int32) then (0 : Int32) else (if b = 0 then v3 else ((v3 + (3 : Int32)) / (4 : Int32))))) → (∃ L9 : Nat → Int32 → xII → Prop, (∃ n9 : Nat, L9 n9 (0 : Int32) I8) ∧ (∀ (n9 : Nat) (y9_8 : Int32) (I9 : xII), L9 n9 y9_8 I9 → (((if v3 = (-1 : Int32) then (0 : Int32) else (if (if (2000 : Int32) < (w36 + (if v3 = (-1 : Int32) then (0 : Int32) else (if b = 0 then v3 else ((v3 + (3 : Int32)) / (4 : Int32))))) then (0 : Int32) else (1 : Int32)) = 0 then (0 : Int32) else v3)) ≤ y9_8 → ∀ I10 : xII, I10 = xup I9 m 37 ((I9 m 37) + (if v3 = (-1 : Int32) then (0 : Int32) else (if (if (2000 : Int32) < (w36 + (if v3 = (-1 : Int32) then (0 : Int32) else (if b = 0 then v3 else ((v3 + (3 : Int32)) / (4 : Int32))))) then (0 : Int32) else (1 : Int32)) = 0 then (0 : Int32) else v3))) → X I10) ∧ (¬ (if v3 = (-1 : Int32) then (0 : Int32) else (if (if (2000 : Int32) < (w36 + (if v3 = (-1 : Int32) then (0 : Int32) else (if b = 0 then v3 else ((v3 + (3 : Int32)) / (4 : Int32))))) then (0 : Int32) else (1 : Int32)) = 0 then (0 : Int32) else v3)) ≤ y9_8 → vp_in ((I9 m 37) + y9_8) 8008 ∧ (∀ I30 : xII, I30 = xup I9 (m + 31) (ix ((I9 m 37) + y9_8)) (0 : Int32) → ((∃ q9 : Nat, q9 < n9 ∧ L9 q9 (y9_8 + (1 : Int32)) I30))))))) ) ∧ (((if v3 = (-1 : Int32) then (0 : Int32) else (if b = 0 then v3 else ((v3 + (3 : Int32)) / (4 : Int32)))) ≤ y6_7 → J7) ∧ (¬ (if v3 = (-1 : Int32) then (0 : Int32) else (if b = 0 then v3 else ((v3 + (3 : Int32)) / (4 : Int32)))) ≤ y6_7 → (((if (2000 : Int32) < (w36 + (if v3 = (-1 : Int32) then (0 : Int32) else (if b = 0 then v3 else ((v3 + (3 : Int32)) / (4 : Int32))))) then (0 : Int32) else (1 : Int32)) = 0 → J7) ∧ (¬ (if (2000 : Int32) < (w36 + (if v3 = (-1 : Int32) then (0 : Int32) else (if b = 0 then v3 else ((v3 + (3 : Int32)) / (4 : Int32))))) then (0 : Int32) else (1 : Int32)) = 0 → vp_in ((I6 m 36) + y6_7) 2001 ∧ (∀ I32 : xII, I32 = xup I6 (m + 29) (ix ((I6 m 36) + y6_7)) ((I6 m 37) + (if b = 0 then y6_7 else ((4 : Int32) * y6_7))) → ((b = 0 ∨ b = 1) ∧ (∀ I34 : xII, I34 = xup I32 (m + 30) (ix ((I6 m 36) + y6_7)) b → (∀ I35 : xII, I35 = xup I34 (m + 28) (ix ((I6 m 36) + y6_7)) (if b = 0 then (1 : Int32) else (f_J11_min (4 : Int32) (v3 - ((4 : Int32) * y6_7)))) → ((∃ q6 : Nat, q6 < n6 ∧ L6 q6 (y6_7 + (1 : Int32)) I35)))))))))))
section ARR
variable {m t o st B tn t' o' t2 o2 : Nat} {I J K I5 : xII} {D : tkL} {fs : List fnc} {Γ Γ' : List dcl} {x y z : nte} {g g' : glb} {b many : Int32} {X : xII → Prop}
theorem s_arM (hb : b = 0 ∨ b = 1) (hm : many = -1 ∨ ∃ k, 1 ≤ k ∧ k ≤ 500 ∧ many = nI k) (hwd : g.1 ≤ 1000000) (hg : gR I5 m g) (hX : ∀ K, (∀ a j, ¬ (a = m ∧ (j = 36 ∨ j = 37)) → ¬ (m + 28 ≤ a ∧ a ≤ m + 31) → K a j = I5 a j) → gR K m (arG g b many) → X K) : arM m b many (nI g.1) X I5 := by
  obtain ⟨r1, r2, r3, r4, r5, r6, r7, r8, r9⟩ := hg
  have hw : aWd many b ≤ 500 ∧ (if many = -1 then (0 : Int32) else (if b = 0 then many else (many + 3) / 4)) = nI (aWd many b) ∧ (¬ many = -1 → many = nI (ix many) ∧ 1 ≤ ix many ∧ ix many ≤ 500 ∧ ix many ≤ 4 * aWd many b) := by
    rcases hm with rfl | ⟨k, k1, k5, rfl⟩
    · exact ⟨by show (if (-1 : Int32) = -1 then 0 else _) ≤ 500; rw [if_pos rfl]; omega, rfl, fun w => absurd rfl w⟩
    · have hx : ix (nI k) = k := nI_clamp (by omega)
      unfold aWd
      rw [if_neg (nI_m1 (by omega)), if_neg (nI_m1 (by omega)), hx]
      rcases hb with rfl | rfl
      · rw [if_pos rfl, if_pos rfl]
        exact ⟨k5, rfl, fun _ => ⟨rfl, k1, k5, by omega⟩⟩
      · rw [if_neg (by decide), if_neg (by decide), div4 k (by omega)]
        exact ⟨by omega, rfl, fun _ => ⟨rfl, k1, k5, by omega⟩⟩
  obtain ⟨w1, w2, w3⟩ := hw
  have hfit : (if (2000 : Int32) < nI g.1 + nI (aWd many b) then (0 : Int32) else 1) = (if arW g b many = true then 1 else 0) := by
    rw [nI_add]
    unfold arW
    have hlt : (2000 : Int32) < nI (g.1 + aWd many b) ↔ 2000 < g.1 + aWd many b := nI_ltI (a := 2000) (by omega) (by omega)
    by_cases z : g.1 + aWd many b ≤ 2000
    · rw [if_neg (fun w => absurd (hlt.mp w) (by omega)), decide_eq_true z, if_pos rfl]
    · rw [if_pos (hlt.mpr (by omega)), decide_eq_false z, if_neg (by decide)]
  have hown : (if many = -1 then (0 : Int32) else (if (if arW g b many = true then (1 : Int32) else 0) = 0 then 0 else many)) = nI (arO g b many) ∧ arO g b many ≤ 500 ∧ g.2.2.1.length + arO g b many ≤ 8000 ∧ arO g b many ≤ 4 * aWd many b := by
    unfold arO
    by_cases z1 : many = -1
    · rw [if_pos z1, if_pos (Or.inl z1)]
      exact ⟨rfl, by omega, by omega, by omega⟩
    · rw [if_neg z1]
      obtain ⟨c1, c2, c3, c4⟩ := w3 z1
      cases hq : arW g b many with
      | false =>
        rw [if_pos (show (if (false : Bool) = true then (1 : Int32) else 0) = 0 from rfl), if_pos (Or.inr rfl)]
        exact ⟨rfl, by omega, by omega, by omega⟩
      | true =>
        have hz := of_decide_eq_true hq
        rw [if_pos rfl, if_neg (by decide), if_neg (by rintro (w | w); exact z1 w; exact nomatch w)]
        exact ⟨c1, c3, by omega, c4⟩
  obtain ⟨o1, o2, o3, o4⟩ := hown
  unfold arM
  rw [w2, hfit, o1]
  -- rows so far
  refine ⟨fun n y I6 => ∃ k, k ≤ aWd many b ∧ n = aWd many b - k ∧ y = nI k ∧ (k = 0 ∨ arW g b many = true) ∧ (∀ a j, ¬ (m + 28 ≤ a ∧ a ≤ m + 30 ∧ g.1 ≤ j ∧ j < 2000) → I6 a j = I5 a j) ∧ ∀ i, i < k → I6 (m + 28) (g.1 + i) = (arRow g b many i).1 ∧ I6 (m + 30) (g.1 + i) = (arRow g b many i).2.1 ∧ I6 (m + 29) (g.1 + i) = (arRow g b many i).2.2, ⟨_, 0, Nat.zero_le _, rfl, rfl, Or.inl rfl, fun _ _ _ => rfl, fun i hi => absurd hi (Nat.not_lt_zero _)⟩, ?_⟩
  rintro n y I6 ⟨k, hk, rfl, rfl, hka, f6, c6⟩
  have i636 : I6 m 36 = nI g.1 := by rw [f6 _ _ (by omega)]; exact r1
  have i637 : I6 m 37 = nI g.2.2.1.length := by rw [f6 _ _ (by omega)]; exact r2
  rw [i636, i637, nI_add, nI_add, nI_leI (by omega) (by omega), show ix (nI (g.1 + k)) = g.1 + k from nI_clamp (by omega)]
  refine ⟨k = aWd many b ∨ arW g b many = false, fun hJ => ?_, fun z => Or.inl (by omega), fun z => ⟨fun z2 => ?_, fun z2 => ?_⟩⟩
  · intro I8 hI8
    have f8 : ∀ a j, ¬ (a = m ∧ j = 36) → I8 a j = I6 a j := fun a j hj => by rw [hI8, gX, if_neg hj]
    have p36 : I8 m 36 = nI (g.1 + aWd many b) := by rw [hI8, xup_s]
    clear hI8
    refine ⟨fun n y I9 => ∃ k9, k9 ≤ arO g b many ∧ n = arO g b many - k9 ∧ y = nI k9 ∧ (∀ a j, ¬ (a = m + 31 ∧ g.2.2.1.length ≤ j) → I9 a j = I8 a j) ∧ ∀ i, i < k9 → I9 (m + 31) (g.2.2.1.length + i) = 0, ⟨_, 0, Nat.zero_le _, rfl, rfl, fun _ _ _ => rfl, fun i hi => absurd hi (Nat.not_lt_zero _)⟩, ?_⟩
    rintro n9 y9 I9 ⟨k9, hk9, rfl, rfl, f9, c9⟩
    have i937 : I9 m 37 = nI g.2.2.1.length := by rw [f9 _ _ (by omega), f8 _ _ (by omega)]; exact i637
    rw [i937, nI_add, nI_add, nI_leI (by omega) (by omega), show ix (nI (g.2.2.1.length + k9)) = g.2.2.1.length + k9 from nI_clamp (by omega)]
    refine ⟨fun z => ?_, fun z => ⟨vp_in_nI (by omega) (by decide), ?_⟩⟩
    · obtain rfl : k9 = arO g b many := by omega
      intro I10 hI10
      have f10 : ∀ a j, ¬ (a = m ∧ j = 37) → I10 a j = I9 a j := fun a j hj => by rw [hI10, gX, if_neg hj]
      have g10 : ∀ a j, ¬ (a = m ∧ (j = 36 ∨ j = 37)) → ¬ (a = m + 31 ∧ g.2.2.1.length ≤ j) → I10 a j = I6 a j := fun a j q1 q2 => by rw [f10 a j (by omega), f9 a j q2, f8 a j (by omega)]
      refine hX I10 (fun a j q1 q2 => by rw [g10 a j q1 (by omega)]; exact f6 a j (by omega)) ⟨?_, ?_, ?_, ?_, fun kk q hq => ?_, fun i v hv => ?_, ?_, fun z => ?_, ?_⟩
      · rw [f10 _ _ (by omega), f9 _ _ (by omega)]
        exact p36
      · rw [hI10, xup_s]
        unfold arG
        rw [List.length_append, List.length_replicate]
      · unfold arG
        dsimp only
        rw [List.length_append, List.length_replicate]
        omega
      · unfold arG
        dsimp only
        rw [List.length_append, List.length_replicate]
        omega
      · unfold arG at hq
        dsimp only at hq
        rw [g10 _ _ (by omega) (by omega), g10 _ _ (by omega) (by omega), g10 _ _ (by omega) (by omega)]
        rcases Nat.lt_or_ge kk g.2.1.length with w | w
        · rw [List.getElem?_append_left w] at hq
          have hlt : ¬ (g.1 ≤ kk ∧ kk < 2000) := by
            intro u
            have := r8 (by omega)
            omega
          rw [f6 _ _ (by omega), f6 _ _ (by omega), f6 _ _ (by omega)]
          exact r5 kk q hq
        · rw [List.getElem?_append_right w] at hq
          cases hA : arW g b many with
          | false =>
            rw [hA, if_neg (by decide)] at hq
            exact nomatch hq
          | true =>
            have hz := of_decide_eq_true hA
            have hgl := r8 (by omega)
            rw [hA, if_pos rfl] at hq
            have hlt := (List.getElem?_eq_some_iff.mp hq).1
            rw [List.length_map, List.length_range] at hlt
            rw [List.getElem?_map, List.getElem?_range hlt] at hq
            cases hq
            have hka : k = aWd many b := hJ.resolve_right (by rw [hA]; decide)
            have := c6 (kk - g.2.1.length) (by omega)
            rw [show g.1 + (kk - g.2.1.length) = kk by omega] at this
            exact this
      · unfold arG at hv
        dsimp only at hv
        rcases Nat.lt_or_ge i g.2.2.1.length with w | w
        · rw [List.getElem?_append_left w] at hv
          rw [g10 _ _ (by omega) (by omega), f6 _ _ (by omega)]
          exact r6 i v hv
        · rw [List.getElem?_append_right w] at hv
          have hlt := (List.getElem?_eq_some_iff.mp hv).1
          rw [List.length_replicate] at hlt
          rw [List.getElem?_replicate, if_pos hlt] at hv
          cases hv
          have := c9 (i - g.2.2.1.length) hlt
          rw [show g.2.2.1.length + (i - g.2.2.1.length) = i by omega] at this
          rw [f10 _ _ (by omega)]
          exact this
      · unfold arG
        dsimp only
        rw [List.length_append]
        cases hA : arW g b many with
        | false =>
          rw [if_neg (by decide)]
          exact r7
        | true =>
          have hz := of_decide_eq_true hA
          have hgl := r8 (by omega)
          rw [if_pos rfl, List.length_map, List.length_range]
          omega
      · unfold arG at z ⊢
        dsimp only at z ⊢
        have hA : arW g b many = true := decide_eq_true z
        rw [hA, if_pos rfl, List.length_append, List.length_map, List.length_range, r8 (by omega)]
      · rw [g10 _ _ (by omega) (by omega), f6 _ _ (by omega)]
        exact r9
    · intro I30 hI30
      refine ⟨arO g b many - (k9 + 1), by omega, k9 + 1, by omega, rfl, nI_up, fun a j hj => by rw [hI30, gX, if_neg (by omega)]; exact f9 a j hj, fun i hi => ?_⟩
      rw [hI30, gX]
      split
      · rfl
      · exact c9 i (by omega)
  · refine Or.inr ?_
    cases hA : arW g b many with
    | false => rfl
    | true =>
      rw [hA] at z2
      exact absurd z2 (by decide)
  · have hA : arW g b many = true := by
      cases hA : arW g b many with
      | true => rfl
      | false =>
        rw [hA] at z2
        exact absurd rfl z2
    have hz := of_decide_eq_true hA
    refine ⟨vp_in_nI (by omega) (by decide), ?_⟩
    intro I32 hI32
    refine ⟨hb, ?_⟩
    intro I34 hI34 I35 hI35
    have e : I35 = xup (xup (xup I6 (m + 29) (g.1 + k) (nI g.2.2.1.length + (if b = 0 then nI k else 4 * nI k))) (m + 30) (g.1 + k) b) (m + 28) (g.1 + k) (if b = 0 then 1 else f_J11_min 4 (many - 4 * nI k)) := by rw [hI35, hI34, hI32]
    clear hI35 hI34 hI32
    have f35 : ∀ a j, ¬ (m + 28 ≤ a ∧ a ≤ m + 30 ∧ j = g.1 + k) → I35 a j = I6 a j := fun a j hj => by rw [e, gX, if_neg (by omega), gX, if_neg (by omega), gX, if_neg (by omega)]
    refine ⟨aWd many b - (k + 1), by omega, k + 1, by omega, rfl, nI_up, Or.inr hA, fun a j hj => (f35 a j (by omega)).trans (f6 a j hj), fun i hi => ?_⟩
    by_cases hik : i = k
    · subst hik
      unfold arRow
      refine ⟨?_, ?_, ?_⟩
      · rw [e, xup_s]
      · rw [e, gX, if_neg (by omega), xup_s]
      · rw [e, gX, if_neg (by omega), gX, if_neg (by omega), xup_s]
    · rw [f35 _ _ (by omega), f35 _ _ (by omega), f35 _ _ (by omega)]
      exact c6 i (by omega)
end ARR
