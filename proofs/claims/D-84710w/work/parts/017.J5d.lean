/-! ===== java.util.ArrayList: the contracts that others use ===== -/
set_option maxRecDepth 100000
section J5d
variable {G : xG}
/-- what an add leaves -/
def xAdded (G : xG) (A : xA) (l v : Nat) (vs : List Nat) (B : xA) : Prop := xL G B l (vs ++ [v]) ∧ xFrm (fun a => a = l ∨ A.gh a = 1000 + l) A B ∧ B.n ≤ A.n + 1 ∧ B.u + 3 * xcap A l ≤ A.u + 3 * xcap B l + 1 ∧ xcap B l ≤ max (xcap A l) (2 * vs.length + 10) ∧ ∀ a, A.n ≤ a → a < B.n → B.tg a = 204 ∧ B.gh a = 1000 + l
/-- what an add costs: nothing, or a new array -/
def xAd2 (A : xA) (l : Nat) (B : xA) : Prop := (B.n = A.n ∧ B.u = A.u ∧ xcap B l = xcap A l) ∨ (B.n = A.n + 1 ∧ B.u = A.u + xcap B l ∧ 3 * xcap A l ≤ 2 * xcap B l + 1 ∧ xcap A l < xcap B l)
theorem xcap_of {A : xA} {l e : Nat} (h : A.P l 1 = some e) : xcap A l = A.ln e := by simp [xcap, h]
theorem xL.ne {A : xA} {l e : Nat} (ht : A.tg l = 37) (hte : A.tg e = 204) : l ≠ e := fun q => by rw [q, hte] at ht; cases ht
/-- the list with v laid behind, in its own array with room left -/
theorem xL.push {A B : xA} {l e v : Nat} {vs : List Nat} (ht : A.tg l = 37) (hN : G.N ≤ l) (he : A.P l 1 = some e) (hte : A.tg e = 204) (hlt : vs.length < A.ln e) (hcap : A.ln e < 2097152) (hl1 : vs.length + 1 < 1048576) (hown : G.N ≤ e ∧ A.gh e = 1000 + l) (hvs : ∀ i w, vs[i]? = some w → A.P e i = some w) (hel : ∀ w ∈ vs, xEl A w) (hv : xEl A v)
    (hB : B = ((A.setP e vs.length (some v)).setI l 2 (nI (vs.length + 1)))) : xL G B l (vs ++ [v]) := by
  subst hB
  have hne := xL.ne ht hte
  have hEl : ∀ w, xEl A w → xEl ((A.setP e vs.length (some v)).setI l 2 (nI (vs.length + 1))) w := fun w hw => hw
  refine ⟨ht, hN, by rw [List.length_append]; exact xup_s, by rw [List.length_append]; exact hl1, e, ?_, hte, by rw [List.length_append]; exact hlt, hcap, Or.inr hown, fun i w hi => ?_, fun w hw => ?_⟩
  · exact (xup_a hne).trans he
  · show xup A.P e vs.length (some v) e i = some w
    rw [List.getElem?_append] at hi
    split at hi
    · rename_i h
      rw [xup_k (Nat.ne_of_lt h)]
      exact hvs i w hi
    · rename_i h
      have h0 : i - vs.length < 1 := (List.getElem?_eq_some_iff.mp hi).1
      rw [show i - vs.length = 0 by omega] at hi
      have : i = vs.length := by omega
      subst this
      cases hi
      exact xup_s
  · rcases List.mem_append.mp hw with h | h
    · exact hEl w (hel w h)
    · rw [List.mem_singleton.mp h]
      exact hEl v hv
theorem m_J5_grow (hG : xOK G) (hC : xCO G) {d : Nat} {A : xA} {l e : Nat} (ht : A.tg l = 37) (hN : G.N ≤ l) (he : A.P l 1 = some e) (hte : A.tg e = 204) (hs : A.I l 2 = nI (A.ln e)) (hc : A.ln e < 2097152) (hown : (A.ln e = 0 ∧ (e = G.cs 0 ∨ e = G.cs 1)) ∨ (G.N ≤ e ∧ A.gh e = 1000 + l)) (hNn : G.N ≤ A.n) (hc1 : A.n + 1 ≤ G.N + 386503) (hc2 : A.u + (2 * A.ln e + 10) ≤ hU G.z.heap + 7941971) (hel : ∀ i : Nat, i < A.ln e → ∀ y, A.P e i = some y → xEl A y) : MX G (d + 4) kJ5_grow [.ref l] A (fun o B => o = .returned (some (.ref A.n)) ∧ xGrew G A l e B) := by
  refine MX.wf fun hw ho => ?_
  have hM : ∀ x, x = nI (A.ln e) + 1 → MX G (d + 3) kJ5_grow_2 [.ref l, .int x] A (fun o B => o = .returned (some (.ref A.n)) ∧ xGrew G A l e B) := by
    intro x hx
    rw [hx, nI_1]
    by_cases h : 0 < A.ln e ∨ e ≠ G.cs 0
    · have hex : G.N ≤ e ∨ va_O "[Ljava/lang/Object;" e (fun q => G.N ≤ q) G.z G.z.heap := by
        rcases hown with ⟨h1, h2 | h2⟩ | h1
        · exact absurd h2 (h.resolve_left (by omega))
        · rw [h2]
          exact Or.inr hC.2.1.2.2.2.2
        · exact Or.inl h1.1
      exact m_J5_grow_21 hG hC ht hN he hte hc h hex hNn hc1 hc2 hel
    · have h0 : A.ln e = 0 := by omega
      have h1 : e = G.cs 0 := Decidable.byContradiction fun q => h (Or.inr q)
      rw [h0]
      subst h1
      exact m_J5_grow_20 (d := d + 2) hG hC ht hN he hc1 (by omega)
  refine MX.of rfl (Nat.le_of_ble_eq_true rfl) ?_
  change X _ _ _ _ _ _ [some (.ref l)] _
  refine x_aload_n dJ5_grow_0 rfl ?_
  refine x_aload_n dJ5_grow_1 rfl ?_
  refine x_get (v := .int (nI (A.ln e))) hG dJ5_grow_2 f_J5_48_36 ht (congrArg Value.int hs) ?_
  refine x_iconst_ (v := 1) dJ5_grow_5 (by decide) ?_
  refine x_iadd dJ5_grow_6 ?_
  refine x_callV hG (Ky := kJ5_grow_2) (As := [_]) dJ5_grow_7 ht rfl lk_J5_69 me_J5_grow_2 is_J5_grow_2 se_J5_grow_2 rfl rfl (Nat.le_of_ble_eq_true rfl) (MX.post (hM _ rfl) ?_)
  rintro _ _ ⟨rfl, hB⟩
  change X _ _ _ _ _ _ _ (_ :: _)
  refine x_aret (r := some _) dJ5_grow_10 rfl (Or.inr ⟨_, rfl⟩) ?_
  exact ⟨rfl, hB⟩
/-- the tail of add(v, e, s): v goes to place s of e, the size grows -/
theorem add2_tail (hG : xOK G) {d : Nat} {Q : Outcome → xA → Prop} {A : xA} {l v e s : Nat} (ht : A.tg l = 37) (hN : G.N ≤ l) (hNe : G.N ≤ e) (hte : A.tg e = 204) (hs : s < A.ln e) (hc : A.ln e < 4194304) (hv : xEl A v) (hQ : Q (.returned none) ((A.setP e s (some v)).setI l 2 (nI (s + 1)))) : X G d kJ5_add_2 Q A 11 [some (.ref l), some (.ref v), some (.ref e), some (.int (nI s))] [] := by
  obtain ⟨c, r, hv1, hv2, hv3⟩ := hv
  refine x_aload_n dJ5_add_2_11 rfl ?_
  refine x_iload_n dJ5_add_2_12 rfl ?_
  refine x_aload_n dJ5_add_2_13 rfl ?_
  refine x_aast hG (j := 4) (E := "java/lang/Object") dJ5_add_2_14 hte rfl hNe (vp_in_nI hs (by omega)) hv1 hv2 (Or.inr hv3) ?_
  rw [nI_clamp (by omega)]
  refine x_aload_n dJ5_add_2_15 rfl ?_
  refine x_iload_n dJ5_add_2_16 rfl ?_
  refine x_iconst_ (v := 1) dJ5_add_2_17 (by decide) ?_
  refine x_iadd dJ5_add_2_18 ?_
  refine x_put hG dJ5_add_2_19 f_J5_48_36 ⟨_, rfl, Or.inl rfl⟩ ht hN rfl rfl ⟨_, rfl⟩ ?_
  refine x_vret dJ5_add_2_22 rfl ?_
  rw [nI_1]
  exact hQ
end J5d
