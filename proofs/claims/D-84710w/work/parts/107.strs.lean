/-! ===== the String constants: length, charAt ===== -/
set_option maxRecDepth 100000
def strB (i : Nat) : List Int32 := ((strT[i]?).map (fun q => q.2.2.2)).getD []
def strC (i k : Nat) : Int32 := (strB i).getD k 0 &&& 255
theorem strT_num : ∀ i, i < 63 → (strT[i]?).map (fun q => q.2.2.1) = some i := by decide +kernel
theorem strB_byte : ∀ i, i < 63 → ∀ b ∈ strB i, ((b &&& 255).toUInt32 % 65536).toInt32 = b &&& 255 ∧ narrow .char (.int (b &&& 255)) = .int (b &&& 255) := by decide +kernel
theorem jishr_0 (x : Int32) : jishr x 0 = x := by
  unfold jishr
  apply Int32.toBitVec_inj.mp
  simp
section STR
variable {G : xG}
theorem str_at (hO : xHO G) {i : Nat} (hi : i < 63) : xStr G (G.cs (100 + i)) (G.cs (200 + i)) (strB i).length ∧ ∀ k, k < (strB i).length → G.A0.I (G.cs (200 + i)) k = (strB i).getD k 0 := by
  have h1 := strT_num i hi
  cases hq : strT[i]? with
  | none => rw [hq] at h1; cases h1
  | some q =>
    rw [hq] at h1
    have h2 : q.2.2.1 = i := Option.some.inj h1
    have h3 := (hO.2.2.2.2.1.2.2 q (List.mem_of_getElem? hq)).2
    have h4 : strB i = q.2.2.2 := by simp [strB, hq]
    rw [h2] at h3
    rw [h4]
    exact h3
theorem s_J6_length {a b n : Nat} (hS : xStr G a b n) {Q : Int32 → xA → Prop} {A : xA} (hQ : Q (nI n) A) : w_J6_length G a Q A := by
  intro w
  obtain ⟨hoo, hv, hcd, hb, ht, hln, hn⟩ := hS
  refine ⟨b, ⟨hoo.1, hv⟩, xold_tg w hb ht, hoo, fun v A' => v = 0 ∧ A = A', fun _ => ⟨⟨hoo.1, hcd⟩, rfl, rfl, rfl⟩, ?_⟩
  rintro v A' _ ⟨rfl, rfl⟩
  rw [jishr_0, (w.2.2 b hb).2.1, hln]
  exact hQ
theorem s_J6_charAt {a b n k : Nat} (hS : xStr G a b n) (hk : k < n) {c : Int32} (hc : G.A0.I b k = c) (h1 : ((c &&& 255).toUInt32 % 65536).toInt32 = c &&& 255) (h2 : narrow .char (.int (c &&& 255)) = .int (c &&& 255)) {Q : Int32 → xA → Prop} {A : xA} (hQ : Q (c &&& 255) A) : w_J6_charAt G a (nI k) Q A := by
  intro w
  obtain ⟨hoo, hv, hcd, hb, ht, hln, hn⟩ := hS
  have hkn : ix (nI k) = k := nI_clamp (by omega)
  have hk0 : ¬ nI k < 0 := nI_pos (by omega)
  refine ⟨hoo, fun v A' => v = 1 ∧ A = A', fun _ => ⟨⟨hoo.1, hcd⟩, rfl, rfl⟩, ?_⟩
  rintro v A' w1 _ ⟨rfl, rfl⟩
  refine ⟨fun z => absurd z (by decide), fun _ => ⟨b, ⟨hoo.1, hv⟩, fun v A' => v = c &&& 255 ∧ A = A', fun w2 => ?_, ?_⟩⟩
  · have hI : A.I b k = c := by rw [(w2.2.2 b hb).2.2.2.1]; exact hc
    refine ⟨b, rfl, xold_tg w2 hb ht, fun A' => A = A', fun _ _ => ⟨fun _ B => A = B, fun _ => ⟨fun q => hk0 q, fun _ => ⟨fun _ => rfl, fun q => q ?_⟩⟩, fun _ _ _ q => q⟩, ?_⟩
    · rw [(w2.2.2 b hb).2.1, hln]
      exact nI_lt (by omega) (by omega)
    · rintro _ w3 rfl
      refine ⟨xold_tg w3 hb ht, ?_, ?_⟩
      · rw [(w3.2.2 b hb).2.1, hln]
        rintro (q | q)
        · exact hk0 q
        · rw [show (nI k).toNatClampNeg = k from hkn] at q
          omega
      · rw [hkn, hI, h1]
        exact ⟨h2, rfl, rfl⟩
  · rintro _ _ _ ⟨rfl, rfl⟩
    exact ⟨h2, hQ⟩
theorem m_str_len (hG : xOK G) (hO : xHO G) {dp i : Nat} {A : xA} (hi : i < 63) : MX G (dp + 1) kJ6_length [.ref (G.cs (100 + i))] A (xIs (some (.int (nI (strB i).length))) A) := by
  refine MX.post (m_J6_length hG hO (Q := fun v B => v = nI (strB i).length ∧ A = B) (s_J6_length (str_at hO hi).1 ⟨rfl, rfl⟩)) ?_
  rintro _ _ ⟨_, rfl, rfl, rfl⟩
  exact ⟨rfl, rfl⟩
theorem m_str_at (hG : xOK G) (hO : xHO G) {dp i : Nat} {k : Int32} {A : xA} (hi : i < 63) (hk : vp_in k (strB i).length) : MX G (dp + 4) kJ6_charAt [.ref (G.cs (100 + i)), .int k] A (xIs (some (.int (strC i (ix k)))) A) := by
  obtain ⟨h1, h2⟩ := str_at hO hi
  have hlt : ix k < (strB i).length := xin_lt hk
  have hl : (strB i).length < 1000 := h1.2.2.2.2.2.2
  have hkk : nI (ix k) = k := by
    obtain ⟨j, hj, rfl⟩ := nI_of (fun q => hk (Or.inl q))
    rw [show ix (nI j) = j from nI_clamp hj]
  have hm : (strB i).getD (ix k) 0 ∈ strB i := by
    rw [List.getD_eq_getElem?_getD, List.getElem?_eq_getElem hlt]
    exact List.getElem_mem hlt
  obtain ⟨q1, q2⟩ := strB_byte i hi _ hm
  rw [← hkk]
  refine MX.post (m_J6_charAt hG hO (Q := fun v B => v = strC i (ix k) ∧ A = B) (s_J6_charAt h1 hlt (h2 _ hlt) q1 q2 ⟨rfl, rfl⟩)) ?_
  rintro _ _ ⟨_, rfl, rfl, rfl⟩
  rw [hkk]
  exact ⟨rfl, rfl⟩
theorem str_oo (hO : xHO G) {i : Nat} (hi : i < 63) : xOO G (G.cs (100 + i)) "java/lang/String" := (str_at hO hi).1.1
end STR
