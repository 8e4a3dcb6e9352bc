/-! ===== rows of signs as one chain: the grammar ===== -/
set_option maxRecDepth 100000
def lvKs : List Int32 := [54, 55, 73, 74, 75, 56, 57, 58, 59, 76, 77, 43, 60, 61, 78, 79, 80, 81, 82]
/-- how strongly a sign binds -/
def lvK (k : Int32) : Int32 := if k = 54 then 0 else if k = 55 then 1 else if k = 73 then 2 else if k = 74 then 3 else if k = 75 then 4 else if k = 56 then 5 else if k = 57 then 5 else if k = 58 then 6 else if k = 59 then 6 else if k = 76 then 6 else if k = 77 then 6 else if k = 43 then 7 else if k = 60 then 7 else if k = 61 then 7 else if k = 78 then 8 else if k = 79 then 8 else if k = 80 then 9 else if k = 81 then 9 else if k = 82 then 9 else -1
theorem lvK_no {k : Int32} (h : ¬ k ∈ lvKs) : lvK k = -1 ∧ ∀ r, f_X1_actOf k r = -1 := by
  unfold lvKs at h
  simp only [List.mem_cons, List.not_mem_nil, or_false, not_or] at h
  obtain ⟨h1, h2, h3, h4, h5, h6, h7, h8, h9, h10, h11, h12, h13, h14, h15, h16, h17, h18, h19⟩ := h
  refine ⟨?_, fun r => ?_⟩
  · unfold lvK
    simp only [h1, h2, h3, h4, h5, h6, h7, h8, h9, h10, h11, h12, h13, h14, h15, h16, h17, h18, h19, if_false]
  · unfold f_X1_actOf
    simp only [h1, h2, h3, h4, h5, h6, h7, h8, h9, h10, h11, h12, h13, h14, h15, h16, h17, h18, h19, if_false, ite_self]
theorem lvK_in : ∀ k ∈ lvKs, (∃ l, l < 10 ∧ lvK k = nI l) ∧ (40 : Int32) ≤ k ∧ ∀ l, l < 10 → (0 ≤ f_X1_actOf k (nI l) ↔ lvK k = nI l) ∧ (lvK k = nI l → 2 ≤ l → mkV k 0 = sgOf (f_X1_actOf k (nI l))) := by decide +kernel
theorem act_iff {k : Int32} {l : Nat} (hl : l ≤ 9) : 0 ≤ f_X1_actOf k (nI l) ↔ lvK k = nI l := by
  by_cases h : k ∈ lvKs
  · exact ((lvK_in k h).2.2 l (by omega)).1
  · obtain ⟨e1, e2⟩ := lvK_no h
    rw [e1, e2]
    exact ⟨fun z => absurd z (by decide), fun z => absurd z.symm (nI_m1 (by omega))⟩
theorem lvK_or (k : Int32) : lvK k = -1 ∨ ∃ l, l ≤ 9 ∧ lvK k = nI l := by
  by_cases h : k ∈ lvKs
  · obtain ⟨l, h1, h2⟩ := (lvK_in k h).1
    exact Or.inr ⟨l, by omega, h2⟩
  · exact Or.inl (lvK_no h).1
theorem lvK_sg {k v : Int32} {l : Nat} (hl : l ≤ 9) (h : lvK k = nI l) : (40 : Int32) ≤ k ∧ (2 ≤ l → mkV k v = sgOf (f_X1_actOf k (nI l))) := by
  by_cases hk : k ∈ lvKs
  · obtain ⟨-, h1, h2⟩ := lvK_in k hk
    refine ⟨h1, fun h3 => ?_⟩
    rw [← (h2 l (by omega)).2 h h3]
    have e2 : ¬ k = 2 := by rintro rfl; exact absurd h1 (by decide)
    have e3 : ¬ k = 3 := by rintro rfl; exact absurd h1 (by decide)
    unfold mkV
    rw [if_neg e2, if_neg e3, if_neg e2, if_neg e3]
  · rw [(lvK_no hk).1] at h
    exact absurd h.symm (nI_m1 (by omega))
theorem pAnd_as {r : pR} {f g : Tr → Nat → pR} : pAnd (pAnd r f) g = pAnd r fun e t => pAnd (f e t) g := by
  cases r <;> rfl
/-- the loops of the rows k .. k + n - 1 -/
def upL (D : tkL) (E : Nat → pR) (d : Nat) : Nat → Nat → Tr → Nat → pR
  | _, 0, e, t => .ok (e, t)
  | k, n + 1, e, t => pAnd (pLoop D (pRow D E d k) (nI (9 - k)) D.length e t) (upL D E d (k + 1) n)
/-- signs under way: level, left part, act -/
abbrev cSt : Type := List (Nat × Tr × Int32)
def lvS : cSt → Nat
  | [] => 0
  | (l, _, _) :: _ => l + 1
def stkO : cSt → Prop
  | [] => True
  | (l, _, _) :: s => lvS s ≤ l ∧ l ≤ 9 ∧ stkO s
/-- what the rows from k on still make of e -/
def chT (D : tkL) (E : Nat → pR) (d : Nat) : cSt → Nat → Tr → Nat → pR
  | [], k, e, t => upL D E d k (10 - k) e t
  | (l, a, act) :: s, k, e, t => pAnd (upL D E d k (9 - l - k) e t) fun e' t' => chT D E d s (9 - l) (pMk (nI l) act a e') t'
section CH
variable {D : tkL} {E : Nat → pR} {d t k l : Nat} {s : cSt} {a e : Tr} {act : Int32}
theorem stkO_len : ∀ {s : cSt}, stkO s → s.length ≤ lvS s
  | [], _ => Nat.le_refl _
  | (l, _, _) :: s, h => by
    have := stkO_len h.2.2
    have := h.1
    show s.length + 1 ≤ l + 1
    omega
theorem pRow_upL : ∀ (n k t : Nat), pRow D E d (k + n) t = pAnd (pRow D E d k t) (upL D E d k n)
  | 0, k, t => by
    show pRow D E d k t = _
    cases pRow D E d k t <;> rfl
  | n + 1, k, t => by
    rw [show k + (n + 1) = (k + 1) + n by omega, pRow_upL n (k + 1) t, pRow, pAnd_as]
    rfl
theorem upL_add : ∀ (n1 n2 k : Nat) (e : Tr) (t : Nat), upL D E d k (n1 + n2) e t = pAnd (upL D E d k n1 e t) (upL D E d (k + n1) n2)
  | 0, n2, k, e, t => by
    rw [Nat.zero_add]
    rfl
  | n1 + 1, n2, k, e, t => by
    rw [show n1 + 1 + n2 = (n1 + n2) + 1 by omega, upL, upL, pAnd_as]
    congr 1
    funext e1 t1
    rw [upL_add n1 n2 (k + 1) e1 t1, show k + 1 + n1 = k + (n1 + 1) by omega]
theorem upL_skip (h0 : 0 < D.length) : ∀ (n k : Nat) (e : Tr), (∀ j, k ≤ j → j < k + n → ¬ 0 ≤ f_X1_actOf (tK D t) (nI (9 - j))) → upL D E d k n e t = .ok (e, t)
  | 0, k, e, _ => rfl
  | n + 1, k, e, h => by
    obtain ⟨F, hF⟩ : ∃ F, D.length = F + 1 := ⟨D.length - 1, by omega⟩
    rw [upL, hF, pLoop, if_neg (h k (Nat.le_refl _) (by omega))]
    exact upL_skip h0 n (k + 1) e fun j h1 h2 => h j (by omega) (by omega)
theorem pLoop_fu {P : Nat → pR} (hD : wfD D) (hP : ∀ t, t < D.length → pUp D t (P t)) {r : Int32} : ∀ (f g : Nat) (a : Tr) (t : Nat), t < D.length → D.length ≤ f + t → D.length ≤ g + t → pLoop D P r f a t = pLoop D P r g a t
  | 0, g, a, t, h, h1, h2 => by omega
  | f + 1, 0, a, t, h, h1, h2 => by omega
  | f + 1, g + 1, a, t, h, h1, h2 => by
    rw [pLoop, pLoop]
    split
    · rename_i hk
      have h3 := hD.nx h (act_n hk).1 (act_n hk).2
      cases hr : P (t + 1) with
      | error q => rfl
      | ok et =>
        obtain ⟨e, t1⟩ := et
        have := hP _ h3 _ _ hr
        exact pLoop_fu hD hP f g _ t1 this.2 (by omega) (by omega)
    · rfl
theorem chT_pop (h0 : 0 < D.length) (hl : l ≤ 9) (h : ∀ r, l < r → r ≤ 9 → ¬ lvK (tK D t) = nI r) : chT D E d ((l, a, act) :: s) k e t = chT D E d s (9 - l) (pMk (nI l) act a e) t := by
  rw [chT, upL_skip h0 _ _ _ fun j h1 h2 => by rw [act_iff (by omega)]; exact h _ (by omega) (by omega)]
  rfl
theorem chT_end (h0 : 0 < D.length) (h : lvK (tK D t) = -1) : chT D E d [] k e t = .ok (e, t) := by
  rw [chT, upL_skip h0 _ _ _ fun j h1 h2 => by rw [act_iff (by omega), h]; exact fun z => nI_m1 (by omega) z.symm]
def chF (D : tkL) (E : Nat → pR) (d : Nat) (s : cSt) (e : Tr) (t : Nat) : pR := match s with
  | [] => .ok (e, t)
  | (l, a, act) :: s => chT D E d s (9 - l) (pMk (nI l) act a e) t
theorem chT_eq : chT D E d s k e t = pAnd (upL D E d k (10 - lvS s - k) e t) (chF D E d s) := by
  rcases s with _ | ⟨⟨l, a, act⟩, s⟩
  · show upL D E d k (10 - k) e t = pAnd (upL D E d k (10 - 0 - k) e t) fun e t => .ok (e, t)
    rw [show 10 - 0 - k = 10 - k by omega]
    cases upL D E d k (10 - k) e t <;> rfl
  · rw [chT]
    show pAnd (upL D E d k (9 - l - k) e t) _ = pAnd (upL D E d k (10 - (l + 1) - k) e t) _
    rw [show 10 - (l + 1) - k = 9 - l - k by omega]
    rfl
theorem chT_at (h0 : 0 < D.length) (hl : l ≤ 9) (hs : lvS s ≤ l) (hk : k ≤ 9 - l) (h : ∀ j, k ≤ j → j < 9 - l → ¬ 0 ≤ f_X1_actOf (tK D t) (nI (9 - j))) : chT D E d s k e t = pAnd (pLoop D (pRow D E d (9 - l)) (nI l) D.length e t) fun e t => pAnd (upL D E d (10 - l) (l - lvS s) e t) (chF D E d s) := by
  rw [chT_eq, show 10 - lvS s - k = (9 - l - k) + ((l - lvS s) + 1) by omega, upL_add, upL_skip h0 (9 - l - k) k e fun j h1 h2 => h j h1 (by omega)]
  show pAnd (upL D E d (k + (9 - l - k)) ((l - lvS s) + 1) e t) _ = _
  rw [show k + (9 - l - k) = 9 - l by omega, upL, pAnd_as, show 9 - (9 - l) = l by omega, show 9 - l + 1 = 10 - l by omega]
theorem chT_push (hD : wfD D) (hE : ∀ t, t < D.length → pUp D t (E t)) (ht : t < D.length) (hl : l ≤ 9) (hlv : lvK (tK D t) = nI l) (hs : lvS s ≤ l) (hk : k ≤ 9 - l) : chT D E d s k e t = pAnd (pAhead D E d (t + 1)) (chT D E d ((l, e, f_X1_actOf (tK D t) (nI l)) :: s) 0) := by
  have h0 := hD.1
  obtain ⟨F, hF⟩ : ∃ F, D.length = F + 1 := ⟨D.length - 1, by omega⟩
  have hact := (act_iff hl).mpr hlv
  have ht1 := hD.nx ht (act_n hact).1 (act_n hact).2
  rw [chT_at h0 hl hs hk fun j h1 h2 => by
    rw [act_iff (by omega), hlv]
    exact nI_ne (by omega) (by omega) (by omega)]
  have e0 : pLoop D (pRow D E d (9 - l)) (nI l) D.length e t = pAnd (pRow D E d (9 - l) (t + 1)) fun e2 t2 => pLoop D (pRow D E d (9 - l)) (nI l) F (pMk (nI l) (f_X1_actOf (tK D t) (nI l)) e e2) t2 := by
    rw [hF, pLoop, if_pos hact]
  rw [e0, pAnd_as]
  have e1 : pAnd (pAhead D E d (t + 1)) (chT D E d ((l, e, f_X1_actOf (tK D t) (nI l)) :: s) 0) = pAnd (pRow D E d (9 - l) (t + 1)) fun e' t' => chT D E d s (9 - l) (pMk (nI l) (f_X1_actOf (tK D t) (nI l)) e e') t' := by
    have e2 := pRow_upL (D := D) (E := E) (d := d) (9 - l) 0 (t + 1)
    rw [Nat.zero_add] at e2
    rw [e2, pAnd_as]
    rfl
  rw [e1]
  cases hr : pRow D E d (9 - l) (t + 1) with
  | error f => rfl
  | ok et =>
    obtain ⟨e2, t2⟩ := et
    have hu := pRow_up hD hE (9 - l) (t + 1) ht1 _ _ hr
    show pAnd (pLoop D (pRow D E d (9 - l)) (nI l) F _ t2) _ = chT D E d s (9 - l) _ t2
    rw [chT_at h0 hl hs (Nat.le_refl _) fun j h1 h2 => absurd h2 (by omega), pLoop_fu hD (fun t ht => pRow_up hD hE (9 - l) t ht) F D.length _ t2 hu.2 (by omega) (by omega)]
theorem pRow_chT : pRow D E d 10 t = pAnd (pAhead D E d t) (chT D E d [] 0) := by
  have := pRow_upL (D := D) (E := E) (d := d) 10 0 t
  exact this
end CH
