/-! ===== one word of the processor: what it does ===== -/
set_option maxRecDepth 100000
/-- why it stops (0: it doesn't); a register that is written; a word of memory that is written; where it goes on (then one more is done) -/
abbrev rvE : Type := Int32 × Option (Nat × Int32) × Option (Nat × Int32) × Option Int32
def rvStop (k : Int32) : rvE := (k, none, none, none)
def rvD (w : Int32) : Int32 := jishr w 7 &&& 31
def rvReg (w v : Int32) : Option (Nat × Int32) := if rvD w ≤ 0 then none else some (ix (rvD w), v)
def rvMk (w v pc : Int32) : rvE := (0, rvReg w v, none, some (pc + 4))
def rvJump (w t pc : Int32) : rvE := if t &&& 3 = 0 then (0, rvReg w (pc + 4), none, some t) else rvStop 3
def rvLoad (mem : Nat → Int32) (len : Nat) (w f a pc : Int32) : rvE :=
  if f &&& 3 = 3 ∨ f = 6 then rvStop 2 else if ¬ a &&& (jishl 1 (f &&& 3) - 1) = 0 then rvStop 4 else if ¬ jiushr a 2 < nI len then rvStop 5
  else rvMk w (let v := jiushr (mem (ix (jiushr a 2))) (8 * (a &&& 3)); if f = 0 then v.toInt8.toInt32 else if f = 1 then v.toInt16.toInt32 else if f = 2 then v else if f = 4 then v &&& 255 else v &&& 65535) pc
def rvStore (mem : Nat → Int32) (len : Nat) (f a v pc : Int32) : rvE :=
  if ¬ f ≤ 2 then rvStop 2 else if ¬ a &&& (jishl 1 f - 1) = 0 then rvStop 4 else if ¬ jiushr a 2 < nI len then rvStop 5
  else (0, none, some (ix (jiushr a 2), (mem (ix (jiushr a 2)) &&& (jishl (if f = 0 then 255 else if f = 1 then 65535 else -1) (8 * (a &&& 3)) ^^^ -1)) ||| (jishl v (8 * (a &&& 3)) &&& jishl (if f = 0 then 255 else if f = 1 then 65535 else -1) (8 * (a &&& 3)))), some (pc + 4))
def rvImm (w f a pc : Int32) : rvE :=
  if f = 1 then (if jiushr w 25 = 0 then rvMk w (jishl a (jishr w 20 &&& 31)) pc else rvStop 2)
  else if f = 5 then (if jiushr w 25 = 0 then rvMk w (jiushr a (jishr w 20 &&& 31)) pc else if jiushr w 25 = 32 then rvMk w (jishr a (jishr w 20 &&& 31)) pc else rvStop 2)
  else rvMk w (f_X12_plain f a (jishr w 20)) pc
def rvOp (w f a b pc : Int32) : rvE :=
  if jiushr w 25 = 0 then rvMk w (f_X12_plain f a b) pc else if jiushr w 25 = 1 then rvMk w (f_X12_product f a b) pc
  else if jiushr w 25 = 32 then (if f = 0 then rvMk w (a - b) pc else if f = 5 then rvMk w (jishr a (b &&& 31)) pc else rvStop 2) else rvStop 2
def rvBr (w pc : Int32) (i : Int32) : rvE :=
  if i = 0 then (0, none, none, some (pc + 4)) else
  let t := pc + (((jishl (jishr w 31) 12 ||| jishl (jishr w 7 &&& 1) 11) ||| jishl (jishr w 25 &&& 63) 5) ||| jishl (jishr w 8 &&& 15) 1)
  if t &&& 3 = 0 then (0, none, none, some t) else rvStop 3
def rvW (mem : Nat → Int32) (len : Nat) (w a b pc : Int32) : rvE :=
  let f := jishr w 12 &&& 7
  if w &&& 127 = 55 then rvMk w (w &&& -4096) pc
  else if w &&& 127 = 23 then rvMk w (pc + (w &&& -4096)) pc
  else if w &&& 127 = 111 then rvJump w (pc + (((jishl (jishr w 31) 20 ||| (w &&& 1044480)) ||| jishl (jishr w 20 &&& 1) 11) ||| jishl (jishr w 21 &&& 1023) 1)) pc
  else if w &&& 127 = 103 then (if f = 0 then rvJump w ((a + jishr w 20) &&& -2) pc else rvStop 2)
  else if w &&& 127 = 99 then (if f = 2 ∨ f = 3 then rvStop 2 else rvBr w pc (f_X12_goes f a b))
  else if w &&& 127 = 3 then rvLoad mem len w f (a + jishr w 20) pc
  else if w &&& 127 = 35 then rvStore mem len f (a + (jishl (jishr w 25) 5 ||| (jishr w 7 &&& 31))) b pc
  else if w &&& 127 = 19 then rvImm w f a pc
  else if w &&& 127 = 51 then rvOp w f a b pc
  else if w &&& 127 = 15 then (if f = 0 then (0, none, none, some (pc + 4)) else rvStop 2)
  else if w &&& 127 = 115 then (if w = 115 then (6, none, none, some (pc + 4)) else if w = 1048691 then (7, none, none, some (pc + 4)) else rvStop 2)
  else rvStop 2
/-- one word -/
def rv (mem : Nat → Int32) (len : Nat) (reg : Nat → Int32) (pc : Int32) : rvE :=
  if pc &&& 3 = 0 ∧ jiushr pc 2 < nI len then
    rvW mem len (mem (ix (jiushr pc 2))) (reg (ix (jishr (mem (ix (jiushr pc 2))) 15 &&& 31))) (reg (ix (jishr (mem (ix (jiushr pc 2))) 20 &&& 31))) pc
  else rvStop 1
/-- a processor p: its memory M of len words, its registers X -/
def xPr (G : xG) (A : xA) (p M X len : Nat) : Prop := A.tg p = 12 ∧ A.P p 0 = some M ∧ A.P p 1 = some X ∧ A.tg M = 200 ∧ A.ln M = len ∧ A.tg X = 200 ∧ A.ln X = 32 ∧ G.N ≤ M ∧ G.N ≤ X ∧ M ≠ X ∧ len < 2147483648
/-- what it does, in the world -/
def pReg (I : xII) (X : Nat) : Option (Nat × Int32) → xII
  | none => I
  | some q => xup I X q.1 q.2
def pApp (I : xII) (p M X : Nat) (e : rvE) : xII := match e.2.2.2 with
  | none => pReg (pReg I X e.2.1) M e.2.2.1
  | some pc => xup (xup (pReg (pReg I X e.2.1) M e.2.2.1) p 2 pc) p 3 (I p 3 + 1)
theorem and31 (z : Int32) : ∃ k, k < 32 ∧ z &&& 31 = nI k := by
  refine ⟨(z &&& 31).toBitVec.toNat, ?_, ?_⟩
  · show (z.toBitVec &&& 31#32).toNat < 32
    rw [BitVec.toNat_and]
    exact Nat.lt_of_le_of_lt Nat.and_le_right (by decide)
  · apply Int32.toBitVec_inj.mp
    show (z &&& 31).toBitVec = BitVec.ofNat 32 (z &&& 31).toBitVec.toNat
    rw [BitVec.ofNat_toNat, BitVec.setWidth_eq]
theorem and31_in (z : Int32) : vp_in (z &&& 31) 32 := by
  obtain ⟨k, hk, e⟩ := and31 z
  rw [e]
  exact vp_in_nI hk (by decide)
theorem pApp_stop {I : xII} {p M X : Nat} {k : Int32} : pApp I p M X (rvStop k) = I := rfl
theorem jiushr2 (a : Int32) : ∃ k, jiushr a 2 = nI k ∧ k < 2147483648 := by
  refine ⟨a.toBitVec.toNat / 4, ?_, ?_⟩
  · apply Int32.toBitVec_inj.mp
    show a.toBitVec >>> ((2#32 &&& 31#32).toNat) = BitVec.ofNat 32 (a.toBitVec.toNat / 4)
    apply BitVec.eq_of_toNat_eq
    rw [BitVec.toNat_ushiftRight, BitVec.toNat_ofNat, show (2#32 &&& 31#32).toNat = 2 by decide, Nat.shiftRight_eq_div_pow]
    have := a.toBitVec.isLt
    omega
  · have := a.toBitVec.isLt
    omega
section RV
variable {G : xG} {A : xA} {p M X len : Nat}
theorem xPr.wI (h : xPr G A p M X len) (J : xII) : xPr G (A.wI J) p M X len := h
theorem s_X12_next (ht : A.tg p = 12) {Q : Int32 → xA → Prop} (hQ : Q 0 (A.wI (xup (xup A.I p 2 (A.I p 2 + 4)) p 3 (A.I p 3 + 1)))) : w_X12_next G p Q A := by
  intro _
  refine ⟨ht, ?_⟩
  rintro _ rfl _ rfl
  exact hQ
theorem s_X12_makes (h : xPr G A p M X len) {w v : Int32} {Q : Int32 → xA → Prop} (hQ : Q 0 (A.wI (pApp A.I p M X (rvMk w v (A.I p 2))))) : w_X12_makes G p w v Q A := by
  intro _
  have hpX : p ≠ X := tne h.1 h.2.2.2.2.2.1 (by decide)
  refine ⟨fun B => B = A.wI (pReg A.I X (rvReg w v)), ?_, ?_, ?_⟩
  · rintro _ rfl
    refine ⟨h.1, _, s_X12_next (A := A.wI (pReg A.I X (rvReg w v))) h.1 (Q := fun r B => r = 0 ∧ A.wI (pApp A.I p M X (rvMk w v (A.I p 2))) = B) ⟨rfl, ?_⟩, ?_⟩
    · show A.wI (xup (xup (pReg A.I X (rvReg w v)) p 2 (A.I p 2 + 4)) p 3 (A.I p 3 + 1)) = A.wI (xup (xup (pReg A.I X (rvReg w v)) p 2 (pReg A.I X (rvReg w v) p 2 + 4)) p 3 (pReg A.I X (rvReg w v) p 3 + 1))
      have e : ∀ k, pReg A.I X (rvReg w v) p k = A.I p k := by
        intro k
        unfold rvReg
        split
        · rfl
        · exact xup_a hpX
      rw [e, e]
    · rintro _ _ _ ⟨rfl, rfl⟩
      exact hQ
  · intro hd
    show A = A.wI (pReg A.I X (rvReg w v))
    rw [show rvReg w v = none from if_pos hd]
    rfl
  · intro hd
    refine ⟨h.1, X, h.2.2.1, h.2.2.2.2.2.1, h.2.2.2.2.2.2.2.2.1, ?_, ?_⟩
    · rw [h.2.2.2.2.2.2.1]
      exact and31_in _
    · rintro _ rfl
      show A.wI (xup A.I X (ix (rvD w)) v) = A.wI (pReg A.I X (rvReg w v))
      rw [show rvReg w v = some (ix (rvD w), v) from if_neg hd]
      rfl
theorem s_X12_jumps (h : xPr G A p M X len) {w t : Int32} {Q : Int32 → xA → Prop} (hQ : Q (rvJump w t (A.I p 2)).1 (A.wI (pApp A.I p M X (rvJump w t (A.I p 2))))) : w_X12_jumps G p w t Q A := by
  intro _
  refine ⟨fun hc => ?_, fun hc => ?_⟩
  · rw [show rvJump w t (A.I p 2) = (0, rvReg w (A.I p 2 + 4), none, some t) from if_pos hc] at hQ
    refine ⟨h.1, _, s_X12_makes h (Q := fun r B => r = 0 ∧ A.wI (pApp A.I p M X (rvMk w (A.I p 2 + 4) (A.I p 2))) = B) ⟨rfl, rfl⟩, ?_⟩
    rintro _ _ _ ⟨rfl, rfl⟩
    refine ⟨h.1, ?_⟩
    rintro _ rfl
    have e : pApp A.I p M X (0, rvReg w (A.I p 2 + 4), none, some t) = xup (pApp A.I p M X (rvMk w (A.I p 2 + 4) (A.I p 2))) p 2 t := by
      funext a k
      simp only [pApp, rvMk, xup, pReg]
      by_cases ha : a = p
      · subst ha
        by_cases hk : k = 2
        · subst hk; simp
        · simp [hk]
      · simp [ha]
    rw [e] at hQ
    exact hQ
  · rw [show rvJump w t (A.I p 2) = rvStop 3 from if_neg hc] at hQ
    exact hQ
theorem s_X12_goesOn (h : xPr G A p M X len) {w i : Int32} {Q : Int32 → xA → Prop} (hQ : Q (rvBr w (A.I p 2) i).1 (A.wI (pApp A.I p M X (rvBr w (A.I p 2) i)))) : w_X12_goesOn G p w i Q A := by
  intro _
  refine ⟨fun hc => ?_, fun hc => ⟨h.1, fun ht => ?_, fun ht => ?_⟩⟩
  · rw [show rvBr w (A.I p 2) i = (0, none, none, some (A.I p 2 + 4)) from if_pos hc] at hQ
    refine ⟨h.1, _, s_X12_next h.1 (Q := fun r B => r = 0 ∧ A.wI (xup (xup A.I p 2 (A.I p 2 + 4)) p 3 (A.I p 3 + 1)) = B) ⟨rfl, rfl⟩, ?_⟩
    rintro _ _ _ ⟨rfl, rfl⟩
    exact hQ
  · rintro _ rfl _ rfl
    have e : rvBr w (A.I p 2) i = (0, none, none, some (A.I p 2 + (((jishl (jishr w 31) 12 ||| jishl (jishr w 7 &&& 1) 11) ||| jishl (jishr w 25 &&& 63) 5) ||| jishl (jishr w 8 &&& 15) 1))) := by
      unfold rvBr
      rw [if_neg hc]
      exact if_pos ht
    rw [e] at hQ
    exact hQ
  · have e : rvBr w (A.I p 2) i = rvStop 3 := by
      unfold rvBr
      rw [if_neg hc]
      exact if_neg ht
    rw [e] at hQ
    exact hQ
theorem mk_then (h : xPr G A p M X len) {w v : Int32} {Q : Int32 → xA → Prop} (hQ : Q 0 (A.wI (pApp A.I p M X (rvMk w v (A.I p 2))))) : ∃ R : Int32 → xA → Prop, w_X12_makes G p w v R A ∧ ∀ (r : Int32) (B : xA), xok G B → R r B → Q r B :=
  ⟨Q, s_X12_makes h hQ, fun _ _ _ q => q⟩
theorem s_X12_loads (h : xPr G A p M X len) {w f a : Int32} {Q : Int32 → xA → Prop} (hQ : Q (rvLoad (A.I M) len w f a (A.I p 2)).1 (A.wI (pApp A.I p M X (rvLoad (A.I M) len w f a (A.I p 2))))) : w_X12_loads G p w f a Q A := by
  intro _
  refine ⟨fun h3 => ?_, fun h3 => ⟨fun h6 => ?_, fun h6 => ⟨fun hal => ⟨h.1, M, h.2.1, h.2.2.2.1, ?_, ?_⟩, fun hal => ?_⟩⟩⟩
  · rw [show rvLoad (A.I M) len w f a (A.I p 2) = rvStop 2 from if_pos (Or.inl h3)] at hQ
    exact hQ
  · rw [show rvLoad (A.I M) len w f a (A.I p 2) = rvStop 2 from if_pos (Or.inr h6)] at hQ
    exact hQ
  · rw [h.2.2.2.2.1]
    intro hlt
    unfold rvLoad at hQ
    rw [if_neg (by rintro (q | q) <;> contradiction), if_neg (by simpa using hal), if_neg (by simpa using hlt)] at hQ
    refine ⟨?_, mk_then h hQ⟩
    obtain ⟨k, hk⟩ : ∃ k, jiushr a 2 = nI k ∧ k < 2147483648 := jiushr2 a
    rw [hk.1] at hlt ⊢
    exact vp_in_nI ((nI_ltI hk.2 h.2.2.2.2.2.2.2.2.2.2).mp hlt) h.2.2.2.2.2.2.2.2.2.2
  · rw [h.2.2.2.2.1]
    intro hlt
    unfold rvLoad at hQ
    rw [if_neg (by rintro (q | q) <;> contradiction), if_neg (by simpa using hal), if_pos hlt] at hQ
    exact hQ
  · unfold rvLoad at hQ
    rw [if_neg (by rintro (q | q) <;> contradiction), if_pos hal] at hQ
    exact hQ
theorem s_X12_stores (h : xPr G A p M X len) {f a v : Int32} {Q : Int32 → xA → Prop} (hQ : Q (rvStore (A.I M) len f a v (A.I p 2)).1 (A.wI (pApp A.I p M X (rvStore (A.I M) len f a v (A.I p 2))))) : w_X12_stores G p f a v Q A := by
  intro _
  have hpM : p ≠ M := tne h.1 h.2.2.2.1 (by decide)
  refine ⟨fun h2 => ⟨fun hal => ⟨h.1, M, h.2.1, h.2.2.2.1, ?_, ?_⟩, fun hal => ?_⟩, fun h2 => ?_⟩
  · rw [h.2.2.2.2.1]
    intro hlt
    unfold rvStore at hQ
    rw [if_neg (by simpa using h2), if_neg (by simpa using hal), if_neg (by simpa using hlt)] at hQ
    obtain ⟨k, hk⟩ : ∃ k, jiushr a 2 = nI k ∧ k < 2147483648 := jiushr2 a
    refine ⟨?_, h.2.2.2.2.2.2.2.1, ?_⟩
    · rw [hk.1] at hlt ⊢
      exact vp_in_nI ((nI_ltI hk.2 h.2.2.2.2.2.2.2.2.2.2).mp hlt) h.2.2.2.2.2.2.2.2.2.2
    · rintro _ rfl
      refine ⟨Q, s_X12_next (A := A.setI M (ix (jiushr a 2)) _) h.1 ?_, fun _ _ _ q => q⟩
      have e : ∀ (z : Int32) j, (xup A.I M (ix (jiushr a 2)) z) p j = A.I p j := fun z j => xup_a hpM
      show Q 0 (A.wI (xup (xup (xup A.I M (ix (jiushr a 2)) _) p 2 ((xup A.I M (ix (jiushr a 2)) _) p 2 + 4)) p 3 ((xup A.I M (ix (jiushr a 2)) _) p 3 + 1)))
      rw [e, e]
      exact hQ
  · rw [h.2.2.2.2.1]
    intro hlt
    unfold rvStore at hQ
    rw [if_neg (by simpa using h2), if_neg (by simpa using hal), if_pos hlt] at hQ
    exact hQ
  · unfold rvStore at hQ
    rw [if_neg (by simpa using h2), if_pos hal] at hQ
    exact hQ
  · unfold rvStore at hQ
    rw [if_pos h2] at hQ
    exact hQ
theorem s_X12_reckons (h : xPr G A p M X len) {w f a : Int32} {Q : Int32 → xA → Prop} (hQ : Q (rvImm w f a (A.I p 2)).1 (A.wI (pApp A.I p M X (rvImm w f a (A.I p 2))))) : w_X12_reckons G p w f a Q A := by
  intro _
  unfold rvImm at hQ
  refine ⟨fun h1 => ⟨fun h2 => ⟨h.1, mk_then h ?_⟩, fun h2 => ?_⟩, fun h1 => ⟨fun h5 => ⟨fun h2 => ⟨h.1, mk_then h ?_⟩, fun h2 => ⟨fun h3 => ⟨h.1, mk_then h ?_⟩, fun h3 => ?_⟩⟩, fun h5 => ⟨h.1, mk_then h ?_⟩⟩⟩
  · rw [if_pos h1, if_pos h2] at hQ; exact hQ
  · rw [if_pos h1, if_neg h2] at hQ; exact hQ
  · rw [if_neg h1, if_pos h5, if_pos h2] at hQ; exact hQ
  · rw [if_neg h1, if_pos h5, if_neg h2, if_pos h3] at hQ; exact hQ
  · rw [if_neg h1, if_pos h5, if_neg h2, if_neg h3] at hQ; exact hQ
  · rw [if_neg h1, if_neg h5] at hQ; exact hQ
theorem s_X12_reckons_2 (h : xPr G A p M X len) {w f a b : Int32} {Q : Int32 → xA → Prop} (hQ : Q (rvOp w f a b (A.I p 2)).1 (A.wI (pApp A.I p M X (rvOp w f a b (A.I p 2))))) : w_X12_reckons_2 G p w f a b Q A := by
  intro _
  unfold rvOp at hQ
  refine ⟨fun h0 => ⟨h.1, mk_then h ?_⟩, fun h1 => ⟨h.1, mk_then h ?_⟩, fun h3 => ⟨fun hf => ⟨h.1, mk_then h ?_⟩, fun hf => ⟨fun h5 => ⟨h.1, mk_then h ?_⟩, fun h5 => ?_⟩⟩, fun hn => ?_⟩
  · rw [if_pos h0] at hQ; exact hQ
  · rw [if_neg (by rw [h1]; decide), if_pos h1] at hQ; exact hQ
  · rw [if_neg (by rw [h3]; decide), if_neg (by rw [h3]; decide), if_pos h3, if_pos hf] at hQ; exact hQ
  · rw [if_neg (by rw [h3]; decide), if_neg (by rw [h3]; decide), if_pos h3, if_neg hf, if_pos h5] at hQ; exact hQ
  · rw [if_neg (by rw [h3]; decide), if_neg (by rw [h3]; decide), if_pos h3, if_neg hf, if_neg h5] at hQ; exact hQ
  · rw [if_neg hn.1, if_neg hn.2.1, if_neg hn.2.2] at hQ; exact hQ
theorem s_X12_step (h : xPr G A p M X len) {Q : Int32 → xA → Prop} (hQ : Q (rv (A.I M) len (A.I X) (A.I p 2)).1 (A.wI (pApp A.I p M X (rv (A.I M) len (A.I X) (A.I p 2))))) : w_X12_step G p Q A := by
  intro _
  refine ⟨h.1, fun h3 => ⟨M, h.2.1, h.2.2.2.1, fun hlt => ?_, fun hlt => ?_⟩, fun h3 => ?_⟩
  · rw [h.2.2.2.2.1] at hlt ⊢
    obtain ⟨k, hk⟩ : ∃ k, jiushr (A.I p 2) 2 = nI k ∧ k < 2147483648 := jiushr2 _
    refine ⟨?_, X, h.2.2.1, h.2.2.2.2.2.1, ?_, ?_, ?_⟩
    · rw [hk.1] at hlt ⊢
      exact vp_in_nI ((nI_ltI hk.2 h.2.2.2.2.2.2.2.2.2.2).mp hlt) h.2.2.2.2.2.2.2.2.2.2
    · rw [h.2.2.2.2.2.2.1]
      exact and31_in _
    · rw [h.2.2.2.2.2.2.1]
      exact and31_in _
    · rw [show rv (A.I M) len (A.I X) (A.I p 2) = rvW (A.I M) len (A.I M (ix (jiushr (A.I p 2) 2))) (A.I X (ix (jishr (A.I M (ix (jiushr (A.I p 2) 2))) 15 &&& 31))) (A.I X (ix (jishr (A.I M (ix (jiushr (A.I p 2) 2))) 20 &&& 31))) (A.I p 2) from if_pos ⟨h3, hlt⟩] at hQ
      generalize A.I M (ix (jiushr (A.I p 2) 2)) = w at hQ ⊢
      generalize A.I X (ix (jishr w 15 &&& 31)) = a at hQ ⊢
      generalize A.I X (ix (jishr w 20 &&& 31)) = b at hQ ⊢
      unfold rvW at hQ
      generalize hf : jishr w 12 &&& 7 = f at hQ ⊢
      have th : ∀ {R : (Int32 → xA → Prop) → xA → Prop} {Q' : Int32 → xA → Prop}, R Q' A → ∃ R1 : Int32 → xA → Prop, R R1 A ∧ ∀ (r : Int32) (B : xA), xok G B → R1 r B → Q' r B := fun h => ⟨_, h, fun _ _ _ q => q⟩
      refine ⟨fun c => ?_, fun c => ?_, fun c => ?_, fun c => ?_, fun c => ?_, fun c => ?_, fun c => ?_, fun c => ?_, fun c => ?_, fun c => ?_, fun c => ?_, fun c => ?_⟩
      · simp only [c, if_true] at hQ
        exact mk_then h hQ
      · simp only [c, if_true, show ¬ (23 : Int32) = 55 by decide, if_false] at hQ
        exact mk_then h hQ
      · simp only [c, if_true, show ¬ (111 : Int32) = 55 by decide, show ¬ (111 : Int32) = 23 by decide, if_false] at hQ
        exact ⟨_, s_X12_jumps h hQ, fun _ _ _ q => q⟩
      · simp only [c, if_true, show ¬ (103 : Int32) = 55 by decide, show ¬ (103 : Int32) = 23 by decide, show ¬ (103 : Int32) = 111 by decide, if_false] at hQ
        refine ⟨fun q => ?_, fun q => ?_⟩
        · rw [if_pos q] at hQ
          exact ⟨_, s_X12_jumps h hQ, fun _ _ _ q => q⟩
        · rw [if_neg q] at hQ
          exact hQ
      · simp only [c, if_true, show ¬ (99 : Int32) = 55 by decide, show ¬ (99 : Int32) = 23 by decide, show ¬ (99 : Int32) = 111 by decide, show ¬ (99 : Int32) = 103 by decide, if_false] at hQ
        refine ⟨fun q => ?_, fun q => ⟨fun q2 => ?_, fun q2 => ?_⟩⟩
        · rw [if_pos (Or.inl q)] at hQ
          exact hQ
        · rw [if_pos (Or.inr q2)] at hQ
          exact hQ
        · rw [if_neg (by rintro (z | z) <;> contradiction)] at hQ
          exact ⟨_, s_X12_goesOn h hQ, fun _ _ _ q => q⟩
      · simp only [c, if_true, show ¬ (3 : Int32) = 55 by decide, show ¬ (3 : Int32) = 23 by decide, show ¬ (3 : Int32) = 111 by decide, show ¬ (3 : Int32) = 103 by decide, show ¬ (3 : Int32) = 99 by decide, if_false] at hQ
        exact ⟨_, s_X12_loads h hQ, fun _ _ _ q => q⟩
      · simp only [c, if_true, show ¬ (35 : Int32) = 55 by decide, show ¬ (35 : Int32) = 23 by decide, show ¬ (35 : Int32) = 111 by decide, show ¬ (35 : Int32) = 103 by decide, show ¬ (35 : Int32) = 99 by decide, show ¬ (35 : Int32) = 3 by decide, if_false] at hQ
        exact ⟨_, s_X12_stores h hQ, fun _ _ _ q => q⟩
      · simp only [c, if_true, show ¬ (19 : Int32) = 55 by decide, show ¬ (19 : Int32) = 23 by decide, show ¬ (19 : Int32) = 111 by decide, show ¬ (19 : Int32) = 103 by decide, show ¬ (19 : Int32) = 99 by decide, show ¬ (19 : Int32) = 3 by decide, show ¬ (19 : Int32) = 35 by decide, if_false] at hQ
        exact ⟨_, s_X12_reckons h hQ, fun _ _ _ q => q⟩
      · simp only [c, if_true, show ¬ (51 : Int32) = 55 by decide, show ¬ (51 : Int32) = 23 by decide, show ¬ (51 : Int32) = 111 by decide, show ¬ (51 : Int32) = 103 by decide, show ¬ (51 : Int32) = 99 by decide, show ¬ (51 : Int32) = 3 by decide, show ¬ (51 : Int32) = 35 by decide, show ¬ (51 : Int32) = 19 by decide, if_false] at hQ
        exact ⟨_, s_X12_reckons_2 h hQ, fun _ _ _ q => q⟩
      · simp only [c, if_true, show ¬ (15 : Int32) = 55 by decide, show ¬ (15 : Int32) = 23 by decide, show ¬ (15 : Int32) = 111 by decide, show ¬ (15 : Int32) = 103 by decide, show ¬ (15 : Int32) = 99 by decide, show ¬ (15 : Int32) = 3 by decide, show ¬ (15 : Int32) = 35 by decide, show ¬ (15 : Int32) = 19 by decide, show ¬ (15 : Int32) = 51 by decide, if_false] at hQ
        refine ⟨fun q => ?_, fun q => ?_⟩
        · rw [if_pos q] at hQ
          exact ⟨_, s_X12_next h.1 hQ, fun _ _ _ q => q⟩
        · rw [if_neg q] at hQ
          exact hQ
      · simp only [c, if_true, show ¬ (115 : Int32) = 55 by decide, show ¬ (115 : Int32) = 23 by decide, show ¬ (115 : Int32) = 111 by decide, show ¬ (115 : Int32) = 103 by decide, show ¬ (115 : Int32) = 99 by decide, show ¬ (115 : Int32) = 3 by decide, show ¬ (115 : Int32) = 35 by decide, show ¬ (115 : Int32) = 19 by decide, show ¬ (115 : Int32) = 51 by decide, show ¬ (115 : Int32) = 15 by decide, if_false] at hQ
        refine ⟨fun q => ?_, fun q => ⟨fun q2 => ?_, fun q2 => ?_⟩⟩
        · rw [if_pos q] at hQ
          refine ⟨fun r B => r = 0 ∧ A.wI (xup (xup A.I p 2 (A.I p 2 + 4)) p 3 (A.I p 3 + 1)) = B, s_X12_next h.1 ⟨rfl, rfl⟩, ?_⟩
          rintro _ _ _ ⟨rfl, rfl⟩
          rw [show (0 : Int32) + 6 = 6 by decide]
          exact hQ
        · rw [if_neg q, if_pos q2] at hQ
          refine ⟨fun r B => r = 0 ∧ A.wI (xup (xup A.I p 2 (A.I p 2 + 4)) p 3 (A.I p 3 + 1)) = B, s_X12_next h.1 ⟨rfl, rfl⟩, ?_⟩
          rintro _ _ _ ⟨rfl, rfl⟩
          rw [show (0 : Int32) + 7 = 7 by decide]
          exact hQ
        · rw [if_neg q, if_neg q2] at hQ
          exact hQ
      · obtain ⟨c1, c2, c3, c4, c5, c6, c7, c8, c9, c10, c11⟩ := c
        simp only [c1, c2, c3, c4, c5, c6, c7, c8, c9, c10, c11, if_false] at hQ
        exact hQ
  · rw [h.2.2.2.2.1] at hlt
    rw [show rv (A.I M) len (A.I X) (A.I p 2) = rvStop 1 from if_neg (fun q => hlt q.2)] at hQ
    exact hQ
  · rw [show rv (A.I M) len (A.I X) (A.I p 2) = rvStop 1 from if_neg (fun q => h3 q.1)] at hQ
    exact hQ
theorem pReg_at {I : xII} {X a k : Nat} {q : Option (Nat × Int32)} (h : a ≠ X) : pReg I X q a k = I a k := by
  cases q with
  | none => rfl
  | some q => exact xup_a h
end RV
/-- many words: until it stops, at most n -/
def rvGo (p M X len : Nat) : Nat → xII → Int32 × xII
  | 0, I => (0, I)
  | n + 1, I => if (rv (I M) len (I X) (I p 2)).1 = 0 then rvGo p M X len n (pApp I p M X (rv (I M) len (I X) (I p 2))) else ((rv (I M) len (I X) (I p 2)).1, pApp I p M X (rv (I M) len (I X) (I p 2)))
theorem s_X12_go {G : xG} {A : xA} {p M X len : Nat} (h : xPr G A p M X len) {n : Nat} (hn : n < 2147483648) {Q : Int32 → xA → Prop} (hQ : Q (rvGo p M X len n A.I).1 (A.wI (rvGo p M X len n A.I).2)) : w_X12_go G p (nI n) Q A := by
  intro _
  refine ⟨fun q r y B => ∃ (i : Nat) (J : xII), i ≤ n ∧ q = n - i ∧ y = nI i ∧ B = A.wI J ∧ ((r = 0 ∧ rvGo p M X len (n - i) J = rvGo p M X len n A.I) ∨ (¬ r = 0 ∧ (r, J) = rvGo p M X len n A.I)), ⟨n, 0, A.I, by omega, rfl, rfl, rfl, Or.inl ⟨rfl, rfl⟩⟩, ?_⟩
  rintro q r y B ⟨i, J, hi, rfl, rfl, rfl, hJ⟩
  have hle : nI n ≤ nI i ↔ n ≤ i := nI_leI hn (by omega)
  refine ⟨fun hc => ?_, fun hc => ⟨fun hr => ?_, fun hr => ?_⟩⟩
  · have : i = n := by have := hle.mp hc; omega
    subst this
    rcases hJ with ⟨rfl, e⟩ | ⟨-, e⟩
    · rw [Nat.sub_self] at e
      rw [← e] at hQ
      exact hQ
    · rw [← e] at hQ
      exact hQ
  · have hlt : i < n := by
      rcases Nat.lt_or_ge i n with h' | h'
      · exact h'
      · exact absurd (hle.mpr h') hc
    subst hr
    obtain ⟨-, e⟩ : (0 : Int32) = 0 ∧ _ := hJ.resolve_right (fun z => z.1 rfl)
    refine ⟨h.1, _, s_X12_step (xPr.wI h J) (Q := fun r B => r = (rv (J M) len (J X) (J p 2)).1 ∧ A.wI (pApp J p M X (rv (J M) len (J X) (J p 2))) = B) ⟨rfl, rfl⟩, ?_⟩
    rintro _ _ _ ⟨rfl, rfl⟩
    refine ⟨n - (i + 1), by omega, i + 1, _, by omega, rfl, nI_1 i, rfl, ?_⟩
    rw [show n - i = (n - (i + 1)) + 1 by omega, rvGo] at e
    by_cases hz : (rv (J M) len (J X) (J p 2)).1 = 0
    · rw [if_pos hz] at e
      exact Or.inl ⟨hz, e⟩
    · rw [if_neg hz] at e
      exact Or.inr ⟨hz, e⟩
  · rcases hJ with ⟨e, -⟩ | ⟨-, e⟩
    · exact absurd e hr
    · rw [← e] at hQ
      exact hQ
