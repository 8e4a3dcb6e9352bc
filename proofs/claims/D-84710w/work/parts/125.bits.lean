/-! ===== bits of words ===== -/
set_option maxRecDepth 100000
theorem sh_u (w : Int32) : ∀ {f : Nat}, f < 32 → (jiushr w (nI f)).toBitVec = w.toBitVec >>> f
  | 0, _ => rfl
  | 1, _ => rfl
  | 2, _ => rfl
  | 3, _ => rfl
  | 4, _ => rfl
  | 5, _ => rfl
  | 6, _ => rfl
  | 7, _ => rfl
  | 8, _ => rfl
  | 9, _ => rfl
  | 10, _ => rfl
  | 11, _ => rfl
  | 12, _ => rfl
  | 13, _ => rfl
  | 14, _ => rfl
  | 15, _ => rfl
  | 16, _ => rfl
  | 17, _ => rfl
  | 18, _ => rfl
  | 19, _ => rfl
  | 20, _ => rfl
  | 21, _ => rfl
  | 22, _ => rfl
  | 23, _ => rfl
  | 24, _ => rfl
  | 25, _ => rfl
  | 26, _ => rfl
  | 27, _ => rfl
  | 28, _ => rfl
  | 29, _ => rfl
  | 30, _ => rfl
  | 31, _ => rfl
  | n + 32, h => absurd h (by omega)
theorem sh_s (w : Int32) : ∀ {f : Nat}, f < 32 → (jishr w (nI f)).toBitVec = w.toBitVec.sshiftRight f
  | 0, _ => rfl
  | 1, _ => rfl
  | 2, _ => rfl
  | 3, _ => rfl
  | 4, _ => rfl
  | 5, _ => rfl
  | 6, _ => rfl
  | 7, _ => rfl
  | 8, _ => rfl
  | 9, _ => rfl
  | 10, _ => rfl
  | 11, _ => rfl
  | 12, _ => rfl
  | 13, _ => rfl
  | 14, _ => rfl
  | 15, _ => rfl
  | 16, _ => rfl
  | 17, _ => rfl
  | 18, _ => rfl
  | 19, _ => rfl
  | 20, _ => rfl
  | 21, _ => rfl
  | 22, _ => rfl
  | 23, _ => rfl
  | 24, _ => rfl
  | 25, _ => rfl
  | 26, _ => rfl
  | 27, _ => rfl
  | 28, _ => rfl
  | 29, _ => rfl
  | 30, _ => rfl
  | 31, _ => rfl
  | n + 32, h => absurd h (by omega)
theorem sh_l (w : Int32) : ∀ {f : Nat}, f < 32 → (jishl w (nI f)).toBitVec = w.toBitVec <<< f
  | 0, _ => rfl
  | 1, _ => rfl
  | 2, _ => rfl
  | 3, _ => rfl
  | 4, _ => rfl
  | 5, _ => rfl
  | 6, _ => rfl
  | 7, _ => rfl
  | 8, _ => rfl
  | 9, _ => rfl
  | 10, _ => rfl
  | 11, _ => rfl
  | 12, _ => rfl
  | 13, _ => rfl
  | 14, _ => rfl
  | 15, _ => rfl
  | 16, _ => rfl
  | 17, _ => rfl
  | 18, _ => rfl
  | 19, _ => rfl
  | 20, _ => rfl
  | 21, _ => rfl
  | 22, _ => rfl
  | 23, _ => rfl
  | 24, _ => rfl
  | 25, _ => rfl
  | 26, _ => rfl
  | 27, _ => rfl
  | 28, _ => rfl
  | 29, _ => rfl
  | 30, _ => rfl
  | 31, _ => rfl
  | n + 32, h => absurd h (by omega)
theorem mk_bit {n i : Nat} (_ : n ≤ 31) (hi : i < 32) : (nI (2 ^ n - 1)).toBitVec.getLsbD i = decide (i < n) := by
  show (BitVec.ofNat 32 (2 ^ n - 1)).getLsbD i = _
  rw [BitVec.getLsbD_ofNat]
  simp [hi, Nat.testBit_two_pow_sub_one]
theorem bp (w : Int32) {f n : Nat} (hf : f + n ≤ 32) (hn : n ≤ 31) (h0 : 0 < n) : jiushr w (nI f) &&& nI (2 ^ n - 1) = jishr w (nI f) &&& nI (2 ^ n - 1) := by
  apply Int32.toBitVec_inj.mp
  rw [Int32.toBitVec_and, Int32.toBitVec_and, sh_u w (by omega), sh_s w (by omega)]
  apply BitVec.eq_of_getLsbD_eq
  intro i hi
  rw [BitVec.getLsbD_and, BitVec.getLsbD_and, mk_bit hn hi, BitVec.getLsbD_ushiftRight, BitVec.getLsbD_sshiftRight]
  by_cases h : i < n
  · simp [h, show ¬ 32 ≤ i by omega, show f + i < 32 by omega]
  · simp [h]
theorem pt_0 (w : Int32) : f_X13_part w 0 7 = w &&& 127 := by
  apply Int32.toBitVec_inj.mp
  show (w.toBitVec >>> 0) &&& 127#32 = w.toBitVec &&& 127#32
  simp
theorem pt_7 (w : Int32) : f_X13_part w 7 5 = jishr w 7 &&& 31 := bp w (f := 7) (n := 5) (by decide) (by decide) (by decide)
theorem pt_12 (w : Int32) : f_X13_part w 12 3 = jishr w 12 &&& 7 := bp w (f := 12) (n := 3) (by decide) (by decide) (by decide)
theorem pt_15 (w : Int32) : f_X13_part w 15 5 = jishr w 15 &&& 31 := bp w (f := 15) (n := 5) (by decide) (by decide) (by decide)
theorem pt_20 (w : Int32) : f_X13_part w 20 5 = jishr w 20 &&& 31 := bp w (f := 20) (n := 5) (by decide) (by decide) (by decide)
theorem pt_20b (w : Int32) : f_X13_part w 20 1 = jishr w 20 &&& 1 := bp w (f := 20) (n := 1) (by decide) (by decide) (by decide)
theorem pt_21 (w : Int32) : f_X13_part w 21 10 = jishr w 21 &&& 1023 := bp w (f := 21) (n := 10) (by decide) (by decide) (by decide)
theorem pt_7b (w : Int32) : f_X13_part w 7 1 = jishr w 7 &&& 1 := bp w (f := 7) (n := 1) (by decide) (by decide) (by decide)
theorem pt_25b (w : Int32) : f_X13_part w 25 6 = jishr w 25 &&& 63 := bp w (f := 25) (n := 6) (by decide) (by decide) (by decide)
theorem pt_8 (w : Int32) : f_X13_part w 8 4 = jishr w 8 &&& 15 := bp w (f := 8) (n := 4) (by decide) (by decide) (by decide)
theorem pt_25 (w : Int32) : f_X13_part w 25 7 = jiushr w 25 := by
  apply Int32.toBitVec_inj.mp
  show (w.toBitVec >>> 25) &&& 127#32 = w.toBitVec >>> 25
  apply BitVec.eq_of_toNat_eq
  rw [BitVec.toNat_and, BitVec.toNat_ushiftRight]
  show _ &&& (2 ^ 7 - 1) = _
  rw [Nat.and_two_pow_sub_one_eq_mod, Nat.shiftRight_eq_div_pow]
  have := w.toBitVec.isLt
  omega
theorem pt_12b (w : Int32) : jishl (f_X13_part w 12 8) 12 = w &&& 1044480 := by
  apply Int32.toBitVec_inj.mp
  show (((w.toBitVec >>> 12) &&& 255#32) <<< 12) = w.toBitVec &&& 1044480#32
  apply BitVec.eq_of_getLsbD_eq
  intro i hi
  rw [BitVec.getLsbD_shiftLeft, BitVec.getLsbD_and, BitVec.getLsbD_and, BitVec.getLsbD_ushiftRight]
  have e1 : (255#32).getLsbD (i - 12) = decide (i - 12 < 8) := mk_bit (n := 8) (by decide) (by omega)
  have e2 : (1044480#32).getLsbD i = (decide (12 ≤ i) && decide (i < 20)) := by
    revert i
    decide
  rw [e1, e2]
  by_cases h : i < 12
  · simp [h, show ¬ 12 ≤ i by omega]
  · simp [h, hi, show 12 ≤ i by omega, show 12 + (i - 12) = i by omega, show (i - 12 < 8) = (i < 20) by simp; omega]
theorem by4 (w : Int32) : (jishl ((jishl ((jishl ((jishl (0 : Int32) 8) ||| (jiushr w 24 &&& 255)) 8) ||| (jiushr w 16 &&& 255)) 8) ||| (jiushr w 8 &&& 255)) 8) ||| (jiushr w 0 &&& 255) = w := by
  apply Int32.toBitVec_inj.mp
  show ((((((((0#32 <<< 8) ||| ((w.toBitVec >>> 24) &&& 255#32)) <<< 8) ||| ((w.toBitVec >>> 16) &&& 255#32)) <<< 8) ||| ((w.toBitVec >>> 8) &&& 255#32)) <<< 8) ||| ((w.toBitVec >>> 0) &&& 255#32)) = w.toBitVec
  apply BitVec.eq_of_getLsbD_eq
  intro i hi
  have h255 : ∀ j, j < 32 → (255#32).getLsbD j = decide (j < 8) := fun j h => mk_bit (n := 8) (by decide) h
  simp only [BitVec.getLsbD_or, BitVec.getLsbD_shiftLeft, BitVec.getLsbD_and, BitVec.getLsbD_ushiftRight, h255 i hi, h255 (i - 8) (by omega), h255 (i - 8 - 8) (by omega), h255 (i - 8 - 8 - 8) (by omega)]
  rcases (by omega : i < 8 ∨ (8 ≤ i ∧ i < 16) ∨ (16 ≤ i ∧ i < 24) ∨ (24 ≤ i ∧ i < 32)) with h | h | h | h
  · simp [h, hi]
  · simp [hi, show ¬ i < 8 by omega, show i - 8 < 32 by omega, show i - 8 < 8 by omega, show 8 + (i - 8) = i by omega]
  · simp [hi, show ¬ i < 8 by omega, show i - 8 < 32 by omega, show ¬ i - 8 < 8 by omega, show i - 8 - 8 < 32 by omega, show i - 8 - 8 < 8 by omega, show 16 + (i - 8 - 8) = i by omega]
  · simp [hi, show ¬ i < 8 by omega, show i - 8 < 32 by omega, show ¬ i - 8 < 8 by omega, show i - 8 - 8 < 32 by omega, show ¬ i - 8 - 8 < 8 by omega, show i - 8 - 8 - 8 < 32 by omega, show i - 8 - 8 - 8 < 8 by omega, show 24 + (i - 8 - 8 - 8) = i by omega]

def b32 (x : Int32) (i : Nat) : Bool := x.toBitVec.getLsbD i
theorem b32_ext {x y : Int32} (h : ∀ i, i < 32 → b32 x i = b32 y i) : x = y := Int32.toBitVec_inj.mp (BitVec.eq_of_getLsbD_eq h)
theorem b32_and (x y : Int32) (i : Nat) : b32 (x &&& y) i = (b32 x i && b32 y i) := by
  show (x &&& y).toBitVec.getLsbD i = _
  rw [Int32.toBitVec_and, BitVec.getLsbD_and]
  rfl
theorem b32_or (x y : Int32) (i : Nat) : b32 (x ||| y) i = (b32 x i || b32 y i) := by
  show (x ||| y).toBitVec.getLsbD i = _
  rw [Int32.toBitVec_or, BitVec.getLsbD_or]
  rfl
theorem b32_not (x : Int32) {i : Nat} (hi : i < 32) : b32 (x ^^^ -1) i = !b32 x i := by
  show (x ^^^ -1).toBitVec.getLsbD i = _
  rw [Int32.toBitVec_xor, BitVec.getLsbD_xor]
  have : (-1 : Int32).toBitVec.getLsbD i = true := by
    revert i
    decide
  rw [this]
  show (b32 x i ^^ true) = _
  cases b32 x i <;> rfl
theorem b32_shl (x : Int32) {k i : Nat} (hk : k < 32) (hi : i < 32) : b32 (jishl x (nI k)) i = (decide (k ≤ i) && b32 x (i - k)) := by
  show (jishl x (nI k)).toBitVec.getLsbD i = _
  rw [sh_l x hk, BitVec.getLsbD_shiftLeft]
  by_cases h : i < k
  · simp [h, show ¬ k ≤ i by omega]
  · simp [h, hi, show k ≤ i by omega, b32]
theorem b32_shr (x : Int32) {k i : Nat} (hk : k < 32) (hi : i < 32) (h : k + i < 32) : b32 (jishr x (nI k)) i = b32 x (k + i) := by
  show (jishr x (nI k)).toBitVec.getLsbD i = _
  rw [sh_s x hk, BitVec.getLsbD_sshiftRight]
  simp [h, show ¬ 32 ≤ i by omega, b32]
theorem b32_ushr (x : Int32) {k : Nat} (i : Nat) (hk : k < 32) : b32 (jiushr x (nI k)) i = b32 x (k + i) := by
  show (jiushr x (nI k)).toBitVec.getLsbD i = _
  rw [sh_u x hk, BitVec.getLsbD_ushiftRight]
  rfl
theorem b32_mk {n i : Nat} (hi : i < 32) : b32 (nI (2 ^ n - 1)) i = decide (i < n) := by
  show (BitVec.ofNat 32 (2 ^ n - 1)).getLsbD i = _
  rw [BitVec.getLsbD_ofNat]
  simp [hi, Nat.testBit_two_pow_sub_one]
theorem b32_ge (x : Int32) {i : Nat} (h : 32 ≤ i) : b32 x i = false := BitVec.getLsbD_of_ge _ _ h
theorem insM (m v : Int32) {k i : Nat} (hk : k < 4) (hi : i < 32) : b32 ((m &&& (jishl 255 (nI (8 * k)) ^^^ -1)) ||| jishl (v &&& 255) (nI (8 * k))) i = if 8 * k ≤ i ∧ i < 8 * k + 8 then b32 v (i - 8 * k) else b32 m i := by
  have e := b32_mk (n := 8) (i := i - 8 * k) (by omega)
  rw [b32_or, b32_and, b32_not _ hi, b32_shl _ (by omega) hi, b32_shl _ (by omega) hi, b32_and]
  change b32 255 (i - 8 * k) = _ at e
  rw [e]
  by_cases h1 : 8 * k ≤ i
  · by_cases h2 : i < 8 * k + 8
    · simp [h1, h2, show i - 8 * k < 8 by omega]
    · simp [h1, h2, show ¬ i - 8 * k < 8 by omega]
  · simp [h1]
theorem insH (m v : Int32) {k n i : Nat} (hk : k < 4) (hi : i < 32) : b32 ((m &&& (jishl (nI (2 ^ n - 1)) (nI (8 * k)) ^^^ -1)) ||| (jishl v (nI (8 * k)) &&& jishl (nI (2 ^ n - 1)) (nI (8 * k)))) i = if 8 * k ≤ i ∧ i < 8 * k + n then b32 v (i - 8 * k) else b32 m i := by
  have e := b32_mk (n := n) (i := i - 8 * k) (by omega)
  rw [b32_or, b32_and, b32_not _ hi, b32_and, b32_shl _ (by omega) hi, b32_shl _ (by omega) hi, e]
  by_cases h1 : 8 * k ≤ i
  · by_cases h2 : i < 8 * k + n
    · simp [h1, h2, show i - 8 * k < n by omega]
    · simp [h1, h2, show ¬ i - 8 * k < n by omega]
  · simp [h1]
/-- a byte of the Model's word -/
def pbM (m v : Int32) (k : Nat) : Int32 := (m &&& (jishl 255 (nI (8 * k)) ^^^ -1)) ||| jishl (v &&& 255) (nI (8 * k))
def psH (m v mask : Int32) (k : Nat) : Int32 := (m &&& (jishl mask (nI (8 * k)) ^^^ -1)) ||| (jishl v (nI (8 * k)) &&& jishl mask (nI (8 * k)))
theorem st1 (m v : Int32) {r : Nat} (hr : r < 4) : pbM m (jishr v (nI (8 * 0))) r = psH m v 255 r := by
  apply b32_ext
  intro i hi
  rw [pbM, insM m _ hr hi]
  have := insH (n := 8) m v hr hi
  rw [psH]
  refine Eq.trans ?_ this.symm
  by_cases h : 8 * r ≤ i ∧ i < 8 * r + 8
  · rw [if_pos h, if_pos h, b32_shr _ (by omega) (by omega) (by omega)]
    congr 1
    omega
  · rw [if_neg h, if_neg h]
theorem st2 (m v : Int32) {r : Nat} (hr : r < 3) : pbM (pbM m (jishr v (nI (8 * 0))) r) (jishr v (nI (8 * 1))) (r + 1) = psH m v 65535 r := by
  apply b32_ext
  intro i hi
  rw [pbM, insM _ _ (by omega) hi, pbM, insM _ _ (by omega) hi]
  have := insH (n := 16) m v (k := r) (by omega) hi
  rw [psH]
  refine Eq.trans ?_ this.symm
  by_cases h : 8 * (r + 1) ≤ i ∧ i < 8 * (r + 1) + 8
  · rw [if_pos h, if_pos (by omega), b32_shr _ (by omega) (by omega) (by omega)]
    congr 1
    omega
  · rw [if_neg h]
    by_cases h' : 8 * r ≤ i ∧ i < 8 * r + 8
    · rw [if_pos h', if_pos (by omega), b32_shr _ (by omega) (by omega) (by omega)]
      congr 1
      omega
    · rw [if_neg h', if_neg (by omega)]
theorem st4 (m v : Int32) : pbM (pbM (pbM (pbM m (jishr v (nI (8 * 0))) 0) (jishr v (nI (8 * 1))) 1) (jishr v (nI (8 * 2))) 2) (jishr v (nI (8 * 3))) 3 = psH m v (-1) 0 := by
  apply b32_ext
  intro i hi
  rw [pbM, insM _ _ (by omega) hi, pbM, insM _ _ (by omega) hi, pbM, insM _ _ (by omega) hi, pbM, insM _ _ (by omega) hi]
  have := insH (n := 32) m v (k := 0) (by omega) hi
  rw [psH]
  refine Eq.trans ?_ this.symm
  rw [if_pos (c := 8 * 0 ≤ i ∧ i < 8 * 0 + 32) (by omega)]
  by_cases h3 : 8 * 3 ≤ i ∧ i < 8 * 3 + 8
  · rw [if_pos h3, b32_shr _ (by omega) (by omega) (by omega)]
    congr 1
    omega
  rw [if_neg h3]
  by_cases h2 : 8 * 2 ≤ i ∧ i < 8 * 2 + 8
  · rw [if_pos h2, b32_shr _ (by omega) (by omega) (by omega)]
    congr 1
    omega
  rw [if_neg h2]
  by_cases h1 : 8 * 1 ≤ i ∧ i < 8 * 1 + 8
  · rw [if_pos h1, b32_shr _ (by omega) (by omega) (by omega)]
    congr 1
    omega
  rw [if_neg h1, if_pos (by omega), b32_shr _ (by omega) (by omega) (by omega)]
  congr 1
  omega
/-- bytes that are read one behind the other -/
def rbM (w : Int32) (k : Nat) : Int32 := jiushr w (nI (8 * k)) &&& 255
theorem b32_rb (w : Int32) {k i : Nat} (hk : k < 4) (hi : i < 32) : b32 (rbM w k) i = (decide (i < 8) && b32 w (8 * k + i)) := by
  have e := b32_mk (n := 8) hi
  change b32 255 i = _ at e
  rw [rbM, b32_and, b32_ushr _ _ (by omega), e, Bool.and_comm]
theorem ld1 (w : Int32) {r : Nat} (hr : r < 4) : jishl 0 8 ||| rbM w r = jiushr w (nI (8 * r)) &&& 255 := by
  show (0 : Int32) ||| rbM w r = _
  rw [Int32.zero_or]
  rfl
theorem ld2 (w : Int32) {r : Nat} (hr : r < 3) : jishl (jishl 0 8 ||| rbM w (r + 1)) 8 ||| rbM w r = jiushr w (nI (8 * r)) &&& 65535 := by
  rw [show jishl (0 : Int32) 8 = 0 by decide, Int32.zero_or]
  apply b32_ext
  intro i hi
  have e := b32_mk (n := 16) hi
  change b32 65535 i = _ at e
  have e8 := b32_shl (rbM w (r + 1)) (k := 8) (by omega) hi
  change b32 (jishl (rbM w (r + 1)) 8) i = _ at e8
  rw [b32_or, e8, b32_rb w (by omega) hi, b32_rb w (by omega) (by omega), b32_and, b32_ushr _ _ (by omega), e]
  by_cases h : i < 8
  · simp [h, show ¬ 8 ≤ i by omega, show i < 16 by omega]
  · by_cases h' : i < 16
    · simp [h, h', show 8 ≤ i by omega, show i - 8 < 8 by omega, show 8 * (r + 1) + (i - 8) = 8 * r + i by omega]
    · simp [h, h', show ¬ i - 8 < 8 by omega]
theorem ld4 (w : Int32) : jishl (jishl (jishl (jishl 0 8 ||| rbM w 3) 8 ||| rbM w 2) 8 ||| rbM w 1) 8 ||| rbM w 0 = w := by4 w
theorem i8_and (x : Int32) : (x &&& 255).toInt8 = x.toInt8 := by
  apply Int8.toBitVec_inj.mp
  show BitVec.signExtend 8 (x.toBitVec &&& 255#32) = BitVec.signExtend 8 x.toBitVec
  rw [BitVec.signExtend_eq_setWidth_of_le _ (by decide), BitVec.signExtend_eq_setWidth_of_le _ (by decide)]
  apply BitVec.eq_of_toNat_eq
  rw [BitVec.toNat_setWidth, BitVec.toNat_setWidth, BitVec.toNat_and]
  show (_ &&& (2 ^ 8 - 1)) % _ = _
  rw [Nat.and_two_pow_sub_one_eq_mod]
  omega
theorem i16_and (x : Int32) : (x &&& 65535).toInt16 = x.toInt16 := by
  apply Int16.toBitVec_inj.mp
  show BitVec.signExtend 16 (x.toBitVec &&& 65535#32) = BitVec.signExtend 16 x.toBitVec
  rw [BitVec.signExtend_eq_setWidth_of_le _ (by decide), BitVec.signExtend_eq_setWidth_of_le _ (by decide)]
  apply BitVec.eq_of_toNat_eq
  rw [BitVec.toNat_setWidth, BitVec.toNat_setWidth, BitVec.toNat_and]
  show (_ &&& (2 ^ 16 - 1)) % _ = _
  rw [Nat.and_two_pow_sub_one_eq_mod]
  omega
