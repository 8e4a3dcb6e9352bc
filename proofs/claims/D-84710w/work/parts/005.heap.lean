/-! ===== THE BRIDGE: rows of the heap ===== -/
set_option maxRecDepth 100000
theorem q197 : (Jvm.Cond.initialized "CompiledHouse") ∈ lw_all := lw_g (lw_at lw_m1 1 rfl) rfl
theorem q198 : (Jvm.Cond.initialized "CompiledHouse$Parser") ∈ lw_all := lw_g (lw_at lw_m1 2 rfl) rfl
theorem q199 : (Jvm.Cond.initialized "CompiledHouse$Tokens") ∈ lw_all := lw_g (lw_at lw_m1 3 rfl) rfl
theorem q203 : (Jvm.Cond.initialized "CompiledHouse$Stop") ∈ lw_all := lw_g (lw_at lw_m1 7 rfl) rfl
theorem q205 : (Jvm.Cond.initialized "CompiledHouse$Block0") ∈ lw_all := lw_g (lw_at lw_m1 9 rfl) rfl
theorem q209 : (Jvm.Cond.initialized "CompiledHouse$Maker") ∈ lw_all := lw_g (lw_at lw_m1 13 rfl) rfl
theorem q210 : (Jvm.Cond.initialized "CompiledHouse$Living") ∈ lw_all := lw_g (lw_at lw_m1 14 rfl) rfl
theorem q211 : (Jvm.Cond.initialized "CompiledHouse$Cleaner") ∈ lw_all := lw_g (lw_at lw_m1 15 rfl) rfl
theorem q212 : (Jvm.Cond.initialized "CompiledHouse$Words") ∈ lw_all := lw_g (lw_at lw_m1 16 rfl) rfl
theorem q213 : (Jvm.Cond.initialized "CompiledHouse$Layer") ∈ lw_all := lw_g (lw_at lw_m1 17 rfl) rfl
theorem q214 : (Jvm.Cond.initialized "CompiledHouse$Painter") ∈ lw_all := lw_g (lw_at lw_m1 18 rfl) rfl
theorem q215 : (Jvm.Cond.initialized "CompiledHouse$Processor") ∈ lw_all := lw_g (lw_at lw_m1 19 rfl) rfl
theorem q216 : (Jvm.Cond.initialized "CompiledHouseModel") ∈ lw_all := lw_g (lw_at lw_m1 20 rfl) rfl
theorem q221 : (Jvm.Cond.initialized "CompiledHouse$Told") ∈ lw_all := lw_g (lw_at lw_m1 25 rfl) rfl
theorem q223 : (Jvm.Cond.initialized "CompiledHouse$Num") ∈ lw_all := lw_g (lw_at lw_m1 27 rfl) rfl
theorem q228 : (Jvm.Cond.initialized "CompiledHouse$Call") ∈ lw_all := lw_g (lw_at lw_m1 32 rfl) rfl
theorem q229 : (Jvm.Cond.initialized "CompiledHouse$Name") ∈ lw_all := lw_g (lw_at lw_m1 33 rfl) rfl
theorem q230 : (Jvm.Cond.initialized "CompiledHouse$Get") ∈ lw_all := lw_g (lw_at lw_m1 34 rfl) rfl
theorem q231 : (Jvm.Cond.initialized "CompiledHouse$Ahead") ∈ lw_all := lw_g (lw_at lw_m1 35 rfl) rfl
theorem q232 : (Jvm.Cond.initialized "CompiledHouse$Logic") ∈ lw_all := lw_g (lw_at lw_m1 36 rfl) rfl
theorem q234 : (Jvm.Cond.initialized "CompiledHouse$Chain") ∈ lw_all := lw_g (lw_at lw_m1 38 rfl) rfl
theorem q235 : (Jvm.Cond.initialized "CompiledHouse$Choice") ∈ lw_all := lw_g (lw_at lw_m1 39 rfl) rfl
theorem q236 : (Jvm.Cond.initialized "CompiledHouse$Formal") ∈ lw_all := lw_g (lw_at lw_m1 40 rfl) rfl
theorem q237 : (Jvm.Cond.initialized "CompiledHouse$TellArray") ∈ lw_all := lw_g (lw_at lw_m1 41 rfl) rfl
theorem q238 : (Jvm.Cond.initialized "CompiledHouse$Tell") ∈ lw_all := lw_g (lw_at lw_m1 42 rfl) rfl
theorem q239 : (Jvm.Cond.initialized "CompiledHouse$If") ∈ lw_all := lw_g (lw_at lw_m1 43 rfl) rfl
theorem q240 : (Jvm.Cond.initialized "CompiledHouse$Loop") ∈ lw_all := lw_g (lw_at lw_m1 44 rfl) rfl
theorem q241 : (Jvm.Cond.initialized "CompiledHouse$Do") ∈ lw_all := lw_g (lw_at lw_m1 45 rfl) rfl
theorem q242 : (Jvm.Cond.initialized "CompiledHouse$Assign") ∈ lw_all := lw_g (lw_at lw_m1 46 rfl) rfl
theorem q243 : (Jvm.Cond.initialized "CompiledHouse$Leave") ∈ lw_all := lw_g (lw_at lw_m1 47 rfl) rfl
theorem q244 : (Jvm.Cond.initialized "CompiledHouse$Return") ∈ lw_all := lw_g (lw_at lw_m1 48 rfl) rfl
theorem q245 : (Jvm.Cond.initialized "CompiledHouse$Out") ∈ lw_all := lw_g (lw_at lw_m1 49 rfl) rfl
theorem q246 : (Jvm.Cond.initialized "CompiledHouse$Symbol") ∈ lw_all := lw_g (lw_at lw_m1 50 rfl) rfl
theorem q247 : (Jvm.Cond.initialized "CompiledHouse$Code") ∈ lw_all := lw_g (lw_at lw_m1 51 rfl) rfl
theorem q248 : (Jvm.Cond.initialized "CompiledHouse$Block") ∈ lw_all := lw_g (lw_at lw_m1 52 rfl) rfl
theorem q252 : (Jvm.Cond.initialized "CompiledHouse$Act") ∈ lw_all := lw_g (lw_at lw_m1 56 rfl) rfl
theorem q208 : (Jvm.Cond.initialized "java/util/ArrayList") ∈ lw_all := lw_g (lw_at lw_m1 12 rfl) rfl
theorem q250 : (Jvm.Cond.initialized "java/lang/Integer") ∈ lw_all := lw_g (lw_at lw_m1 54 rfl) rfl
/-- all classes of the table: their words, names, types -/
def xclass (c : Nat) (r : vw_C) : Prop := (∀ w ∈ u_ws r.1 r.2.1 r.2.2, w ∈ lw_all) ∧ (∀ a, a < r.2.2 → ∀ b, b < r.2.2 → a ≠ b → (r.2.1 a).2.1 ≠ (r.2.1 b).2.1) ∧ (∀ k, k < r.2.2 → parseFieldDescriptor (r.2.1 k).2.2.1 = some (xct c k)) ∧ Cond.instantiable r.1 r.2.2 ∈ lw_all ∧ Cond.initialized r.1 ∈ lw_all
theorem xclass_ok : ∀ (c : Nat) (r : vw_C), xcl[c]? = some r → c < 100 ∧ xclass c r := by
  intro c r h
  match c, h with
  | 0, h => cases h; exact ⟨by decide, in_X0, nmX0, tyX0_ok, q256, q197⟩
  | 1, h => cases h; exact ⟨by decide, in_X1, nmX1, tyX1_ok, q264, q198⟩
  | 2, h => cases h; exact ⟨by decide, in_X2, nmX2, tyX2_ok, q270, q199⟩
  | 3, h => cases h; exact ⟨by decide, in_X3, nmX3, tyX3_ok, q380, q203⟩
  | 4, h => cases h; exact ⟨by decide, in_X5, nmX5, tyX5_ok, q445, q205⟩
  | 5, h => cases h; exact ⟨by decide, in_X6, nmX6, tyX6_ok, q512, q209⟩
  | 6, h => cases h; exact ⟨by decide, in_X7, nmX7, tyX7_ok, q580, q210⟩
  | 7, h => cases h; exact ⟨by decide, in_X8, nmX8, tyX8_ok, q601, q211⟩
  | 8, h => cases h; exact ⟨by decide, in_X9, nmX9, tyX9_ok, q724, q212⟩
  | 9, h => cases h; exact ⟨by decide, in_X10, nmX10, tyX10_ok, q758, q213⟩
  | 10, h => cases h; exact ⟨by decide, in_X11, nmX11, tyX11_ok, q764, q214⟩
  | 11, h => cases h; exact ⟨by decide, in_X12, nmX12, tyX12_ok, q841, q215⟩
  | 12, h => cases h; exact ⟨by decide, in_X13, nmX13, tyX13_ok, q2993, q216⟩
  | 13, h => cases h; exact ⟨by decide, in_X14, nmX14, tyX14_ok, q1097, q221⟩
  | 14, h => cases h; exact ⟨by decide, in_X16, nmX16, tyX16_ok, q1190, q223⟩
  | 15, h => cases h; exact ⟨by decide, in_X17, nmX17, tyX17_ok, q1317, q228⟩
  | 16, h => cases h; exact ⟨by decide, in_X18, nmX18, tyX18_ok, q1341, q229⟩
  | 17, h => cases h; exact ⟨by decide, in_X19, nmX19, tyX19_ok, q1365, q230⟩
  | 18, h => cases h; exact ⟨by decide, in_X20, nmX20, tyX20_ok, q1380, q231⟩
  | 19, h => cases h; exact ⟨by decide, in_X21, nmX21, tyX21_ok, q1397, q232⟩
  | 20, h => cases h; exact ⟨by decide, in_X22, nmX22, tyX22_ok, q1424, q234⟩
  | 21, h => cases h; exact ⟨by decide, in_X23, nmX23, tyX23_ok, q1443, q235⟩
  | 22, h => cases h; exact ⟨by decide, in_X24, nmX24, tyX24_ok, q1477, q236⟩
  | 23, h => cases h; exact ⟨by decide, in_X25, nmX25, tyX25_ok, q1519, q237⟩
  | 24, h => cases h; exact ⟨by decide, in_X26, nmX26, tyX26_ok, q1538, q238⟩
  | 25, h => cases h; exact ⟨by decide, in_X27, nmX27, tyX27_ok, q1558, q239⟩
  | 26, h => cases h; exact ⟨by decide, in_X28, nmX28, tyX28_ok, q1578, q240⟩
  | 27, h => cases h; exact ⟨by decide, in_X29, nmX29, tyX29_ok, q1608, q241⟩
  | 28, h => cases h; exact ⟨by decide, in_X30, nmX30, tyX30_ok, q1618, q242⟩
  | 29, h => cases h; exact ⟨by decide, in_X31, nmX31, tyX31_ok, q1636, q243⟩
  | 30, h => cases h; exact ⟨by decide, in_X32, nmX32, tyX32_ok, q1649, q244⟩
  | 31, h => cases h; exact ⟨by decide, in_X33, nmX33, tyX33_ok, q1662, q245⟩
  | 32, h => cases h; exact ⟨by decide, in_X34, nmX34, tyX34_ok, q1690, q246⟩
  | 33, h => cases h; exact ⟨by decide, in_X35, nmX35, tyX35_ok, q1743, q247⟩
  | 34, h => cases h; exact ⟨by decide, in_X36, nmX36, tyX36_ok, q1785, q248⟩
  | 35, h => cases h; exact ⟨by decide, in_X37, nmX37, tyX37_ok, q1905, q252⟩
  | 36, h => cases h; exact ⟨by decide, in_J5, nmJ5, tyJ5_ok, q454, q208⟩
  | 37, h => cases h; exact ⟨by decide, in_J15, nmJ15, tyJ15_ok, q1888, q250⟩
  | c + 38, h => simp [xcl] at h
theorem xsI_n {A : xA} {a k : Nat} {v : Int32} : (A.setI a k v).n = A.n := rfl
theorem xsI_u {A : xA} {a k : Nat} {v : Int32} : (A.setI a k v).u = A.u := rfl
theorem xsI_tg {A : xA} {a k : Nat} {v : Int32} : (A.setI a k v).tg = A.tg := rfl
theorem xsI_ln {A : xA} {a k : Nat} {v : Int32} : (A.setI a k v).ln = A.ln := rfl
theorem xsI_I {A : xA} {a k : Nat} {v : Int32} : (A.setI a k v).I = xup A.I a k v := rfl
theorem xsI_L {A : xA} {a k : Nat} {v : Int32} : (A.setI a k v).L = A.L := rfl
theorem xsI_P {A : xA} {a k : Nat} {v : Int32} : (A.setI a k v).P = A.P := rfl
theorem xsI_gh {A : xA} {a k : Nat} {v : Int32} : (A.setI a k v).gh = A.gh := rfl
theorem xsL_n {A : xA} {a k : Nat} {v : Int64} : (A.setL a k v).n = A.n := rfl
theorem xsL_u {A : xA} {a k : Nat} {v : Int64} : (A.setL a k v).u = A.u := rfl
theorem xsL_tg {A : xA} {a k : Nat} {v : Int64} : (A.setL a k v).tg = A.tg := rfl
theorem xsL_ln {A : xA} {a k : Nat} {v : Int64} : (A.setL a k v).ln = A.ln := rfl
theorem xsL_I {A : xA} {a k : Nat} {v : Int64} : (A.setL a k v).I = A.I := rfl
theorem xsL_L {A : xA} {a k : Nat} {v : Int64} : (A.setL a k v).L = xup A.L a k v := rfl
theorem xsL_P {A : xA} {a k : Nat} {v : Int64} : (A.setL a k v).P = A.P := rfl
theorem xsL_gh {A : xA} {a k : Nat} {v : Int64} : (A.setL a k v).gh = A.gh := rfl
theorem xsP_n {A : xA} {a k : Nat} {v : Option Nat} : (A.setP a k v).n = A.n := rfl
theorem xsP_u {A : xA} {a k : Nat} {v : Option Nat} : (A.setP a k v).u = A.u := rfl
theorem xsP_tg {A : xA} {a k : Nat} {v : Option Nat} : (A.setP a k v).tg = A.tg := rfl
theorem xsP_ln {A : xA} {a k : Nat} {v : Option Nat} : (A.setP a k v).ln = A.ln := rfl
theorem xsP_I {A : xA} {a k : Nat} {v : Option Nat} : (A.setP a k v).I = A.I := rfl
theorem xsP_L {A : xA} {a k : Nat} {v : Option Nat} : (A.setP a k v).L = A.L := rfl
theorem xsP_P {A : xA} {a k : Nat} {v : Option Nat} : (A.setP a k v).P = xup A.P a k v := rfl
theorem xsP_gh {A : xA} {a k : Nat} {v : Option Nat} : (A.setP a k v).gh = A.gh := rfl
theorem xnew_n {A : xA} {t m w g : Nat} : (A.new t m w g).n = A.n + 1 := rfl
theorem xnew_u {A : xA} {t m w g : Nat} : (A.new t m w g).u = A.u + w := rfl
theorem xnew_tg {A : xA} {t m w g : Nat} : (A.new t m w g).tg = xu1 A.tg A.n t := rfl
theorem xnew_ln {A : xA} {t m w g : Nat} : (A.new t m w g).ln = xu1 A.ln A.n m := rfl
theorem xnew_I {A : xA} {t m w g : Nat} : (A.new t m w g).I = xu1 A.I A.n (fun _ => 0) := rfl
theorem xnew_L {A : xA} {t m w g : Nat} : (A.new t m w g).L = xu1 A.L A.n (fun _ => 0) := rfl
theorem xnew_P {A : xA} {t m w g : Nat} : (A.new t m w g).P = xu1 A.P A.n (fun _ => none) := rfl
theorem xnew_gh {A : xA} {t m w g : Nat} : (A.new t m w g).gh = xu1 A.gh A.n g := rfl
theorem xput_int {A : xA} {a k : Nat} {v : Int32} : A.put a k (.int v) = A.setI a k v := rfl
theorem xput_long {A : xA} {a k : Nat} {v : Int64} : A.put a k (.long v) = A.setL a k v := rfl
theorem xput_ref {A : xA} {a k b : Nat} : A.put a k (.ref b) = A.setP a k (some b) := rfl
theorem xput_null {A : xA} {a k : Nat} : A.put a k .null = A.setP a k none := rfl
theorem xput_rf {A : xA} {a k : Nat} {r : Option Nat} : A.put a k (va_rf r) = A.setP a k r := by cases r <;> rfl
theorem xput_other {A : xA} {a k b : Nat} {v : Value} (h : b ≠ a) : (A.put a k v).I b = A.I b ∧ (A.put a k v).L b = A.L b ∧ (A.put a k v).P b = A.P b := by
  cases v <;> refine ⟨?_, ?_, ?_⟩ <;> first | rfl | (funext j; exact xup_a h)
theorem xput_k {A : xA} {a k j : Nat} {v : Value} (h : j ≠ k) : (A.put a k v).I a j = A.I a j ∧ (A.put a k v).L a j = A.L a j ∧ (A.put a k v).P a j = A.P a j := by
  cases v <;> refine ⟨?_, ?_, ?_⟩ <;> first | rfl | exact xup_k h
theorem xput_same {A : xA} {a k : Nat} {v : Value} : (A.put a k v).n = A.n ∧ (A.put a k v).u = A.u ∧ (A.put a k v).tg = A.tg ∧ (A.put a k v).ln = A.ln := by
  cases v <;> exact ⟨rfl, rfl, rfl, rfl⟩
theorem xput_gh {A : xA} {a k : Nat} {v : Value} : (A.put a k v).gh = A.gh := by cases v <;> rfl
/-- the value is of the type -/
def xfit (ty : FieldType) (v : Value) : Prop := match ty with
  | .long => ∃ x, v = .long x
  | .object _ => v = .null ∨ ∃ a, v = .ref a
  | .array _ => v = .null ∨ ∃ a, v = .ref a
  | .float => False
  | .double => False
  | _ => ∃ x, v = .int x
theorem xput_val {A : xA} {a k : Nat} {v : Value} {ty : FieldType} (h : xfit ty v) : xval ty ((A.put a k v).I a k) ((A.put a k v).L a k) ((A.put a k v).P a k) = v := by
  have eI : ∀ x : Int32, (A.put a k (.int x)).I a k = x := fun x => xup_s
  have eL : ∀ x : Int64, (A.put a k (.long x)).L a k = x := fun x => xup_s
  have eP : ∀ x : Nat, (A.put a k (.ref x)).P a k = some x := fun x => xup_s
  have eN : (A.put a k .null).P a k = none := xup_s
  cases ty <;> simp only [xfit] at h <;> first
    | exact h.elim
    | (obtain ⟨x, rfl⟩ := h; simp only [xval, eI]; done)
    | (obtain ⟨x, rfl⟩ := h; simp only [xval, eL]; done)
    | (rcases h with rfl | ⟨b, rfl⟩ <;> simp only [xval, eP, eN, va_rf])
theorem xat_put {A0 A : xA} {a k b : Nat} {v : Value} (h : b ≠ a) (h2 : xat A0 A b) : xat A0 (A.put a k v) b := by
  obtain ⟨f1, f2, f3⟩ := xput_other (A := A) (k := k) (v := v) h
  obtain ⟨e1, e2, e3, e4⟩ := xput_same (A := A) (a := a) (k := k) (v := v)
  obtain ⟨g1, g2, g3, g4, g5, g6⟩ := h2
  exact ⟨by rw [e3]; exact g1, by rw [e4]; exact g2, by rw [xput_gh]; exact g3, f1.trans g4, f2.trans g5, f3.trans g6⟩
theorem hU_set {H H' : Heap} {a i : Nat} {cell : Cell} {v : Value} (h1 : H[a]? = some cell) (h2 : H'[a]? = some (cell.setSlot i v)) (ho : ∀ q : Nat, q ≠ a → H'[q]? = H[q]?) : hU H' = hU H := by
  refine hU_same fun q => ?_
  by_cases hq : q = a
  · subst hq
    rw [h1, h2]
    simp [Cell.setSlot]
  · rw [ho q hq]
theorem xRel.put {G : xG} {A : xA} {H H' : Heap} (hr : xRel G A H) {a c k : Nat} {r : vw_C} {cell : Cell} {v : Value} (hN : G.N ≤ a) (ht : A.tg a = c + 1) (hc : c < 100) (hcl : xcl[c]? = some r) (hk : k < r.2.2) (h1 : H[a]? = some cell) (h2 : H'[a]? = some (cell.setSlot (G.D.2 c k) v)) (hs : H'.size = H.size) (ho : ∀ q : Nat, q ≠ a → H'[q]? = H[q]?)
    (hap : ∀ x y, x < r.2.2 → y < r.2.2 → x ≠ y → (G.D.2 c) x ≠ (G.D.2 c) y) (hf : xfit (xct c k) v) : xRel G (A.put a k v) H' := by
  obtain ⟨q1, q2, q3, q4, q5, q6, q7⟩ := hr
  obtain ⟨e1, e2, e3, e4⟩ := xput_same (A := A) (a := a) (k := k) (v := v)
  refine ⟨by rw [hs, q1, e1], by rw [hU_set h1 h2 ho, q2, e2], fun q hq => by rw [ho q (by omega)]; exact q3 q hq, fun b c' hbN hb hc' => ?_, fun b j hbN hb => ?_, fun b hb => xat_put (by omega) (q6 b hb), by rw [e1]; exact q7⟩
  · rw [e3] at hb
    obtain ⟨r', hr', cell', g1, g2, g3, g4⟩ := q4 b c' hbN hb hc'
    by_cases hba : b = a
    · subst hba
      have : c' = c := by omega
      subst this
      cases hcl.symm.trans hr'
      cases h1.symm.trans g1
      refine ⟨r, hr', _, h2, g2, g3, fun j hj => ?_⟩
      have := t_set g4 (fun x y hx hy hne => hap x y hx hy hne) hk v j hj
      rw [this]
      by_cases hjk : j = k
      · subst hjk
        simp only [updV, if_pos]
        rw [xput_val hf]
      · simp only [updV, if_neg hjk]
        obtain ⟨f1, f2, f3⟩ := xput_k (A := A) (a := b) (v := v) hjk
        rw [f1, f2, f3]
    · obtain ⟨f1, f2, f3⟩ := xput_other (A := A) (k := k) (v := v) hba
      rw [f1, f2, f3]
      exact ⟨r', hr', cell', by rw [ho b hba]; exact g1, g2, g3, g4⟩
  · rw [e3] at hb
    have hba : b ≠ a := by
      intro q
      subst q
      omega
    obtain ⟨f1, f2, f3⟩ := xput_other (A := A) (k := k) (v := v) hba
    rw [f1, f2, f3, e4, ho b hba]
    exact q5 b j hbN hb
theorem xRel.arr {G : xG} {A : xA} {H H' : Heap} (hr : xRel G A H) {a j k : Nat} {v : Value} (hN : G.N ≤ a) (ht : A.tg a = 200 + j) (hs : H'.size = H.size)
    (h2 : H'[a]? = some ((arrV (G.dA j) (A.ln a) (fun k => xval (xty j) (A.I a k) (A.L a k) (A.P a k))).setSlot k v)) (ho : ∀ q : Nat, q ≠ a → H'[q]? = H[q]?) (hf : xfit (xty j) v) : xRel G (A.put a k v) H' := by
  obtain ⟨q1, q2, q3, q4, q5, q6, q7⟩ := hr
  obtain ⟨e1, e2, e3, e4⟩ := xput_same (A := A) (a := a) (k := k) (v := v)
  refine ⟨by rw [hs, q1, e1], by rw [hU_set (q5 a j hN ht).2 h2 ho, q2, e2], fun q hq => by rw [ho q (by omega)]; exact q3 q hq, fun b c' hbN hb hc' => ?_, fun b j' hbN hb => ?_, fun b hb => xat_put (by omega) (q6 b hb), by rw [e1]; exact q7⟩
  · rw [e3] at hb
    have hba : b ≠ a := by
      intro q
      subst q
      omega
    obtain ⟨f1, f2, f3⟩ := xput_other (A := A) (k := k) (v := v) hba
    rw [f1, f2, f3]
    obtain ⟨r', hr', cell', g1, g2⟩ := q4 b c' hbN hb hc'
    exact ⟨r', hr', cell', by rw [ho b hba]; exact g1, g2⟩
  · rw [e3] at hb
    by_cases hba : b = a
    · subst hba
      have : j' = j := by omega
      subst this
      refine ⟨(q5 b j' hN ht).1, ?_⟩
      rw [h2, arrV_store, e4]
      congr 2
      funext q
      by_cases hq : q = k
      · subst hq
        simp only [updV, if_pos]
        rw [xput_val hf]
      · simp only [updV, if_neg hq]
        obtain ⟨f1, f2, f3⟩ := xput_k (A := A) (a := b) (v := v) hq
        rw [f1, f2, f3]
    · obtain ⟨f1, f2, f3⟩ := xput_other (A := A) (k := k) (v := v) hba
      rw [f1, f2, f3, e4, ho b hba]
      exact q5 b j' hbN hb
/-- a link of a field: own class, entry; class and field of the object -/
def xF (own : String) (idx c k : Nat) : Prop := ∃ (r : vw_C) (ref : String), xcl[c]? = some r ∧ k < r.2.2 ∧
  (Cond.fieldLink own idx ref (r.2.1 k).2.1 (r.2.1 k).2.2.1 ∈ lw_all ∨ ∃ host, Cond.fieldLinkNest own idx ref (r.2.1 k).2.1 (r.2.1 k).2.2.1 host ∈ lw_tbl) ∧ (ref = (r.2.1 k).1 ∨ Cond.sameField ref (r.2.1 k).1 (r.2.1 k).2.1 (r.2.1 k).2.2.1 ∈ lw_all)
/-- the field may be written: it isn't final, or this is the constructor of its own class -/
def xFw (K : xK) (c k : Nat) : Prop := ∃ r : vw_C, xcl[c]? = some r ∧ ((r.2.1 k).2.2.2 = false ∨ ((r.2.1 k).2.2.2 = true ∧ K.y.name = "<init>" ∧ (r.2.1 k).1 = K.y.cls))
theorem xsame {G : xG} (hG : xOK G) {s : State} (hW : G.z.WarmedH s.vm) {ref own n d : String} (h : ref = own ∨ Cond.sameField ref own n d ∈ lw_all) : ∀ x, s.fieldFound? own n d = some x → s.fieldFound? ref n d = some x := by
  intro x hx
  rcases h with rfl | h
  · exact hx
  · exact u_same (args := #[]) (xw hG hW h) x hx
section XH
variable {G : xG} {d : Nat} {K : xK} {Q : Outcome → xA → Prop} {A : xA} {pc : Nat} {lv : List (Option Value)} {st : List Value}
theorem x_get (hG : xOK G) {a c k idx : Nat} {v : Value} (hd : decode K.cc pc = .ok (.getfield idx, 3)) (hF : xF K.y.cls idx c k) (ht : A.tg a = c + 1) (hv0 : xval (xct c k) (A.I a k) (A.L a k) (A.P a k) = v) (kk : X G d K Q A (pc + 3) lv (v :: st)) : X G d K Q A pc lv (.ref a :: st) := by
  intro p e s m args below meth cd H ls locs hc hr hl hv
  have k0 := kk p e s m args below meth cd H ls locs hc hr hl hv
  obtain ⟨hx, hb, hml, hown, hW, -⟩ := hc
  obtain ⟨r, ref, hcl, hk, hlink, hsame⟩ := hF
  obtain ⟨hc1, hin, hnm, hty, -⟩ := xclass_ok c r hcl
  obtain ⟨r', cell, hr', q1, q2, q3, -, q4⟩ := xobR hG hr ht hc1
  cases hcl.symm.trans hr'
  obtain ⟨hS, hfc, kC, hkC, hkind⟩ := (xKn hG hW).1 c r hcl
  obtain ⟨cf, kf, fi, f, hi, hsl⟩ := hS k hk
  have hst := (u_facts (args := args) hfc hkC (u_lays (ws := lw_all) (fun w h => xw hG hW h) hin hk) hi).1
  have hslot : cell.slots[f.slot]? = some v := by
    rw [hsl, q4 k hk]
    exact congrArg some hv0
  rcases hlink with h | ⟨host, h⟩
  · exact W.getf hx hb hown (xw hG hW h) (xsame hG hW hsame _ hi) hst q1 q3 hslot rfl rfl hd k0
  · exact va_Wgetf hx hb hown (va_Nw.use rfl (va_Nw.warmF hW (va_Nw.of rfl (hG.1 _ h)))) (xsame hG hW hsame _ hi) hst q1 q3 hslot rfl rfl hd k0
theorem x_put (hG : xOK G) {a c k idx : Nat} {v : Value} (hd : decode K.cc pc = .ok (.putfield idx, 3)) (hF : xF K.y.cls idx c k) (hFw : xFw K c k) (ht : A.tg a = c + 1) (hN : G.N ≤ a) (hn : narrow (xct c k) v = v) (hfit : fits (xct c k) v = true) (hxf : xfit (xct c k) v) (kk : X G d K Q (A.put a k v) (pc + 3) lv st) : X G d K Q A pc lv (v :: .ref a :: st) := by
  intro p e s m args below meth cd H ls locs hc hr hl hv
  have k0 := fun H' hr' locs' hl' => kk p e s m args below meth cd H' ls locs' hc hr' hl' hv
  obtain ⟨hx, hb, hml, hown, hW, -, -, hnmM, -⟩ := hc
  obtain ⟨r, ref, hcl, hk, hlink, hsame⟩ := hF
  obtain ⟨hc1, hin, hnm, hty, -⟩ := xclass_ok c r hcl
  obtain ⟨r', hr', cell, q1, q2, q3, q4⟩ := hr.2.2.2.1 a c hN ht hc1
  cases hcl.symm.trans hr'
  have hts : ∀ w ∈ lw_all, w.before args s = true := fun w h => xw hG hW h
  have hap := va_apart (own := K.y.cls) hts hin (xct c) hty hnm (xKn hG hW) hcl
  obtain ⟨hS, hfc, kC, hkC, hkind⟩ := (xKn hG hW).1 c r hcl
  obtain ⟨cf, kf, fi, f, hi, hsl⟩ := hS k hk
  have hst := (u_facts hfc hkC (u_lays hts hin hk) hi).1
  have hlay := hts _ (hin _ (u_in_lay hk))
  have ha : a < H.size := (Array.getElem?_eq_some_iff.mp q1).1
  have hlt : f.slot < cell.slots.size := by rw [hsl]; exact k2_hasslot (q4 k hk)
  have hfin : hasFlag f.accessFlags Acc.final = false ∨ (m.cls = cf ∧ meth.name = "<init>") := by
    obtain ⟨r2, hr2, hw⟩ := hFw
    cases hcl.symm.trans hr2
    rcases hw with h | ⟨h, h5, h6⟩
    · left
      unfold u_lay at hlay
      rw [if_neg (by rw [h]; decide)] at hlay
      exact (u_store hfc hkC hkind hlay hi (hty k hk) hn hfit).1
    · right
      unfold u_lay at hlay
      rw [if_pos h] at hlay
      obtain ⟨_, _, c', _, _, _, -, -, hf', -, -, -, hown2, -⟩ := Cond.laysFinal_spec hlay
      have e1 : c' = cf := by have := hi.symm.trans hf'; simp at this; exact this.1.symm
      rw [h6] at hown2
      exact ⟨by rw [← e1]; exact Option.some.inj (hown.symm.trans hown2), hnmM.trans h5⟩
  have hfs := u_fits hfc hkC hkind (u_lays hts hin hk) hi (hty k hk) hn hfit
  have hnext : W p G.l e (xR G d s.heap) s m args below meth cd (H.setIfInBounds a (cell.setSlot f.slot v)) (locs ++ [⟨a, f.slot⟩]) (xR G d s.heap).cells (xR G d s.heap).slots (xEnd G (xR G d s.heap) s below Q) (F0 m (pc + 3) ls st) := by
    refine k0 _ ?_ _ ?_
    · refine hr.put hN ht hc1 hcl hk q1 (by rw [hsl]; simp [Array.getElem?_setIfInBounds, ha]) (by simp) (fun q hq => by simp [Array.getElem?_setIfInBounds, Ne.symm hq]) hap hxf
    · intro q hq
      rcases List.mem_append.mp hq with h | h
      · exact hl q h
      · rw [List.mem_singleton.mp h]
        exact hN
  rcases hlink with h | ⟨host, h⟩
  · exact W.putf hx hb hown (xw hG hW h) (xsame hG hW hsame _ hi) hst hfin q1 (by rw [q3]; exact fun h => by cases h) hlt hfs.1 (by rw [q2, q3]; exact hfs.2) rfl rfl hd hnext
  · exact va_Wputf hx hb hown (va_Nw.use rfl (va_Nw.warmF hW (va_Nw.of rfl (hG.1 _ h)))) (xsame hG hW hsame _ hi) hst hfin q1 (by rw [q3]; exact fun h => by cases h) hlt hfs.1 (by rw [q2, q3]; exact hfs.2) rfl rfl hd hnext
end XH
