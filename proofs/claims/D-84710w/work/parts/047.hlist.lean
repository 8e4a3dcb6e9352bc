/-! ===== the lists and what is static, as weakest preconditions ===== -/
set_option maxRecDepth 100000
def colourOf (i : Nat) : Int32 := ([5, 6, 7, 28, 29, 8, 9, 18, 19, 20, 21, 22, 23, 24, 25] : List Int32).getD i 0
def xKC (G : xG) : Prop := (xSt G "CompiledHouse" "COLOUR" "[I" (.ref (G.cs 3)) ∧ G.cs 3 < G.N ∧ G.A0.tg (G.cs 3) = 200 ∧ G.A0.ln (G.cs 3) = 15 ∧ ∀ i, i < 15 → G.A0.I (G.cs 3) i = colourOf i) ∧
  (xSt G "CompiledHouse" "ACTS" "[I" (.ref (G.cs 4)) ∧ G.cs 4 < G.N ∧ G.A0.tg (G.cs 4) = 200 ∧ G.A0.ln (G.cs 4) = 8 ∧ ∀ i, i < 8 → G.A0.I (G.cs 4) i = Int32.ofNat i)
/-- an array of references that is older than the start, by its type -/
def xOA (G : xG) (a : Nat) (ty : FieldType) (n : Nat) (f : Nat → Nat) : Prop := a < G.N ∧ ∃ cell : Cell, G.z.heap[a]? = some cell ∧ G.z.isArrayOf cell ty ∧ cell.vm ≠ .unknown ∧ n ≤ cell.slots.size ∧ ∀ k : Nat, k < n → cell.slots[k]? = some (.ref (f k))
/-- the cache of small Integers -/
def xIC (G : xG) : Prop := xSt G "java/lang/Integer$IntegerCache" "high" "I" (.int 127) ∧ xSt G "java/lang/Integer$IntegerCache" "cache" "[Ljava/lang/Integer;" (.ref (G.cs 5)) ∧ xOA G (G.cs 5) (.object "java/lang/Integer") 256 (fun k => G.cs (1000 + k)) ∧ ∀ k, k < 256 → G.cs (1000 + k) < G.N ∧ G.A0.tg (G.cs (1000 + k)) = 38 ∧ G.A0.I (G.cs (1000 + k)) 0 = nI k - 128
/-- an object that is older than the start, by its class -/
def xOO (G : xG) (a : Nat) (C : String) : Prop := a < G.N ∧ ∃ cell : Cell, G.z.heap[a]? = some cell ∧ cell.vm ≠ .unknown ∧ (∀ k, cell.vm ≠ .statics k) ∧ G.z.vm.findClass C = some cell.cls
/-- a field of it -/
def xOF (G : xG) (a : Nat) (C n d : String) (v : Value) : Prop := ∃ (cf i : Nat) (k : Class) (f : Field) (cell : Cell), G.z.fieldFound? C n d = some (cf, k, i, f) ∧ f.isStatic = false ∧ G.z.heap[a]? = some cell ∧ cell.vm ≠ .unknown ∧ cell.slots[f.slot]? = some v
/-- a String of Latin1: its bytes lie at b -/
def xStr (G : xG) (a b n : Nat) : Prop := xOO G a "java/lang/String" ∧ xOF G a "java/lang/String" "value" "[B" (.ref b) ∧ xOF G a "java/lang/String" "coder" "B" (.int 0) ∧ b < G.N ∧ G.A0.tg b = 202 ∧ G.A0.ln b = n ∧ n < 1000
/-- a constant of a class is resolved to a String -/
def xSR (G : xG) (own : String) (idx a : Nat) : Prop := ∃ (cur : ClassId) (k : Class), G.z.vm.findClass own = some cur ∧ G.z.vm.classes[cur]? = some k ∧ k.resolved[idx]? = some (some (.string a))
/-- the constants: class, entry, number, bytes -/
def strT : List (String × Nat × Nat × List Int32) := [("CompiledHouse$Tokens", 11, 0, [105, 110, 116]), ("CompiledHouse$Tokens", 13, 1, [98, 121, 116, 101]), ("CompiledHouse$Tokens", 15, 2, [118, 111, 105, 100]), ("CompiledHouse$Tokens", 17, 3, [99, 111, 110, 115, 116]), ("CompiledHouse$Tokens", 19, 4, [105, 102]), ("CompiledHouse$Tokens", 21, 5, [101, 108, 115, 101]), ("CompiledHouse$Tokens", 23, 6, [119, 104, 105, 108, 101]), ("CompiledHouse$Tokens", 25, 7, [100, 111]), ("CompiledHouse$Tokens", 27, 8, [102, 111, 114]), ("CompiledHouse$Tokens", 29, 9, [98, 114, 101, 97, 107]), ("CompiledHouse$Tokens", 31, 10, [99, 111, 110, 116, 105, 110, 117, 101]), ("CompiledHouse$Tokens", 33, 11, [114, 101, 116, 117, 114, 110]), ("CompiledHouse$Tokens", 35, 12, [112, 117, 116]), ("CompiledHouse$Tokens", 37, 13, [103, 101, 116]), ("CompiledHouse$Tokens", 39, 14, [104, 97, 108, 116]), ("CompiledHouse$Tokens", 47, 15, [62, 62, 62, 61]), ("CompiledHouse$Tokens", 49, 16, [60, 60, 61]), ("CompiledHouse$Tokens", 51, 17, [62, 62, 61]), ("CompiledHouse$Tokens", 53, 18, [62, 62, 62]), ("CompiledHouse$Tokens", 55, 19, [43, 61]), ("CompiledHouse$Tokens", 57, 20, [45, 61]), ("CompiledHouse$Tokens", 59, 21, [42, 61]), ("CompiledHouse$Tokens", 61, 22, [47, 61]), ("CompiledHouse$Tokens", 63, 23, [37, 61]), ("CompiledHouse$Tokens", 65, 24, [38, 61]), ("CompiledHouse$Tokens", 67, 25, [124, 61]), ("CompiledHouse$Tokens", 69, 26, [94, 61]), ("CompiledHouse$Tokens", 71, 27, [43, 43]), ("CompiledHouse$Tokens", 73, 28, [45, 45]), ("CompiledHouse$Tokens", 75, 29, [124, 124]), ("CompiledHouse$Tokens", 77, 30, [38, 38]), ("CompiledHouse$Tokens", 79, 31, [61, 61]), ("CompiledHouse$Tokens", 81, 32, [33, 61]), ("CompiledHouse$Tokens", 83, 33, [60, 61]), ("CompiledHouse$Tokens", 85, 34, [62, 61]), ("CompiledHouse$Tokens", 87, 35, [60, 60]), ("CompiledHouse$Tokens", 89, 36, [62, 62]), ("CompiledHouse$Tokens", 91, 37, [40]), ("CompiledHouse$Tokens", 93, 38, [41]), ("CompiledHouse$Tokens", 95, 39, [91]), ("CompiledHouse$Tokens", 97, 40, [93]), ("CompiledHouse$Tokens", 99, 41, [123]), ("CompiledHouse$Tokens", 101, 42, [125]), ("CompiledHouse$Tokens", 103, 43, [44]), ("CompiledHouse$Tokens", 105, 44, [59]), ("CompiledHouse$Tokens", 107, 45, [63]), ("CompiledHouse$Tokens", 109, 46, [58]), ("CompiledHouse$Tokens", 111, 47, [61]), ("CompiledHouse$Tokens", 113, 48, [124]), ("CompiledHouse$Tokens", 115, 49, [94]), ("CompiledHouse$Tokens", 117, 50, [38]), ("CompiledHouse$Tokens", 119, 51, [60]), ("CompiledHouse$Tokens", 121, 52, [62]), ("CompiledHouse$Tokens", 123, 53, [43]), ("CompiledHouse$Tokens", 125, 54, [45]), ("CompiledHouse$Tokens", 127, 55, [42]), ("CompiledHouse$Tokens", 129, 56, [47]), ("CompiledHouse$Tokens", 131, 57, [37]), ("CompiledHouse$Tokens", 133, 58, [126]), ("CompiledHouse$Tokens", 135, 59, [33]), ("CompiledHouse$Tokens", 215, 60, [109, 97, 105, 110]), ("CompiledHouseModel", 215, 61, [32, 105, 110, 116, 32, 98, 121, 116, 101, 32, 118, 111, 105, 100, 32, 99, 111, 110, 115, 116, 32, 105, 102, 32, 101, 108, 115, 101, 32, 119, 104, 105, 108, 101, 32, 100, 111, 32, 102, 111, 114, 32, 98, 114, 101, 97, 107, 32, 99, 111, 110, 116, 105, 110, 117, 101, 32, 114, 101, 116, 117, 114, 110, 32, 112, 117, 116, 32, 103, 101, 116, 32, 104, 97, 108, 116, 32]), ("CompiledHouseModel", 202, 62, [32, 62, 62, 62, 61, 32, 62, 62, 62, 32, 60, 60, 61, 32, 62, 62, 61, 32, 43, 61, 32, 45, 61, 32, 42, 61, 32, 47, 61, 32, 37, 61, 32, 38, 61, 32, 124, 61, 32, 94, 61, 32, 43, 43, 32, 45, 45, 32, 124, 124, 32, 38, 38, 32, 61, 61, 32, 33, 61, 32, 60, 61, 32, 62, 61, 32, 60, 60, 32, 62, 62, 32, 40, 32, 41, 32, 91, 32, 93, 32, 123, 32, 125, 32, 44, 32, 59, 32, 63, 32, 58, 32, 61, 32, 124, 32, 94, 32, 38, 32, 60, 32, 62, 32, 43, 32, 45, 32, 42, 32, 47, 32, 37, 32, 126, 32, 33, 32])]
def xSC (G : xG) : Prop := xSt G "java/lang/String" "COMPACT_STRINGS" "Z" (.int 1) ∧ (∃ r, xSt G "jdk/internal/util/Preconditions" "SIOOBE_FORMATTER" "Ljava/util/function/BiFunction;" (va_rf r)) ∧ ∀ q ∈ strT, xSR G q.1 q.2.1 (G.cs (100 + q.2.2.1)) ∧ xStr G (G.cs (100 + q.2.2.1)) (G.cs (200 + q.2.2.1)) q.2.2.2.length ∧ ∀ k, k < q.2.2.2.length → G.A0.I (G.cs (200 + q.2.2.1)) k = q.2.2.2.getD k 0
/-- statics of Throwable -/
def xTH (G : xG) : Prop := (∃ r, xSt G "java/lang/Throwable" "UNASSIGNED_STACK" "[Ljava/lang/StackTraceElement;" (va_rf r)) ∧ ∃ r, xSt G "java/lang/Throwable" "SUPPRESSED_SENTINEL" "Ljava/util/List;" (va_rf r)
/-- all that is taken of the start -/
def xHO (G : xG) : Prop := xOL G ∧ xCO G ∧ xKC G ∧ xIC G ∧ xSC G ∧ xTH G
theorem xold_tg {G : xG} {A : xA} (w : xok G A) {a t : Nat} (h1 : a < G.N) (h2 : G.A0.tg a = t) : A.tg a = t := ((w.2.2 a h1).1).trans h2
def w_J5_size (G : xG) (l : Nat) (Q : Int32 → xA → Prop) (A : xA) : Prop := A.tg l = 37 ∧ Q (A.I l 2) A
def w_J5_isEmpty (G : xG) (l : Nat) (Q : Int32 → xA → Prop) (A : xA) : Prop := A.tg l = 37 ∧ Q (if A.I l 2 = 0 then 1 else 0) A
def w_J5_get (G : xG) (l : Nat) (i : Int32) (Q : Option Nat → xA → Prop) (A : xA) : Prop := ∃ vs k v, xL G A l vs ∧ i = nI k ∧ vs[k]? = some v ∧ Q (some v) A
def w_J5_add (G : xG) (l : Nat) (o : Option Nat) (Q : Int32 → xA → Prop) (A : xA) : Prop := ∃ vs v, o = some v ∧ xL G A l vs ∧ vs.length < 1000000 ∧ xEl A v ∧ A.n + 1 ≤ G.N + 386503 ∧ A.u + (2 * vs.length + 10) ≤ hU G.z.heap + 7941971 ∧ ∀ B, xAdded G A l v vs B → xAd2 A l B → Q 1 B
def w_J5_set (G : xG) (l : Nat) (i : Int32) (o : Option Nat) (Q : Option Nat → xA → Prop) (A : xA) : Prop := ∃ vs k w v e, o = some v ∧ i = nI k ∧ xL G A l vs ∧ A.P l 1 = some e ∧ vs[k]? = some w ∧ xEl A v ∧ (xL G (A.setP e k (some v)) l (vs.set k v) → Q (some w) (A.setP e k (some v)))
def w_J5_clear (G : xG) (l : Nat) (Q : xA → Prop) (A : xA) : Prop := ∃ vs, xL G A l vs ∧ ∀ B, xL G B l [] → xFrm (fun a => a = l ∨ A.gh a = 1000 + l) A B → B.n = A.n → B.u = A.u → xcap B l = xcap A l → Q B
def w_J5_remove (G : xG) (l : Nat) (i : Int32) (Q : Option Nat → xA → Prop) (A : xA) : Prop := ∃ vs v, xL G A l (vs ++ [v]) ∧ i = nI vs.length ∧ ∀ B, xL G B l vs → xFrm (fun a => a = l ∨ A.gh a = 1000 + l) A B → B.n = A.n → B.u = A.u → xcap B l = xcap A l → Q (some v) B
def w_J5_init (G : xG) (l : Nat) (Q : xA → Prop) (A : xA) : Prop := A.tg l = 37 ∧ Q ((A.setI l 0 0).setP l 1 (some (G.cs 0)))
def w_J5_init_2 (G : xG) (l : Nat) (n : Int32) (Q : xA → Prop) (A : xA) : Prop := A.tg l = 37 ∧ ((n = 0 ∧ Q ((A.setI l 0 0).setP l 1 (some (G.cs 1)))) ∨ ∃ k : Nat, 0 < k ∧ k < 1000 ∧ n = nI k ∧ A.n + 1 ≤ G.N + 386503 ∧ A.u + k ≤ hU G.z.heap + 7941971 ∧ Q (((A.setI l 0 0).new 204 k k (1000 + l)).setP l 1 (some A.n)))
section HO1
variable {G : xG} {d : Nat} {K : xK} {Q : Outcome → xA → Prop} {A : xA} {pc : Nat} {lv : List (Option Value)} {st : List Value}
theorem x_aaldO (hG : xOK G) {a n : Nat} {C : String} {f : Nat → Nat} {i : Int32} (hd : decode K.cc pc = .ok (.aaload, 1)) (ho : xOA G a (.object C) n f) (hi : vp_in i n) (kk : X G d K Q A (pc + 1) lv (.ref (f (ix i)) :: st)) : X G d K Q A pc lv (.int i :: .ref a :: st) := by
  intro p e s m args below meth cd H ls locs hc hr hl hv
  have k0 := kk p e s m args below meth cd H ls locs hc hr hl hv
  obtain ⟨ha, cell, c1, c2, c3, c4, c6⟩ := ho
  exact W.aald hc.1 hc.2.1 (by rw [hr.2.2.1 a ha]; exact c1) (State.isArrayOf_alike hc.2.2.2.2.1.alike c2) rfl c3 (xinR hi c4) (c6 _ (xin_lt hi)) rfl rfl hd k0
theorem z_putIN (hG : xOK G) {a c k idx : Nat} {v : Int32} (hd : decode K.cc pc = .ok (.putfield idx, 3)) (hF : xF K.y.cls idx c k) (hFw : xFw K c k) (ht : A.tg a = c + 1) (hN : G.N ≤ a) (hn : narrow (xct c k) (.int v) = .int v) (hfit : fits (xct c k) (.int v) = true) (hxf : xfit (xct c k) (.int v)) (kk : ∀ B, B = A.setI a k v → X G d K Q B (pc + 3) lv st) : X G d K Q A pc lv (.int v :: .ref a :: st) :=
  x_put hG hd hF hFw ht hN hn hfit hxf (kk _ rfl)
end HO1
section HLs
variable {G : xG}
theorem MX.oldN (hO : xHO G) {d : Nat} {K : xK} {as : List Value} {A : xA} {Q : Outcome → xA → Prop} {l : Nat} (ht : A.tg l = 37) (k : G.N ≤ l → MX G d K as A Q) : MX G d K as A Q :=
  MX.wf fun _ ho => k (xoldN ho hO.1 (c := 36) ht (by decide))
theorem m_w_J5_size (hG : xOK G) (hO : xHO G) {dp l : Nat} {Q : Int32 → xA → Prop} {A : xA} (h : w_J5_size G l Q A) : MX G dp kJ5_size [.ref l] A (hI Q) := by
  refine MX.post (m_J5_size hG h.1) ?_
  rintro _ _ ⟨rfl, rfl⟩
  exact ⟨_, rfl, h.2⟩
theorem m_w_J5_isEmpty (hG : xOK G) (hO : xHO G) {dp l : Nat} {Q : Int32 → xA → Prop} {A : xA} (h : w_J5_isEmpty G l Q A) : MX G dp kJ5_isEmpty [.ref l] A (hZ Q) := by
  refine MX.post (m_J5_isEmpty hG h.1) ?_
  rintro _ _ ⟨rfl, rfl⟩
  exact ⟨_, rfl, ite10, h.2⟩
theorem m_w_J5_get (hG : xOK G) (hO : xHO G) {dp l : Nat} {i : Int32} {Q : Option Nat → xA → Prop} {A : xA} (h : w_J5_get G l i Q A) : MX G (dp + 2) kJ5_get [.ref l, .int i] A (hR Q) := by
  obtain ⟨vs, k, v, h1, rfl, h3, h4⟩ := h
  refine MX.post (m_J5_get hG h1 h3) ?_
  rintro _ _ ⟨rfl, rfl⟩
  exact ⟨_, rfl, h4⟩
theorem m_w_J5_add (hG : xOK G) (hO : xHO G) {dp l : Nat} {o : Option Nat} {Q : Int32 → xA → Prop} {A : xA} (h : w_J5_add G l o Q A) : MX G (dp + 6) kJ5_add [.ref l, va_rf o] A (hZ Q) := by
  obtain ⟨vs, v, rfl, h1, h2, h3, h4, h5, h6⟩ := h
  refine MX.post (m_J5_add hG hO.2.1 h1 h2 h3 h4 h5) ?_
  rintro _ B ⟨rfl, hB, hB2⟩
  exact ⟨_, rfl, by decide, h6 B hB hB2⟩
theorem m_w_J5_set (hG : xOK G) (hO : xHO G) {dp l : Nat} {i : Int32} {o : Option Nat} {Q : Option Nat → xA → Prop} {A : xA} (h : w_J5_set G l i o Q A) : MX G (dp + 2) kJ5_set [.ref l, .int i, va_rf o] A (hR Q) := by
  obtain ⟨vs, k, w, v, e, rfl, rfl, h1, h2, h3, h4, h5⟩ := h
  refine MX.post (m_J5_set hG h1 h2 h3 h4) ?_
  rintro _ B ⟨rfl, hB, rfl⟩
  exact ⟨_, rfl, h5 hB⟩
theorem m_w_J5_clear (hG : xOK G) (hO : xHO G) {dp l : Nat} {Q : xA → Prop} {A : xA} (h : w_J5_clear G l Q A) : MX G dp kJ5_clear [.ref l] A (hV Q) := by
  obtain ⟨vs, h1, h2⟩ := h
  refine MX.post (m_J5_clear hG h1) ?_
  rintro _ B ⟨rfl, q1, q2, q3, q4, q5⟩
  exact ⟨rfl, h2 B q1 q2 q3 q4 q5⟩
theorem m_w_J5_remove (hG : xOK G) (hO : xHO G) {dp l : Nat} {i : Int32} {Q : Option Nat → xA → Prop} {A : xA} (h : w_J5_remove G l i Q A) : MX G (dp + 2) kJ5_remove [.ref l, .int i] A (hR Q) := by
  obtain ⟨vs, v, h1, rfl, h2⟩ := h
  refine MX.post (m_J5_remove hG h1) ?_
  rintro _ B ⟨rfl, q1, q2, q3, q4, q5⟩
  exact ⟨_, rfl, h2 B q1 q2 q3 q4 q5⟩
theorem m_w_J5_init (hG : xOK G) (hO : xHO G) {dp l : Nat} {Q : xA → Prop} {A : xA} (h : w_J5_init G l Q A) : MX G (dp + 3) kJ5_init [.ref l] A (hV Q) := by
  refine MX.oldN hO h.1 fun hN => MX.post (m_J5_init hG hO.2.1 h.1 hN) ?_
  rintro _ _ ⟨rfl, rfl⟩
  exact ⟨rfl, h.2⟩
theorem m_w_J5_init_2 (hG : xOK G) (hO : xHO G) {dp l : Nat} {n : Int32} {Q : xA → Prop} {A : xA} (h : w_J5_init_2 G l n Q A) : MX G (dp + 3) kJ5_init_2 [.ref l, .int n] A (hV Q) := by
  refine MX.oldN hO h.1 fun hN => ?_
  rcases h.2 with ⟨rfl, h2⟩ | ⟨k, h0, h1, rfl, hc1, hc2, h2⟩
  · refine MX.post (m_J5_init_20 hG hO.2.1 h.1 hN) ?_
    rintro _ _ ⟨rfl, rfl⟩
    exact ⟨rfl, h2⟩
  · refine MX.post (m_J5_init_2 hG h.1 hN h0 h1 hc1 hc2) ?_
    rintro _ _ ⟨rfl, rfl⟩
    exact ⟨rfl, h2⟩
end HLs
