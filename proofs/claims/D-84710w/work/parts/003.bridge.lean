/-! ===== THE BRIDGE: a typed heap 'xA', a walk 'X' over it, contracts 'MX' ===== -/
set_option maxRecDepth 100000
/-- the world: cells, slots, what lies where (0: nothing known; c + 1: an object of class c of xcl; 200 + j: an array of xty j), how long arrays are, ints, longs, references held -/
abbrev xA : Type := Nat × Nat × (Nat → Nat) × (Nat → Nat) × (Nat → Nat → Int32) × (Nat → Nat → Int64) × (Nat → Nat → Option Nat) × (Nat → Nat)
abbrev xA.n (A : xA) : Nat := A.1
abbrev xA.u (A : xA) : Nat := A.2.1
abbrev xA.tg (A : xA) : Nat → Nat := A.2.2.1
abbrev xA.ln (A : xA) : Nat → Nat := A.2.2.2.1
abbrev xA.I (A : xA) : Nat → Nat → Int32 := A.2.2.2.2.1
abbrev xA.L (A : xA) : Nat → Nat → Int64 := A.2.2.2.2.2.1
abbrev xA.P (A : xA) : Nat → Nat → Option Nat := A.2.2.2.2.2.2.1
/-- of the proof alone: whose a cell is -/
abbrev xA.gh (A : xA) : Nat → Nat := A.2.2.2.2.2.2.2
def xup {α : Type} (f : Nat → Nat → α) (a k : Nat) (v : α) : Nat → Nat → α := fun b j => if b = a ∧ j = k then v else f b j
def xu1 {α : Type} (f : Nat → α) (a : Nat) (v : α) : Nat → α := fun b => if b = a then v else f b
theorem xup_s {α : Type} {f : Nat → Nat → α} {a k : Nat} {v : α} : xup f a k v a k = v := by simp [xup]
theorem xup_a {α : Type} {f : Nat → Nat → α} {a k b j : Nat} {v : α} (h : b ≠ a) : xup f a k v b j = f b j := by simp [xup, h]
theorem xup_k {α : Type} {f : Nat → Nat → α} {a k b j : Nat} {v : α} (h : j ≠ k) : xup f a k v b j = f b j := by simp [xup, h]
theorem xu1_s {α : Type} {f : Nat → α} {a : Nat} {v : α} : xu1 f a v a = v := by simp [xu1]
theorem xu1_n {α : Type} {f : Nat → α} {a b : Nat} {v : α} (h : b ≠ a) : xu1 f a v b = f b := by simp [xu1, h]
def xA.setI (A : xA) (a k : Nat) (v : Int32) : xA := (A.n, A.u, A.tg, A.ln, xup A.I a k v, A.L, A.P, A.gh)
def xA.setL (A : xA) (a k : Nat) (v : Int64) : xA := (A.n, A.u, A.tg, A.ln, A.I, xup A.L a k v, A.P, A.gh)
def xA.setP (A : xA) (a k : Nat) (v : Option Nat) : xA := (A.n, A.u, A.tg, A.ln, A.I, A.L, xup A.P a k v, A.gh)
def xA.put (A : xA) (a k : Nat) (v : Value) : xA := match v with
  | .int x => A.setI a k x
  | .long x => A.setL a k x
  | .ref b => A.setP a k (some b)
  | .null => A.setP a k none
  | _ => A
/-- a new cell of tag t, length m (0 for objects), of so many slots: all its numbers 0, its references null; g: whose it is (the proof's own choice) -/
def xA.new (A : xA) (t m w g : Nat) : xA := (A.n + 1, A.u + w, xu1 A.tg A.n t, xu1 A.ln A.n m, xu1 A.I A.n (fun _ => 0), xu1 A.L A.n (fun _ => 0), xu1 A.P A.n (fun _ => none), xu1 A.gh A.n g)
def xval (ty : FieldType) (i : Int32) (l : Int64) (r : Option Nat) : Value := match ty with
  | .long => .long l
  | .object _ => va_rf r
  | .array _ => va_rf r
  | _ => .int i
abbrev xG : Type := Launch × State × Array Value × va_G × (Nat → ClassId) × xA × (Nat → Nat)
abbrev xG.l (G : xG) : Launch := G.1
abbrev xG.z (G : xG) : State := G.2.1
abbrev xG.za (G : xG) : Array Value := G.2.2.1
abbrev xG.D (G : xG) : va_G := G.2.2.2.1
abbrev xG.dA (G : xG) : Nat → ClassId := G.2.2.2.2.1
/-- the world at the start: what lies below G.N stays as it is there -/
abbrev xG.A0 (G : xG) : xA := G.2.2.2.2.2.1
/-- addresses of constants -/
abbrev xG.cs (G : xG) : Nat → Nat := G.2.2.2.2.2.2
abbrev xG.N (G : xG) : Nat := G.2.1.heap.size
def xtys (dA : Nat → ClassId) : List (ClassId × FieldType) := [(dA 0, xty 0), (dA 1, xty 1), (dA 2, xty 2), (dA 3, xty 3), (dA 4, xty 4), (dA 5, xty 5), (dA 6, xty 6)]
theorem xtys_at {dA : Nat → ClassId} {j : Nat} (h : j < 7) : (xtys dA)[j]? = some (dA j, xty j) := by
  match j, h with
  | 0, _ => rfl
  | 1, _ => rfl
  | 2, _ => rfl
  | 3, _ => rfl
  | 4, _ => rfl
  | 5, _ => rfl
  | 6, _ => rfl
/-- an array as it can be read -/
def xTa (U : State) (H : Heap) (a j n : Nat) (f : Nat → Value) : Prop := ∃ cell : Cell, H[a]? = some cell ∧ U.isArrayOf cell (xty j) ∧ cell.vm ≠ .unknown ∧ n ≤ cell.slots.size ∧ cell.slots.size.toInt32 = Int32.ofNat n ∧ ∀ k : Nat, k < n → cell.slots[k]? = some (f k)
/-- an object as it can be read -/
def xOb (G : xG) (H : Heap) (a c : Nat) (V : Nat → Value) : Prop := ∃ (r : vw_C) (cell : Cell), xcl[c]? = some r ∧ H[a]? = some cell ∧ cell.cls = G.D.1 c ∧ cell.vm ≠ .unknown ∧ (∀ k, cell.vm ≠ .statics k) ∧ ∀ k, k < r.2.2 → cell.slots[G.D.2 c k]? = some (V k)
def xOK (G : xG) : Prop := (∀ w ∈ lw_tbl, w.before G.za G.z = true) ∧ va_K G.D xcl (xtys G.dA) G.z ∧
  (∀ a c, a < G.N → G.A0.tg a = c + 1 → c < 100 → xOb G G.z.heap a c (fun k => xval (xct c k) (G.A0.I a k) (G.A0.L a k) (G.A0.P a k))) ∧
  ∀ a j, a < G.N → G.A0.tg a = 200 + j → j < 7 ∧ xTa G.z G.z.heap a j (G.A0.ln a) (fun k => xval (xty j) (G.A0.I a k) (G.A0.L a k) (G.A0.P a k))
/-- slots of a heap -/
def hU (H : Heap) : Nat := (H.toList.map (fun c : Cell => c.slots.size)).sum
theorem hU_push (H : Heap) (c : Cell) : hU (H.push c) = hU H + c.slots.size := by
  simp [hU, List.map_append, List.sum_append]
theorem hU_same {H H' : Heap} (h : ∀ q : Nat, (H'[q]?).map (fun c : Cell => c.slots.size) = (H[q]?).map (fun c : Cell => c.slots.size)) : hU H' = hU H := by
  unfold hU
  congr 1
  apply List.ext_getElem?
  intro i
  simpa using h i
theorem hU_new {s s' : State} {locs : List Loc} {k n : Nat} (h : s.sameButNew s' locs k n) : hU s'.heap = hU s.heap + ((s'.heap.toList.drop s.heap.size).map (·.slots.size)).sum := by
  obtain ⟨-, h1, -, -, -, h6⟩ := h
  have e : (s'.heap.toList.take s.heap.size).map (fun c : Cell => c.slots.size) = s.heap.toList.map (fun c : Cell => c.slots.size) := by
    apply List.ext_getElem?
    intro i
    by_cases hi : i < s.heap.size
    · obtain ⟨c', q1, -, q3, -⟩ := h6 i s.heap[i] (Array.getElem?_eq_getElem hi)
      simp [hi, q1, q3]
    · simp [hi]
      omega
  have e2 : (s'.heap.toList.map (fun c : Cell => c.slots.size)) = (s'.heap.toList.take s.heap.size ++ s'.heap.toList.drop s.heap.size).map (fun c : Cell => c.slots.size) := by rw [List.take_append_drop]
  unfold hU
  rw [e2, List.map_append, List.sum_append, e]
theorem stand_tight {p : Program} {l : Launch} {e : Env} {R : Room} {s : State} {m : MethodId} {args : Array Value} {below : List Frame} {meth : Method} {c : Code} {T : State} {locs : List Loc} {cells slots k n : Nat}
    (X : Stand p l e R s m args below meth c T locs cells slots) (h1 : T.heap.size ≤ s.heap.size + k) (h2 : hU T.heap ≤ hU s.heap + n) : Stand p l e R s m args below meth c T locs k n := by
  have hn : hU T.heap = hU s.heap + ((T.heap.toList.drop s.heap.size).map (·.slots.size)).sum := hU_new (s' := T.setVm s.vm) X.same
  obtain ⟨q1, q2, q3, q4, q5, q6⟩ := X.same
  exact { X with same := ⟨q1, q2, h1, q4, by
    show ((T.heap.toList.drop s.heap.size).map (·.slots.size)).sum ≤ n
    omega, q6⟩ }
theorem stand_old {p : Program} {l : Launch} {e : Env} {R : Room} {s : State} {m : MethodId} {args : Array Value} {below : List Frame} {meth : Method} {c : Code} {T : State} {locs : List Loc} {cells slots : Nat}
    (X : Stand p l e R s m args below meth c T locs cells slots) : s.heap.size ≤ T.heap.size ∧ T.heap.size ≤ s.heap.size + cells ∧ hU s.heap ≤ hU T.heap ∧ hU T.heap ≤ hU s.heap + slots := by
  have hn : hU T.heap = hU s.heap + ((T.heap.toList.drop s.heap.size).map (·.slots.size)).sum := hU_new (s' := T.setVm s.vm) X.same
  obtain ⟨q1, q2, q3, q4, q5, q6⟩ := X.same
  have q3' : T.heap.size ≤ s.heap.size + cells := q3
  exact ⟨q2, q3', by omega, by
    have q5' : ((T.heap.toList.drop s.heap.size).map (·.slots.size)).sum ≤ slots := q5
    omega⟩
/-- what is left of the claim's room at a heap, for d more frames -/
def xR (G : xG) (d : Nat) (H : Heap) : Room := { frames := d, cells := G.N + 386503 - H.size, slots := hU G.z.heap + 7941971 - hU H, locals := 41 * d + 32 }
/-- at a two worlds are the same -/
def xat (A B : xA) (a : Nat) : Prop := B.tg a = A.tg a ∧ B.ln a = A.ln a ∧ B.gh a = A.gh a ∧ B.I a = A.I a ∧ B.L a = A.L a ∧ B.P a = A.P a
/-- the heap is as the world says -/
def xRel (G : xG) (A : xA) (H : Heap) : Prop := H.size = A.n ∧ hU H = A.u ∧ (∀ q : Nat, q < G.N → H[q]? = G.z.heap[q]?) ∧ (∀ a c, G.N ≤ a → A.tg a = c + 1 → c < 100 → ∃ r : vw_C, xcl[c]? = some r ∧ t_OB a (G.D.1 c) r.2.2 (G.D.2 c) H (fun k => xval (xct c k) (A.I a k) (A.L a k) (A.P a k))) ∧
  (∀ a j, G.N ≤ a → A.tg a = 200 + j → j < 7 ∧ H[a]? = some (arrV (G.dA j) (A.ln a) (fun k => xval (xty j) (A.I a k) (A.L a k) (A.P a k)))) ∧ (∀ a, a < G.N → xat G.A0 A a) ∧ G.N ≤ A.n
/-- a method: its name, code, locals, answer, handlers -/
abbrev xK : Type := MethodName × ByteArray × Nat × Option FieldType × List (Nat × Nat × Nat × Nat)
abbrev xK.y (K : xK) : MethodName := K.1
abbrev xK.cc (K : xK) : ByteArray := K.2.1
abbrev xK.nL (K : xK) : Nat := K.2.2.1
abbrev xK.ret (K : xK) : Option FieldType := K.2.2.2.1
abbrev xK.hh (K : xK) : List (Nat × Nat × Nat × Nat) := K.2.2.2.2
def xcw (K : xK) : Cond := match K.hh with
  | [] => .code K.y K.cc K.nL K.ret
  | q :: t => .codeWith K.y K.cc K.nL K.ret (q :: t)
theorem xcw_spec {K : xK} {args : Array Value} {s : State} {m : MethodId} (hn : s.methodNamed? K.y = some m) (h : (xcw K).before args s = true) :
    ∃ meth c, s.vm.method? m = some meth ∧ meth.code = some c ∧ c.code = K.cc ∧ c.maxLocals = K.nL ∧ meth.sig.returnType = K.ret ∧ meth.locks = false ∧ c.exceptionTable.toList.map (fun h => (h.startPc, h.endPc, h.handlerPc, h.catchType)) = K.hh ∧ parseMethodDescriptor K.y.desc = some meth.sig := by
  obtain ⟨y, cc, nL, ret, hh⟩ := K
  cases hh with
  | nil =>
    obtain ⟨meth, c, h1, h2, h3, h4, h5, h6, h7, h8⟩ := Cond.code_spec hn h
    refine ⟨meth, c, h1, h2, h3, h4, h5, h6, ?_, h8⟩
    show List.map _ _ = []
    have : c.exceptionTable = #[] := by simpa using h7
    rw [this]
    rfl
  | cons q t =>
    obtain ⟨m', meth, c, h0, h1, h2, h3, h4, h5, h6, h7, h8⟩ := Cond.codeWith_spec h
    cases hn.symm.trans h0
    exact ⟨meth, c, h1, h2, h3, h4, h6, h7, h5, h8⟩
/-- what a walk leans on -/
def xCtx (G : xG) (K : xK) (p : Program) (s : State) (m : MethodId) (meth : Method) (c : Code) : Prop :=
  p.tables.exec = Jvm.exec ∧ c.code = K.cc ∧ c.maxLocals = K.nL ∧ s.vm.findClass K.y.cls = some m.cls ∧ G.z.WarmedH s.vm ∧ meth.sig.returnType = K.ret ∧ meth.locks = false ∧ meth.name = K.y.name ∧
  c.exceptionTable.toList.map (fun h => (h.startPc, h.endPc, h.handlerPc, h.catchType)) = K.hh ∧ G.N ≤ s.heap.size ∧ s.heap.size ≤ G.N + 386503 ∧ hU s.heap ≤ hU G.z.heap + 7941971
/-- how a walk ends -/
def xEnd (G : xG) (R : Room) (s : State) (below : List Frame) (Q : Outcome → xA → Prop) (t : State) : Prop :=
  ∃ o, t.status = .running ∧ Ended t below o ∧ (∃ A, xRel G A t.heap ∧ Q o A) ∧ s.WarmedH t.vm ∧ ∃ L, s.sameButNew ({ t with vm := s.vm } : State) L R.cells R.slots ∧ ∀ q ∈ L, G.N ≤ q.base
/-- the locals, by their places; none: nothing known -/
def xlv (ls : Array Slot) (n : Nat) (lv : List (Option Value)) : Prop := ls.size = n ∧ lv_wf ls ∧ ∀ (i : Nat) (v : Value), lv[i]? = some (some v) → ls[i]? = some (.val v)
def X (G : xG) (d : Nat) (K : xK) (Q : Outcome → xA → Prop) (A : xA) (pc : Nat) (lv : List (Option Value)) (st : List Value) : Prop :=
  ∀ (p : Program) (e : Env) (s : State) (m : MethodId) (args : Array Value) (below : List Frame) (meth : Method) (c : Code) (H : Heap) (ls : Array Slot) (locs : List Loc),
    xCtx G K p s m meth c → xRel G A H → (∀ q ∈ locs, G.N ≤ q.base) → xlv ls K.nL lv →
    W p G.l e (xR G d s.heap) s m args below meth c H locs (xR G d s.heap).cells (xR G d s.heap).slots (xEnd G (xR G d s.heap) s below Q) (F0 m pc ls st)
def xPre (G : xG) (as : List Value) (H : Heap) : Array Value → State → Prop := fun a st => a = as.toArray ∧ st.heap = H ∧ G.z.WarmedH st.vm ∧ G.N ≤ H.size ∧ H.size ≤ G.N + 386503 ∧ hU H ≤ hU G.z.heap + 7941971
def xPost (G : xG) (R : Room) (Q : Outcome → xA → Prop) : Array Value → State → Outcome → State → Prop := fun _ st o t =>
  (∃ A, xRel G A t.heap ∧ Q o A) ∧ st.WarmedH t.vm ∧ ∃ L, st.sameButNew ({ t with vm := st.vm } : State) L R.cells R.slots ∧ ∀ q ∈ L, G.N ≤ q.base
/-- THE CONTRACT: from the world A with arguments as, within d frames, K ends, and Q of the outcome and the new world -/
def MX (G : xG) (d : Nat) (K : xK) (as : List Value) (A : xA) (Q : Outcome → xA → Prop) : Prop :=
  ∀ H : Heap, xRel G A H → MetFree G.l K.y (headSpec [xcw K] (xR G d H)) (xPre G as H) (fun _ _ _ _ _ => True) (xPost G (xR G d H) Q)
def xget : List (Option Value) → Nat → Option Value
  | [], _ => none
  | v :: _, 0 => v
  | _ :: t, i + 1 => xget t i
theorem xget_eq {lv : List (Option Value)} {i : Nat} {v : Value} (h : xget lv i = some v) : lv[i]? = some (some v) := by
  induction lv generalizing i with
  | nil => cases h
  | cons a t ih =>
    cases i with
    | zero => exact congrArg some h
    | succ i => exact ih h
theorem xlv.at {ls : Array Slot} {n : Nat} {lv : List (Option Value)} (h : xlv ls n lv) {i : Nat} {v : Value} (hv : xget lv i = some v) : ls[i]? = some (.val v) := h.2.2 i v (xget_eq hv)
/-- the listed locals -/
def xlst (lv : List (Option Value)) : List (Nat × Value) := (List.range lv.length).filterMap (fun i => (lv[i]?.join).map (fun v => (i, v)))
theorem xlst_mem {lv : List (Option Value)} {i : Nat} {v : Value} : (i, v) ∈ xlst lv ↔ lv[i]? = some (some v) := by
  unfold xlst
  rw [List.mem_filterMap]
  constructor
  · rintro ⟨j, -, h⟩
    cases hj : lv[j]? with
    | none => simp [hj] at h
    | some o =>
      cases o with
      | none => simp [hj] at h
      | some w =>
        simp [hj] at h
        obtain ⟨rfl, rfl⟩ := h
        exact hj
  · intro h
    refine ⟨i, ?_, by simp [h]⟩
    rw [List.mem_range]
    exact (List.getElem?_eq_some_iff.mp h).1
theorem xlv.has {ls : Array Slot} {n : Nat} {lv : List (Option Value)} (h : xlv ls n lv) : lv_has ls n (xlst lv) := ⟨h.1, h.2.1, fun q hq => h.2.2 q.1 q.2 (xlst_mem.mp hq)⟩
theorem xlst_at {lv : List (Option Value)} {i : Nat} {v : Value} (h : xget lv i = some v) : ∃ j : Nat, (xlst lv)[j]? = some (i, v) := List.mem_iff_getElem?.mp (xlst_mem.mpr (xget_eq h))
def xlong : Option Value → Bool
  | some (.long _) => true
  | some (.double _) => true
  | _ => false
/-- place i becomes v (of one word) -/
def xset1 : List (Option Value) → Nat → Value → List (Option Value)
  | [], _, _ => []
  | _ :: t, 0, v => some v :: t
  | a :: t, 1, v => (if xlong a then none else a) :: (match t with
    | [] => []
    | _ :: t' => some v :: t')
  | a :: t, i + 2, v => a :: xset1 t (i + 1) v
/-- places i, i + 1 become v (of two words) -/
def xset2 : List (Option Value) → Nat → Value → List (Option Value)
  | [], _, _ => []
  | _ :: t, 0, v => some v :: (match t with
    | [] => []
    | _ :: t' => none :: t')
  | a :: t, 1, v => (if xlong a then none else a) :: xset2 t 0 v
  | a :: t, i + 2, v => a :: xset2 t (i + 1) v
theorem xkill {a : Option Value} {w : Value} (h : (if xlong a then none else a) = some w) : a = some w ∧ ¬ w.category = 2 := by
  split at h
  · cases h
  · rename_i hl
    subst h
    refine ⟨rfl, fun hc => ?_⟩
    cases w <;> simp [xlong, Value.category] at hl hc
theorem xset1_get {lv : List (Option Value)} {i : Nat} {v : Value} {j : Nat} {w : Value} (h : (xset1 lv i v)[j]? = some (some w)) : (j = i ∧ w = v) ∨ (lv[j]? = some (some w) ∧ j ≠ i ∧ ¬ (j + 1 = i ∧ w.category = 2)) := by
  induction lv generalizing i j with
  | nil => simp [xset1] at h
  | cons a t ih =>
    match i with
    | 0 =>
      cases j with
      | zero =>
        simp [xset1] at h
        exact Or.inl ⟨rfl, h.symm⟩
      | succ j =>
        simp [xset1] at h
        exact Or.inr ⟨by simpa using h, by omega, by omega⟩
    | 1 =>
      match j with
      | 0 =>
        have h : (if xlong a then none else a) = some w := by simpa [xset1] using h
        obtain ⟨h1, h2⟩ := xkill h
        exact Or.inr ⟨by simp [h1], by omega, fun q => h2 q.2⟩
      | j + 1 =>
        cases t with
        | nil => simp [xset1] at h
        | cons b t' =>
          cases j with
          | zero =>
            simp [xset1] at h
            exact Or.inl ⟨rfl, h.symm⟩
          | succ j =>
            simp [xset1] at h
            exact Or.inr ⟨by simpa using h, by omega, by omega⟩
    | i + 2 =>
      cases j with
      | zero =>
        simp [xset1] at h
        exact Or.inr ⟨by simp [h], by omega, by omega⟩
      | succ j =>
        simp [xset1] at h
        rcases ih h with ⟨e0, e⟩ | ⟨h1, h2, h3⟩
        · exact Or.inl ⟨by omega, e⟩
        · exact Or.inr ⟨by simpa using h1, by omega, fun q => h3 ⟨by omega, q.2⟩⟩
theorem xset2_get {lv : List (Option Value)} {i : Nat} {v : Value} {j : Nat} {w : Value} (h : (xset2 lv i v)[j]? = some (some w)) : (j = i ∧ w = v) ∨ (lv[j]? = some (some w) ∧ j ≠ i ∧ j ≠ i + 1 ∧ ¬ (j + 1 = i ∧ w.category = 2)) := by
  induction lv generalizing i j with
  | nil => simp [xset2] at h
  | cons a t ih =>
    match i with
    | 0 =>
      match j with
      | 0 =>
        simp [xset2] at h
        exact Or.inl ⟨rfl, h.symm⟩
      | j + 1 =>
        cases t with
        | nil => simp [xset2] at h
        | cons b t' =>
          cases j with
          | zero => simp [xset2] at h
          | succ j =>
            simp [xset2] at h
            exact Or.inr ⟨by simpa using h, by omega, by omega, by omega⟩
    | 1 =>
      match j with
      | 0 =>
        have h : (if xlong a then none else a) = some w := by simpa [xset2] using h
        obtain ⟨h1, h2⟩ := xkill h
        exact Or.inr ⟨by simp [h1], by omega, by omega, fun q => h2 q.2⟩
      | j + 1 =>
        have h : (xset2 t 0 v)[j]? = some (some w) := by simpa [xset2] using h
        rcases ih h with ⟨e0, e⟩ | ⟨h1, h2, h3, h4⟩
        · exact Or.inl ⟨by omega, e⟩
        · exact Or.inr ⟨by simpa using h1, by omega, by omega, by omega⟩
    | i + 2 =>
      cases j with
      | zero =>
        simp [xset2] at h
        exact Or.inr ⟨by simp [h], by omega, by omega, by omega⟩
      | succ j =>
        simp [xset2] at h
        rcases ih h with ⟨e0, e⟩ | ⟨h1, h2, h3, h4⟩
        · exact Or.inl ⟨by omega, e⟩
        · exact Or.inr ⟨by simpa using h1, by omega, by omega, fun q => h4 ⟨by omega, q.2⟩⟩
theorem xset1_ok {ls ls2 : Array Slot} {n : Nat} {lv : List (Option Value)} {i : Nat} {v : Value} (h : xlv ls n lv) (h2 : lv_has ls2 n ((i, v) :: (xlst lv).filter (fun q => !(q.1 == i) && !(q.1 + 1 == i && q.2.category == 2)))) : xlv ls2 n (xset1 lv i v) := by
  refine ⟨h2.1, h2.2.1, fun j w hj => ?_⟩
  rcases xset1_get hj with ⟨rfl, rfl⟩ | ⟨e1, e2, e3⟩
  · exact h2.2.2 _ List.mem_cons_self
  · refine h2.2.2 (j, w) (List.mem_cons_of_mem _ (List.mem_filter.mpr ⟨xlst_mem.mpr e1, ?_⟩))
    by_cases q1 : j + 1 = i
    · have : ¬ w.category = 2 := fun q => e3 ⟨q1, q⟩
      simp [e2, this]
    · simp [e2, q1]
theorem xset2_ok {ls ls2 : Array Slot} {n : Nat} {lv : List (Option Value)} {i : Nat} {v : Value} (h : xlv ls n lv) (h2 : lv_has ls2 n ((i, v) :: (xlst lv).filter (fun q => !(q.1 == i) && (!(q.1 == i + 1) && !(q.1 + 1 == i && q.2.category == 2))))) : xlv ls2 n (xset2 lv i v) := by
  refine ⟨h2.1, h2.2.1, fun j w hj => ?_⟩
  rcases xset2_get hj with ⟨rfl, rfl⟩ | ⟨e1, e2, e3, e4⟩
  · exact h2.2.2 _ List.mem_cons_self
  · refine h2.2.2 (j, w) (List.mem_cons_of_mem _ (List.mem_filter.mpr ⟨xlst_mem.mpr e1, ?_⟩))
    by_cases q1 : j + 1 = i
    · have : ¬ w.category = 2 := fun q => e4 ⟨q1, q⟩
      simp [e2, e3, this]
    · simp [e2, e3, q1]
/-- fewer locals known -/
def xle : List (Option Value) → List (Option Value) → Prop
  | [], _ => True
  | none :: t, [] => xle t []
  | none :: t, _ :: t' => xle t t'
  | some _ :: _, [] => False
  | some v :: t, b :: t' => b = some v ∧ xle t t'
theorem xle_get {a b : List (Option Value)} (h : xle a b) {i : Nat} {v : Value} (hi : a[i]? = some (some v)) : b[i]? = some (some v) := by
  induction a generalizing b i with
  | nil => simp at hi
  | cons x t ih =>
    cases x with
    | none =>
      cases i with
      | zero => simp at hi
      | succ i =>
        cases b with
        | nil => exact absurd (ih (b := []) h (by simpa using hi)) (by simp)
        | cons y t' => simpa using ih h (by simpa using hi)
    | some w =>
      cases b with
      | nil => exact h.elim
      | cons y t' =>
        cases i with
        | zero =>
          simp at hi
          simp [h.1, hi]
        | succ i => simpa using ih h.2 (by simpa using hi)
/-- the locals at a method's entry -/
def xarg : List Value → List (Option Value)
  | [] => []
  | v :: t => if xlong (some v) then some v :: none :: xarg t else some v :: xarg t
theorem xarg_mem (vs : List Value) : ∀ (b i : Nat) (v : Value), (xarg vs)[i]? = some (some v) → (b + i, v) ∈ lv_args b vs := by
  induction vs with
  | nil => intro b i v h; simp [xarg] at h
  | cons a t ih =>
    intro b i v h
    have hc : xlong (some a) = true ↔ a.category = 2 := by cases a <;> simp [xlong, Value.category]
    by_cases hl : xlong (some a) = true
    · rw [xarg, if_pos hl] at h
      have h2 := hc.mp hl
      show _ ∈ (b, a) :: lv_args (if a.category = 2 then b + 2 else b + 1) t
      rw [if_pos h2]
      match i with
      | 0 => simp at h; simp [h]
      | 1 => simp at h
      | i + 2 =>
        have := ih (b + 2) i v (by simpa using h)
        rw [show b + (i + 2) = b + 2 + i by omega]
        exact List.mem_cons_of_mem _ this
    · rw [xarg, if_neg hl] at h
      have h2 : ¬ a.category = 2 := fun q => hl (hc.mpr q)
      show _ ∈ (b, a) :: lv_args (if a.category = 2 then b + 2 else b + 1) t
      rw [if_neg h2]
      match i with
      | 0 => simp at h; simp [h]
      | i + 1 =>
        have := ih (b + 1) i v (by simpa using h)
        rw [show b + (i + 1) = b + 1 + i by omega]
        exact List.mem_cons_of_mem _ this
def xent (n : Nat) (vs : List Value) : List (Option Value) := xarg vs ++ List.replicate (n - (xarg vs).length) none
theorem xent_get {n : Nat} {vs : List Value} {i : Nat} {v : Value} (h : (xent n vs)[i]? = some (some v)) : (i, v) ∈ lv_args 0 vs := by
  unfold xent at h
  rw [List.getElem?_append] at h
  split at h
  · simpa using xarg_mem vs 0 i v h
  · rw [List.getElem?_replicate] at h
    split at h <;> simp at h
section XB
variable {G : xG} {d : Nat} {K : xK} {Q : Outcome → xA → Prop} {A : xA} {pc : Nat} {lv : List (Option Value)} {st : List Value}
theorem X.weak {lv' : List (Option Value)} (h : xle lv' lv) (k : X G d K Q A pc lv' st) : X G d K Q A pc lv st :=
  fun p e s m args below meth c H ls locs hc hr hl hv => k p e s m args below meth c H ls locs hc hr hl ⟨hv.1, hv.2.1, fun i v hi => hv.2.2 i v (xle_get h hi)⟩
/-- a method's contract out of its walk -/
theorem MX.of {as : List Value} (hy : plainFor K.y = true) (hn : (lg_sl as).length ≤ K.nL) (body : X G d K Q A 0 (xent K.nL as) []) : MX G d K as A Q := by
  intro H hr
  refine MetFree.of_bodySF (code := K.cc) (maxLocals := K.nL) (ret := K.ret) hy ?_ ?_
  · intro args s m h hn
    obtain ⟨meth, c, h1, h2, h3, h4, h5, h6, -, -⟩ := xcw_spec hn (atoms_spec (ws := [xcw K]) h _ List.mem_cons_self)
    exact ⟨meth, c, h1, h2, h3, h4, h5, h6⟩
  · intro p e s m args below meth c s₁ B hml hP _
    obtain ⟨rfl, hH, hW, b1, b2, b3⟩ := hP
    have X₀ : Stand p G.l e (xR G d H) s m as.toArray below meth c s₁ [] 0 0 := Stand.of_body B
    have hh0 : s₁.heap = s.heap := by rw [B.state]; rfl
    obtain ⟨meth', c', h1, h2, h3, h4, h5, h6, h7, -⟩ := xcw_spec B.named (atoms_spec (ws := [xcw K]) B.pre _ List.mem_cons_self)
    cases B.method.symm.trans h1
    cases X₀.code.symm.trans h2
    have hctx : xCtx G K p s m meth c := ⟨B.exec, h3, h4, findClass_of_methodNamed B.named, hW, h5, h6, (name_of_methodNamed B.named B.method).1, h7, by rw [hH]; exact b1, by rw [hH]; exact b2, by rw [hH]; exact b3⟩
    have hE := lv_entry as (n := K.nL) hn
    have k := body p e s m as.toArray below meth c H ((lg_sl as ++ List.replicate (K.nL - (lg_sl as).length) Slot.unset).toArray) [] hctx hr (fun q h => absurd h List.not_mem_nil) ⟨hE.1, hE.2.1, fun i v hi => hE.2.2 (i, v) (xent_get hi)⟩
    rw [← lg_entry_eq, hH] at k
    obtain ⟨t, st, o, r1, r2, r3, r4, L, r5, r6⟩ := k s₁ (hh0.trans hH) (stand_widen X₀ (Nat.zero_le _) (Nat.zero_le _))
    exact ⟨t, o, st, r1, r2, r3, r4, L, r5, r6⟩
theorem xw (hG : xOK G) {s : State} (hW : G.z.WarmedH s.vm) {args : Array Value} {w : Cond} (hw : w ∈ lw_all) : w.before args s = true := word_at hW (good_of_word (List.mem_filter.mp hw).2) (hG.1 w (lw_all_tbl hw))
theorem xKn (hG : xOK G) {s : State} (hW : G.z.WarmedH s.vm) : va_K G.D xcl (xtys G.dA) s := va_K.moved hW.alike hG.2.1
theorem xobR (hG : xOK G) {H : Heap} (hr : xRel G A H) {a c : Nat} (ht : A.tg a = c + 1) (hc : c < 100) : xOb G H a c (fun k => xval (xct c k) (A.I a k) (A.L a k) (A.P a k)) := by
  by_cases ha : a < G.N
  · obtain ⟨g1, g2, g3, g4, g5, g6⟩ := hr.2.2.2.2.2.1 a ha
    obtain ⟨r, cell, h1, h2, h3⟩ := hG.2.2.1 a c ha (g1.symm.trans ht) hc
    rw [g4, g5, g6]
    exact ⟨r, cell, h1, by rw [hr.2.2.1 a ha]; exact h2, h3⟩
  · obtain ⟨r, h1, cell, q1, q2, q3, q4⟩ := hr.2.2.2.1 a c (Nat.le_of_not_lt ha) ht hc
    exact ⟨r, cell, h1, q1, q2, (by rw [q3]; exact fun h => nomatch h), (by rw [q3]; exact fun k h => nomatch h), q4⟩
theorem xarrR (hG : xOK G) {s : State} (hW : G.z.WarmedH s.vm) {H : Heap} (hr : xRel G A H) {a j : Nat} (ht : A.tg a = 200 + j) : j < 7 ∧ xTa s H a j (A.ln a) (fun k => xval (xty j) (A.I a k) (A.L a k) (A.P a k)) := by
  by_cases ha : a < G.N
  · obtain ⟨g1, g2, g3, g4, g5, g6⟩ := hr.2.2.2.2.2.1 a ha
    obtain ⟨h1, cell, h2, h3, h4⟩ := hG.2.2.2 a j ha (g1.symm.trans ht)
    rw [g2, g4, g5, g6]
    exact ⟨h1, cell, by rw [hr.2.2.1 a ha]; exact h2, State.isArrayOf_alike hW.alike h3, h4⟩
  · obtain ⟨h7, hc⟩ := hr.2.2.2.2.1 a j (Nat.le_of_not_lt ha) ht
    exact ⟨h7, _, hc, ((xKn hG hW).2 j _ (xtys_at h7)).1 _ _, (fun q => nomatch q), (by rw [arrV_size]; exact Nat.le_refl _), (by rw [arrV_size]), fun k hk => arrV_read _ _ hk⟩
end XB
