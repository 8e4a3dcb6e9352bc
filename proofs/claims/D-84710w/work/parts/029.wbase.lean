/-! ===== weakest preconditions: what the printed w_ and m_ lean on ===== -/
set_option maxRecDepth 100000
abbrev ix (i : Int32) : Nat := i.toNatClampNeg
def irem_ (x y : Int32) : Int32 := x - x / y * y
/-- how a method of the Model ends -/
def oI (A : xA) (Q : Int32 → xII → Prop) : Outcome → xA → Prop := fun o B => ∃ v I, Outcome.returned (some (.int v)) = o ∧ A.wI I = B ∧ Q v I
def oZ (A : xA) (Q : Int32 → xII → Prop) : Outcome → xA → Prop := fun o B => ∃ v I, Outcome.returned (some (.int v)) = o ∧ A.wI I = B ∧ (v = 0 ∨ v = 1) ∧ Q v I
def oV (A : xA) (Q : xII → Prop) : Outcome → xA → Prop := fun o B => ∃ I, Outcome.returned none = o ∧ A.wI I = B ∧ Q I
theorem xle_c {a b : Option Value} {t t' : List (Option Value)} (h : b = a) (k : xle t t') : xle (a :: t) (b :: t') := by
  cases a with
  | none => exact k
  | some v => exact ⟨h, k⟩
theorem xle_n {b : Option Value} {t t' : List (Option Value)} (k : xle t t') : xle (none :: t) (b :: t') := k
theorem xle_nil : xle [] [] := trivial
theorem xup_rs {I J : xII} {a k : Nat} {v : Int32} (e : J = xup I a k v) : J a k = v := e ▸ xup_s
theorem xup_ra {I J : xII} {a k b j : Nat} {v : Int32} (e : J = xup I a k v) (h : b ≠ a) : J b j = I b j := e ▸ xup_a h
theorem xup_rk {I J : xII} {a k b j : Nat} {v : Int32} (e : J = xup I a k v) (h : j ≠ k) : J b j = I b j := e ▸ xup_k h
theorem ite10 {c : Prop} [Decidable c] : (if c then (1 : Int32) else (0 : Int32)) = 0 ∨ (if c then (1 : Int32) else (0 : Int32)) = 1 := by split <;> decide
theorem ite01 {c : Prop} [Decidable c] : (if c then (0 : Int32) else (1 : Int32)) = 0 ∨ (if c then (0 : Int32) else (1 : Int32)) = 1 := by split <;> decide
theorem fits01 {v : Int32} (h : v = 0 ∨ v = 1) : fits .boolean (.int v) = true := by
  rcases h with rfl | rfl <;> rfl
section YB
variable {G : xG} {d : Nat} {K : xK} {Q : Outcome → xA → Prop} {A : xA} {pc : Nat} {lv : List (Option Value)} {st : List Value} {I : xII} {m : Nat}
theorem y_put (hG : xOK G) (hM : xMo G A m) {k idx : Nat} {v : Int32} (hd : decode K.cc pc = .ok (.putfield idx, 3)) (hF : xF K.y.cls idx 12 k) (hFw : xFw K 12 k) (hn : narrow (xct 12 k) (.int v) = .int v) (hfit : fits (xct 12 k) (.int v) = true) (hxf : xfit (xct 12 k) (.int v)) (kk : ∀ J, J = xup I m k v → X G d K Q (A.wI J) (pc + 3) lv st) : X G d K Q (A.wI I) pc lv (.int v :: .ref m :: st) :=
  x_put hG hd hF hFw (mo_t hM) (mo_N hM) hn hfit hxf (kk _ rfl)
theorem y_iald (hG : xOK G) {a n : Nat} {i : Int32} (hd : decode K.cc pc = .ok (.iaload, 1)) (ht : A.tg a = 200) (hn : A.ln a = n) (hi : vp_in i n) (kk : X G d K Q (A.wI I) (pc + 1) lv (.int (I a (ix i)) :: st)) : X G d K Q (A.wI I) pc lv (.int i :: .ref a :: st) :=
  x_iald hG hd ht (by show vp_in i (A.ln a); rw [hn]; exact hi) kk
theorem y_zald (hG : xOK G) {a n : Nat} {i : Int32} (hd : decode K.cc pc = .ok (.baload, 1)) (ht : A.tg a = 203) (hn : A.ln a = n) (hi : vp_in i n) (kk : X G d K Q (A.wI I) (pc + 1) lv (.int (I a (ix i)) :: st)) : X G d K Q (A.wI I) pc lv (.int i :: .ref a :: st) :=
  x_zald hG hd ht (by show vp_in i (A.ln a); rw [hn]; exact hi) kk
theorem y_iast (hG : xOK G) {a n : Nat} {i x : Int32} (hd : decode K.cc pc = .ok (.iastore, 1)) (ht : A.tg a = 200) (hN : G.N ≤ a) (hn : A.ln a = n) (hi : vp_in i n) (kk : ∀ J, J = xup I a (ix i) x → X G d K Q (A.wI J) (pc + 1) lv st) : X G d K Q (A.wI I) pc lv (.int x :: .int i :: .ref a :: st) :=
  x_iast hG hd ht hN (by show vp_in i (A.ln a); rw [hn]; exact hi) (kk _ rfl)
theorem y_zast (hG : xOK G) {a n : Nat} {i x : Int32} (hd : decode K.cc pc = .ok (.bastore, 1)) (ht : A.tg a = 203) (hN : G.N ≤ a) (hn : A.ln a = n) (hi : vp_in i n) (hx : x = 0 ∨ x = 1) (kk : ∀ J, J = xup I a (ix i) x → X G d K Q (A.wI J) (pc + 1) lv st) : X G d K Q (A.wI I) pc lv (.int x :: .int i :: .ref a :: st) :=
  x_zast hG hd ht hN (by show vp_in i (A.ln a); rw [hn]; exact hi) hx (kk _ rfl)
end YB
