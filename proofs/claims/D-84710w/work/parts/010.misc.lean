/-! ===== THE BRIDGE: small things ===== -/
set_option maxRecDepth 100000
theorem va_rf_cat (r : Option Nat) : (va_rf r).category = 1 := by cases r <;> rfl
theorem xfit_rf {C : String} (r : Option Nat) : xfit (.object C) (va_rf r) := by
  cases r with
  | none => exact Or.inl rfl
  | some a => exact Or.inr ⟨a, rfl⟩
theorem xfit_rfa {t : FieldType} (r : Option Nat) : xfit (.array t) (va_rf r) := by
  cases r with
  | none => exact Or.inl rfl
  | some a => exact Or.inr ⟨a, rfl⟩
section XM
variable {G : xG} {d : Nat} {K : xK} {Q : Outcome → xA → Prop} {A : xA} {pc : Nat} {lv : List (Option Value)} {st : List Value}
theorem x_sw {x : Int32} (v : Int32) (kt : x = v → X G d K Q A pc lv (.int x :: st)) (kf : ¬ x = v → X G d K Q A pc lv (.int x :: st)) : X G d K Q A pc lv (.int x :: st) := by
  by_cases h : x = v
  · exact kt h
  · exact kf h
/-- a computed number gets a name -/
theorem x_topi {x : Int32} (k : ∀ y, y = x → X G d K Q A pc lv (.int y :: st)) : X G d K Q A pc lv (.int x :: st) := k x rfl
theorem x_topl {x : Int64} (k : ∀ y, y = x → X G d K Q A pc lv (.long y :: st)) : X G d K Q A pc lv (.long x :: st) := k x rfl
/-- the world in other words -/
theorem X.world {A' : xA} (h : A = A') (k : X G d K Q A' pc lv st) : X G d K Q A pc lv st := h ▸ k
theorem X.lvs {lv' : List (Option Value)} (h : lv = lv') (k : X G d K Q A pc lv' st) : X G d K Q A pc lv st := h ▸ k
end XM
/-- an end that is known: the answer and the world -/
def xIs (v : Option Value) (A' : xA) : Outcome → xA → Prop := fun o B => Outcome.returned v = o ∧ A' = B
