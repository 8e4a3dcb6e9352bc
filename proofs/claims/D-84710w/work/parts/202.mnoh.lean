/-! ===== statements outside loops have no open ways ===== -/
set_option maxRecDepth 100000
section NOH
variable {fs : List fnc} {vd ps : Int32}
theorem noH.one {w a d : Int32} : noH [(w, a, d, 0)] := fun q hq => by
  rw [List.mem_singleton] at hq
  subst hq
  exact isHo_0
theorem noH.nil : noH [] := fun q hq => nomatch hq
theorem noH.el {q : Option dcl} {row : Int32} : noH [elS q row] := fun z hz => by
  rw [List.mem_singleton] at hz
  subst hz
  cases q <;> exact ⟨rfl, rfl⟩
theorem noH.ite {c : Prop} [Decidable c] {l1 l2 : List stp} (h1 : noH l1) (h2 : noH l2) : noH (if c then l1 else l2) := by
  split
  · exact h1
  · exact h2
theorem stE_noH {Γ : List dcl} {p : Nat} {e : Tr} : noH (stE Γ fs p e) := by
  unfold stE
  split
  · exact noH.one
  · exact cX_noH
theorem mSet_noH {Γ : List dcl} {a : Int32} {st : Nat} {pl e : Tr} : noH (mSet Γ fs a st pl e).1 := by
  unfold mSet
  split
  · exact (((noH.ite noH.nil noH.one).app stE_noH).app (noH.ite noH.nil noH.one)).app noH.one
  · exact ((((cX_noH.app noH.el).app (noH.ite noH.nil (noH.one.app noH.one))).app stE_noH).app (noH.ite noH.nil noH.one)).app noH.one
  · exact noH.nil
theorem mS_noH : ∀ (e : Tr) (sc st : Nat) (E : env), noH (mS ps fs vd e sc false st E).1
  | .leaf, sc, st, E => noH.nil
  | .inner k d v l r, sc, st, E => by
    unfold mS
    split
    · exact mS_noH l (sc + 1) st E
    · exact (mS_noH l sc st E).app (mS_noH r sc _ _)
    · unfold mTlI
      refine noH.app ?_ noH.one
      split
      · exact noH.one
      · exact cX_noH
    · exact noH.one
    · split
      · rename_i y _ _ _ _
        exact (cX_noH.app noH.one).app (mS_noH y _ _ _)
      · rename_i y n _
        exact (((cX_noH.app noH.one).app (mS_noH y _ _ _)).app noH.one).app (mS_noH n _ _ _)
      · exact noH.nil
    · split
      · rename_i s c _ _ sp bd
        split
        · split
          · exact (((cX_noH.app noH.one).app noH.one).app fill_noH).app noH.one
          · exact ((noH.one.app fill_noH).app cX_noH).app noH.one
        · exact (((((((mS_noH s _ _ _).app (cX_noH.app (noH.ite noH.nil noH.one))).app noH.one).app (mS_noH sp _ _ _)).app noH.one).app noH.one).app fill_noH).app noH.one
      · exact noH.nil
    · exact noH.one
    · split
      · exact noH.one.app noH.one
      · exact cX_noH.app noH.one
    · exact cX_noH.app noH.one
    · exact mSet_noH
    · exact cX_noH.app noH.one
    · exact noH.nil
end NOH
