/-! ===== the Model's expressions: calls ===== -/
set_option maxRecDepth 100000
/-- arguments without a worth -/
def hA (Γ : List dcl) (fs : List fnc) : Tr → Bool
  | .inner 10 [] _ l r => hnX Γ fs l || hA Γ fs r
  | _ => false
section MC
variable {Γ : List dcl} {fs : List fnc} {c : Bool}
theorem cX_ag {ks : Option (List Int32)} {st : Nat} {a s : Tr} : cX Γ fs c ks st (nd 10 [] a s) = agL Γ fs c ks (isAlone a) st a ++ cX Γ fs c (ks.map List.tail) (st + (agL Γ fs c ks (isAlone a) st a).length) s := by
  have hl : (agL Γ fs c ks (isAlone a) st a).length = lX c a := by
    unfold agL
    split
    · split
      · rename_i h
        rw [isAlone_l h.2]
        rfl
      · exact cX_len ..
    · exact cX_len ..
  rw [hl]
  rcases ks with _ | (_ | ⟨k, ks⟩)
  · rfl
  · rfl
  · show (if ¬ k = 0 ∧ isAlone a = true then (match (mean Γ fs (aNm a)).1 with
      | some b => ([(5, b.ce, b.sz, if b.lo = 0 then 0 else 1)] : List stp)
      | none => [(5, 0, 1, 0)]) else cX Γ fs c none st a) ++ _ = (if ¬ k = 0 ∧ isAlone a = true then [bsS (mean Γ fs (aNm a)).1] else cX Γ fs c none st a) ++ _
    congr 1
    split
    · cases (mean Γ fs (aNm a)).1 <;> rfl
    · rfl
theorem nX_ag {w : Bool} {ks : Option (List Int32)} {a s : Tr} : nX Γ fs c w ks (nd 10 [] a s) = mnN (agN Γ fs c ks (isAlone a) (tFst a) a) (nX Γ fs c true (ks.map List.tail) s) := by
  rcases ks with _ | (_ | ⟨k, ks⟩)
  · rfl
  · rfl
  · rfl
end MC
