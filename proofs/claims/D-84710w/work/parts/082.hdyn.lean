/-! ===== expressions and statements: objects of one of several classes (tools/h082) ===== -/
set_option maxRecDepth 100000
def eCl : List Nat := [14, 15, 16, 17, 18, 19, 20, 21]
def sCl : List Nat := [4, 23, 24, 25, 26, 27, 28, 29, 30, 31]
def xE (A : xA) (a : Nat) : Prop := ∃ c, A.tg a = c + 1 ∧ c ∈ eCl
def xS (A : xA) (a : Nat) : Prop := ∃ c, A.tg a = c + 1 ∧ c ∈ sCl
theorem castE : ∀ c, c ∈ eCl → ∃ r : vw_C, xcl[c]? = some r ∧ (r.1 = "CompiledHouse$Expr" ∨ Cond.castable r.1 "CompiledHouse$Expr" ∈ lw_tbl) := by
  intro c h
  simp only [eCl, List.mem_cons, List.not_mem_nil, or_false] at h
  rcases h with rfl | rfl | rfl | rfl | rfl | rfl | rfl | rfl
  · exact ⟨_, rfl, Or.inr q3710⟩
  · exact ⟨_, rfl, Or.inr q3704⟩
  · exact ⟨_, rfl, Or.inr q3709⟩
  · exact ⟨_, rfl, Or.inr q3707⟩
  · exact ⟨_, rfl, Or.inr q3703⟩
  · exact ⟨_, rfl, Or.inr q3708⟩
  · exact ⟨_, rfl, Or.inr q3705⟩
  · exact ⟨_, rfl, Or.inr q3706⟩
theorem castS : ∀ c, c ∈ sCl → ∃ r : vw_C, xcl[c]? = some r ∧ (r.1 = "CompiledHouse$Statement" ∨ Cond.castable r.1 "CompiledHouse$Statement" ∈ lw_tbl) := by
  intro c h
  simp only [sCl, List.mem_cons, List.not_mem_nil, or_false] at h
  rcases h with rfl | rfl | rfl | rfl | rfl | rfl | rfl | rfl | rfl | rfl
  · exact ⟨_, rfl, Or.inr q3715⟩
  · exact ⟨_, rfl, Or.inr q3723⟩
  · exact ⟨_, rfl, Or.inr q3722⟩
  · exact ⟨_, rfl, Or.inr q3717⟩
  · exact ⟨_, rfl, Or.inr q3719⟩
  · exact ⟨_, rfl, Or.inr q3716⟩
  · exact ⟨_, rfl, Or.inr q3714⟩
  · exact ⟨_, rfl, Or.inr q3718⟩
  · exact ⟨_, rfl, Or.inr q3721⟩
  · exact ⟨_, rfl, Or.inr q3720⟩
section ZE
variable {G : xG} {d : Nat} {K : xK} {Q : Outcome → xA → Prop} {A : xA} {pc : Nat} {lv : List (Option Value)} {st : List Value}
theorem z_getE (hG : xOK G) {a idx : Nat} (hd : decode K.cc pc = .ok (.getfield idx, 3)) (hF : ∀ c, c ∈ eCl → xF K.y.cls idx c 0) (ht : xE A a) (kk : X G d K Q A (pc + 3) lv (.int (A.I a 0) :: st)) : X G d K Q A pc lv (.ref a :: st) := by
  obtain ⟨c, h1, h2⟩ := ht
  refine x_get (v := .int (A.I a 0)) hG hd (hF c h2) h1 ?_ kk
  have h3 : ∀ c, c ∈ eCl → xct c 0 = .int := by decide
  rw [h3 c h2]
  rfl
theorem z_putE (hG : xOK G) (hO : xOL G) {a idx : Nat} {v : Int32} (hd : decode K.cc pc = .ok (.putfield idx, 3)) (hF : ∀ c, c ∈ eCl → xF K.y.cls idx c 0) (ht : xE A a) (kk : ∀ B, B = A.setI a 0 v → X G d K Q B (pc + 3) lv st) : X G d K Q A pc lv (.int v :: .ref a :: st) := by
  obtain ⟨c, h1, h2⟩ := ht
  have h3 : ∀ c, c ∈ eCl → xct c 0 = .int ∧ c < 37 := by decide
  have h4 : xFw K c 0 := by
    simp only [eCl, List.mem_cons, List.not_mem_nil, or_false] at h2
    rcases h2 with rfl | rfl | rfl | rfl | rfl | rfl | rfl | rfl <;> exact ⟨_, rfl, Or.inl rfl⟩
  exact z_putI hG hO hd (hF c h2) h4 h1 (h3 c h2).2 (by rw [(h3 c h2).1]; rfl) (by rw [(h3 c h2).1]; rfl) (by rw [(h3 c h2).1]; exact ⟨_, rfl⟩) kk
theorem z_castE (hG : xOK G) {a idx : Nat} (hd : decode K.cc pc = .ok (.checkcast idx, 3)) (hlk : Cond.classLink K.y.cls idx "CompiledHouse$Expr" ∈ lw_all) (ht : xE A a) (k : X G d K Q A (pc + 3) lv (.ref a :: st)) : X G d K Q A pc lv (.ref a :: st) := by
  obtain ⟨c, h1, h2⟩ := ht
  obtain ⟨r, h3, h4⟩ := castE c h2
  exact x_cast hG hd hlk h1 h3 h4 k
theorem z_castS (hG : xOK G) {a idx : Nat} (hd : decode K.cc pc = .ok (.checkcast idx, 3)) (hlk : Cond.classLink K.y.cls idx "CompiledHouse$Statement" ∈ lw_all) (ht : xS A a) (k : X G d K Q A (pc + 3) lv (.ref a :: st)) : X G d K Q A pc lv (.ref a :: st) := by
  obtain ⟨c, h1, h2⟩ := ht
  obtain ⟨r, h3, h4⟩ := castS c h2
  exact x_cast hG hd hlk h1 h3 h4 k
end ZE
