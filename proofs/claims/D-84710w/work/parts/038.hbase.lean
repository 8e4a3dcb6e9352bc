/-! ===== weakest preconditions over worlds: rows for the House ===== -/
set_option maxRecDepth 100000
/-- no object of our own classes is older than the start -/
def xOL (G : xG) : Prop := ∀ a, a < G.N → G.A0.tg a = 0 ∨ 38 ≤ G.A0.tg a
def xok (G : xG) (A : xA) : Prop := xwf A ∧ G.N ≤ A.n ∧ ∀ a, a < G.N → xat G.A0 A a
def rmO (G : xG) (A : xA) (w : Nat) : Prop := A.n + 1 ≤ G.N + 386503 ∧ A.u + w ≤ hU G.z.heap + 7941971
def rmA (G : xG) (A : xA) (n : Int32) : Prop := ¬ n < 0 ∧ ix n ≤ 60000000 ∧ A.n + 1 ≤ G.N + 386503 ∧ A.u + ix n ≤ hU G.z.heap + 7941971
def hI (Q : Int32 → xA → Prop) : Outcome → xA → Prop := fun o B => ∃ v, Outcome.returned (some (.int v)) = o ∧ Q v B
def hZ (Q : Int32 → xA → Prop) : Outcome → xA → Prop := fun o B => ∃ v, Outcome.returned (some (.int v)) = o ∧ (v = 0 ∨ v = 1) ∧ Q v B
def hL (Q : Int64 → xA → Prop) : Outcome → xA → Prop := fun o B => ∃ v, Outcome.returned (some (.long v)) = o ∧ Q v B
def hR (Q : Option Nat → xA → Prop) : Outcome → xA → Prop := fun o B => ∃ v, Outcome.returned (some (va_rf v)) = o ∧ Q v B
def hV (Q : xA → Prop) : Outcome → xA → Prop := fun o B => Outcome.returned none = o ∧ Q B
def hX (P : Outcome → xA → Prop) (E : Nat → xA → Prop) : Outcome → xA → Prop := fun o B => P o B ∨ ∃ a, Outcome.threw a = o ∧ E a B
theorem xoldN {G : xG} {A : xA} (ho : ∀ a, a < G.N → xat G.A0 A a) (hO : xOL G) {a c : Nat} (ht : A.tg a = c + 1) (hc : c < 37) : G.N ≤ a := by
  refine Nat.le_of_not_lt fun hl => ?_
  have h1 := (ho a hl).1
  have h2 := hO a hl
  omega
theorem kI {A B : xA} {a k b t : Nat} {v : Int32} (e : B = A.setI a k v) (h : A.tg b = t) : B.tg b = t := e ▸ h
theorem kL {A B : xA} {a k b t : Nat} {v : Int64} (e : B = A.setL a k v) (h : A.tg b = t) : B.tg b = t := e ▸ h
theorem kP {A B : xA} {a k b t : Nat} {v : Option Nat} (e : B = A.setP a k v) (h : A.tg b = t) : B.tg b = t := e ▸ h
theorem kN {A B : xA} {b t t1 m w g : Nat} (e : B = A.new t1 m w g) (hw : xwf A) (h : A.tg b = t) (h0 : (0 < t ∧ t ≤ 100) ∨ 200 ≤ t := by omega) : B.tg b = t := by
  subst e
  exact (xu1_n (Nat.ne_of_lt (hw.lt h h0))).trans h
theorem kNn {A B : xA} {t1 m w g : Nat} (e : B = A.new t1 m w g) : B.tg A.n = t1 := e ▸ xu1_s
theorem narrowO {ty : FieldType} (h : (∃ C, ty = .object C) ∨ ∃ t, ty = .array t) (r : Option Nat) : narrow ty (va_rf r) = va_rf r ∧ fits ty (va_rf r) = true ∧ xfit ty (va_rf r) := by
  rcases h with ⟨C, rfl⟩ | ⟨t, rfl⟩ <;> cases r <;> exact ⟨rfl, rfl, by first | exact Or.inl rfl | exact Or.inr ⟨_, rfl⟩ | exact xfit_rf _ | exact xfit_rfa _ | trivial⟩
theorem tne {A : xA} {a b s t : Nat} (h1 : A.tg a = s) (h2 : A.tg b = t) (h : s ≠ t) : a ≠ b := fun e => h (by rw [← h1, ← h2, e])
theorem sI_s {A B : xA} {a k : Nat} {v : Int32} (e : B = A.setI a k v) : B.I a k = v := e ▸ xup_s
theorem sI_k {A B : xA} {a k b j : Nat} {v : Int32} (e : B = A.setI a k v) (h : j ≠ k) : B.I b j = A.I b j := e ▸ xup_k h
theorem sI_a {A B : xA} {a k b j : Nat} {v : Int32} (e : B = A.setI a k v) (h : b ≠ a) : B.I b j = A.I b j := e ▸ xup_a h
theorem sI_L {A B : xA} {a k b j : Nat} {v : Int32} (e : B = A.setI a k v) : B.L b j = A.L b j := e ▸ rfl
theorem sI_P {A B : xA} {a k b j : Nat} {v : Int32} (e : B = A.setI a k v) : B.P b j = A.P b j := e ▸ rfl
theorem sL_s {A B : xA} {a k : Nat} {v : Int64} (e : B = A.setL a k v) : B.L a k = v := e ▸ xup_s
theorem sL_k {A B : xA} {a k b j : Nat} {v : Int64} (e : B = A.setL a k v) (h : j ≠ k) : B.L b j = A.L b j := e ▸ xup_k h
theorem sL_a {A B : xA} {a k b j : Nat} {v : Int64} (e : B = A.setL a k v) (h : b ≠ a) : B.L b j = A.L b j := e ▸ xup_a h
theorem sL_I {A B : xA} {a k b j : Nat} {v : Int64} (e : B = A.setL a k v) : B.I b j = A.I b j := e ▸ rfl
theorem sL_P {A B : xA} {a k b j : Nat} {v : Int64} (e : B = A.setL a k v) : B.P b j = A.P b j := e ▸ rfl
theorem sP_s {A B : xA} {a k : Nat} {v : Option Nat} (e : B = A.setP a k v) : B.P a k = v := e ▸ xup_s
theorem sP_k {A B : xA} {a k b j : Nat} {v : Option Nat} (e : B = A.setP a k v) (h : j ≠ k) : B.P b j = A.P b j := e ▸ xup_k h
theorem sP_a {A B : xA} {a k b j : Nat} {v : Option Nat} (e : B = A.setP a k v) (h : b ≠ a) : B.P b j = A.P b j := e ▸ xup_a h
theorem sP_I {A B : xA} {a k b j : Nat} {v : Option Nat} (e : B = A.setP a k v) : B.I b j = A.I b j := e ▸ rfl
theorem sP_L {A B : xA} {a k b j : Nat} {v : Option Nat} (e : B = A.setP a k v) : B.L b j = A.L b j := e ▸ rfl
theorem xlong_rf (r : Option Nat) : xlong (some (va_rf r)) = false := by cases r <;> rfl
section ZB
variable {G : xG} {d : Nat} {K : xK} {Q : Outcome → xA → Prop} {A : xA} {pc : Nat} {lv : List (Option Value)} {st : List Value}
theorem z_putI (hG : xOK G) (hO : xOL G) {a c k idx : Nat} {v : Int32} (hd : decode K.cc pc = .ok (.putfield idx, 3)) (hF : xF K.y.cls idx c k) (hFw : xFw K c k) (ht : A.tg a = c + 1) (hc : c < 37) (hn : narrow (xct c k) (.int v) = .int v) (hfit : fits (xct c k) (.int v) = true) (hxf : xfit (xct c k) (.int v)) (kk : ∀ B, B = A.setI a k v → X G d K Q B (pc + 3) lv st) : X G d K Q A pc lv (.int v :: .ref a :: st) :=
  X.wf fun hw hN ho => x_put hG hd hF hFw ht (xoldN ho hO ht hc) hn hfit hxf (kk _ rfl)
theorem z_putL (hG : xOK G) (hO : xOL G) {a c k idx : Nat} {v : Int64} (hd : decode K.cc pc = .ok (.putfield idx, 3)) (hF : xF K.y.cls idx c k) (hFw : xFw K c k) (ht : A.tg a = c + 1) (hc : c < 37) (hn : narrow (xct c k) (.long v) = .long v) (hfit : fits (xct c k) (.long v) = true) (hxf : xfit (xct c k) (.long v)) (kk : ∀ B, B = A.setL a k v → X G d K Q B (pc + 3) lv st) : X G d K Q A pc lv (.long v :: .ref a :: st) :=
  X.wf fun hw hN ho => x_put hG hd hF hFw ht (xoldN ho hO ht hc) hn hfit hxf (kk _ rfl)
theorem z_putP (hG : xOK G) (hO : xOL G) {a c k idx : Nat} (r : Option Nat) (hd : decode K.cc pc = .ok (.putfield idx, 3)) (hF : xF K.y.cls idx c k) (hFw : xFw K c k) (ht : A.tg a = c + 1) (hc : c < 37) (hty : (∃ C, xct c k = .object C) ∨ ∃ t, xct c k = .array t) (kk : ∀ B, B = A.setP a k r → X G d K Q B (pc + 3) lv st) : X G d K Q A pc lv (va_rf r :: .ref a :: st) := by
  have h := narrowO hty r
  exact X.wf fun hw hN ho => x_put hG hd hF hFw ht (xoldN ho hO ht hc) h.1 h.2.1 h.2.2 (by rw [xput_rf]; exact kk _ rfl)
theorem z_iast (hG : xOK G) {a : Nat} {i x : Int32} (hd : decode K.cc pc = .ok (.iastore, 1)) (ht : A.tg a = 200) (hN : G.N ≤ a) (hi : vp_in i (A.ln a)) (kk : ∀ B, B = A.setI a (ix i) x → X G d K Q B (pc + 1) lv st) : X G d K Q A pc lv (.int x :: .int i :: .ref a :: st) := x_iast hG hd ht hN hi (kk _ rfl)
theorem z_last (hG : xOK G) {a : Nat} {i : Int32} {x : Int64} (hd : decode K.cc pc = .ok (.lastore, 1)) (ht : A.tg a = 201) (hN : G.N ≤ a) (hi : vp_in i (A.ln a)) (kk : ∀ B, B = A.setL a (ix i) x → X G d K Q B (pc + 1) lv st) : X G d K Q A pc lv (.long x :: .int i :: .ref a :: st) := x_last hG hd ht hN hi (kk _ rfl)
theorem z_bast (hG : xOK G) {a : Nat} {i x : Int32} (hd : decode K.cc pc = .ok (.bastore, 1)) (ht : A.tg a = 202) (hN : G.N ≤ a) (hi : vp_in i (A.ln a)) (kk : ∀ B, B = A.setI a (ix i) x.toInt8.toInt32 → X G d K Q B (pc + 1) lv st) : X G d K Q A pc lv (.int x :: .int i :: .ref a :: st) := x_bast hG hd ht hN hi (kk _ rfl)
theorem z_zast (hG : xOK G) {a : Nat} {i x : Int32} (hd : decode K.cc pc = .ok (.bastore, 1)) (ht : A.tg a = 203) (hN : G.N ≤ a) (hi : vp_in i (A.ln a)) (hx : x = 0 ∨ x = 1) (kk : ∀ B, B = A.setI a (ix i) x → X G d K Q B (pc + 1) lv st) : X G d K Q A pc lv (.int x :: .int i :: .ref a :: st) := x_zast hG hd ht hN hi hx (kk _ rfl)
theorem z_aastN (hG : xOK G) {a j : Nat} {i : Int32} {C : String} (hd : decode K.cc pc = .ok (.aastore, 1)) (ht : A.tg a = 200 + j) (hj : xty j = .object C) (hN : G.N ≤ a) (hi : vp_in i (A.ln a)) (kk : ∀ B, B = A.setP a (ix i) none → X G d K Q B (pc + 1) lv st) : X G d K Q A pc lv (.null :: .int i :: .ref a :: st) := x_aastN hG hd ht hj hN hi (kk _ rfl)
theorem z_aast (hG : xOK G) {a j v c : Nat} {i : Int32} {r : vw_C} {E : String} (hd : decode K.cc pc = .ok (.aastore, 1)) (ht : A.tg a = 200 + j) (hj : xty j = .object E) (hN : G.N ≤ a) (hi : vp_in i (A.ln a)) (htv : A.tg v = c + 1) (hcl : xcl[c]? = some r) (hca : r.1 = E ∨ Cond.castable r.1 E ∈ lw_tbl) (kk : ∀ B, B = A.setP a (ix i) (some v) → X G d K Q B (pc + 1) lv st) : X G d K Q A pc lv (.ref v :: .int i :: .ref a :: st) := x_aast hG hd ht hj hN hi htv hcl hca (kk _ rfl)
theorem z_new (hG : xOK G) {c idx w : Nat} {r : vw_C} (hd : decode K.cc pc = .ok (.new idx, 3)) (hcl : xcl[c]? = some r) (hlk : Cond.classLink K.y.cls idx r.1 ∈ lw_all) (hfl : ∀ k, k < r.2.2 → xct c k ≠ .float ∧ xct c k ≠ .double) (hw0 : r.2.2 = w) (hrm : rmO G A w) (kk : ∀ B, B = A.new (c + 1) 0 w 0 → xwf A → X G d K Q B (pc + 3) lv (.ref A.n :: st)) : X G d K Q A pc lv st := by
  subst hw0
  exact X.wf fun hw hN ho => x_new hG 0 hd hcl hlk hfl hrm.1 hrm.2 (kk _ rfl hw)
theorem z_newa (hG : xOK G) {j : Nat} {n : Int32} {aty : ArrayType} (hd : decode K.cc pc = .ok (.newarray aty, 2)) (hj : j < 4) (hty : newarray.typeOf aty = xty j) (hrm : rmA G A n) (hw1 : Cond.arrayClass (xty j) ∈ lw_all) (kk : ∀ B, B = A.new (200 + j) (ix n) (ix n) 0 → xwf A → X G d K Q B (pc + 2) lv (.ref A.n :: st)) : X G d K Q A pc lv (.int n :: st) :=
  X.wf fun hw hN ho => x_newa hG 0 hd hj hty hrm.1 rfl hrm.2.1 hrm.2.2.1 hrm.2.2.2 hw1 (kk _ rfl hw)
theorem z_anew (hG : xOK G) {j idx : Nat} {n : Int32} {C : String} (hd : decode K.cc pc = .ok (.anewarray idx, 3)) (hj : j < 7) (hty : xty j = .object C) (hrm : rmA G A n) (hlk : Cond.classLink K.y.cls idx C ∈ lw_all) (hov : Cond.arrayOver (.object C) ∈ lw_tbl) (kk : ∀ B, B = A.new (200 + j) (ix n) (ix n) 0 → xwf A → X G d K Q B (pc + 3) lv (.ref A.n :: st)) : X G d K Q A pc lv (.int n :: st) :=
  X.wf fun hw hN ho => x_anew hG 0 hd hj hty hrm.1 rfl hrm.2.1 hrm.2.2.1 hrm.2.2.2 hlk hov (kk _ rfl hw)
theorem z_disp {pc' : Nat} {lv' : List (Option Value)} {st' : List Value} (P : Outcome → xA → Prop) (kr : ∀ o B, P o B → xBack G d K Q pc' lv' st' o B) (kc : (∀ o B, P o B → xBack G d K Q pc' lv' st' o B) → X G d K Q A pc lv st) : X G d K Q A pc lv st := kc kr
theorem X.xok (k : xok G A → X G d K Q A pc lv st) : X G d K Q A pc lv st := X.wf fun h1 h2 h3 => k ⟨h1, h2, h3⟩
end ZB
