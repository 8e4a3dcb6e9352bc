/-! ===== the House's parser: expressions ===== -/
set_option maxRecDepth 100000
def pQ (G : xG) (x : Nat) (D : tkL) (A : xA) (t op z : Nat) (r : pR) : Option Nat → xA → Prop := fun v B => ∃ e tr t1, r = .ok (tr, t1) ∧ some e = v ∧ PS G B x D t1 op ∧ pf x A B ∧ t ≤ t1 ∧ B.n ≤ A.n + (24 * (t1 - t) + 12 * z) ∧ B.u ≤ A.u + (128 * (t1 - t) + 64 * z) ∧ isE tr ∧ rX G B (fun a => A.n ≤ a) tr [] [e]
def pX (x : Nat) (D : tkL) (A : xA) (t z : Nat) (r : pR) (E : Nat → xA → Prop) : Prop := ∀ f B t1, r = .error f → pf x A B → t ≤ t1 → t1 ≤ D.length → B.n ≤ A.n + (24 * (t1 - t) + 12 * z) → B.u ≤ A.u + (128 * (t1 - t) + 64 * z) → B.I (x + 2) 5 = f.1 → B.I (x + 2) 6 = f.2 → E (x + 11) B
abbrev oT : Type := Nat → (Option Nat → xA → Prop) → (Nat → xA → Prop) → xA → Prop
def pm (G : xG) (D : tkL) (A : xA) (t z : Nat) : Prop := rm G A (24 * (D.length - t) + 12 * z) (128 * (D.length - t) + 64 * z)
def oE (G : xG) (x : Nat) (D : tkL) (r0 : oT) (P : Nat → pR) (op : Nat) : Prop := ∀ A t E, PS G A x D t op → pm G D A t 0 → pX x D A t 0 (P t) E → r0 (x + 2) (pQ G x D A t op 0 (P t)) E A
section HE
variable {G : xG} {A A1 B : xA} {x t t1 op d n0 z z1 : Nat} {D : tkL} {E : Nat → xA → Prop} {r r1 : pR} {f : Int32 × Int32}
theorem pX.sub (h : pX x D A t z r E) (hf : pf x A A1) (ht : t ≤ t1) (hn : A1.n + 12 * z1 ≤ A.n + (24 * (t1 - t) + 12 * z)) (hu : A1.u + 64 * z1 ≤ A.u + (128 * (t1 - t) + 64 * z)) (hr : ∀ f, r1 = .error f → r = .error f) : pX x D A1 t1 z1 r1 E :=
  fun f B t2 q1 q2 q3 q4 q5 q6 q7 q8 => h f B t2 (hr f q1) (hf.tr q2) (by omega) q4 (by omega) (by omega) q7 q8
theorem pX.fl (h : pX x D A t z r E) (t1 : Nat) (hf : pf x A A1) (ht : t ≤ t1) (ht1 : t1 ≤ D.length) (hn : A1.n ≤ A.n + (24 * (t1 - t) + 12 * z)) (hu : A1.u ≤ A.u + (128 * (t1 - t) + 64 * z)) (hr : r = .error f) : E (x + 11) (fl A1 x f) :=
  h f _ t1 hr hf.flt ht ht1 hn hu ((xup_k (by decide)).trans xup_s) xup_s
theorem rm.sub {c s c1 s1 : Nat} (h : rm G A c s) (hn : A1.n + c1 ≤ A.n + c) (hu : A1.u + s1 ≤ A.u + s) : rm G A1 c1 s1 := ⟨by have := h.1; omega, by have := h.2; omega⟩
theorem pm.sub (h : pm G D A t z) (ht : t ≤ t1) (ht1 : t1 ≤ D.length) (hn : A1.n + 12 * z1 ≤ A.n + (24 * (t1 - t) + 12 * z)) (hu : A1.u + 64 * z1 ≤ A.u + (128 * (t1 - t) + 64 * z)) : pm G D A1 t1 z1 := rm.sub h (by omega) (by omega)
theorem pm.rr {c s : Nat} (h : pm G D A t z) (ht : t ≤ t1) (ht1 : t1 ≤ D.length) (hn : A1.n + c ≤ A.n + (24 * (t1 - t) + 12 * z)) (hu : A1.u + s ≤ A.u + (128 * (t1 - t) + 64 * z)) : rm G A1 c s := rm.sub h (by omega) (by omega)
theorem PS.kx {N : Nat → Prop} (h : PS G A x D t op) (hN : ¬ N (x + 2)) : Kp (fun a => a = x + 2) N A := Kp.one (by rw [hs_t2 h.1]; decide) hN
theorem pE'_s {d' : Nat} : pE' D (d' + 1) = pE D d' := rfl
variable {r0 r2 r3 r4 : oT} {r1' : Nat → Int32 → (Option Nat → xA → Prop) → (Nat → xA → Prop) → xA → Prop} {r5 r6 : Nat → Int32 → Int32 → (Option Nat → xA → Prop) → (Nat → xA → Prop) → xA → Prop}
theorem s_X1_inside (h0 : ∀ d', d' + 1 = d → oE G x D r0 (pE D d') (op + 1)) (hop : op + d = 40) : oE G x D (w_X1_inside G r0 r1' r2 r3 r4 r5 r6) (pIn D (pE' D d) d) op := by
  intro A t E h hr hE hok
  have ht := h.lt
  refine ⟨hs_t2 h.1, _, s_X1_opens h (fun q => hE.fl t pf.rf (Nat.le_refl _) (by omega) (by omega) (by omega) (by rw [pIn, pOpen, if_neg q])) (fun q e => hE.fl t pf.rf (Nat.le_refl _) (by omega) (by omega) (by omega) (by rw [pIn, pOpen, if_pos q, if_pos (by omega)])), ?_⟩
  rintro A1 hok1 ⟨q1, ho, h1, f1, n1, u1⟩
  obtain ⟨d', rfl⟩ : ∃ d', d = d' + 1 := ⟨d - 1, by omega⟩
  have eP : pIn D (pE' D (d' + 1)) (d' + 1) t = pAnd (pE D d' (t + 1)) fun e t1 => pNeed D 63 t1 (.ok (e, t1 + 1)) := by rw [pIn, pOpen, if_pos q1, if_neg (by omega)]; rfl
  rw [eP] at hE ⊢
  have ht1 := h1.lt
  refine ⟨hs_t2 h1.1, _, h0 d' rfl A1 (t + 1) E h1 (hr.sub (by omega) (by omega) (by omega) (by omega)) (hE.sub f1 (by omega) (by omega) (by omega) (fun f e => by rw [e]; rfl)), ?_⟩
  rintro _ A3 hok3 ⟨e, tr, t3, r3, rfl, h3, f3, l3, n3, u3, i3, x3⟩
  rw [r3] at hE ⊢
  have ht3 := h3.lt
  refine ⟨hs_t2 h3.1, _, s_X1_closes h3 (by omega) (fun q => hE.fl t3 (f1.tr f3) (by omega) (by omega) (by omega) (by omega) (if_neg q)), ?_⟩
  rintro A5 hok5 ⟨q5, h5, f5, n5, u5⟩
  refine ⟨e, tr, t3 + 1, if_pos q5, rfl, h5, (f1.tr f3).tr f5, by omega, by omega, by omega, i3, ?_⟩
  have := h.xl
  exact rX.fr hok3 hok5 f5.1 _ (h3.kx (by omega)) (rX.mn hok3 _ (fun a q _ => by omega) x3)
theorem s_X1_place {p nm : Int32} (h0 : ∀ d', d' + 1 = d → oE G x D r0 (pE D d') (op + 1)) (hop : op + d = 40) (h : PS G A x D t op) (hr : pm G D A t 1) (hE : pX x D A t 1 (pPlace D (pE' D d) d p nm t) E) : w_X1_place G r0 r1' r2 r3 r4 r5 r6 (x + 2) p nm (pQ G x D A t op 1 (pPlace D (pE' D d) d p nm t)) E A := by
  intro hok
  have ht := h.lt
  have hxl := h.xl
  refine ⟨hs_t2 h.1, _, s_X1_is h, ?_⟩
  rintro v1 _ _ _ ⟨⟨rfl, q⟩ | ⟨rfl, q⟩, rfl⟩
  · refine ⟨fun q => absurd q (by decide), fun _ => ?_⟩
    refine ⟨hs_t2 h.1, _, s_X1_here h, ?_⟩
    rintro _ _ _ ⟨rfl, rfl⟩
    refine ⟨hs_t2 h.1, _, s_X1_opens h (fun q => hE.fl t pf.rf (Nat.le_refl _) (by omega) (by omega) (by omega) (absurd (by assumption) q)) (fun q e => hE.fl t pf.rf (Nat.le_refl _) (by omega) (by omega) (by omega) (by rw [pPlace, if_pos q, pOpen, if_pos q, if_pos (by omega)])), ?_⟩
    rintro A1 hok1 ⟨q1, ho, h1, f1, n1, u1⟩
    obtain ⟨d', rfl⟩ : ∃ d', d = d' + 1 := ⟨d - 1, by omega⟩
    have eP : pPlace D (pE' D (d' + 1)) (d' + 1) p nm t = pAnd (pE D d' (t + 1)) fun i t1 => pNeed D 65 t1 (.ok (nd 3 [p, p, nm, tP D t] i lf, t1 + 1)) := by rw [pPlace, if_pos q, pOpen, if_pos q1, if_neg (by omega)]; rfl
    rw [eP] at hE ⊢
    have ht1 := h1.lt
    refine ⟨hs_t2 h1.1, _, h0 d' rfl A1 (t + 1) E h1 (hr.sub (by omega) (by omega) (by omega) (by omega)) (hE.sub f1 (by omega) (by omega) (by omega) (fun f e => by rw [e]; rfl)), ?_⟩
    rintro _ A3 hok3 ⟨e, tr, t3, r3, rfl, h3, f3, l3, n3, u3, i3, x3⟩
    rw [r3] at hE ⊢
    have ht3 := h3.lt
    refine ⟨hs_t2 h3.1, _, s_X1_closes h3 (by omega) (fun q => hE.fl t3 (f1.tr f3) (by omega) (by omega) (by omega) (by omega) (if_neg q)), ?_⟩
    rintro A5 hok5 ⟨q5, h5, f5, n5, u5⟩
    have x5 : rX G A5 (fun a => A.n ≤ a) tr [] [e] := rX.fr hok3 hok5 f5.1 _ (h3.kx (by omega)) (rX.mn hok3 _ (fun a q _ => by omega) x3)
    have f15 := (f1.tr f3).tr f5
    have hle := f15.1.1
    refine ⟨(hr.rr (A1 := A5) (t1 := t3) (c := 1) (s := 5) (by omega) (by omega) (by omega) (by omega)).o, ?_⟩
    rintro _ rfl
    refine ⟨_, s_X18_init (by rw [gN_tg, if_pos rfl]), ?_⟩
    rintro _ hok13 rfl
    have f13 : Fr (fun a => a = A5.n) A5 (((((((A5.new 17 0 5 0).setI A5.n 0 p).setI A5.n 2 p).setI A5.n 1 nm).setP A5.n 4 (some e)).setI A5.n 3 (tP D t))) := Fr.fn.fs.fs.fs.fp.fs
    have g13 := f15.own f13 (fun a ha q => by omega) hxl
    refine ⟨A5.n, nd 3 [p, p, nm, tP D t] tr lf, t3 + 1, if_pos q5, rfl, h5.fr f13 (fun a ha q => by have := h5.1.lt; omega), g13, by omega, ?_, ?_, by show 3 ≤ 8; decide, ?_⟩
    · show A5.n + 1 ≤ _
      omega
    · show A5.u + 5 ≤ _
      omega
    · refine ⟨rfl, A5.n, e, rfl, hle, ?_⟩
      refine ⟨?_, ?_, ?_, ?_, ?_, ?_, rX.fr hok5 hok13 f13 _ (Kp.nw (Nat.le_refl _)) (rX.mn hok5 _ (fun a q q' => ⟨q, by omega⟩) x5)⟩ <;> grind [gI_I, gI_L, gI_P, gI_tg, gI_ln, gI_gh, gI_n, gI_u, gL_I, gL_L, gL_P, gL_tg, gL_ln, gL_gh, gL_n, gL_u, gP_I, gP_L, gP_P, gP_tg, gP_ln, gP_gh, gP_n, gP_u, gN_I, gN_L, gN_P, gN_tg, gN_ln, gN_gh, gN_n, gN_u]
  · refine ⟨fun _ => ?_, fun q => absurd rfl q⟩
    have eP : pPlace D (pE' D d) d p nm t = .ok (nd 2 [p, p, nm] lf lf, t) := by rw [pPlace, if_neg q]
    refine ⟨(hr.rr (A1 := A) (t1 := t) (c := 1) (s := 5) (by omega) (by omega) (by omega) (by omega)).o, ?_⟩
    rintro _ rfl
    refine ⟨_, s_X18_init (by rw [gN_tg, if_pos rfl]), ?_⟩
    rintro _ hok13 rfl
    have f13 : Fr (fun a => a = A.n) A (((((((A.new 17 0 5 0).setI A.n 0 p).setI A.n 2 p).setI A.n 1 nm).setP A.n 4 none).setI A.n 3 (-1))) := Fr.fn.fs.fs.fs.fp.fs
    have g13 := pf.rf.own f13 (fun a ha q => by omega) hxl
    refine ⟨A.n, _, t, eP, rfl, h.fr f13 (fun a ha q => by have := h.1.lt; omega), g13, Nat.le_refl _, ?_, ?_, by show 2 ≤ 8; decide, ?_⟩
    · show A.n + 1 ≤ _
      omega
    · show A.u + 5 ≤ _
      omega
    · refine ⟨rfl, A.n, rfl, Nat.le_refl _, ?_⟩
      refine ⟨?_, ?_, ?_, ?_, ?_, ?_⟩ <;> grind [gI_I, gI_L, gI_P, gI_tg, gI_ln, gI_gh, gI_n, gI_u, gL_I, gL_L, gL_P, gL_tg, gL_ln, gL_gh, gL_n, gL_u, gP_I, gP_L, gP_P, gP_tg, gP_ln, gP_gh, gP_n, gP_u, gN_I, gN_L, gN_P, gN_tg, gN_ln, gN_gh, gN_n, gN_u]
/-- arguments laid behind one another -/
def tApp (as : List Tr) (s : Tr) : Tr := as.foldr (fun a s => nd 10 [] a s) s
theorem tApp_snoc {as : List Tr} {a s : Tr} : tApp (as ++ [a]) s = tApp as (nd 10 [] a s) := by simp [tApp]
def rXs (G : xG) (A : xA) (N : Nat → Prop) : List Tr → List Nat → Prop
  | [], [] => True
  | t :: ts, v :: vs => rX G A N t [] [v] ∧ rXs G A N ts vs
  | _, _ => False
theorem rXs.snoc {G : xG} {A : xA} {N : Nat → Prop} {a : Tr} {v : Nat} (ha : rX G A N a [] [v]) : ∀ {ts : List Tr} {vs : List Nat}, rXs G A N ts vs → rXs G A N (ts ++ [a]) (vs ++ [v])
  | [], [], _ => ⟨ha, trivial⟩
  | t :: ts, w :: vs, h => ⟨h.1, rXs.snoc ha h.2⟩
  | [], _ :: _, h => h.elim
  | _ :: _, [], h => h.elim
theorem rXs.app {G : xG} {A : xA} {N : Nat → Prop} {s : Tr} {ws : List Nat} (hs : rX G A N s [] ws) : ∀ {ts : List Tr} {vs : List Nat}, rXs G A N ts vs → rX G A N (tApp ts s) [] (vs ++ ws)
  | [], [], _ => hs
  | t :: ts, w :: vs, h => ⟨rfl, w, vs ++ ws, rfl, h.1, rXs.app hs h.2⟩
  | [], _ :: _, h => h.elim
  | _ :: _, [], h => h.elim
theorem rXs.fr {S N : Nat → Prop} (hw : xok G A) (hwB : xok G B) (hf : Fr S A B) (hS : Kp S N A) : ∀ {ts : List Tr} {vs : List Nat}, rXs G A N ts vs → rXs G B N ts vs
  | [], [], _ => trivial
  | t :: ts, w :: vs, h => ⟨rX.fr hw hwB hf _ hS h.1, rXs.fr hw hwB hf hS h.2⟩
  | [], _ :: _, h => h.elim
  | _ :: _, [], h => h.elim
theorem rXs.mn {N N' : Nat → Prop} (hw : xok G A) (hn : ∀ a, N a → a < A.n → N' a) : ∀ {ts : List Tr} {vs : List Nat}, rXs G A N ts vs → rXs G A N' ts vs
  | [], [], _ => trivial
  | t :: ts, w :: vs, h => ⟨rX.mn hw _ hn h.1, rXs.mn hw hn h.2⟩
  | [], _ :: _, h => h.elim
  | _ :: _, [], h => h.elim
theorem xE.el {e : Nat} (h : xE A e) : xEl A e := by
  obtain ⟨c, h1, h2⟩ := h
  have : ∀ c ∈ eCl, c < 38 := by decide
  exact xEl_of h1 (this c h2)
theorem s_X1_call {p nm : Int32} (h0 : ∀ d', d' + 1 = d → oE G x D r0 (pE D d') (op + 1)) (hop : op + d = 40) (h : PS G A x D t op) (hr : pm G D A t 1) (hE : pX x D A t 1 (pCall D (pE' D d) d p nm t) E) : w_X1_call G r0 r1' r2 r3 r4 r5 r6 (x + 2) p nm (pQ G x D A t op 1 (pCall D (pE' D d) d p nm t)) E A := by
  intro hok
  have ht := h.lt
  have hxl := h.xl
  refine ⟨(hr.rr (A1 := A) (t1 := t) (c := 1) (s := 3) (by omega) (by omega) (by omega) (by omega)).o, ?_⟩
  rintro _ rfl
  refine ⟨_, s_J5_new2 (k := 2) hok (hr.rr (A1 := A) (t1 := t) (by omega) (by omega) (by omega) (by omega)) (by decide) (by decide), ?_⟩
  rintro A3 hok3 ⟨f3, l3, n3, u3, c3⟩
  have g3 : pf x A A3 := pf.rf.own f3 (fun _ _ q => q) hxl
  have h3 : PS G A3 x D t op := h.fr f3 (fun _ _ q => q)
  refine ⟨hs_t2 h3.1, _, s_X1_opens h3 (fun q => hE.fl t g3 (Nat.le_refl _) (by omega) (by omega) (by omega) (by rw [pCall, pOpen, if_neg q])) (fun q e => hE.fl t g3 (Nat.le_refl _) (by omega) (by omega) (by omega) (by rw [pCall, pOpen, if_pos q, if_pos (by omega)])), ?_⟩
  rintro A4 hok4 ⟨q4, ho, h4, f4, n4, u4⟩
  obtain ⟨d', rfl⟩ : ∃ d', d = d' + 1 := ⟨d - 1, by omega⟩
  have eP : pCall D (pE' D (d' + 1)) (d' + 1) p nm t = (if tK D (t + 1) = 63 then .ok (nd 4 [p, p, nm, tP D (t + 1)] lf lf, t + 2) else pAnd (pArgs D (pE D d') D.length (t + 1)) fun s t1 => pNeed D 63 t1 (.ok (nd 4 [p, p, nm, tP D t1] s lf, t1 + 1))) := by rw [pCall, pOpen, if_pos q4, if_neg (by omega)]; rfl
  rw [eP] at hE ⊢
  have ht4 := h4.lt
  have g4 := g3.tr f4
  have l4 : xL G A4 A.n [] := l3.fr' hok3 hok4 f4.1 (N := fun a => A.n ≤ a) (h3.kx (by omega)) (Nat.le_refl _)
  have c4 : xcap A4 A.n = 2 := (xcap.fr l3 hok3 f4.1 (by show ¬ A.n = x + 2; omega)).trans c3
  refine ⟨hs_t2 h4.1, _, s_X1_is h4, ?_⟩
  rintro v6 _ _ _ ⟨hv6, rfl⟩
  refine ⟨fun A8 => ∃ s vs t8, (if tK D (t + 1) = 63 then .ok (nd 4 [p, p, nm, tP D (t + 1)] lf lf, t + 2) else pAnd (pArgs D (pE D d') D.length (t + 1)) fun s t1 => pNeed D 63 t1 (.ok (nd 4 [p, p, nm, tP D t1] s lf, t1 + 1))) = pNeed D 63 t8 (.ok (nd 4 [p, p, nm, tP D t8] s lf, t8 + 1)) ∧ PS G A8 x D t8 (op + 1) ∧ pf x A A8 ∧ xL G A8 A.n vs ∧ rX G A8 (fun a => A.n < a) s [] vs ∧ xok G A8 ∧ t + 1 ≤ t8 ∧ A8.n ≤ A.n + 24 * (t8 - t) + 4 ∧ A8.u ≤ A.u + 128 * (t8 - t) + 4, ?_, ?_, ?_⟩
  · rintro A8 ⟨s, vs, t8, e8, h8, g8, l8, x8, hok8, le8, n8, u8⟩
    rw [e8] at hE ⊢
    have ht8 := h8.lt
    refine ⟨hs_t2 h8.1, _, s_X1_here h8, ?_⟩
    rintro _ _ _ ⟨rfl, rfl⟩
    refine ⟨hs_t2 h8.1, _, s_X1_closes h8 (by omega) (fun q => hE.fl t8 g8 (by omega) (by omega) (by omega) (by omega) (if_neg q)), ?_⟩
    rintro A11 hok11 ⟨q11, h11, f11, n11, u11⟩
    have g11 := g8.tr f11
    have hle := g11.1.1
    have ht11 := h11.lt
    refine ⟨(hr.rr (A1 := A11) (t1 := t8 + 1) (c := 1) (s := 5) (by omega) (by omega) (by omega) (by omega)).o, ?_⟩
    rintro _ rfl
    refine ⟨_, s_X17_init (by rw [gN_tg, if_pos rfl]), ?_⟩
    rintro _ hok15 rfl
    have f15 : Fr (fun a => a = A11.n) A11 ((((((A11.new 16 0 5 0).setI A11.n 0 p).setI A11.n 2 p).setI A11.n 1 nm).setP A11.n 4 (some A.n)).setI A11.n 3 (tP D t8)) := Fr.fn.fs.fs.fs.fp.fs
    have g15 := g11.own f15 (fun a ha q => by omega) hxl
    refine ⟨A11.n, nd 4 [p, p, nm, tP D t8] s lf, t8 + 1, if_pos q11, rfl, h11.fr f15 (fun a ha q => by have := h11.1.lt; omega), g15, by omega, ?_, ?_, by show 4 ≤ 8; decide, ?_⟩
    · show A11.n + 1 ≤ _
      omega
    · show A11.u + 5 ≤ _
      omega
    · refine ⟨rfl, A11.n, A.n, vs, rfl, hle, ?_⟩
      have l15 := (l8.fr' hok8 hok11 f11.1 (N := fun a => A.n ≤ a) (h8.kx (by omega)) (Nat.le_refl _)).fr' hok11 hok15 f15 (N := fun a => A.n ≤ a) (Kp.nw (Nat.le_refl _)) (Nat.le_refl _)
      have x15 := rX.fr hok11 hok15 f15 _ (Kp.nw (Nat.le_refl _)) (rX.mn (N' := fun a => A.n ≤ a ∧ a ≠ A11.n) hok11 _ (fun a q q' => ⟨by omega, by omega⟩) (rX.fr hok8 hok11 f11.1 _ (h8.kx (by omega)) x8))
      refine ⟨?_, ?_, ?_, ?_, ?_, ?_, Nat.le_refl _, l15, x15⟩ <;> grind [gI_I, gI_L, gI_P, gI_tg, gI_ln, gI_gh, gI_n, gI_u, gL_I, gL_L, gL_P, gL_tg, gL_ln, gL_gh, gL_n, gL_u, gP_I, gP_L, gP_P, gP_tg, gP_ln, gP_gh, gP_n, gP_u, gN_I, gN_L, gN_P, gN_tg, gN_ln, gN_gh, gN_n, gN_u]
  · intro e6
    have q6 : ¬ tK D (t + 1) = 63 := by
      rcases hv6 with ⟨rfl, q⟩ | ⟨rfl, q⟩
      · exact absurd e6 (by decide)
      · exact q
    rw [if_neg q6] at hE ⊢
    refine ⟨fun n16 A16 => ∃ as vs t16 f, pArgs D (pE D d') D.length (t + 1) = pAnd (pArgs D (pE D d') f t16) (fun s t2 => .ok (tApp as s, t2)) ∧ D.length - t16 < f ∧ n16 = D.length - t16 ∧ PS G A16 x D t16 (op + 1) ∧ pf x A A16 ∧ xL G A16 A.n vs ∧ rXs G A16 (fun a => A.n < a) as vs ∧ xok G A16 ∧ t + 1 + vs.length ≤ t16 ∧ A16.n ≤ A.n + 2 + 24 * (t16 - (t + 1) - vs.length) + vs.length ∧ A16.u + 1 ≤ A.u + 128 * (t16 - (t + 1) - vs.length) + 3 * xcap A16 A.n + vs.length ∧ xcap A16 A.n ≤ 2 * vs.length + 10, ⟨_, [], [], t + 1, D.length, ?_, by omega, rfl, h4, g4, l4, trivial, hok4, Nat.le_refl _, ?_, ?_, ?_⟩, ?_⟩
    · cases pArgs D (pE D d') D.length (t + 1) <;> rfl
    · show A4.n ≤ A.n + 2 + 24 * (t + 1 - (t + 1) - 0) + 0
      omega
    · show A4.u + 1 ≤ A.u + 128 * (t + 1 - (t + 1) - 0) + 3 * xcap A4 A.n + 0
      omega
    · show xcap A4 A.n ≤ 2 * 0 + 10
      omega
    · rintro _ A16 ⟨as, vs, t16, f, e16, hf16, rfl, h16, g16, l16, x16, hok16, le16, n16, u16, c16⟩
      obtain ⟨f, rfl⟩ : ∃ f', f = f' + 1 := ⟨f - 1, by omega⟩
      have ht16 := h16.lt
      have hle := h16.le
      refine ⟨hs_t2 h16.1, _, h0 d' rfl A16 t16 E h16 (hr.sub (by omega) (by omega) (by omega) (by omega)) (hE.sub g16 (by omega) (by omega) (by omega) (fun f e => by rw [e16, pArgs, e]; rfl)), ?_⟩
      rintro _ A17 hok17 ⟨e, tr, t17, r17, rfl, h17, g17, l17, n17, u17, i17, x17⟩
      have ht17 := h17.lt
      have l17' := l16.fr' hok16 hok17 g17.1 (N := fun a => A.n ≤ a) (h16.kx (by omega)) (Nat.le_refl _)
      have c17 : xcap A17 A.n = xcap A16 A.n := xcap.fr l16 hok16 g17.1 (by show ¬ A.n = x + 2; omega)
      have x17' := rXs.fr hok16 hok17 g17.1 (h16.kx (by omega)) x16
      have hAn : A.n < A17.n := hok17.1.lt l17'.1
      refine ⟨l17'.1, _, s_J5_add l17' (rX.ob i17 x17).2.2.el (by omega) (hr.rr (A1 := A17) (t1 := t17) (by omega) (by omega) (by omega) (by omega)), ?_⟩
      rintro _ A19 hok19 _ ⟨rfl, a19⟩
      have g19 : pf x A A19 := (g16.tr g17).add h17.g a19 (Nat.le_refl _) hAn hxl
      have hAn6 : A.n < A16.n := hok16.1.lt l16.1
      have h19 : PS G A19 x D t17 (op + 1) := h17.ad a19 (by have := h.1.lt; omega) hAn
      have x19 : rXs G A19 (fun a => A.n < a) (as ++ [tr]) (vs ++ [e]) := rXs.fr hok17 hok19 (a19.fr hAn) (Kp.li h17.g l17'.1 (by omega)) (rXs.snoc (rX.mn hok17 _ (fun a q _ => by omega) x17) x17')
      have n19 := a19.2.2.1
      have u19 := a19.2.2.2.1
      have c19 := a19.2.2.2.2.1
      refine ⟨hs_t2 h19.1, _, s_X1_takes h19, ?_⟩
      rintro v21 A21 hok21 _ (⟨rfl, q21, h21, f21, n21, u21⟩ | ⟨rfl, q21, rfl⟩)
      · refine ⟨fun q => absurd q (by decide), fun _ => ?_⟩
        have ht21 := h21.lt
        refine ⟨D.length - (t17 + 1), by omega, as ++ [tr], vs ++ [e], t17 + 1, f, ?_, by omega, rfl, h21, g19.tr f21, a19.1.fr' hok19 hok21 f21.1 (N := fun a => A.n ≤ a) (h19.kx (by omega)) (Nat.le_refl _), rXs.fr hok19 hok21 f21.1 (h19.kx (by omega)) x19, hok21, ?_⟩
        · rw [e16, pArgs, r17]
          show pAnd (if tK D t17 = 68 then _ else _) _ = _
          rw [if_pos q21]
          cases pArgs D (pE D d') f (t17 + 1) with
          | error e => rfl
          | ok q => exact congrArg (fun z => Except.ok (z, q.2)) tApp_snoc.symm
        · rw [xcap.fr a19.1 hok19 f21.1 (by show ¬ A.n = x + 2; omega), List.length_append]
          show t + 1 + (vs.length + 1) ≤ t17 + 1 ∧ A21.n ≤ A.n + 2 + 24 * (t17 + 1 - (t + 1) - (vs.length + 1)) + (vs.length + 1) ∧ A21.u + 1 ≤ A.u + 128 * (t17 + 1 - (t + 1) - (vs.length + 1)) + 3 * xcap A19 A.n + (vs.length + 1) ∧ xcap A19 A.n ≤ 2 * (vs.length + 1) + 10
          omega
      · refine ⟨fun _ => ?_, fun q => absurd rfl q⟩
        refine ⟨tApp (as ++ [tr]) lf, vs ++ [e], t17, ?_, h19, g19, a19.1, by have := rXs.app (s := lf) (ws := []) ⟨rfl, rfl⟩ x19; rwa [List.append_nil] at this, hok19, by omega, by omega, by omega⟩
        rw [e16, pArgs, r17]
        show pAnd (pAnd (if tK D t17 = 68 then _ else _) _) _ = _
        rw [if_neg q21, tApp_snoc]
        rfl
  · intro e6
    have q6 : tK D (t + 1) = 63 := by
      rcases hv6 with ⟨rfl, q⟩ | ⟨rfl, q⟩
      · exact q
      · exact absurd rfl e6
    refine ⟨lf, [], t + 1, ?_, h4, g4, l4, ⟨rfl, rfl⟩, hok4, Nat.le_refl _, by omega, by omega⟩
    rw [if_pos q6, pNeed, if_pos q6]
end HE
