/-! ===== the House's parser: blocks, choices, loops ===== -/
set_option maxRecDepth 100000
def sApp (as : List Tr) (s : Tr) : Tr := as.foldr (fun a s => nd 22 [] a s) s
theorem sApp_snoc {as : List Tr} {a s : Tr} : sApp (as ++ [a]) s = sApp as (nd 22 [] a s) := by simp [sApp]
def rSs (G : xG) (A : xA) (x : Nat) (N : Nat → Prop) : List Tr → List Nat → Prop
  | [], [] => True
  | t :: ts, v :: vs => rS G A x N t [some v] ∧ rSs G A x N ts vs
  | _, _ => False
section HB
variable {G : xG} {A A1 B : xA} {x t t1 op d z z1 : Nat} {D : tkL} {E : Nat → xA → Prop} {r : pR} {v : Option Nat} {N N' S : Nat → Prop}
variable {r0 r1 r2 r3 : oT}
theorem rSs.snoc {a : Tr} {v : Nat} (ha : rS G A x N a [some v]) : ∀ {ts : List Tr} {vs : List Nat}, rSs G A x N ts vs → rSs G A x N (ts ++ [a]) (vs ++ [v])
  | [], [], _ => ⟨ha, trivial⟩
  | t :: ts, w :: vs, h => ⟨h.1, rSs.snoc ha h.2⟩
  | [], _ :: _, h => h.elim
  | _ :: _, [], h => h.elim
theorem rSs.app {s : Tr} {ws : List Nat} (hs : rS G A x N s (ws.map some)) : ∀ {ts : List Tr} {vs : List Nat}, rSs G A x N ts vs → rS G A x N (sApp ts s) ((vs ++ ws).map some)
  | [], [], _ => hs
  | t :: ts, w :: vs, h => ⟨w, (vs ++ ws).map some, rfl, h.1, rSs.app hs h.2⟩
  | [], _ :: _, h => h.elim
  | _ :: _, [], h => h.elim
theorem rSs.fr (hw : xok G A) (hwB : xok G B) (hf : Fr S A B) (hS : Kp S N A) : ∀ {ts : List Tr} {vs : List Nat}, rSs G A x N ts vs → rSs G B x N ts vs
  | [], [], _ => trivial
  | t :: ts, w :: vs, h => ⟨rS.fr hw hwB hf hS _ h.1, rSs.fr hw hwB hf hS h.2⟩
  | [], _ :: _, h => h.elim
  | _ :: _, [], h => h.elim
theorem rSs.mn (hw : xok G A) (hn : ∀ a, N a → a < A.n → N' a) : ∀ {ts : List Tr} {vs : List Nat}, rSs G A x N ts vs → rSs G A x N' ts vs
  | [], [], _ => trivial
  | t :: ts, w :: vs, h => ⟨rS.mn hw hn _ h.1, rSs.mn hw hn h.2⟩
  | [], _ :: _, h => h.elim
  | _ :: _, [], h => h.elim
theorem s_X5_init (hO : xHO G) {p : Nat} (h : A.tg p = 5) (hp : p < A.n) (hr : rm G A 1 3) : w_X5_init G p (fun B => Fr (fun a => a = p) A B ∧ B.P p 0 = some A.n ∧ xL G B A.n [] ∧ xcap B A.n = 0 ∧ B.n = A.n + 1 ∧ B.u = A.u + 3) A := by
  intro hok
  refine ⟨_, s_X4_init, ?_⟩
  rintro _ _ rfl
  refine ⟨hr.o, ?_⟩
  rintro _ rfl
  refine ⟨_, s_J5_new0 hO hok, ?_⟩
  rintro A4 hok4 ⟨f4, l4, n4, u4, c4⟩
  have tg4 : A4.tg p = 5 := (f4.tg hp).trans h
  refine ⟨tg4, ?_⟩
  rintro _ rfl
  have f6 : Fr (fun a => a = p) A4 (A4.setP p 0 (some A.n)) := Fr.setP rfl
  have hN := xoldN hok4.2.2 hO.1 (c := 4) tg4 (by decide)
  have hok6 : xok G (A4.setP p 0 (some A.n)) := hok4.setP hN
  refine ⟨(f4.mono (fun _ _ q => q.elim)).tr f6 (fun _ _ q => q), by rw [gP_P, if_pos ⟨rfl, rfl⟩], l4.fr' hok4 hok6 f6 (N := fun a => a ≠ p) (Kp.one (by rw [tg4]; decide) (fun q => q rfl)) (by omega), (xcap.fr l4 hok4 f6 (by omega)).trans c4, n4, u4⟩
theorem s_X1_block (hO : xHO G) (h0 : ∀ d', d' + 1 = d → oU G x D r0 (pS D d') (op + 1)) (hop : op + d = 40) : oU G x D (w_X1_block G r0 r1 r2 r3) (pBlock D (pS' D d) d) op := by
  intro A t E h hr hE hok
  have ht := h.lt
  have hxl := h.xl
  have hl := h.1.lt
  have hN := h.1.1
  refine ⟨hs_t2 h.1, _, s_X1_opens h (fun q => hE.fl t pf.rf (by omega) (by omega) (by omega) (by omega) (by rw [pBlock, pOpen, if_neg q])) (fun q e => hE.fl t pf.rf (by omega) (by omega) (by omega) (by omega) (by rw [pBlock, pOpen, if_pos q, if_pos (by omega)])), ?_⟩
  rintro A1 hok1 ⟨q1, ho, p1, f1, n1, u1⟩
  obtain ⟨d', rfl⟩ : ∃ d', d = d' + 1 := ⟨d - 1, by omega⟩
  have eP : pBlock D (pS' D (d' + 1)) (d' + 1) t = pAnd (pSts D (pS D d') D.length (t + 1)) fun ss t1 => pNeed D 67 t1 (.ok (nd 21 [] ss lf, t1 + 1)) := by rw [pBlock, pOpen, if_pos q1, if_neg (by omega)]; rfl
  rw [eP] at hE ⊢
  have ht1 := p1.lt
  refine ⟨(hr.rr (A1 := A1) (t1 := t + 1) (c := 1) (s := 1) (by omega) (by omega) (by omega) (by omega)).o, ?_⟩
  rintro _ rfl
  have nn : (A1.new 5 0 1 0).n = A1.n + 1 := rfl
  have uu : (A1.new 5 0 1 0).u = A1.u + 1 := rfl
  refine ⟨_, s_X5_init hO (by rw [gN_tg, if_pos rfl]) (by omega) (hr.rr (t1 := t + 1) (by omega) (by omega) (by omega) (by omega)), ?_⟩
  rintro A5 hok5 ⟨f5, P5, l5, c5, n5, u5⟩
  rw [nn] at P5 l5 c5
  have F5 : Fr (fun a => a = A1.n) A1 A5 := (Fr.fn (A := A1)).tr f5 (fun a _ q => q)
  have p5 : PS G A5 x D (t + 1) (op + 1) := p1.fr F5 (fun a ha q => by omega)
  have g5 : pf x A A5 := f1.own F5 (fun a ha q => by omega) hxl
  have tg5 : A5.tg A1.n = 5 := by rw [f5.tg (by omega), gN_tg, if_pos rfl]
  refine ⟨fun n A6 => ∃ ss vs t6 f, pSts D (pS D d') D.length (t + 1) = pAnd (pSts D (pS D d') f t6) (fun s t2 => .ok (sApp ss s, t2)) ∧ D.length - t6 < f ∧ n = D.length - t6 ∧ PS G A6 x D t6 (op + 1) ∧ pf x A A6 ∧ xok G A6 ∧ A6.tg A1.n = 5 ∧ A6.P A1.n 0 = some (A1.n + 1) ∧ xL G A6 (A1.n + 1) vs ∧ rSs G A6 x (fun a => A.n ≤ a ∧ a ≠ A1.n ∧ a ≠ A1.n + 1) ss vs ∧ t + 1 + vs.length ≤ t6 ∧ A6.n + 7 * vs.length ≤ A.n + 2 + 24 * (t6 - (t + 1)) ∧ A6.u + 31 * vs.length ≤ A.u + 4 + 128 * (t6 - (t + 1)) + 3 * xcap A6 (A1.n + 1) ∧ xcap A6 (A1.n + 1) ≤ 2 * vs.length + 10, ⟨_, [], [], t + 1, D.length, ?_, by omega, rfl, p5, g5, hok5, tg5, P5, l5, trivial, by show t + 1 + 0 ≤ t + 1; omega, by show A5.n + 7 * 0 ≤ _; omega, by show A5.u + 31 * 0 ≤ _; omega, by omega⟩, ?_⟩
  · cases pSts D (pS D d') D.length (t + 1) <;> rfl
  rintro _ A6 ⟨ss, vs, t6, f, e6, hf, rfl, p6, f6, hok6, tg6, P6, l6, x6, le6, n6, u6, c6⟩
  have ht6 := p6.lt
  have hle6 := p6.le
  have hl6 := p6.1.lt
  have a6 := f6.1.1
  obtain ⟨f, rfl⟩ : ∃ f', f = f' + 1 := ⟨f - 1, by omega⟩
  have hA1 : A1.n + 1 < A6.n := hok6.1.lt l6.1
  refine ⟨hs_t2 p6.1, _, s_X1_is p6, ?_⟩
  rintro v7 _ _ _ ⟨⟨rfl, q7⟩ | ⟨rfl, q7⟩, rfl⟩
  · refine ⟨fun q => absurd q (by decide), fun _ => ?_⟩
    have eR : (pAnd (pSts D (pS D d') D.length (t + 1)) fun ss t1 => pNeed D 67 t1 (.ok (nd 21 [] ss lf, t1 + 1))) = pNeed D 67 t6 (.ok (nd 21 [] (sApp ss lf) lf, t6 + 1)) := by
      rw [e6, pSts, if_pos q7]
      rfl
    rw [eR] at hE ⊢
    refine ⟨hs_t2 p6.1, _, s_X1_closes p6 (by omega) (fun q => absurd q7 q), ?_⟩
    rintro A9 hok9 ⟨q9, p9, f9, n9, u9⟩
    have kx : ∀ {N : Nat → Prop}, ¬ N (x + 2) → Kp (fun a => a = x + 2) N A6 := fun q => p6.kx q
    have xx := rSs.app (s := lf) (ws := []) (N := fun a => A.n ≤ a) (G := G) (A := A9) (x := x) rfl (rSs.mn hok9 (fun a q _ => q.1) (rSs.fr hok6 hok9 f9.1 (kx (by omega)) x6))
    rw [List.append_nil] at xx
    refine ⟨A1.n, nd 21 [] (sApp ss lf) lf, t6 + 1, by rw [pNeed, if_pos q9], rfl, p9, f6.tr f9, by omega, by omega, by omega, Or.inr (Or.inl rfl), A1.n, A1.n + 1, vs, rfl, by omega, (f9.1.tg (by omega)).trans tg6, (f9.1.P (by omega) (by omega)).trans P6, by omega, l6.fr' hok6 hok9 f9.1 (N := fun a => A.n ≤ a) (kx (by omega)) (by omega), xx⟩
  · refine ⟨fun _ => ?_, fun q => absurd rfl q⟩
    refine ⟨tg6, hs_t2 p6.1, _, h0 d' rfl A6 t6 E p6 (hr.sub (by omega) (by omega) (by omega) (by omega)) (hE.sub f6 (by omega) (by omega) (by omega) (fun f e => by rw [e6, pSts, if_neg q7, e]; rfl)), ?_⟩
    rintro _ A12 hok12 ⟨e, tr, t12, r12, rfl, p12, f12, l12, n12, u12, i12, x12⟩
    have ht12 := p12.lt
    have l12' := l6.fr' hok6 hok12 f12.1 (N := fun a => A.n ≤ a) (p6.kx (by omega)) (by omega)
    have c12 : xcap A12 (A1.n + 1) = xcap A6 (A1.n + 1) := xcap.fr l6 hok6 f12.1 (by show ¬ A1.n + 1 = x + 2; omega)
    have a12 := f12.1.1
    refine ⟨A1.n + 1, P6, l12'.1, _, s_J5_add l12' (rS.ob p12.1 i12 x12).el (by omega) (hr.rr (A1 := A12) (t1 := t12) (by omega) (by omega) (by omega) (by omega)), ?_⟩
    rintro _ A14 hok14 _ ⟨rfl, a14⟩
    have f14 := a14.fr (by omega)
    have n14 := a14.2.2.1
    have u14 := a14.2.2.2.1
    have c14 := a14.2.2.2.2.1
    have p14 : PS G A14 x D t12 (op + 1) := p12.ad a14 (by omega) (by omega)
    have tg12 : A12.tg A1.n = 5 := (f12.1.tg (by omega)).trans tg6
    have hS14 : ¬ (A1.n = A1.n + 1 ∨ A12.gh A1.n = 1000 + (A1.n + 1)) := by
      rintro (q | q)
      · omega
      · have := (p12.g _ _ (by omega) q).1
        omega
    have hc14 : xcap A14 (A1.n + 1) ≤ 2 * (vs.length + 1) + 10 := by
      have : xcap A14 (A1.n + 1) ≤ max (xcap A12 (A1.n + 1)) (2 * vs.length + 10) := c14
      omega
    refine ⟨D.length - t12, by omega, ss ++ [tr], vs ++ [e], t12, f, ?_, by omega, rfl, p14, (f6.tr f12).add p12.g a14 (by omega) (by omega) hxl, hok14, (f14.tg (by omega)).trans tg12, (f14.P (by omega) hS14).trans ((f12.1.P (by omega) (by omega)).trans P6), a14.1, ?_, ?_⟩
    · rw [e6, pSts, if_neg q7, r12]
      show pAnd (pAnd (pSts D (pS D d') f t12) _) _ = _
      cases pSts D (pS D d') f t12 with
      | error e => rfl
      | ok q => exact congrArg (fun z => Except.ok (z, q.2)) sApp_snoc.symm
    · exact rSs.fr hok12 hok14 f14 (Kp.li p12.g l12'.1 (fun q => q.2.2 rfl)) (rSs.snoc (rS.mn hok12 (fun a q _ => ⟨by omega, by omega, by omega⟩) _ x12) (rSs.fr hok6 hok12 f12.1 (p6.kx (by omega)) x6))
    · rw [List.length_append]
      show t + 1 + (vs.length + 1) ≤ t12 ∧ A14.n + 7 * (vs.length + 1) ≤ A.n + 2 + 24 * (t12 - (t + 1)) ∧ A14.u + 31 * (vs.length + 1) ≤ A.u + 4 + 128 * (t12 - (t + 1)) + 3 * xcap A14 (A1.n + 1) ∧ xcap A14 (A1.n + 1) ≤ 2 * (vs.length + 1) + 10
      omega
end HB
