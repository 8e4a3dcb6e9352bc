/-! ===== the House's parser: read ===== -/
set_option maxRecDepth 100000
def uApp (as : List Tr) (s : Tr) : Tr := as.foldr (fun a s => nd 46 [] a s) s
theorem uApp_snoc {as : List Tr} {a s : Tr} : uApp (as ++ [a]) s = uApp as (nd 46 [] a s) := by simp [uApp]
def rTs (G : xG) (A : xA) (x : Nat) (N : Nat → Prop) : Tr → List Nat → Prop
  | .leaf, es => es = []
  | .inner k _ _ l r, es => k = 46 ∧ ∃ v vs, es = v :: vs ∧ rT G A x N v l ∧ rTs G A x N r vs
def rTl (G : xG) (A : xA) (x : Nat) (N : Nat → Prop) : List Tr → List Nat → Prop
  | [], [] => True
  | t :: ts, v :: vs => rT G A x N v t ∧ rTl G A x N ts vs
  | _, _ => False
/-- what a reading leaves: x is the House, A was the world ahead -/
def rdF (x : Nat) (a : Nat) : Prop := a = x + 2 ∨ a = x + 3 ∨ (x + 6 ≤ a ∧ a ≤ x + 10)
def RQ (G : xG) (x n : Nat) (tx : Nat → Int32) (A : xA) (v : Option Nat) (B : xA) : Prop := xHs G B x ∧ gw B ∧ Fr (rdF x) A B ∧ B.n ≤ A.n + 24 * n + 40 ∧ B.u ≤ A.u + 136 * n + 200 ∧ ((∃ f, pTs (tz tx n 0 []).1 (isM tx (tz tx n 0 []).2) ((tz tx n 0 []).1.length + 1) 0 = .error f ∧ v = none ∧ B.I (x + 2) 5 = f.1 ∧ B.I (x + 2) 6 = f.2) ∨
  ∃ ts t1 al es, pTs (tz tx n 0 []).1 (isM tx (tz tx n 0 []).2) ((tz tx n 0 []).1.length + 1) 0 = .ok (ts, t1) ∧ v = some al ∧ A.n ≤ al ∧ xL G B al es ∧ es.length ≤ n ∧ rTs G B x (fun a => A.n ≤ a ∧ a ≠ al) ts es)
section HR2
variable {G : xG} {A A1 B : xA} {x al n : Nat} {N N' S S' : Nat → Prop} {tx : Nat → Int32}
theorem Kp.or (h : Kp S N A) (h' : Kp S' N A) : Kp (fun a => S a ∨ S' a) N A := ⟨fun a h1 h2 h3 q => q.elim (h.1 a h1 h2 h3) (h'.1 a h1 h2 h3), fun a l h1 h2 h3 h4 q => q.elim (h.2 a l h1 h2 h3 h4) (h'.2 a l h1 h2 h3 h4)⟩
theorem rTl.snoc {a : Tr} {v : Nat} (ha : rT G A x N v a) : ∀ {ts : List Tr} {vs : List Nat}, rTl G A x N ts vs → rTl G A x N (ts ++ [a]) (vs ++ [v])
  | [], [], _ => ⟨ha, trivial⟩
  | t :: ts, w :: vs, h => ⟨h.1, rTl.snoc ha h.2⟩
  | [], _ :: _, h => h.elim
  | _ :: _, [], h => h.elim
theorem rTl.app {s : Tr} {ws : List Nat} (hs : rTs G A x N s ws) : ∀ {ts : List Tr} {vs : List Nat}, rTl G A x N ts vs → rTs G A x N (uApp ts s) (vs ++ ws)
  | [], [], _ => hs
  | t :: ts, w :: vs, h => ⟨rfl, w, vs ++ ws, rfl, h.1, rTl.app hs h.2⟩
  | [], _ :: _, h => h.elim
  | _ :: _, [], h => h.elim
theorem rTl.fr (hw : xok G A) (hwB : xok G B) (hf : Fr S A B) (hS : Kp S N A) : ∀ {ts : List Tr} {vs : List Nat}, rTl G A x N ts vs → rTl G B x N ts vs
  | [], [], _ => trivial
  | t :: ts, w :: vs, h => ⟨rT.fr hw hwB hf hS h.1, rTl.fr hw hwB hf hS h.2⟩
  | [], _ :: _, h => h.elim
  | _ :: _, [], h => h.elim
theorem s_X1_read (hO : xHO G) (hH : xHs G A x) (hS : xSg G A x) (hg : gw A) (hn : n ≤ 4000) (htx : ∀ k, k < n → A.I (x + 1) k &&& 255 = tx k ∧ A.I (x + 1) k = (tx k).toInt8.toInt32) (hr : rm G A (24 * n + 40) (136 * n + 200)) : w_X1_read G (x + 2) (some (x + 1)) (nI n) (RQ G x n tx A) A := by
  intro hok
  have hN := hH.1
  have hl := hH.lt
  obtain ⟨hD, hnm, hnl, hnk, hDl⟩ := (tz_wf (tx := tx) (n := n) n 0 [] (by omega) (by omega) (fun z hz => by simp at hz)).wf hn
  refine ⟨hs_t2 hH, _, hs_P2_0 hH, hs_t3 hH, _, s_X2_scan hO hH hS hn htx (Q := fun B => ∃ J', scFr A.I J' x ∧ tkA J' x (tz tx n 0 []).1 ∧ nmA J' x (tz tx n 0 []).2 ∧ J' (x + 3) 8 = nI n ∧ (A.setP (x + 3) 7 (some (x + 1))).wI J' = B) (fun J' j1 j2 j3 j4 => ⟨J', j1, j2, j3, j4, rfl⟩), ?_⟩
  rintro _ hok2 ⟨J', j1, j2, j3, j4, rfl⟩
  have F2 : Fr (rdF x) A ((A.setP (x + 3) 7 (some (x + 1))).wI J') := by
    refine ⟨Nat.le_refl _, Nat.le_refl _, fun q => q, fun a ha => ⟨⟨rfl, rfl, rfl⟩, fun q k => ⟨j1 a k ?_ ?_ ?_ ?_ ?_ ?_, rfl, ?_⟩⟩⟩
    · rintro ⟨rfl, -⟩
      exact q (Or.inr (Or.inl rfl))
    all_goals try (rintro rfl; exact q (Or.inr (Or.inr ⟨by omega, by omega⟩)))
    show xup A.P (x + 3) 7 (some (x + 1)) a k = _
    exact xup_a (by rintro rfl; exact q (Or.inr (Or.inl rfl)))
  have H2 : xHs G ((A.setP (x + 3) 7 (some (x + 1))).wI J') x := xHs_37 hH
  have g2 : gw ((A.setP (x + 3) 7 (some (x + 1))).wI J') := hg
  have C2 : TC x (tz tx n 0 []).1 (tz tx n 0 []).2 tx n ((A.setP (x + 3) 7 (some (x + 1))).wI J') := by
    refine ⟨xup_s, ⟨j4, hn, fun k hk => ?_⟩, j3, hnm, hnl, hnk⟩
    show J' (x + 1) k &&& 255 = tx k ∧ J' (x + 1) k = _
    rw [j1 (x + 1) k (fun z => by omega) (by omega) (by omega) (by omega) (by omega) (by omega)]
    exact htx k hk
  have T2 : tkA ((A.setP (x + 3) 7 (some (x + 1))).wI J').I x (tz tx n 0 []).1 := j2
  have nn2 : ((A.setP (x + 3) 7 (some (x + 1))).wI J').n = A.n := rfl
  have uu2 : ((A.setP (x + 3) 7 (some (x + 1))).wI J').u = A.u := rfl
  generalize (A.setP (x + 3) 7 (some (x + 1))).wI J' = A2 at *
  clear j1 j2 j3 j4
  show _ ∧ _
  have hRQ : ∀ v B, RQ G x n tx A v B = (xHs G B x ∧ gw B ∧ Fr (rdF x) A B ∧ B.n ≤ A.n + 24 * n + 40 ∧ B.u ≤ A.u + 136 * n + 200 ∧ ((∃ f, pTs (tz tx n 0 []).1 (isM tx (tz tx n 0 []).2) ((tz tx n 0 []).1.length + 1) 0 = .error f ∧ v = none ∧ B.I (x + 2) 5 = f.1 ∧ B.I (x + 2) 6 = f.2) ∨
    ∃ ts t1 al es, pTs (tz tx n 0 []).1 (isM tx (tz tx n 0 []).2) ((tz tx n 0 []).1.length + 1) 0 = .ok (ts, t1) ∧ v = some al ∧ A.n ≤ al ∧ xL G B al es ∧ es.length ≤ n ∧ rTs G B x (fun a => A.n ≤ a ∧ a ≠ al) ts es)) := fun _ _ => rfl
  simp only [hRQ]
  clear hRQ
  generalize (tz tx n 0 []).1 = D at *
  generalize (tz tx n 0 []).2 = nms at *
  refine ⟨hs_t2 H2, ?_⟩
  rintro _ rfl _ rfl _ rfl
  have F8 : Fr (fun a => a = x + 2) A2 (((A2.setI (x + 2) 3 0).setI (x + 2) 4 0).setI (x + 2) 5 0) := ((Fr.rf.fs).fs).fs
  have hok8 : xok G (((A2.setI (x + 2) 3 0).setI (x + 2) 4 0).setI (x + 2) 5 0) := ((hok2.setI (by omega)).setI (by omega)).setI (by omega)
  have H8 : xHs G (((A2.setI (x + 2) 3 0).setI (x + 2) 4 0).setI (x + 2) 5 0) x := H2
  have i8 : (((A2.setI (x + 2) 3 0).setI (x + 2) 4 0).setI (x + 2) 5 0).I (x + 2) 3 = nI 0 ∧ (((A2.setI (x + 2) 3 0).setI (x + 2) 4 0).setI (x + 2) 5 0).I (x + 2) 4 = nI 0 := by
    rw [nI_0]
    refine ⟨?_, ?_⟩ <;> grind [gI_I, gI_L, gI_P, gI_tg, gI_ln, gI_gh, gI_n, gI_u, gL_I, gL_L, gL_P, gL_tg, gL_ln, gL_gh, gL_n, gL_u, gP_I, gP_L, gP_P, gP_tg, gP_ln, gP_gh, gP_n, gP_u, gN_I, gN_L, gN_P, gN_tg, gN_ln, gN_gh, gN_n, gN_u]
  have nn8 : (((A2.setI (x + 2) 3 0).setI (x + 2) 4 0).setI (x + 2) 5 0).n = A2.n := rfl
  have uu8 : (((A2.setI (x + 2) 3 0).setI (x + 2) 4 0).setI (x + 2) 5 0).u = A2.u := rfl
  have g8 : gw (((A2.setI (x + 2) 3 0).setI (x + 2) 4 0).setI (x + 2) 5 0) := g2
  generalize ((A2.setI (x + 2) 3 0).setI (x + 2) 4 0).setI (x + 2) 5 0 = A8 at *
  refine ⟨(hr.sub (A1 := A8) (c1 := 1) (s1 := 3) (by omega) (by omega)).o, ?_⟩
  rintro _ rfl
  refine ⟨_, s_J5_new0 hO hok8, ?_⟩
  rintro A11 hok11 ⟨f11, l11, n11, u11, c11⟩
  have H11 : xHs G A11 x := H8.fr f11 (fun _ _ q => q)
  refine ⟨hs_t2 H11, ?_⟩
  rintro _ rfl
  have f13 : Fr (fun a => a = x + 2) A11 (A11.setP (x + 2) 7 (some A8.n)) := Fr.setP rfl
  have hok13 : xok G (A11.setP (x + 2) 7 (some A8.n)) := hok11.setP (by omega)
  have F13 : Fr (fun a => a = x + 2) A2 (A11.setP (x + 2) 7 (some A8.n)) := (F8.tr f11 (fun _ _ q => q.elim)).tr f13 (fun _ _ q => q)
  have H13 : xHs G (A11.setP (x + 2) 7 (some A8.n)) x := by
    refine ⟨H11.1, H11.2.1, H11.2.2.1, fun q hq => ?_⟩
    have h1 : ∀ q ∈ hRef, ¬ (q.1 = 2 ∧ q.2.1 = 7) := by decide
    have := h1 q hq
    rw [gP_P, if_neg (by omega)]
    exact H11.2.2.2 q hq
  have C13 : TC x D nms tx n (A11.setP (x + 2) 7 (some A8.n)) := C2.fr (by omega) F13 (fun a _ q z => q z)
  have P13 : (A11.setP (x + 2) 7 (some A8.n)).P (x + 2) 7 = some A8.n := by rw [gP_P, if_pos ⟨rfl, rfl⟩]
  have p13 : PS G (A11.setP (x + 2) 7 (some A8.n)) x D 0 0 := by
    have q : ∀ a k, a < x + 110 → a ≠ x + 2 → (A11.setP (x + 2) 7 (some A8.n)).I a k = A2.I a k := fun a k h1 h2 => F13.I (by omega) h2
    refine ⟨H13, T2.same (fun i => q _ _ (by omega) (by omega)) (fun i => q _ _ (by omega) (by omega)) (fun i => q _ _ (by omega) (by omega)), hD, hD.1, by decide, (f11.I (by omega) (fun q => q)).trans i8.1, (f11.I (by omega) (fun q => q)).trans i8.2, ?_⟩
    exact f13.2.2.1 (f11.2.2.1 g8)
  have l13 : xL G (A11.setP (x + 2) 7 (some A8.n)) A8.n [] := l11.fr' hok11 hok13 f13 (N := fun a => a = A8.n) (Kp.one (by rw [hs_t2 H11]; decide) (by omega)) rfl
  have c13 : xcap (A11.setP (x + 2) 7 (some A8.n)) A8.n = 0 := (xcap.fr l11 hok11 f13 (by omega)).trans c11
  have nn13 : (A11.setP (x + 2) 7 (some A8.n)).n = A11.n := rfl
  have uu13 : (A11.setP (x + 2) 7 (some A8.n)).u = A11.u := rfl
  generalize A11.setP (x + 2) 7 (some A8.n) = A13 at *
  have G13 : Fr (rdF x) A A13 := F2.tr F13 (fun a _ q => Or.inl q)
  have hDL := hD.2.1
  refine ⟨fun m A14 => ∃ ts es t14 f, pTs D (isM tx nms) (D.length + 1) 0 = pAnd (pTs D (isM tx nms) f t14) (fun s t2 => .ok (uApp ts s, t2)) ∧ D.length - t14 < f ∧ m = D.length - t14 ∧ xok G A14 ∧ PS G A14 x D t14 0 ∧ Fr (rdF x) A A14 ∧ A14.P (x + 2) 7 = some A8.n ∧ TC x D nms tx n A14 ∧ xL G A14 A8.n es ∧ rTl G A14 x (fun a => A.n ≤ a ∧ a ≠ A8.n) ts es ∧ es.length ≤ t14 ∧ A14.n ≤ A.n + 1 + 24 * t14 ∧ A14.u ≤ A.u + 3 + 128 * t14 + 3 * xcap A14 A8.n ∧ xcap A14 A8.n ≤ 2 * es.length + 10, ⟨_, [], [], 0, D.length + 1, ?_, by omega, rfl, hok13, p13, G13, P13, C13, l13, trivial, Nat.le_refl _, by omega, by omega, by omega⟩, ?_⟩
  · cases pTs D (isM tx nms) (D.length + 1) 0 <;> rfl
  rintro _ A14 ⟨ts, es, t14, f, e14, hf14, rfl, hok14, p14, F14, P14, C14, l14, x14, le14, n14, u14, c14⟩
  obtain ⟨f, rfl⟩ : ∃ f', f = f' + 1 := ⟨f - 1, by omega⟩
  have ht14 := p14.lt
  have hl14 := p14.1.lt
  have hal : A8.n < A14.n := hok14.1.lt l14.1
  refine ⟨hs_t2 p14.1, _, s_X1_kind p14, ?_⟩
  rintro _ _ _ ⟨rfl, rfl⟩
  refine ⟨fun q => ?_, fun q => ?_⟩
  · have xx := rTl.app (s := lf) (ws := []) (N := fun a => A.n ≤ a ∧ a ≠ A8.n) (G := G) (A := A14) (x := x) rfl x14
    rw [List.append_nil] at xx
    refine ⟨hs_t2 p14.1, p14.1, p14.g, F14, by omega, by omega, Or.inr ⟨uApp ts lf, t14, A8.n, es, ?_, P14, by omega, l14, by omega, xx⟩⟩
    rw [e14, pTs, if_pos q]
    rfl
  · have hTS : TS G x D A8.n es A14 t14 A14 t14 0 := ⟨by omega, hal, hok14, l14, P14, by omega, ⟨by have := hr.1; omega, by have := hr.2; omega⟩, p14, pf.rf, Nat.le_refl _⟩
    refine ⟨hs_t2 p14.1, TQ G x D A8.n es A14 t14 (pT D (isM tx nms) t14), fun a B => a = x + 11 ∧ xHs G B x ∧ gw B ∧ Fr (rdF x) A B ∧ B.n ≤ A.n + 24 * n + 40 ∧ B.u ≤ A.u + 136 * n + 200 ∧ ∃ f, pTs D (isM tx nms) (D.length + 1) 0 = .error f ∧ B.I (x + 2) 5 = f.1 ∧ B.I (x + 2) 6 = f.2, s_X1_told hO C14 hTS ?_, ?_, ?_⟩
    · intro fl B t1 q1 q2 q3 q4 q5 q6 q7 q8
      refine ⟨rfl, p14.1.pf q2, q2.1.2.2.1 p14.g, F14.tr q2.1 (fun a _ z => Or.inl z), by omega, by omega, fl, ?_, q7, q8⟩
      rw [e14, pTs, if_neg q, q1]
      rfl
    · rintro _ B ⟨rfl, b1, b2, b3, b4, b5, f, b6, b7, b8⟩
      exact ⟨hs_t11 b1, fun _ => ⟨b1, b2, b3, b4, b5, Or.inl ⟨f, b6, trivial, b7, b8⟩⟩⟩
    · rintro A18 hok18 ⟨e, tr, t18, r18, p18, f18, P18, l18, x18, lt18, n18, u18, c18⟩
      have ht18 := p18.lt
      have hS18 : ∀ a, a < x + 110 → a ≠ x + 2 → ¬ (a = x + 2 ∨ a = A8.n ∨ A14.gh a = 1000 + A8.n) := by
        rintro a h1 h2 (z | z | z)
        · exact h2 z
        · omega
        · have := (p14.g a _ (by omega) z).1
          omega
      have F18 : Fr (rdF x) A A18 := F14.tr f18 fun a ha z => by
        rcases z with z | z | z
        · exact Or.inl z
        · omega
        · have := (p14.g a _ (by omega) z).1
          omega
      have hc18 : xcap A18 A8.n ≤ 2 * (es.length + 1) + 10 := by
        have : xcap A18 A8.n ≤ max (xcap A14 A8.n) (2 * es.length + 10) := c18
        omega
      refine ⟨D.length - t18, by omega, ts ++ [tr], es ++ [e], t18, f, ?_, by omega, rfl, hok18, p18, F18, (P18 7).trans P14, C14.fr (by omega) f18 hS18, l18, ?_, ?_⟩
      · rw [e14, pTs, if_neg q, r18]
        show pAnd (pAnd (pTs D (isM tx nms) f t18) _) _ = _
        cases pTs D (isM tx nms) f t18 with
        | error e => rfl
        | ok q => exact congrArg (fun z => Except.ok (z, q.2)) uApp_snoc.symm
      · refine rTl.snoc (rT.mn hok18 (fun a z _ => ⟨by have := F14.1; omega, by omega⟩) x18) (rTl.fr hok14 hok18 f18 ((p14.kx (by omega)).or (Kp.li p14.g l14.1 (fun z => z.2 rfl))) x14)
      · rw [List.length_append]
        show es.length + 1 ≤ t18 ∧ A18.n ≤ A.n + 1 + 24 * t18 ∧ A18.u ≤ A.u + 3 + 128 * t18 + 3 * xcap A18 A8.n ∧ xcap A18 A8.n ≤ 2 * (es.length + 1) + 10
        omega
end HR2
