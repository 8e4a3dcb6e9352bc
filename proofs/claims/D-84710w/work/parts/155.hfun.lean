/-! ===== the House's parser: functions ===== -/
set_option maxRecDepth 100000
def fApp (as : List (List Int32)) (s : Tr) : Tr := as.foldr (fun ds s => nd 44 ds lf s) s
theorem fApp_snoc {as : List (List Int32)} {ds : List Int32} {s : Tr} : fApp (as ++ [ds]) s = fApp as (nd 44 ds lf s) := by simp [fApp]
def rFs (A : xA) (N : Nat → Prop) : List (List Int32) → List Nat → Prop
  | [], [] => True
  | t :: ts, v :: vs => rF A N (nd 44 t lf lf) [v] ∧ rFs A N ts vs
  | _, _ => False
section HF1
variable {G : xG} {A A0 A1 B : xA} {x t t0 t1 op al e : Nat} {D : tkL} {E : Nat → xA → Prop} {r : pR} {vs : List Nat} {tr : Tr} {N N' S : Nat → Prop}
theorem rF.cons {ds : List Int32} {s : Tr} {v : Nat} {ws : List Nat} (h : rF A N (nd 44 ds lf lf) [v]) (hs : rF A N s ws) : rF A N (nd 44 ds lf s) (v :: ws) := by
  unfold rF at h ⊢
  split at h
  · obtain ⟨v', ws', h1, h2, h3, h4, h5, h6, h7, h8, h9⟩ := h
    cases h1
    exact ⟨v, ws, rfl, h2, h3, h4, h5, h6, h7, h8, hs⟩
  · exact h.elim
theorem rFs.snoc {a : List Int32} {v : Nat} (ha : rF A N (nd 44 a lf lf) [v]) : ∀ {ts : List (List Int32)} {vs : List Nat}, rFs A N ts vs → rFs A N (ts ++ [a]) (vs ++ [v])
  | [], [], _ => ⟨ha, trivial⟩
  | t :: ts, w :: vs, h => ⟨h.1, rFs.snoc ha h.2⟩
  | [], _ :: _, h => h.elim
  | _ :: _, [], h => h.elim
theorem rFs.app {s : Tr} {ws : List Nat} (hs : rF A N s ws) : ∀ {ts : List (List Int32)} {vs : List Nat}, rFs A N ts vs → rF A N (fApp ts s) (vs ++ ws)
  | [], [], _ => hs
  | t :: ts, w :: vs, h => rF.cons h.1 (rFs.app hs h.2)
  | [], _ :: _, h => h.elim
  | _ :: _, [], h => h.elim
theorem rFs.fr (hw : xok G A) (hf : Fr S A B) (hS : Kp S N A) : ∀ {ts : List (List Int32)} {vs : List Nat}, rFs A N ts vs → rFs B N ts vs
  | [], [], _ => trivial
  | t :: ts, w :: vs, h => ⟨rF.fr hw hf hS _ h.1, rFs.fr hw hf hS h.2⟩
  | [], _ :: _, h => h.elim
  | _ :: _, [], h => h.elim
theorem pBlock_tr {P : Nat → pR} {d : Nat} (h : pBlock D P d t = .ok (tr, t1)) : ∃ ss, tr = nd 21 [] ss lf := by
  obtain ⟨-, -, h⟩ := pOpen_ok h
  obtain ⟨ss, t2, -, h⟩ := pAnd_ok h
  obtain ⟨-, h⟩ := pNeed_ok h
  cases h
  exact ⟨ss, rfl⟩
/-- a function's own numbers -/
def eF (A : xA) (e : Nat) (p nm vd mn : Int32) (fl : Nat) : Prop := A.tg e = 14 ∧ A.I e 0 = 6 ∧ A.I e 2 = p ∧ A.I e 1 = nm ∧ A.I e 4 = vd ∧ A.I e 5 = mn ∧ A.P e 8 = some fl
theorem eF.fr {p nm vd mn : Int32} {fl : Nat} (h : eF A e p nm vd mn fl) (hw : xok G A) (hf : Fr S A B) (hs : ¬ S e) : eF B e p nm vd mn fl := by
  have hl := hw.1.lt h.1
  unfold eF
  rw [hf.tg hl, hf.I hl hs, hf.I hl hs, hf.I hl hs, hf.I hl hs, hf.I hl hs, hf.P hl hs]
  exact h
theorem s_X1_function (hO : xHO G) {nms : List (Nat × Nat)} {tx : Nat → Int32} {n : Nat} {vd p nm : Int32} (hv : vd = 0 ∨ vd = 1) (hC : TC x D nms tx n A0) (hnm : ∃ j, j < nms.length ∧ nm = nI j) (h : TS G x D al vs A0 t0 A t 0) (he : A0.n ≤ e) (h0 : A.tg e = 14) (h1 : A.I e 0 = 6) (h2 : A.I e 2 = p) (h3 : A.I e 1 = nm) (hn : A.n + 20 ≤ A0.n + 24 * (t - t0)) (hu : A.u + 80 ≤ A0.u + 128 * (t - t0)) (hE : pX x D A0 t0 0 (pFun D (isM tx nms) vd p nm t) E) : w_X1_function G (x + 2) (some e) vd (TQ G x D al vs A0 t0 (pFun D (isM tx nms) vd p nm t)) E A := by
  intro hok
  have hp := h.2.2.2.2.2.2.2.1
  have hf := h.2.2.2.2.2.2.2.2.1
  have ht0 := h.2.2.2.2.2.2.2.2.2
  have ht := hp.lt
  have hl := hp.1.lt
  have hN := hp.1.1
  have hle := hp.le
  have hel := hok.1.lt h0
  have hal := h.1
  have hal2 := h.2.1
  have hxl : x + 2 < A0.n := by omega
  refine ⟨e, rfl, h0, hv, ?_⟩
  rintro _ rfl
  have f4 : Fr (fun a => a = e) A (A.setI e 4 vd) := Fr.setI rfl
  have p4 : PS G (A.setI e 4 vd) x D t 0 := hp.fr f4 (fun a ha q => by omega)
  have g4 : pf x A0 (A.setI e 4 vd) := hf.own f4 (fun a ha q => by omega) hxl
  have hok4 : xok G (A.setI e 4 vd) := hok.setI (by omega)
  have C4 : TC x D nms tx n (A.setI e 4 vd) := hC.pf (by omega) g4
  refine ⟨hs_t2 p4.1, _, hs_P2_0 hp.1, hs_t3 p4.1, ?_⟩
  rw [h3]
  refine ⟨_, s_X2_isMain hO p4.1 C4 hnm, ?_⟩
  rintro _ _ _ _ ⟨rfl, rfl⟩
  refine ⟨h0, ?_⟩
  rintro _ rfl
  have f10 : Fr (fun a => a = e) A ((A.setI e 4 vd).setI e 5 (isM tx nms nm)) := f4.fs
  have hok10 : xok G ((A.setI e 4 vd).setI e 5 (isM tx nms nm)) := hok4.setI (by omega)
  have p10 : PS G ((A.setI e 4 vd).setI e 5 (isM tx nms nm)) x D t 0 := hp.fr f10 (fun a ha q => by omega)
  have g10 : pf x A0 ((A.setI e 4 vd).setI e 5 (isM tx nms nm)) := hf.own f10 (fun a ha q => by omega) hxl
  have k10 : ((A.setI e 4 vd).setI e 5 (isM tx nms nm)).tg e = 14 ∧ ((A.setI e 4 vd).setI e 5 (isM tx nms nm)).I e 0 = 6 ∧ ((A.setI e 4 vd).setI e 5 (isM tx nms nm)).I e 2 = p ∧ ((A.setI e 4 vd).setI e 5 (isM tx nms nm)).I e 1 = nm ∧ ((A.setI e 4 vd).setI e 5 (isM tx nms nm)).I e 4 = vd ∧ ((A.setI e 4 vd).setI e 5 (isM tx nms nm)).I e 5 = isM tx nms nm := by
    refine ⟨h0, ?_, ?_, ?_, ?_, ?_⟩ <;> grind [gI_I, gI_L, gI_P, gI_tg, gI_ln, gI_gh, gI_n, gI_u, gL_I, gL_L, gL_P, gL_tg, gL_ln, gL_gh, gL_n, gL_u, gP_I, gP_L, gP_P, gP_tg, gP_ln, gP_gh, gP_n, gP_u, gN_I, gN_L, gN_P, gN_tg, gN_ln, gN_gh, gN_n, gN_u]
  have nn10 : ((A.setI e 4 vd).setI e 5 (isM tx nms nm)).n = A.n := rfl
  have uu10 : ((A.setI e 4 vd).setI e 5 (isM tx nms nm)).u = A.u := rfl
  generalize (A.setI e 4 vd).setI e 5 (isM tx nms nm) = A10 at *
  refine ⟨(h.rr (B := A10) t (c := 1) (s := 3) (by omega) (by omega) (by omega) (by omega)).o, ?_⟩
  rintro _ rfl
  refine ⟨_, s_J5_new2 (k := 2) hok10 (h.rr (B := A10) t (by omega) (by omega) (by omega) (by omega)) (by decide) (by decide), ?_⟩
  rintro A13 hok13 ⟨f13, l13, n13, u13, c13⟩
  have p13 : PS G A13 x D t 0 := p10.fr f13 (fun _ _ q => q)
  have g13 : pf x A0 A13 := g10.own f13 (fun _ _ q => q) hxl
  have hne : A10.n ≠ e := by omega
  have tg13 : A13.tg e = 14 := (f13.tg (by omega)).trans k10.1
  have i13 : ∀ k, A13.I e k = A10.I e k := fun k => f13.I (by omega) (fun q => q)
  refine ⟨tg13, ?_⟩
  rintro _ rfl
  have f15 : Fr (fun a => a = e) A13 (A13.setP e 8 (some A10.n)) := Fr.setP rfl
  have hok15 : xok G (A13.setP e 8 (some A10.n)) := hok13.setP (by omega)
  have p15 : PS G (A13.setP e 8 (some A10.n)) x D t 0 := p13.fr f15 (fun a ha q => by omega)
  have g15 : pf x A0 (A13.setP e 8 (some A10.n)) := g13.own f15 (fun a ha q => by omega) hxl
  have e15 : eF (A13.setP e 8 (some A10.n)) e p nm vd (isM tx nms nm) A10.n := ⟨tg13, (i13 _).trans k10.2.1, (i13 _).trans k10.2.2.1, (i13 _).trans k10.2.2.2.1, (i13 _).trans k10.2.2.2.2.1, (i13 _).trans k10.2.2.2.2.2, by grind [gI_I, gI_L, gI_P, gI_tg, gI_ln, gI_gh, gI_n, gI_u, gL_I, gL_L, gL_P, gL_tg, gL_ln, gL_gh, gL_n, gL_u, gP_I, gP_L, gP_P, gP_tg, gP_ln, gP_gh, gP_n, gP_u, gN_I, gN_L, gN_P, gN_tg, gN_ln, gN_gh, gN_n, gN_u]⟩
  have l15 : xL G (A13.setP e 8 (some A10.n)) A10.n [] := l13.fr' hok13 hok15 f15 (N := fun a => a ≠ e) (Kp.one (by rw [tg13]; decide) (fun q => q rfl)) hne
  have c15 : xcap (A13.setP e 8 (some A10.n)) A10.n = 2 := (xcap.fr l13 hok13 f15 hne).trans c13
  have nn15 : (A13.setP e 8 (some A10.n)).n = A13.n := rfl
  have uu15 : (A13.setP e 8 (some A10.n)).u = A13.u := rfl
  generalize A13.setP e 8 (some A10.n) = A15 at *
  have nx2 : e ≠ x + 2 := by omega
  refine ⟨hs_t2 p15.1, _, s_X1_opens p15 (fun q => hE.fl t g15 (by omega) (by omega) (by omega) (by omega) (by rw [pFun, pOpen, if_neg q])) (fun q e => absurd e (by decide)), ?_⟩
  rintro A16 hok16 ⟨q16, ho, p16, f16, n16, u16⟩
  rw [pFun, pOpen, if_pos q16, if_neg (by decide)] at hE ⊢
  have ht16 := p16.lt
  have g16 := g15.tr f16
  have a16 := g16.1.1
  have e16 := e15.fr hok15 f16.1 nx2
  have l16 := l15.fr' hok15 hok16 f16.1 (N := fun a => A0.n ≤ a) (p15.kx (by omega)) (by omega)
  have c16 : xcap A16 A10.n = 2 := (xcap.fr l15 hok15 f16.1 (by show ¬ A10.n = x + 2; omega)).trans c15
  refine ⟨hs_t2 p16.1, _, s_X1_is p16, ?_⟩
  rintro v18 _ _ _ ⟨hv18, rfl⟩
  refine ⟨fun A20 => ∃ ft ws t20, (if tK D (t + 1) = 63 then .ok (lf, t + 1) else pFms D D.length (t + 1)) = (.ok (ft, t20) : pR) ∧ xok G A20 ∧ PS G A20 x D t20 (0 + 1) ∧ pf x A0 A20 ∧ t + 1 ≤ t20 ∧ eF A20 e p nm vd (isM tx nms nm) A10.n ∧ xL G A20 A10.n ws ∧ rF A20 (fun a => A0.n ≤ a ∧ a ≠ e) ft ws ∧ A20.n + 12 ≤ A0.n + 24 * (t20 - t0) ∧ A20.u + 40 ≤ A0.u + 128 * (t20 - t0), ?_, fun z18 => ?_, fun z18 => ?_⟩
  · rintro A20 ⟨ft, ws, t20, e20, hok20, p20, g20, l20, k20, w20, y20, n20, u20⟩
    rw [e20] at hE ⊢
    have ht20 := p20.lt
    refine ⟨hs_t2 p20.1, _, s_X1_closes p20 (by decide) (fun q => hE.fl t20 g20 (by omega) (by omega) (by omega) (by omega) (if_neg q)), ?_⟩
    rintro A21 hok21 ⟨q21, p21, f21, n21, u21⟩
    have eP21 : (pAnd (.ok (ft, t20)) fun fs t1 => pNeed D 63 t1 (pAnd (pBlock D (pS' D 40) 40 (t1 + 1)) fun b t2 => .ok (nd 43 [p, nm, vd, isM tx nms nm] fs b, t2)) : pR) = pAnd (pBlock D (pS' D 40) 40 (t20 + 1)) fun b t2 => .ok (nd 43 [p, nm, vd, isM tx nms nm] ft b, t2) := if_pos q21
    rw [eP21] at hE ⊢
    have ht21 := p21.lt
    have g21 := g20.tr f21
    have a21 := g21.1.1
    have k21 := k20.fr hok20 f21.1 nx2
    have w21 := w20.fr' hok20 hok21 f21.1 (N := fun a => A0.n ≤ a) (p20.kx (by omega)) (by omega)
    have y21 := rF.fr hok20 f21.1 (p20.kx (by omega)) _ y20
    refine ⟨hs_t2 p21.1, _, s_g_block hO (d := 40) rfl A21 (t20 + 1) E p21 (h.m (by omega) (by omega) (by omega) (by omega)) (hE.sub g21 (by omega) (by omega) (by omega) (fun f e => by rw [e]; rfl)), ?_⟩
    rintro _ A23 hok23 ⟨eb, tb, t23, r23, rfl, p23, f23, l23, n23, u23, i23, x23⟩
    rw [r23] at hE ⊢
    obtain ⟨ss, rfl⟩ := pBlock_tr r23
    have ht23 := p23.lt
    have g23 := g21.tr f23
    have a23 := f23.1.1
    have k23 := k21.fr hok21 f23.1 nx2
    have w23 := w21.fr' hok21 hok23 f23.1 (N := fun a => A0.n ≤ a) (p21.kx (by omega)) (by omega)
    have y23 := rF.fr hok21 f23.1 (p21.kx (by omega)) _ y21
    have hel23 : e < A21.n := hok21.1.lt k21.1
    refine ⟨k23.1, ?_⟩
    rintro _ rfl
    have f26 : Fr (fun a => a = e) A23 (A23.setP e 9 (some eb)) := Fr.setP rfl
    have hok26 : xok G (A23.setP e 9 (some eb)) := hok23.setP (by omega)
    have p26 : PS G (A23.setP e 9 (some eb)) x D t23 0 := p23.fr f26 (fun a ha q => by omega)
    have g26 : pf x A0 (A23.setP e 9 (some eb)) := g23.own f26 (fun a ha q => by omega) hxl
    have ke : ∀ {N : Nat → Prop}, ¬ N e → Kp (fun a => a = e) N A23 := fun q => Kp.one (by rw [k23.1]; decide) q
    have x26 : rS G (A23.setP e 9 (some eb)) x (fun a => A0.n ≤ a ∧ a ≠ e) (nd 21 [] ss lf) [some eb] := rS.fr hok23 hok26 f26 (ke (fun q => q.2 rfl)) _ (rS.mn hok23 (fun a q _ => ⟨by omega, by omega⟩) _ x23)
    have tgb : (A23.setP e 9 (some eb)).tg eb = 5 := by
      obtain ⟨e', pl, vs', q1, q2, q3, -⟩ := x26
      cases q1
      exact q3
    have hT : rT G (A23.setP e 9 (some eb)) x (fun a => A0.n ≤ a) e (nd 43 [p, nm, vd, isM tx nms nm] ft (nd 21 [] ss lf)) := by
      refine ⟨he, k23.1, k23.2.1, k23.2.2.1, k23.2.2.2.1, k23.2.2.2.2.1, k23.2.2.2.2.2.1, A10.n, ws, eb, ?_, by omega, w23.fr' hok23 hok26 f26 (N := fun a => a ≠ e) (ke (fun q => q rfl)) hne, rF.mn hok26 (fun a q _ => q.1) _ (rF.fr hok23 f26 (ke (fun q => q.2 rfl)) _ y23), ?_, tgb, rS.mn hok26 (fun a q _ => q.1) _ x26⟩
      · rw [gP_P, if_neg (by omega)]
        exact k23.2.2.2.2.2.2
      · rw [gP_P, if_pos ⟨rfl, rfl⟩]
    have nn26 : (A23.setP e 9 (some eb)).n = A23.n := rfl
    have uu26 : (A23.setP e 9 (some eb)).u = A23.u := rfl
    generalize A23.setP e 9 (some eb) = A26 at *
    exact ⟨hs_t2 p26.1, addAll (h.nx g26 p26 (by omega)) hok26 hT (by omega) (by omega) (by omega) rfl⟩
  · have q63 : ¬ tK D (t + 1) = 63 := by
      rcases hv18 with ⟨rfl, q⟩ | ⟨rfl, q⟩
      · exact absurd z18 (by decide)
      · exact q
    rw [if_neg q63] at hE ⊢
    refine ⟨fun n31 A31 => ∃ as ws t31 f, pFms D D.length (t + 1) = pAnd (pFms D f t31) (fun s t2 => .ok (fApp as s, t2)) ∧ D.length - t31 < f ∧ n31 = D.length - t31 ∧ xok G A31 ∧ PS G A31 x D t31 (0 + 1) ∧ pf x A0 A31 ∧ eF A31 e p nm vd (isM tx nms nm) A10.n ∧ xL G A31 A10.n ws ∧ rFs A31 (fun a => A0.n ≤ a ∧ a ≠ e ∧ a ≠ A10.n) as ws ∧ t + 1 + ws.length ≤ t31 ∧ A31.n + 12 ≤ A0.n + 24 * (t31 - t0) ∧ A31.u + 100 + 30 * ws.length ≤ A0.u + 128 * (t31 - t0) + 3 * xcap A31 A10.n ∧ xcap A31 A10.n ≤ 2 * ws.length + 10, ⟨_, [], [], t + 1, D.length, ?_, by omega, rfl, hok16, p16, g16, e16, l16, trivial, by show t + 1 + 0 ≤ t + 1; omega, by omega, by show A16.u + 100 + 30 * 0 ≤ _; omega, by omega⟩, ?_⟩
    · cases pFms D D.length (t + 1) <;> rfl
    rintro _ A31 ⟨as, ws, t31, f, e31, hf31, rfl, hok31, p31, g31, k31, w31, y31, le31, n31, u31, c31⟩
    obtain ⟨f, rfl⟩ : ∃ f', f = f' + 1 := ⟨f - 1, by omega⟩
    have ht31 := p31.lt
    have a31 := g31.1.1
    refine ⟨k31.1, hs_t2 p31.1, _, s_X1_formal p31 (h.m (by omega) (by omega) (by omega) (by omega)) (hE.sub g31 (by omega) (by omega) (by omega) (fun f e => by rw [e31, pFms, e]; rfl)), ?_⟩
    rintro _ A33 hok33 ⟨v33, _, t33, r33, rfl, p33, f33, l33, n33, u33, ⟨ds, rfl⟩, x33⟩
    have ht33 := p33.lt
    have a33 := f33.1.1
    have w33 := w31.fr' hok31 hok33 f33.1 (N := fun a => A0.n ≤ a) (p31.kx (by omega)) (by omega)
    have c33 : xcap A33 A10.n = xcap A31 A10.n := xcap.fr w31 hok31 f33.1 (by show ¬ A10.n = x + 2; omega)
    have k33 := k31.fr hok31 f33.1 nx2
    have tg33 : A33.tg v33 = 23 := by
      unfold rF at x33
      split at x33
      · obtain ⟨v', ws', q1, q2, q3, -⟩ := x33
        cases q1
        exact q3
      · exact x33.elim
    refine ⟨A10.n, k31.2.2.2.2.2.2, w33.1, _, s_J5_add w33 (xEl_of tg33 (by decide)) (by omega) (h.rr (B := A33) t33 (by omega) (by omega) (by omega) (by omega)), ?_⟩
    rintro _ A35 hok35 _ ⟨rfl, a35⟩
    have hl33 : A10.n < A33.n := hok33.1.lt w33.1
    have f35 := a35.fr hl33
    have n35 := a35.2.2.1
    have u35 := a35.2.2.2.1
    have c35 := a35.2.2.2.2.1
    have hS35 : ¬ (e = A10.n ∨ A33.gh e = 1000 + A10.n) := by
      rintro (q | q)
      · exact hne q.symm
      · have := (p33.g _ _ (hok33.1.lt k33.1) q).2
        rw [k33.1] at this
        exact absurd this (by decide)
    have k35 := k33.fr hok33 f35 hS35
    have p35 : PS G A35 x D t33 (0 + 1) := p33.ad a35 (by omega) hl33
    have g35 : pf x A0 A35 := (g31.tr f33).add p33.g a35 (by omega) hl33 hxl
    have y35 := rFs.fr hok33 f35 (Kp.li (N := fun a => A0.n ≤ a ∧ a ≠ e ∧ a ≠ A10.n) p33.g w33.1 (fun q => q.2.2 rfl)) (rFs.snoc (rF.mn hok33 (fun a q _ => ⟨by omega, by have := hok31.1.lt k31.1; omega, by have := hok31.1.lt w31.1; omega⟩) _ x33) (rFs.fr hok31 f33.1 (p31.kx (by omega)) y31))
    have hc35 : xcap A35 A10.n ≤ 2 * (ws.length + 1) + 10 := by
      have : xcap A35 A10.n ≤ max (xcap A33 A10.n) (2 * ws.length + 10) := c35
      omega
    refine ⟨hs_t2 p35.1, _, s_X1_takes p35, ?_⟩
    rintro v38 A38 hok38 _ (⟨rfl, q38, p38, f38, n38, u38⟩ | ⟨rfl, q38, rfl⟩)
    · refine ⟨fun q => absurd q (by decide), fun _ => ?_⟩
      have ht38 := p38.lt
      refine ⟨D.length - (t33 + 1), by omega, as ++ [ds], ws ++ [v33], t33 + 1, f, ?_, by omega, rfl, hok38, p38, g35.tr f38, k35.fr hok35 f38.1 nx2, a35.1.fr' hok35 hok38 f38.1 (N := fun a => A0.n ≤ a) (p35.kx (by omega)) (by omega), rFs.fr hok35 f38.1 (p35.kx (by omega)) y35, ?_⟩
      · rw [e31, pFms, r33]
        show pAnd (if tK D t33 = 68 then _ else _) _ = _
        rw [if_pos q38]
        cases pFms D f (t33 + 1) with
        | error e => rfl
        | ok q => exact congrArg (fun z => Except.ok (z, q.2)) fApp_snoc.symm
      · rw [xcap.fr a35.1 hok35 f38.1 (by show ¬ A10.n = x + 2; omega), List.length_append]
        show t + 1 + (ws.length + 1) ≤ t33 + 1 ∧ A38.n + 12 ≤ A0.n + 24 * (t33 + 1 - t0) ∧ A38.u + 100 + 30 * (ws.length + 1) ≤ A0.u + 128 * (t33 + 1 - t0) + 3 * xcap A35 A10.n ∧ xcap A35 A10.n ≤ 2 * (ws.length + 1) + 10
        omega
    · refine ⟨fun _ => ?_, fun q => absurd rfl q⟩
      have yy := rFs.app (s := lf) (ws := []) (N := fun a => A0.n ≤ a ∧ a ≠ e ∧ a ≠ A10.n) rfl y35
      rw [List.append_nil] at yy
      refine ⟨fApp (as ++ [ds]) lf, ws ++ [v33], t33, ?_, hok35, p35, g35, by omega, k35, a35.1, rF.mn hok35 (fun a q _ => ⟨q.1, q.2.1⟩) _ yy, by omega, by omega⟩
      rw [e31, pFms, r33]
      show pAnd (if tK D t33 = 68 then _ else _) _ = _
      rw [if_neg q38, fApp_snoc]
      rfl
  · have q63 : tK D (t + 1) = 63 := by
      rcases hv18 with ⟨rfl, q⟩ | ⟨rfl, q⟩
      · exact q
      · exact absurd rfl z18
    exact ⟨lf, [], t + 1, if_pos q63, hok16, p16, g16, Nat.le_refl _, e16, l16, rfl, by omega, by omega⟩
end HF1
