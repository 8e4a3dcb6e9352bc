/-! ===== what a NAME means ===== -/
set_option maxRecDepth 100000
/-- what the Model has told, at i -/
def mDc (I : xII) (m i : Nat) (d : dcl) : Prop := I (m + 10) i = d.nm ∧ I (m + 11) i = d.kd ∧ I (m + 12) i = d.pl ∧ I (m + 13) i = d.sc ∧ I (m + 14) i = d.ce ∧ I (m + 15) i = d.sz ∧ I (m + 16) i = d.by ∧ I (m + 17) i = d.lo
def mFn (I : xII) (m f : Nat) (q : fnc) : Prop := I (m + 18) f = q.1 ∧ I (m + 19) f = q.2.1 ∧ I (m + 26) f = q.2.2.1 ∧ I (m + 20) f = nI q.2.2.2.length ∧ ∃ z, I (m + 24) f = nI z ∧ z + q.2.2.2.length ≤ 900 ∧ ∀ i k, q.2.2.2[i]? = some k → I (m + 27) (z + i) = k
/-- all that is told (in the first pass: nothing) -/
def mGm (I : xII) (m : Nat) (Γ : List dcl) (fs : List fnc) : Prop := (I m 46 = 0 ∧ Γ = [] ∧ fs = []) ∨ (I m 46 = 1 ∧ I m 14 = nI Γ.length ∧ Γ.length ≤ 900 ∧ (∀ i d, Γ.reverse[i]? = some d → mDc I m i d) ∧ I m 24 = nI fs.length ∧ fs.length ≤ 500 ∧ ∀ f q, fs[f]? = some q → mFn I m f q)
def mfS (I J : xII) (m : Nat) (x : Int32) : Prop := J m 62 = x ∧ ∀ a k, ¬ (a = m ∧ k = 62) → J a k = I a k
section MM
variable {m t o : Nat} {I J K : xII} {D : tkL} {Γ : List dcl} {fs : List fnc}
theorem mDc.fr {i : Nat} {d : dcl} (h : mDc I m i d) (hf : eG I J m) : mDc J m i d := by
  obtain ⟨h1, h2, h3, h4, h5, h6, h7, h8⟩ := h
  refine ⟨?_, ?_, ?_, ?_, ?_, ?_, ?_, ?_⟩ <;> rw [hf _ _ (by omega) (by omega)] <;> assumption
theorem mFn.fr {f : Nat} {q : fnc} (h : mFn I m f q) (hf : eG I J m) : mFn J m f q := by
  obtain ⟨h1, h2, h3, h4, z, h5, h6, h7⟩ := h
  refine ⟨?_, ?_, ?_, ?_, z, ?_, h6, fun i k hi => ?_⟩ <;> rw [hf _ _ (by omega) (by omega)]
  all_goals first | assumption | exact h7 i k hi
theorem mGm.fr (h : mGm I m Γ fs) (hf : eG I J m) : mGm J m Γ fs := by
  rcases h with ⟨h1, h2, h3⟩ | ⟨h1, h2, h3, h4, h5, h6, h7⟩
  · exact Or.inl ⟨(hf _ _ (by omega) (by unfold eFk; omega)).trans h1, h2, h3⟩
  · exact Or.inr ⟨(hf _ _ (by omega) (by unfold eFk; omega)).trans h1, (hf _ _ (by omega) (by unfold eFk; omega)).trans h2, h3, fun i d hi => (h4 i d hi).fr hf, (hf _ _ (by omega) (by unfold eFk; omega)).trans h5, h6, fun f q hq => (h7 f q hq).fr hf⟩
theorem mfS.g {x : Int32} (h : mfS I J m x) : eG I J m := fun a k h1 h2 => h.2 a k (by unfold eFk at h2; omega)
theorem mfS.set {x y : Int32} (h : mfS I J m x) : mfS I (xup J m 62 y) m y := ⟨xup_s, fun a k hk => by rw [gX, if_neg hk]; exact h.2 a k hk⟩
theorem rev_at {d : dcl} {ds pre : List dcl} (h : Γ = pre ++ d :: ds) : Γ.reverse[ds.length]? = some d := by
  subst h
  rw [List.reverse_append, List.reverse_cons, List.append_assoc, List.getElem?_append_right (by simp)]
  simp
theorem fIx_at {nm : Int32} {f : Nat} {q : fnc} (h : fs[f]? = some q) : fIx nm (fs.drop f) f = if q.1 = nm then some f else fIx nm (fs.drop (f + 1)) (f + 1) := by
  obtain ⟨hl, rfl⟩ := List.getElem?_eq_some_iff.mp h
  rw [List.drop_eq_getElem_cons hl, fIx]
theorem fIx_lt {nm : Int32} : ∀ {fs : List fnc} {k f : Nat}, fIx nm fs k = some f → k ≤ f ∧ f < k + fs.length
  | [], k, f, h => nomatch h
  | q :: fs, k, f, h => by
    rw [fIx] at h
    split at h
    · cases h
      exact ⟨Nat.le_refl _, by simp⟩
    · have := fIx_lt h
      simp only [List.length_cons]
      omega
/-- the best so far -/
def mBs (Γ : List dcl) (b : Option dcl) (v : Int32) (lo : Nat) : Prop := match b with
  | none => v = -1
  | some d => ∃ i, v = nI i ∧ lo ≤ i ∧ i < Γ.length ∧ Γ.reverse[i]? = some d
/-- the functions looked at from j on -/
def mFx (fs : List fnc) (nm : Int32) (j : Nat) (v : Int32) : Prop := match fIx nm (fs.drop j) j with
  | none => v = -1
  | some f => v = nI f
/-- what a meaning is: what is told, at v, or a function in meantFunction -/
def mMn (J : xII) (m : Nat) (Γ : List dcl) (fs : List fnc) (nm v : Int32) : Prop := match mean Γ fs nm with
  | (none, none) => v = -1 ∧ J m 62 = -1
  | (none, some f) => v = -1 ∧ J m 62 = nI f ∧ f < fs.length
  | (some d, _) => (∃ i, v = nI i ∧ i < 900 ∧ Γ.reverse[i]? = some d ∧ mDc J m i d) ∧ J m 62 = -1
def fxL (I : xII) (m : Nat) (fs : List fnc) (nm : Int32) (n : Nat) (y : Int32) (J : xII) : Prop := n ≤ fs.length ∧ y = nI n - 1 ∧ ∃ x, mfS I J m x ∧ mFx fs nm n x
theorem nI_m {n : Nat} : nI (n + 1) - 1 = nI n := nI_sub (a := n + 1) (b := 1) (by omega)
theorem nI_p {n : Nat} : nI n + (-1) = nI n - 1 := (Int32.sub_eq_add_neg _ _).symm
theorem nI_n0 {n : Nat} (h : n < 2147483648) : ¬ nI n < 0 := nI_pos h
theorem fx0 {nm : Int32} (h : mfS I J m (-1)) : fxL I m fs nm fs.length (nI fs.length - 1) J := by
  refine ⟨Nat.le_refl _, rfl, _, h, ?_⟩
  rw [mFx, List.drop_length]
  rfl
theorem fx1 {nm y : Int32} {n : Nat} (hl : fs.length ≤ 500) (g : ∀ f q, fs[f]? = some q → mFn I m f q) (h : fxL I m fs nm (n + 1) y J) : y = nI n ∧ n < 500 ∧ (J (m + 18) n = nm → fxL I m fs nm n (y + (-1)) (xup J m 62 y)) ∧ (¬ J (m + 18) n = nm → fxL I m fs nm n (y + (-1)) J) := by
  obtain ⟨h1, rfl, x, h3, h4⟩ := h
  rw [nI_m, nI_p]
  obtain ⟨q, hq⟩ : ∃ q, fs[n]? = some q := ⟨_, List.getElem?_eq_getElem (by omega)⟩
  have hg := (g n q hq).fr h3.g
  refine ⟨rfl, by omega, fun e => ⟨by omega, rfl, _, h3.set, ?_⟩, fun e => ⟨by omega, rfl, _, h3, ?_⟩⟩
  · rw [mFx, fIx_at hq, if_pos (by rw [← hg.1]; exact e)]
  · rw [hg.1] at e
    rw [mFx, fIx_at hq, if_neg e]
    exact h4
theorem fxn {nm y : Int32} (h : fxL I m fs nm 0 y J) : y < 0 ∧ mfS I J m (J m 62) ∧ mFx fs nm 0 (J m 62) := by
  obtain ⟨h1, rfl, x, h3, h4⟩ := h
  refine ⟨by decide, ?_⟩
  rw [h3.1]
  exact ⟨h3, h4⟩
theorem s_X13_meaning (h : mGm I m Γ fs) (hp : ¬ I m 46 = 0) {tk : Nat} (htk : tk < 4002) : w_X13_meaning m (nI tk) (fun v J => mfS I J m (J m 62) ∧ mMn J m Γ fs (I (m + 4) tk) v) I := by
  rcases h with ⟨h1, -⟩ | ⟨-, g1, g2, g3, g4, g5, g6⟩
  · exact absurd h1 hp
  have hx : ix (nI tk) = tk := nI_clamp (by omega)
  have hvn : vp_in (nI tk) 4002 := vp_in_nI htk (by decide)
  unfold w_X13_meaning
  rw [g1, g4, hx]
  intro I1 hI1
  have m1 : mfS I I1 m (-1) := by rw [hI1]; exact ⟨xup_s, fun a k hk => by rw [gX, if_neg hk]⟩
  clear hI1
  generalize hnm : I (m + 4) tk = nm
  have hJ4 : ∀ {J x}, mfS I J m x → J (m + 4) tk = nm := fun z => (z.2 _ _ (by omega)).trans hnm
  refine ⟨fun n k best => ∃ pre rest b, Γ = pre ++ rest ∧ n = rest.length ∧ k = nI n - 1 ∧ mB nm Γ none = mB nm rest b ∧ mBs Γ b best n, ⟨Γ.length, [], Γ, none, rfl, rfl, rfl, rfl, rfl⟩, ?_⟩
  rintro n k best ⟨pre, rest, b, e1, rfl, rfl, e3, e4⟩
  refine ⟨mBs Γ (mB nm Γ none) best 0, fun hJ => ?_, ?_⟩
  · clear e1 e3 e4
    cases hb : mB nm Γ none with
    | none =>
      rw [hb] at hJ
      obtain rfl : best = -1 := hJ
      refine ⟨fun _ => ?_, fun q => absurd rfl q⟩
      refine ⟨fxL I m fs nm, ⟨_, fx0 m1⟩, ?_⟩
      rintro (_ | n) y J hL
      · obtain ⟨f1, f2, f3⟩ := fxn hL
        refine ⟨fun _ => ⟨f2, ?_⟩, fun q => absurd f1 q⟩
        rw [mMn, mean, hb]
        dsimp only
        rw [mFx, List.drop_zero] at f3
        cases hf : fIx nm fs 0 with
        | none =>
          rw [hf] at f3
          exact ⟨by rw [show J m 62 = -1 from f3, if_pos rfl], f3⟩
        | some f =>
          rw [hf] at f3
          have hl := fIx_lt hf
          exact ⟨by rw [ite_self], f3, by omega⟩
      · obtain ⟨rfl, f2, f3, f4⟩ := fx1 g5 g6 hL
        have hxn : ix (nI n) = n := nI_clamp (by omega)
        refine ⟨fun q => absurd q (nI_n0 (by omega)), fun _ => ⟨vp_in_nI f2 (by decide), hvn, fun J' => ∃ q4, q4 < n + 1 ∧ fxL I m fs nm q4 (nI n + (-1)) J', fun _ z => z, fun e => ?_, fun e => ?_⟩⟩
        · rintro _ rfl
          rw [hxn, hJ4 hL.2.2.choose_spec.1] at e
          exact ⟨n, by omega, f3 e⟩
        · rw [hxn, hJ4 hL.2.2.choose_spec.1] at e
          exact ⟨n, by omega, f4 e⟩
    | some d =>
      rw [hb] at hJ
      obtain ⟨i, rfl, -, hi, hd⟩ := hJ
      have gd := g3 i d hd
      have hxi : ix (nI i) = i := nI_clamp (by omega)
      refine ⟨fun q => absurd q (nI_m1 (by omega)), fun _ => ⟨vp_in_nI (by omega) (by decide), ?_⟩⟩
      rw [hxi, gd.2.2.2.1]
      refine ⟨fun hs => ?_, fun hs => ?_⟩
      · refine ⟨fxL I m fs nm, ⟨_, fx0 m1⟩, ?_⟩
        rintro (_ | n) y J hL
        · obtain ⟨f1, f2, f3⟩ := fxn hL
          refine ⟨fun _ => ?_, fun q => absurd f1 q⟩
          rw [mFx, List.drop_zero] at f3
          have gJ := gd.fr f2.g
          refine ⟨fun J' => mfS I J' m (J' m 62) ∧ mMn J' m Γ fs nm (if J' m 62 = -1 then nI i else -1), fun _ z => z, fun e => ⟨f2, ?_⟩, fun e => ?_⟩
          · cases hf : fIx nm fs 0 with
            | some f =>
              rw [hf] at f3
              have hl := fIx_lt hf
              rw [show J m 62 = nI f from f3] at e
              exact absurd e (nI_m1 (by omega))
            | none =>
              rw [mMn, mean, hb]
              dsimp only
              rw [if_neg (by rw [hs]; exact fun z => z rfl), hf, e, if_pos rfl]
              exact ⟨⟨i, rfl, by omega, hd, gJ⟩, rfl⟩
          · cases hf : fIx nm fs 0 with
            | none =>
              rw [hf] at f3
              exact absurd f3 e
            | some f =>
              rw [hf] at f3
              have f3' : J m 62 = nI f := f3
              have hl := fIx_lt hf
              obtain ⟨q, hq⟩ : ∃ q, fs[f]? = some q := ⟨_, List.getElem?_eq_getElem (by omega)⟩
              have gf := (g6 f q hq).fr f2.g
              have hxf : ix (nI f) = f := nI_clamp (by omega)
              have hgd : fs.getD f (0, 0, 0, []) = q := by rw [List.getD_eq_getElem?_getD, hq]; rfl
              rw [f3', hxf, gf.2.1, gJ.2.2.1]
              refine ⟨vp_in_nI (by omega) (by decide), fun hl => ⟨f2, ?_⟩, fun hl => ?_⟩
              · rw [f3', if_neg (nI_m1 (by omega)), mMn, mean, hb]
                dsimp only
                rw [if_neg (by rw [hs]; exact fun z => z rfl), hf]
                dsimp only
                rw [hgd, if_neg (Int32.not_lt.mpr hl)]
                exact ⟨rfl, f3', by omega⟩
              · rintro _ rfl
                refine ⟨by rw [xup_s]; exact f2.set, ?_⟩
                rw [xup_s, if_pos rfl, mMn, mean, hb]
                dsimp only
                rw [if_neg (by rw [hs]; exact fun z => z rfl), hf]
                dsimp only
                rw [hgd, if_pos (Int32.not_le.mp hl)]
                exact ⟨⟨i, rfl, by omega, hd, gd.fr f2.set.g⟩, xup_s⟩
        · obtain ⟨rfl, f2, f3, f4⟩ := fx1 g5 g6 hL
          have hxn : ix (nI n) = n := nI_clamp (by omega)
          refine ⟨fun q => absurd q (nI_n0 (by omega)), fun _ => ⟨vp_in_nI f2 (by decide), hvn, fun J' => ∃ q4, q4 < n + 1 ∧ fxL I m fs nm q4 (nI n + (-1)) J', fun _ z => z, fun e => ?_, fun e => ?_⟩⟩
          · rintro _ rfl
            rw [hxn, hJ4 hL.2.2.choose_spec.1] at e
            exact ⟨n, by omega, f3 e⟩
          · rw [hxn, hJ4 hL.2.2.choose_spec.1] at e
            exact ⟨n, by omega, f4 e⟩
      · refine ⟨by rw [m1.1]; exact m1, ?_⟩
        rw [mMn, mean, hb]
        dsimp only
        rw [if_pos hs]
        exact ⟨⟨i, rfl, by omega, hd, gd.fr m1.g⟩, m1.1⟩
  · cases rest with
    | nil =>
      refine ⟨fun _ => ?_, fun q => absurd (by decide) q⟩
      rw [e3]
      cases b with
      | none => exact e4
      | some d =>
        obtain ⟨i, a1, a2, a3⟩ := e4
        exact ⟨i, a1, Nat.zero_le _, a3⟩
    | cons d ds =>
      have hlen : (d :: ds).length = ds.length + 1 := rfl
      have hΓ : Γ.length = pre.length + (ds.length + 1) := by rw [e1, List.length_append]; rfl
      have hd := rev_at e1
      have gd := g3 _ _ hd
      have hxd : ix (nI ds.length) = ds.length := nI_clamp (by omega)
      have e1' : Γ = (pre ++ [d]) ++ ds := by rw [e1, List.append_assoc]; rfl
      rw [hlen, nI_m, hxd, gd.1, nI_p]
      refine ⟨fun q => absurd q (nI_n0 (by omega)), fun _ => ⟨fun hb => ⟨vp_in_nI (by omega) (by decide), hvn, ?_⟩, fun hb => ?_⟩⟩
      · subst hb
        cases b with
        | some b =>
          obtain ⟨i, a1, a2, a3⟩ := e4
          exact absurd a1.symm (nI_m1 (by omega))
        | none =>
          refine ⟨ds.length, by omega, pre ++ [d], ds, if d.nm = nm then some d else none, e1', rfl, rfl, e3, ?_⟩
          split
          · exact ⟨_, rfl, Nat.le_refl _, by omega, hd⟩
          · rfl
      · cases b with
        | none => exact absurd e4 hb
        | some b =>
          obtain ⟨i, rfl, a2, a3, a4⟩ := e4
          have gb := g3 _ _ a4
          have hxi : ix (nI i) = i := nI_clamp (by omega)
          rw [hxi, gd.2.2.2.1, gb.2.2.2.1]
          refine ⟨vp_in_nI (by omega) (by decide), vp_in_nI (by omega) (by decide), fun hs => ⟨hvn, ?_⟩, fun hs => ?_⟩
          · refine ⟨ds.length, by omega, pre ++ [d], ds, if d.nm = nm then some d else some b, e1', rfl, rfl, ?_, ?_⟩
            · rw [e3, mB, if_pos hs]
            · split
              · exact ⟨_, rfl, Nat.le_refl _, by omega, hd⟩
              · exact ⟨i, rfl, by rw [hlen] at a2; omega, a3, a4⟩
          · rw [e3, mB, if_neg hs]
            exact ⟨i, rfl, Nat.zero_le _, a3, a4⟩
end MM
