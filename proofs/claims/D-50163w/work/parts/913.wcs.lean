section WCS
variable {E : En_} {σ : As_} {w am em as es st n s : Nat} {mc mc' : Int32} {r r' : Nat → Int32} {ms ss : List Nat} {h0 : Nat → Option Ac_}
theorem Str_ne {h : Nat → Option Ac_} {z a : Nat} {c0 c' : Ac_} {bs : List Int32} (hz : h z = some c0) (hc : ∀ k fs, c0 = .inr (k, fs) → k % 100 ≠ 16) (hc2 : ∀ t n f, c0 = tI_ t n f → t % 100 ≠ 1) (h1 : Str_ h a bs) : Str_ (up_ h z c') a bs := by
  obtain ⟨c, t, v, x, y, f, e1, e2, e3, e4, e5⟩ := h1
  refine ⟨c, t, v, x, y, f, ?_, e2, ?_, e4, e5⟩
  · rw [up_n (fun q => by rw [q, hz] at e1; cases e1; exact hc _ _ rfl e2)]
    exact e1
  · rw [up_n (fun q => by rw [q, hz] at e3; cases e3; exact hc2 _ _ _ rfl e4)]
    exact e3
theorem Ls_ne {h : Nat → Option Ac_} {z a e : Nat} {c0 c' : Ac_} {m : Int32} {xs : List Nat} (hz : h z = some c0) (hc : ∀ fs, c0 ≠ .inr (11, fs)) (hc2 : ∀ t n f, c0 ≠ .inl (t, n, .inr (.inr (.inr (.inr f))))) (hx : ∀ x ∈ xs, Ob_ (up_ h z c') x) (h1 : Ls_ E h a m e xs) : Ls_ E (up_ h z c') a m e xs := by
  obtain ⟨_, _, _, b1, b2, _⟩ := id h1
  refine Ls_kp h1 (fun c hc' => ?_) (fun c hc' => ?_) hx
  · rw [up_n (fun q => by rw [q, hz] at b1; cases b1; exact hc _ rfl)]
    exact hc'
  · rw [up_n (fun q => by rw [q, hz] at b2; cases b2; exact hc2 _ _ _ rfl)]
    exact hc'
/-- the settings are others -/
theorem WY_putS {g' : Nat → Int32} (h : WY_ E h0 σ w r am em as es st mc mc' ms ss) (hr : ∀ j, ¬ (2 ≤ j ∧ j < 6) → r' j = r j) (g0 : g' 0 = r' 2) (g1 : g' 1 = r' 3) (g2 : g' 2 = r' 4) (g3 : g' 3 = r' 5) : WY_ E h0 (σ.1, σ.2.1, up_ σ.2.2 st (tI_ 0 4 g')) w r' am em as es st mc mc' ms ss := by
  obtain ⟨hA, h2, h3, h4, h5, h6, h7, h8⟩ := h
  obtain ⟨a1, a2, a3, ⟨g, a4, _⟩, a6, a7, a8⟩ := hA
  have hin : ∀ {y k fs}, σ.2.2 y = some (.inr (k, fs)) → y ≠ st := fun {y k fs} hy q => by rw [q, a4] at hy; cases hy
  have hmk : ∀ k x, ms[k]? = some x → MkC_ (up_ σ.2.2 st (tI_ 0 4 g')) x r' k := fun k x hx => by
    obtain ⟨nm, e1, e2⟩ := MkC_row (r' := r') (fun i hi => hr _ (by omega)) (a6 k x hx)
    exact ⟨nm, by rw [up_n (hin e1)]; exact e1, Str_ne a4 (fun _ _ q => by cases q) (fun t n f q => by cases q; decide) e2⟩
  have hsg : ∀ k x, ss[k]? = some x → SgC_ (up_ σ.2.2 st (tI_ 0 4 g')) x r' k := fun k x hx => by
    have e1 := SgC_row (r' := r') (fun i hi => hr _ (by omega)) (a7 k x hx)
    unfold SgC_ at e1 ⊢
    rw [up_n (hin e1)]
    exact e1
  refine ⟨⟨?_, Ls_ne a4 (fun _ q => by cases q) (fun _ _ _ q => by cases q) (all_i fun k x hx => MkC_Ob (hmk k x hx)) a2, Ls_ne a4 (fun _ q => by cases q) (fun _ _ _ q => by cases q) (all_i fun k x hx => SgC_Ob (hsg k x hx)) a3, ⟨g', up_s _ _ _, g0, g1, g2, g3⟩, hmk, hsg, a8⟩, up_h0 h2 h7, up_Hw h3 (Hw_lt h3 a4), h4, h5, h6, h7, h8⟩
  dsimp only
  rw [up_n (hin a1), hr 6 (by omega), hr 7 (by omega)]
  exact a1
/-- what is told of the error is other -/
theorem WY_putW (h : WY_ E h0 σ w r am em as es st mc mc' ms ss) (hr : ∀ j, ¬ (j = 6 ∨ j = 7) → r' j = r j) : WY_ E h0 (σ.1, σ.2.1, up_ σ.2.2 w (.inr (1, [.ref am, .ref as, .ref st, .int (r' 6), .int (r' 7)]))) w r' am em as es st mc mc' ms ss := by
  obtain ⟨hA, h2, h3, h4, h5, h6, h7, h8⟩ := h
  obtain ⟨a1, a2, a3, ⟨g, a4, g0, g1, g2, g3⟩, a6, a7, a8⟩ := hA
  have hin : ∀ {y k fs}, σ.2.2 y = some (.inr (k, fs)) → k ≠ 1 → y ≠ w := fun {y k fs} hy hk q => by rw [q, a1] at hy; cases hy; exact hk rfl
  have hmk : ∀ k x, ms[k]? = some x → MkC_ (up_ σ.2.2 w (.inr (1, [.ref am, .ref as, .ref st, .int (r' 6), .int (r' 7)]))) x r' k := fun k x hx => by
    obtain ⟨nm, e1, e2⟩ := MkC_row (r' := r') (fun i hi => hr _ (by omega)) (a6 k x hx)
    exact ⟨nm, by rw [up_n (hin e1 (by decide))]; exact e1, Str_ne a1 (fun _ _ q => by cases q; decide) (fun t n f q => by cases q) e2⟩
  have hsg : ∀ k x, ss[k]? = some x → SgC_ (up_ σ.2.2 w (.inr (1, [.ref am, .ref as, .ref st, .int (r' 6), .int (r' 7)]))) x r' k := fun k x hx => by
    have e1 := SgC_row (r' := r') (fun i hi => hr _ (by omega)) (a7 k x hx)
    unfold SgC_ at e1 ⊢
    rw [up_n (hin e1 (by decide))]
    exact e1
  refine ⟨⟨up_s _ _ _, Ls_ne a1 (fun _ q => by cases q) (fun _ _ _ q => by cases q) (all_i fun k x hx => MkC_Ob (hmk k x hx)) a2, Ls_ne a1 (fun _ q => by cases q) (fun _ _ _ q => by cases q) (all_i fun k x hx => SgC_Ob (hsg k x hx)) a3, ⟨g, ?_, by rw [hr 2 (by omega)]; exact g0, by rw [hr 3 (by omega)]; exact g1, by rw [hr 4 (by omega)]; exact g2, by rw [hr 5 (by omega)]; exact g3⟩, hmk, hsg, a8⟩, up_h0 h2 h4, up_Hw h3 (Hw_lt h3 a1), h4, h5, h6, h7, h8⟩
  dsimp only
  rw [up_n (fun q => by rw [q, a1] at a4; cases a4)]
  exact a4
/-- a sight is other -/
theorem WY_putG {i : Nat} {x : Nat} (h : WY_ E h0 σ w r am em as es st mc mc' ms ss) (hx : ss[i]? = some x) (hr : ∀ j, ¬ (68 + 6 * i + 2 ≤ j ∧ j < 68 + 6 * i + 6) → r' j = r j) (hm : ms.length ≤ 12) : WY_ E h0 (σ.1, σ.2.1, up_ σ.2.2 x (.inr (3, [.int (r' (68 + 6 * i)), .int (r' (68 + 6 * i + 1)), .int (r' (68 + 6 * i + 2)), .int (r' (68 + 6 * i + 3)), .int (r' (68 + 6 * i + 4)), .int (r' (68 + 6 * i + 5))]))) w r' am em as es st mc mc' ms ss := by
  obtain ⟨hA, h2, h3, h4, h5, h6, h7, h8, h9, h10, h11⟩ := h
  obtain ⟨a1, a2, a3, ⟨g, a4, g0, g1, g2, g3⟩, a6, a7, a8, a9, a10⟩ := hA
  have hxc : σ.2.2 x = some (.inr (3, _)) := a7 i x hx
  have hin : ∀ {y k fs}, σ.2.2 y = some (.inr (k, fs)) → k ≠ 3 → y ≠ x := fun {y k fs} hy hk q => by rw [q, hxc] at hy; cases hy; exact hk rfl
  have hmk : ∀ k y, ms[k]? = some y → MkC_ (up_ σ.2.2 x (.inr (3, [.int (r' (68 + 6 * i)), .int (r' (68 + 6 * i + 1)), .int (r' (68 + 6 * i + 2)), .int (r' (68 + 6 * i + 3)), .int (r' (68 + 6 * i + 4)), .int (r' (68 + 6 * i + 5))]))) y r' k := fun k y hy => by
    have hk := (List.getElem?_eq_some_iff.mp hy).1
    obtain ⟨nm, e1, e2⟩ := MkC_row (r' := r') (fun i hi => hr _ (by omega)) (a6 k y hy)
    exact ⟨nm, by rw [up_n (hin e1 (by decide))]; exact e1, Str_ne hxc (fun _ _ q => by cases q; decide) (fun t n f q => by cases q) e2⟩
  have hsg : ∀ k y, ss[k]? = some y → SgC_ (up_ σ.2.2 x (.inr (3, [.int (r' (68 + 6 * i)), .int (r' (68 + 6 * i + 1)), .int (r' (68 + 6 * i + 2)), .int (r' (68 + 6 * i + 3)), .int (r' (68 + 6 * i + 4)), .int (r' (68 + 6 * i + 5))]))) y r' k := fun k y hy => by
    by_cases e : k = i
    · subst e
      rw [hx] at hy
      cases hy
      exact up_s _ _ _
    · have hyx : y ≠ x := fun q => by
        obtain ⟨hk1, hk2⟩ := List.getElem?_eq_some_iff.mp hy
        obtain ⟨hi1, hi2⟩ := List.getElem?_eq_some_iff.mp hx
        have e2 : ss[k] = ss[i] := by rw [hk2, hi2, q]
        rcases Nat.lt_trichotomy k i with q | q | q
        · exact absurd e2 (List.pairwise_iff_getElem.1 a9 k i hk1 hi1 q)
        · exact e q
        · exact absurd e2.symm (List.pairwise_iff_getElem.1 a9 i k hi1 hk1 q)
      have e1 := SgC_row (r' := r') (fun i hi => hr _ (by omega)) (a7 k y hy)
      unfold SgC_ at e1 ⊢
      rw [up_n hyx]
      exact e1
  have hxm : x ∈ ss := List.mem_of_getElem? hx
  refine ⟨⟨?_, Ls_ne hxc (fun _ q => by cases q) (fun _ _ _ q => by cases q) (all_i fun k x hx => MkC_Ob (hmk k x hx)) a2, Ls_ne hxc (fun _ q => by cases q) (fun _ _ _ q => by cases q) (all_i fun k x hx => SgC_Ob (hsg k x hx)) a3, ⟨g, ?_, by rw [hr 2 (by omega)]; exact g0, by rw [hr 3 (by omega)]; exact g1, by rw [hr 4 (by omega)]; exact g2, by rw [hr 5 (by omega)]; exact g3⟩, hmk, hsg, a8, a9, a10⟩, up_h0 h2 (h11 x hxm), up_Hw h3 (Hw_lt h3 hxc), h4, h5, h6, h7, h8, h9, h10, h11⟩
  · dsimp only
    rw [up_n (hin a1 (by decide)), hr 6 (by omega), hr 7 (by omega)]
    exact a1
  · dsimp only
    rw [up_n (fun q => by rw [q, hxc] at a4; cases a4)]
    exact a4
/-- a mark is other -/
theorem WY_putM {i : Nat} {x nm : Nat} {z0 z1 z2 : Int32} (h : WY_ E h0 σ w r am em as es st mc mc' ms ss) (hx : ms[i]? = some x) (hxn : σ.2.2 x = some (.inr (2, [.ref nm, .int z0, .int z1, .int z2]))) (hr : ∀ j, ¬ (8 + 5 * i + 2 ≤ j ∧ j < 8 + 5 * i + 5) → r' j = r j) (hm : ms.length ≤ 12) : WY_ E h0 (σ.1, σ.2.1, up_ σ.2.2 x (.inr (2, [.ref nm, .int (r' (8 + 5 * i + 1)), .int (r' (8 + 5 * i + 2)), .int (hgt_ r' i)]))) w r' am em as es st mc mc' ms ss := by
  obtain ⟨hA, h2, h3, h4, h5, h6, h7, h8, h9, h10, h11⟩ := h
  obtain ⟨a1, a2, a3, ⟨g, a4, g0, g1, g2, g3⟩, a6, a7, a8, a9, a10⟩ := hA
  have him := (List.getElem?_eq_some_iff.mp hx).1
  have hin : ∀ {y k fs}, σ.2.2 y = some (.inr (k, fs)) → k ≠ 2 → y ≠ x := fun {y k fs} hy hk q => by rw [q, hxn] at hy; cases hy; exact hk rfl
  have hmk : ∀ k y, ms[k]? = some y → MkC_ (up_ σ.2.2 x (.inr (2, [.ref nm, .int (r' (8 + 5 * i + 1)), .int (r' (8 + 5 * i + 2)), .int (hgt_ r' i)]))) y r' k := fun k y hy => by
    have hk := (List.getElem?_eq_some_iff.mp hy).1
    by_cases e : k = i
    · subst e
      rw [hx] at hy
      cases hy
      obtain ⟨nm', e1, e2⟩ := a6 k x hx
      rw [hxn] at e1
      cases e1
      refine ⟨nm, up_s _ _ _, Str_ne hxn (fun _ _ q => by cases q; decide) (fun t n f q => by cases q) ?_⟩
      unfold nmk_ at e2 ⊢
      rw [hr _ (by omega)]
      exact e2
    · have hyx : y ≠ x := fun q => by
        obtain ⟨hk1, hk2⟩ := List.getElem?_eq_some_iff.mp hy
        obtain ⟨hi1, hi2⟩ := List.getElem?_eq_some_iff.mp hx
        have e2 : ms[k] = ms[i] := by rw [hk2, hi2, q]
        rcases Nat.lt_trichotomy k i with q | q | q
        · exact absurd e2 (List.pairwise_iff_getElem.1 a8 k i hk1 hi1 q)
        · exact e q
        · exact absurd e2.symm (List.pairwise_iff_getElem.1 a8 i k hi1 hk1 q)
      obtain ⟨nm', e1, e2⟩ := MkC_row (r' := r') (fun i hi => hr _ (by omega)) (a6 k y hy)
      exact ⟨nm', by rw [up_n hyx]; exact e1, Str_ne hxn (fun _ _ q => by cases q; decide) (fun t n f q => by cases q) e2⟩
  have hsg : ∀ k y, ss[k]? = some y → SgC_ (up_ σ.2.2 x (.inr (2, [.ref nm, .int (r' (8 + 5 * i + 1)), .int (r' (8 + 5 * i + 2)), .int (hgt_ r' i)]))) y r' k := fun k y hy => by
    have e1 := SgC_row (r' := r') (fun i hi => hr _ (by omega)) (a7 k y hy)
    unfold SgC_ at e1 ⊢
    rw [up_n (hin e1 (by decide))]
    exact e1
  have hxm : x ∈ ms := List.mem_of_getElem? hx
  refine ⟨⟨?_, Ls_ne hxn (fun _ q => by cases q) (fun _ _ _ q => by cases q) (all_i fun k x hx => MkC_Ob (hmk k x hx)) a2, Ls_ne hxn (fun _ q => by cases q) (fun _ _ _ q => by cases q) (all_i fun k x hx => SgC_Ob (hsg k x hx)) a3, ⟨g, ?_, by rw [hr 2 (by omega)]; exact g0, by rw [hr 3 (by omega)]; exact g1, by rw [hr 4 (by omega)]; exact g2, by rw [hr 5 (by omega)]; exact g3⟩, hmk, hsg, a8, a9, a10⟩, up_h0 h2 (h10 x hxm), up_Hw h3 (Hw_lt h3 hxn), h4, h5, h6, h7, h8, h9, h10, h11⟩
  · dsimp only
    rw [up_n (hin a1 (by decide)), hr 6 (by omega), hr 7 (by omega)]
    exact a1
  · dsimp only
    rw [up_n (fun q => by rw [q, hxn] at a4; cases a4)]
    exact a4
/-- a wall is copied -/
theorem W_copy (hd : E7_ E σ.2.2) (hwl : Wl_ E σ.2.2 w r ms ss) (hm : ms.length = n) (hss : ss.length = s) (hW : Wr_ r n s) (hw : Hw_ σ) :
    ∃ σ' am em as es st mc mc' ms' ss', D_ E 287 [.ref w] σ = some (.inl (some (.ref σ.1)), σ') ∧ WY_ E σ.2.2 σ' σ.1 r am em as es st mc mc' ms' ss' ∧ ms'.length = n ∧ ss'.length = s ∧ Sz_ 730 σ σ' := by
  have h12 := wr_n12 hW
  have h40 := wr_s40 hW
  obtain ⟨d, d7, dc⟩ := id hd
  obtain ⟨am0, em0, as0, es0, st0, m0, m1, hA⟩ := id hwl
  obtain ⟨w1, w2, w3, ⟨g0, w4, w5⟩, _⟩ := id hA
  have hwl0 : w < σ.1 := Hw_lt hw w1
  have hf1 : Fr_ 9 σ (σ.1 + 1, σ.2.1 + 5, up_ σ.2.2 σ.1 w0_) := Fr_new (k := 5) hw
  obtain ⟨σ2, i1, i2, i3, i4⟩ := W_init (E := E) (h0 := σ.2.2) (σ := (σ.1 + 1, σ.2.1 + 5, up_ σ.2.2 σ.1 w0_)) (w := σ.1) (d := d) (r := rN_ r) d7 (hf1.1 _ _ dc) hf1.1 hf1.2.2.2.2 (up_s _ _ _) (hw _ (Nat.le_refl _)) rN_I
  have hL2 := Ls_mono i2.2.1 w2
  have hI2 := J_iter (E := E) hL2 i2.2.2.1
  have hY3 := WY_fr i2 (Fr_new (k := 4) (c := .inr (12, [.int (nI 0), .int (-nI 1), .int m0, .ref am0])) i2.2.2.1)
  have hn2 : σ.2.2 σ2.1 = none := hw _ (by have := i3.1; dsimp only at this; omega)
  obtain ⟨σ4, em4, mc4, ms4, j1, j2, j3, j4⟩ := cpM_lp (E := E) hd hA hm hW (it := σ2.1) hn2 n 0 (-nI 1) none _ _ _ [] (by omega) rfl hY3 (up_s _ _ _)
  have hL4 := Ls_mono j2.2.1 w3
  have hI4 := J_iter (E := E) hL4 j2.2.2.1
  have hY5 := WY_fr j2 (Fr_new (k := 4) (c := .inr (12, [.int (nI 0), .int (-nI 1), .int m1, .ref as0])) j2.2.2.1)
  have hn4 : σ.2.2 σ4.1 = none := hw _ (by have := i3.1; have := j4.1; dsimp only at *; omega)
  obtain ⟨σ6, es6, mc6, ss6, k1, k2, k3, k4⟩ := cpG_lp (E := E) hd hA hss hW (it := σ4.1) hn4 s 0 (-nI 1) none _ _ _ [] (by omega) rfl hY5 (up_s _ _ _)
  obtain ⟨b1, _, _, ⟨g6, b4, _⟩, _⟩ := id k2.1
  have hs1 : w ≠ σ.1 := by omega
  have w16 := k2.2.1 _ _ w1
  have w46 := k2.2.1 _ _ w4
  have hst6 : ∀ {y k fs}, σ6.2.2 y = some (.inr (k, fs)) → y ≠ st0 := fun {y k fs} hy q => by rw [q, w46] at hy; cases hy
  have hac : ∀ (l : Lc_), I_acopy cO_ l [.int (nI 4), .int (nI 0), .ref (σ.1 + 1 + 2), .int (nI 0), .ref st0] σ6 = nx_ l [] (σ6.1, σ6.2.1, up_ σ6.2.2 (σ.1 + 1 + 2) (tI_ 0 4 (va_cpy g0 g6 0 0 4))) := fun l => i_acI w46 b4 (by decide) (by decide) (by decide) (by decide) (by decide) rfl
  have hrM : ∀ j, ¬ (2 ≤ j ∧ j < 6) → (fun j => if j = 6 ∨ j = 7 then nI 0 else r j) j = rN_ r j := fun j hj => by
    by_cases c : j < 8
    · rcases (show j = 0 ∨ j = 1 ∨ j = 6 ∨ j = 7 by omega) with q | q | q | q <;> subst q <;> rfl
    · rw [rN_ge (by omega)]
      exact if_neg (by omega)
  have hY7 := WY_putS (r' := fun j => if j = 6 ∨ j = 7 then nI 0 else r j) (g' := va_cpy g0 g6 0 0 4) k2 hrM w5.1 w5.2.1 w5.2.2.1 w5.2.2.2
  have hY8 := WY_putW (r' := r) hY7 (fun j hj => (if_neg hj).symm)
  refine ⟨_, _, _, _, _, _, _, _, _, _, ?_, hY8, j3, k3, ?_⟩
  · have b1' := b1
    have hb := (wr_nb hW).2.2.2.2.1
    have d1 : rN_ r 6 = nI 0 := rfl
    have d2 : rN_ r 7 = nI 0 := rfl
    rw [d1, d2] at b1
    have hw4 := j2.2.1 _ _ w1
    have hw2 := i2.2.1 _ _ w1
    obtain ⟨_, _, _, l1, _⟩ := hL2
    obtain ⟨_, _, _, l2, _⟩ := hL4
    have hst : σ.1 + 1 + 2 ≠ σ.1 := by omega
    have hwst : w ≠ σ.1 + 1 + 2 := by omega
    unfold w0_ at i1
    rw [D_run]
    simp (disch := omega) only [b287_0, K287_0, l287, R_cons, go_nx, go_jp, go_rt, go_th, go_ca, go_no, go_ite, rr_v, rr_n, rr_x, hx_n, hx_p, hx_b, I_push, I_pushl, I_fc0, I_fc1, I_dc0, I_null, I_mask, I_iload, I_lload, I_dload, I_fload, I_aload, I_istore, I_lstore, I_dstore, I_fstore, I_astore, I_iinc, I_iadd, I_isub, I_imul, I_iand, I_ior, I_ixor, I_ishl, I_ishr, I_iushr, I_ineg, I_ladd, I_lsub, I_lmul, I_lxor, I_i2l, I_l2i, I_i2b, I_i2c, I_i2f, I_i2d, I_lcmp, I_fdiv, I_ddiv, I_f2d, I_dcmp, I_dup, I_pop, I_dup_x1, I_dup2, I_icne, I_iceq, I_iclt, I_icge, I_icgt, I_icle, I_ifnull, I_ifnonnull, I_ane, I_aeq, I_goto, I_lsw, I_iret, I_lret, I_fret, I_dret, I_vret, I_nret, I_aret, I_iald, I_bald, I_lald, I_aald, I_iast, I_bast, I_last, I_aast, I_alen, I_new, I_val, I_cast, I_inst, I_obj, I_throw, I_mkx, I_getf, I_putf, I_call, I_calli, I_callv, I_clone, I_getc, i_ifeq, i_ifne, i_iflt, i_ifge, i_ifgt, i_ifle, i_idiv, i_irem, i_newa, i_newo, i_abs, i_max, i_min, i_ldiv, en_, es_i, es_r, es_0, es_n, es_l, List.length_cons, List.length_nil, List.cons_append, List.nil_append, Nat.reduceAdd, Nat.reduceSub, List.replicate, lg_, st1_, st2_, cn_, nl_, mk_, pk_, kd_, sl_, la_, ft_a, ft_i, ft_l, ft_o, ft_n, ft_b0, ft_b1, ft_bI, nr_0, nr_1, nr_bI, ro_, no_, if_true, if_false, ite_true, ite_false, reduceIte, Nat.reduceMod, Nat.reduceEqDiff, Nat.zero_add, Nat.add_zero, lk_, lit_, nI_add, nI_mul, ix_nI, fgk_0, fgk_1, fgk_2, fgk_3, fgk_4, fgk_5, fgk_6, fgk_7, fgk_8, fgk_9, fgk_10, fgk_11, fgk_12, fgk_13, fsk_0, fsk_1, fsk_2, fsk_3, fsk_4, fsk_5, fsk_6, fsk_7, fsk_8, fsk_9, fsk_10, fsk_11, fsk_12, fsk_13, ca_i, ca_r, ca_n, Nat.reduceLT, true_or, or_true, if_true, false_or, or_false, and_true, true_and, List.mem_singleton, eq_self, w1, i1, hw2, l1, hI2]
    rw [j1, b287_2]
    simp (disch := omega) only [K287_2, R_cons, go_nx, go_jp, go_rt, go_th, go_ca, go_no, go_ite, rr_v, rr_n, rr_x, hx_n, hx_p, hx_b, I_push, I_pushl, I_fc0, I_fc1, I_dc0, I_null, I_mask, I_iload, I_lload, I_dload, I_fload, I_aload, I_istore, I_lstore, I_dstore, I_fstore, I_astore, I_iinc, I_iadd, I_isub, I_imul, I_iand, I_ior, I_ixor, I_ishl, I_ishr, I_iushr, I_ineg, I_ladd, I_lsub, I_lmul, I_lxor, I_i2l, I_l2i, I_i2b, I_i2c, I_i2f, I_i2d, I_lcmp, I_fdiv, I_ddiv, I_f2d, I_dcmp, I_dup, I_pop, I_dup_x1, I_dup2, I_icne, I_iceq, I_iclt, I_icge, I_icgt, I_icle, I_ifnull, I_ifnonnull, I_ane, I_aeq, I_goto, I_lsw, I_iret, I_lret, I_fret, I_dret, I_vret, I_nret, I_aret, I_iald, I_bald, I_lald, I_aald, I_iast, I_bast, I_last, I_aast, I_alen, I_new, I_val, I_cast, I_inst, I_obj, I_throw, I_mkx, I_getf, I_putf, I_call, I_calli, I_callv, I_clone, I_getc, i_ifeq, i_ifne, i_iflt, i_ifge, i_ifgt, i_ifle, i_idiv, i_irem, i_newa, i_newo, i_abs, i_max, i_min, i_ldiv, en_, es_i, es_r, es_0, es_n, es_l, List.length_cons, List.length_nil, List.cons_append, List.nil_append, Nat.reduceAdd, Nat.reduceSub, List.replicate, lg_, st1_, st2_, cn_, nl_, mk_, pk_, kd_, sl_, la_, ft_a, ft_i, ft_l, ft_o, ft_n, ft_b0, ft_b1, ft_bI, nr_0, nr_1, nr_bI, ro_, no_, if_true, if_false, ite_true, ite_false, reduceIte, Nat.reduceMod, Nat.reduceEqDiff, Nat.zero_add, Nat.add_zero, lk_, lit_, nI_add, nI_mul, ix_nI, fgk_0, fgk_1, fgk_2, fgk_3, fgk_4, fgk_5, fgk_6, fgk_7, fgk_8, fgk_9, fgk_10, fgk_11, fgk_12, fgk_13, fsk_0, fsk_1, fsk_2, fsk_3, fsk_4, fsk_5, fsk_6, fsk_7, fsk_8, fsk_9, fsk_10, fsk_11, fsk_12, fsk_13, ca_i, ca_r, ca_n, Nat.reduceLT, true_or, or_true, if_true, false_or, or_false, and_true, true_and, List.mem_singleton, eq_self, hw4, l2, hI4]
    rw [k1, b287_4]
    simp (disch := omega) only [K287_4, R_cons, go_nx, go_jp, go_rt, go_th, go_ca, go_no, go_ite, rr_v, rr_n, rr_x, hx_n, hx_p, hx_b, I_push, I_pushl, I_fc0, I_fc1, I_dc0, I_null, I_mask, I_iload, I_lload, I_dload, I_fload, I_aload, I_istore, I_lstore, I_dstore, I_fstore, I_astore, I_iinc, I_iadd, I_isub, I_imul, I_iand, I_ior, I_ixor, I_ishl, I_ishr, I_iushr, I_ineg, I_ladd, I_lsub, I_lmul, I_lxor, I_i2l, I_l2i, I_i2b, I_i2c, I_i2f, I_i2d, I_lcmp, I_fdiv, I_ddiv, I_f2d, I_dcmp, I_dup, I_pop, I_dup_x1, I_dup2, I_icne, I_iceq, I_iclt, I_icge, I_icgt, I_icle, I_ifnull, I_ifnonnull, I_ane, I_aeq, I_goto, I_lsw, I_iret, I_lret, I_fret, I_dret, I_vret, I_nret, I_aret, I_iald, I_bald, I_lald, I_aald, I_iast, I_bast, I_last, I_aast, I_alen, I_new, I_val, I_cast, I_inst, I_obj, I_throw, I_mkx, I_getf, I_putf, I_call, I_calli, I_callv, I_clone, I_getc, i_ifeq, i_ifne, i_iflt, i_ifge, i_ifgt, i_ifle, i_idiv, i_irem, i_newa, i_newo, i_abs, i_max, i_min, i_ldiv, en_, es_i, es_r, es_0, es_n, es_l, List.length_cons, List.length_nil, List.cons_append, List.nil_append, Nat.reduceAdd, Nat.reduceSub, List.replicate, lg_, st1_, st2_, cn_, nl_, mk_, pk_, kd_, sl_, la_, ft_a, ft_i, ft_l, ft_o, ft_n, ft_b0, ft_b1, ft_bI, nr_0, nr_1, nr_bI, ro_, no_, if_true, if_false, ite_true, ite_false, reduceIte, Nat.reduceMod, Nat.reduceEqDiff, Nat.zero_add, Nat.add_zero, lk_, lit_, nI_add, nI_mul, ix_nI, fgk_0, fgk_1, fgk_2, fgk_3, fgk_4, fgk_5, fgk_6, fgk_7, fgk_8, fgk_9, fgk_10, fgk_11, fgk_12, fgk_13, fsk_0, fsk_1, fsk_2, fsk_3, fsk_4, fsk_5, fsk_6, fsk_7, fsk_8, fsk_9, fsk_10, fsk_11, fsk_12, fsk_13, ca_i, ca_r, ca_n, Nat.reduceLT, true_or, or_true, if_true, false_or, or_false, and_true, true_and, List.mem_singleton, eq_self, w16, b1]
    rw [hac]
    rcases hb with q | q
    · rw [q] at w16 ⊢
      simp (disch := omega) only [R_cons, go_nx, go_jp, go_rt, go_th, go_ca, go_no, go_ite, rr_v, rr_n, rr_x, hx_n, hx_p, hx_b, I_push, I_pushl, I_fc0, I_fc1, I_dc0, I_null, I_mask, I_iload, I_lload, I_dload, I_fload, I_aload, I_istore, I_lstore, I_dstore, I_fstore, I_astore, I_iinc, I_iadd, I_isub, I_imul, I_iand, I_ior, I_ixor, I_ishl, I_ishr, I_iushr, I_ineg, I_ladd, I_lsub, I_lmul, I_lxor, I_i2l, I_l2i, I_i2b, I_i2c, I_i2f, I_i2d, I_lcmp, I_fdiv, I_ddiv, I_f2d, I_dcmp, I_dup, I_pop, I_dup_x1, I_dup2, I_icne, I_iceq, I_iclt, I_icge, I_icgt, I_icle, I_ifnull, I_ifnonnull, I_ane, I_aeq, I_goto, I_lsw, I_iret, I_lret, I_fret, I_dret, I_vret, I_nret, I_aret, I_iald, I_bald, I_lald, I_aald, I_iast, I_bast, I_last, I_aast, I_alen, I_new, I_val, I_cast, I_inst, I_obj, I_throw, I_mkx, I_getf, I_putf, I_call, I_calli, I_callv, I_clone, I_getc, i_ifeq, i_ifne, i_iflt, i_ifge, i_ifgt, i_ifle, i_idiv, i_irem, i_newa, i_newo, i_abs, i_max, i_min, i_ldiv, en_, es_i, es_r, es_0, es_n, es_l, List.length_cons, List.length_nil, List.cons_append, List.nil_append, Nat.reduceAdd, Nat.reduceSub, List.replicate, lg_, st1_, st2_, cn_, nl_, mk_, pk_, kd_, sl_, la_, ft_a, ft_i, ft_l, ft_o, ft_n, ft_b0, ft_b1, ft_bI, nr_0, nr_1, nr_bI, ro_, no_, if_true, if_false, ite_true, ite_false, reduceIte, Nat.reduceMod, Nat.reduceEqDiff, Nat.zero_add, Nat.add_zero, lk_, lit_, nI_add, nI_mul, ix_nI, fgk_0, fgk_1, fgk_2, fgk_3, fgk_4, fgk_5, fgk_6, fgk_7, fgk_8, fgk_9, fgk_10, fgk_11, fgk_12, fgk_13, fsk_0, fsk_1, fsk_2, fsk_3, fsk_4, fsk_5, fsk_6, fsk_7, fsk_8, fsk_9, fsk_10, fsk_11, fsk_12, fsk_13, ca_i, ca_r, ca_n, Nat.reduceLT, true_or, or_true, if_true, false_or, or_false, and_true, true_and, List.mem_singleton, eq_self, w16, b1, up_n, up_s, up_up]
    · rw [q] at w16 ⊢
      simp (disch := omega) only [R_cons, go_nx, go_jp, go_rt, go_th, go_ca, go_no, go_ite, rr_v, rr_n, rr_x, hx_n, hx_p, hx_b, I_push, I_pushl, I_fc0, I_fc1, I_dc0, I_null, I_mask, I_iload, I_lload, I_dload, I_fload, I_aload, I_istore, I_lstore, I_dstore, I_fstore, I_astore, I_iinc, I_iadd, I_isub, I_imul, I_iand, I_ior, I_ixor, I_ishl, I_ishr, I_iushr, I_ineg, I_ladd, I_lsub, I_lmul, I_lxor, I_i2l, I_l2i, I_i2b, I_i2c, I_i2f, I_i2d, I_lcmp, I_fdiv, I_ddiv, I_f2d, I_dcmp, I_dup, I_pop, I_dup_x1, I_dup2, I_icne, I_iceq, I_iclt, I_icge, I_icgt, I_icle, I_ifnull, I_ifnonnull, I_ane, I_aeq, I_goto, I_lsw, I_iret, I_lret, I_fret, I_dret, I_vret, I_nret, I_aret, I_iald, I_bald, I_lald, I_aald, I_iast, I_bast, I_last, I_aast, I_alen, I_new, I_val, I_cast, I_inst, I_obj, I_throw, I_mkx, I_getf, I_putf, I_call, I_calli, I_callv, I_clone, I_getc, i_ifeq, i_ifne, i_iflt, i_ifge, i_ifgt, i_ifle, i_idiv, i_irem, i_newa, i_newo, i_abs, i_max, i_min, i_ldiv, en_, es_i, es_r, es_0, es_n, es_l, List.length_cons, List.length_nil, List.cons_append, List.nil_append, Nat.reduceAdd, Nat.reduceSub, List.replicate, lg_, st1_, st2_, cn_, nl_, mk_, pk_, kd_, sl_, la_, ft_a, ft_i, ft_l, ft_o, ft_n, ft_b0, ft_b1, ft_bI, nr_0, nr_1, nr_bI, ro_, no_, if_true, if_false, ite_true, ite_false, reduceIte, Nat.reduceMod, Nat.reduceEqDiff, Nat.zero_add, Nat.add_zero, lk_, lit_, nI_add, nI_mul, ix_nI, fgk_0, fgk_1, fgk_2, fgk_3, fgk_4, fgk_5, fgk_6, fgk_7, fgk_8, fgk_9, fgk_10, fgk_11, fgk_12, fgk_13, fsk_0, fsk_1, fsk_2, fsk_3, fsk_4, fsk_5, fsk_6, fsk_7, fsk_8, fsk_9, fsk_10, fsk_11, fsk_12, fsk_13, ca_i, ca_r, ca_n, Nat.reduceLT, true_or, or_true, if_true, false_or, or_false, and_true, true_and, List.mem_singleton, eq_self, w16, b1, up_n, up_s, up_up]
  · have a1 := i3
    have a2 := j4
    have a3 := k4
    unfold Sz_ at a1 ⊢
    unfold Szt_ at a2 a3
    have ht0 : tot_ 0 = 0 := rfl
    have htn : tot_ n ≤ 33 := Nat.le_trans (tot_mono h12) (by decide +kernel)
    have hts : tot_ s ≤ 149 := Nat.le_trans (tot_mono h40) tot_40
    dsimp only at a1 a2 a3 ⊢
    omega
end WCS
