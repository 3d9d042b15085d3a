/-! heights of a young wall change under its net -/
section HSX
variable {r r' : Nat → Int32}
theorem hs_spd (h : hs_ r r') : spd_ r' = spd_ r := by
  have e1 : spd1_ r' = spd1_ r := by funext e p i x; unfold spd1_; rw [hs_pas h, hs_fr h, hs_to h, hs_ri h, h (68 + 6 * i + 5) (by omega)]
  funext e s p
  unfold spd_
  rw [e1]
theorem hs_pth (h : hs_ r r') : pth_ r' = pth_ r := by
  funext n s a b
  unfold pth_
  rw [hs_tkn h]
theorem hs_lpe (h : hs_ r r') : lpe_ r' = lpe_ r := by
  funext n s i
  unfold lpe_
  rw [hs_lps h]
theorem hs_lpw (h : hs_ r r') : lpw_ r' = lpw_ r := by
  funext n s i
  unfold lpw_
  rw [hs_lpe h, hs_pth h]
theorem hs_mis (h : hs_ r r') : mis_ r' = mis_ r := by
  funext n s i
  unfold mis_
  rw [hs_lpe h, hs_lpw h, hs_upv h, hs_err h, hs_rf h]
theorem hs_wal (h : hs_ r r') : wal_ r' = wal_ r := by
  funext n s i
  unfold wal_
  rw [hs_lpe h, hs_lpw h, hs_di h]
theorem hs_LpL {E : En_} {h : Nat → Option Ac_} {m a n s k : Nat} (hs : hs_ r r') (hL : LpL_ E h m a r n s k) : LpL_ E h m a r' n s k := by
  unfold LpL_ at hL ⊢
  rw [hs_lpe hs, hs_lpw hs, hs_mis hs, hs_wal hs]
  exact hL
theorem hs_NtK {N : Nat → Nat → Int32} {n s : Nat} (hs : hs_ r r') (hK : NtK_ N r n s) : NtK_ N r' n s := by
  unfold NtK_ Ne_ at hK ⊢
  rw [hs_err hs, hs_ct hs, hs_upv hs, hs_spd hs, hs_prt hs, hs_tkn hs]
  exact hK
end HSX
section CLA
variable {E : En_} {σ : As_} {w am em as es st n s b bb q : Nat} {mc mc' : Int32} {r r' : Nat → Int32} {ms ss : List Nat} {h0 g : Nat → Option Ac_} {N : Nat → Nat → Int32}
theorem le_put {h h' : Nat → Option Ac_} {x : Nat} {c : Ac_} (hl : le_ h h') : le_ (up_ h x c) (up_ h' x c) := fun y d hy => by
  by_cases e : y = x
  · rw [e, up_s] at hy ⊢
    exact hy
  · rw [up_n e] at hy ⊢
    exact hl _ _ hy
theorem LpL_ne2 {h : Nat → Option Ac_} {m a k x : Nat} {fs : List Value} {c : Ac_} (hL : LpL_ E h m a r n s k) (hx : h x = some (.inr (2, fs))) : LpL_ E (up_ h x c) m a r n s k := by
  obtain ⟨mc, e, xs, h1, he, h2, h3⟩ := hL
  have hlo : ∀ i y, xs[i]? = some y → LpO_ m (up_ h x c) y (lpe_ r n s i / 12) (lpw_ r n s i) (mis_ r n s i) (wal_ r n s i) := fun i y hy => by
    obtain ⟨_, a', f, e1, e2, e3⟩ := h3 i y hy
    refine ⟨a', f, ?_, ?_, e3⟩
    · rw [up_n (fun q => by rw [q, hx] at e1; cases e1)]
      exact e1
    · rw [up_n (fun q => by rw [q, hx] at e2; cases e2)]
      exact e2
  refine ⟨mc, e, xs, Ls_ne hx (fun _ q => by cases q) (fun _ _ _ q => by cases q) (all_i fun i y hy => ?_) h1, he, h2, fun i y hy => ⟨(h3 i y hy).1, hlo i y hy⟩⟩
  obtain ⟨a', f, e1, _⟩ := hlo i y hy
  exact ⟨_, _, e1, by decide⟩
theorem E45_ne2 {h : Nat → Option Ac_} {x : Nat} {fs : List Value} {c : Ac_} (h4 : E45_ E h) (hx : h x = some (.inr (2, fs))) : E45_ E (up_ h x c) := by
  obtain ⟨e0, a, f, tt, e1, e2, e3, e4⟩ := h4
  refine ⟨e0, a, f, tt, e1, ?_, e3, fun k hk => ?_⟩
  · rw [up_n (fun q => by rw [q, hx] at e2; cases e2)]
    exact e2
  · obtain ⟨y, y1, cc, y2, y3⟩ := e4 k hk
    refine ⟨y, y1, cc, ?_, y3⟩
    rw [up_n (fun q => by rw [q, hx] at y2; cases y2; omega)]
    exact y2
/-- a mark's height under a net -/
theorem Nx_put {i x nm m : Nat} {z0 z1 z2 : Int32} (h : Nx_ E g σ b bb q w N r n s ms ss) (hY : WY_ E h0 (bb + 1, m, g) w r am em as es st mc mc' ms ss) (hx : ms[i]? = some x) (hxn : g x = some (.inr (2, [.ref nm, .int z0, .int z1, .int z2]))) (hr : ∀ j, ¬ (8 + 5 * i + 2 ≤ j ∧ j < 8 + 5 * i + 5) → r' j = r j) (hs : hs_ r r') (hW' : Wr_ r' n s) :
    Nx_ E (up_ g x (.inr (2, [.ref nm, .int (r' (8 + 5 * i + 1)), .int (r' (8 + 5 * i + 2)), .int (hgt_ r' i)]))) (σ.1, σ.2.1, up_ σ.2.2 x (.inr (2, [.ref nm, .int (r' (8 + 5 * i + 1)), .int (r' (8 + 5 * i + 2)), .int (hgt_ r' i)]))) b bb q w N r' n s ms ss ∧ WY_ E h0 (bb + 1, m, up_ g x (.inr (2, [.ref nm, .int (r' (8 + 5 * i + 1)), .int (r' (8 + 5 * i + 2)), .int (hgt_ r' i)]))) w r' am em as es st mc mc' ms ss := by
  obtain ⟨⟨lc, hV⟩, hK, hL, _, hm, hss, hW, h4⟩ := h
  have h12 := wr_n12 hW
  have hY' := WY_putM (σ := (bb + 1, m, g)) hY hx hxn hr (by omega)
  obtain ⟨⟨c0, c1, c2, c3, c4, c5, c6, c8, c9, c10, cL⟩, v2, v3, v4, v5⟩ := hV
  have hxb : x ≠ b ∧ x ≤ bb := by
    by_cases c : x ≠ b ∧ x ≤ bb
    · exact c
    · rw [v4 x (by omega)] at hxn; cases hxn
  have hσx := v2 _ _ hxn
  have hxl := Hw_lt v3 hσx
  have hl : le_ (up_ g x (.inr (2, [.ref nm, .int (r' (8 + 5 * i + 1)), .int (r' (8 + 5 * i + 2)), .int (hgt_ r' i)]))) (up_ σ.2.2 x (.inr (2, [.ref nm, .int (r' (8 + 5 * i + 1)), .int (r' (8 + 5 * i + 2)), .int (hgt_ r' i)]))) := le_put v2
  refine ⟨⟨⟨lc, ⟨?_, ?_, ?_, ?_, ?_, ?_, ?_, ?_, ?_, ?_, ?_⟩, hl, up_Hw v3 hxl, ?_, v5⟩, hs_NtK hs hK, ?_, ?_, hm, hss, hW', E45_ne2 h4 hxn⟩, hY'⟩
  · exact (up_n (by omega)).trans c0
  · exact (up_n (by omega)).trans c1
  · exact (up_n (by omega)).trans c2
  · exact (up_n (by omega)).trans c3
  · exact (up_n (by omega)).trans c4
  · exact (up_n (by omega)).trans c5
  · exact (up_n (by omega)).trans c6
  · exact (up_n (by omega)).trans c8
  · exact (up_n (by omega)).trans c9
  · exact (up_n (by omega)).trans c10
  · exact (up_n (by omega)).trans cL
  · intro y hy
    rw [up_n (by omega)]
    exact v4 y hy
  · rw [show (lps_ r' n s) = lps_ r n s from congrFun (congrFun (hs_lps hs) n) s]
    exact hs_LpL hs (LpL_ne2 hL hσx)
  · exact Wl_mono hl ⟨_, _, _, _, _, _, _, hY'.1⟩
/-- heights are bounded -/
def Bh_ (r : Nat → Int32) (n : Nat) (B : Nat) : Prop := ∀ k, k < n → r (8 + 5 * k + 3) = nI 1 → -(B : Int) ≤ (r (8 + 5 * k + 4)).toInt ∧ (r (8 + 5 * k + 4)).toInt ≤ (B : Int)
theorem Bh_ok {B : Nat} (h : Bh_ r n B) (hB : B < 10000000) : Hok_ r n := fun k hk h1 q => by
  have := h k hk h1
  rw [q, NOH_toInt] at this
  omega
theorem Bh_lvr {B a c : Nat} {e : Int32} (h : Bh_ r n B) (hW : Wr_ r n s) (he : inr_ e (-26001) 26000) (ha : a < n) (hfa : r (8 + 5 * a + 3) = nI 1) (hB : B < 1000000000) : Bh_ (lvr_ r e s a c) n (B + 52001) := by
  intro k hk hf
  have h1 := h a ha hfa
  have h2 := rf_in (a := a) (b := c) hW he
  unfold inr_ at h2
  unfold lvr_ at hf ⊢
  by_cases ck : k = c
  · subst ck
    rw [upd_s, i32_add (by omega)]
    omega
  · rw [upd_n (by omega), upd_n (by omega)] at hf ⊢
    have := h k hk hf
    omega
end CLA
