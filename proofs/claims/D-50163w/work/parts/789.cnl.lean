/-! ways through the hung forest -/
section CNL
variable {n : Nat} {pt : Nat → Nat} {tk : Nat → Bool} {hg dp : Nat → Nat}
/-- hangings and depths as numbers -/
def Dn_ (n : Nat) (pt : Nat → Nat) (tk : Nat → Bool) (hg dp : Nat → Nat) : Prop := ∀ k, k < n → (dp k = 0 ∧ pt k = k) ∨ (0 < dp k ∧ hg k < n ∧ adj_ tk k (hg k) ∧ dp k = dp (hg k) + 1)
theorem up_wk (hF : For_ n pt tk) (hD : Dn_ n pt tk hg dp) (hn : n ≤ 12) : ∀ (d k : Nat), k < n → dp k = d → ∃ u, wab_ tk k (pt k) (k :: u) ∧ (∀ z ∈ k :: u, z < n) ∧ u.length = d ∧ (0 < d → u.head? = some (hg k)) := by
  intro d
  induction d with
  | zero =>
    intro k hk hd
    rcases hD k hk with ⟨_, h⟩ | ⟨h, _⟩
    · rw [h]
      refine ⟨[], ⟨trivial, rfl, rfl⟩, fun z hz => ?_, rfl, fun h => by omega⟩
      rw [List.mem_singleton] at hz
      omega
    · omega
  | succ d ih =>
    intro k hk hd
    rcases hD k hk with ⟨h, _⟩ | ⟨h1, h2, h3, h4⟩
    · omega
    · obtain ⟨u, ⟨a1, a2, a3⟩, a4, a5, a6⟩ := ih (hg k) h2 (by omega)
      have hpk := (hF.1 k (hg k) h3 (by omega) (by omega)).1
      refine ⟨hg k :: u, ⟨⟨h3, fun q => ?_, a1⟩, rfl, ?_⟩, fun z hz => ?_, by rw [List.length_cons, a5], fun _ => rfl⟩
      · cases hd0 : d with
        | zero =>
          rw [hd0] at a5
          rw [List.length_eq_zero_iff.mp a5] at q
          cases q
        | succ e =>
          rw [a6 (by omega)] at q
          injection q with q
          rcases hD (hg k) h2 with ⟨b1, _⟩ | ⟨b1, b2, b3, b4⟩
          · omega
          · rw [q] at b4; omega
      · rw [List.getLast?_cons_cons, hpk]
        exact a3
      · rcases List.mem_cons.mp hz with e | e
        · omega
        · exact a4 z e
theorem edge_pc (hF : For_ n pt tk) (hD : Dn_ n pt tk hg dp) (hn : n ≤ 12) {x y : Nat} (hx : x < n) (hy : y < n) (ha : adj_ tk x y) : (0 < dp x ∧ hg x = y) ∨ (hg y = x ∧ dp y = dp x + 1) := by
  by_cases c : 0 < dp x ∧ hg x = y
  · exact Or.inl c
  · obtain ⟨u, ⟨a1, a2, a3⟩, a4, a5, a6⟩ := up_wk hF hD hn (dp x) x hx rfl
    obtain ⟨v, ⟨b1, b2, b3⟩, b4, b5, b6⟩ := up_wk hF hD hn (dp y) y hy rfl
    have hp := (hF.1 x y ha (by omega) (by omega)).1
    have hw : wab_ tk y (pt y) (y :: x :: u) := by
      refine ⟨⟨adj_co ha, fun q => ?_, a1⟩, rfl, by rw [List.getLast?_cons_cons, ← hp]; exact a3⟩
      by_cases h0 : 0 < dp x
      · rw [a6 h0] at q
        injection q with q
        exact c ⟨h0, q⟩
      · have : u.length = 0 := by omega
        rw [List.length_eq_zero_iff.mp this] at q
        cases q
    have he := hF.2.1 y (pt y) _ _ hy hw ⟨b1, b2, b3⟩ (fun z hz => by
      rcases List.mem_cons.mp hz with e | e
      · omega
      · have := a4 z e; omega) (fun z hz => by have := b4 z hz; omega)
    injection he with _ he
    right
    rw [← he] at b5 b6
    rw [List.length_cons, a5] at b5
    have := b6 (by omega)
    injection this with this
    exact ⟨this.symm, b5.symm⟩
theorem down_wk (hF : For_ n pt tk) (hD : Dn_ n pt tk hg dp) (hn : n ≤ 12) : ∀ (l : List Nat) (x y c : Nat), wk_ tk (x :: y :: l) → (∀ z ∈ x :: y :: l, z < n) → hg y = x → dp y = dp x + 1 → (x :: y :: l).getLast? = some c → dp x < dp c := by
  intro l
  induction l with
  | nil =>
    intro x y c hw hz h1 h2 h3
    have : y = c := by simpa using h3
    rw [← this]
    omega
  | cons z l ih =>
    intro x y c hw hz h1 h2 h3
    rw [wk_] at hw
    have hyz : adj_ tk y z := by have := hw.2.2; rw [wk_] at this; exact this.1
    have hzx : z ≠ x := fun q => hw.2.1 (by rw [q]; rfl)
    have hyn := hz y (by simp)
    have hzn := hz z (by simp)
    rcases edge_pc hF hD hn hyn hzn hyz with ⟨_, e⟩ | ⟨e1, e2⟩
    · exact absurd (e.symm.trans h1) hzx
    · have := ih y z c hw.2.2 (fun z hz1 => hz z (List.mem_cons_of_mem _ hz1)) e1 e2 (by rw [List.getLast?_cons_cons] at h3; exact h3)
      omega
theorem first_up (hF : For_ n pt tk) (hD : Dn_ n pt tk hg dp) (hn : n ≤ 12) {a c : Nat} {v : List Nat} (hv : wab_ tk a c v) (hz : ∀ z ∈ v, z < n) (hac : a ≠ c) (hdp : dp c ≤ dp a) : ∃ v', v = a :: v' ∧ wab_ tk (hg a) c v' ∧ 0 < dp a := by
  obtain ⟨h1, h2, h3⟩ := hv
  cases v with
  | nil => cases h2
  | cons x v =>
    have ex : x = a := by simpa using h2
    subst ex
    cases v with
    | nil => exact absurd (by simpa using h3) hac
    | cons y v =>
      have hxn := hz x (by simp)
      have hyn := hz y (by simp)
      have h1' := h1
      rw [wk_] at h1'
      rcases edge_pc hF hD hn hxn hyn h1'.1 with ⟨e0, e⟩ | ⟨e1, e2⟩
      · refine ⟨y :: v, rfl, ⟨h1'.2.2, by rw [e]; rfl, by rw [List.getLast?_cons_cons] at h3; exact h3⟩, e0⟩
      · have := down_wk hF hD hn v x y c h1 hz e1 e2 h3
        omega
theorem wk_rev : ∀ (w : List Nat), wk_ tk w → wk_ tk w.reverse := by
  intro w
  induction w with
  | nil => intro h; exact h
  | cons x w ih =>
    intro h
    cases w with
    | nil => exact h
    | cons y l =>
      rw [wk_] at h
      have h2 := ih h.2.2
      rw [List.reverse_cons] at h2
      rw [List.reverse_cons, List.reverse_cons, List.append_assoc]
      exact wk_snoc (adj_co h.1) _ h2 (by rw [List.getLast?_reverse]; exact h.2.1)
theorem wab_rev {a c : Nat} {w : List Nat} (h : wab_ tk a c w) : wab_ tk c a w.reverse := ⟨wk_rev w h.1, by rw [List.head?_reverse]; exact h.2.2, by rw [List.getLast?_reverse]; exact h.2.1⟩
end CNL
section CNL2
variable {r : Nat → Int32} {n s : Nat} {hg dp : Nat → Nat}
theorem pth_rev (hn : n ≤ 12) {a c : Nat} (ha : a < n) (hc : c < n) (h : prt_ r n s a = prt_ r n s c) : pth_ r n s c a = (pth_ r n s a c).reverse := by
  obtain ⟨h1, h2⟩ := pth_spec (r := r) (s := s) hn ha hc h
  exact (pth_eq hn hc (wab_rev h1) (fun z hz => h2 z (List.mem_reverse.mp hz))).symm
theorem pth_self (hn : n ≤ 12) {a : Nat} (ha : a < n) : pth_ r n s a a = [a] := (pth_eq hn ha (w := [a]) ⟨(trivial : wk_ _ [a]), rfl, rfl⟩ (fun z hz => by rw [List.mem_singleton] at hz; omega)).symm
theorem pth_up (hn : n ≤ 12) (hD : Dn_ n (prt_ r n s) (tkn_ r n s) hg dp) {a c : Nat} (ha : a < n) (hc : c < n) (h : prt_ r n s a = prt_ r n s c) (hac : a ≠ c) (hdp : dp c ≤ dp a) : pth_ r n s a c = a :: pth_ r n s (hg a) c ∧ hg a < n ∧ prt_ r n s (hg a) = prt_ r n s c ∧ 0 < dp a := by
  obtain ⟨_, hF, _⟩ := kr_all (r := r) (n := n) (s := s) hn
  obtain ⟨h1, h2⟩ := pth_spec (r := r) (s := s) hn ha hc h
  obtain ⟨v, v1, v2, v3⟩ := first_up hF hD hn h1 h2 hac hdp
  rcases hD a ha with ⟨q, _⟩ | ⟨q1, q2, q3, q4⟩
  · omega
  · have hv : ∀ z ∈ v, z < n := fun z hz => h2 z (by rw [v1]; exact List.mem_cons_of_mem _ hz)
    rw [← pth_eq hn q2 v2 hv]
    refine ⟨v1, q2, ?_, v3⟩
    rw [← h]
    exact (hF.1 a (hg a) q3 (by omega) (by omega)).1.symm
theorem pth_dn (hn : n ≤ 12) (hD : Dn_ n (prt_ r n s) (tkn_ r n s) hg dp) {a c : Nat} (ha : a < n) (hc : c < n) (h : prt_ r n s a = prt_ r n s c) (hdp : dp a < dp c) : pth_ r n s a c = pth_ r n s a (hg c) ++ [c] ∧ hg c < n ∧ prt_ r n s a = prt_ r n s (hg c) ∧ 0 < dp c := by
  have hne : c ≠ a := fun q => by rw [q] at hdp; omega
  obtain ⟨h1, h2, h3, h4⟩ := pth_up hn hD hc ha h.symm hne (by omega)
  refine ⟨?_, h2, h3.symm, h4⟩
  rw [pth_rev hn hc ha h.symm, h1, List.reverse_cons, pth_rev hn h2 ha h3]
/-- rows of depths as numbers -/
theorem Dn_of (hn : n ≤ 12) {pt : Nat → Nat} {tk : Nat → Bool} {H D : Nat → Int32} (h : Dq_ n pt tk H D) : Dn_ n pt tk (fun k => (H k).toInt.toNat) (fun k => (D k).toInt.toNat) ∧ (∀ k, k < n → D k = nI (D k).toInt.toNat ∧ (D k).toInt.toNat ≤ 12) ∧ (∀ k, k < n → 0 < (D k).toInt.toNat → H k = nI (H k).toInt.toNat) := by
  have hd : ∀ k d, d ≤ 12 → D k = nI d → (D k).toInt.toNat = d := fun k d h1 h2 => by
    rw [h2, nI_toInt (by omega)]
    exact Int.toNat_natCast d
  refine ⟨fun k hk => ?_, fun k hk => ?_, fun k hk h0 => ?_⟩
  · obtain ⟨d, d1, d2, d3⟩ := h k hk
    have e := hd k d d1 d2
    rcases d3 with ⟨d3, d4⟩ | ⟨d3, y, y1, y2, y3, y4⟩
    · left
      exact ⟨by dsimp only; omega, d4⟩
    · right
      have ey := hd y (d - 1) (by omega) y4
      dsimp only
      have eh2 : (H k).toInt.toNat = y := by
        rw [y2, nI_toInt (by omega)]
        exact Int.toNat_natCast y
      rw [eh2, e, ey]
      exact ⟨d3, y1, y3, by omega⟩
  · obtain ⟨d, d1, d2, d3⟩ := h k hk
    rw [hd k d d1 d2]
    exact ⟨d2, d1⟩
  · obtain ⟨d, d1, d2, d3⟩ := h k hk
    have e := hd k d d1 d2
    rcases d3 with ⟨d3, d4⟩ | ⟨d3, y, y1, y2, y3, y4⟩
    · omega
    · rw [y2, nI_toInt (by omega)]
      exact congrArg nI (Int.toNat_natCast y).symm
end CNL2
