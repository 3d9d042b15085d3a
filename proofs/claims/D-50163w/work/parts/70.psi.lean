/-! what is read makes rows that stand for walls; tokens go on -/
section PSI
variable {b : Nat → Int32} {ln : Nat} {T : Tok_}
/-- a token of the text -/
def Tq_ (b : Nat → Int32) (ln : Nat) (T : Tok_) : Prop := ∃ p0, p0 ≤ ln ∧ T = nxt_ b ln p0
theorem tq_nxt {p : Nat} (h : p ≤ ln) : Tq_ b ln (nxt_ b ln p) := ⟨p, h, rfl⟩
theorem tq_le (h : Tq_ b ln T) : T.2.1 ≤ T.2.2.1 ∧ T.2.2.1 ≤ ln ∧ T.2.2.2 < 100000 ∧ T.1 < 6 ∧ (¬ T.1 = 0 → T.2.1 < T.2.2.1) := by
  obtain ⟨p0, h4, rfl⟩ := h
  have := nxt_le (b := b) h4
  exact ⟨this.2.1, this.2.2.1, this.2.2.2.2.1, this.2.2.2.2.2, this.2.2.2.1⟩
theorem tq_go (h : Tq_ b ln T) : Tq_ b ln (nxt_ b ln T.2.2.1) ∧ T.2.1 ≤ (nxt_ b ln T.2.2.1).2.1 := by
  have h1 := tq_le h
  have h2 := nxt_le (b := b) h1.2.1
  exact ⟨tq_nxt h1.2.1, by omega⟩
theorem num0_in {x y : Int32} {u : Nat} (h : num0_ T x y = .inr u) : u = T.2.2.2 ∧ x ≤ nI u ∧ nI u ≤ y ∧ T.1 = 2 := by
  unfold num0_ at h
  split at h
  · next c =>
    split at h
    · next c2 => cases h; exact ⟨rfl, c2.1, c2.2, c⟩
    · cases h
  · cases h
theorem num_in {x y : Int32} {q : Nat × Tok_} (hT : Tq_ b ln T) (h : num_ b ln T x y = .inr q) : x ≤ nI q.1 ∧ nI q.1 ≤ y ∧ q.1 < 100000 ∧ Tq_ b ln q.2 ∧ T.2.1 ≤ q.2.2.1 := by
  unfold num_ at h
  cases hq : num0_ T x y with
  | inl e => rw [hq] at h; cases h
  | inr u =>
    rw [hq] at h
    cases h
    obtain ⟨rfl, h2, h3, _⟩ := num0_in hq
    have := tq_go hT
    exact ⟨h2, h3, (tq_le hT).2.2.1, this.1, this.2⟩
theorem neg_toInt {k : Nat} (h : k < 2 ^ 31) : (-nI k).toInt = -(k : Int) := by
  rw [Int32.toInt_neg, nI_toInt h]
  exact Int.bmod_eq_of_le (by omega) (by omega)
theorem sgn_in {X Y : Nat} {q : Int32 × Tok_} (hX : X < 100000) (hY : Y < 100000) (hT : Tq_ b ln T) (h : sgn_ b ln T (-nI X) (nI Y) = .inr q) : inr_ q.1 (-(X : Int)) Y ∧ Tq_ b ln q.2 ∧ T.2.1 ≤ q.2.2.1 := by
  unfold sgn_ at h
  by_cases c : T.1 = 4
  · rw [if_pos c] at h
    have h1 := tq_go hT
    cases hq : num_ b ln (nxt_ b ln T.2.2.1) (nI 0) (-(-nI X)) with
    | inl e => rw [hq] at h; cases h
    | inr u =>
      rw [hq] at h
      cases h
      obtain ⟨h2, h3, h4, h5, h6⟩ := num_in h1.1 hq
      have e : -(-nI X) = nI X := by
        apply Int32.toInt_inj.mp
        rw [Int32.toInt_neg, neg_toInt (by omega), nI_toInt (by omega)]
        rw [Int.neg_neg]
        exact Int.bmod_eq_of_le (by omega) (by omega)
      rw [e] at h3
      rw [Int32.le_iff_toInt_le, nI_toInt (by omega), nI_toInt (by omega)] at h3
      refine ⟨?_, h5, by show T.2.1 ≤ u.2.2.1; omega⟩
      unfold inr_
      rw [neg_toInt (by omega)]
      omega
  · rw [if_neg c] at h
    cases hq : num_ b ln T (mx_ (nI 0) (-nI X)) (nI Y) with
    | inl e => rw [hq] at h; cases h
    | inr u =>
      rw [hq] at h
      cases h
      obtain ⟨h2, h3, h4, h5, h6⟩ := num_in hT hq
      rw [Int32.le_iff_toInt_le, nI_toInt (by omega), nI_toInt (by omega)] at h3
      refine ⟨?_, h5, h6⟩
      unfold inr_
      rw [nI_toInt (by omega)]
      omega
theorem nms_in {a w : Nat} : ∀ (d k v : Nat), nms_ b a d k v = some w → v < 27 ^ k → w < 27 ^ (k + d) ∧ (0 < d ∨ 0 < v → 0 < w) := by
  intro d
  induction d with
  | zero => intro k v h hv; cases h; exact ⟨hv, fun h => h.elim (fun q => absurd q (by decide)) id⟩
  | succ d ih =>
    intro k v h hv
    rw [nms_] at h
    split at h
    · next c =>
      have hc : 97 ≤ cb_ b (a + k) ∧ cb_ b (a + k) ≤ 122 := c
      have := ih (k + 1) _ h (by rw [Nat.pow_succ]; omega)
      have e : k + 1 + d = k + (d + 1) := by omega
      rw [e] at this
      exact ⟨this.1, fun _ => this.2 (Or.inr (by omega))⟩
    · cases h
theorem nam_in {x : Nat} (hT : Tq_ b ln T) (h : nam_ b T = .inr x) : 1 ≤ x ∧ x ≤ 387420488 := by
  obtain ⟨p0, h4, rfl⟩ := hT
  unfold nam_ at h
  split at h
  · next c =>
    have hw := nxt_word h4 c.1
    obtain ⟨w, hw2⟩ := nms_some (b := b) (a := (nxt_ b ln p0).2.1) ((nxt_ b ln p0).2.2.1 - (nxt_ b ln p0).2.1) 0 0 (fun j h1 h2 => hw.2 j (by omega) (by omega))
    have e : nma_ b (nxt_ b ln p0).2.1 ((nxt_ b ln p0).2.2.1 - (nxt_ b ln p0).2.1) = some w := by
      unfold nma_
      rw [if_pos ⟨by omega, c.2.2⟩]
      exact hw2
    rw [e] at h
    cases h
    have h2 := nms_in _ _ _ hw2 (by decide)
    rw [Nat.zero_add] at h2
    have h3 : 27 ^ ((nxt_ b ln p0).2.2.1 - (nxt_ b ln p0).2.1) ≤ 27 ^ 6 := Nat.pow_le_pow_right (by decide) c.2.2
    have h5 : (27 : Nat) ^ 6 = 387420489 := by decide
    have h6 := h2.2 (Or.inl (by omega))
    show 1 ≤ w ∧ w ≤ 387420488
    omega
  · cases h
theorem nmd_none {r : Nat → Int32} {x : Int32} : ∀ (d k : Nat), nmd_ r x d k = none → ∀ j, k ≤ j → j < k + d → ¬ r (8 + 5 * j) = x := by
  intro d
  induction d with
  | zero => intro k h j h1 h2; omega
  | succ d ih =>
    intro k h j h1 h2
    rw [nmd_] at h
    split at h
    · cases h
    · next c =>
      by_cases e : j = k
      · rw [e]; exact c
      · exact ih (k + 1) h j (by omega) (by omega)
theorem plo_false {r : Nat → Int32} {x : Int32} : ∀ (d k : Nat), ¬ plo_ r x d k = true → ∀ j, k ≤ j → j < k + d → ¬ r (8 + 5 * j + 1) = x := by
  intro d
  induction d with
  | zero => intro k h j h1 h2; omega
  | succ d ih =>
    intro k h j h1 h2
    rw [plo_] at h
    split at h
    · exact absurd rfl h
    · next c =>
      by_cases e : j = k
      · rw [e]; exact c
      · exact ih (k + 1) h j (by omega) (by omega)
theorem mkr_at {r : Nat → Int32} {k : Nat} {x a bn h : Int32} : mkr_ r k x a bn h 0 = nI (k + 1) ∧ mkr_ r k x a bn h (8 + 5 * k) = x ∧ mkr_ r k x a bn h (8 + 5 * k + 1) = a ∧ mkr_ r k x a bn h (8 + 5 * k + 2) = bn ∧ mkr_ r k x a bn h (8 + 5 * k + 3) = bn ∧ mkr_ r k x a bn h (8 + 5 * k + 4) = h ∧
    (∀ j, j ≠ 0 → ¬ (8 + 5 * k ≤ j ∧ j < 8 + 5 * k + 5) → mkr_ r k x a bn h j = r j) := by
  unfold mkr_
  refine ⟨upd_s, ?_, ?_, ?_, ?_, ?_, fun j h0 h1 => ?_⟩
  · rw [upd_n (by omega), upd_n (by omega), upd_n (by omega), upd_n (by omega), upd_n (by omega), upd_s]
  · rw [upd_n (by omega), upd_n (by omega), upd_n (by omega), upd_n (by omega), upd_s]
  · rw [upd_n (by omega), upd_n (by omega), upd_n (by omega), upd_s]
  · rw [upd_n (by omega), upd_n (by omega), upd_s]
  · rw [upd_n (by omega), upd_s]
  · rw [upd_n (by omega), upd_n (by omega), upd_n (by omega), upd_n (by omega), upd_n (by omega), upd_n (by omega)]
theorem mkr_Wr {r : Nat → Int32} {n s x a : Nat} {bn h : Int32} (hW : Wr_ r n s) (hn : n < 12) (hx : 1 ≤ x ∧ x ≤ 387420488) (hx2 : nmd_ r (nI x) n 0 = none) (ha : a ≤ 99999) (ha2 : ¬ plo_ r (nI a) n 0 = true) (hb : bit_ bn) : Wr_ (mkr_ r n (nI x) (nI a) bn h) (n + 1) s := by
  obtain ⟨m0, m1, m2, m3, m4, m5, m6⟩ := mkr_at (r := r) (k := n) (x := nI x) (a := nI a) (bn := bn) (h := h)
  have q1 := nmd_none n 0 hx2
  have q2 := plo_false n 0 ha2
  obtain ⟨a1, a2, a3, a4, a5, a6, a7, a8, a9, a10, a11, a12, a13⟩ := hW
  generalize mkr_ r n (nI x) (nI a) bn h = r' at m0 m1 m2 m3 m4 m5 m6 ⊢
  have old : ∀ c, c < n → r' (8 + 5 * c) = r (8 + 5 * c) ∧ r' (8 + 5 * c + 1) = r (8 + 5 * c + 1) ∧ r' (8 + 5 * c + 2) = r (8 + 5 * c + 2) ∧ r' (8 + 5 * c + 3) = r (8 + 5 * c + 3) := fun c hc => ⟨m6 _ (by omega) (by omega), m6 _ (by omega) (by omega), m6 _ (by omega) (by omega), m6 _ (by omega) (by omega)⟩
  refine ⟨by omega, a2, m0, by rw [m6 1 (by omega) (by omega)]; exact a4, by rw [m6 2 (by omega) (by omega)]; exact a5, by rw [m6 3 (by omega) (by omega)]; exact a6, by rw [m6 4 (by omega) (by omega)]; exact a7, by rw [m6 5 (by omega) (by omega)]; exact a8, by rw [m6 6 (by omega) (by omega)]; exact a9, by rw [m6 7 (by omega) (by omega)]; exact a10, ?_, ?_, ?_⟩
  · intro c hc
    by_cases e : c = n
    · subst e
      rw [m1, m2, m3, m4]
      refine ⟨?_, ?_, hb, hb, id⟩
      · unfold inr_; rw [nI_toInt (by omega)]; omega
      · unfold inr_; rw [nI_toInt (by omega)]; omega
    · obtain ⟨o1, o2, o3, o4⟩ := old c (by omega)
      rw [o1, o2, o3, o4]
      exact a11 c (by omega)
  · intro c hc d hd hcd
    by_cases e : c = n
    · subst e
      obtain ⟨o1, o2, _⟩ := old d (by omega)
      rw [o1, o2, m1, m2]
      exact ⟨fun h => q1 d (by omega) (by omega) h.symm, fun h => q2 d (by omega) (by omega) h.symm⟩
    · obtain ⟨o1, o2, _⟩ := old c (by omega)
      rw [o1, o2]
      by_cases e2 : d = n
      · subst e2
        rw [m1, m2]
        exact ⟨fun h => q1 c (by omega) (by omega) h, fun h => q2 c (by omega) (by omega) h⟩
      · obtain ⟨p1, p2, _⟩ := old d (by omega)
        rw [p1, p2]
        exact a12 c (by omega) d (by omega) hcd
  · intro i hi
    rw [m6 _ (by omega) (by omega), m6 _ (by omega) (by omega), m6 _ (by omega) (by omega), m6 _ (by omega) (by omega), m6 _ (by omega) (by omega), m6 _ (by omega) (by omega)]
    obtain ⟨⟨f, hf, e1⟩, ⟨g, hg, e2⟩, e3⟩ := a13 i hi
    exact ⟨⟨f, by omega, e1⟩, ⟨g, by omega, e2⟩, e3⟩
theorem ads_at {r : Nat → Int32} {s : Nat} {f g e x h : Int32} : ads_ r s f g e x h 1 = nI (s + 1) ∧ ads_ r s f g e x h (68 + 6 * s) = f ∧ ads_ r s f g e x h (68 + 6 * s + 1) = g ∧ ads_ r s f g e x h (68 + 6 * s + 2) = e ∧ ads_ r s f g e x h (68 + 6 * s + 3) = x ∧ ads_ r s f g e x h (68 + 6 * s + 4) = h ∧ ads_ r s f g e x h (68 + 6 * s + 5) = nI 0 ∧
    (∀ j, j ≠ 1 → ¬ (68 + 6 * s ≤ j ∧ j < 68 + 6 * s + 6) → ads_ r s f g e x h j = r j) := by
  unfold ads_
  refine ⟨upd_s, ?_, ?_, ?_, ?_, ?_, ?_, fun j h0 h1 => ?_⟩
  · rw [upd_n (by omega), upd_n (by omega), upd_n (by omega), upd_n (by omega), upd_n (by omega), upd_n (by omega), upd_s]
  · rw [upd_n (by omega), upd_n (by omega), upd_n (by omega), upd_n (by omega), upd_n (by omega), upd_s]
  · rw [upd_n (by omega), upd_n (by omega), upd_n (by omega), upd_n (by omega), upd_s]
  · rw [upd_n (by omega), upd_n (by omega), upd_n (by omega), upd_s]
  · rw [upd_n (by omega), upd_n (by omega), upd_s]
  · rw [upd_n (by omega), upd_s]
  · rw [upd_n (by omega), upd_n (by omega), upd_n (by omega), upd_n (by omega), upd_n (by omega), upd_n (by omega), upd_n (by omega)]
theorem ads_Wr {r : Nat → Int32} {n s f g : Nat} {e x h : Int32} (hW : Wr_ r n s) (hs : s < 40) (hf : f < n) (hg : g < n) (hfg : f ≠ g) (he : bit_ e) (hx : inr_ x (-9999) 9999) (hh : inr_ h (-40) 60) : Wr_ (ads_ r s (nI f) (nI g) e x h) n (s + 1) := by
  obtain ⟨m0, m1, m2, m3, m4, m5, m5', m6⟩ := ads_at (r := r) (s := s) (f := nI f) (g := nI g) (e := e) (x := x) (h := h)
  obtain ⟨a1, a2, a3, a4, a5, a6, a7, a8, a9, a10, a11, a12, a13⟩ := hW
  generalize ads_ r s (nI f) (nI g) e x h = r' at m0 m1 m2 m3 m4 m5 m5' m6 ⊢
  refine ⟨a1, by omega, by rw [m6 0 (by omega) (by omega)]; exact a3, m0, by rw [m6 2 (by omega) (by omega)]; exact a5, by rw [m6 3 (by omega) (by omega)]; exact a6, by rw [m6 4 (by omega) (by omega)]; exact a7, by rw [m6 5 (by omega) (by omega)]; exact a8, by rw [m6 6 (by omega) (by omega)]; exact a9, by rw [m6 7 (by omega) (by omega)]; exact a10, ?_, ?_, ?_⟩
  · intro c hc
    rw [m6 _ (by omega) (by omega), m6 _ (by omega) (by omega), m6 _ (by omega) (by omega), m6 _ (by omega) (by omega)]
    exact a11 c hc
  · intro c hc d hd
    rw [m6 _ (by omega) (by omega), m6 _ (by omega) (by omega), m6 _ (by omega) (by omega), m6 _ (by omega) (by omega)]
    exact a12 c hc d hd
  · intro i hi
    by_cases e' : i = s
    · subst e'
      rw [m1, m2, m3, m4, m5, m5']
      refine ⟨⟨f, hf, rfl⟩, ⟨g, hg, rfl⟩, ?_, he, hx, hh, Or.inl rfl⟩
      show ¬ nI f = nI g
      rw [nI_eq (by omega) (by omega)]
      exact hfg
    · rw [m6 _ (by omega) (by omega), m6 _ (by omega) (by omega), m6 _ (by omega) (by omega), m6 _ (by omega) (by omega), m6 _ (by omega) (by omega), m6 _ (by omega) (by omega)]
      exact a13 i (by omega)
/-- a statement's row stands for a wall; its last token is not before the first -/
def Gd_ (b : Nat → Int32) (ln : Nat) (T : Tok_) (q : (Nat × Nat) ⊕ ((Nat → Int32) × Tok_)) : Prop := ∀ u, q = .inr u → (∃ n' s', Wr_ u.1 n' s') ∧ Tq_ b ln u.2 ∧ T.2.1 ≤ u.2.2.1
theorem rmk_Gd {r : Nat → Int32} {n s : Nat} (hW : Wr_ r n s) (hT : Tq_ b ln T) : Gd_ b ln T (rmk_ r n b ln T) := by
  intro u hu
  unfold rmk_ at hu
  split at hu
  · next hn =>
    have t1 := tq_go hT
    unfold rm1_ at hu
    cases hq : nam_ b (nxt_ b ln T.2.2.1) with
    | inl e => rw [hq] at hu; cases hu
    | inr x =>
      rw [hq] at hu
      have hx := nam_in t1.1 hq
      dsimp only at hu
      cases hk : nmd_ r (nI x) n 0 with
      | some k => rw [hk] at hu; cases hu
      | none =>
        rw [hk] at hu
        dsimp only at hu
        have t2 := tq_go t1.1
        unfold rm2_ at hu
        cases hq2 : num0_ (nxt_ b ln (nxt_ b ln T.2.2.1).2.2.1) (nI 0) (nI 99999) with
        | inl e => rw [hq2] at hu; cases hu
        | inr a =>
          rw [hq2] at hu
          obtain ⟨ea, _, ha, _⟩ := num0_in hq2
          have ha5 := (tq_le t2.1).2.2.1
          rw [← ea] at ha5
          dsimp only at hu
          by_cases hp : plo_ r (nI a) n 0 = true
          · rw [if_pos hp] at hu; cases hu
          · rw [if_neg hp] at hu
            have t3 := tq_go t2.1
            unfold rm3_ at hu
            split at hu
            · have t4 := tq_go t3.1
              split at hu
              · cases hu
              · next q hq3 =>
                cases hu
                have hs := sgn_in (by decide) (by decide) t4.1 hq3
                exact ⟨⟨n + 1, s, mkr_Wr hW hn hx hk (by omega) hp (Or.inr rfl)⟩, hs.2.1, by show T.2.1 ≤ q.2.2.1; omega⟩
            · cases hu
              exact ⟨⟨n + 1, s, mkr_Wr hW hn hx hk (by omega) hp (Or.inl rfl)⟩, t3.1, by dsimp only; omega⟩
  · cases hu
theorem mkh_in {r : Nat → Int32} {n : Nat} {but : Int32} {q : Nat × Tok_} (hT : Tq_ b ln T) (h : mkh_ r n b ln T but = .inr q) : q.1 < n ∧ ¬ nI q.1 = but ∧ Tq_ b ln q.2 ∧ T.2.1 ≤ q.2.2.1 := by
  unfold mkh_ at h
  split at h
  · cases h
  · split at h
    · cases h
    · next k hk =>
      split at h
      · cases h
      · next c =>
        cases h
        have := nmd_lt n 0 k hk
        have t1 := tq_go hT
        exact ⟨by dsimp only; omega, c, t1.1, t1.2⟩
theorem bit_bI {p : Prop} [Decidable p] : bit_ (bI p) := by
  unfold bI
  split
  · exact Or.inr rfl
  · exact Or.inl rfl
theorem rsg_Gd {r : Nat → Int32} {n s : Nat} (hW : Wr_ r n s) (hT : Tq_ b ln T) : Gd_ b ln T (rsg_ r n s b ln T) := by
  intro u hu
  have h12 := wr_n12 hW
  unfold rsg_ at hu
  split at hu
  · next hs =>
    have t1 := tq_go hT
    cases hq : mkh_ r n b ln (nxt_ b ln T.2.2.1) NOO with
    | inl e => rw [hq] at hu; cases hu
    | inr q =>
      rw [hq] at hu
      dsimp only at hu
      obtain ⟨q1, q2, q3, q4⟩ := mkh_in t1.1 hq
      cases hv : mkh_ r n b ln q.2 (nI q.1) with
      | inl e => rw [hv] at hu; cases hu
      | inr v =>
        rw [hv] at hu
        dsimp only at hu
        obtain ⟨v1, v2, v3, v4⟩ := mkh_in q3 hv
        have hne : q.1 ≠ v.1 := fun e => v2 (by rw [e])
        unfold rs1_ at hu
        split at hu
        · have t5 := tq_go v3
          unfold rs2_ at hu
          split at hu
          · cases hu
          · next d hd =>
            have hs5 := sgn_in (by decide) (by decide) t5.1 hd
            unfold rs3_ at hu
            split at hu
            · have t6 := tq_go hs5.2.1
              split at hu
              · cases hu
              · next z hz =>
                cases hu
                have hs6 := sgn_in (by decide) (by decide) t6.1 hz
                exact ⟨⟨n, s + 1, ads_Wr hW hs q1 v1 hne bit_bI hs5.1 hs6.1⟩, hs6.2.1, by show T.2.1 ≤ z.2.2.1; omega⟩
            · cases hu
              exact ⟨⟨n, s + 1, ads_Wr hW hs q1 v1 hne bit_bI hs5.1 (by unfold inr_; decide)⟩, hs5.2.1, by show T.2.1 ≤ d.2.2.1; omega⟩
        · cases hu
  · cases hu
theorem rdo_Gd {r : Nat → Int32} {n s w o : Nat} (hW : Wr_ r n s) (hw : w < 5) (hT : Tq_ b ln T) : Gd_ b ln T (rdo_ r b ln w o T) := by
  intro u hu
  obtain ⟨b1, b2, b3, b4, b5, b6⟩ := wr_nb hW
  unfold rdo_ at hu
  split at hu
  · cases hu
  · have t1 := tq_go hT
    unfold ro1_ at hu
    split at hu
    · split at hu
      · cases hu
      · next q hq =>
        cases hu
        have hs := sgn_in (by decide) (by decide) t1.1 hq
        exact ⟨⟨n, s, u7_Wr (u6_Wr hW (Or.inr rfl)) hs.1⟩, hs.2.1, by show T.2.1 ≤ q.2.2.1; omega⟩
    · split at hu
      · split at hu
        · cases hu
        · next q hq =>
          cases hu
          have hs := sgn_in (by decide) (by decide) t1.1 hq
          refine ⟨⟨n, s, wr_nu hW (fun j hj => upd_n (by omega)) ?_⟩, hs.2.1, by show T.2.1 ≤ q.2.2.1; omega⟩
          dsimp only
          rw [upd_n (by decide), upd_n (by decide), upd_s, upd_n (by decide), upd_n (by decide), upd_n (by decide)]
          exact ⟨b1, b2, hs.1, b4, b5, b6⟩
      · next w4 w2 =>
        split at hu
        · cases hu
        · next q hq =>
          cases hu
          obtain ⟨h1, h2, h3, h4, h5⟩ := num_in t1.1 hq
          refine ⟨⟨n, s, wr_nu hW (fun j hj => upd_n (by omega)) ?_⟩, h4, by show T.2.1 ≤ q.2.2.1; omega⟩
          have hw3 : w = 0 ∨ w = 1 ∨ w = 3 := by omega
          rcases hw3 with rfl | rfl | rfl
          · rw [if_pos rfl, Int32.le_iff_toInt_le, nI_toInt (by omega), nI_toInt (by omega)] at h1 h2
            dsimp only
            rw [upd_s, upd_n (by decide), upd_n (by decide), upd_n (by decide), upd_n (by decide), upd_n (by decide)]
            refine ⟨?_, b2, b3, b4, b5, b6⟩
            unfold inr_
            rw [nI_toInt (by omega)]
            omega
          · rw [if_neg (by decide), if_pos rfl, Int32.le_iff_toInt_le, nI_toInt (by omega), nI_toInt (by omega)] at h2
            dsimp only
            rw [upd_n (by decide), upd_s, upd_n (by decide), upd_n (by decide), upd_n (by decide), upd_n (by decide)]
            refine ⟨b1, ?_, b3, b4, b5, b6⟩
            unfold inr_
            rw [nI_toInt (by omega)]
            omega
          · rw [if_neg (by decide), if_neg (by decide), Int32.le_iff_toInt_le, nI_toInt (by omega), nI_toInt (by omega)] at h2
            dsimp only
            rw [upd_n (by decide), upd_n (by decide), upd_n (by decide), upd_s, upd_n (by decide), upd_n (by decide)]
            refine ⟨b1, b2, b3, ?_, b5, b6⟩
            unfold inr_
            rw [nI_toInt (by omega)]
            omega
end PSI
