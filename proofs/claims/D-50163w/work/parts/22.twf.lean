/-! what the next edge is -/
section NXE
variable {r : Nat → Int32} {n s : Nat} {pt : Nat → Nat}
/-- a pair between two parts -/
def cro_ (r : Nat → Int32) (n s : Nat) (pt : Nat → Nat) (p : Nat) : Prop := p / 12 < p % 12 ∧ p % 12 < n ∧ ¬ ct_ r s p = 0 ∧ ¬ pt (p / 12) = pt (p % 12)
/-- shorter, or as short and before -/
def lx_ (r : Nat → Int32) (j p : Nat) : Prop := di_ r (j / 12) (j % 12) < di_ r (p / 12) (p % 12) ∨ (di_ r (j / 12) (j % 12) = di_ r (p / 12) (p % 12) ∧ j ≤ p)
def nxi_ (r : Nat → Int32) (n s : Nat) (pt : Nat → Nat) (k : Option Nat) (q : Nat) : Prop :=
  (∀ p, p < q → cro_ r n s pt p → ∃ j, k = some j ∧ lx_ r j p) ∧ (∀ j, k = some j → j < q ∧ cro_ r n s pt j)
theorem nxi_1 {a b : Nat} {k : Option Nat} (hn : n ≤ 12) (hab : a < b) (hb : b < n) (h : nxi_ r n s pt k (12 * a + b)) : nxi_ r n s pt (nx1_ r s pt a b k) (12 * a + b + 1) := by
  have e1 : (12 * a + b) / 12 = a := by omega
  have e2 : (12 * a + b) % 12 = b := by omega
  unfold nx1_
  by_cases c : ¬ ct_ r s (12 * a + b) = 0 ∧ ¬ pt a = pt b
  · have hc : cro_ r n s pt (12 * a + b) := by unfold cro_; rw [e1, e2]; exact ⟨hab, hb, c.1, c.2⟩
    rw [if_pos c]
    cases k with
    | none =>
      refine ⟨fun p hp hcp => ⟨_, rfl, ?_⟩, fun j hj => by cases hj; exact ⟨Nat.lt_succ_self _, hc⟩⟩
      by_cases e : p = 12 * a + b
      · rw [e]; exact Or.inr ⟨rfl, Nat.le_refl _⟩
      · obtain ⟨j, hj, _⟩ := h.1 p (by omega) hcp
        cases hj
    | some j0 =>
      have hj0 := h.2 j0 rfl
      dsimp only
      by_cases c2 : di_ r a b < di_ r (j0 / 12) (j0 % 12)
      · rw [if_pos c2]
        refine ⟨fun p hp hcp => ⟨_, rfl, ?_⟩, fun j hj => by cases hj; exact ⟨Nat.lt_succ_self _, hc⟩⟩
        by_cases e : p = 12 * a + b
        · rw [e]; exact Or.inr ⟨rfl, Nat.le_refl _⟩
        · obtain ⟨j, hj, hl⟩ := h.1 p (by omega) hcp
          cases hj
          unfold lx_
          rw [e1, e2]
          rcases hl with hl | hl
          · exact Or.inl (Int32.lt_trans c2 hl)
          · exact Or.inl (hl.1 ▸ c2)
      · rw [if_neg c2]
        refine ⟨fun p hp hcp => ⟨_, rfl, ?_⟩, fun j hj => by cases hj; exact ⟨by omega, hj0.2⟩⟩
        by_cases e : p = 12 * a + b
        · unfold lx_
          rw [e, e1, e2]
          have c3 : di_ r (j0 / 12) (j0 % 12) ≤ di_ r a b := Int32.not_lt.mp c2
          rcases Int32.lt_or_eq_of_le c3 with h4 | h4
          · exact Or.inl h4
          · exact Or.inr ⟨h4, by omega⟩
        · obtain ⟨j, hj, hl⟩ := h.1 p (by omega) hcp
          cases hj
          exact hl
  · rw [if_neg c]
    refine ⟨fun p hp hcp => ?_, fun j hj => ⟨by have := (h.2 j hj).1; omega, (h.2 j hj).2⟩⟩
    by_cases e : p = 12 * a + b
    · exfalso
      apply c
      unfold cro_ at hcp
      rw [e, e1, e2] at hcp
      exact ⟨hcp.2.2.1, hcp.2.2.2⟩
    · exact h.1 p (by omega) hcp
theorem nxi_b {a : Nat} (hn : n ≤ 12) : ∀ (d b : Nat) (k : Option Nat), a < b → b + d = n → nxi_ r n s pt k (12 * a + b) → nxi_ r n s pt (fo_ (nx1_ r s pt a) d b k) (12 * a + n) := by
  intro d
  induction d with
  | zero => intro b k _ hb h; obtain rfl : b = n := by omega
            exact h
  | succ d ih =>
    intro b k hab hb h
    rw [fo_]
    exact ih (b + 1) _ (by omega) (by omega) (nxi_1 hn hab (by omega) h)
theorem nxi_w {k : Option Nat} {q q' : Nat} (hq : q ≤ q') (hno : ∀ p, q ≤ p → p < q' → ¬ (p / 12 < p % 12 ∧ p % 12 < n)) (h : nxi_ r n s pt k q) : nxi_ r n s pt k q' := by
  refine ⟨fun p hp hcp => ?_, fun j hj => ⟨by have := (h.2 j hj).1; omega, (h.2 j hj).2⟩⟩
  by_cases e : p < q
  · exact h.1 p e hcp
  · exact absurd ⟨hcp.1, hcp.2.1⟩ (hno p (by omega) hp)
theorem nxi_a (hn : n ≤ 12) : ∀ (d a : Nat) (k : Option Nat), a + d = n → nxi_ r n s pt k (12 * a + (a + 1)) → nxi_ r n s pt (fo_ (nx2_ r n s pt) d a k) (12 * n + (n + 1)) := by
  intro d
  induction d with
  | zero => intro a k ha h; obtain rfl : a = n := by omega
            exact h
  | succ d ih =>
    intro a k ha h
    rw [fo_]
    refine ih (a + 1) _ (by omega) ?_
    have h1 := nxi_b (a := a) hn (n - (a + 1)) (a + 1) k (by omega) (by omega) h
    exact nxi_w (by omega) (fun p h2 h3 => by omega) h1
theorem nxi_all (hn : n ≤ 12) : (∀ p, cro_ r n s pt p → p < 144 → ∃ j, nxe_ r n s pt = some j ∧ lx_ r j p) ∧ (∀ j, nxe_ r n s pt = some j → j < 144 ∧ cro_ r n s pt j) := by
  have h0 : nxi_ r n s pt none (12 * 0 + (0 + 1)) := ⟨fun p hp hc => absurd hc.1 (by omega), fun j hj => by cases hj⟩
  have h := nxi_a hn n 0 none (by omega) h0
  refine ⟨fun p hc hp => ?_, fun j hj => ?_⟩
  · exact h.1 p (by have := hc.1; have := hc.2.1; omega) hc
  · have := h.2 j hj
    refine ⟨?_, this.2⟩
    have h2 := this.2.1
    have h3 := this.2.2.1
    omega
end NXE
