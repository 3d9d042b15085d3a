/-! THE PURE SIDE: what is reckoned from a row r of 308 numbers -/
abbrev inr_ (x : Int32) (lo hi : Int) : Prop := lo ≤ x.toInt ∧ x.toInt ≤ hi
abbrev bit_ (x : Int32) : Prop := x = nI 0 ∨ x = nI 1
/-- a row that stands for n marks and s sights -/
def Wr_ (r : Nat → Int32) (n s : Nat) : Prop :=
  n ≤ 12 ∧ s ≤ 40 ∧ r 0 = nI n ∧ r 1 = nI s ∧ inr_ (r 2) 1 9999 ∧ inr_ (r 3) 0 99 ∧ inr_ (r 4) (-99) 99 ∧ inr_ (r 5) 0 999 ∧ bit_ (r 6) ∧ inr_ (r 7) (-999) 999 ∧
  (∀ a, a < n → inr_ (r (8 + 5 * a)) 1 387420488 ∧ inr_ (r (8 + 5 * a + 1)) 0 99999 ∧ bit_ (r (8 + 5 * a + 2)) ∧ bit_ (r (8 + 5 * a + 3)) ∧ (r (8 + 5 * a + 2) = nI 1 → r (8 + 5 * a + 3) = nI 1)) ∧
  (∀ a, a < n → ∀ b, b < n → a ≠ b → r (8 + 5 * a) ≠ r (8 + 5 * b) ∧ r (8 + 5 * a + 1) ≠ r (8 + 5 * b + 1)) ∧
  (∀ i, i < s → (∃ f, f < n ∧ r (68 + 6 * i) = nI f) ∧ (∃ g, g < n ∧ r (68 + 6 * i + 1) = nI g) ∧ r (68 + 6 * i) ≠ r (68 + 6 * i + 1) ∧ bit_ (r (68 + 6 * i + 2)) ∧ inr_ (r (68 + 6 * i + 3)) (-9999) 9999 ∧ inr_ (r (68 + 6 * i + 4)) (-40) 60 ∧ bit_ (r (68 + 6 * i + 5)))
def fr_ (r : Nat → Int32) (i : Nat) : Nat := (r (68 + 6 * i)).toNatClampNeg
def to_ (r : Nat → Int32) (i : Nat) : Nat := (r (68 + 6 * i + 1)).toNatClampNeg
def di_ (r : Nat → Int32) (a b : Nat) : Int32 := ab_ (r (8 + 5 * a + 1) - r (8 + 5 * b + 1))
def sw_ (r : Nat → Int32) (a b : Nat) : Int32 := (di_ r a b + r 2 - nI 1) / r 2
def od_ (r : Nat → Int32) (a b : Nat) : Bool := decide (sw_ r a b - sw_ r a b / nI 2 * nI 2 = nI 1)

def be_ (r : Nat → Int32) (i : Nat) : Int32 := ((r 3).toInt64 * (di_ r (fr_ r i) (to_ r i)).toInt64 * (di_ r (fr_ r i) (to_ r i)).toInt64 / 100000000).toInt32
def wa_ (r : Nat → Int32) (i : Nat) : Int32 := (fdL ((r 4).toInt64 * (r (68 + 6 * i + 4) - nI 20).toInt64 * (di_ r (fr_ r i) (to_ r i)).toInt64) 100000).toInt32
def pu_ (r : Nat → Int32) (i : Nat) : Int32 := r (68 + 6 * i + 3) - be_ r i - wa_ r i
/-- the place of a pair -/
def pa_ (a b : Nat) : Nat := if a < b then 12 * a + b else 12 * b + a
def pas_ (r : Nat → Int32) (i : Nat) : Nat := pa_ (fr_ r i) (to_ r i)
/-- a sight counts -/
abbrev li_ (r : Nat → Int32) (i : Nat) : Prop := r (68 + 6 * i + 5) = nI 0
/-- goes up -/
abbrev gu_ (r : Nat → Int32) (i : Nat) : Prop := fr_ r i < to_ r i
/-- the rise of a sight with error e -/
def ri_ (r : Nat → Int32) (e : Int32) (i : Nat) : Int32 := pu_ r i - (if od_ r (fr_ r i) (to_ r i) = true then (if r (68 + 6 * i + 2) = nI 0 then e else -e) else nI 0)
/-- folds -/
def fo_ {α : Type} (f : Nat → α → α) : Nat → Nat → α → α
  | 0, _, x => x
  | d + 1, i, x => fo_ f d (i + 1) (f i x)
section WR
variable {r : Nat → Int32} {n s : Nat}
theorem wr_n (h : Wr_ r n s) : r 0 = nI n := h.2.2.1
theorem wr_s (h : Wr_ r n s) : r 1 = nI s := h.2.2.2.1
theorem wr_n12 (h : Wr_ r n s) : n ≤ 12 := h.1
theorem wr_s40 (h : Wr_ r n s) : s ≤ 40 := h.2.1
theorem wr_fr (h : Wr_ r n s) {i : Nat} (hi : i < s) : r (68 + 6 * i) = nI (fr_ r i) ∧ fr_ r i < n := by
  obtain ⟨f, hf, e⟩ := (h.2.2.2.2.2.2.2.2.2.2.2.2 i hi).1
  have hn := h.1
  unfold fr_
  rw [e, nI_clamp (by omega)]
  exact ⟨rfl, hf⟩
theorem wr_to (h : Wr_ r n s) {i : Nat} (hi : i < s) : r (68 + 6 * i + 1) = nI (to_ r i) ∧ to_ r i < n := by
  obtain ⟨f, hf, e⟩ := (h.2.2.2.2.2.2.2.2.2.2.2.2 i hi).2.1
  have hn := h.1
  unfold to_
  rw [e, nI_clamp (by omega)]
  exact ⟨rfl, hf⟩
theorem wr_ne (h : Wr_ r n s) {i : Nat} (hi : i < s) : fr_ r i ≠ to_ r i := by
  intro e
  have h1 := (wr_fr h hi).1
  have h2 := (wr_to h hi).1
  exact (h.2.2.2.2.2.2.2.2.2.2.2.2 i hi).2.2.1 (by rw [h1, h2, e])
theorem wr_L (h : Wr_ r n s) : ¬ r 2 = nI 0 := by
  intro e
  have h1 := h.2.2.2.2.1.1
  rw [e] at h1
  exact absurd h1 (by decide)
theorem pa_lt {a b : Nat} (ha : a < 12) (hb : b < 12) : pa_ a b < 144 := by
  unfold pa_
  split <;> omega
end WR
