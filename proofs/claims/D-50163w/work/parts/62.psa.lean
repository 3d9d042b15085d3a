/-- the bytes of a buffer -/
abbrev cb_ (b : Nat → Int32) (k : Nat) : Nat := bN_ (b k)
def Byt_ (b : Nat → Int32) : Prop := ∀ j, (b j).toInt8.toInt32 = b j
theorem byt_lo {x : Int32} (h : x.toInt8.toInt32 = x) (h2 : bN_ x < 128) : x = nI (bN_ x) := by
  apply Int32.toInt_inj.mp
  have e := bN_lt x
  rw [nI_toInt (by omega)]
  have h3 : x.toInt = x.toInt8.toInt := by rw [← Int8.toInt_toInt32, h]
  have h4 : x.toInt8.toInt = (x.toBitVec.toNat : Int).bmod 256 := by
    show (x.toBitVec.signExtend 8).toInt = _
    rw [BitVec.signExtend_eq_setWidth_of_le _ (by decide), BitVec.toInt_eq_toNat_bmod, BitVec.toNat_setWidth]
    show (((x.toBitVec.toNat % 256 : Nat)) : Int).bmod 256 = _
    rw [Int.bmod_def, Int.bmod_def]
    omega
  rw [h3, h4]
  unfold bN_ at h2 ⊢
  rw [Int.bmod_def]
  split <;> omega
/-- past spaces and ends of lines; past letters; past digits -/
abbrev isw0_ (b : Nat → Int32) (p : Nat) : Prop := cb_ b p = 32 ∨ cb_ b p = 10
abbrev isl0_ (b : Nat → Int32) (p : Nat) : Prop := 97 ≤ cb_ b p ∧ cb_ b p ≤ 122
abbrev isd0_ (b : Nat → Int32) (p : Nat) : Prop := 48 ≤ cb_ b p ∧ cb_ b p ≤ 57
def wsp_ (b : Nat → Int32) : Nat → Nat → Nat
  | 0, p => p
  | d + 1, p => if isw0_ b p then wsp_ b d (p + 1) else p
def ltr_ (b : Nat → Int32) : Nat → Nat → Nat
  | 0, p => p
  | d + 1, p => if isl0_ b p then ltr_ b d (p + 1) else p
def dgt_ (b : Nat → Int32) (f : Nat) : Nat → Nat → Nat → Nat × Nat
  | 0, p, v => (p, v)
  | d + 1, p, v => if isd0_ b p then dgt_ b f d (p + 1) (if p - f < 5 then 10 * v + cb_ b p - 48 else v) else (p, v)
/-- kind (0 end, 1 word, 2 number, 3 sign, 4 minus, 5 else), from, to, value -/
def nxt_ (b : Nat → Int32) (ln p0 : Nat) : Nat × Nat × Nat × Nat :=
  let f := wsp_ b (ln - p0) p0
  if ln ≤ f then (0, f, f, 0)
  else if isl0_ b f then (1, f, ltr_ b (ln - f) f, 0)
  else if isd0_ b f then (if 5 < (dgt_ b f (ln - f) f 0).1 - f then 5 else 2, f, (dgt_ b f (ln - f) f 0).1, (dgt_ b f (ln - f) f 0).2)
  else (if cb_ b f = 59 then 3 else if cb_ b f = 45 then 4 else 5, f, f + 1, 0)
def wds_ : List (List Nat) := [[108, 101, 110, 103, 116, 104], [98, 101, 110, 100], [119, 97, 114, 109], [108, 105, 109, 105, 116], [101, 114, 114, 111, 114], [109, 97, 114, 107], [115, 105, 103, 104, 116], [97, 116], [102, 111, 114, 101], [98, 97, 99, 107], [104, 101, 97, 116]]
/-- the bytes from f on, up to p -/
def slc_ (b : Nat → Int32) (f p : Nat) : List Nat := (List.range' f (p - f)).map (cb_ b)
def wix_ (w : List Nat) : List (List Nat) → Nat → Option Nat
  | [], _ => none
  | x :: xs, n => if w = x then some n else wix_ w xs (n + 1)
def wrd_ (b : Nat → Int32) (f p : Nat) : Option Nat := wix_ (slc_ b f p) wds_ 0
theorem wsp_le {b : Nat → Int32} : ∀ (d p : Nat), p ≤ wsp_ b d p ∧ wsp_ b d p ≤ p + d := by
  intro d
  induction d with
  | zero => intro p; exact ⟨Nat.le_refl _, Nat.le_refl _⟩
  | succ d ih =>
    intro p
    rw [wsp_]
    have := ih (p + 1)
    split <;> omega
theorem ltr_le {b : Nat → Int32} : ∀ (d p : Nat), p ≤ ltr_ b d p ∧ ltr_ b d p ≤ p + d := by
  intro d
  induction d with
  | zero => intro p; exact ⟨Nat.le_refl _, Nat.le_refl _⟩
  | succ d ih =>
    intro p
    rw [ltr_]
    have := ih (p + 1)
    split <;> omega
theorem ltr_all {b : Nat → Int32} : ∀ (d p j : Nat), p ≤ j → j < ltr_ b d p → isl0_ b j := by
  intro d
  induction d with
  | zero => intro p j h1 h2; unfold ltr_ at h2; omega
  | succ d ih =>
    intro p j h1 h2
    rw [ltr_] at h2
    split at h2
    · next c =>
      by_cases e : j = p
      · rw [e]; exact c
      · exact ih (p + 1) j (by omega) h2
    · omega
theorem dgt_le {b : Nat → Int32} {f : Nat} : ∀ (d p v : Nat), p ≤ (dgt_ b f d p v).1 ∧ (dgt_ b f d p v).1 ≤ p + d := by
  intro d
  induction d with
  | zero => intro p v; exact ⟨Nat.le_refl _, Nat.le_refl _⟩
  | succ d ih =>
    intro p v
    rw [dgt_]
    split
    · have := ih (p + 1) (if p - f < 5 then 10 * v + cb_ b p - 48 else v); omega
    · dsimp only; omega
theorem dgt_v {b : Nat → Int32} {f : Nat} : ∀ (d p v : Nat), f ≤ p → v < 10 ^ (min (p - f) 5) → (dgt_ b f d p v).2 < 100000 := by
  intro d
  induction d with
  | zero =>
    intro p v h1 h2
    have : 10 ^ (min (p - f) 5) ≤ 10 ^ 5 := Nat.pow_le_pow_right (by decide) (Nat.min_le_right _ _)
    show v < 100000
    omega
  | succ d ih =>
    intro p v h1 h2
    rw [dgt_]
    split
    · next c =>
      apply ih (p + 1) _ (by omega)
      by_cases e : p - f < 5
      · rw [if_pos e]
        have e1 : min (p + 1 - f) 5 = min (p - f) 5 + 1 := by omega
        rw [e1, Nat.pow_succ]
        omega
      · rw [if_neg e]
        have e1 : min (p + 1 - f) 5 = min (p - f) 5 := by omega
        rw [e1]
        exact h2
    · have : 10 ^ (min (p - f) 5) ≤ 10 ^ 5 := Nat.pow_le_pow_right (by decide) (Nat.min_le_right _ _)
      show v < 100000
      omega
theorem nxt_le {b : Nat → Int32} {ln p : Nat} (h : p ≤ ln) : p ≤ (nxt_ b ln p).2.1 ∧ (nxt_ b ln p).2.1 ≤ (nxt_ b ln p).2.2.1 ∧ (nxt_ b ln p).2.2.1 ≤ ln ∧ (¬ (nxt_ b ln p).1 = 0 → (nxt_ b ln p).2.1 < (nxt_ b ln p).2.2.1) ∧ (nxt_ b ln p).2.2.2 < 100000 ∧ (nxt_ b ln p).1 < 6 := by
  have h1 := wsp_le (b := b) (ln - p) p
  unfold nxt_
  dsimp only
  generalize wsp_ b (ln - p) p = f at h1 ⊢
  by_cases c : ln ≤ f
  · rw [if_pos c]
    refine ⟨h1.1, Nat.le_refl _, (by omega : f ≤ ln), fun h => absurd rfl h, (by decide : (0 : Nat) < 100000), (by decide : (0 : Nat) < 6)⟩
  · rw [if_neg c]
    obtain ⟨m, hm⟩ : ∃ m, ln - f = m + 1 := ⟨ln - f - 1, by omega⟩
    by_cases c1 : isl0_ b f
    · rw [if_pos c1]
      have h2 := ltr_le (b := b) m (f + 1)
      have h3 : ltr_ b (ln - f) f = ltr_ b m (f + 1) := by rw [hm, ltr_, if_pos c1]
      refine ⟨h1.1, ?_, ?_, fun _ => ?_, (by decide : (0 : Nat) < 100000), (by decide : (1 : Nat) < 6)⟩ <;> dsimp only <;> rw [h3] <;> omega
    · rw [if_neg c1]
      by_cases c2 : isd0_ b f
      · rw [if_pos c2]
        have h2 := dgt_le (b := b) (f := f) m (f + 1) (if f - f < 5 then 10 * 0 + cb_ b f - 48 else 0)
        have h3 : dgt_ b f (ln - f) f 0 = dgt_ b f m (f + 1) (if f - f < 5 then 10 * 0 + cb_ b f - 48 else 0) := by rw [hm, dgt_, if_pos c2]
        have h4 := dgt_v (b := b) (f := f) (ln - f) f 0 (Nat.le_refl _) (Nat.pow_pos (by decide))
        refine ⟨h1.1, ?_, ?_, fun _ => ?_, h4, ?_⟩
        · dsimp only; rw [h3]; omega
        · dsimp only; rw [h3]; omega
        · dsimp only; rw [h3]; omega
        · dsimp only; split <;> decide
      · rw [if_neg c2]
        refine ⟨h1.1, by dsimp only; omega, by dsimp only; omega, fun _ => by dsimp only; omega, (by decide : (0 : Nat) < 100000), ?_⟩
        dsimp only
        split
        · decide
        · split <;> decide
