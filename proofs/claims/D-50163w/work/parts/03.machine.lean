/-! THE ABSTRACT MACHINE: instructions as functions on (locals, stack, abstract heap); big steps by fuel; R: fuel-free -/
abbrev Ac_ : Type := (Nat × vp_A) ⊕ (Nat × List Value)
/-- heap size, slots made, the cells that are known -/
abbrev As_ : Type := Nat × Nat × (Nat → Option Ac_)
abbrev Lc_ : Type := List (Option Value)
/-- a value handed back (or none), or a thrown object: its class's number, its address -/
abbrev Rs_ : Type := Option Value ⊕ (Nat × Nat)
abbrev Hs_ : Type := Nat → Option (Option Nat)
/-- next; jump to a block; return; throw (class, address, handlers); call (method, arguments, rest of the stack, handlers) -/
abbrev Sp_ : Type := (Lc_ × List Value × As_) ⊕ (Nat × Lc_ × List Value × As_) ⊕ (Option Value × As_) ⊕ (Nat × Nat × Hs_ × As_) ⊕ (Nat × List Value × List Value × Hs_)
abbrev nx_ (l : Lc_) (st : List Value) (σ : As_) : Option Sp_ := some (.inl (l, st, σ))
abbrev jp_ (b : Nat) (l : Lc_) (st : List Value) (σ : As_) : Option Sp_ := some (.inr (.inl (b, l, st, σ)))
abbrev rt_ (v : Option Value) (σ : As_) : Option Sp_ := some (.inr (.inr (.inl (v, σ))))
abbrev th_ (c a : Nat) (hs : Hs_) (σ : As_) : Option Sp_ := some (.inr (.inr (.inr (.inl (c, a, hs, σ)))))
abbrev ca_ (k : Nat) (as st : List Value) (hs : Hs_) : Option Sp_ := some (.inr (.inr (.inr (.inr (k, as, st, hs)))))
abbrev Ii_ : Type := Lc_ → List Value → As_ → Option Sp_
/-- a method's locals at its entry -/
def es_ : List Value → Lc_
  | [] => []
  | .long x :: vs => some (.long x) :: none :: es_ vs
  | .double x :: vs => some (.double x) :: none :: es_ vs
  | v :: vs => some v :: es_ vs
def en_ (n : Nat) (vs : List Value) : Lc_ := es_ vs ++ List.replicate (n - (es_ vs).length) none
section MA
variable (B : Nat → Nat → List Ii_) (L : Nat → Nat)
def ex_ : Nat → Nat → List Ii_ → Lc_ → List Value → As_ → Option (Rs_ × As_)
  | 0, _, _, _, _, _ => none
  | _ + 1, _, [], _, _, _ => none
  | n + 1, m, i :: is, l, st, σ => match i l st σ with
    | none => none
    | some (.inl (l', st', σ')) => ex_ n m is l' st' σ'
    | some (.inr (.inl (b, l', st', σ'))) => ex_ n m (B m b) l' st' σ'
    | some (.inr (.inr (.inl (v, σ')))) => some (.inl v, σ')
    | some (.inr (.inr (.inr (.inl (c, a, hs, σ'))))) => match hs c with
      | none => none
      | some (some b) => ex_ n m (B m b) l [.ref a] σ'
      | some none => some (.inr (c, a), σ')
    | some (.inr (.inr (.inr (.inr (k, as, st', hs))))) => match ex_ n k (B k 0) (en_ (L k) as) [] σ with
      | none => none
      | some (.inl v, σ') => ex_ n m is l (v.toList ++ st') σ'
      | some (.inr (c, a), σ') => match hs c with
        | none => none
        | some (some b) => ex_ n m (B m b) l [.ref a] σ'
        | some none => some (.inr (c, a), σ')
theorem ex_mono : ∀ (n m : Nat) (is : List Ii_) (l : Lc_) (st : List Value) (σ : As_) (r : Rs_ × As_), ex_ B L n m is l st σ = some r → ex_ B L (n + 1) m is l st σ = some r := by
  intro n
  induction n with
  | zero => intro m is l st σ r h; simp [ex_] at h
  | succ n ih =>
    intro m is l st σ r h
    cases is with
    | nil => simp [ex_] at h
    | cons i is =>
      rw [ex_] at h ⊢
      rcases hi : i l st σ with _ | (⟨l', st', σ'⟩ | (⟨b, l', st', σ'⟩ | (⟨v, σ'⟩ | (⟨c, a, hs, σ'⟩ | ⟨k, as, st', hs⟩))))
      · rw [hi] at h; cases h
      · rw [hi] at h; exact ih _ _ _ _ _ _ h
      · rw [hi] at h; exact ih _ _ _ _ _ _ h
      · rw [hi] at h; exact h
      · rw [hi] at h
        dsimp only at h ⊢
        rcases hh : hs c with _ | (_ | b)
        · rw [hh] at h; cases h
        · rw [hh] at h; exact h
        · rw [hh] at h; exact ih _ _ _ _ _ _ h
      · rw [hi] at h
        dsimp only at h ⊢
        rcases hc : ex_ B L n k (B k 0) (en_ (L k) as) [] σ with _ | ⟨(v | ⟨c, a⟩), σ'⟩
        · rw [hc] at h; cases h
        · rw [hc] at h
          rw [ih _ _ _ _ _ _ hc]
          exact ih _ _ _ _ _ _ h
        · rw [hc] at h
          rw [ih _ _ _ _ _ _ hc]
          dsimp only at h ⊢
          rcases hh : hs c with _ | (_ | b)
          · rw [hh] at h; cases h
          · rw [hh] at h; exact h
          · rw [hh] at h; exact ih _ _ _ _ _ _ h
theorem ex_le {n n' m : Nat} {is : List Ii_} {l : Lc_} {st : List Value} {σ : As_} {r : Rs_ × As_} (hn : n ≤ n') (h : ex_ B L n m is l st σ = some r) : ex_ B L n' m is l st σ = some r := by
  induction hn with
  | refl => exact h
  | step _ ih => exact ex_mono B L _ _ _ _ _ _ _ ih
noncomputable def Rg_ (m : Nat) (is : List Ii_) (l : Lc_) (st : List Value) (σ : As_) : Option (Rs_ × As_) :=
  @dite _ (∃ (r : Rs_ × As_) (n : Nat), ex_ B L n m is l st σ = some r) (Classical.propDecidable _) (fun h => some h.choose) (fun _ => none)
theorem Rg_iff {m : Nat} {is : List Ii_} {l : Lc_} {st : List Value} {σ : As_} {r : Rs_ × As_} : Rg_ B L m is l st σ = some r ↔ ∃ n, ex_ B L n m is l st σ = some r := by
  unfold Rg_
  by_cases h : ∃ (r : Rs_ × As_) (n : Nat), ex_ B L n m is l st σ = some r
  · rw [dif_pos h]
    constructor
    · intro e
      cases e
      exact h.choose_spec
    · rintro ⟨n, hn⟩
      obtain ⟨n', hn'⟩ := h.choose_spec
      have h1 := ex_le B L (Nat.le_max_left n n') hn
      have h2 := ex_le B L (Nat.le_max_right n n') hn'
      rw [h1] at h2
      exact h2.symm
  · rw [dif_neg h]
    constructor
    · intro e; cases e
    · rintro ⟨n, hn⟩
      exact absurd ⟨r, n, hn⟩ h
/-- two runs that agree from one step on -/
theorem Rg_eq {m m' : Nat} {is is' : List Ii_} {l l' : Lc_} {st st' : List Value} {σ σ' : As_} (h : ∀ n, ex_ B L (n + 1) m is l st σ = ex_ B L n m' is' l' st' σ') : Rg_ B L m is l st σ = Rg_ B L m' is' l' st' σ' := by
  apply Option.ext
  intro r
  rw [Rg_iff, Rg_iff]
  constructor
  · rintro ⟨n, hn⟩
    cases n with
    | zero => simp [ex_] at hn
    | succ n => exact ⟨n, by rw [← h]; exact hn⟩
  · rintro ⟨n, hn⟩
    exact ⟨n + 1, by rw [h]; exact hn⟩
theorem Rg_nx {m : Nat} {i : Ii_} {is : List Ii_} {l l' : Lc_} {st st' : List Value} {σ σ' : As_} (h : i l st σ = nx_ l' st' σ') : Rg_ B L m (i :: is) l st σ = Rg_ B L m is l' st' σ' :=
  Rg_eq B L fun n => by rw [ex_, h]
theorem Rg_jp {m b : Nat} {i : Ii_} {is : List Ii_} {l l' : Lc_} {st st' : List Value} {σ σ' : As_} (h : i l st σ = jp_ b l' st' σ') : Rg_ B L m (i :: is) l st σ = Rg_ B L m (B m b) l' st' σ' :=
  Rg_eq B L fun n => by rw [ex_, h]
theorem Rg_rt {m : Nat} {i : Ii_} {is : List Ii_} {l : Lc_} {st : List Value} {σ σ' : As_} {v : Option Value} (h : i l st σ = rt_ v σ') : Rg_ B L m (i :: is) l st σ = some (.inl v, σ') :=
  (Rg_iff B L).mpr ⟨1, by rw [ex_, h]⟩
theorem Rg_no {m : Nat} {i : Ii_} {is : List Ii_} {l : Lc_} {st : List Value} {σ : As_} (h : i l st σ = none) : Rg_ B L m (i :: is) l st σ = none := by
  apply Option.ext
  intro r
  rw [Rg_iff]
  constructor
  · rintro ⟨n, hn⟩
    cases n with
    | zero => simp [ex_] at hn
    | succ n => rw [ex_, h] at hn; cases hn
  · intro e; cases e
theorem Rg_th {m c a : Nat} {hs : Hs_} {i : Ii_} {is : List Ii_} {l : Lc_} {st : List Value} {σ σ' : As_} (h : i l st σ = th_ c a hs σ') : Rg_ B L m (i :: is) l st σ = match hs c with
    | none => none
    | some (some b) => Rg_ B L m (B m b) l [.ref a] σ'
    | some none => some (.inr (c, a), σ') := by
  rcases hh : hs c with _ | (_ | b)
  · apply Option.ext
    intro r
    rw [Rg_iff]
    constructor
    · rintro ⟨n, hn⟩
      cases n with
      | zero => simp [ex_] at hn
      | succ n => rw [ex_, h] at hn; dsimp only at hn; rw [hh] at hn; cases hn
    · intro e; cases e
  · exact (Rg_iff B L).mpr ⟨1, by rw [ex_, h]; dsimp only; rw [hh]⟩
  · exact Rg_eq B L fun n => by rw [ex_, h]; dsimp only; rw [hh]
noncomputable def Dg_ (k : Nat) (as : List Value) (σ : As_) : Option (Rs_ × As_) := Rg_ B L k (B k 0) (en_ (L k) as) [] σ
theorem Rg_ca {m k : Nat} {hs : Hs_} {i : Ii_} {is : List Ii_} {l : Lc_} {as st st' : List Value} {σ : As_} (h : i l st σ = ca_ k as st' hs) : Rg_ B L m (i :: is) l st σ = match Dg_ B L k as σ with
    | none => none
    | some (.inl v, σ') => Rg_ B L m is l (v.toList ++ st') σ'
    | some (.inr (c, a), σ') => match hs c with
      | none => none
      | some (some b) => Rg_ B L m (B m b) l [.ref a] σ'
      | some none => some (.inr (c, a), σ') := by
  have key : ∀ r, Rg_ B L m (i :: is) l st σ = some r ↔ ∃ n, (match ex_ B L n k (B k 0) (en_ (L k) as) [] σ with
      | none => none
      | some (.inl v, σ') => ex_ B L n m is l (v.toList ++ st') σ'
      | some (.inr (c, a), σ') => match hs c with
        | none => none
        | some (some b) => ex_ B L n m (B m b) l [.ref a] σ'
        | some none => some (.inr (c, a), σ')) = some r := by
    intro r
    rw [Rg_iff]
    constructor
    · rintro ⟨n, hn⟩
      cases n with
      | zero => simp [ex_] at hn
      | succ n => rw [ex_, h] at hn; exact ⟨n, hn⟩
    · rintro ⟨n, hn⟩
      exact ⟨n + 1, by rw [ex_, h]; exact hn⟩
  rcases hd : Dg_ B L k as σ with _ | ⟨(v | ⟨c, a⟩), σ'⟩
  · apply Option.ext
    intro r
    rw [key]
    constructor
    · rintro ⟨n, hn⟩
      rcases he : ex_ B L n k (B k 0) (en_ (L k) as) [] σ with _ | x
      · rw [he] at hn; cases hn
      · have := (Rg_iff B L).mpr ⟨n, he⟩
        unfold Dg_ at hd
        rw [hd] at this; cases this
    · intro e; cases e
  · unfold Dg_ at hd
    obtain ⟨n0, h0⟩ := (Rg_iff B L).mp hd
    apply Option.ext
    intro r
    rw [key]
    dsimp only
    rw [Rg_iff]
    constructor
    · rintro ⟨n, hn⟩
      refine ⟨max n n0, ?_⟩
      rcases he : ex_ B L n k (B k 0) (en_ (L k) as) [] σ with _ | x
      · rw [he] at hn; cases hn
      · have e1 := ex_le B L (Nat.le_max_left n n0) he
        have e2 := ex_le B L (Nat.le_max_right n n0) h0
        rw [e1] at e2
        cases e2
        rw [he] at hn
        exact ex_le B L (Nat.le_max_left n n0) hn
    · rintro ⟨n, hn⟩
      refine ⟨max n n0, ?_⟩
      rw [ex_le B L (Nat.le_max_right n n0) h0]
      exact ex_le B L (Nat.le_max_left n n0) hn
  · unfold Dg_ at hd
    obtain ⟨n0, h0⟩ := (Rg_iff B L).mp hd
    apply Option.ext
    intro r
    rw [key]
    dsimp only
    rcases hh : hs c with _ | (_ | b)
    · dsimp only
      constructor
      · rintro ⟨n, hn⟩
        rcases he : ex_ B L n k (B k 0) (en_ (L k) as) [] σ with _ | x
        · rw [he] at hn; cases hn
        · have e1 := ex_le B L (Nat.le_max_left n n0) he
          have e2 := ex_le B L (Nat.le_max_right n n0) h0
          rw [e1] at e2
          cases e2
          rw [he] at hn
          dsimp only at hn
          rw [hh] at hn
          cases hn
      · intro e; cases e
    · dsimp only
      constructor
      · rintro ⟨n, hn⟩
        rcases he : ex_ B L n k (B k 0) (en_ (L k) as) [] σ with _ | x
        · rw [he] at hn; cases hn
        · have e1 := ex_le B L (Nat.le_max_left n n0) he
          have e2 := ex_le B L (Nat.le_max_right n n0) h0
          rw [e1] at e2
          cases e2
          rw [he] at hn
          dsimp only at hn
          rw [hh] at hn
          exact hn
      · intro e
        exact ⟨n0, by rw [h0]; dsimp only; rw [hh]; exact e⟩
    · dsimp only
      rw [Rg_iff]
      constructor
      · rintro ⟨n, hn⟩
        refine ⟨max n n0, ?_⟩
        rcases he : ex_ B L n k (B k 0) (en_ (L k) as) [] σ with _ | x
        · rw [he] at hn; cases hn
        · have e1 := ex_le B L (Nat.le_max_left n n0) he
          have e2 := ex_le B L (Nat.le_max_right n n0) h0
          rw [e1] at e2
          cases e2
          rw [he] at hn
          dsimp only at hn
          rw [hh] at hn
          exact ex_le B L (Nat.le_max_left n n0) hn
      · rintro ⟨n, hn⟩
        refine ⟨max n n0, ?_⟩
        rw [ex_le B L (Nat.le_max_right n n0) h0]
        dsimp only
        rw [hh]
        exact ex_le B L (Nat.le_max_left n n0) hn
end MA
