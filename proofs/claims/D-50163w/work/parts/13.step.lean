/-! STEPS: the fuel-free run as rewriting -/
section ST
variable (E : En_)
noncomputable def hx_ (m : Nat) (l : Lc_) (c a : Nat) (σ : As_) : Option (Option Nat) → Option (Rs_ × As_)
  | none => none
  | some none => some (.inr (c, a), σ)
  | some (some b) => R_ E m (B_ E m b) l [.ref a] σ
noncomputable def rr_ (m : Nat) (is : List Ii_) (l : Lc_) (st : List Value) (hs : Hs_) : Option (Rs_ × As_) → Option (Rs_ × As_)
  | none => none
  | some (.inl v, σ') => R_ E m is l (v.toList ++ st) σ'
  | some (.inr (c, a), σ') => hx_ E m l c a σ' (hs c)
noncomputable def go_ (m : Nat) (is : List Ii_) (l : Lc_) (σ : As_) : Option Sp_ → Option (Rs_ × As_)
  | none => none
  | some (.inl (l', st', σ')) => R_ E m is l' st' σ'
  | some (.inr (.inl (b, l', st', σ'))) => R_ E m (B_ E m b) l' st' σ'
  | some (.inr (.inr (.inl (v, σ')))) => some (.inl v, σ')
  | some (.inr (.inr (.inr (.inl (c, a, hs, σ'))))) => hx_ E m l c a σ' (hs c)
  | some (.inr (.inr (.inr (.inr (k, as, st', hs))))) => rr_ E m is l st' hs (D_ E k as σ)
end ST
section ST
variable {E : En_}
theorem R_cons {m : Nat} {i : Ii_} {is : List Ii_} {l : Lc_} {st : List Value} {σ : As_} : R_ E m (i :: is) l st σ = go_ E m is l σ (i l st σ) := by
  rcases hi : i l st σ with _ | (⟨l', st', σ'⟩ | (⟨b, l', st', σ'⟩ | (⟨v, σ'⟩ | (⟨c, a, hs, σ'⟩ | ⟨k, as, st', hs⟩))))
  · exact Rg_no _ _ hi
  · exact Rg_nx _ _ hi
  · exact Rg_jp _ _ hi
  · exact Rg_rt _ _ hi
  · refine (Rg_th _ _ hi).trans ?_
    show _ = hx_ E m l c a σ' (hs c)
    rcases hs c with _ | (_ | b) <;> rfl
  · refine (Rg_ca _ _ hi).trans ?_
    show _ = rr_ E m is l st' hs (D_ E k as σ)
    unfold D_
    rcases Dg_ (B_ E) L_ k as σ with _ | ⟨(v | ⟨c, a⟩), σ'⟩
    · rfl
    · rfl
    · show _ = hx_ E m l c a σ' (hs c)
      dsimp only
      rcases hs c with _ | (_ | b) <;> rfl
theorem D_run {k : Nat} {as : List Value} {σ : As_} : D_ E k as σ = R_ E k (B_ E k 0) (en_ (L_ k) as) [] σ := rfl
theorem go_nx {m : Nat} {is : List Ii_} {l l' : Lc_} {st' : List Value} {σ σ' : As_} : go_ E m is l σ (some (.inl (l', st', σ'))) = R_ E m is l' st' σ' := rfl
theorem go_jp {m b : Nat} {is : List Ii_} {l l' : Lc_} {st' : List Value} {σ σ' : As_} : go_ E m is l σ (some (.inr (.inl (b, l', st', σ')))) = R_ E m (B_ E m b) l' st' σ' := rfl
theorem go_rt {m : Nat} {is : List Ii_} {l : Lc_} {v : Option Value} {σ σ' : As_} : go_ E m is l σ (some (.inr (.inr (.inl (v, σ'))))) = some (.inl v, σ') := rfl
theorem go_th {m c a : Nat} {hs : Hs_} {is : List Ii_} {l : Lc_} {σ σ' : As_} : go_ E m is l σ (some (.inr (.inr (.inr (.inl (c, a, hs, σ')))))) = hx_ E m l c a σ' (hs c) := rfl
theorem go_ca {m k : Nat} {hs : Hs_} {is : List Ii_} {l : Lc_} {as st' : List Value} {σ : As_} : go_ E m is l σ (some (.inr (.inr (.inr (.inr (k, as, st', hs)))))) = rr_ E m is l st' hs (D_ E k as σ) := rfl
theorem go_no {m : Nat} {is : List Ii_} {l : Lc_} {σ : As_} : go_ E m is l σ none = none := rfl
theorem rr_v {m : Nat} {is : List Ii_} {l : Lc_} {st : List Value} {hs : Hs_} {v : Value} {σ' : As_} : rr_ E m is l st hs (some (.inl (some v), σ')) = R_ E m is l (v :: st) σ' := rfl
theorem rr_n {m : Nat} {is : List Ii_} {l : Lc_} {st : List Value} {hs : Hs_} {σ' : As_} : rr_ E m is l st hs (some (.inl none, σ')) = R_ E m is l st σ' := rfl
theorem rr_x {m : Nat} {is : List Ii_} {l : Lc_} {st : List Value} {hs : Hs_} {c a : Nat} {σ' : As_} : rr_ E m is l st hs (some (.inr (c, a), σ')) = hx_ E m l c a σ' (hs c) := rfl
theorem hx_n {m : Nat} {l : Lc_} {c a : Nat} {σ : As_} : hx_ E m l c a σ none = none := rfl
theorem hx_p {m : Nat} {l : Lc_} {c a : Nat} {σ : As_} : hx_ E m l c a σ (some none) = some (.inr (c, a), σ) := rfl
theorem hx_b {m b : Nat} {l : Lc_} {c a : Nat} {σ : As_} : hx_ E m l c a σ (some (some b)) = R_ E m (B_ E m b) l [.ref a] σ := rfl
theorem go_ite {m : Nat} {is : List Ii_} {l : Lc_} {σ : As_} {p : Prop} {d : Decidable p} {a b : Option Sp_} : go_ E m is l σ (@ite _ p d a b) = @ite _ p d (go_ E m is l σ a) (go_ E m is l σ b) := by
  split <;> rfl
end ST
