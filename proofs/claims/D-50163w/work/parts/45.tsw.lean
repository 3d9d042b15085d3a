section TSW
variable {l : Lc_} {r : List Value} {σ : As_} {b k : Nat} {bs : List Nat}
theorem i_tsw {lo : Nat} (hk : k < bs.length) (h : lo + k < 2 ^ 31) : I_tsw (lo : Int) bs b l (.int (nI (lo + k)) :: r) σ = jp_ (bs.getD k b) l r σ := by
  unfold I_tsw
  dsimp only
  rw [nI_toInt h, if_neg (by omega)]
  congr 2
  omega
theorem i_tswo {lo : Nat} {x : Int32} (h : x.toInt < (lo : Int) ∨ (lo : Int) + bs.length ≤ x.toInt) : I_tsw (lo : Int) bs b l (.int x :: r) σ = jp_ b l r σ := by
  unfold I_tsw
  dsimp only
  rw [if_pos h]
theorem i_tsw0 (hk : k < bs.length) (h : k < 2 ^ 31) : I_tsw 0 bs b l (.int (nI k) :: r) σ = jp_ (bs.getD k b) l r σ := by
  have := i_tsw (l := l) (r := r) (σ := σ) (b := b) (lo := 0) hk (by omega)
  rw [Nat.zero_add] at this
  exact this
theorem i_tswo0 {x : Int32} (h : ¬ inN_ x bs.length) : I_tsw 0 bs b l (.int x :: r) σ = jp_ b l r σ := by
  refine i_tswo (lo := 0) ?_
  unfold inN_ at h
  omega
end TSW
