/-! no more edges than sights -/
section EDS
variable {r : Nat → Int32} {s : Nat}
/-- the first sight on an edge -/
def fsg_ (r : Nat → Int32) (p : Nat) : Nat → Nat → Nat
  | 0, i => i
  | d + 1, i => if r (68 + 6 * i + 5) = nI 0 ∧ pas_ r i = p then i else fsg_ r p d (i + 1)
theorem ctp_0 {p : Nat} : ∀ (d i c : Nat), ¬ fo_ (ctp_ r p) d i c = c → fsg_ r p d i < i + d ∧ pas_ r (fsg_ r p d i) = p := by
  intro d
  induction d with
  | zero => intro i c h; exact absurd rfl h
  | succ d ih =>
    intro i c h
    unfold fsg_
    by_cases e : r (68 + 6 * i + 5) = nI 0 ∧ pas_ r i = p
    · rw [if_pos e]
      exact ⟨by omega, e.2⟩
    · rw [if_neg e]
      rw [fo_] at h
      have e1 : ctp_ r p i c = c := if_neg e
      rw [e1] at h
      have := ih (i + 1) c h
      exact ⟨by omega, this.2⟩
theorem nd_len : ∀ (s : Nat) (l : List Nat) (f : Nat → Nat), l.Nodup → (∀ p ∈ l, f p < s) → (∀ p ∈ l, ∀ q ∈ l, f p = f q → p = q) → l.length ≤ s := by
  intro s l f hd hf hi
  have h1 : (l.map f).Nodup := by
    unfold List.Nodup
    rw [List.pairwise_map]
    refine List.Pairwise.imp_of_mem (fun {a b} ha hb hab q => hab (hi a ha b hb q)) hd
  have h2 := nodup_le s (l.map f) h1 (fun z hz => by
    obtain ⟨p, hp, e⟩ := List.mem_map.mp hz
    rw [← e]
    exact hf p hp)
  rwa [List.length_map] at h2
theorem eds_s : (eds_ r s).length ≤ s := by
  have hmem : ∀ p ∈ eds_ r s, ¬ ct_ r s p = 0 := fun p hp => by
    unfold eds_ at hp
    have := (List.mem_filter.mp hp).2
    simpa using this
  have hf : ∀ p ∈ eds_ r s, fsg_ r p s 0 < s ∧ pas_ r (fsg_ r p s 0) = p := fun p hp => by
    have := ctp_0 (r := r) (p := p) s 0 0 (hmem p hp)
    exact ⟨by omega, this.2⟩
  refine nd_len s _ (fun p => fsg_ r p s 0) ?_ (fun p hp => (hf p hp).1) (fun p hp q hq e => ?_)
  · unfold eds_
    exact List.Pairwise.filter _ List.nodup_range'
  · exact (hf p hp).2.symm.trans ((congrArg (pas_ r) e).trans (hf q hq).2)
theorem lps_s {n : Nat} (hn : n ≤ 12) : (lps_ r n s).length ≤ s := by
  have := lps_len (r := r) (s := s) hn
  have := eds_s (r := r) (s := s)
  omega
theorem sg_cnt : ∀ (d k : Nat) (l : List Nat), (fo_ (sg1_ r s) d k l).length = l.length + ((List.range' k d).filter fun k => decide (¬ ct_ r s k = 0)).length := by
  intro d
  induction d with
  | zero => intro k l; rfl
  | succ d ih =>
    intro k l
    rw [fo_, ih, List.range'_succ, List.filter_cons]
    unfold sg1_
    by_cases c : ct_ r s k = 0
    · rw [if_pos c, if_neg (by simp [c])]
    · rw [if_neg c, if_pos (by simp [c]), ink_len, List.length_cons]
      omega
theorem sge_s : (sge_ r s).length ≤ s := by
  have h := sg_cnt (r := r) (s := s) 144 0 []
  have h2 := eds_s (r := r) (s := s)
  unfold eds_ at h2
  rw [show sge_ r s = fo_ (sg1_ r s) 144 0 [] from rfl, h]
  simp only [List.length_nil, Nat.zero_add]
  exact h2
end EDS
