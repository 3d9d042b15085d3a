/-! Kruskal's way over the sorted edges finds the same forest as the nearest edges one by one -/
section KRS
variable {r : Nat → Int32} {n s : Nat}
/-- an edge of the sorted list -/
def ks1_ (p : Nat) (x : (Nat → Nat) × (Nat → Bool)) : (Nat → Nat) × (Nat → Bool) := if x.1 (p / 12) = x.1 (p % 12) then x else (joi_ x.1 (p / 12) (p % 12), fun k => if k = p then true else x.2 k)
def ksf_ : List Nat → (Nat → Nat) × (Nat → Bool) → (Nat → Nat) × (Nat → Bool)
  | [], x => x
  | p :: l, x => ksf_ l (ks1_ p x)
theorem lx_anti {j p : Nat} (h1 : lx_ r j p) (h2 : lx_ r p j) : j = p := by
  unfold lx_ at h1 h2
  rcases h1 with a | ⟨a, b⟩ <;> rcases h2 with c | ⟨c, d⟩
  · exact absurd c (Int32.lt_asymm a)
  · rw [c] at a; exact absurd a (Int32.lt_irrefl)
  · rw [a] at c; exact absurd c (Int32.lt_irrefl)
  · omega
theorem joi_same {pt : Nat → Nat} {u v a b : Nat} (h : pt a = pt b) : joi_ pt u v a = joi_ pt u v b := by
  unfold joi_
  rw [h]
theorem joi_uv {pt : Nat → Nat} {u v : Nat} : joi_ pt u v u = joi_ pt u v v := by
  unfold joi_
  by_cases h1 : pt u = max (pt u) (pt v) <;> by_cases h2 : pt v = max (pt u) (pt v)
  · rw [if_pos h1, if_pos h2]
  · rw [if_pos h1, if_neg h2]; omega
  · rw [if_neg h1, if_pos h2]; omega
  · omega
theorem kr_none {pt : Nat → Nat} {tk : Nat → Bool} (h : nxe_ r n s pt = none) : ∀ f, kr_ r n s f (pt, tk) = (pt, tk) := by
  intro f
  cases f with
  | zero => rfl
  | succ f =>
    rw [kr_]
    dsimp only
    rw [h]
theorem ks_kr (hn : n ≤ 12) : ∀ (l : List Nat) (pt : Nat → Nat) (tk : Nat → Bool) (f : Nat), Pt_ n pt → mu_ pt n ≤ f → l.Pairwise (lx_ r) → (∀ p ∈ l, p < 144 ∧ p / 12 < p % 12 ∧ p % 12 < n ∧ ¬ ct_ r s p = 0) → (∀ p, cro_ r n s pt p → p < 144 → p ∈ l) →
    kr_ r n s f (pt, tk) = ksf_ l (pt, tk) := by
  intro l
  induction l with
  | nil =>
    intro pt tk f hP hmu hs hl hc
    refine kr_none ?_ f
    cases hq : nxe_ r n s pt with
    | none => rfl
    | some j =>
      have h2 := (nxi_all (r := r) (s := s) (pt := pt) hn).2 j hq
      exact absurd (hc j h2.2 h2.1) List.not_mem_nil
  | cons p l ih =>
    intro pt tk f hP hmu hs hl hc
    rw [List.pairwise_cons] at hs
    have hp := hl p List.mem_cons_self
    have hl' : ∀ p ∈ l, p < 144 ∧ p / 12 < p % 12 ∧ p % 12 < n ∧ ¬ ct_ r s p = 0 := fun q hq => hl q (List.mem_cons_of_mem _ hq)
    rw [ksf_]
    by_cases c : pt (p / 12) = pt (p % 12)
    · have e : ks1_ p (pt, tk) = (pt, tk) := if_pos c
      rw [e]
      refine ih pt tk f hP hmu hs.2 hl' (fun q h1 h2 => ?_)
      rcases List.mem_cons.mp (hc q h1 h2) with h3 | h3
      · exact absurd c (by rw [← h3]; exact h1.2.2.2)
      · exact h3
    · have e : ks1_ p (pt, tk) = (joi_ pt (p / 12) (p % 12), fun k => if k = p then true else tk k) := if_neg c
      obtain ⟨j, hj, hlx⟩ := (nxi_all (r := r) (s := s) (pt := pt) hn).1 p ⟨hp.2.1, hp.2.2.1, hp.2.2.2, c⟩ hp.1
      have h2 := (nxi_all (r := r) (s := s) (pt := pt) hn).2 j hj
      have hjp : j = p := by
        rcases List.mem_cons.mp (hc j h2.2 h2.1) with h3 | h3
        · exact h3
        · exact lx_anti hlx (hs.1 j h3)
      subst hjp
      have ha : j / 12 < n := by omega
      have hb : j % 12 < n := hp.2.2.1
      have hlt := joi_mu hP ha hb c
      obtain ⟨f', rfl⟩ : ∃ f', f = f' + 1 := ⟨f - 1, by omega⟩
      rw [kr_]
      dsimp only
      rw [hj, e]
      refine ih _ _ f' (joi_Pt hP ha hb) (by omega) hs.2 hl' (fun q h1 h2 => ?_)
      have h4 : cro_ r n s pt q := ⟨h1.1, h1.2.1, h1.2.2.1, fun h5 => h1.2.2.2 (joi_same h5)⟩
      rcases List.mem_cons.mp (hc q h4 h2) with h3 | h3
      · subst h3
        exact absurd joi_uv h1.2.2.2
      · exact h3
/-- where an edge goes in a list of edges by their lengths -/
def tpo_ (r : Nat → Int32) (x : Nat) (l : List Nat) : Nat → Nat
  | 0 => 0
  | k + 1 => if di_ r (x / 12) (x % 12) < di_ r (l.getD k 0 / 12) (l.getD k 0 % 12) then tpo_ r x l k else k + 1
def ink_ (r : Nat → Int32) (x : Nat) (l : List Nat) : List Nat := l.take (tpo_ r x l l.length) ++ x :: l.drop (tpo_ r x l l.length)
theorem tpo_le {x : Nat} {l : List Nat} : ∀ (k : Nat), tpo_ r x l k ≤ k := by
  intro k
  induction k with
  | zero => exact Nat.le_refl _
  | succ k ih =>
    rw [tpo_]
    split <;> omega
theorem tpo_hi {x : Nat} {l : List Nat} : ∀ (k j : Nat), tpo_ r x l k ≤ j → j < k → di_ r (x / 12) (x % 12) < di_ r (l.getD j 0 / 12) (l.getD j 0 % 12) := by
  intro k
  induction k with
  | zero => intro j h1 h2; omega
  | succ k ih =>
    intro j h1 h2
    rw [tpo_] at h1
    split at h1
    · next c =>
      by_cases e : j = k
      · rw [e]; exact c
      · exact ih j h1 (by omega)
    · omega
theorem tpo_lo {x : Nat} {l : List Nat} : ∀ (k j : Nat), tpo_ r x l k = j + 1 → di_ r (l.getD j 0 / 12) (l.getD j 0 % 12) ≤ di_ r (x / 12) (x % 12) := by
  intro k
  induction k with
  | zero => intro j h; rw [tpo_] at h; omega
  | succ k ih =>
    intro j h
    rw [tpo_] at h
    split at h
    · exact ih j h
    · next c =>
      have e : j = k := by omega
      rw [e]
      exact Int32.not_lt.mp c
theorem lx_di {j p : Nat} (h : lx_ r j p) : di_ r (j / 12) (j % 12) ≤ di_ r (p / 12) (p % 12) := by
  rcases h with a | ⟨a, _⟩
  · exact Int32.le_of_lt a
  · rw [a]; exact Int32.le_refl _
theorem ink_srt {x : Nat} {l : List Nat} (hs : l.Pairwise (lx_ r)) (hx : ∀ y ∈ l, y < x) : (ink_ r x l).Pairwise (lx_ r) := by
  have hle := tpo_le (r := r) (x := x) (l := l) l.length
  have hhi := tpo_hi (r := r) (x := x) (l := l) l.length
  have hlo := tpo_lo (r := r) (x := x) (l := l) l.length
  unfold ink_
  generalize tpo_ r x l l.length = k at hle hhi hlo ⊢
  have hsp : (l.take k ++ l.drop k).Pairwise (lx_ r) := by rw [List.take_append_drop]; exact hs
  rw [List.pairwise_append] at hsp
  have hdrop : ∀ y ∈ l.drop k, lx_ r x y := fun y hy => by
    obtain ⟨j, hj⟩ := List.getElem?_of_mem hy
    rw [List.getElem?_drop] at hj
    have hlt : k + j < l.length := (List.getElem?_eq_some_iff.mp hj).1
    have := hhi (k + j) (by omega) hlt
    rw [List.getD_eq_getElem?_getD, hj] at this
    exact Or.inl this
  have htake : ∀ y ∈ l.take k, lx_ r y x := fun y hy => by
    have hym := List.mem_of_mem_take hy
    have hyx := hx y hym
    have hd : di_ r (y / 12) (y % 12) ≤ di_ r (x / 12) (x % 12) := by
      cases k with
      | zero => simp at hy
      | succ m =>
        have h1 := hlo m rfl
        have hml : m < l.length := by omega
        have em : l.getD m 0 = l[m] := by rw [List.getD_eq_getElem?_getD, List.getElem?_eq_getElem hml]; rfl
        rw [em] at h1
        obtain ⟨j, hj⟩ := List.getElem?_of_mem hy
        rw [List.getElem?_take] at hj
        split at hj
        · next hjm =>
          have hjl : j < l.length := by omega
          rw [List.getElem?_eq_getElem hjl] at hj
          cases hj
          by_cases e : j = m
          · subst e; exact h1
          · have := List.pairwise_iff_getElem.mp hs j m hjl hml (by omega)
            exact Int32.le_trans (lx_di this) h1
        · cases hj
    rcases Int32.lt_or_eq_of_le hd with h | h
    · exact Or.inl h
    · exact Or.inr ⟨h, by omega⟩
  rw [List.pairwise_append, List.pairwise_cons]
  refine ⟨hsp.1, ⟨hdrop, hsp.2.1⟩, fun y hy z hz => ?_⟩
  rcases List.mem_cons.mp hz with h | h
  · rw [h]; exact htake y hy
  · exact hsp.2.2 y hy z h
theorem ink_mem {x y : Nat} {l : List Nat} : y ∈ ink_ r x l ↔ y = x ∨ y ∈ l := by
  unfold ink_
  generalize tpo_ r x l l.length = k
  rw [List.mem_append, List.mem_cons]
  constructor
  · rintro (h | h | h)
    · exact Or.inr (List.mem_of_mem_take h)
    · exact Or.inl h
    · exact Or.inr (List.mem_of_mem_drop h)
  · rintro (h | h)
    · exact Or.inr (Or.inl h)
    · have : y ∈ l.take k ++ l.drop k := by rw [List.take_append_drop]; exact h
      rcases List.mem_append.mp this with h | h
      · exact Or.inl h
      · exact Or.inr (Or.inr h)
theorem ink_len {x : Nat} {l : List Nat} : (ink_ r x l).length = l.length + 1 := by
  have hle := tpo_le (r := r) (x := x) (l := l) l.length
  unfold ink_
  rw [List.length_append, List.length_cons, List.length_take, List.length_drop]
  omega
/-- the edges by their lengths -/
def sg1_ (r : Nat → Int32) (s k : Nat) (l : List Nat) : List Nat := if ct_ r s k = 0 then l else ink_ r k l
def sge_ (r : Nat → Int32) (s : Nat) : List Nat := fo_ (sg1_ r s) 144 0 []
theorem sg_all : ∀ (d i : Nat) (l : List Nat), (l.Pairwise (lx_ r) ∧ (∀ y, y ∈ l ↔ (y < i ∧ ¬ ct_ r s y = 0))) → ((fo_ (sg1_ r s) d i l).Pairwise (lx_ r) ∧ (∀ y, y ∈ fo_ (sg1_ r s) d i l ↔ (y < i + d ∧ ¬ ct_ r s y = 0))) := by
  intro d
  induction d with
  | zero => intro i l h; exact h
  | succ d ih =>
    intro i l h
    rw [fo_]
    have e : i + (d + 1) = i + 1 + d := by omega
    rw [e]
    apply ih
    unfold sg1_
    by_cases c : ct_ r s i = 0
    · rw [if_pos c]
      refine ⟨h.1, fun y => (h.2 y).trans ⟨fun q => ⟨by omega, q.2⟩, fun q => ⟨?_, q.2⟩⟩⟩
      have : y ≠ i := fun e => q.2 (by rw [e]; exact c)
      omega
    · rw [if_neg c]
      refine ⟨ink_srt h.1 (fun y hy => ((h.2 y).mp hy).1), fun y => ink_mem.trans ⟨?_, fun q => ?_⟩⟩
      · rintro (q | q)
        · rw [q]; exact ⟨by omega, c⟩
        · have := (h.2 y).mp q
          exact ⟨by omega, this.2⟩
      · by_cases e2 : y = i
        · exact Or.inl e2
        · exact Or.inr ((h.2 y).mpr ⟨by omega, q.2⟩)
theorem sge_spec : (sge_ r s).Pairwise (lx_ r) ∧ (∀ y, y ∈ sge_ r s ↔ (y < 144 ∧ ¬ ct_ r s y = 0)) := by
  have := sg_all (r := r) (s := s) 144 0 [] ⟨List.Pairwise.nil, fun y => ⟨fun h => absurd h List.not_mem_nil, fun h => absurd h.1 (by omega)⟩⟩
  rw [Nat.zero_add] at this
  exact this
theorem sge_len : (sge_ r s).length ≤ 144 := by
  have key : ∀ (d i : Nat) (l : List Nat), (fo_ (sg1_ r s) d i l).length ≤ l.length + d := by
    intro d
    induction d with
    | zero => intro i l; exact Nat.le_refl _
    | succ d ih =>
      intro i l
      rw [fo_]
      have h1 := ih (i + 1) (sg1_ r s i l)
      have h2 : (sg1_ r s i l).length ≤ l.length + 1 := by
        unfold sg1_
        split
        · omega
        · rw [ink_len]; exact Nat.le_refl _
      omega
  have := key 144 0 []
  unfold sge_
  simpa using this
/-- the forest, by the sorted edges -/
theorem ks_all (hW : Wr_ r n s) : ksf_ (sge_ r s) (id, fun _ => false) = (prt_ r n s, tkn_ r n s) := by
  have h12 := wr_n12 hW
  have hPi : Pt_ n id := fun k _ => ⟨Nat.le_refl _, rfl⟩
  obtain ⟨h1, h2⟩ := sge_spec (r := r) (s := s)
  rw [← ks_kr h12 (sge_ r s) id (fun _ => false) n hPi (mu_n n 0) h1 (fun p hp => ?_) (fun p hp h144 => (h2 p).mpr ⟨h144, hp.2.2.1⟩)]
  · rfl
  · have := (h2 p).mp hp
    have hcp := ct_pair hW this.2
    exact ⟨this.1, hcp.1, hcp.2, this.2⟩
end KRS
