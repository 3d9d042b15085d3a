/-! FORESTS: walks without turning back; in a forest there is one at most -/
def adj_ (tk : Nat → Bool) (x y : Nat) : Prop := x ≠ y ∧ tk (pa_ x y) = true
def wk_ (tk : Nat → Bool) : List Nat → Prop
  | [] => False
  | [_] => True
  | x :: y :: r => adj_ tk x y ∧ r.head? ≠ some x ∧ wk_ tk (y :: r)
/-- a walk from a to b -/
def wab_ (tk : Nat → Bool) (a b : Nat) (w : List Nat) : Prop := wk_ tk w ∧ w.head? = some a ∧ w.getLast? = some b
theorem pa_co (a b : Nat) : pa_ a b = pa_ b a := by
  unfold pa_
  by_cases h : a < b
  · rw [if_pos h, if_neg (by omega)]
  · by_cases h2 : b < a
    · rw [if_neg h, if_pos h2]
    · obtain rfl : a = b := by omega
      rfl
theorem adj_co {tk : Nat → Bool} {x y : Nat} (h : adj_ tk x y) : adj_ tk y x := ⟨fun e => h.1 e.symm, by rw [pa_co]; exact h.2⟩
/-- what holds of the parts and the edges taken on the way -/
def For_ (n : Nat) (pt : Nat → Nat) (tk : Nat → Bool) : Prop :=
  (∀ x y, adj_ tk x y → x < 12 → y < 12 → pt x = pt y ∧ x < n ∧ y < n) ∧
  (∀ a b v w, a < n → wab_ tk a b v → wab_ tk a b w → (∀ z ∈ v, z < 12) → (∀ z ∈ w, z < 12) → v = w) ∧
  (∀ a b, a < n → b < n → pt a = pt b → ∃ w, wab_ tk a b w ∧ (∀ z ∈ w, z < n))
theorem wk_pt {n : Nat} {pt : Nat → Nat} {tk : Nat → Bool} (hF : For_ n pt tk) : ∀ (w : List Nat) (a b : Nat), wab_ tk a b w → (∀ z ∈ w, z < 12) → pt a = pt b := by
  intro w
  induction w with
  | nil => intro a b h; exact absurd h.1 id
  | cons x r ih =>
    intro a b h hz
    cases r with
    | nil =>
      have h1 := h.2.1; have h2 := h.2.2
      simp at h1 h2
      rw [← h1, ← h2]
    | cons y r =>
      have h1 := h.2.1
      simp at h1
      subst h1
      have h2 := (hF.1 x y h.1.1 (hz x (by simp)) (hz y (by simp))).1
      have h3 := ih y b ⟨h.1.2.2, by simp, by have := h.2.2; simpa using this⟩ (fun z hz' => hz z (List.mem_cons_of_mem _ hz'))
      rw [h2, h3]
/-- with one edge u v more, between two parts -/
theorem wk_split {n : Nat} {pt : Nat → Nat} {tk tk' : Nat → Bool} {u v : Nat} (hF : For_ n pt tk) (hu : u < n) (hv : v < n) (huv : ¬ pt u = pt v) (htk : ∀ k, tk' k = true ↔ (k = pa_ u v ∨ tk k = true)) (hinj : ∀ x y, x < 12 → y < 12 → pa_ x y = pa_ u v → x ≠ y → (x = u ∧ y = v) ∨ (x = v ∧ y = u)) :
    ∀ (w : List Nat), wk_ tk' w → (∀ z ∈ w, z < 12) → wk_ tk w ∨ ∃ w1 w2 x y, w = w1 ++ w2 ∧ ((x = u ∧ y = v) ∨ (x = v ∧ y = u)) ∧ wk_ tk w1 ∧ wk_ tk w2 ∧ w1.getLast? = some x ∧ w2.head? = some y := by
  intro w
  induction w with
  | nil => intro h; exact absurd h id
  | cons x0 r ih =>
    intro h hz
    cases r with
    | nil => exact Or.inl trivial
    | cons y0 r =>
      have hz' : ∀ z ∈ y0 :: r, z < 12 := fun z hz' => hz z (List.mem_cons_of_mem _ hz')
      have hx0 : x0 < 12 := hz x0 (by simp)
      have hy0 : y0 < 12 := hz y0 (by simp)
      obtain ⟨⟨hne, hadj⟩, hnb, hw⟩ := h
      rcases ih hw hz' with h1 | ⟨w1, w2, x, y, e, hxy, h2, h3, h4, h5⟩
      · rcases (htk _).mp hadj with h6 | h6
        · refine Or.inr ⟨[x0], y0 :: r, x0, y0, rfl, hinj x0 y0 hx0 hy0 h6 hne, trivial, h1, rfl, rfl⟩
        · exact Or.inl ⟨⟨hne, h6⟩, hnb, h1⟩
      · cases w1 with
        | nil => exact absurd h2 id
        | cons y1 r1 =>
          obtain ⟨rfl, e2⟩ : y0 = y1 ∧ r = r1 ++ w2 := by simpa using e
          rcases (htk _).mp hadj with h6 | h6
          · -- the new edge twice: the walk between is still, and turns back
            exfalso
            have hz1 : ∀ z ∈ y0 :: r1, z < 12 := fun z hz2 => hz' z (by rw [e]; exact List.mem_append_left _ hz2)
            have hp : pt y0 = pt x := wk_pt hF (y0 :: r1) y0 x ⟨h2, rfl, h4⟩ hz1
            have hi := hinj x0 y0 hx0 hy0 h6 hne
            have hyx : y0 = x ∧ x0 = y := by
              rcases hi with ⟨a1, a2⟩ | ⟨a1, a2⟩ <;> rcases hxy with ⟨b1, b2⟩ | ⟨b1, b2⟩
              · exfalso; apply huv; rw [← b1, ← hp, a2]
              · exact ⟨by rw [a2, b1], by rw [a1, b2]⟩
              · exact ⟨by rw [a2, b1], by rw [a1, b2]⟩
              · exfalso; apply huv; rw [← a2, hp, b1]
            have hyn : y0 < n := by
              rcases hi with ⟨_, a2⟩ | ⟨_, a2⟩
              · rw [a2]; exact hv
              · rw [a2]; exact hu
            have h7 : y0 :: r1 = [y0] := hF.2.1 y0 y0 _ _ hyn ⟨h2, rfl, by rw [hyx.1]; exact hyx.1 ▸ h4⟩ ⟨trivial, rfl, rfl⟩ hz1 (fun z hz2 => by rw [List.mem_singleton.mp hz2]; exact hy0)
            have h8 : r1 = [] := by simpa using h7
            subst h8
            apply hnb
            rw [e2, List.nil_append, h5, hyx.2]
          · refine Or.inr ⟨x0 :: y0 :: r1, w2, x, y, by rw [e2]; rfl, hxy, ⟨⟨hne, h6⟩, ?_, h2⟩, h3, ?_, h5⟩
            · intro k
              apply hnb
              rw [e2]
              cases r1 with
              | nil => simp at k
              | cons a r2 => simpa using k
            · simpa using h4
theorem pa_inj {x y u v : Nat} (hx : x < 12) (hy : y < 12) (hu : u < 12) (hv : v < 12) (h : pa_ x y = pa_ u v) : (x = u ∧ y = v) ∨ (x = v ∧ y = u) := by
  unfold pa_ at h
  split at h <;> split at h <;> omega
theorem wk_mono {tk tk' : Nat → Bool} (h : ∀ k, tk k = true → tk' k = true) : ∀ (w : List Nat), wk_ tk w → wk_ tk' w := by
  intro w
  induction w with
  | nil => exact id
  | cons x r ih =>
    intro hw
    cases r with
    | nil => trivial
    | cons y r => exact ⟨⟨hw.1.1, h _ hw.1.2⟩, hw.2.1, ih hw.2.2⟩
/-- joining two walks by an edge that neither goes along at the joint -/
theorem wk_app {tk : Nat → Bool} {x y : Nat} (hxy : adj_ tk x y) : ∀ (w1 w2 : List Nat), wk_ tk w1 → wk_ tk w2 → w1.getLast? = some x → w2.head? = some y → (∀ z ∈ w1, z ∉ w2) → wk_ tk (w1 ++ w2) := by
  intro w1
  induction w1 with
  | nil => intro w2 h; exact absurd h id
  | cons a r ih =>
    intro w2 h1 h2 h3 h4 hd
    cases w2 with
    | nil => exact absurd h2 id
    | cons b q =>
      have hb : b = y := by simpa using h4
      subst hb
      cases r with
      | nil =>
        have ha : a = x := by simpa using h3
        subst ha
        refine ⟨hxy, ?_, h2⟩
        intro e
        cases q with
        | nil => simp at e
        | cons c q =>
          have e : c = a := by simpa using e
          exact hd a (by simp) (by rw [← e]; simp)
      | cons c r =>
        have h5 := ih (b :: q) h1.2.2 h2 (by simpa using h3) rfl (fun z hz => hd z (List.mem_cons_of_mem _ hz))
        refine ⟨h1.1, ?_, h5⟩
        intro e
        cases r with
        | nil =>
          have e : b = a := by simpa using e
          exact hd a (by simp) (by rw [← e]; simp)
        | cons d r => exact h1.2.1 (by simpa using e)
theorem wk_ptm {n : Nat} {pt : Nat → Nat} {tk : Nat → Bool} (hF : For_ n pt tk) : ∀ (w : List Nat) (a : Nat), wk_ tk w → w.head? = some a → (∀ z ∈ w, z < 12) → ∀ z ∈ w, pt z = pt a := by
  intro w
  induction w with
  | nil => intro a h; exact absurd h id
  | cons x r ih =>
    intro a h ha hz z hzm
    have e : x = a := by simpa using ha
    subst e
    rcases List.mem_cons.mp hzm with q | q
    · rw [q]
    · cases r with
      | nil => simp at q
      | cons y r =>
        have h2 := (hF.1 x y h.1 (hz x (by simp)) (hz y (by simp))).1
        have h3 := ih y h.2.2 rfl (fun z hz' => hz z (List.mem_cons_of_mem _ hz')) z q
        rw [h3, h2]
theorem app_wab {tk : Nat → Bool} {w1 w2 : List Nat} {a b x y : Nat} (h1 : wk_ tk w1) (h2 : wk_ tk w2) (hx : w1.getLast? = some x) (hy : w2.head? = some y) (ha : (w1 ++ w2).head? = some a) (hb : (w1 ++ w2).getLast? = some b) : wab_ tk a x w1 ∧ wab_ tk y b w2 := by
  cases w1 with
  | nil => exact absurd h1 id
  | cons c r =>
    cases w2 with
    | nil => exact absurd h2 id
    | cons d q =>
      refine ⟨⟨h1, by simpa using ha, hx⟩, h2, hy, ?_⟩
      rw [List.getLast?_append] at hb
      rcases hl : (d :: q).getLast? with _ | z
      · simp at hl
      · rw [hl] at hb
        exact hb
theorem wab_app {tk : Nat → Bool} {w1 w2 : List Nat} {a b x y : Nat} (h1 : wab_ tk a x w1) (h2 : wab_ tk y b w2) (hxy : adj_ tk x y) (hd : ∀ z ∈ w1, z ∉ w2) : wab_ tk a b (w1 ++ w2) := by
  refine ⟨wk_app hxy w1 w2 h1.1 h2.1 h1.2.2 h2.2.1 hd, ?_, ?_⟩
  · rw [List.head?_append, h1.2.1]; rfl
  · rw [List.getLast?_append, h2.2.2]; rfl
theorem For_step {n : Nat} {pt : Nat → Nat} {tk : Nat → Bool} {u v : Nat} (hn : n ≤ 12) (hF : For_ n pt tk) (hu : u < n) (hv : v < n) (hne : u ≠ v) (huv : ¬ pt u = pt v) : For_ n (joi_ pt u v) (fun k => if k = pa_ u v then true else tk k) := by
  have htk : ∀ k, (fun k => if k = pa_ u v then true else tk k) k = true ↔ (k = pa_ u v ∨ tk k = true) := fun k => by
    dsimp only
    by_cases c : k = pa_ u v
    · rw [if_pos c]; exact ⟨fun _ => Or.inl c, fun _ => rfl⟩
    · rw [if_neg c]; exact ⟨Or.inr, fun h => h.elim (fun e => absurd e c) id⟩
  have hinj : ∀ x y, x < 12 → y < 12 → pa_ x y = pa_ u v → x ≠ y → (x = u ∧ y = v) ∨ (x = v ∧ y = u) := fun x y hx hy h _ => pa_inj hx hy (by omega) (by omega) h
  have hju : joi_ pt u v u = min (pt u) (pt v) := by unfold joi_; split <;> omega
  have hjv : joi_ pt u v v = min (pt u) (pt v) := by unfold joi_; split <;> omega
  have hje : ∀ a b, pt a = pt b → joi_ pt u v a = joi_ pt u v b := fun a b h => by unfold joi_; rw [h]
  have hjo : ∀ a b, joi_ pt u v a = joi_ pt u v b → pt a = pt b ∨ (pt a = pt u ∧ pt b = pt v) ∨ (pt a = pt v ∧ pt b = pt u) := fun a b h => by
    unfold joi_ at h
    split at h <;> split at h <;> omega
  refine ⟨?_, ?_, ?_⟩
  · intro x y hadj hx hy
    rcases (htk _).mp hadj.2 with h | h
    · rcases hinj x y hx hy h hadj.1 with ⟨a1, a2⟩ | ⟨a1, a2⟩
      · subst a1; subst a2; exact ⟨hju.trans hjv.symm, hu, hv⟩
      · subst a1; subst a2; exact ⟨hjv.trans hju.symm, hv, hu⟩
    · have := hF.1 x y ⟨hadj.1, h⟩ hx hy
      exact ⟨hje _ _ this.1, this.2⟩
  · intro a b p q ha hp hq hzp hzq
    have sp := wk_split hF hu hv huv htk hinj p hp.1 hzp
    have sq := wk_split hF hu hv huv htk hinj q hq.1 hzq
    rcases sp with sp | ⟨p1, p2, x, y, ep, hxy, k1, k2, k3, k4⟩
    · rcases sq with sq | ⟨q1, q2, x', y', eq, hxy', l1, l2, l3, l4⟩
      · exact hF.2.1 a b p q ha ⟨sp, hp.2⟩ ⟨sq, hq.2⟩ hzp hzq
      · exfalso
        have e1 := wk_pt hF p a b ⟨sp, hp.2⟩ hzp
        have hh := app_wab l1 l2 l3 l4 (by rw [← eq]; exact hq.2.1) (by rw [← eq]; exact hq.2.2)
        have e2 := wk_pt hF q1 a x' hh.1 (fun z hz => hzq z (by rw [eq]; exact List.mem_append_left _ hz))
        have e3 := wk_pt hF q2 y' b hh.2 (fun z hz => hzq z (by rw [eq]; exact List.mem_append_right _ hz))
        rcases hxy' with ⟨b1, b2⟩ | ⟨b1, b2⟩ <;> subst b1 <;> subst b2 <;> omega
    · have hg := app_wab k1 k2 k3 k4 (by rw [← ep]; exact hp.2.1) (by rw [← ep]; exact hp.2.2)
      have hz1 : ∀ z ∈ p1, z < 12 := fun z hz => hzp z (by rw [ep]; exact List.mem_append_left _ hz)
      have hz2 : ∀ z ∈ p2, z < 12 := fun z hz => hzp z (by rw [ep]; exact List.mem_append_right _ hz)
      have d2 := wk_pt hF p1 a x hg.1 hz1
      have d3 := wk_pt hF p2 y b hg.2 hz2
      rcases sq with sq | ⟨q1, q2, x', y', eq, hxy', l1, l2, l3, l4⟩
      · exfalso
        have e1 := wk_pt hF q a b ⟨sq, hq.2⟩ hzq
        rcases hxy with ⟨b1, b2⟩ | ⟨b1, b2⟩ <;> subst b1 <;> subst b2 <;> omega
      · have hh := app_wab l1 l2 l3 l4 (by rw [← eq]; exact hq.2.1) (by rw [← eq]; exact hq.2.2)
        have hy1 : ∀ z ∈ q1, z < 12 := fun z hz => hzq z (by rw [eq]; exact List.mem_append_left _ hz)
        have hy2 : ∀ z ∈ q2, z < 12 := fun z hz => hzq z (by rw [eq]; exact List.mem_append_right _ hz)
        have e2 := wk_pt hF q1 a x' hh.1 hy1
        have e3 := wk_pt hF q2 y' b hh.2 hy2
        have hxx : x = x' ∧ y = y' ∧ y < n := by
          rcases hxy with ⟨b1, b2⟩ | ⟨b1, b2⟩ <;> rcases hxy' with ⟨c1, c2⟩ | ⟨c1, c2⟩ <;> subst b1 <;> subst b2
          · exact ⟨c1.symm, c2.symm, hv⟩
          · exfalso; subst c1; subst c2; omega
          · exfalso; subst c1; subst c2; omega
          · exact ⟨c1.symm, c2.symm, hu⟩
        obtain ⟨rfl, rfl, hyn⟩ := hxx
        rw [ep, eq, hF.2.1 a x p1 q1 ha hg.1 hh.1 hz1 hy1, hF.2.1 y b p2 q2 hyn hg.2 hh.2 hz2 hy2]
  · intro a b ha hb hab
    rcases hjo a b hab with h | h
    · obtain ⟨w, hw, hz⟩ := hF.2.2 a b ha hb h
      exact ⟨w, ⟨wk_mono (fun k hk => (htk k).mpr (Or.inr hk)) w hw.1, hw.2⟩, hz⟩
    · have hm := fun w => wk_mono (fun k hk => (htk k).mpr (Or.inr hk)) w
      have gen : ∀ u' v', u' < n → v' < n → ¬ pt u' = pt v' → adj_ (fun k => if k = pa_ u v then true else tk k) u' v' → pt a = pt u' → pt b = pt v' → ∃ w, wab_ (fun k => if k = pa_ u v then true else tk k) a b w ∧ (∀ z ∈ w, z < n) := fun u' v' hu' hv' huv' hadj g1 g2 => by
        obtain ⟨w1, hw1, hz1⟩ := hF.2.2 a u' ha hu' g1
        obtain ⟨w2, hw2, hz2⟩ := hF.2.2 v' b hv' hb g2.symm
        refine ⟨w1 ++ w2, wab_app ⟨hm w1 hw1.1, hw1.2⟩ ⟨hm w2 hw2.1, hw2.2⟩ hadj (fun z q1 q2 => ?_), fun z hz => ?_⟩
        · have f1 := wk_ptm hF w1 a hw1.1 hw1.2.1 (fun z hz => Nat.lt_of_lt_of_le (hz1 z hz) hn) z q1
          have f2 := wk_ptm hF w2 v' hw2.1 hw2.2.1 (fun z hz => Nat.lt_of_lt_of_le (hz2 z hz) hn) z q2
          exact huv' (by rw [← g1, ← f1, f2])
        · rcases List.mem_append.mp hz with q | q
          · exact hz1 z q
          · exact hz2 z q
      rcases h with h | h
      · exact gen u v hu hv huv ⟨hne, if_pos rfl⟩ h.1 h.2
      · exact gen v u hv hu (fun e => huv e.symm) ⟨fun e => hne e.symm, if_pos (pa_co v u)⟩ h.1 h.2
theorem For_0 (n : Nat) : For_ n id (fun _ => false) := by
  refine ⟨fun x y h => absurd h.2 (by simp), ?_, ?_⟩
  · intro a b v w ha hv hw _ _
    have key : ∀ w, wab_ (fun _ => false) a b w → w = [a] := by
      intro w hw
      cases w with
      | nil => exact absurd hw.1 id
      | cons x r =>
        cases r with
        | nil => have := hw.2.1; simp at this; rw [this]
        | cons y r => exact absurd hw.1.1.2 (by simp)
    rw [key v hv, key w hw]
  · intro a b ha hb hab
    have hab : a = b := hab
    exact ⟨[a], ⟨trivial, rfl, by rw [hab]; rfl⟩, fun z hz => by rw [List.mem_singleton.mp hz]; exact ha⟩
theorem wk_pre {tk : Nat → Bool} : ∀ (w1 w2 : List Nat), w1 ≠ [] → wk_ tk (w1 ++ w2) → wk_ tk w1 := by
  intro w1
  induction w1 with
  | nil => intro w2 h; exact absurd rfl h
  | cons x r ih =>
    intro w2 _ h
    cases r with
    | nil => trivial
    | cons y r =>
      refine ⟨h.1, ?_, ih w2 (by simp) h.2.2⟩
      intro e
      apply h.2.1
      cases r with
      | nil => simp at e
      | cons z r => simpa using e
theorem wk_lt {n : Nat} {pt : Nat → Nat} {tk : Nat → Bool} (hF : For_ n pt tk) : ∀ (w : List Nat), wk_ tk w → (∀ z ∈ w, z < 12) → w.Nodup := by
  intro w
  induction w with
  | nil => intro h; exact absurd h id
  | cons x r ih =>
    intro h hz
    cases r with
    | nil => simp
    | cons y r =>
      have hx := hF.1 x y h.1 (hz x (by simp)) (hz y (by simp))
      refine List.nodup_cons.mpr ⟨fun hm => ?_, ih h.2.2 (fun z hz' => hz z (List.mem_cons_of_mem _ hz'))⟩
      obtain ⟨s1, s2, e⟩ := List.append_of_mem hm
      have h1 : wk_ tk (x :: (s1 ++ [x])) := by
        apply wk_pre (x :: (s1 ++ [x])) s2 (by simp)
        have : x :: (s1 ++ [x]) ++ s2 = x :: y :: r := by rw [e]; simp
        rw [this]; exact h
      have hl : (x :: (s1 ++ [x])).getLast? = some x := by rw [← List.cons_append, List.getLast?_append]; rfl
      have hzz : ∀ z ∈ x :: (s1 ++ [x]), z < 12 := fun z hz' => hz z (by
        rw [e]
        simp at hz' ⊢
        rcases hz' with q | q | q
        · exact Or.inl q
        · exact Or.inr (Or.inl q)
        · exact Or.inl q)
      have := hF.2.1 x x (x :: (s1 ++ [x])) [x] hx.2.1 ⟨h1, rfl, hl⟩ ⟨trivial, rfl, rfl⟩ hzz (fun z hz' => by rw [List.mem_singleton.mp hz']; exact hz x (by simp))
      simp at this
theorem nodup_le : ∀ (n : Nat) (w : List Nat), w.Nodup → (∀ z ∈ w, z < n) → w.length ≤ n := by
  intro n
  induction n with
  | zero =>
    intro w _ h
    cases w with
    | nil => exact Nat.le_refl _
    | cons x r => exact absurd (h x (by simp)) (by omega)
  | succ n ih =>
    intro w hn h
    have h1 := ih (w.erase n) (hn.erase n) (fun z hz => by
      have h2 := (hn.mem_erase_iff).mp hz
      have := h z h2.2
      have := h2.1
      omega)
    have h3 := List.length_erase (a := n) (l := w)
    split at h3 <;> omega
theorem wk_len {n : Nat} {pt : Nat → Nat} {tk : Nat → Bool} (hn : n ≤ 12) (hF : For_ n pt tk) {w : List Nat} (h : wk_ tk w) (hz : ∀ z ∈ w, z < n) : w.length ≤ n :=
  nodup_le n w (wk_lt hF w h (fun z hz' => Nat.lt_of_lt_of_le (hz z hz') hn)) hz
/-- what stands after all rounds -/
theorem kr_inv {r : Nat → Int32} {n s : Nat} (hn : n ≤ 12) : ∀ (f : Nat) (pt : Nat → Nat) (tk : Nat → Bool), Pt_ n pt → For_ n pt tk → mu_ pt n ≤ f → (∀ k, tk k = true → ¬ ct_ r s k = 0 ∧ k / 12 < k % 12 ∧ k % 12 < n) →
    Pt_ n (kr_ r n s f (pt, tk)).1 ∧ For_ n (kr_ r n s f (pt, tk)).1 (kr_ r n s f (pt, tk)).2 ∧ nxe_ r n s (kr_ r n s f (pt, tk)).1 = none ∧ (∀ k, (kr_ r n s f (pt, tk)).2 k = true → ¬ ct_ r s k = 0 ∧ k / 12 < k % 12 ∧ k % 12 < n) := by
  intro f
  induction f with
  | zero =>
    intro pt tk hP hF hmu htk
    have hn0 : n = 0 := by
      by_cases c : n = 0
      · exact c
      · exfalso
        have h0 : pt 0 = 0 := by have := (hP 0 (by omega)).1; omega
        have : 0 < fo_ (mu1_ pt) n 0 0 := by
          obtain ⟨m, rfl⟩ : ∃ m, n = m + 1 := ⟨n - 1, by omega⟩
          rw [fo_, mu_c, show mu1_ pt 0 0 = 1 from if_pos h0]
          omega
        unfold mu_ at hmu
        omega
    subst hn0
    exact ⟨hP, hF, rfl, htk⟩
  | succ f ih =>
    intro pt tk hP hF hmu htk
    have hall := nxi_all (r := r) (n := n) (s := s) (pt := pt) hn
    rcases hnx : nxe_ r n s pt with _ | j
    · unfold kr_
      rw [hnx]
      exact ⟨hP, hF, hnx, htk⟩
    · have hj := hall.2 j hnx
      have hc := hj.2
      have ha : j / 12 < n := by have := hc.1; have := hc.2.1; omega
      have hb : j % 12 < n := hc.2.1
      have hpj : pa_ (j / 12) (j % 12) = j := by unfold pa_; rw [if_pos hc.1]; omega
      have hF1 := For_step hn hF ha hb (by have := hc.1; omega) hc.2.2.2
      rw [hpj] at hF1
      have ek : kr_ r n s (f + 1) (pt, tk) = kr_ r n s f (joi_ pt (j / 12) (j % 12), fun k => if k = j then true else tk k) := by
        rw [kr_]; dsimp only; rw [hnx]
      rw [ek]
      refine ih _ _ (joi_Pt hP ha hb) hF1 (by have := joi_mu hP ha hb hc.2.2.2; omega) (fun k hk => ?_)
      by_cases c : k = j
      · rw [c]; exact ⟨hc.2.2.1, hc.1, hc.2.1⟩
      · rw [if_neg c] at hk; exact htk k hk
theorem kr_all {r : Nat → Int32} {n s : Nat} (hn : n ≤ 12) : Pt_ n (prt_ r n s) ∧ For_ n (prt_ r n s) (tkn_ r n s) ∧ nxe_ r n s (prt_ r n s) = none ∧ (∀ k, tkn_ r n s k = true → ¬ ct_ r s k = 0 ∧ k / 12 < k % 12 ∧ k % 12 < n) :=
  kr_inv hn n id _ (fun k _ => ⟨Nat.le_refl _, rfl⟩) (For_0 n) (mu_n n 0) (fun k h => absurd h (by simp))
