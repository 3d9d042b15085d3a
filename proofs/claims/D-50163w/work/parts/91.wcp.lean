/-! walls are made and copied -/
theorem i_acI {cs : List Nat} {l : Lc_} {r : List Value} {t n dp sp b c n0 n1 : Nat} {f g : Nat → Int32} {σ : As_} (hc : σ.2.2 c = some (tI_ t n0 f)) (hb : σ.2.2 b = some (tI_ 0 n1 g)) (ht : t % 100 = 0) (h0 : sp + n ≤ n0) (h1 : dp + n ≤ n1) (hn0 : n0 < 2 ^ 31) (hn1 : n1 < 2 ^ 31) (hr : sl_ r = true) :
    I_acopy cs l (.int (nI n) :: .int (nI dp) :: .ref b :: .int (nI sp) :: .ref c :: r) σ = nx_ l r (σ.1, σ.2.1, up_ σ.2.2 b (tI_ 0 n1 (va_cpy f g sp dp n))) := by
  have e1 : (nI n).toNatClampNeg = n := nI_clamp (by omega)
  have e2 : (nI dp).toNatClampNeg = dp := nI_clamp (by omega)
  have e3 : (nI sp).toNatClampNeg = sp := nI_clamp (by omega)
  have p1 : ¬ nI n < 0 := nI_pos (by omega)
  have p2 : ¬ nI dp < 0 := nI_pos (by omega)
  have p3 : ¬ nI sp < 0 := nI_pos (by omega)
  unfold I_acopy
  dsimp only
  rw [if_neg (by rintro (h | h | h | h); · exact p1 h
                 · exact p2 h
                 · exact p3 h
                 · rw [hr] at h; cases h), hc, hb]
  dsimp only [tI_]
  rw [e1, e2, e3, if_pos ⟨by decide, by omega, h0, h1⟩]
/-- cells a wall is made of -/
def gd_ : Ac_ → Prop
  | .inl _ => True
  | .inr (k, _) => k = 1 ∨ k = 2 ∨ k = 3 ∨ k = 11 ∨ k % 100 = 16
theorem Str_kp {h h' : Nat → Option Ac_} {a : Nat} {bs : List Int32} (hk : ∀ y c, h y = some c → gd_ c → h' y = some c) (h1 : Str_ h a bs) : Str_ h' a bs := by
  obtain ⟨c, t, v, x, y, f, e1, e2, e3, e4⟩ := h1
  exact ⟨c, t, v, x, y, f, hk _ _ e1 (Or.inr (Or.inr (Or.inr (Or.inr e2)))), e2, hk _ _ e3 trivial, e4⟩
theorem MkC_kp {h h' : Nat → Option Ac_} {x k : Nat} {r : Nat → Int32} (hk : ∀ y c, h y = some c → gd_ c → h' y = some c) (h1 : MkC_ h x r k) : MkC_ h' x r k := by
  obtain ⟨nm, e1, e2⟩ := h1
  exact ⟨nm, hk _ _ e1 (Or.inr (Or.inl rfl)), Str_kp hk e2⟩
theorem SgC_kp {h h' : Nat → Option Ac_} {x k : Nat} {r : Nat → Int32} (hk : ∀ y c, h y = some c → gd_ c → h' y = some c) (h1 : SgC_ h x r k) : SgC_ h' x r k := hk _ _ h1 (Or.inr (Or.inr (Or.inl rfl)))
theorem Ls_kp {E : En_} {h h' : Nat → Option Ac_} {a e : Nat} {mc : Int32} {xs : List Nat} (hL : Ls_ E h a mc e xs) (ha : ∀ c, h a = some c → h' a = some c) (he : ∀ c, h e = some c → h' e = some c) (hx : ∀ x ∈ xs, Ob_ h' x) : Ls_ E h' a mc e xs := by
  obtain ⟨cap, f, tt, h1, h2, h3, h4, h5, h6, h7, h8⟩ := hL
  exact ⟨cap, f, tt, ha _ h1, he _ h2, h3, h4, h5, h6, hx, h8⟩
theorem MkC_Ob {h : Nat → Option Ac_} {x k : Nat} {r : Nat → Int32} (h1 : MkC_ h x r k) : Ob_ h x := by
  obtain ⟨nm, e1, e2⟩ := h1
  exact ⟨_, _, e1, by decide⟩
theorem SgC_Ob {h : Nat → Option Ac_} {x k : Nat} {r : Nat → Int32} (h1 : SgC_ h x r k) : Ob_ h x := ⟨_, _, h1, by decide⟩
theorem all_i {P : Nat → Prop} {xs : List Nat} (h : ∀ (k : Nat) (x : Nat), xs[k]? = some x → P x) : ∀ x ∈ xs, P x := fun x hx => by
  obtain ⟨k, hk, e⟩ := List.getElem_of_mem hx
  exact h k x (by rw [List.getElem?_eq_getElem hk, e])
theorem WlA_kp {E : En_} {h h' : Nat → Option Ac_} {w am em as es st : Nat} {mc mc' : Int32} {r : Nat → Int32} {ms ss : List Nat} (hk : ∀ y c, h y = some c → gd_ c → h' y = some c) (h1 : WlA_ E h w r am em as es st mc mc' ms ss) : WlA_ E h' w r am em as es st mc mc' ms ss := by
  obtain ⟨a1, a2, a3, ⟨g, a4, a5⟩, a6, a7, a8⟩ := h1
  have l1 := a2
  have l2 := a3
  obtain ⟨_, _, _, b1, b2, _⟩ := l1
  obtain ⟨_, _, _, b3, b4, _⟩ := l2
  have m6 : ∀ k x, ms[k]? = some x → MkC_ h' x r k := fun k x hx => MkC_kp hk (a6 k x hx)
  have m7 : ∀ k x, ss[k]? = some x → SgC_ h' x r k := fun k x hx => SgC_kp hk (a7 k x hx)
  exact ⟨hk _ _ a1 (Or.inl rfl), Ls_kp a2 (fun c hc => by rw [b1] at hc; cases hc; exact hk _ _ b1 (Or.inr (Or.inr (Or.inr (Or.inl rfl))))) (fun c hc => by rw [b2] at hc; cases hc; exact hk _ _ b2 trivial) (all_i fun k x hx => MkC_Ob (m6 k x hx)),
    Ls_kp a3 (fun c hc => by rw [b3] at hc; cases hc; exact hk _ _ b3 (Or.inr (Or.inr (Or.inr (Or.inl rfl))))) (fun c hc => by rw [b4] at hc; cases hc; exact hk _ _ b4 trivial) (all_i fun k x hx => SgC_Ob (m7 k x hx)),
    ⟨g, hk _ _ a4 trivial, a5⟩, m6, m7, a8⟩
/-- a wall that is younger than h0 -/
def WY_ (E : En_) (h0 : Nat → Option Ac_) (σ : As_) (w : Nat) (r : Nat → Int32) (am em as es st : Nat) (mc mc' : Int32) (ms ss : List Nat) : Prop :=
  WlA_ E σ.2.2 w r am em as es st mc mc' ms ss ∧ le_ h0 σ.2.2 ∧ Hw_ σ ∧ h0 w = none ∧ h0 am = none ∧ h0 as = none ∧ h0 st = none ∧ (h0 em = none ∨ E.2.2.2.1 7 = .ref em) ∧ (h0 es = none ∨ E.2.2.2.1 7 = .ref es) ∧ (∀ x ∈ ms, h0 x = none) ∧ (∀ x ∈ ss, h0 x = none)
section WCP
variable {E : En_} {σ : As_} {w am em as es st : Nat} {mc mc' : Int32} {r : Nat → Int32} {ms ss : List Nat} {h0 : Nat → Option Ac_}
theorem WY_fr {σ' : As_} {c : Nat} (h : WY_ E h0 σ w r am em as es st mc mc' ms ss) (hf : Fr_ c σ σ') : WY_ E h0 σ' w r am em as es st mc mc' ms ss := by
  obtain ⟨h1, h2, h3, h4⟩ := h
  exact ⟨WlA_mono hf.1 h1, le_trans h2 hf.1, hf.2.2.2.2, h4⟩
theorem WY_kp {σ' : As_} (h : WY_ E h0 σ w r am em as es st mc mc' ms ss) (hk : ∀ y c, σ.2.2 y = some c → gd_ c → σ'.2.2 y = some c) (hl : le_ h0 σ'.2.2) (hw : Hw_ σ') : WY_ E h0 σ' w r am em as es st mc mc' ms ss := by
  obtain ⟨h1, h2, h3, h4⟩ := h
  exact ⟨WlA_kp hk h1, hl, hw, h4⟩
theorem WY_h0 {h1 : Nat → Option Ac_} (h : WY_ E h0 σ w r am em as es st mc mc' ms ss) (hl : le_ h1 h0) : WY_ E h1 σ w r am em as es st mc mc' ms ss := by
  have hn : ∀ {x}, h0 x = none → h1 x = none := fun {x} q => by
    cases e : h1 x with
    | none => rfl
    | some c => rw [hl _ _ e] at q; cases q
  obtain ⟨a1, a2, a3, a4, a5, a6, a7, a8, a9, b1, b2⟩ := h
  exact ⟨a1, le_trans hl a2, a3, hn a4, hn a5, hn a6, hn a7, a8.imp hn id, a9.imp hn id, fun x hx => hn (b1 x hx), fun x hx => hn (b2 x hx)⟩
/-- a mark more -/
theorem WY_addM {x : Nat} (hd : E7_ E h0) (h : WY_ E h0 σ w r am em as es st mc mc' ms ss) (hx : MkC_ σ.2.2 x r ms.length) (hx0 : h0 x = none) (hxm : x ∉ ms) (hl : ms.length < 400) :
    ∃ σ' em', D_ E 31 [.ref am, .ref x] σ = some (.inl (some (.int (nI 1))), σ') ∧ WY_ E h0 σ' w r am em' as es st (mc + nI 1) mc' (ms ++ [x]) ss ∧ Szt_ 0 ms.length (ms.length + 1) σ σ' ∧ Ay_ σ σ' am := by
  obtain ⟨hA, h2, h3, h4, h5, h6, h7, h8, h9, h10, h11⟩ := h
  obtain ⟨a1, a2, a3, ⟨g, a4, a5⟩, a6, a7, a8, a9, a10, a11⟩ := id hA
  obtain ⟨cap, f, tt, b1, b2, _⟩ := id a2
  obtain ⟨cap', f', tt', b3, b4, _⟩ := id a3
  obtain ⟨nm, x1, x2⟩ := id hx
  have hne : ∀ {y k fs}, σ.2.2 y = some (.inr (k, fs)) → k ≠ 11 → y ≠ am := fun {y k fs} hy hk q => by rw [q, b1] at hy; cases hy; exact hk rfl
  obtain ⟨σ', e', g1, g2, g3, g4, g5⟩ := J_add (E := E) (σ := σ) (v := x) (E7_mono h2 hd) a2 h3 hl (MkC_Ob hx) (hne x1 (by decide)) (all_i fun k y hy => by
    obtain ⟨nm', y1, _⟩ := a6 k y hy
    exact hne y1 (by decide))
  have hkp : ∀ {y c}, σ.2.2 y = some c → y ≠ am → (y ≠ em ∨ E.2.2.2.1 7 = .ref em) → σ'.2.2 y = some c := fun {y c} => g3.2.2.2 y c
  have hkr : ∀ {y k fs}, σ.2.2 y = some (.inr (k, fs)) → y ≠ am → σ'.2.2 y = some (.inr (k, fs)) := fun {y k fs} hy hya => hkp hy hya (Or.inl fun q => by rw [q, b2] at hy; cases hy)
  have hstr : ∀ {a bs}, Str_ σ.2.2 a bs → Str_ σ'.2.2 a bs := fun {a bs} hs => by
    obtain ⟨c, t, v, x, y, f2, e1, e2, e3, e4, e5⟩ := hs
    refine ⟨c, t, v, x, y, f2, hkr e1 (hne e1 (by omega)), e2, hkp e3 (fun q => by rw [q, b1] at e3; cases e3) (Or.inl fun q => by rw [q, b2] at e3; cases e3), e4, e5⟩
  have hmk : ∀ {y k}, MkC_ σ.2.2 y r k → MkC_ σ'.2.2 y r k := fun {y k} hy => by
    obtain ⟨nm', y1, y2⟩ := hy
    exact ⟨nm', hkr y1 (hne y1 (by decide)), hstr y2⟩
  have hsg : ∀ {y k}, SgC_ σ.2.2 y r k → SgC_ σ'.2.2 y r k := fun {y k} hy => hkr hy (hne hy (by decide))
  have hesam : es ≠ am := fun q => by rw [q, b1] at b4; cases b4
  have hes : es ≠ em ∨ E.2.2.2.1 7 = .ref em := by
    by_cases q : em = es
    · exact Or.inr (a11 q)
    · exact Or.inl fun q2 => q q2.symm
  have hst : σ'.2.2 st = some (tI_ 0 4 g) := hkp a4 (fun q => by rw [q, b1] at a4; cases a4) (Or.inl fun q => by rw [q, b2] at a4; cases a4)
  refine ⟨σ', e', g1, ⟨⟨hkr a1 (hne a1 (by decide)), g2, Ls_kp a3 (fun c hc => by rw [b3] at hc; cases hc; exact hkr b3 (fun q => a10 q.symm)) (fun c hc => hkp hc hesam hes) (all_i fun k y hy => SgC_Ob (hsg (a7 k y hy))), ⟨g, hst, a5⟩, ?_, fun k y hy => hsg (a7 k y hy), ?_, a9, a10, ?_⟩, Ax_le g3 h2 h5 h8, g3.1, h4, h5, h6, h7, ?_, h9, ?_, h11⟩, ⟨g3.2.1, g4, g5⟩, Ax_Ay a2 g3⟩
  · intro k y hy
    rcases Nat.lt_or_ge k ms.length with q | q
    · rw [List.getElem?_append_left q] at hy
      exact hmk (a6 k y hy)
    · rw [List.getElem?_append_right q] at hy
      have : k - ms.length = 0 := by
        cases e : k - ms.length with
        | zero => rfl
        | succ j => rw [e] at hy; simp at hy
      rw [this] at hy
      cases hy
      rw [show k = ms.length by omega]
      exact hmk hx
  · rw [List.nodup_append]
    exact ⟨a8, by simp, fun u hu v hv e => by
      rw [List.mem_singleton.mp hv] at e
      exact hxm (e ▸ hu)⟩
  · intro q
    rcases g3.2.2.1 with e | e
    · rw [e]
      rw [e] at q
      exact a11 q
    · exfalso
      have := Hw_lt h3 b4
      omega
  · rcases g3.2.2.1 with e | e
    · rw [e]; exact h8
    · refine Or.inl ?_
      cases q : h0 e' with
      | none => rfl
      | some c =>
        have := Hw_lt h3 (h2 _ _ q)
        omega
  · intro y hy
    rcases List.mem_append.mp hy with q | q
    · exact h10 y q
    · rw [List.mem_singleton.mp q]; exact hx0
/-- a sight more -/
theorem WY_addG {x : Nat} (hd : E7_ E h0) (h : WY_ E h0 σ w r am em as es st mc mc' ms ss) (hx : SgC_ σ.2.2 x r ss.length) (hx0 : h0 x = none) (hxm : x ∉ ss) (hl : ss.length < 400) :
    ∃ σ' es', D_ E 31 [.ref as, .ref x] σ = some (.inl (some (.int (nI 1))), σ') ∧ WY_ E h0 σ' w r am em as es' st mc (mc' + nI 1) ms (ss ++ [x]) ∧ Szt_ 0 ss.length (ss.length + 1) σ σ' ∧ Ay_ σ σ' as := by
  obtain ⟨hA, h2, h3, h4, h5, h6, h7, h8, h9, h10, h11⟩ := h
  obtain ⟨a1, a2, a3, ⟨g, a4, a5⟩, a6, a7, a8, a9, a10, a11⟩ := id hA
  obtain ⟨cap, f, tt, b1, b2, _⟩ := id a2
  obtain ⟨cap', f', tt', b3, b4, _⟩ := id a3
  have x1 : σ.2.2 x = some (.inr (3, _)) := hx
  have hne : ∀ {y k fs}, σ.2.2 y = some (.inr (k, fs)) → k ≠ 11 → y ≠ as := fun {y k fs} hy hk q => by rw [q, b3] at hy; cases hy; exact hk rfl
  obtain ⟨σ', e', g1, g2, g3, g4, g5⟩ := J_add (E := E) (σ := σ) (v := x) (E7_mono h2 hd) a3 h3 hl (SgC_Ob hx) (hne x1 (by decide)) (all_i fun k y hy => hne (a7 k y hy) (by decide))
  have hkp : ∀ {y c}, σ.2.2 y = some c → y ≠ as → (y ≠ es ∨ E.2.2.2.1 7 = .ref es) → σ'.2.2 y = some c := fun {y c} => g3.2.2.2 y c
  have hkr : ∀ {y k fs}, σ.2.2 y = some (.inr (k, fs)) → y ≠ as → σ'.2.2 y = some (.inr (k, fs)) := fun {y k fs} hy hya => hkp hy hya (Or.inl fun q => by rw [q, b4] at hy; cases hy)
  have hstr : ∀ {a bs}, Str_ σ.2.2 a bs → Str_ σ'.2.2 a bs := fun {a bs} hs => by
    obtain ⟨c, t, v, x, y, f2, e1, e2, e3, e4, e5⟩ := hs
    refine ⟨c, t, v, x, y, f2, hkr e1 (hne e1 (by omega)), e2, hkp e3 (fun q => by rw [q, b3] at e3; cases e3) (Or.inl fun q => by rw [q, b4] at e3; cases e3), e4, e5⟩
  have hmk : ∀ {y k}, MkC_ σ.2.2 y r k → MkC_ σ'.2.2 y r k := fun {y k} hy => by
    obtain ⟨nm', y1, y2⟩ := hy
    exact ⟨nm', hkr y1 (hne y1 (by decide)), hstr y2⟩
  have hsg : ∀ {y k}, SgC_ σ.2.2 y r k → SgC_ σ'.2.2 y r k := fun {y k} hy => hkr hy (hne hy (by decide))
  have hemas : em ≠ as := fun q => by rw [q, b3] at b2; cases b2
  have hem : em ≠ es ∨ E.2.2.2.1 7 = .ref es := by
    by_cases q : em = es
    · exact Or.inr (q ▸ a11 q)
    · exact Or.inl q
  have hst : σ'.2.2 st = some (tI_ 0 4 g) := hkp a4 (fun q => by rw [q, b3] at a4; cases a4) (Or.inl fun q => by rw [q, b4] at a4; cases a4)
  refine ⟨σ', e', g1, ⟨⟨hkr a1 (hne a1 (by decide)), Ls_kp a2 (fun c hc => by rw [b1] at hc; cases hc; exact hkr b1 a10) (fun c hc => hkp hc hemas hem) (all_i fun k y hy => MkC_Ob (hmk (a6 k y hy))), g2, ⟨g, hst, a5⟩, fun k y hy => hmk (a6 k y hy), ?_, a8, ?_, a10, ?_⟩, Ax_le g3 h2 h6 h9, g3.1, h4, h5, h6, h7, h8, ?_, h10, ?_⟩, ⟨g3.2.1, g4, g5⟩, Ax_Ay a3 g3⟩
  · intro k y hy
    rcases Nat.lt_or_ge k ss.length with q | q
    · rw [List.getElem?_append_left q] at hy
      exact hsg (a7 k y hy)
    · rw [List.getElem?_append_right q] at hy
      have : k - ss.length = 0 := by
        cases e : k - ss.length with
        | zero => rfl
        | succ j => rw [e] at hy; simp at hy
      rw [this] at hy
      cases hy
      rw [show k = ss.length by omega]
      exact hsg hx
  · rw [List.nodup_append]
    exact ⟨a9, by simp, fun u hu v hv e => by
      rw [List.mem_singleton.mp hv] at e
      exact hxm (e ▸ hu)⟩
  · intro q
    rcases g3.2.2.1 with e | e
    · exact a11 (q.trans e)
    · exfalso
      have := Hw_lt h3 b2
      omega
  · rcases g3.2.2.1 with e | e
    · rw [e]; exact h9
    · refine Or.inl ?_
      cases q : h0 e' with
      | none => rfl
      | some c =>
        have := Hw_lt h3 (h2 _ _ q)
        omega
  · intro y hy
    rcases List.mem_append.mp hy with q | q
    · exact h11 y q
    · rw [List.mem_singleton.mp q]; exact hx0
end WCP
