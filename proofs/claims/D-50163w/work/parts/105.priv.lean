/-! private methods of a superclass, through invokevirtual -/
theorem sel_priv {args : Array Value} {s : State} {C : String} {y : MethodName} (h1 : (Cond.initialized C).before args s = true) (h2 : (Cond.sameMethod y.cls y.cls y.name y.desc).before args s = true) (h3 : (Cond.privateMethod y).before args s = true) : (Cond.selects C y y).before args s = true := by
  simp only [Cond.before, Cond.holds, Cond.value] at h1 h2 h3 ⊢
  cases hc : s.vm.findClass C with
  | none => simp [hc] at h1
  | some c =>
    cases hr : s.vm.findClass y.cls with
    | none => simp [hr] at h2
    | some c2 =>
      cases hf : s.methodFound? y.cls y.name y.desc with
      | none => simp [hr, hf] at h2
      | some r =>
        cases hm : s.methodNamed? y with
        | none => simp [hm] at h3
        | some m =>
          have hy : (⟨y.cls, y.name, y.desc⟩ : MethodName) = y := rfl
          simp only [hr, hf, hy, hm] at h2
          have hfc := findClass_of_methodNamed hm
          rw [hr] at hfc
          cases hme : s.vm.method? m with
          | none => simp [hm, hme] at h3
          | some meth =>
            simp [hm, hme] at h3
            simp at h2
            obtain ⟨h2a, h2b⟩ := h2
            subst h2a
            have hs := selectMethod_private (p := {}) (c := c) hme h3
            simp only [hs]
            cases hfc
            simp
            exact h2b
theorem lw_P {own C : String} {idx L : Nat} {y : MethodName} {b : ByteArray} {r : Option FieldType} (h1 : Cond.methodLink own idx y ∈ lw_all) (h2 : Cond.sameMethod y.cls y.cls y.name y.desc ∈ lw_all) (h4 : Cond.instanceMethod y ∈ lw_all) (h5 : Cond.initialized y.cls ∈ lw_all) (h6 : Cond.code y b L r ∈ lw_all) : GoodIn (Cond.selects C y y :: lw_all) (va_wsU own idx C y.cls y y (ws_ y b L r)) := by
  intro w hw
  have hg : ∀ w ∈ lw_all, w ∈ Cond.selects C y y :: lw_all ∧ ((w.onTables && w.keeps) = true ∨ ∃ ty, w = Cond.arrayClass ty) := fun w h => ⟨List.mem_cons_of_mem _ h, (lw_self w h).2⟩
  rcases List.mem_append.mp hw with h | h
  · simp only [List.mem_cons, List.not_mem_nil, or_false] at h
    rcases h with e | e | e | e | e
    · rw [e]; exact hg _ h1
    · rw [e]; exact hg _ h2
    · rw [e]; exact ⟨List.mem_cons_self, Or.inl rfl⟩
    · rw [e]; exact hg _ h4
    · rw [e]; exact hg _ h5
  · exact ⟨List.mem_cons_of_mem _ (lw_meth h6 w h).1, (lw_meth h6 w h).2⟩
section HCP
variable {E : En_} {MT : Nat → Mi_} {M : Mi_} {bp : Nat → Nat} {pc : Nat}
theorem so_callP {idx n npc : Nat} {tb : List (Nat × Nat)} {ts : List Nat} {hs : Hs_} {q : vw_C} {ci k0 : Nat} (htb : tb = [(ci, k0)]) (hq0 : cl_[ci]? = some q) (hcf : cf_ M (MT k0) n ts) (h1w : Cond.methodLink M.1.cls idx (MT k0).1 ∈ lw_all) (h6w : Cond.sameMethod (MT k0).1.cls (MT k0).1.cls (MT k0).1.name (MT k0).1.desc ∈ lw_all) (h2w : Cond.instanceMethod (MT k0).1 ∈ lw_all) (hpw : Cond.privateMethod (MT k0).1 ∈ lw_tbl) (h7w : Cond.initialized q.1 ∈ lw_all) (h5w : Cond.initialized (MT k0).1.cls ∈ lw_all) (h4w : Cond.code (MT k0).1 (MT k0).2.1 (MT k0).2.2.1 (MT k0).2.2.2.1 ∈ lw_all) (hhh : (MT k0).2.2.2.2.1 = []) (hd : decode M.2.1 pc = .ok (.invokevirtual idx, 3)) (hn : ts.length = n + 1) (hho : Ho_ E.2.2.1 (GF_ E) cnm_ M bp pc hs) (hnp : npc = pc + 3) : SoE_ E MT M bp pc npc (I_callv tb ts hs) := by
  subst hnp
  intro p l e R s m args below meth c hC lc st σ ls H locs cells slots hl hR hS
  unfold I_callv
  have hG := hC.2.2.2.2.2.2.2.2.2.2.1
  have hts := hC.2.2.2.2.2.2.1
  have hf := hC.2.2.2.2.2.2.2.2.2.2.2.1
  have hlo := hC.2.2.2.2.2.2.2.2.2.2.2.2.1
  split
  · next b as r hpk =>
    split
    · next o ho =>
      split
      · next k hk =>
        split
        · next hsl =>
          have hsl := sl_le hsl
          subst htb
          obtain ⟨rfl, rfl⟩ : o.1 % 100 = ci ∧ k = k0 := by
            rw [la_, la_] at hk
            split at hk
            · next e => cases hk; exact ⟨e, rfl⟩
            · cases hk
          have hq := hq0
          obtain ⟨q1, q2, q3, q4, q5, q6⟩ := hcf
          obtain ⟨cellB, b1, b2, b3⟩ := recv_ hG hR ho hq
          obtain ⟨ps, e1, e2, e3, e4⟩ := pk_spec _ _ _ _ _ hpk
          rw [List.append_nil] at e1
          subst e1
          refine ⟨q1, by rw [e4]; exact q2, hho, fun res g1 g2 hM Q h1 h2 hk hx => ?_⟩
          have hM := hM l hC.2.2.2.2.2.2.2.1
          have e2 : st = as.reverse ++ .ref b :: r := by rw [e2]; simp
          subst e2
          have e3 : as.length = n := by rw [hn] at e3; simpa using e3
          have hts' : ∀ w ∈ Cond.selects q.1 (MT k).1 (MT k).1 :: lw_all, w.before args s = true := fun w hw => by
            rcases List.mem_cons.mp hw with e | e
            · rw [e]; exact sel_priv (hts _ h7w) (hts _ h6w) (va_Nw.use (nw_tabs rfl) (hG.2.2.1 _ hpw rfl))
            · exact hts w e
          have hPV : PreV s H q.1 b (va_Pc (.ref b :: as) (Rg2_ E.1 cl_ E.2.1 E.2.2.1 (GF_ E) σ)) as := ⟨fb_, ⟨cellB, b1, by rw [b2]; rfl, b3⟩, pre_ hG hR hS⟩
          exact done_ (as := (Value.ref b :: as).toArray) (vx_runU (As := as) (rest := r) ⟨hC.1, hC.2.1, hC.2.2.2.2.1, hC.2.2.2.2.2.1, hts⟩ hM (va_cwU (C := q.1) (owner := (MT k).1.cls) (x := (MT k).1) (Ts := Cond.selects q.1 (MT k).1 (MT k).1 :: lw_all) n hts' (by unfold wsM_; rw [hhh]; exact lw_P h1w h6w h2w h5w h4w) (by unfold wsM_; rw [hhh]) rfl rfl rfl ⟨q5, q6, q4⟩ ⟨by show (MT k).2.2.2.2.2 + 1 ≤ R.frames; omega, by show 8 + ((MT k).2.2.1 + 11) + 64 * (MT k).2.2.2.2.2 ≤ R.locals; omega⟩) hPV rfl (e3) hl.1 rfl (lv_room hsl) hd ⟨h1, h2⟩) hS hk hx
        · exact True.intro
      · exact True.intro
    · exact True.intro
  · exact True.intro
theorem sc_P {M' : Mi_} {idx n npc : Nat} {tb : List (Nat × Nat)} {ts : List Nat} {hs : Hs_} {q : vw_C} {ci k0 : Nat} (hk : MT k0 = M') (htb : tb = [(ci, k0)]) (hq0 : cl_[ci]? = some q) (hcf : cf_ M M' n ts) (h1w : Cond.methodLink M.1.cls idx M'.1 ∈ lw_all) (h6w : Cond.sameMethod M'.1.cls M'.1.cls M'.1.name M'.1.desc ∈ lw_all) (h2w : Cond.instanceMethod M'.1 ∈ lw_all) (hpw : Cond.privateMethod M'.1 ∈ lw_tbl) (h7w : Cond.initialized q.1 ∈ lw_all) (h5w : Cond.initialized M'.1.cls ∈ lw_all) (h4w : Cond.code M'.1 M'.2.1 M'.2.2.1 M'.2.2.2.1 ∈ lw_all) (hhh : M'.2.2.2.2.1 = []) (hd : decode M.2.1 pc = .ok (.invokevirtual idx, 3)) (hn : ts.length = n + 1) (hho : Ho_ E.2.2.1 (GF_ E) cnm_ M bp pc hs) (hnp : npc = pc + 3) : SoE_ E MT M bp pc npc (I_callv tb ts hs) := by
  subst hk
  exact so_callP htb hq0 hcf h1w h6w h2w hpw h7w h5w h4w hhh hd hn hho hnp
end HCP
