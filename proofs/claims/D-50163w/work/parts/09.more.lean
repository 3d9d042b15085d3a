/-! statics, constants, casts, natives, exceptions -/
/-- few enough values below a call -/
def sl_ : List Value → Bool
  | [] => true
  | [_] => true
  | [_, _] => true
  | [_, _, _] => true
  | [_, _, _, _] => true
  | r => decide ((r.map fun v => v.category).sum ≤ 8)
theorem cat_le (v : Value) : v.category ≤ 2 := by cases v <;> simp [Value.category]
theorem sl_le {r : List Value} (h : sl_ r = true) : (r.map fun v => v.category).sum ≤ 8 := by
  unfold sl_ at h
  split at h
  · decide
  · next a => have := cat_le a; simp; omega
  · next a b => have := cat_le a; have := cat_le b; simp; omega
  · next a b c => have := cat_le a; have := cat_le b; have := cat_le c; simp; omega
  · next a b c d => have := cat_le a; have := cat_le b; have := cat_le c; have := cat_le d; simp; omega
  · exact of_decide_eq_true h
section HM
variable {E : En_} {MT : Nat → Mi_} {M : Mi_} {bp : Nat → Nat} {pc : Nat}
def I_val (v : Value) : Ii_ := fun l st σ => nx_ l (v :: st) σ
theorem mn_val (v : Value) : Mn_ (I_val v) := fun _ _ _ => ⟨Nat.le_refl _, Nat.le_refl _⟩
theorem so_gets {idx k : Nat} {q : String × String × String} (hk : stA_[k]? = some q) (hw : Cond.fieldLink M.1.cls idx q.1 q.2.1 q.2.2 ∈ lw_all) (hd : decode M.2.1 pc = .ok (.getstatic idx, 3)) : SoE_ E MT M bp pc (pc + 3) (I_val (E.2.2.2.1 k)) := by
  intro p l e R s m args below meth c hC lc st σ ls H locs cells slots hl hR hS
  intro Q _ _ kk
  exact va_gets hC.1 hC.2.1 (hC.2.2.2.2.2.2.2.2.2.2.1.2.2.2.2.1 k q hk) hS hC.2.2.2.2.2.1 (hC.2.2.2.2.2.2.1 _ hw) (fun _ h => h) hd (sk_ (kk ls H locs hl hR hS))
theorem so_getsN {idx k : Nat} {q : String × String × String} {host : String} (hk : stA_[k]? = some q) (hw : Cond.fieldLinkNest M.1.cls idx q.1 q.2.1 q.2.2 host ∈ lw_tbl) (hd : decode M.2.1 pc = .ok (.getstatic idx, 3)) : SoE_ E MT M bp pc (pc + 3) (I_val (E.2.2.2.1 k)) := by
  intro p l e R s m args below meth c hC lc st σ ls H locs cells slots hl hR hS
  intro Q _ _ kk
  exact va_getsN hC.1 hC.2.1 (hC.2.2.2.2.2.2.2.2.2.2.1.2.2.2.2.1 k q hk) hS hC.2.2.2.2.2.1 (va_Nw.use (nw_tabs rfl) (hC.2.2.2.2.2.2.2.2.2.2.1.2.2.1 _ hw rfl)) (fun _ h => h) hd (sk_ (kk ls H locs hl hR hS))
theorem so_ldcs {idx k : Nat} {q : String × Nat × String} (hk : strA_[k]? = some q) (hq : q.1 = M.1.cls ∧ q.2.1 = idx) (hd : decode M.2.1 pc = .ok (.ldc idx, 2)) : SoE_ E MT M bp pc (pc + 2) (I_val (.ref (E.2.2.2.2.1 k))) := by
  intro p l e R s m args below meth c hC lc st σ ls H locs cells slots hl hR hS
  intro Q _ _ kk
  have hZ := hC.2.2.2.2.2.2.2.2.2.2.1.2.2.2.2.2.1 k q hk
  rw [hq.1, hq.2] at hZ
  exact va_ldcS hC.1 hC.2.1 hC.2.2.2.2.2.1 hZ hd (sk_ (kk ls H locs hl hR hS))
theorem so_ldcsW {idx k : Nat} {q : String × Nat × String} (hk : strA_[k]? = some q) (hq : q.1 = M.1.cls ∧ q.2.1 = idx) (hd : decode M.2.1 pc = .ok (.ldc_w idx, 3)) : SoE_ E MT M bp pc (pc + 3) (I_val (.ref (E.2.2.2.2.1 k))) := by
  intro p l e R s m args below meth c hC lc st σ ls H locs cells slots hl hR hS
  intro Q _ _ kk
  have hZ := hC.2.2.2.2.2.2.2.2.2.2.1.2.2.2.2.2.1 k q hk
  rw [hq.1, hq.2] at hZ
  intro T hT X
  obtain ⟨t, a1, b1⟩ := sk_ (kk ls H locs hl hR hS) T hT X
  exact ⟨t, X.ldcStringW hC.1 hC.2.2.2.2.2.1 (text := q.2.2) (a := E.2.2.2.2.1 k) hZ.1 hZ.2 (g := F0 m pc ls st) rfl (by rw [hC.2.1]; exact hd) t a1, b1⟩
theorem so_ldcM {idx : Nat} (hw : Cond.classLink M.1.cls idx "[Ljava/lang/Object;" ∈ lw_all) (hd : decode M.2.1 pc = .ok (.ldc idx, 2)) : SoE_ E MT M bp pc (pc + 2) (I_val (.ref E.2.2.2.2.2)) := by
  intro p l e R s m args below meth c hC lc st σ ls H locs cells slots hl hR hS
  intro Q _ _ kk
  exact va_ldcM hC.1 hC.2.1 hC.2.2.2.2.2.1 (hC.2.2.2.2.2.2.1 _ hw) hC.2.2.2.2.2.2.2.2.2.2.1.2.2.2.2.2.2.2.2.1 hd (sk_ (kk ls H locs hl hR hS))
/-- checkcast: null; objects of the classes cs; arrays of the types as -/
def I_cast (cs as : List Nat) : Ii_ := fun l st σ => match st with
  | .null :: r => nx_ l (.null :: r) σ
  | .ref a :: r => match σ.2.2 a with
    | some (.inr o) => if (o.1 % 100) ∈ cs then nx_ l (.ref a :: r) σ else none
    | some (.inl x) => if (x.1 % 100) ∈ as then nx_ l (.ref a :: r) σ else none
    | none => none
  | _ => none
theorem mn_cast (cs as : List Nat) : Mn_ (I_cast cs as) := by
  intro lc st σ
  unfold I_cast
  repeat' split
  all_goals first | exact True.intro | exact ⟨Nat.le_refl _, Nat.le_refl _⟩
theorem recv_ {s : State} {H : Heap} {σ : As_} {a : Nat} {o : Nat × List Value} {q : vw_C} (hG : GF_ E s) (hR : Rp_ E.1 cl_ E.2.1 E.2.2.1 σ H) (ha : σ.2.2 a = some (.inr o)) (hq : cl_[o.1 % 100]? = some q) : ∃ cell : Cell, H[a]? = some cell ∧ cell.vm = .none ∧ s.vm.findClass q.1 = some cell.cls := by
  obtain ⟨⟨q', hq', cell, g1, g2, g3, -⟩, -, -⟩ := hR.2.2 a _ ha
  have hq' : cl_[o.1 % 100]? = some q' := hq'
  cases Option.some.inj (hq'.symm.trans hq)
  exact ⟨cell, g1, g3, by rw [g2]; exact (hG.1 _ _ hq).2.1⟩
theorem so_cast {cs as : List Nat} {idx : Nat} {nm : String} (hw : Cond.classLink M.1.cls idx nm ∈ lw_all) (hcs : ∀ ci ∈ cs, ∃ q, cl_[ci]? = some q ∧ (q.1 = nm ∨ Cond.castable q.1 nm ∈ lw_tbl)) (has : ∀ t ∈ as, t < 6 ∧ ∀ s : State, va_RA s (E.2.1 t) (tyA_ t) → s.vm.findClass nm = some (E.2.1 t)) (hd : decode M.2.1 pc = .ok (.checkcast idx, 3)) : SoE_ E MT M bp pc (pc + 3) (I_cast cs as) := by
  intro p l e R s m args below meth c hC lc st σ ls H locs cells slots hl hR hS
  unfold I_cast
  have hG := hC.2.2.2.2.2.2.2.2.2.2.1
  split
  · intro Q _ _ kk
    exact lv_castN hC.1 hC.2.1 hd (sk_ (kk ls H locs hl hR hS))
  · next a r =>
    split
    · next o ho =>
      split
      · next hm =>
        intro Q _ _ kk
        obtain ⟨q, hq, hcase⟩ := hcs _ hm
        obtain ⟨cell, g1, g2, g3⟩ := recv_ hG hR ho hq
        rcases hcase with rfl | hcase
        · exact va_castE hC.1 hC.2.1 hC.2.2.2.2.2.1 (hC.2.2.2.2.2.2.1 _ hw) ⟨cell, g1, by rw [g2]; rfl, g3⟩ hd (sk_ (kk ls H locs hl hR hS))
        · exact va_castY hC.1 hC.2.1 hC.2.2.2.2.2.1 (hC.2.2.2.2.2.2.1 _ hw) (hG.2.2.1 _ hcase rfl) ⟨cell, g1, by rw [g2]; rfl, g3⟩ hd (sk_ (kk ls H locs hl hR hS))
      · exact True.intro
    · next x hx =>
      split
      · next hm =>
        intro Q _ _ kk
        obtain ⟨t, x⟩ := x
        obtain ⟨h1, h2⟩ := has _ hm
        have hat := (hR.2.2 a _ hx).1
        exact va_castA (ws := [(a, .inl (E.2.1 (t % 100), x))]) (D := E.1) (cl := cl_) hC.1 hC.2.1 hC.2.2.2.2.2.1 (hC.2.2.2.2.2.2.1 _ hw) (fun k q hk => by
          have hz : k < 1 := (List.getElem?_eq_some_iff.mp hk).1
          rw [show k = 0 by omega] at hk
          cases hk
          exact hat) 0 rfl (h2 s (hG.2.1 _ h1).2) hd (sk_ (kk ls H locs hl hR hS))
      · exact True.intro
    · exact True.intro
  · exact True.intro
def I_inst (cs : List Nat) : Ii_ := fun l st σ => match st with
  | .null :: r => nx_ l (.int 0 :: r) σ
  | .ref a :: r => match σ.2.2 a with
    | some (.inr o) => if (o.1 % 100) ∈ cs then nx_ l (.int 1 :: r) σ else none
    | _ => none
  | _ => none
theorem mn_inst (cs : List Nat) : Mn_ (I_inst cs) := by
  intro lc st σ
  unfold I_inst
  repeat' split
  all_goals first | exact True.intro | exact ⟨Nat.le_refl _, Nat.le_refl _⟩
theorem so_inst {cs : List Nat} {idx : Nat} {nm : String} (hw : Cond.classLink M.1.cls idx nm ∈ lw_all) (hcs : ∀ ci ∈ cs, ∃ q, cl_[ci]? = some q ∧ (q.1 = nm ∨ Cond.castable q.1 nm ∈ lw_tbl)) (hd : decode M.2.1 pc = .ok (.instanceof idx, 3)) : SoE_ E MT M bp pc (pc + 3) (I_inst cs) := by
  intro p l e R s m args below meth c hC lc st σ ls H locs cells slots hl hR hS
  unfold I_inst
  have hG := hC.2.2.2.2.2.2.2.2.2.2.1
  split
  · intro Q _ _ kk
    exact lv_instN hC.1 hC.2.1 hd (sk_ (kk ls H locs hl hR hS))
  · next a r =>
    split
    · next o ho =>
      split
      · next hm =>
        intro Q _ _ kk
        obtain ⟨q, hq, hcase⟩ := hcs _ hm
        obtain ⟨cell, g1, g2, g3⟩ := recv_ hG hR ho hq
        rcases hcase with rfl | hcase
        · exact va_instE hC.1 hC.2.1 hC.2.2.2.2.2.1 (hC.2.2.2.2.2.2.1 _ hw) ⟨cell, g1, by rw [g2]; rfl, g3⟩ hd (sk_ (kk ls H locs hl hR hS))
        · exact va_instY hC.1 hC.2.1 hC.2.2.2.2.2.1 (hC.2.2.2.2.2.2.1 _ hw) (hG.2.2.1 _ hcase rfl) ⟨cell, g1, by rw [g2]; rfl, g3⟩ hd (sk_ (kk ls H locs hl hR hS))
      · exact True.intro
    · exact True.intro
  · exact True.intro
/-- Object.<init> -/
def I_obj : Ii_ := fun l st σ => match st with
  | .ref _ :: r => if sl_ r = true then nx_ l r σ else none
  | _ => none
theorem mn_obj : Mn_ I_obj := by
  intro lc st σ
  unfold I_obj
  repeat' split
  all_goals first | exact True.intro | exact ⟨Nat.le_refl _, Nat.le_refl _⟩
theorem so_obj {idx : Nat} (hht : 1 ≤ M.2.2.2.2.2) (h1 : Cond.methodLink M.1.cls idx Lib.objectInit ∈ lw_all) (h2 : Cond.instanceMethod Lib.objectInit ∈ lw_all) (h3 : Cond.code Lib.objectInit ⟨#[0xb1]⟩ 1 none ∈ lw_all) (hd : decode M.2.1 pc = .ok (.invokespecial idx, 3)) : SoE_ E MT M bp pc (pc + 3) I_obj := by
  intro p l e R s m args below meth c hC lc st σ ls H locs cells slots hl hR hS
  unfold I_obj
  have hts := hC.2.2.2.2.2.2.1
  have hf := hC.2.2.2.2.2.2.2.2.2.2.2.1
  have hlo := hC.2.2.2.2.2.2.2.2.2.2.2.2.1
  split
  · next a r =>
    split
    · next hsl =>
      have := sl_le hsl
      intro Q _ _ kk
      refine W.objInit hC.1 hC.2.1 hC.2.2.2.2.2.1 (hts _ h1) (hts _ h2) (hts _ h3) rfl (by rw [hC.2.2.2.2.1]; exact hl.1) rfl hd (by omega) ?_ ?_
      · show 2 * 0 + _ + 12 ≤ _
        omega
      · exact sk_ (kk ls H locs hl hR hS)
    · exact True.intro
  · exact True.intro
/-- athrow -/
def I_throw (hs : Hs_) : Ii_ := fun _ st σ => match st with
  | .ref a :: _ => match σ.2.2 a with
    | some (.inr o) => if o.1 < 100 ∧ o.1 < cl_.length then th_ o.1 a hs σ else none
    | _ => none
  | _ => none
theorem mn_throw (hs : Hs_) : Mn_ (I_throw hs) := by
  intro lc st σ
  unfold I_throw
  repeat' split
  all_goals first | exact True.intro | exact rfl
theorem so_throw {hs : Hs_} {npc : Nat} (hh : Ho_ E.2.2.1 (GF_ E) cnm_ M bp pc hs) (hd : decode M.2.1 pc = .ok (.athrow, 1)) : SoE_ E MT M bp pc npc (I_throw hs) := by
  intro p l e R s m args below meth c hC lc st σ ls H locs cells slots hl hR hS
  unfold I_throw
  have hG := hC.2.2.2.2.2.2.2.2.2.2.1
  split
  · next a r =>
    split
    · next o ho =>
      split
      · next hm =>
        have hq : cl_[o.1 % 100]? = some cl_[o.1] := by rw [Nat.mod_eq_of_lt hm.1]; exact List.getElem?_eq_getElem hm.2
        obtain ⟨cell, g1, g2, g3⟩ := recv_ hG hR ho hq
        refine ⟨hh, ⟨cell, g1, g2, ?_⟩, r, fun Q k => vx_athrow hC.1 hC.2.1 hd k⟩
        unfold cnm_
        rw [List.getElem?_eq_getElem hm.2]
        exact g3
      · exact True.intro
    · exact True.intro
  · exact True.intro
/-- new E(); dup; E.<init>() of the kit -/
def I_mkx (ci : Nat) : Ii_ := fun l st σ => if sl_ st = true then nx_ l (.ref σ.1 :: st) (σ.1 + 1, σ.2.1 + 6, up_ σ.2.2 σ.1 (ob_ ci [])) else none
theorem mn_mkx (ci : Nat) : Mn_ (I_mkx ci) := by
  intro lc st σ
  unfold I_mkx
  split
  · exact ⟨Nat.le_succ _, Nat.le_add_right _ _⟩
  · exact True.intro
theorem so_mkx {ci ik ic : Nat} {cls : String} {names : List String} (hci : cl_[ci]? = some (cls, T0_, 0)) (h100 : ci < 100) (hht : 8 ≤ M.2.2.2.2.2) (hn3 : names.length ≤ 3) (hcls : Bundle.fit cls = true) (hnames : ∀ n ∈ names, Bundle.fit n = true)
    (hws : ∀ w ∈ Cond.classLink M.1.cls ik cls :: Cond.initialized cls :: vx_at0 M.1.cls ic cls names, (w ∈ lw_all ∨ (w ∈ lw_tbl ∧ nw_ w = true)) ∧ vx_ot w = true)
    (d0 : decode M.2.1 pc = .ok (.new ik, 3)) (d3 : decode M.2.1 (pc + 3) = .ok (.dup, 1)) (d4 : decode M.2.1 (pc + 4) = .ok (.invokespecial ic, 3)) : SoE_ E MT M bp pc (pc + 7) (I_mkx ci) := by
  intro p l e R s m args below meth c hC lc st σ ls H locs cells slots hl hR hS
  unfold I_mkx
  have hG := hC.2.2.2.2.2.2.2.2.2.2.1
  have hf := hC.2.2.2.2.2.2.2.2.2.2.2.1
  have hlo := hC.2.2.2.2.2.2.2.2.2.2.2.2.1
  have hw : ∀ w ∈ Cond.classLink M.1.cls ik cls :: Cond.initialized cls :: vx_at0 M.1.cls ic cls names, w.before args s = true := fun w hw => by
    rcases (hws w hw).1 with h | ⟨h, h'⟩
    · exact hC.2.2.2.2.2.2.1 _ h
    · exact va_Nw.use (nw_tabs h') (hG.2.2.1 _ h h')
  split
  · next hsl =>
    have := sl_le hsl
    intro Q h1 h2 kk
    dsimp only at h1 h2 kk
    rw [Nat.add_sub_cancel_left] at h1 h2
    rw [Nat.add_sub_cancel_left, Nat.add_sub_cancel_left] at kk
    have hZ1 := hG.2.2.2.2.2.2.1
    have hZ2 := hG.2.2.2.2.2.2.2.1
    refine vx_mk0 hC.1 hC.2.1 hC.2.2.2.2.2.2.2.1 (A := Ab_ E.2.2.1) (names := names) hC.2.2.2.2.2.1 hcls hnames (hw _ List.mem_cons_self) (hw _ (List.mem_cons_of_mem _ List.mem_cons_self)) (fun w h => hw w (List.mem_cons_of_mem _ (List.mem_cons_of_mem _ h))) (fun w h => (hws w h).2) hZ1 hZ2 hS (by rw [hC.2.2.2.2.1]; exact hl.1) d0 d3 d4 (by omega) ?_ h1 h2 fun H1 ce z1 o1 e1 hc1 hv1 hS1 => ?_
    · have : 13 * (names.length + 1) ≤ 52 := by omega
      omega
    · rw [hR.1]
      refine kk ls H1 locs hl (Rp_push hR ?_ z1 o1 ?_) hS1
      · refine ⟨(cls, T0_, 0), by show cl_[ci % 100]? = _; rw [Nat.mod_eq_of_lt h100]; exact hci, ce, e1, ?_, hv1, fun k hk => absurd hk (Nat.not_lt_zero k)⟩
        show ce.cls = E.1.1 (ci % 100)
        rw [Nat.mod_eq_of_lt h100]
        exact Option.some.inj (hc1.symm.trans (hG.1 _ _ hci).2.1)
      · intro q hq
        rw [Nat.mod_eq_of_lt h100] at hq
        cases hci.symm.trans hq
        rfl
  · exact True.intro
/-- Math.max, min, abs of ints -/
def I_max : Ii_ := fun l st σ => match st with
  | .int y :: .int x :: r => if sl_ r = true then nx_ l (.int (if x < y then y else x) :: r) σ else none
  | _ => none
def I_min : Ii_ := fun l st σ => match st with
  | .int y :: .int x :: r => if sl_ r = true then nx_ l (.int (if y < x then y else x) :: r) σ else none
  | _ => none
def I_abs : Ii_ := fun l st σ => match st with
  | .int x :: r => if sl_ r = true then nx_ l (.int (if 0 ≤ x then x else 0 - x) :: r) σ else none
  | _ => none
theorem mn_max : Mn_ I_max := by
  intro lc st σ
  unfold I_max
  split
  · split
    · exact ⟨Nat.le_refl _, Nat.le_refl _⟩
    · exact True.intro
  · exact True.intro
theorem mn_min : Mn_ I_min := by
  intro lc st σ
  unfold I_min
  split
  · split
    · exact ⟨Nat.le_refl _, Nat.le_refl _⟩
    · exact True.intro
  · exact True.intro
theorem mn_abs : Mn_ I_abs := by
  intro lc st σ
  unfold I_abs
  split
  · split
    · exact ⟨Nat.le_refl _, Nat.le_refl _⟩
    · exact True.intro
  · exact True.intro
theorem so_max {idx : Nat} (hht : 1 ≤ M.2.2.2.2.2) (h1 : Cond.methodLink M.1.cls idx Lib.Math.max.name ∈ lw_all) (h2 : Cond.static Lib.Math.max.name ∈ lw_all) (h3 : Cond.initialized "java/lang/Math" ∈ lw_all) (h4 : Cond.code Lib.Math.max.name Lib.Math.max.code 2 (some .int) ∈ lw_all) (hd : decode M.2.1 pc = .ok (.invokestatic idx, 3)) : SoE_ E MT M bp pc (pc + 3) I_max := by
  intro p l e R s m args below meth c hC lc st σ ls H locs cells slots hl hR hS
  unfold I_max
  have hts := hC.2.2.2.2.2.2.1
  have hf := hC.2.2.2.2.2.2.2.2.2.2.2.1
  have hlo := hC.2.2.2.2.2.2.2.2.2.2.2.2.1
  split
  · split
    · next hsl =>
      have := sl_le hsl
      intro Q hc1 hs1 kk
      exact va_mmax hC.1 hC.2.1 (by rw [hC.2.2.2.2.1]; exact hl.1.symm) hC.2.2.2.2.2.1 (hts _ h1) (hts _ h2) (hts _ h3) (hts _ h4) (by omega) (by omega) (by omega) (by omega) hd (sk_ (kk ls H locs hl hR hS))
    · exact True.intro
  · exact True.intro
theorem so_min {idx : Nat} (hht : 1 ≤ M.2.2.2.2.2) (h1 : Cond.methodLink M.1.cls idx Lib.Math.min.name ∈ lw_all) (h2 : Cond.static Lib.Math.min.name ∈ lw_all) (h3 : Cond.initialized "java/lang/Math" ∈ lw_all) (h4 : Cond.code Lib.Math.min.name Lib.Math.min.code 2 (some .int) ∈ lw_all) (hd : decode M.2.1 pc = .ok (.invokestatic idx, 3)) : SoE_ E MT M bp pc (pc + 3) I_min := by
  intro p l e R s m args below meth c hC lc st σ ls H locs cells slots hl hR hS
  unfold I_min
  have hts := hC.2.2.2.2.2.2.1
  have hf := hC.2.2.2.2.2.2.2.2.2.2.2.1
  have hlo := hC.2.2.2.2.2.2.2.2.2.2.2.2.1
  split
  · split
    · next hsl =>
      have := sl_le hsl
      intro Q hc1 hs1 kk
      exact va_mmin hC.1 hC.2.1 (by rw [hC.2.2.2.2.1]; exact hl.1.symm) hC.2.2.2.2.2.1 (hts _ h1) (hts _ h2) (hts _ h3) (hts _ h4) (by omega) (by omega) (by omega) (by omega) hd (sk_ (kk ls H locs hl hR hS))
    · exact True.intro
  · exact True.intro
theorem so_abs {idx : Nat} (hht : 1 ≤ M.2.2.2.2.2) (h1 : Cond.methodLink M.1.cls idx Lib.Math.abs.name ∈ lw_all) (h2 : Cond.static Lib.Math.abs.name ∈ lw_all) (h3 : Cond.initialized "java/lang/Math" ∈ lw_all) (h4 : Cond.code Lib.Math.abs.name Lib.Math.abs.code 1 (some .int) ∈ lw_all) (hd : decode M.2.1 pc = .ok (.invokestatic idx, 3)) : SoE_ E MT M bp pc (pc + 3) I_abs := by
  intro p l e R s m args below meth c hC lc st σ ls H locs cells slots hl hR hS
  unfold I_abs
  have hts := hC.2.2.2.2.2.2.1
  have hf := hC.2.2.2.2.2.2.2.2.2.2.2.1
  have hlo := hC.2.2.2.2.2.2.2.2.2.2.2.2.1
  split
  · split
    · next hsl =>
      have := sl_le hsl
      intro Q hc1 hs1 kk
      exact va_mabs hC.1 hC.2.1 (by rw [hC.2.2.2.2.1]; exact hl.1.symm) hC.2.2.2.2.2.1 (hts _ h1) (hts _ h2) (hts _ h3) (hts _ h4) (by omega) (by omega) (by omega) (by omega) hd (sk_ (kk ls H locs hl hR hS))
    · exact True.intro
  · exact True.intro
end HM
