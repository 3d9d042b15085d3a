/-! System.arraycopy, clone, getClass; handlers -/
/-- may stand in an Object[]: null, or an object of one of the classes -/
def ok_ (cs : List Nat) (h : Nat → Option Ac_) : Option Nat → Bool
  | none => true
  | some v => match h v with
    | some (.inr o) => decide ((o.1 % 100) ∈ cs)
    | _ => false
/-- arraycopy of ints or bytes (t: the type of both), or of Object[]s -/
def I_acopy (cs : List Nat) : Ii_ := fun l st σ => match st with
  | .int n :: .int dp :: .ref b :: .int sp :: .ref a :: r =>
    if n < 0 ∨ dp < 0 ∨ sp < 0 ∨ sl_ r = false then none else
    match σ.2.2 a, σ.2.2 b with
    | some (.inl (t, n0, .inl f)), some (.inl (t1, n1, .inl g)) =>
      if t1 < 3 ∧ t % 100 = t1 ∧ sp.toNatClampNeg + n.toNatClampNeg ≤ n0 ∧ dp.toNatClampNeg + n.toNatClampNeg ≤ n1 then nx_ l r (σ.1, σ.2.1, up_ σ.2.2 b (tI_ t1 n1 (va_cpy f g sp.toNatClampNeg dp.toNatClampNeg n.toNatClampNeg))) else none
    | some (.inl (t, n0, .inr (.inr (.inr (.inr f))))), some (.inl (t1, n1, .inr (.inr (.inr (.inr g))))) =>
      if t1 = 4 ∧ t = 4 ∧ sp.toNatClampNeg + n.toNatClampNeg ≤ n0 ∧ dp.toNatClampNeg + n.toNatClampNeg ≤ n1 ∧ (∀ i, i < n.toNatClampNeg → ok_ cs σ.2.2 (f (sp.toNatClampNeg + i)) = true) then nx_ l r (σ.1, σ.2.1, up_ σ.2.2 b (tR_ t1 n1 (va_cpy f g sp.toNatClampNeg dp.toNatClampNeg n.toNatClampNeg))) else none
    | _, _ => none
  | _ => none
theorem mn_acopy (cs : List Nat) : Mn_ (I_acopy cs) := by
  intro lc st σ
  unfold I_acopy
  split
  · split
    · exact True.intro
    · split
      · split
        · exact ⟨Nat.le_refl _, Nat.le_refl _⟩
        · exact True.intro
      · split
        · exact ⟨Nat.le_refl _, Nat.le_refl _⟩
        · exact True.intro
      · exact True.intro
  · exact True.intro
/-- clone of a byte[] -/
def I_clone : Ii_ := fun l st σ => match st with
  | .ref a :: r => match σ.2.2 a with
    | some (.inl (t, n, .inl f)) => if t % 100 = 1 ∧ sl_ r = true then nx_ l (.ref σ.1 :: r) (σ.1 + 1, σ.2.1 + n, up_ σ.2.2 σ.1 (tI_ 1 n f)) else none
    | _ => none
  | _ => none
theorem mn_clone : Mn_ I_clone := by
  intro lc st σ
  unfold I_clone
  split
  · split
    · split
      · exact ⟨Nat.le_succ _, Nat.le_add_right _ _⟩
      · exact True.intro
    · exact True.intro
  · exact True.intro
/-- getClass() of an Object[]: its mirror mi -/
def I_getc (mi : Nat) : Ii_ := fun l st σ => match st with
  | .ref a :: r => match σ.2.2 a with
    | some (.inl (t, _, .inr (.inr (.inr (.inr _))))) => if t = 4 ∧ sl_ r = true then nx_ l (.ref mi :: r) σ else none
    | _ => none
  | _ => none
theorem mn_getc (mi : Nat) : Mn_ (I_getc mi) := by
  intro lc st σ
  unfold I_getc
  split
  · split
    · split
      · exact ⟨Nat.le_refl _, Nat.le_refl _⟩
      · exact True.intro
    · exact True.intro
  · exact True.intro
theorem nn_ (z : Int32) (hz : ¬ z < 0) : z.toInt = (z.toNatClampNeg : Int) := by
  have hz0 : (0 : Int) ≤ z.toInt := by
    have := Int32.not_lt.mp hz
    simpa using Int32.le_iff_toInt_le.mp this
  show z.toInt = ((z.toInt.toNat : Nat) : Int)
  omega
section AC
variable {E : En_} {MT : Nat → Mi_} {M : Mi_} {bp : Nat → Nat} {pc : Nat}
section ACW
variable {p : Program} {l : Launch} {e : Env} {R : Room} {s : State} {m : MethodId} {args : Array Value} {below : List Frame} {meth : Method} {c : Code} {H : Heap} {locs : List Loc} {cells slots : Nat} {ls : Array Slot} {rest : List Value} {Q : State → Prop}
theorem ac_i {cc : ByteArray} (hexec : p.tables.exec = Jvm.exec) (hb : c.code = cc) (hml : c.maxLocals = ls.size) {own : String} {index : Nat} (hown : s.vm.findClass own = some m.cls) (hlink : (Cond.methodLink own index arraycopyName).before args s = true) (hnat : (Cond.native arraycopyName).before args s = true) (hstat : (Cond.static arraycopyName).before args s = true) (hini : (Cond.initialized "java/lang/System").before args s = true)
    {a0 a : Nat} {c0 : ClassId} {n0 n1 : Nat} {f g : Nat → Int32} {ty : FieldType} (hc0 : H[a0]? = some (vp_cell c0 (n0, .inl f))) (hc1 : H[a]? = some (vp_cell c0 (n1, .inl g))) (hA : ArrOfT s c0 ty) (hprim : refKind ty = false)
    {sp dp n : Int32} (h1 : ¬ sp < 0) (h2 : ¬ dp < 0) (h3 : ¬ n < 0) (h4 : sp.toNatClampNeg + n.toNatClampNeg ≤ n0) (h5 : dp.toNatClampNeg + n.toNatClampNeg ≤ n1) (hfit : ∀ i, i < n.toNatClampNeg → fits ty (.int (f (sp.toNatClampNeg + i))) = true)
    (hframes : 1 ≤ R.frames) (hlocals : (rest.map fun v => v.category).sum + 18 ≤ R.locals) {pc : Nat} (hdg : decode cc pc = .ok (.invokestatic index, 3))
    (kk : ∀ (H1 : Heap) (locs1 : List Loc), H1[a]? = some (vp_cell c0 (n1, .inl (va_cpy f g sp.toNatClampNeg dp.toNatClampNeg n.toNatClampNeg))) → H1.size = H.size → (∀ q, q ≠ a → H1[q]? = H[q]?) → (∀ q ∈ locs1, q ∈ locs ∨ q.base = a) → W p l e R s m args below meth c H1 locs1 cells slots Q (F0 m (pc + 3) ls rest)) :
    W p l e R s m args below meth c H locs cells slots Q (F0 m pc ls (.int n :: .int dp :: .ref a :: .int sp :: .ref a0 :: rest)) := by
  intro T hT X
  obtain ⟨-, k0, hk0, cm0, hkk0⟩ := hA n0 (fun j => .int (f j))
  obtain ⟨-, k1, hk1, cm1, hkk1⟩ := hA n1 (fun j => .int (g j))
  obtain ⟨vm', X', step⟩ := X.arraycopy hexec hown hlink hnat hstat hini (src := a0) (dst := a) (cs := vp_cell c0 (n0, .inl f)) (cd := vp_cell c0 (n1, .inl g)) (srcPos := sp) (destPos := dp) (n := n) (by rw [hT]; exact hc0) (by rw [hT]; exact hc1)
    (fun _ h => by cases h) (fun _ h => by cases h) (fun h => by cases h) (fun h => by cases h) hk0 hk1 hkk0 hkk1 (by simp [hprim]) h1 h2 h3
    (by rw [nn_ sp h1, nn_ n h3]; show ¬ _ > ((arrV c0 n0 (fun j => .int (f j))).slots.size : Int); rw [arrV_size]; omega)
    (by rw [nn_ dp h2, nn_ n h3]; show ¬ _ > ((arrV c0 n1 (fun j => .int (g j))).slots.size : Int); rw [arrV_size]; omega)
    (fun vm₁ _ i hi => by
      have e : (vp_cell c0 (n0, .inl f)).slots.getD (sp.toNatClampNeg + i) .null = .int (f (sp.toNatClampNeg + i)) := by
        show (arrV c0 n0 (fun j => .int (f j))).slots.getD _ _ = _
        rw [Array.getD_eq_getD_getElem?, arrV_read _ _ (by omega)]
        rfl
      refine ⟨?_, ?_⟩
      · rw [e]
        exact hfit i hi
      · rw [e]
        exact trivial)
    (g := F0 m pc ls (.int n :: .int dp :: .ref a :: .int sp :: .ref a0 :: rest)) rfl (by rw [hml]) (rest := rest) rfl (by rw [hb]; exact hdg) hframes (by show 2 * 0 + _ + 18 ≤ _; omega)
  have e1 : copied (vp_cell c0 (n0, .inl f)) (vp_cell c0 (n1, .inl g)) sp dp n = vp_cell c0 (n1, .inl (va_cpy f g sp.toNatClampNeg dp.toNatClampNeg n.toNatClampNeg)) := va_copied (fun z => .int z) c0 c0 f g h4
  rw [e1] at X' step
  have hl : a < H.size := (Array.getElem?_eq_some_iff.mp hc1).1
  have hheap : ((T.setVm vm').setCell a (vp_cell c0 (n1, .inl (va_cpy f g sp.toNatClampNeg dp.toNatClampNeg n.toNatClampNeg)))).heap = H.setIfInBounds a (vp_cell c0 (n1, .inl (va_cpy f g sp.toNatClampNeg dp.toNatClampNeg n.toNatClampNeg))) := by rw [← hT]; rfl
  obtain ⟨t, a1, b1⟩ := kk _ _ (by simp [Array.getElem?_setIfInBounds, hl]) (by simp) (fun q hq => by simp [Array.getElem?_setIfInBounds, Ne.symm hq]) (fun q hq => by
      rcases List.mem_append.mp hq with h | h
      · exact Or.inl h
      · obtain ⟨z, -, hz⟩ := List.mem_map.mp h
        exact Or.inr (by rw [← hz])) _ hheap X'
  exact ⟨t, step t a1, b1⟩
theorem ac_q {cc : ByteArray} (hexec : p.tables.exec = Jvm.exec) (hb : c.code = cc) (hml : c.maxLocals = ls.size) {own : String} {index : Nat} (hown : s.vm.findClass own = some m.cls) (hlink : (Cond.methodLink own index arraycopyName).before args s = true) (hnat : (Cond.native arraycopyName).before args s = true) (hstat : (Cond.static arraycopyName).before args s = true) (hini : (Cond.initialized "java/lang/System").before args s = true)
    {a0 a : Nat} {c0 : ClassId} {n0 n1 : Nat} {f g : Nat → Option Nat} {E1 : String} (hc0 : H[a0]? = some (vp_cell c0 (n0, .inr (.inr (.inr (.inr f)))))) (hc1 : H[a]? = some (vp_cell c0 (n1, .inr (.inr (.inr (.inr g)))))) (hA : ArrOfT s c0 (.object E1)) (hRA : va_RA s c0 (.object E1))
    {sp dp n : Int32} (h1 : ¬ sp < 0) (h2 : ¬ dp < 0) (h3 : ¬ n < 0) (h4 : sp.toNatClampNeg + n.toNatClampNeg ≤ n0) (h5 : dp.toNatClampNeg + n.toNatClampNeg ≤ n1) (hel : ∀ i : Nat, i < n.toNatClampNeg → ∀ y : Nat, f (sp.toNatClampNeg + i) = some y → va_Any E1 s H y)
    (hframes : 1 ≤ R.frames) (hlocals : (rest.map fun v => v.category).sum + 18 ≤ R.locals) {pc : Nat} (hdg : decode cc pc = .ok (.invokestatic index, 3))
    (kk : ∀ (H1 : Heap) (locs1 : List Loc), H1[a]? = some (vp_cell c0 (n1, .inr (.inr (.inr (.inr (va_cpy f g sp.toNatClampNeg dp.toNatClampNeg n.toNatClampNeg)))))) → H1.size = H.size → (∀ q, q ≠ a → H1[q]? = H[q]?) → (∀ q ∈ locs1, q ∈ locs ∨ q.base = a) → W p l e R s m args below meth c H1 locs1 cells slots Q (F0 m (pc + 3) ls rest)) :
    W p l e R s m args below meth c H locs cells slots Q (F0 m pc ls (.int n :: .int dp :: .ref a :: .int sp :: .ref a0 :: rest)) := by
  intro T hT X
  obtain ⟨-, k0, hk0, cm0, hkk0⟩ := hA n0 (fun j => va_rf (f j))
  obtain ⟨-, k1, hk1, cm1, hkk1⟩ := hA n1 (fun j => va_rf (g j))
  obtain ⟨vm', X', step⟩ := X.arraycopy hexec hown hlink hnat hstat hini (src := a0) (dst := a) (cs := vp_cell c0 (n0, .inr (.inr (.inr (.inr f))))) (cd := vp_cell c0 (n1, .inr (.inr (.inr (.inr g))))) (srcPos := sp) (destPos := dp) (n := n) (by rw [hT]; exact hc0) (by rw [hT]; exact hc1)
    (fun _ h => by cases h) (fun _ h => by cases h) (fun h => by cases h) (fun h => by cases h) hk0 hk1 hkk0 hkk1 rfl h1 h2 h3
    (by rw [nn_ sp h1, nn_ n h3]; show ¬ _ > ((arrV c0 n0 (fun j => va_rf (f j))).slots.size : Int); rw [arrV_size]; omega)
    (by rw [nn_ dp h2, nn_ n h3]; show ¬ _ > ((arrV c0 n1 (fun j => va_rf (g j))).slots.size : Int); rw [arrV_size]; omega)
    (fun vm₁ hal i hi => by
      have e : (vp_cell c0 (n0, .inr (.inr (.inr (.inr f))))).slots.getD (sp.toNatClampNeg + i) .null = va_rf (f (sp.toNatClampNeg + i)) := by
        show (arrV c0 n0 (fun j => va_rf (f j))).slots.getD _ _ = _
        rw [Array.getD_eq_getD_getElem?, arrV_read _ _ (by omega)]
        rfl
      rw [e]
      cases hy : f (sp.toNatClampNeg + i) with
      | none => exact ⟨rfl, trivial⟩
      | some y =>
        obtain ⟨cellV, g1, g2, ⟨kC, hkC⟩, hasg⟩ := hel i hi y hy
        obtain ⟨kA, comp, r1, r2, r3, -⟩ := hRA
        cases hk1.symm.trans r1
        cases hkk1.symm.trans r2
        obtain ⟨kE, hkE, -⟩ := Vm.findClass_spec r3
        obtain ⟨kC', hkC', -⟩ := hal.2.2 _ _ hkC
        obtain ⟨kE', hkE', -⟩ := hal.2.2 _ _ hkE
        refine ⟨rfl, cellV, (show T.heap[y]? = some cellV by rw [hT]; exact g1), (fun q h => by rw [h] at g2; cases g2), ⟨kC', hkC'⟩, ?_, ?_⟩
        · exact ⟨kE', hkE'⟩
        · show vm₁.assignable _ _ = true
          rw [hal.assignable]
          exact hasg _ r3)
    (g := F0 m pc ls (.int n :: .int dp :: .ref a :: .int sp :: .ref a0 :: rest)) rfl (by rw [hml]) (rest := rest) rfl (by rw [hb]; exact hdg) hframes (by show 2 * 0 + _ + 18 ≤ _; omega)
  have e1 : copied (vp_cell c0 (n0, .inr (.inr (.inr (.inr f))))) (vp_cell c0 (n1, .inr (.inr (.inr (.inr g))))) sp dp n = vp_cell c0 (n1, .inr (.inr (.inr (.inr (va_cpy f g sp.toNatClampNeg dp.toNatClampNeg n.toNatClampNeg))))) := by
    rw [vp_cell_q, vp_cell_q, vp_cell_q]
    exact va_copied (fun z => va_rf z) c0 c0 f g h4
  rw [e1] at X' step
  have hl : a < H.size := (Array.getElem?_eq_some_iff.mp hc1).1
  have hheap : ((T.setVm vm').setCell a (vp_cell c0 (n1, .inr (.inr (.inr (.inr (va_cpy f g sp.toNatClampNeg dp.toNatClampNeg n.toNatClampNeg))))))).heap = H.setIfInBounds a (vp_cell c0 (n1, .inr (.inr (.inr (.inr (va_cpy f g sp.toNatClampNeg dp.toNatClampNeg n.toNatClampNeg)))))) := by rw [← hT]; rfl
  obtain ⟨t, a1, b1⟩ := kk _ _ (by simp [Array.getElem?_setIfInBounds, hl]) (by simp) (fun q hq => by simp [Array.getElem?_setIfInBounds, Ne.symm hq]) (fun q hq => by
      rcases List.mem_append.mp hq with h | h
      · exact Or.inl h
      · obtain ⟨z, -, hz⟩ := List.mem_map.mp h
        exact Or.inr (by rw [← hz])) _ hheap X'
  exact ⟨t, step t a1, b1⟩
end ACW
theorem vS_put2 {A : Nat → Prop} {H0 H H' : Heap} {locs locs' : List Loc} {a : Nat} (hS : va_S A H0 H locs) (hz : H'.size = H.size) (ho : ∀ q, q ≠ a → H'[q]? = H[q]?) (hl : ∀ q ∈ locs', q ∈ locs ∨ q.base = a) (ha : A a) : va_S A H0 H' locs' :=
  ⟨by rw [hz]; exact hS.1, fun q h1 h2 => (ho q (fun h => h2 (by rw [h]; exact ha))).trans (hS.2.1 q h1 h2), fun q hq => by
    rcases hl q hq with h | h
    · exact hS.2.2 q h
    · rw [h]; exact ha⟩
theorem so_acopy {cs : List Nat} {idx : Nat} (hht : 1 ≤ M.2.2.2.2.2) (h1w : Cond.methodLink M.1.cls idx arraycopyName ∈ lw_all) (h2w : Cond.native arraycopyName ∈ lw_all) (h3w : Cond.static arraycopyName ∈ lw_all) (h4w : Cond.initialized "java/lang/System" ∈ lw_all) (hcs : ∀ ci ∈ cs, ∃ q, cl_[ci]? = some q ∧ Cond.castable q.1 "java/lang/Object" ∈ lw_tbl) (hd : decode M.2.1 pc = .ok (.invokestatic idx, 3)) : SoE_ E MT M bp pc (pc + 3) (I_acopy cs) := by
  intro p l e R s m args below meth c hC lc st σ ls H locs cells slots hl hR hS
  unfold I_acopy
  have hG := hC.2.2.2.2.2.2.2.2.2.2.1
  have hts := hC.2.2.2.2.2.2.1
  have hf := hC.2.2.2.2.2.2.2.2.2.2.2.1
  have hlo := hC.2.2.2.2.2.2.2.2.2.2.2.2.1
  split
  · next n dp b sp a r =>
    split
    · exact True.intro
    · next hneg =>
      have g3 : ¬ n < 0 := fun h => hneg (Or.inl h)
      have g2 : ¬ dp < 0 := fun h => hneg (Or.inr (Or.inl h))
      have g1 : ¬ sp < 0 := fun h => hneg (Or.inr (Or.inr (Or.inl h)))
      have hsl : sl_ r = true := by
        cases h : sl_ r
        · exact absurd (Or.inr (Or.inr (Or.inr h))) hneg
        · rfl
      have hsl := sl_le hsl
      split
      · next t n0 f t1 n1 g ha hb =>
        split
        · next hc =>
          obtain ⟨ht, ht2, h4, h5⟩ := hc
          intro Q _ _ kk
          dsimp only at kk
          rw [Nat.sub_self, Nat.sub_self] at kk
          obtain ⟨hat, -, hln⟩ := hR.2.2 a _ ha
          obtain ⟨hbt, hfl, hlnb⟩ := hR.2.2 b _ hb
          have hm1 : t1 % 100 = t1 := Nat.mod_eq_of_lt (by omega)
          have hat : H[a]? = some (vp_cell (E.2.1 (t % 100)) (n0, .inl f)) := hat
          have hbt : H[b]? = some (vp_cell (E.2.1 (t1 % 100)) (n1, .inl g)) := hbt
          have hln : ∀ j, j < n0 → fits (tyA_ (t % 100)) (.int (f j)) = true := hln
          have hlnb : ∀ j, j < n1 → fits (tyA_ (t1 % 100)) (.int (g j)) = true := hlnb
          rw [ht2] at hat hln
          rw [hm1] at hbt hlnb
          have hba : E.2.2.1 ≤ b := hfl (by show t1 < 100; omega)
          have hprim : refKind (tyA_ t1) = false := by
            match t1, ht with
            | 0, _ => rfl
            | 1, _ => rfl
            | 2, _ => rfl
          refine ac_i hC.1 hC.2.1 (by rw [hC.2.2.2.2.1]; exact hl.1.symm) hC.2.2.2.2.2.1 (hts _ h1w) (hts _ h2w) (hts _ h3w) (hts _ h4w) hat hbt (hG.2.1 t1 (by omega)).1 hprim g1 g2 g3 h4 h5 (fun i hi => hln _ (by omega)) (by omega) (by omega) hd fun H1 locs1 e1 z1 o1 l1 => ?_
          refine kk ls H1 locs1 hl (Rp_put hR ?_ z1 o1 ?_ hba) (vS_put2 hS z1 o1 l1 hba)
          · show H1[b]? = some (vp_cell (E.2.1 (t1 % 100)) _)
            rw [hm1]
            exact e1
          · intro j hj
            show fits (tyA_ (t1 % 100)) (.int (va_cpy f g _ _ _ j)) = true
            rw [hm1]
            unfold va_cpy
            split
            · next hjj => exact hln _ (by omega)
            · exact hlnb j hj
        · exact True.intro
      · next t n0 f t1 n1 g ha hb =>
        split
        · next hc =>
          obtain ⟨ht, ht2, h4, h5, hok⟩ := hc
          subst ht
          subst ht2
          intro Q _ _ kk
          dsimp only at kk
          rw [Nat.sub_self, Nat.sub_self] at kk
          obtain ⟨hat, -, -⟩ := hR.2.2 a _ ha
          obtain ⟨hbt, hfl, -⟩ := hR.2.2 b _ hb
          have hba : E.2.2.1 ≤ b := hfl (by show 4 < 100; omega)
          have hA4 := hG.2.1 4 (by omega)
          refine ac_q hC.1 hC.2.1 (by rw [hC.2.2.2.2.1]; exact hl.1.symm) hC.2.2.2.2.2.1 (hts _ h1w) (hts _ h2w) (hts _ h3w) (hts _ h4w) hat hbt hA4.1 hA4.2 g1 g2 g3 h4 h5 (fun i hi y hy => ?_) (by omega) (by omega) hd fun H1 locs1 e1 z1 o1 l1 => ?_
          · have h9 := hok i hi
            rw [hy] at h9
            unfold ok_ at h9
            dsimp only at h9
            split at h9
            · next o ho =>
              obtain ⟨q, hq, hcast⟩ := hcs _ (of_decide_eq_true h9)
              obtain ⟨cell, b1, b2, b3⟩ := recv_ hG hR ho hq
              have hcls := (hG.1 _ _ hq).2
              obtain ⟨c0, t1, f1, f2, f3⟩ := Cond.castable_spec (va_Nw.use (A := args) rfl (hG.2.2.1 _ hcast rfl))
              cases b3.symm.trans f1
              obtain ⟨kC, hkC, -⟩ := hcls.2
              have e9 : cell.cls = E.1.1 (o.1 % 100) := Option.some.inj (b3.symm.trans hcls.1)
              refine ⟨cell, b1, by rw [b2]; rfl, ⟨kC, by rw [e9]; exact hkC⟩, fun comp hcomp => ?_⟩
              cases hcomp.symm.trans f2
              exact f3
            · cases h9
          · exact kk ls H1 locs1 hl (Rp_put hR e1 z1 o1 trivial hba) (vS_put2 hS z1 o1 l1 hba)
        · exact True.intro
      · exact True.intro
  · exact True.intro
theorem so_getc {idx : Nat} (hht : 1 ≤ M.2.2.2.2.2) (h1w : Cond.methodLink M.1.cls idx ⟨"java/lang/Object", "getClass", "()Ljava/lang/Class;"⟩ ∈ lw_all) (h2w : Cond.selects "[Ljava/lang/Object;" ⟨"java/lang/Object", "getClass", "()Ljava/lang/Class;"⟩ ⟨"java/lang/Object", "getClass", "()Ljava/lang/Class;"⟩ ∈ lw_all) (h3w : Cond.instanceMethod ⟨"java/lang/Object", "getClass", "()Ljava/lang/Class;"⟩ ∈ lw_all) (h4w : Cond.native ⟨"java/lang/Object", "getClass", "()Ljava/lang/Class;"⟩ ∈ lw_all) (hd : decode M.2.1 pc = .ok (.invokevirtual idx, 3)) : SoE_ E MT M bp pc (pc + 3) (I_getc E.2.2.2.2.2) := by
  intro p l e R s m args below meth c hC lc st σ ls H locs cells slots hl hR hS
  unfold I_getc
  have hG := hC.2.2.2.2.2.2.2.2.2.2.1
  have hts := hC.2.2.2.2.2.2.1
  have hf := hC.2.2.2.2.2.2.2.2.2.2.2.1
  have hlo := hC.2.2.2.2.2.2.2.2.2.2.2.2.1
  split
  · next a r =>
    split
    · next t n f ha =>
      split
      · next hc =>
        obtain ⟨ht, hsl⟩ := hc
        subst ht
        have hsl := sl_le hsl
        intro Q _ _ kk
        have hat : H[a]? = some (vp_cell (E.2.1 4) (n, .inr (.inr (.inr (.inr f))))) := (hR.2.2 a _ ha).1
        obtain ⟨kA, comp, -, -, -, k4⟩ := (hG.2.1 4 (by omega)).2
        exact va_getC hC.1 hC.2.1 (by rw [hC.2.2.2.2.1]; exact hl.1.symm) hC.2.2.2.2.2.1 (hts _ h1w) (va_Dc.use hG.2.2.2.2.2.2.2.2.2.1) (hts _ h2w) (hts _ h3w) (hts _ h4w) hG.2.2.2.2.2.2.2.2.1 ⟨_, hat, rfl, k4⟩ (by omega) (by omega) hd (sk_ (kk ls H locs hl hR hS))
      · exact True.intro
    · exact True.intro
  · exact True.intro
theorem so_clone {idx : Nat} (hht : 1 ≤ M.2.2.2.2.2) (h1w : Cond.methodLink M.1.cls idx ⟨"[B", "clone", "()Ljava/lang/Object;"⟩ ∈ lw_all) (h2w : Cond.sameMethod "[B" "java/lang/Object" "clone" "()Ljava/lang/Object;" ∈ lw_all) (h3w : Cond.native ⟨"java/lang/Object", "clone", "()Ljava/lang/Object;"⟩ ∈ lw_all) (h4w : Cond.instanceMethod ⟨"java/lang/Object", "clone", "()Ljava/lang/Object;"⟩ ∈ lw_all) (h5w : Cond.selects "[B" ⟨"[B", "clone", "()Ljava/lang/Object;"⟩ ⟨"java/lang/Object", "clone", "()Ljava/lang/Object;"⟩ ∈ lw_all) (h6w : Cond.castable "[B" "java/lang/Cloneable" ∈ lw_tbl) (hd : decode M.2.1 pc = .ok (.invokevirtual idx, 3)) : SoE_ E MT M bp pc (pc + 3) I_clone := by
  intro p l e R s m args below meth c hC lc st σ ls H locs cells slots hl hR hS
  unfold I_clone
  have hG := hC.2.2.2.2.2.2.2.2.2.2.1
  have hts := hC.2.2.2.2.2.2.1
  have hf := hC.2.2.2.2.2.2.2.2.2.2.2.1
  have hlo := hC.2.2.2.2.2.2.2.2.2.2.2.2.1
  split
  · next a r =>
    split
    · next t n f ha =>
      split
      · next hc =>
        obtain ⟨ht, hsl⟩ := hc
        have hsl := sl_le hsl
        intro Q g1 g2 kk
        dsimp only at g1 g2 kk
        rw [Nat.add_sub_cancel_left] at g1 g2
        rw [Nat.add_sub_cancel_left, Nat.add_sub_cancel_left] at kk
        obtain ⟨hat, -, hln⟩ := hR.2.2 a _ ha
        have hat : H[a]? = some (vp_cell (E.2.1 (t % 100)) (n, .inl f)) := hat
        have hln : ∀ j, j < n → fits (tyA_ (t % 100)) (.int (f j)) = true := hln
        rw [ht] at hat hln
        have hA := (hG.2.1 1 (by omega)).1
        have hnm : s.vm.findClass "[B" = some (E.2.1 1) := (hG.2.1 1 (by omega)).2
        obtain ⟨c0, t0', f1, f2, f3⟩ := Cond.castable_spec (va_Nw.use (A := args) rfl (hG.2.2.1 _ h6w rfl))
        cases hnm.symm.trans f1
        intro T hT X
        have hcellT : T.heap[a]? = some (vp_cell (E.2.1 1) (n, .inl f)) := by rw [hT]; exact hat
        obtain ⟨-, kA, hkA, comp, hkind⟩ := State.isArrayOf_alike X.warmed.alike (hA 0 (fun _ => .null))
        obtain ⟨-, kS, hkS, compS, hkindS⟩ := hA 0 (fun _ => .null)
        obtain ⟨vm', X', st⟩ := X.cloneArray hC.1 hC.2.2.2.2.2.1 (hts _ h1w) (hts _ h2w) (hts _ h3w) (hts _ h4w) (hts _ h5w) (a := a) (cell := vp_cell (E.2.1 1) (n, .inl f)) hcellT (fun k h => by cases h) (fun h => by cases h) hnm f2 f3
          (fun i v hv => by
            have hk' : T.vm.classes[E.2.1 1]? = some kA := hkA
            have hv : (arrV (E.2.1 1) n (fun j => Value.int (f j))).slots[i]? = some v := hv
            have hi : i < n := by
              have := (Array.getElem?_eq_some_iff.mp hv).1
              rwa [arrV_size] at this
            rw [arrV_read _ _ hi] at hv
            cases hv
            have := hln i hi
            simpa [State.fitsSlot, State.slotType?, hk', hkind, vp_cell, arrV] using this)
          (g := F0 m pc ls (.ref a :: r)) rfl (by rw [hC.2.2.2.2.1]; exact hl.1) rfl (by rw [hC.2.1]; exact hd) (by omega) (by show 2 * 0 + _ + 14 ≤ _; omega) g1 (by show slots + (arrV _ _ _).slots.size ≤ _; rw [arrV_size]; exact g2) (hloader := Vm.clonesLoader_of_array hkS hkindS)
        have hsz : (vp_cell (E.2.1 1) (n, .inl f)).slots.size = n := arrV_size _ _ _
        rw [hsz] at X'
        generalize hH1 : H.push (vp_cell (E.2.1 1) (n, .inl f)) = H1
        have z1 : H1.size = H.size + 1 := by rw [← hH1, Array.size_push]
        have e1 : H1[H.size]? = some (vp_cell (E.2.1 1) (n, .inl f)) := by rw [← hH1, Array.getElem?_push_size]
        have o1 : ∀ q : Nat, q < H.size → H1[q]? = H[q]? := fun q hq => by rw [← hH1, Array.getElem?_push, if_neg (Nat.ne_of_lt hq)]
        obtain ⟨t9, b1, b2⟩ := kk ls H1 locs hl (Rp_push hR e1 z1 o1 hln) (vS_push hS z1 o1) _ (by rw [← hH1, ← hT]; rfl) X'
        rw [← hR.1, ← hT] at b1
        exact ⟨t9, st t9 b1, b2⟩
      · exact True.intro
    · exact True.intro
  · exact True.intro
/-! handlers -/
def no_ : Hs_ := fun _ => some none
theorem ho_none (h : M.2.2.2.2.1 = []) : Ho_ E.2.2.1 (GF_ E) cnm_ M bp pc no_ := by
  intro p l e R s m args below meth c hC k a ce H locs cells slots ls st hce hv hcl
  intro Qc XC mc ms hx hf hc hs
  have ht : c.exceptionTable.toList = [] := by
    rw [hC.2.2.2.2.2.2.2.2.1, h]
    rfl
  exact vx_out (fun x hx => by rw [ht] at hx; cases hx) hC.2.2.2.1 hce hv hcl hx hf hc hs
end AC
