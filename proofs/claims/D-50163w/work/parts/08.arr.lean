/-! arrays, new objects -/
abbrev tI_ (t n : Nat) (f : Nat → Int32) : Ac_ := .inl (t, n, .inl f)
abbrev tL_ (t n : Nat) (f : Nat → Int64) : Ac_ := .inl (t, n, .inr (.inl f))
abbrev tR_ (t n : Nat) (f : Nat → Option Nat) : Ac_ := .inl (t, n, .inr (.inr (.inr (.inr f))))
abbrev ob_ (ci : Nat) (fs : List Value) : Ac_ := .inr (ci, fs)
/-- inside: the index as a number -/
def ix_ (i : Int32) (n : Nat) : Option Nat := if i < 0 ∨ n ≤ i.toNatClampNeg then none else some i.toNatClampNeg
theorem ix_in {i : Int32} {n j : Nat} (h : ix_ i n = some j) : vp_in i n ∧ j = i.toNatClampNeg ∧ j < n := by
  unfold ix_ at h
  split at h
  · cases h
  · next hn =>
    cases h
    exact ⟨hn, rfl, by omega⟩
theorem ix_nI {k n : Nat} (h : k < n) (hn : n < 2 ^ 31) : ix_ (nI k) n = some k := by
  have h1 : ¬ ((nI k) < 0 ∨ n ≤ (nI k).toNatClampNeg) := vp_in_nI h (by omega)
  unfold ix_
  rw [if_neg h1, nI_clamp (by omega)]
theorem fit_byte (x : Int32) : fits .byte (.int x.toInt8.toInt32) = true := by
  have h1 := Int8.le_toInt x.toInt8
  have h2 := Int8.toInt_lt x.toInt8
  simp only [fits, Bool.and_eq_true, decide_eq_true_eq]
  rw [Int32.le_iff_toInt_le, Int32.le_iff_toInt_le, Int8.toInt_toInt32]
  have e1 : (-128 : Int32).toInt = -128 := by decide
  have e2 : (127 : Int32).toInt = 127 := by decide
  rw [e1, e2]
  omega
theorem fit_bool (x : Int32) : fits .boolean (.int (x &&& 1)) = true := by
  have h : x &&& 1 = 0 ∨ x &&& 1 = 1 := by
    have e : (x &&& 1).toBitVec = (BitVec.ofBool (x.toBitVec.getLsbD 0)).setWidth 32 := BitVec.and_one_eq_setWidth_ofBool_getLsbD
    cases hb : x.toBitVec.getLsbD 0
    · left
      rw [hb] at e
      exact Int32.toBitVec_inj.mp e
    · right
      rw [hb] at e
      exact Int32.toBitVec_inj.mp e
  rcases h with h | h <;> rw [h] <;> decide
theorem fit_upd {ty : FieldType} {f : Nat → Int32} {n j : Nat} {x : Int32} (h : ∀ k, k < n → fits ty (.int (f k)) = true) (hx : fits ty (.int x) = true) : ∀ k, k < n → fits ty (.int (upd f j x k)) = true := by
  intro k hk
  unfold upd
  split
  · exact hx
  · exact h k hk
def I_iald : Ii_ := fun l st σ => match st with
  | .int i :: .ref a :: r => match σ.2.2 a with
    | some (.inl (t, n, .inl f)) => if t % 100 = 0 then match ix_ i n with
      | some j => nx_ l (.int (f j) :: r) σ
      | none => none
      else none
    | _ => none
  | _ => none
def I_bald : Ii_ := fun l st σ => match st with
  | .int i :: .ref a :: r => match σ.2.2 a with
    | some (.inl (t, n, .inl f)) => if t % 100 = 1 ∨ t % 100 = 2 then match ix_ i n with
      | some j => nx_ l (.int (f j) :: r) σ
      | none => none
      else none
    | _ => none
  | _ => none
def I_lald : Ii_ := fun l st σ => match st with
  | .int i :: .ref a :: r => match σ.2.2 a with
    | some (.inl (t, n, .inr (.inl f))) => if t % 100 = 3 then match ix_ i n with
      | some j => nx_ l (.long (f j) :: r) σ
      | none => none
      else none
    | _ => none
  | _ => none
def I_aald : Ii_ := fun l st σ => match st with
  | .int i :: .ref a :: r => match σ.2.2 a with
    | some (.inl (t, n, .inr (.inr (.inr (.inr f))))) => if t % 100 = 4 ∨ t % 100 = 5 then match ix_ i n with
      | some j => nx_ l (va_rf (f j) :: r) σ
      | none => none
      else none
    | _ => none
  | _ => none
def I_iast : Ii_ := fun l st σ => match st with
  | .int x :: .int i :: .ref a :: r => match σ.2.2 a with
    | some (.inl (t, n, .inl f)) => if t = 0 then match ix_ i n with
      | some j => nx_ l r (σ.1, σ.2.1, up_ σ.2.2 a (tI_ t n (upd f j x)))
      | none => none
      else none
    | _ => none
  | _ => none
def I_bast : Ii_ := fun l st σ => match st with
  | .int x :: .int i :: .ref a :: r => match σ.2.2 a with
    | some (.inl (t, n, .inl f)) => match ix_ i n with
      | some j => if t = 1 then nx_ l r (σ.1, σ.2.1, up_ σ.2.2 a (tI_ t n (upd f j x.toInt8.toInt32))) else if t = 2 then nx_ l r (σ.1, σ.2.1, up_ σ.2.2 a (tI_ t n (upd f j (x &&& 1)))) else none
      | none => none
    | _ => none
  | _ => none
def I_last : Ii_ := fun l st σ => match st with
  | .long x :: .int i :: .ref a :: r => match σ.2.2 a with
    | some (.inl (t, n, .inr (.inl f))) => if t = 3 then match ix_ i n with
      | some j => nx_ l r (σ.1, σ.2.1, up_ σ.2.2 a (tL_ t n (vp_updL f j x)))
      | none => none
      else none
    | _ => none
  | _ => none
/-- an object of one of the classes cs into an Object[] -/
def I_aast (cs : List Nat) : Ii_ := fun l st σ => match st with
  | .ref v :: .int i :: .ref a :: r => match σ.2.2 a with
    | some (.inl (t, n, .inr (.inr (.inr (.inr f))))) => if t = 4 then match ix_ i n with
      | some j => match σ.2.2 v with
        | some (.inr o) => if (o.1 % 100) ∈ cs then nx_ l r (σ.1, σ.2.1, up_ σ.2.2 a (tR_ t n (va_up f j (some v)))) else none
        | _ => none
      | none => none
      else none
    | _ => none
  | .null :: .int i :: .ref a :: r => match σ.2.2 a with
    | some (.inl (t, n, .inr (.inr (.inr (.inr f))))) => if t = 4 then match ix_ i n with
      | some j => nx_ l r (σ.1, σ.2.1, up_ σ.2.2 a (tR_ t n (va_up f j none)))
      | none => none
      else none
    | _ => none
  | _ => none
def I_alen : Ii_ := fun l st σ => match st with
  | .ref a :: r => match σ.2.2 a with
    | some (.inl x) => if x.1 % 100 < 6 then nx_ l (.int (nI x.2.1) :: r) σ else none
    | _ => none
  | _ => none
/-- an array of t (0 int, 1 byte, 2 boolean, 3 long) -/
def I_newa (t : Nat) : Ii_ := fun l st σ => match st with
  | .int n :: r => if n < 0 ∨ 60000000 < n.toNatClampNeg then none else nx_ l (.ref σ.1 :: r) (σ.1 + 1, σ.2.1 + n.toNatClampNeg, up_ σ.2.2 σ.1 (if t = 3 then tL_ t n.toNatClampNeg (fun _ => 0) else tI_ t n.toNatClampNeg (fun _ => 0)))
  | _ => none
def I_newo : Ii_ := fun l st σ => match st with
  | .int n :: r => if n < 0 ∨ 60000000 < n.toNatClampNeg then none else nx_ l (.ref σ.1 :: r) (σ.1 + 1, σ.2.1 + n.toNatClampNeg, up_ σ.2.2 σ.1 (tR_ 4 n.toNatClampNeg (fun _ => none)))
  | _ => none
def I_new (ci : Nat) (fs : List Value) : Ii_ := fun l st σ => nx_ l (.ref σ.1 :: st) (σ.1 + 1, σ.2.1 + fs.length, up_ σ.2.2 σ.1 (ob_ ci fs))
theorem mn_new (ci : Nat) (fs : List Value) : Mn_ (I_new ci fs) := fun _ _ _ => ⟨Nat.le_succ _, Nat.le_add_right _ _⟩
theorem mn_iald  : Mn_ (I_iald ) := by
  intro lc st σ
  unfold I_iald
  repeat' split
  all_goals first | exact True.intro | exact ⟨Nat.le_refl _, Nat.le_refl _⟩ | exact ⟨Nat.le_succ _, Nat.le_add_right _ _⟩
theorem mn_bald  : Mn_ (I_bald ) := by
  intro lc st σ
  unfold I_bald
  repeat' split
  all_goals first | exact True.intro | exact ⟨Nat.le_refl _, Nat.le_refl _⟩ | exact ⟨Nat.le_succ _, Nat.le_add_right _ _⟩
theorem mn_lald  : Mn_ (I_lald ) := by
  intro lc st σ
  unfold I_lald
  repeat' split
  all_goals first | exact True.intro | exact ⟨Nat.le_refl _, Nat.le_refl _⟩ | exact ⟨Nat.le_succ _, Nat.le_add_right _ _⟩
theorem mn_aald  : Mn_ (I_aald ) := by
  intro lc st σ
  unfold I_aald
  repeat' split
  all_goals first | exact True.intro | exact ⟨Nat.le_refl _, Nat.le_refl _⟩ | exact ⟨Nat.le_succ _, Nat.le_add_right _ _⟩
theorem mn_iast  : Mn_ (I_iast ) := by
  intro lc st σ
  unfold I_iast
  repeat' split
  all_goals first | exact True.intro | exact ⟨Nat.le_refl _, Nat.le_refl _⟩ | exact ⟨Nat.le_succ _, Nat.le_add_right _ _⟩
theorem mn_bast  : Mn_ (I_bast ) := by
  intro lc st σ
  unfold I_bast
  repeat' split
  all_goals first | exact True.intro | exact ⟨Nat.le_refl _, Nat.le_refl _⟩ | exact ⟨Nat.le_succ _, Nat.le_add_right _ _⟩
theorem mn_last  : Mn_ (I_last ) := by
  intro lc st σ
  unfold I_last
  repeat' split
  all_goals first | exact True.intro | exact ⟨Nat.le_refl _, Nat.le_refl _⟩ | exact ⟨Nat.le_succ _, Nat.le_add_right _ _⟩
theorem mn_aast (cs : List Nat) : Mn_ (I_aast cs) := by
  intro lc st σ
  unfold I_aast
  repeat' split
  all_goals first | exact True.intro | exact ⟨Nat.le_refl _, Nat.le_refl _⟩ | exact ⟨Nat.le_succ _, Nat.le_add_right _ _⟩
theorem mn_alen  : Mn_ (I_alen ) := by
  intro lc st σ
  unfold I_alen
  repeat' split
  all_goals first | exact True.intro | exact ⟨Nat.le_refl _, Nat.le_refl _⟩ | exact ⟨Nat.le_succ _, Nat.le_add_right _ _⟩
theorem mn_newa (t : Nat) : Mn_ (I_newa t) := by
  intro lc st σ
  unfold I_newa
  repeat' split
  all_goals first | exact True.intro | exact ⟨Nat.le_refl _, Nat.le_refl _⟩ | exact ⟨Nat.le_succ _, Nat.le_add_right _ _⟩
theorem mn_newo  : Mn_ (I_newo ) := by
  intro lc st σ
  unfold I_newo
  repeat' split
  all_goals first | exact True.intro | exact ⟨Nat.le_refl _, Nat.le_refl _⟩ | exact ⟨Nat.le_succ _, Nat.le_add_right _ _⟩
section HA
variable {E : En_} {MT : Nat → Mi_} {M : Mi_} {bp : Nat → Nat} {pc : Nat}
theorem so_iald (hd : decode M.2.1 pc = .ok (.iaload, 1)) : SoE_ E MT M bp pc (pc + 1) I_iald := by
  intro p l e R s m args below meth c hC lc st σ ls H locs cells slots hl hR hS
  unfold I_iald
  have hG := hC.2.2.2.2.2.2.2.2.2.2.1
  split
  · next i a r =>
    split
    · next t n f ha =>
      split
      · next ht =>
        split
        · next j hj =>
          intro Q _ _ kk
          have kk := sk_ (kk ls H locs hl hR hS)
          obtain ⟨hin, rfl, hlt⟩ := ix_in hj
          have hat : H[a]? = some (arrV (E.2.1 (t % 100)) n (fun j => .int (f j))) := (hR.2.2 a _ ha).1
          rw [ht] at hat
          exact W.iald hC.1 hC.2.1 hat ((hG.2.1 0 (by omega)).1 n _) (fun q => by cases q) (by show ¬ (i < 0 ∨ (arrV _ _ _).slots.size ≤ _); rw [arrV_size]; exact hin) (by show (arrV _ _ _).slots[_]? = _; rw [arrV_read _ _ hlt]) rfl rfl hd kk
        · exact True.intro
      · exact True.intro
    · exact True.intro
  · exact True.intro
theorem so_bald (hd : decode M.2.1 pc = .ok (.baload, 1)) : SoE_ E MT M bp pc (pc + 1) I_bald := by
  intro p l e R s m args below meth c hC lc st σ ls H locs cells slots hl hR hS
  unfold I_bald
  have hG := hC.2.2.2.2.2.2.2.2.2.2.1
  split
  · next i a r =>
    split
    · next t n f ha =>
      split
      · next ht =>
        split
        · next j hj =>
          intro Q _ _ kk
          have kk := sk_ (kk ls H locs hl hR hS)
          obtain ⟨hin, rfl, hlt⟩ := ix_in hj
          have hat : H[a]? = some (arrV (E.2.1 (t % 100)) n (fun j => .int (f j))) := (hR.2.2 a _ ha).1
          rcases ht with ht | ht
          · rw [ht] at hat
            exact W.bald hC.1 hC.2.1 hat ((hG.2.1 1 (by omega)).1 n _) (fun q => by cases q) (by show ¬ (i < 0 ∨ (arrV _ _ _).slots.size ≤ _); rw [arrV_size]; exact hin) (by show (arrV _ _ _).slots[_]? = _; rw [arrV_read _ _ hlt]) rfl rfl hd kk
          · rw [ht] at hat
            exact W.zald hC.1 hC.2.1 hat ((hG.2.1 2 (by omega)).1 n _) (fun q => by cases q) (by show ¬ (i < 0 ∨ (arrV _ _ _).slots.size ≤ _); rw [arrV_size]; exact hin) (by show (arrV _ _ _).slots[_]? = _; rw [arrV_read _ _ hlt]) rfl rfl hd kk
        · exact True.intro
      · exact True.intro
    · exact True.intro
  · exact True.intro
theorem so_lald (hd : decode M.2.1 pc = .ok (.laload, 1)) : SoE_ E MT M bp pc (pc + 1) I_lald := by
  intro p l e R s m args below meth c hC lc st σ ls H locs cells slots hl hR hS
  unfold I_lald
  have hG := hC.2.2.2.2.2.2.2.2.2.2.1
  split
  · next i a r =>
    split
    · next t n f ha =>
      split
      · next ht =>
        split
        · next j hj =>
          intro Q _ _ kk
          have kk := sk_ (kk ls H locs hl hR hS)
          obtain ⟨hin, rfl, hlt⟩ := ix_in hj
          have hat : H[a]? = some (arrV (E.2.1 (t % 100)) n (fun j => .long (f j))) := (hR.2.2 a _ ha).1
          rw [ht] at hat
          exact W.lald hC.1 hC.2.1 hat ((hG.2.1 3 (by omega)).1 n _) (fun q => by cases q) (by show ¬ (i < 0 ∨ (arrV _ _ _).slots.size ≤ _); rw [arrV_size]; exact hin) (by show (arrV _ _ _).slots[_]? = _; rw [arrV_read _ _ hlt]) rfl rfl hd kk
        · exact True.intro
      · exact True.intro
    · exact True.intro
  · exact True.intro
theorem so_aald (hd : decode M.2.1 pc = .ok (.aaload, 1)) : SoE_ E MT M bp pc (pc + 1) I_aald := by
  intro p l e R s m args below meth c hC lc st σ ls H locs cells slots hl hR hS
  unfold I_aald
  have hG := hC.2.2.2.2.2.2.2.2.2.2.1
  split
  · next i a r =>
    split
    · next t n f ha =>
      split
      · next ht =>
        split
        · next j hj =>
          intro Q _ _ kk
          have kk := sk_ (kk ls H locs hl hR hS)
          obtain ⟨hin, rfl, hlt⟩ := ix_in hj
          have hat : H[a]? = some (arrV (E.2.1 (t % 100)) n (fun j => va_rf (f j))) := (hR.2.2 a _ ha).1
          rcases ht with ht | ht
          · rw [ht] at hat
            exact W.aald hC.1 hC.2.1 hat ((hG.2.1 4 (by omega)).1 n _) rfl (fun q => by cases q) (by show ¬ (i < 0 ∨ (arrV _ _ _).slots.size ≤ _); rw [arrV_size]; exact hin) (by show (arrV _ _ _).slots[_]? = _; rw [arrV_read _ _ hlt]) rfl rfl hd kk
          · rw [ht] at hat
            exact W.aald hC.1 hC.2.1 hat ((hG.2.1 5 (by omega)).1 n _) rfl (fun q => by cases q) (by show ¬ (i < 0 ∨ (arrV _ _ _).slots.size ≤ _); rw [arrV_size]; exact hin) (by show (arrV _ _ _).slots[_]? = _; rw [arrV_read _ _ hlt]) rfl rfl hd kk
        · exact True.intro
      · exact True.intro
    · exact True.intro
  · exact True.intro
theorem so_iast (hd : decode M.2.1 pc = .ok (.iastore, 1)) : SoE_ E MT M bp pc (pc + 1) I_iast := by
  intro p l e R s m args below meth c hC lc st σ ls H locs cells slots hl hR hS
  unfold I_iast
  have hG := hC.2.2.2.2.2.2.2.2.2.2.1
  split
  · next x i a r =>
    split
    · next t n f ha =>
      split
      · next ht =>
        subst ht
        split
        · next j hj =>
          intro Q _ _ kk
          dsimp only at kk
          rw [Nat.sub_self, Nat.sub_self] at kk
          obtain ⟨hin, rfl, hlt⟩ := ix_in hj
          obtain ⟨hat, hfl, hln⟩ := hR.2.2 a _ ha
          have hat : H[a]? = some (vp_cell (E.2.1 0) (n, .inl f)) := hat
          have hba : E.2.2.1 ≤ a := hfl (by show 0 < 100; omega)
          refine W.iast hC.1 hC.2.1 hat ((hG.2.1 0 (by omega)).1 n (fun j => .int (f j))) (fun q => by cases q) (by show ¬ (i < 0 ∨ (arrV _ _ _).slots.size ≤ _); rw [arrV_size]; exact hin) rfl rfl hd fun H1 e z oq => ?_
          refine kk ls H1 _ hl (Rp_put hR ?_ z oq (fun _ _ => rfl) hba) (hS.put z oq hba)
          show H1[a]? = some (vp_cell _ _)
          rw [e]
          rw [vp_cell_i, vp_cell_i, arrV_store]
          congr 2
          funext q
          by_cases hq : q = i.toNatClampNeg
          · subst hq
            simp [updV, upd]
            try rfl
          · simp [updV, upd, hq]
        · exact True.intro
      · exact True.intro
    · exact True.intro
  · exact True.intro
theorem so_last (hd : decode M.2.1 pc = .ok (.lastore, 1)) : SoE_ E MT M bp pc (pc + 1) I_last := by
  intro p l e R s m args below meth c hC lc st σ ls H locs cells slots hl hR hS
  unfold I_last
  have hG := hC.2.2.2.2.2.2.2.2.2.2.1
  split
  · next x i a r =>
    split
    · next t n f ha =>
      split
      · next ht =>
        subst ht
        split
        · next j hj =>
          intro Q _ _ kk
          dsimp only at kk
          rw [Nat.sub_self, Nat.sub_self] at kk
          obtain ⟨hin, rfl, hlt⟩ := ix_in hj
          obtain ⟨hat, hfl, hln⟩ := hR.2.2 a _ ha
          have hat : H[a]? = some (vp_cell (E.2.1 3) (n, .inr (.inl f))) := hat
          have hba : E.2.2.1 ≤ a := hfl (by show 3 < 100; omega)
          refine W.last hC.1 hC.2.1 hat ((hG.2.1 3 (by omega)).1 n (fun j => .long (f j))) (fun q => by cases q) (by show ¬ (i < 0 ∨ (arrV _ _ _).slots.size ≤ _); rw [arrV_size]; exact hin) rfl rfl hd fun H1 e z oq => ?_
          refine kk ls H1 _ hl (Rp_put hR ?_ z oq trivial hba) (hS.put z oq hba)
          show H1[a]? = some (vp_cell _ _)
          rw [e]
          rw [vp_cell_l, vp_cell_l, arrV_store]
          congr 2
          funext q
          by_cases hq : q = i.toNatClampNeg
          · subst hq
            simp [updV, vp_updL]
            try rfl
          · simp [updV, vp_updL, hq]
        · exact True.intro
      · exact True.intro
    · exact True.intro
  · exact True.intro
theorem so_bast (hd : decode M.2.1 pc = .ok (.bastore, 1)) : SoE_ E MT M bp pc (pc + 1) I_bast := by
  intro p l e R s m args below meth c hC lc st σ ls H locs cells slots hl hR hS
  unfold I_bast
  have hG := hC.2.2.2.2.2.2.2.2.2.2.1
  split
  · next x i a r =>
    split
    · next t n f ha =>
      split
      · next j hj =>
        obtain ⟨hin, rfl, hlt⟩ := ix_in hj
        split
        · next ht =>
          subst ht
          intro Q _ _ kk
          dsimp only at kk
          rw [Nat.sub_self, Nat.sub_self] at kk
          obtain ⟨hat, hfl, hln⟩ := hR.2.2 a _ ha
          have hat : H[a]? = some (vp_cell (E.2.1 1) (n, .inl f)) := hat
          have hba : E.2.2.1 ≤ a := hfl (by show 1 < 100; omega)
          refine W.bast hC.1 hC.2.1 hat ((hG.2.1 1 (by omega)).1 n (fun j => .int (f j))) (fun q => by cases q) (by show ¬ (i < 0 ∨ (arrV _ _ _).slots.size ≤ _); rw [arrV_size]; exact hin) rfl rfl hd fun H1 e z oq => ?_
          refine kk ls H1 _ hl (Rp_put hR ?_ z oq (fit_upd hln (fit_byte x)) hba) (hS.put z oq hba)
          show H1[a]? = some (vp_cell _ _)
          rw [e]
          rw [vp_cell_i, vp_cell_i, arrV_store]
          congr 2
          funext q
          by_cases hq : q = i.toNatClampNeg
          · subst hq
            simp [updV, upd]
            try rfl
          · simp [updV, upd, hq]
        · split
          · next ht =>
            subst ht
            intro Q _ _ kk
            dsimp only at kk
            rw [Nat.sub_self, Nat.sub_self] at kk
            obtain ⟨hat, hfl, hln⟩ := hR.2.2 a _ ha
            have hat : H[a]? = some (vp_cell (E.2.1 2) (n, .inl f)) := hat
            have hba : E.2.2.1 ≤ a := hfl (by show 2 < 100; omega)
            refine W.zast hC.1 hC.2.1 hat ((hG.2.1 2 (by omega)).1 n (fun j => .int (f j))) (fun q => by cases q) (by show ¬ (i < 0 ∨ (arrV _ _ _).slots.size ≤ _); rw [arrV_size]; exact hin) rfl rfl hd fun H1 e z oq => ?_
            refine kk ls H1 _ hl (Rp_put hR ?_ z oq (fit_upd hln (fit_bool x)) hba) (hS.put z oq hba)
            show H1[a]? = some (vp_cell _ _)
            rw [e]
            rw [vp_cell_i, vp_cell_i, arrV_store]
            congr 2
            funext q
            by_cases hq : q = i.toNatClampNeg
            · subst hq
              simp [updV, upd]
              try rfl
            · simp [updV, upd, hq]
          · exact True.intro
      · exact True.intro
    · exact True.intro
  · exact True.intro
theorem so_aast {cs : List Nat} (hd : decode M.2.1 pc = .ok (.aastore, 1)) (hcs : ∀ ci ∈ cs, ∃ q, cl_[ci]? = some q ∧ Cond.castable q.1 "java/lang/Object" ∈ lw_tbl) : SoE_ E MT M bp pc (pc + 1) (I_aast cs) := by
  intro p l e R s m args below meth c hC lc st σ ls H locs cells slots hl hR hS
  unfold I_aast
  have hG := hC.2.2.2.2.2.2.2.2.2.2.1
  split
  · next v i a r =>
    split
    · next t n f ha =>
      split
      · next ht =>
        subst ht
        split
        · next j hj =>
          split
          · next o ho =>
            split
            · next hmem =>
              intro Q _ _ kk
              dsimp only at kk
              rw [Nat.sub_self, Nat.sub_self] at kk
              obtain ⟨hin, rfl, hlt⟩ := ix_in hj
              obtain ⟨hat, hfl, -⟩ := hR.2.2 a _ ha
              have hat : H[a]? = some (vp_cell (E.2.1 4) (n, .inr (.inr (.inr (.inr f))))) := hat
              have hba : E.2.2.1 ≤ a := hfl (by show 4 < 100; omega)
              obtain ⟨⟨q, hq, cellV, g1, g2, g3, -⟩, -, -⟩ := hR.2.2 v _ ho
              have hq : cl_[o.1 % 100]? = some q := hq
              have g2 : cellV.cls = E.1.1 (o.1 % 100) := g2
              obtain ⟨q', hq', hcast⟩ := hcs _ hmem
              cases Option.some.inj (hq.symm.trans hq')
              have hcls := (hG.1 _ _ hq).2
              obtain ⟨kA, comp, k1, k2, k3, -⟩ := (hG.2.1 4 (by omega)).2
              obtain ⟨kE, hkE, -⟩ := Vm.findClass_spec k3
              obtain ⟨c0, t1, f1, f2, f3⟩ := Cond.castable_spec (va_Nw.use (A := args) rfl (hG.2.2.1 _ hcast rfl))
              cases hcls.1.symm.trans f1
              cases k3.symm.trans f2
              obtain ⟨kC, hkC, -⟩ := hcls.2
              have h0 : ¬ i < 0 := fun q => hin (Or.inl q)
              refine W.aast hC.1 hC.2.1 hat (fun q h => by cases h) (fun h => by cases h) k1 k2 rfl hkE ⟨h0, by show _ < (arrV _ _ _).slots.size; rw [arrV_size]; exact hlt⟩ g1 (fun q h => by rw [g3] at h; cases h) (by rw [g2]; exact hkC) (by rw [g2]; exact f3) rfl rfl hd fun H1 e z oq => ?_
              refine kk ls H1 _ hl (Rp_put hR ?_ z oq trivial hba) (hS.put z oq hba)
              show H1[a]? = some (vp_cell _ _)
              rw [e]
              rw [vp_cell_q, vp_cell_q, arrV_store]
              congr 2
              funext q
              by_cases hq : q = i.toNatClampNeg
              · subst hq; simp [updV, va_up, va_rf]
              · simp [updV, va_up, hq]
            · exact True.intro
          · exact True.intro
        · exact True.intro
      · exact True.intro
    · exact True.intro
  · next i a r =>
    split
    · next t n f ha =>
      split
      · next ht =>
        subst ht
        split
        · next j hj =>
          intro Q _ _ kk
          dsimp only at kk
          rw [Nat.sub_self, Nat.sub_self] at kk
          obtain ⟨hin, rfl, hlt⟩ := ix_in hj
          obtain ⟨hat, hfl, -⟩ := hR.2.2 a _ ha
          have hat : H[a]? = some (vp_cell (E.2.1 4) (n, .inr (.inr (.inr (.inr f))))) := hat
          have hba : E.2.2.1 ≤ a := hfl (by show 4 < 100; omega)
          refine va_WaastN (C := "java/lang/Object") hC.1 hC.2.1 hat ((hG.2.1 4 (by omega)).1 n (fun j => va_rf (f j))) (fun h => by cases h) (by show ¬ (i < 0 ∨ (arrV _ _ _).slots.size ≤ _); rw [arrV_size]; exact hin) rfl rfl hd fun H1 e z oq => ?_
          refine kk ls H1 _ hl (Rp_put hR ?_ z oq trivial hba) (hS.put z oq hba)
          show H1[a]? = some (vp_cell _ _)
          rw [e]
          rw [vp_cell_q, vp_cell_q, arrV_store]
          congr 2
          funext q
          by_cases hq : q = i.toNatClampNeg
          · subst hq; simp [updV, va_up, va_rf]
          · simp [updV, va_up, hq]
        · exact True.intro
      · exact True.intro
    · exact True.intro
  · exact True.intro
theorem so_alen (hd : decode M.2.1 pc = .ok (.arraylength, 1)) : SoE_ E MT M bp pc (pc + 1) I_alen := by
  intro p l e R s m args below meth c hC lc st σ ls H locs cells slots hl hR hS
  unfold I_alen
  have hG := hC.2.2.2.2.2.2.2.2.2.2.1
  split
  · next a r =>
    split
    · next x ha =>
      split
      · next hx =>
        intro Q _ _ kk
        obtain ⟨t, n, x⟩ := x
        have hat : H[a]? = some (vp_cell (E.2.1 (t % 100)) (n, x)) := (hR.2.2 a _ ha).1
        have hA := (hG.2.1 (t % 100) hx).1
        have key : ∀ f : Nat → Value, vp_cell (E.2.1 (t % 100)) (n, x) = arrV (E.2.1 (t % 100)) n f → W p l e R s m args below meth c H locs cells slots Q (F0 m pc ls (.ref a :: r)) := by
          intro f hf
          rw [hf] at hat
          exact W.alen hC.1 hC.2.1 hat (hA n f) (by rw [arrV_size]; rfl) rfl rfl hd (sk_ (kk ls H locs hl hR hS))
        rcases x with f | f | f | f | f
        · exact key _ (vp_cell_i _ _ f)
        · exact key _ (vp_cell_l _ _ f)
        · exact key _ (vp_cell_f _ _ f)
        · exact key _ (vp_cell_d _ _ f)
        · exact key _ (vp_cell_q _ _ f)
      · exact True.intro
    · exact True.intro
  · exact True.intro
theorem so_newa {t : Nat} {at0 : ArrayType} (ht : t < 4) (hty : newarray.typeOf at0 = tyA_ t) (hw : Cond.arrayClass (tyA_ t) ∈ lw_all) (hd : decode M.2.1 pc = .ok (.newarray at0, 2)) : SoE_ E MT M bp pc (pc + 2) (I_newa t) := by
  intro p l e R s m args below meth c hC lc st σ ls H locs cells slots hl hR hS
  unfold I_newa
  have hG := hC.2.2.2.2.2.2.2.2.2.2.1
  split
  · next n r =>
    split
    · exact True.intro
    · next hn =>
      intro Q h1 h2 kk
      dsimp only at h1 h2 kk
      rw [Nat.add_sub_cancel_left] at h1 h2
      rw [Nat.add_sub_cancel_left, Nat.add_sub_cancel_left] at kk
      have hb : ∀ ty, n.toNatClampNeg * componentBytes ty ≤ 536870912 := by
        intro ty
        have h8 : componentBytes ty ≤ 8 := by cases ty <;> simp [componentBytes]
        have := Nat.mul_le_mul_left n.toNatClampNeg h8
        omega
      refine va_newaK hC.1 hC.2.1 (by rw [hty]; exact hC.2.2.2.2.2.2.1 _ hw) rfl hd rfl (fun h => hn (Or.inl h)) rfl (hb _) h1 h2 hR.1 fun H1 cA e1 z1 o1 hAr hNm => ?_
      have o1 : ∀ q, q < H.size → H1[q]? = H[q]? := by rw [hR.1]; exact o1
      have z1 : H1.size = H.size + 1 := by rw [hR.1]; exact z1
      have e1 : H1[H.size]? = some (arrV cA n.toNatClampNeg (fun _ => defaultValue (newarray.typeOf at0))) := by rw [hR.1]; exact e1
      refine kk ls H1 locs hl (Rp_push hR ?_ z1 o1 (by
        split
        · trivial
        · next h3 =>
          intro j _
          show fits (tyA_ (t % 100)) (.int 0) = true
          rw [Nat.mod_eq_of_lt (by omega : t < 100)]
          match t, ht with
          | 0, _ => rfl
          | 1, _ => decide
          | 2, _ => decide
          | 3, _ => exact absurd rfl h3)) (vS_push hS z1 o1)
      have hcA : cA = E.2.1 t := by
        have h3 := (hG.2.1 t (by omega)).2
        rw [hty] at hNm
        match t, ht, h3, hNm with
        | 0, _, h3, hNm => exact Option.some.inj (hNm.symm.trans h3)
        | 1, _, h3, hNm => exact Option.some.inj (hNm.symm.trans h3)
        | 2, _, h3, hNm => exact Option.some.inj (hNm.symm.trans h3)
        | 3, _, h3, hNm => exact Option.some.inj (hNm.symm.trans h3)
      have hm : t % 100 = t := Nat.mod_eq_of_lt (by omega)
      rw [hty, hcA] at e1
      split
      · next h3 =>
        subst h3
        exact e1
      · next h3 =>
        show H1[H.size]? = some (vp_cell (E.2.1 (t % 100)) _)
        rw [hm, e1]
        match t, ht, h3 with
        | 0, _, _ => rfl
        | 1, _, _ => rfl
        | 2, _, _ => rfl
        | 3, _, h3 => exact absurd rfl h3
  · exact True.intro
theorem so_newo {idx : Nat} (hw : Cond.classLink M.1.cls idx "java/lang/Object" ∈ lw_all) (hd : decode M.2.1 pc = .ok (.anewarray idx, 3)) : SoE_ E MT M bp pc (pc + 3) I_newo := by
  intro p l e R s m args below meth c hC lc st σ ls H locs cells slots hl hR hS
  unfold I_newo
  have hG := hC.2.2.2.2.2.2.2.2.2.2.1
  split
  · next n r =>
    split
    · exact True.intro
    · next hn =>
      intro Q h1 h2 kk
      dsimp only at h1 h2 kk
      rw [Nat.add_sub_cancel_left] at h1 h2
      rw [Nat.add_sub_cancel_left, Nat.add_sub_cancel_left] at kk
      refine W.anew hC.1 hC.2.1 hC.2.2.2.2.2.1 (hC.2.2.2.2.2.2.1 _ hw) (va_AO.use hG.2.2.2.2.2.2.2.2.2.2.1) rfl hd rfl (fun h => hn (Or.inl h)) (by omega) h1 h2 fun cA kA comp f1 f2 f3 f4 => ?_
      generalize hH1 : H.push ({ cls := cA, slots := Array.replicate n.toNatClampNeg .null, vm := .none } : Cell) = H1
      have z1 : H1.size = H.size + 1 := by rw [← hH1, Array.size_push]
      have e1 : H1[H.size]? = some (arrV cA n.toNatClampNeg (fun _ => .null)) := by rw [← hH1, Array.getElem?_push_size, ← arrV_new]
      have o1 : ∀ q, q < H.size → H1[q]? = H[q]? := fun q hq => by rw [← hH1, Array.getElem?_push_lt hq, Array.getElem?_eq_getElem hq]
      obtain ⟨kA', comp', -, -, -, hcA⟩ := (hG.2.1 4 (by omega)).2
      have hcA : cA = E.2.1 4 := Option.some.inj (f1.symm.trans hcA)
      subst hcA
      rw [hR.1]
      refine kk ls H1 locs hl (Rp_push hR ?_ z1 o1 trivial) (vS_push hS z1 o1)
      exact e1
  · exact True.intro
/-- the class ci, with default fields fs, can be made by the pool entry idx of own -/
def Nk_ (own : String) (idx ci : Nat) (fs : List Value) : Prop := ∃ (C : String) (T : u_T) (N : Nat) (ty : Nat → FieldType), cl_[ci]? = some (C, T, N) ∧ ci < 100 ∧ (∀ w ∈ u_ws C T N, w ∈ lw_all) ∧ (∀ k, k < N → parseFieldDescriptor (T k).2.2.1 = some (ty k)) ∧ Cond.classLink own idx C ∈ lw_all ∧ Cond.instantiable C N ∈ lw_all ∧ Cond.initialized C ∈ lw_all ∧ fs = (List.range N).map (fun k => defaultValue (ty k))
theorem so_new {ci idx : Nat} {fs : List Value} (hf : Nk_ M.1.cls idx ci fs) (hd : decode M.2.1 pc = .ok (.new idx, 3)) : SoE_ E MT M bp pc (pc + 3) (I_new ci fs) := by
  intro p l e R s m args below meth c hC lc st σ ls H locs cells slots hl hR hS
  have hG := hC.2.2.2.2.2.2.2.2.2.2.1
  intro Q h1 h2 kk
  obtain ⟨C, T, N, ty, hc, hci, hin, hty, hlk, hins, hini, hfs⟩ := hf
  have hlen : fs.length = N := by rw [hfs, List.length_map, List.length_range]
  dsimp only at h1 h2 kk
  rw [Nat.add_sub_cancel_left] at h1 h2
  rw [Nat.add_sub_cancel_left, Nat.add_sub_cancel_left] at kk
  rw [hlen] at h2 kk
  have hts := hC.2.2.2.2.2.2.1
  have hKn := hG.1 _ _ hc
  have hm : ci % 100 = ci := Nat.mod_eq_of_lt hci
  refine W.newcK hC.1 hC.2.1 hC.2.2.2.2.2.1 (hts _ hlk) (hts _ hins) (hts _ hini) rfl hd h1 h2 hKn.2.1 hR.1 fun H1 kC hkC e1 z1 o1 => ?_
  have o1 : ∀ q, q < H.size → H1[q]? = H[q]? := by rw [hR.1]; exact o1
  have z1 : H1.size = H.size + 1 := by rw [hR.1]; exact z1
  rw [← hR.1] at e1
  refine kk ls H1 locs hl (Rp_push hR ?_ z1 o1 ?_) (vS_push hS z1 o1)
  · refine ⟨(C, T, N), by show cl_[ci % 100]? = _; rw [hm]; exact hc, ?_⟩
    show t_OB H.size (E.1.1 (ci % 100)) N (E.1.2 (ci % 100)) H1 (vp_V fs)
    rw [hm]
    refine (u_born ty hts hin hKn hkC e1 hty).to (fun k hk => ?_)
    rw [hfs]
    simp [vp_V, hk]
  · intro q hq
    rw [hm] at hq
    cases hc.symm.trans hq
    exact hlen
end HA
