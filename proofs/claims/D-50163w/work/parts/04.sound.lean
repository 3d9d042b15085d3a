/-! SOUNDNESS: what an abstract run says of the machine -/
/-- a local's value -/
def lg_ : Lc_ → Nat → Option Value
  | [], _ => none
  | o :: _, 0 => o
  | _ :: r, i + 1 => lg_ r i
def nl_ : Option Value → Option Value
  | some (.long _) => none
  | some (.double _) => none
  | o => o
theorem nl_some {o : Option Value} {w : Value} (h : nl_ o = some w) : o = some w ∧ ¬ w.category = 2 := by
  unfold nl_ at h
  split at h
  · cases h
  · cases h
  · next h1 h2 =>
    refine ⟨h, fun hc => ?_⟩
    cases w <;> simp [Value.category] at hc
    · exact h1 _ h
    · exact h2 _ h
def st1_ : Lc_ → Nat → Value → Lc_
  | [], _, _ => []
  | _ :: r, 0, v => some v :: r
  | o :: r, 1, v => nl_ o :: st1_ r 0 v
  | o :: r, i + 2, v => o :: st1_ r (i + 1) v
def ps_ : Lc_ → Nat → List (Nat × Value)
  | [], _ => []
  | some v :: r, i => (i, v) :: ps_ r (i + 1)
  | none :: r, i => ps_ r (i + 1)
theorem ps_mem : ∀ (l : Lc_) (i k : Nat) (v : Value), (k, v) ∈ ps_ l i ↔ i ≤ k ∧ lg_ l (k - i) = some v := by
  intro l
  induction l with
  | nil => intro i k v; simp [ps_, lg_]
  | cons o r ih =>
    intro i k v
    have e : lg_ (o :: r) (k - i) = if k ≤ i then o else lg_ r (k - (i + 1)) := by
      by_cases h : k ≤ i
      · rw [if_pos h, show k - i = 0 by omega]; rfl
      · rw [if_neg h, show k - i = (k - (i + 1)) + 1 by omega]; rfl
    rw [e]
    cases o with
    | none =>
      rw [ps_, ih]
      by_cases h : k ≤ i
      · rw [if_pos h]
        constructor
        · rintro ⟨h1, -⟩; omega
        · rintro ⟨-, h1⟩; cases h1
      · rw [if_neg h]
        constructor
        · rintro ⟨h1, h2⟩; exact ⟨by omega, h2⟩
        · rintro ⟨h1, h2⟩; exact ⟨by omega, h2⟩
    | some w =>
      rw [ps_, List.mem_cons, ih]
      by_cases h : k ≤ i
      · rw [if_pos h]
        constructor
        · rintro (h1 | ⟨h1, -⟩)
          · cases h1; exact ⟨Nat.le_refl _, rfl⟩
          · omega
        · rintro ⟨h1, h2⟩
          cases h2
          exact Or.inl (by rw [show k = i by omega])
      · rw [if_neg h]
        constructor
        · rintro (h1 | ⟨h1, h2⟩)
          · cases h1; omega
          · exact ⟨by omega, h2⟩
        · rintro ⟨h1, h2⟩; exact Or.inr ⟨by omega, h2⟩
def lvh_ (ls : Array Slot) (n : Nat) (l : Lc_) : Prop := ls.size = n ∧ lv_wf ls ∧ ∀ (i : Nat) (v : Value), lg_ l i = some v → ls[i]? = some (.val v)
theorem lvh_.has {ls : Array Slot} {n : Nat} {l : Lc_} (h : lvh_ ls n l) : lv_has ls n (ps_ l 0) :=
  ⟨h.1, h.2.1, fun q hq => by
    obtain ⟨k, v⟩ := q
    exact h.2.2 k v ((ps_mem l 0 k v).mp hq).2⟩
theorem lvh_.of {ls : Array Slot} {n : Nat} {l : Lc_} (h : lv_has ls n (ps_ l 0)) : lvh_ ls n l :=
  ⟨h.1, h.2.1, fun i v hv => h.2.2 (i, v) ((ps_mem l 0 i v).mpr ⟨Nat.zero_le _, hv⟩)⟩
theorem st1_get : ∀ (l : Lc_) (i : Nat) (v : Value) (k : Nat) (w : Value), lg_ (st1_ l i v) k = some w → (k = i ∧ w = v) ∨ (k ≠ i ∧ lg_ l k = some w ∧ ¬ (k + 1 = i ∧ w.category = 2)) := by
  intro l
  induction l with
  | nil => intro i v k w h; simp [st1_, lg_] at h
  | cons o r ih =>
    intro i v k w h
    match i with
    | 0 =>
      rw [st1_] at h
      cases k with
      | zero => left; exact ⟨rfl, by simpa [lg_] using h.symm⟩
      | succ k => right; exact ⟨by omega, h, by omega⟩
    | 1 =>
      have h : lg_ (nl_ o :: st1_ r 0 v) k = some w := h
      cases k with
      | zero =>
        right
        obtain ⟨h1, h2⟩ := nl_some h
        exact ⟨by omega, h1, fun h3 => h2 h3.2⟩
      | succ k =>
        have h : lg_ (st1_ r 0 v) k = some w := h
        rcases ih _ _ _ _ h with ⟨h1, h2⟩ | ⟨h1, h2, h3⟩
        · left; exact ⟨by omega, h2⟩
        · right; exact ⟨by omega, h2, by rintro ⟨h4, h5⟩; exact h3 ⟨by omega, h5⟩⟩
    | i + 2 =>
      have h : lg_ (o :: st1_ r (i + 1) v) k = some w := h
      cases k with
      | zero => right; exact ⟨by omega, h, by omega⟩
      | succ k =>
        rw [lg_] at h
        rcases ih _ _ _ _ h with ⟨h1, h2⟩ | ⟨h1, h2, h3⟩
        · left; exact ⟨by omega, h2⟩
        · right; exact ⟨by omega, h2, by rintro ⟨h4, h5⟩; exact h3 ⟨by omega, h5⟩⟩
def cn_ : Lc_ → Nat → Lc_
  | [], _ => []
  | _ :: r, 0 => none :: r
  | o :: r, i + 1 => o :: cn_ r i
theorem cn_get : ∀ (l : Lc_) (i k : Nat) (w : Value), lg_ (cn_ l i) k = some w → k ≠ i ∧ lg_ l k = some w := by
  intro l
  induction l with
  | nil => intro i k w h; simp [cn_, lg_] at h
  | cons o r ih =>
    intro i k w h
    cases i with
    | zero =>
      cases k with
      | zero => simp [cn_, lg_] at h
      | succ k => exact ⟨by omega, h⟩
    | succ i =>
      cases k with
      | zero => exact ⟨by omega, h⟩
      | succ k =>
        rw [cn_, lg_] at h
        obtain ⟨h1, h2⟩ := ih _ _ _ h
        exact ⟨by omega, h2⟩
def st2_ (l : Lc_) (i : Nat) (v : Value) : Lc_ := cn_ (st1_ l i v) (i + 1)
theorem lvh_.st1 {ls : Array Slot} {n : Nat} {l : Lc_} {i : Nat} {v : Value} (h : lv_has ls n ((i, v) :: (ps_ l 0).filter (fun q => !(q.1 == i) && !(q.1 + 1 == i && q.2.category == 2)))) : lvh_ ls n (st1_ l i v) :=
  ⟨h.1, h.2.1, fun k w hw => by
    rcases st1_get _ _ _ _ _ hw with ⟨rfl, rfl⟩ | ⟨h1, h2, h3⟩
    · exact h.2.2 (k, w) List.mem_cons_self
    · refine h.2.2 (k, w) (List.mem_cons_of_mem _ (List.mem_filter.mpr ⟨(ps_mem l 0 k w).mpr ⟨Nat.zero_le _, h2⟩, ?_⟩))
      have h4 : ¬ (k + 1 = i ∧ w.category = 2) := h3
      simp only [Bool.and_eq_true, Bool.not_eq_true', beq_eq_false_iff_ne, ne_eq]
      refine ⟨h1, ?_⟩
      cases hx : (k + 1 == i && w.category == 2)
      · rfl
      · exact absurd (by simpa using hx) h4⟩
theorem lvh_.st2 {ls : Array Slot} {n : Nat} {l : Lc_} {i : Nat} {v : Value} (h : lv_has ls n ((i, v) :: (ps_ l 0).filter (fun q => !(q.1 == i) && (!(q.1 == i + 1) && !(q.1 + 1 == i && q.2.category == 2))))) : lvh_ ls n (st2_ l i v) :=
  ⟨h.1, h.2.1, fun k w hw => by
    obtain ⟨h0, hw⟩ := cn_get _ _ _ _ hw
    rcases st1_get _ _ _ _ _ hw with ⟨rfl, rfl⟩ | ⟨h1, h2, h3⟩
    · exact h.2.2 (k, w) List.mem_cons_self
    · refine h.2.2 (k, w) (List.mem_cons_of_mem _ (List.mem_filter.mpr ⟨(ps_mem l 0 k w).mpr ⟨Nat.zero_le _, h2⟩, ?_⟩))
      have h4 : ¬ (k + 1 = i ∧ w.category = 2) := h3
      simp only [Bool.and_eq_true, Bool.not_eq_true', beq_eq_false_iff_ne, ne_eq]
      refine ⟨h1, h0, ?_⟩
      cases hx : (k + 1 == i && w.category == 2)
      · rfl
      · exact absurd (by simpa using hx) h4⟩
/-- which locals go on: the others are forgotten -/
def mk_ : List Bool → Lc_ → Lc_
  | true :: bs, o :: r => o :: mk_ bs r
  | false :: bs, _ :: r => none :: mk_ bs r
  | _, r => r
theorem mk_get : ∀ (bs : List Bool) (l : Lc_) (k : Nat) (w : Value), lg_ (mk_ bs l) k = some w → lg_ l k = some w := by
  intro bs
  induction bs with
  | nil => intro l k w h; rw [mk_] at h; exact h; simp; simp
  | cons b bs ih =>
    intro l k w h
    cases l with
    | nil => rw [mk_] at h; exact h; simp; simp
    | cons o r =>
      cases b with
      | true =>
        rw [mk_] at h
        cases k with
        | zero => exact h
        | succ k => exact ih r k w h
      | false =>
        rw [mk_] at h
        cases k with
        | zero => simp [lg_] at h
        | succ k => exact ih r k w h
theorem lvh_.mask {ls : Array Slot} {n : Nat} {l : Lc_} (bs : List Bool) (h : lvh_ ls n l) : lvh_ ls n (mk_ bs l) := ⟨h.1, h.2.1, fun i v hv => h.2.2 i v (mk_get _ _ _ _ hv)⟩
/-! the heap -/
/-- array types' classes, as the launch has them -/
def cv_ (dA : Nat → ClassId) : Ac_ → va_E
  | .inl a => .inl (dA (a.1 % 100), a.2)
  | .inr o => .inr (o.1 % 100, o.2)
def fl_ : Ac_ → Nat
  | .inl a => a.1
  | .inr o => o.1
/-- array types by number -/
def tyA_ (k : Nat) : FieldType := match k with
  | 0 => .int
  | 1 => .byte
  | 2 => .boolean
  | 3 => .long
  | 4 => .object "java/lang/Object"
  | _ => .object "java/lang/Integer"
/-- an object's fields are all there; small arrays hold small numbers -/
def ln_ (cl : List vw_C) : Ac_ → Prop
  | .inl (t, n, .inl f) => ∀ j, j < n → fits (tyA_ (t % 100)) (.int (f j)) = true
  | .inl _ => True
  | .inr o => ∀ q, cl[o.1 % 100]? = some q → o.2.length = q.2.2
/-- the heap H holds σ; what is below base is never written, its known cells are marked by + 100 -/
def Rp_ (D : va_G) (cl : List vw_C) (dA : Nat → ClassId) (base : Nat) (σ : As_) (H : Heap) : Prop :=
  H.size = σ.1 ∧ base ≤ σ.1 ∧ ∀ (a : Nat) (c : Ac_), σ.2.2 a = some c → va_at D cl (a, cv_ dA c) H ∧ (fl_ c < 100 → base ≤ a) ∧ ln_ cl c
def Ab_ (base : Nat) : Nat → Prop := fun q => base ≤ q
/-- a method: its name, code, locals, answer, handlers, height -/
abbrev Mi_ : Type := MethodName × ByteArray × Nat × Option FieldType × List (Nat × Nat × Nat × Nat) × Nat
def wsM_ (M : Mi_) : List Cond := match M.2.2.2.2.1 with
  | [] => ws_ M.1 M.2.1 M.2.2.1 M.2.2.2.1
  | h :: t => wsW_ M.1 M.2.1 M.2.2.1 M.2.2.2.1 (h :: t)
section SO
variable (D : va_G) (cl : List vw_C) (dA : Nat → ClassId) (base : Nat) (GF : State → Prop) (cn : Nat → String)
def Rg2_ (σ : As_) (U : State) : Prop := GF U ∧ Rp_ D cl dA base σ U.heap
def Qr_ (res : Rs_ × As_) : Array Value → State → Outcome → State → Prop := fun _ st o t => ∃ v, res.1 = .inl v ∧ o = .returned v ∧ Rp_ D cl dA base res.2 t.heap ∧ va_F (Ab_ base) st t
def Qx_ (res : Rs_ × As_) : Addr → String → State → State → Prop := fun q E st t => ∃ c, res.1 = .inr (c, q) ∧ E = cn c ∧ Rp_ D cl dA base res.2 t.heap ∧ va_F (Ab_ base) st t
/-- the contract that a run gives -/
def Cm_ (M : Mi_) (as : List Value) (σ : As_) (res : Rs_ × As_) : Prop := ∀ l : Launch, l.stackTraces = false →
  vx_Met l M.1 (wsM_ M) { frames := M.2.2.2.2.2, cells := res.2.1 - σ.1, slots := res.2.2.1 - σ.2.1, locals := 64 * M.2.2.2.2.2 } (va_Pc as (Rg2_ D cl dA base GF σ)) (Qr_ D cl dA base res) (Qx_ D cl dA base cn res) (res.2.1 - σ.1) (res.2.2.1 - σ.2.1) (Ab_ base)
/-- where a method's body stands -/
def Cx_ (M : Mi_) (p : Program) (l : Launch) (R : Room) (s : State) (m : MethodId) (args : Array Value) (meth : Method) (c : Code) : Prop :=
  p.tables.exec = Jvm.exec ∧ c.code = M.2.1 ∧ meth.sig.returnType = M.2.2.2.1 ∧ meth.locks = false ∧ c.maxLocals = M.2.2.1 ∧ s.vm.findClass M.1.cls = some m.cls ∧ (∀ w ∈ lw_all, w.before args s = true) ∧ l.stackTraces = false ∧ c.exceptionTable.toList = tableOf M.2.2.2.2.1 ∧ meth.name = M.1.name ∧ GF s ∧ M.2.2.2.2.2 ≤ R.frames ∧ 64 * M.2.2.2.2.2 ≤ R.locals ∧ base ≤ s.heap.size
/-- a throw at pc: what the method's handlers make of it -/
def Ho_ (M : Mi_) (bp : Nat → Nat) (pc : Nat) (hs : Hs_) : Prop :=
  ∀ (p : Program) (l : Launch) (e : Env) (R : Room) (s : State) (m : MethodId) (args : Array Value) (below : List Frame) (meth : Method) (c : Code), Cx_ base GF M p l R s m args meth c →
  ∀ (k a : Nat) (ce : Cell) (H : Heap) (locs : List Loc) (cells slots : Nat) (ls : Array Slot) (st : List Value), H[a]? = some ce → ce.vm = .none → s.vm.findClass (cn k) = some ce.cls →
  match hs k with
  | none => True
  | some (some b) => ∀ Q, W p l e R s m args below meth c H locs cells slots Q (F0 m (bp b) ls [.ref a]) → vx_W p l e R s m args below meth c H locs cells slots Q (F0 m pc ls st) a
  | some none => ∀ (Qc : Array Value → State → Outcome → State → Prop) (XC : Addr → String → State → State → Prop) (mc ms : Nat), (∀ t : State, t.heap = H → s.vm.Alike t.vm → XC a (cn k) s t) → (∀ z ∈ locs, Ab_ base z.base) → cells ≤ mc → slots ≤ ms →
      vx_W p l e R s m args below meth c H locs cells slots (vx_MQ below Qc XC args s mc ms (Ab_ base)) (F0 m pc ls st) a
/-- sizes grow; only 'next' changes the heap -/
def mp_ (σ : As_) (x : Option Sp_) : Prop := match x with
  | none => True
  | some (.inl (_, _, σ')) => σ.1 ≤ σ'.1 ∧ σ.2.1 ≤ σ'.2.1
  | some (.inr (.inl (_, _, _, σ'))) => σ' = σ
  | some (.inr (.inr (.inl (_, σ')))) => σ' = σ
  | some (.inr (.inr (.inr (.inl (_, _, _, σ'))))) => σ' = σ
  | some (.inr (.inr (.inr (.inr _)))) => True
def Mn_ (i : Ii_) : Prop := ∀ (lc : Lc_) (st : List Value) (σ : As_), mp_ σ (i lc st σ)
/-- an instruction's soundness, by what it does -/
def sp_ (MT : Nat → Mi_) (M : Mi_) (bp : Nat → Nat) (pc npc : Nat) (p : Program) (l : Launch) (e : Env) (R : Room) (s : State) (m : MethodId) (args : Array Value) (below : List Frame) (meth : Method) (c : Code)
  (st : List Value) (σ : As_) (ls : Array Slot) (H : Heap) (locs : List Loc) (cells slots : Nat) (x : Option Sp_) : Prop :=
  match x with
  | none => True
  | some (.inl (lc', st', σ')) => ∀ Q, cells + (σ'.1 - σ.1) ≤ R.cells → slots + (σ'.2.1 - σ.2.1) ≤ R.slots →
      (∀ (ls' : Array Slot) (H' : Heap) (locs' : List Loc), lvh_ ls' M.2.2.1 lc' → Rp_ D cl dA base σ' H' → va_S (Ab_ base) s.heap H' locs' → W p l e R s m args below meth c H' locs' (cells + (σ'.1 - σ.1)) (slots + (σ'.2.1 - σ.2.1)) Q (F0 m npc ls' st')) →
      W p l e R s m args below meth c H locs cells slots Q (F0 m pc ls st)
  | some (.inr (.inl (b, lc', st', _))) => ∀ Q, (∀ (ls' : Array Slot), lvh_ ls' M.2.2.1 lc' → W p l e R s m args below meth c H locs cells slots Q (F0 m (bp b) ls' st')) →
      W p l e R s m args below meth c H locs cells slots Q (F0 m pc ls st)
  | some (.inr (.inr (.inl (v, _)))) => ∀ XC, W p l e R s m args below meth c H locs cells slots (vx_MQ below (Qr_ D cl dA base (.inl v, σ)) XC args s cells slots (Ab_ base)) (F0 m pc ls st)
  | some (.inr (.inr (.inr (.inl (k, a, hs, _))))) => Ho_ base GF cn M bp pc hs ∧ (∃ ce : Cell, H[a]? = some ce ∧ ce.vm = .none ∧ s.vm.findClass (cn k) = some ce.cls) ∧ ∃ st1, ∀ Q, vx_W p l e R s m args below meth c H locs cells slots Q (F0 m pc ls st1) a → W p l e R s m args below meth c H locs cells slots Q (F0 m pc ls st)
  | some (.inr (.inr (.inr (.inr (k, as, st', hs))))) => (MT k).2.2.2.2.2 < M.2.2.2.2.2 ∧ (es_ as).length ≤ (MT k).2.2.1 ∧ Ho_ base GF cn M bp pc hs ∧ ∀ res, σ.1 ≤ res.2.1 → σ.2.1 ≤ res.2.2.1 → Cm_ D cl dA base GF cn (MT k) as σ res → ∀ Q, cells + (res.2.1 - σ.1) ≤ R.cells → slots + (res.2.2.1 - σ.2.1) ≤ R.slots →
      (∀ v, res.1 = .inl v → ∀ (H' : Heap) (locs' : List Loc), Rp_ D cl dA base res.2 H' → va_S (Ab_ base) s.heap H' locs' → W p l e R s m args below meth c H' locs' (cells + (res.2.1 - σ.1)) (slots + (res.2.2.1 - σ.2.1)) Q (F0 m npc ls (v.toList ++ st'))) →
      (∀ k2 a, res.1 = .inr (k2, a) → ∀ (H' : Heap) (locs' : List Loc) (ce : Cell), Rp_ D cl dA base res.2 H' → va_S (Ab_ base) s.heap H' locs' → H'[a]? = some ce → ce.vm = .none → s.vm.findClass (cn k2) = some ce.cls → vx_W p l e R s m args below meth c H' locs' (cells + (res.2.1 - σ.1)) (slots + (res.2.2.1 - σ.2.1)) Q (F0 m pc ls st') a) →
      W p l e R s m args below meth c H locs cells slots Q (F0 m pc ls st)
def So_ (MT : Nat → Mi_) (M : Mi_) (bp : Nat → Nat) (pc npc : Nat) (i : Ii_) : Prop :=
  ∀ (p : Program) (l : Launch) (e : Env) (R : Room) (s : State) (m : MethodId) (args : Array Value) (below : List Frame) (meth : Method) (c : Code), Cx_ base GF M p l R s m args meth c →
  ∀ (lc : Lc_) (st : List Value) (σ : As_) (ls : Array Slot) (H : Heap) (locs : List Loc) (cells slots : Nat), lvh_ ls M.2.2.1 lc → Rp_ D cl dA base σ H → va_S (Ab_ base) s.heap H locs →
  sp_ D cl dA base GF cn MT M bp pc npc p l e R s m args below meth c st σ ls H locs cells slots (i lc st σ)
/-- a row of instructions, sound one behind another -/
def Bk_ (MT : Nat → Mi_) (M : Mi_) (bp : Nat → Nat) : Nat → List Ii_ → Prop
  | _, [] => True
  | pc, i :: is => Mn_ i ∧ ∃ npc, So_ D cl dA base GF cn MT M bp pc npc i ∧ Bk_ MT M bp npc is
/-- what a method must be beside its blocks -/
def Mk_ (M : Mi_) : Prop := plainFor M.1 = true
theorem ex_mn {B : Nat → Nat → List Ii_} {L : Nat → Nat} (hB : ∀ (m b : Nat) (i : Ii_), i ∈ B m b → Mn_ i) : ∀ (n m : Nat) (is : List Ii_) (l : Lc_) (st : List Value) (σ : As_) (r : Rs_ × As_), (∀ i ∈ is, Mn_ i) → ex_ B L n m is l st σ = some r → σ.1 ≤ r.2.1 ∧ σ.2.1 ≤ r.2.2.1 := by
  intro n
  induction n with
  | zero => intro m is l st σ r _ h; simp [ex_] at h
  | succ n ih =>
    intro m is l st σ r hi h
    cases is with
    | nil => simp [ex_] at h
    | cons i is =>
      have h1 := hi i List.mem_cons_self l st σ
      have h2 : ∀ i ∈ is, Mn_ i := fun j hj => hi j (List.mem_cons_of_mem _ hj)
      rw [ex_] at h
      rcases he : i l st σ with _ | (⟨l', st', σ'⟩ | (⟨b, l', st', σ'⟩ | (⟨v, σ'⟩ | (⟨c, a, hs, σ'⟩ | ⟨k, as, st', hs⟩))))
      · rw [he] at h; cases h
      · rw [he] at h h1
        have h3 := ih _ _ _ _ _ _ h2 h
        exact ⟨Nat.le_trans h1.1 h3.1, Nat.le_trans h1.2 h3.2⟩
      · rw [he] at h h1
        have h1 : σ' = σ := h1
        subst h1
        exact ih _ _ _ _ _ _ (hB m b) h
      · rw [he] at h h1
        have h1 : σ' = σ := h1
        cases h
        subst h1
        exact ⟨Nat.le_refl _, Nat.le_refl _⟩
      · rw [he] at h h1
        have h1 : σ' = σ := h1
        dsimp only at h
        rcases hh : hs c with _ | (_ | b)
        · rw [hh] at h; cases h
        · rw [hh] at h
          cases h
          subst h1
          exact ⟨Nat.le_refl _, Nat.le_refl _⟩
        · rw [hh] at h
          subst h1
          exact ih _ _ _ _ _ _ (hB m b) h
      · rw [he] at h
        dsimp only at h
        rcases hc : ex_ B L n k (B k 0) (en_ (L k) as) [] σ with _ | ⟨(v | ⟨c, a⟩), σ'⟩
        · rw [hc] at h; cases h
        · rw [hc] at h
          have h3 := ih _ _ _ _ _ _ (hB k 0) hc
          have h4 := ih _ _ _ _ _ _ h2 h
          exact ⟨Nat.le_trans h3.1 h4.1, Nat.le_trans h3.2 h4.2⟩
        · rw [hc] at h
          have h3 := ih _ _ _ _ _ _ (hB k 0) hc
          dsimp only at h
          rcases hh : hs c with _ | (_ | b)
          · rw [hh] at h; cases h
          · rw [hh] at h
            cases h
            exact h3
          · rw [hh] at h
            have h4 := ih _ _ _ _ _ _ (hB m b) h
            exact ⟨Nat.le_trans h3.1 h4.1, Nat.le_trans h3.2 h4.2⟩
theorem Bk_mn {MT : Nat → Mi_} {M : Mi_} {bp : Nat → Nat} : ∀ (is : List Ii_) (pc : Nat), Bk_ D cl dA base GF cn MT M bp pc is → ∀ i ∈ is, Mn_ i := by
  intro is
  induction is with
  | nil => intro pc _ i hi; cases hi
  | cons j is ih =>
    intro pc h i hi
    obtain ⟨h1, npc, -, h3⟩ := h
    rcases List.mem_cons.mp hi with rfl | hi
    · exact h1
    · exact ih npc h3 i hi
theorem so_body {MT : Nat → Mi_} {B : Nat → Nat → List Ii_} {bp : Nat → Nat → Nat} (hB : ∀ m b, Bk_ D cl dA base GF cn MT (MT m) (bp m) (bp m b) (B m b)) (n : Nat)
    (hC : ∀ (k : Nat) (as : List Value) (σ : As_) (res : Rs_ × As_) (n' : Nat), n' < n → (es_ as).length ≤ (MT k).2.2.1 → ex_ B (fun k => (MT k).2.2.1) n' k (B k 0) (en_ ((MT k).2.2.1) as) [] σ = some res → Cm_ D cl dA base GF cn (MT k) as σ res) :
    ∀ (n' : Nat), n' ≤ n → ∀ (m : Nat) (is : List Ii_) (lc : Lc_) (st : List Value) (σ : As_) (res : Rs_ × As_), ex_ B (fun k => (MT k).2.2.1) n' m is lc st σ = some res → ∀ pc, Bk_ D cl dA base GF cn MT (MT m) (bp m) pc is →
    ∀ (p : Program) (l : Launch) (e : Env) (R : Room) (s : State) (mi : MethodId) (args : Array Value) (below : List Frame) (meth : Method) (c : Code), Cx_ base GF (MT m) p l R s mi args meth c →
    ∀ (ls : Array Slot) (H : Heap) (locs : List Loc) (cells slots mc ms : Nat), lvh_ ls (MT m).2.2.1 lc → Rp_ D cl dA base σ H → va_S (Ab_ base) s.heap H locs → cells + (res.2.1 - σ.1) = mc → slots + (res.2.2.1 - σ.2.1) = ms → mc ≤ R.cells → ms ≤ R.slots →
    W p l e R s mi args below meth c H locs cells slots (vx_MQ below (Qr_ D cl dA base res) (Qx_ D cl dA base cn res) args s mc ms (Ab_ base)) (F0 mi pc ls st) := by
  have hMn : ∀ (m b : Nat) (i : Ii_), i ∈ B m b → Mn_ i := fun m b => Bk_mn D cl dA base GF cn _ _ (hB m b)
  intro n'
  induction n' with
  | zero => intro _ m is lc st σ res h; simp [ex_] at h
  | succ n' ih =>
    intro hn m is lc st σ res h pc hBk p l e R s mi args below meth c hCx ls H locs cells slots mc ms hl hR hS e1 e2 h1 h2
    have ih := ih (by omega)
    cases is with
    | nil => simp [ex_] at h
    | cons i is =>
      obtain ⟨hm, npc, hso, hrest⟩ := hBk
      have hso := hso p l e R s mi args below meth c hCx lc st σ ls H locs cells slots hl hR hS
      have hm := hm lc st σ
      have hmr := Bk_mn D cl dA base GF cn _ _ hrest
      rw [ex_] at h
      rcases he : i lc st σ with _ | (⟨l', st', σ'⟩ | (⟨b, l', st', σ'⟩ | (⟨v, σ'⟩ | (⟨k, a, hs, σ'⟩ | ⟨k, as, st', hs⟩))))
      · rw [he] at h; cases h
      · rw [he] at h hm hso
        dsimp only [sp_, mp_] at h hm hso
        have h3 := ex_mn hMn _ _ _ _ _ _ _ hmr h
        refine hso _ (by omega) (by omega) fun ls' H' locs' hl' hR' hS' => ?_
        exact ih m is l' st' σ' res h npc hrest p l e R s mi args below meth c hCx ls' H' locs' _ _ mc ms hl' hR' hS' (by omega) (by omega) h1 h2
      · rw [he] at h hm hso
        dsimp only [sp_, mp_] at h hm hso
        subst hm
        refine hso _ fun ls' hl' => ?_
        exact ih m (B m b) l' st' σ' res h (bp m b) (hB m b) p l e R s mi args below meth c hCx ls' H locs _ _ mc ms hl' hR hS e1 e2 h1 h2
      · rw [he] at h hm hso
        dsimp only [sp_, mp_] at h hm hso
        subst hm
        cases h
        dsimp only at e1 e2 hso
        have e1 : cells = mc := by omega
        have e2 : slots = ms := by omega
        subst e1; subst e2
        exact hso _
      · rw [he] at h hm hso
        dsimp only [sp_, mp_] at h hm hso
        subst hm
        obtain ⟨hHo, ⟨ce, hce, hv, hcl⟩, st1, hw⟩ := hso
        have hHo := hHo p l e R s mi args below meth c hCx k a ce H locs cells slots ls st1 hce hv hcl
        refine hw _ ?_
        rcases hh : hs k with _ | (_ | b)
        · rw [hh] at h; cases h
        · rw [hh] at h hHo
          dsimp only at h hHo
          cases h
          dsimp only at e1 e2
          refine hHo _ _ _ _ (fun t ht hvm => ⟨k, rfl, rfl, by rw [ht]; exact hR, hS.F ht⟩) hS.2.2 (by omega) (by omega)
        · rw [hh] at h hHo
          dsimp only at h hHo
          refine hHo _ ?_
          exact ih m (B m b) lc [.ref a] σ' res h (bp m b) (hB m b) p l e R s mi args below meth c hCx ls H locs _ _ mc ms hl hR hS e1 e2 h1 h2
      · rw [he] at h hso
        dsimp only [sp_] at h hso
        obtain ⟨hht, hlen, hHo, hso⟩ := hso
        rcases hc : ex_ B (fun k => (MT k).2.2.1) n' k (B k 0) (en_ ((MT k).2.2.1) as) [] σ with _ | ⟨(v | ⟨k2, a⟩), σ'⟩
        · rw [hc] at h; cases h
        · rw [hc] at h
          dsimp only at h
          have h3 := ex_mn hMn _ _ _ _ _ _ _ (hMn k 0) hc
          have h4 := ex_mn hMn _ _ _ _ _ _ _ hmr h
          dsimp only at h3 h4
          refine hso (.inl v, σ') h3.1 h3.2 (hC k as σ _ n' (by omega) hlen hc) _ (by dsimp only; omega) (by dsimp only; omega) (fun v' hv' H' locs' hR' hS' => ?_) (fun k2 a hx => by cases hx)
          cases hv'
          dsimp only at hR' ⊢
          exact ih m is lc _ σ' res h npc hrest p l e R s mi args below meth c hCx ls H' locs' _ _ mc ms hl hR' hS' (by omega) (by omega) h1 h2
        · rw [hc] at h
          dsimp only at h
          have h3 := ex_mn hMn _ _ _ _ _ _ _ (hMn k 0) hc
          dsimp only at h3
          rcases hh : hs k2 with _ | (_ | b)
          · rw [hh] at h; cases h
          · rw [hh] at h
            dsimp only at h
            cases h
            dsimp only at e1 e2
            refine hso (.inr (k2, a), σ') h3.1 h3.2 (hC k as σ _ n' (by omega) hlen hc) _ (by dsimp only; omega) (by dsimp only; omega) (fun v' hv' => by cases hv') (fun k2 a hx H' locs' ce hR' hS' hce hv hcl => ?_)
            cases hx
            have hHo := hHo p l e R s mi args below meth c hCx k2 a ce H' locs' (cells + (σ'.1 - σ.1)) (slots + (σ'.2.1 - σ.2.1)) ls st' hce hv hcl
            rw [hh] at hHo
            exact hHo _ _ _ _ (fun t ht hvm => ⟨k2, rfl, rfl, by rw [ht]; exact hR', hS'.F ht⟩) hS'.2.2 (by omega) (by omega)
          · rw [hh] at h
            dsimp only at h
            have h4 := ex_mn hMn _ _ _ _ _ _ _ (hMn m b) h
            refine hso (.inr (k2, a), σ') h3.1 h3.2 (hC k as σ _ n' (by omega) hlen hc) _ (by dsimp only; omega) (by dsimp only; omega) (fun v' hv' => by cases hv') (fun k2 a hx H' locs' ce hR' hS' hce hv hcl => ?_)
            cases hx
            have hHo := hHo p l e R s mi args below meth c hCx k2 a ce H' locs' (cells + (σ'.1 - σ.1)) (slots + (σ'.2.1 - σ.2.1)) ls st' hce hv hcl
            rw [hh] at hHo
            dsimp only at hHo hR' ⊢
            refine hHo _ ?_
            exact ih m (B m b) lc [.ref a] σ' res h (bp m b) (hB m b) p l e R s mi args below meth c hCx ls H' locs' _ _ mc ms hl hR' hS' (by omega) (by omega) h1 h2
theorem es_sl : ∀ (vs : List Value), (lg_sl vs).length = (es_ vs).length := by
  intro vs
  induction vs with
  | nil => rfl
  | cons v vs ih =>
    unfold lg_sl at ih ⊢
    rw [List.flatMap_cons, List.length_append, ih]
    cases v <;> simp [es_, Value.category] <;> omega
theorem es_get : ∀ (vs : List Value) (i : Nat) (v : Value), lg_ (es_ vs) i = some v → ∀ j, (i + j, v) ∈ lv_args j vs := by
  intro vs
  induction vs with
  | nil => intro i v h; simp [es_, lg_] at h
  | cons w vs ih =>
    intro i v h j
    have one : ∀ (w : Value), w.category = 1 → es_ (w :: vs) = some w :: es_ vs → lg_ (es_ (w :: vs)) i = some v → (i + j, v) ∈ lv_args j (w :: vs) := by
      intro w hc he h
      rw [he] at h
      rw [lv_args, if_neg (by omega)]
      cases i with
      | zero =>
        have h : some w = some v := h
        cases h
        rw [Nat.zero_add]
        exact List.mem_cons_self
      | succ i =>
        have := ih i v h (j + 1)
        rw [show i + 1 + j = i + (j + 1) by omega]
        exact List.mem_cons_of_mem _ this
    have two : ∀ (w : Value), w.category = 2 → es_ (w :: vs) = some w :: none :: es_ vs → lg_ (es_ (w :: vs)) i = some v → (i + j, v) ∈ lv_args j (w :: vs) := by
      intro w hc he h
      rw [he] at h
      rw [lv_args, if_pos hc]
      match i, h with
      | 0, h =>
        have h : some w = some v := h
        cases h
        rw [Nat.zero_add]
        exact List.mem_cons_self
      | 1, h => simp [lg_] at h
      | i + 2, h =>
        have := ih i v h (j + 2)
        rw [show i + 2 + j = i + (j + 2) by omega]
        exact List.mem_cons_of_mem _ this
    cases w with
    | long x => exact two _ rfl rfl h
    | double x => exact two _ rfl rfl h
    | _ => exact one _ rfl rfl h
theorem lg_app : ∀ (l : Lc_) (k i : Nat) (v : Value), lg_ (l ++ List.replicate k none) i = some v → lg_ l i = some v := by
  intro l
  induction l with
  | nil =>
    intro k i v h
    exfalso
    induction k generalizing i with
    | zero => simp [lg_] at h
    | succ k ih =>
      cases i with
      | zero => simp [List.replicate_succ, lg_] at h
      | succ i => exact ih i (by simpa [List.replicate_succ, lg_] using h)
  | cons o r ih =>
    intro k i v h
    cases i with
    | zero => exact h
    | succ i => exact ih k i v h
theorem en_lvh {as : List Value} {n : Nat} (h : (es_ as).length ≤ n) : lvh_ ((lg_sl as ++ List.replicate (n - (lg_sl as).length) Slot.unset).toArray) n (en_ n as) := by
  have h1 := lv_entry as (n := n) (by rw [es_sl]; exact h)
  refine ⟨h1.1, h1.2.1, fun i v hv => ?_⟩
  have h2 := es_get as i v (lg_app _ _ _ _ hv) 0
  rw [Nat.add_zero] at h2
  exact h1.2.2 (i, v) h2
theorem so_met {MT : Nat → Mi_} {B : Nat → Nat → List Ii_} {bp : Nat → Nat → Nat} (hB : ∀ m b, Bk_ D cl dA base GF cn MT (MT m) (bp m) (bp m b) (B m b)) (hM : ∀ m, Mk_ (MT m)) (hb0 : ∀ m, bp m 0 = 0) :
    ∀ (n k : Nat) (as : List Value) (σ : As_) (res : Rs_ × As_), (es_ as).length ≤ (MT k).2.2.1 → ex_ B (fun k => (MT k).2.2.1) n k (B k 0) (en_ ((MT k).2.2.1) as) [] σ = some res → Cm_ D cl dA base GF cn (MT k) as σ res := by
  intro n
  induction n using Nat.strongRecOn with
  | ind n ih =>
  intro k as σ res hlen h l hst
  have hb00 : Bk_ D cl dA base GF cn MT (MT k) (bp k) 0 (B k 0) := by
    have h9 := hB k 0
    rw [hb0 k] at h9
    exact h9
  have hbody : ∀ p e s mi args below meth c s₁, BodyLoose p l (MT k).1 (headSpec (wsM_ (MT k)) { frames := (MT k).2.2.2.2.2, cells := res.2.1 - σ.1, slots := res.2.2.1 - σ.2.1, locals := 64 * (MT k).2.2.2.2.2 }) (MT k).2.1 (MT k).2.2.1 (MT k).2.2.2.1 e s mi args below meth c s₁ → c.maxLocals = (MT k).2.2.1 → c.exceptionTable.toList = tableOf (MT k).2.2.2.2.1 → va_Pc as (Rg2_ D cl dA base GF σ) args s →
      W p l e { frames := (MT k).2.2.2.2.2, cells := res.2.1 - σ.1, slots := res.2.2.1 - σ.2.1, locals := 64 * (MT k).2.2.2.2.2 } s mi args below meth c s.heap [] 0 0 (vx_MQ below (Qr_ D cl dA base res) (Qx_ D cl dA base cn res) args s (res.2.1 - σ.1) (res.2.2.1 - σ.2.1) (Ab_ base)) (entryFrame mi args (MT k).2.2.1) := by
    intro p e s mi args below meth c s₁ Bd hml htab hpc
    obtain ⟨rfl, hGF, hRp⟩ := hpc
    rw [lg_entry_eq]
    have hts : ∀ w ∈ lw_all, w.before as.toArray s = true := by
      have h1 := atoms_spec (ws := wsM_ (MT k)) Bd.pre
      intro w hw
      refine h1 w ?_
      unfold wsM_
      split
      · exact List.mem_cons_of_mem _ hw
      · exact List.mem_cons_of_mem _ hw
    refine so_body D cl dA base GF cn hB n (fun k as σ res n' hn' hl he => ih n' hn' k as σ res hl he) n (Nat.le_refl _) k (B k 0) _ [] σ res h 0 hb00 p l e _ s mi as.toArray below meth c
      ⟨Bd.exec, Bd.bytes, Bd.returns, Bd.notSynchronized, hml, findClass_of_methodNamed Bd.named, hts, hst, htab, (name_of_methodNamed Bd.named Bd.method).1, hGF, Nat.le_refl _, Nat.le_refl _, by rw [hRp.1]; exact hRp.2.1⟩
      _ s.heap [] 0 0 _ _ (en_lvh hlen) hRp va_S.rf (Nat.zero_add _) (Nat.zero_add _) (Nat.le_refl _) (Nat.le_refl _)
  rcases hh : (MT k).2.2.2.2.1 with _ | ⟨h0, t0⟩
  · refine MetFree.of_bodySF (code := (MT k).2.1) (maxLocals := (MT k).2.2.1) (ret := (MT k).2.2.2.1) (hM k) ?_ ?_
    · intro args s m h hn
      obtain ⟨meth, c, h1, h2, h3, h4, h5, h6, -, -⟩ := Cond.code_spec hn (atoms_spec (ws := wsM_ (MT k)) h (Cond.code (MT k).1 (MT k).2.1 (MT k).2.2.1 (MT k).2.2.2.1) (by unfold wsM_; rw [hh]; exact List.mem_cons_self))
      exact ⟨meth, c, h1, h2, h3, h4, h5, h6⟩
    · intro p e s m args below meth c s₁ Bd hml hP _
      have hh0 : s₁.heap = s.heap := by rw [Bd.state]; rfl
      have ht : c.exceptionTable.toList = tableOf (MT k).2.2.2.2.1 := by
        obtain ⟨meth9, c9, h1, h2, -, -, -, -, h7, -⟩ := Cond.code_spec Bd.named (atoms_spec (ws := wsM_ (MT k)) Bd.pre (Cond.code (MT k).1 (MT k).2.1 (MT k).2.2.1 (MT k).2.2.2.1) (by unfold wsM_; rw [hh]; exact List.mem_cons_self))
        cases Option.some.inj (h1.symm.trans Bd.method)
        cases Option.some.inj (h2.symm.trans (Stand.of_body Bd).code)
        rw [Array.isEmpty_iff.mp h7, hh]
        rfl
      obtain ⟨t, a1, o, b1, b2, b3⟩ := hbody p e s m args below meth c s₁ Bd hml ht hP s₁ hh0 (Stand.of_body Bd)
      exact ⟨t, o, a1, b1, b2, b3⟩
  · refine MetFree.of_bodySF (code := (MT k).2.1) (maxLocals := (MT k).2.2.1) (ret := (MT k).2.2.2.1) (hM k) ?_ ?_
    · intro args s m h hn
      obtain ⟨m9, meth, c, hn9, h1, h2, h3, h4, -, h5, h6, -⟩ := Cond.codeWith_spec (atoms_spec (ws := wsM_ (MT k)) h (Cond.codeWith (MT k).1 (MT k).2.1 (MT k).2.2.1 (MT k).2.2.2.1 (h0 :: t0)) (by unfold wsM_; rw [hh]; exact List.mem_cons_self))
      cases hn.symm.trans hn9
      exact ⟨meth, c, h1, h2, h3, h4, h5, h6⟩
    · intro p e s m args below meth c s₁ Bd hml hP _
      have hh0 : s₁.heap = s.heap := by rw [Bd.state]; rfl
      have ht : c.exceptionTable.toList = tableOf (MT k).2.2.2.2.1 := by
        rw [hh]
        exact vx_table (x := (MT k).1) Bd (atoms_spec (ws := wsM_ (MT k)) Bd.pre (Cond.codeWith (MT k).1 (MT k).2.1 (MT k).2.2.1 (MT k).2.2.2.1 (h0 :: t0)) (by unfold wsM_; rw [hh]; exact List.mem_cons_self))
      obtain ⟨t, a1, o, b1, b2, b3⟩ := hbody p e s m args below meth c s₁ Bd hml ht hP s₁ hh0 (Stand.of_body Bd)
      exact ⟨t, o, a1, b1, b2, b3⟩
end SO
