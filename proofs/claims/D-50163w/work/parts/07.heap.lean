/-! what holds all through a run: classes, array types, words, statics, strings -/
def nw_ : Cond → Bool
  | .fieldLinkNest _ _ _ _ _ _ => true
  | .methodLinkNest _ _ _ _ => true
  | .castable _ _ => true
  | .declares _ => true
  | .privateMethod _ => true
  | _ => false
theorem nw_warmP {x : MethodName} {s U : State} (hW : s.WarmedH U.vm) (hZ : va_Nw (.privateMethod x) s) : va_Nw (.privateMethod x) U := va_tabs rfl (rfl : (s.setVm U.vm).vm = U.vm) (by rw [Cond.privateMethod_setVm hW.alike]; exact hZ)
theorem nw_warm {w : Cond} (h : nw_ w = true) {s U : State} (hW : s.WarmedH U.vm) (hZ : va_Nw w s) : va_Nw w U := by
  cases w <;> first | exact va_Nw.warmF hW hZ | exact va_Nw.warmM hW hZ | exact va_Nw.warmC hW hZ | exact va_Nw.warmD hW hZ | exact nw_warmP hW hZ | (exfalso; simp [nw_] at h)
theorem nw_tabs {w : Cond} (h : nw_ w = true) : w.onTables = true := by
  cases w <;> first | rfl | (exfalso; simp [nw_] at h)
/-- launch's numbers: classes and slots; array classes; where the law's heap began; statics' values; string constants' addresses; the mirror of Object[]; .. -/
abbrev En_ : Type := va_G × (Nat → ClassId) × Nat × (Nat → Value) × (Nat → Nat) × Nat
def gE_ (s : State) (A : Nat → Prop) (sv : Nat → Value) : Prop := ∀ (k : Nat) (q : String × String × String), stA_[k]? = some q → va_Z q.1 q.2.1 q.2.2 (sv k) A s s.heap
def ncl_ : List (String × String) := [("java/lang/IllegalArgumentException", "java/lang/IndexOutOfBoundsException"), ("java/lang/IllegalStateException", "java/lang/IndexOutOfBoundsException"), ("java/lang/IllegalStateException", "java/lang/IllegalArgumentException")]
def GF_ (E : En_) (s : State) : Prop :=
  (∀ (c : Nat) (q : vw_C), cl_[c]? = some q → u_Kn s q.1 q.2.1 q.2.2 (E.1.1 c) (E.1.2 c)) ∧
  (∀ t, t < 6 → ArrOfT s (E.2.1 t) (tyA_ t) ∧ va_RA s (E.2.1 t) (tyA_ t)) ∧
  (∀ w ∈ lw_tbl, nw_ w = true → va_Nw w s) ∧
  (∀ q ∈ ifl_, va_Fw q.1 q.2.1 q.2.2 s) ∧
  gE_ s (Ab_ E.2.2.1) E.2.2.2.1 ∧
  (∀ (k : Nat) (q : String × Nat × String), strA_[k]? = some q → vk_R q.1 q.2.1 q.2.2 (E.2.2.2.2.1 k) s) ∧
  vx_Zq Bundle.tN "UNASSIGNED_STACK" Bundle.steD (Ab_ E.2.2.1) s s.heap ∧ vx_Zq Bundle.tN "SUPPRESSED_SENTINEL" Bundle.listD (Ab_ E.2.2.1) s s.heap ∧
  va_Mi "[Ljava/lang/Object;" E.2.2.2.2.2 s ∧ va_Dc s ∧ va_AO "java/lang/Object" s ∧ (∀ q ∈ ncl_, va_Nc q.1 q.2 s) ∧ (∀ w ∈ defaultWords_1, va_Nw w s)
theorem dw_good : ∀ w ∈ defaultWords_1, goodWord w = true := by decide +kernel
theorem GF_move {E : En_} {s U : State} (h : GF_ E s) (hW : s.WarmedH U.vm) (hq : ∀ a : Nat, a < s.heap.size → ¬ Ab_ E.2.2.1 a → U.heap[a]? = s.heap[a]?) : GF_ E U := by
  obtain ⟨h1, h2, h3, h4, h5, h6, h7, h8, h9, h10, h11, h12, h13⟩ := h
  have hA := hW.alike
  refine ⟨fun c q hc => u_Kn_moved hA (h1 c q hc), fun t ht => ⟨arrOfT_moved hA (h2 t ht).1, (h2 t ht).2.moved hA⟩, fun w hw hn => nw_warm hn hW (h3 w hw hn), fun q hq' => (h4 q hq').moved (ifl_ok q hq') hA, fun k q hk => va_Z.moved hA ((h5 k q hk).kept hq), fun k q hk => (h6 k q hk).warm hW, vx_Zq.moved hA (h7.kept hq), vx_Zq.moved hA (h8.kept hq), h9.moved hA, h10.moved hA, va_AO.moved hA h11, fun q hq' => (h12 q hq').moved hA, fun w hw => word_at hW (good_of_word (dw_good w hw)) (h13 w hw)⟩
def up_ (h : Nat → Option Ac_) (a : Nat) (c : Ac_) : Nat → Option Ac_ := fun b => if b = a then some c else h b
theorem up_s (h : Nat → Option Ac_) (a : Nat) (c : Ac_) : up_ h a c a = some c := if_pos rfl
theorem up_n {h : Nat → Option Ac_} {a b : Nat} {c : Ac_} (hn : b ≠ a) : up_ h a c b = h b := if_neg hn
section HP
variable {D : va_G} {cl : List vw_C} {dA : Nat → ClassId} {base : Nat}
theorem Rp_lt {σ : As_} {H : Heap} {a : Nat} {c : Ac_} (hR : Rp_ D cl dA base σ H) (ha : σ.2.2 a = some c) : a < σ.1 := by
  have h := (hR.2.2 a c ha).1.lt
  rw [hR.1] at h
  exact h
theorem Rp_put {σ : As_} {H H' : Heap} {a : Nat} {c' : Ac_} (hR : Rp_ D cl dA base σ H) (h' : va_at D cl (a, cv_ dA c') H') (hz : H'.size = H.size) (ho : ∀ q, q ≠ a → H'[q]? = H[q]?) (hl : ln_ cl c') (hf : base ≤ a) : Rp_ D cl dA base (σ.1, σ.2.1, up_ σ.2.2 a c') H' := by
  refine ⟨hz.trans hR.1, hR.2.1, fun b c hb => ?_⟩
  dsimp only at hb
  by_cases hba : b = a
  · subst hba
    rw [up_s] at hb
    cases hb
    exact ⟨h', fun _ => hf, hl⟩
  · rw [up_n hba] at hb
    obtain ⟨h1, h2, h3⟩ := hR.2.2 b c hb
    exact ⟨h1.kept (ho b hba), h2, h3⟩
theorem Rp_push {σ : As_} {H H' : Heap} {n : Nat} {c' : Ac_} (hR : Rp_ D cl dA base σ H) (h' : va_at D cl (H.size, cv_ dA c') H') (hz : H'.size = H.size + 1) (ho : ∀ q, q < H.size → H'[q]? = H[q]?) (hl : ln_ cl c') : Rp_ D cl dA base (σ.1 + 1, σ.2.1 + n, up_ σ.2.2 σ.1 c') H' := by
  refine ⟨by rw [hz, hR.1], by have := hR.2.1; omega, fun b c hb => ?_⟩
  dsimp only at hb
  by_cases hba : b = σ.1
  · subst hba
    rw [up_s] at hb
    cases hb
    rw [hR.1] at h'
    exact ⟨h', fun _ => hR.2.1, hl⟩
  · rw [up_n hba] at hb
    obtain ⟨h1, h2, h3⟩ := hR.2.2 b c hb
    exact ⟨h1.kept (ho b h1.lt), h2, h3⟩
theorem vS_push {A : Nat → Prop} {H0 H H' : Heap} {locs : List Loc} (hS : va_S A H0 H locs) (hz : H'.size = H.size + 1) (ho : ∀ q, q < H.size → H'[q]? = H[q]?) : va_S A H0 H' locs :=
  ⟨Nat.le_trans hS.1 (by omega), fun q h1 h2 => (ho q (Nat.lt_of_lt_of_le h1 hS.1)).trans (hS.2.1 q h1 h2), hS.2.2⟩
end HP
/-! fields -/
def la_ : List (Nat × Nat) → Nat → Option Nat
  | [], _ => none
  | (c, k) :: r, x => if x = c then some k else la_ r x
def fg_ (fs : List Value) (k : Nat) : Value := fs.getD k .null
theorem fg_0 (v : Value) (r : List Value) : fg_ (v :: r) 0 = v := rfl
theorem fg_s (v : Value) (r : List Value) (k : Nat) : fg_ (v :: r) (k + 1) = fg_ r k := rfl
/-- the pool entry idx of own is the field k of class ci -/
def Fk_ (own : String) (idx ci k : Nat) : Prop := ∃ (C ref : String) (T : u_T) (N : Nat), cl_[ci]? = some (C, T, N) ∧ k < N ∧ (∀ w ∈ u_ws C T N, w ∈ lw_all) ∧ (Cond.fieldLink own idx ref (T k).2.1 (T k).2.2.1 ∈ lw_all ∨ ∃ host, Cond.fieldLinkNest own idx ref (T k).2.1 (T k).2.2.1 host ∈ lw_tbl) ∧ (ref = (T k).1 ∨ Cond.sameField ref (T k).1 (T k).2.1 (T k).2.2.1 ∈ lw_all)
/-- .. and may be written by the method named nm: of type ty -/
def Fp_ (own nm : String) (idx ci k : Nat) (ty : FieldType) : Prop := ∃ (C ref : String) (T : u_T) (N : Nat) (ty0 : Nat → FieldType), cl_[ci]? = some (C, T, N) ∧ k < N ∧ (∀ w ∈ u_ws C T N, w ∈ lw_all) ∧ (ref = (T k).1 ∨ Cond.sameField ref (T k).1 (T k).2.1 (T k).2.2.1 ∈ lw_all) ∧
  (∀ k, k < N → parseFieldDescriptor (T k).2.2.1 = some (ty0 k)) ∧ (∀ a, a < N → ∀ b, b < N → a ≠ b → (T a).2.1 ≠ (T b).2.1) ∧ ty0 k = ty ∧
  (((T k).2.2.2 = false ∧ (Cond.fieldLink own idx ref (T k).2.1 (T k).2.2.1 ∈ lw_all ∨ ∃ host, Cond.fieldLinkNest own idx ref (T k).2.1 (T k).2.2.1 host ∈ lw_tbl)) ∨ ((T k).2.2.2 = true ∧ nm = "<init>" ∧ (T k).1 = own ∧ Cond.fieldLink own idx ref (T k).2.1 (T k).2.2.1 ∈ lw_all))
theorem la1_ {P : Nat → Nat → Prop} {c k : Nat} (h : P c k) {r : List (Nat × Nat)} (t : ∀ ci j, la_ r ci = some j → P ci j) : ∀ ci j, la_ ((c, k) :: r) ci = some j → P ci j := by
  intro ci j hj
  rw [la_] at hj
  split at hj
  · next e => cases hj; rw [e]; exact h
  · exact t ci j hj
theorem la0_ {P : Nat → Nat → Prop} : ∀ ci j, la_ [] ci = some j → P ci j := fun _ _ h => by cases h
theorem la_lt {B : Nat} : ∀ (tb : List (Nat × Nat)), (∀ q ∈ tb, q.1 < B) → ∀ ci j, la_ tb ci = some j → ci < B := by
  intro tb
  induction tb with
  | nil => intro _ ci j h; cases h
  | cons q r ih =>
    intro h ci j hj
    obtain ⟨c, k⟩ := q
    rw [la_] at hj
    split at hj
    · next e => rw [e]; exact h (c, k) List.mem_cons_self
    · exact ih (fun q hq => h q (List.mem_cons_of_mem _ hq)) ci j hj
def I_getf (tb : List (Nat × Nat)) : Ii_ := fun l st σ => match st with
  | .ref a :: r => match σ.2.2 a with
    | some (.inr o) => match la_ tb (o.1 % 100) with
      | some k => nx_ l (fg_ o.2 k :: r) σ
      | none => none
    | _ => none
  | _ => none
theorem mn_getf (tb : List (Nat × Nat)) : Mn_ (I_getf tb) := by
  intro lc st σ
  unfold I_getf
  repeat' split
  all_goals first | exact True.intro | exact ⟨Nat.le_refl _, Nat.le_refl _⟩
/-- a value of a field's type (no char, no short) -/
def ft_ : FieldType → Value → Bool
  | .boolean, .int v => v == 0 || v == 1
  | .byte, .int v => -128 ≤ v && v ≤ 127
  | .int, .int _ | .long, .long _ | .float, .float _ | .double, .double _ => true
  | .object _, .null | .object _, .ref _ | .array _, .null | .array _, .ref _ => true
  | _, _ => false
/-- only classes below 100 are written -/
def I_putf (tb : List (Nat × Nat)) (ty : FieldType) : Ii_ := fun l st σ => match st with
  | v :: .ref a :: r => match σ.2.2 a with
    | some (.inr o) => match la_ tb o.1 with
      | some k => if ft_ ty v = true then nx_ l r (σ.1, σ.2.1, up_ σ.2.2 a (.inr (o.1, o.2.set k v))) else none
      | none => none
    | _ => none
  | _ => none
theorem mn_putf (tb : List (Nat × Nat)) (ty : FieldType) : Mn_ (I_putf tb ty) := by
  intro lc st σ
  unfold I_putf
  repeat' split
  all_goals first | exact True.intro | exact ⟨Nat.le_refl _, Nat.le_refl _⟩
theorem ft_fits {ty : FieldType} {v : Value} (h : ft_ ty v = true) : fits ty v = true ∧ narrow ty v = v := by
  cases ty <;> cases v <;> first | exact ⟨rfl, rfl⟩ | (simp [ft_] at h; done) | skip
  all_goals rename_i x
  all_goals simp only [ft_, Bool.or_eq_true, Bool.and_eq_true, beq_iff_eq, decide_eq_true_eq] at h
  · refine ⟨by simp only [fits, Bool.and_eq_true, decide_eq_true_eq]; exact h, ?_⟩
    have h1 := Int32.le_iff_toInt_le.mp h.1
    have h2 := Int32.le_iff_toInt_le.mp h.2
    have e1 : (-128 : Int32).toInt = -128 := by decide
    have e2 : (127 : Int32).toInt = 127 := by decide
    rw [e1] at h1
    rw [e2] at h2
    show Value.int x.toInt8.toInt32 = Value.int x
    congr 1
    apply Int32.toInt_inj.mp
    rw [Int8.toInt_toInt32, Int32.toInt_toInt8, Int.bmod_def]
    split <;> omega
  · rcases h with rfl | rfl <;> exact ⟨by decide, by decide⟩
section HI
variable {E : En_} {cn : Nat → String} {MT : Nat → Mi_} {M : Mi_} {bp : Nat → Nat} {pc : Nat}
abbrev SoE_ (E : En_) (MT : Nat → Mi_) (M : Mi_) (bp : Nat → Nat) (pc npc : Nat) (i : Ii_) : Prop := So_ E.1 cl_ E.2.1 E.2.2.1 (GF_ E) cnm_ MT M bp pc npc i
theorem so_getf {tb : List (Nat × Nat)} {idx : Nat} (hd : decode M.2.1 pc = .ok (.getfield idx, 3)) (hf : ∀ ci k, la_ tb ci = some k → Fk_ M.1.cls idx ci k) : SoE_ E MT M bp pc (pc + 3) (I_getf tb) := by
  intro p l e R s m args below meth c hC lc st σ ls H locs cells slots hl hR hS
  unfold I_getf
  split
  · next a r =>
    split
    · next o ho =>
      split
      · next k hk =>
        intro Q _ _ kk
        have kk := sk_ (kk ls H locs hl hR hS)
        obtain ⟨C, ref, T, N, hc, hkN, hin, hlink, hsame⟩ := hf _ _ hk
        obtain ⟨hat, -, hln⟩ := hR.2.2 a _ ho
        obtain ⟨q, h1, cell, q1, q2, q3, q4⟩ := hat
        have hq : q = (C, T, N) := Option.some.inj (h1.symm.trans hc)
        subst hq
        obtain ⟨hSl, hfc, kC, hkC, hkind⟩ := hC.2.2.2.2.2.2.2.2.2.2.1.1 _ _ hc
        obtain ⟨cf, kf, fi, f, hi, hsl⟩ := hSl k hkN
        have hts := hC.2.2.2.2.2.2.1
        have hi' : s.fieldFound? ref (T k).2.1 (T k).2.2.1 = some (cf, kf, fi, f) := by
          rcases hsame with rfl | hw
          · exact hi
          · exact u_same (hts _ hw) _ hi
        have hv : cell.slots[f.slot]? = some (fg_ o.2 k) := by rw [hsl, q4 k hkN]; rfl
        have hst := (u_facts hfc hkC (u_lays hts hin hkN) hi).1
        rcases hlink with hlink | ⟨host, hlink⟩
        · exact W.getf hC.1 hC.2.1 hC.2.2.2.2.2.1 (hts _ hlink) hi' hst q1 (by rw [q3]; exact fun h => by cases h) hv rfl rfl hd kk
        · exact va_Wgetf hC.1 hC.2.1 hC.2.2.2.2.2.1 (va_Nw.use (nw_tabs rfl) (hC.2.2.2.2.2.2.2.2.2.2.1.2.2.1 _ hlink rfl)) hi' hst q1 (by rw [q3]; exact fun h => by cases h) hv rfl rfl hd kk
      · exact True.intro
    · exact True.intro
  · exact True.intro
theorem so_putf {tb : List (Nat × Nat)} {ty : FieldType} {idx : Nat} (hd : decode M.2.1 pc = .ok (.putfield idx, 3)) (hB : ∀ q ∈ tb, q.1 < 100) (hf : ∀ ci k, la_ tb ci = some k → Fp_ M.1.cls M.1.name idx ci k ty) : SoE_ E MT M bp pc (pc + 3) (I_putf tb ty) := by
  intro p l e R s m args below meth c hC lc st σ ls H locs cells slots hl hR hS
  unfold I_putf
  split
  · next v a r =>
    split
    · next o ho =>
      split
      · next k hk =>
        split
        · next hft =>
          obtain ⟨hfit, hn⟩ := ft_fits hft
          intro Q _ _ kk
          dsimp only at kk
          rw [Nat.sub_self, Nat.sub_self] at kk
          obtain ⟨C, ref, T, N, ty0, hc, hkN, hin, hsame, hty, hnm, hty0, hlink⟩ := hf _ _ hk
          obtain ⟨hat, hfl, hln⟩ := hR.2.2 a _ ho
          have h100 : o.1 < 100 := la_lt tb hB _ _ hk
          have hmod : o.1 % 100 = o.1 := Nat.mod_eq_of_lt h100
          obtain ⟨q, h1, cell, q1, q2, q3, q4⟩ := hat
          have h1 : cl_[o.1 % 100]? = some q := h1
          have q2 : cell.cls = E.1.1 (o.1 % 100) := q2
          have q4 : ∀ k, k < q.2.2 → cell.slots[E.1.2 (o.1 % 100) k]? = some (vp_V o.2 k) := q4
          rw [hmod] at h1 q2 q4
          have hq : q = (C, T, N) := Option.some.inj (h1.symm.trans hc)
          subst hq
          have hlen : o.2.length = N := hln (C, T, N) (by rw [hmod]; exact hc)
          have hKn := hC.2.2.2.2.2.2.2.2.2.2.1.1 _ _ hc
          obtain ⟨hSl, hfc, kC, hkC, hkind⟩ := hKn
          obtain ⟨cf, kf, fi, f, hi, hsl⟩ := hSl k hkN
          have hts := hC.2.2.2.2.2.2.1
          have hown := hC.2.2.2.2.2.1
          have hi' : s.fieldFound? ref (T k).2.1 (T k).2.2.1 = some (cf, kf, fi, f) := by
            rcases hsame with rfl | hw
            · exact hi
            · exact u_same (hts _ hw) _ hi
          have hst := (u_facts hfc hkC (u_lays hts hin hkN) hi).1
          have hd2 : parseFieldDescriptor (T k).2.2.1 = some ty := by rw [hty k hkN, hty0]
          have hap : ∀ x y, x < N → y < N → x ≠ y → (E.1.2 o.1) x ≠ (E.1.2 o.1) y := by
            intro x y hx hy hne
            obtain ⟨_, _, _, fa, hia, ea⟩ := hSl x hx
            obtain ⟨_, _, _, fb, hib, eb⟩ := hSl y hy
            rw [← ea, ← eb]
            refine u_apart (u_lays hts hin hx) (u_lays hts hin hy) hia hib ?_
            rw [(State.fieldFound?_type hia (hty x hx)).1, (State.fieldFound?_type hib (hty y hy)).1]
            exact hnm x hx y hy hne
          have hba : E.2.2.1 ≤ a := hfl h100
          have fin : ∀ (H' : Heap), H'[a]? = some (cell.setSlot (E.1.2 o.1 k) v) → H'.size = H.size → (∀ q, q ≠ a → H'[q]? = H[q]?) → W p l e R s m args below meth c H' (locs ++ [⟨a, E.1.2 o.1 k⟩]) cells slots Q (F0 m (pc + 3) ls r) := by
            intro H' e1 e2 e3
            refine kk ls H' _ hl ?_ (hS.put e2 e3 hba)
            refine Rp_put hR ?_ e2 e3 ?_ hba
            · refine ⟨(C, T, N), by show cl_[o.1 % 100]? = _; rw [hmod]; exact hc, ?_⟩
              show t_OB a (E.1.1 (o.1 % 100)) N (E.1.2 (o.1 % 100)) H' (vp_V (o.2.set k v))
              rw [hmod]
              exact t_OB.to (V := updV (vp_V o.2) k v) ⟨_, e1, q2, q3, t_set q4 hap hkN v⟩ (fun j _ => vp_updV_set (by omega) v j)
            · intro q hq
              rw [List.length_set]
              exact hln q hq
          rcases hlink with ⟨hfin, hlink⟩ | ⟨hfin, hinit, hdecl, hlink⟩
          · have hlay := hts _ (hin _ (u_in_lay hkN))
            unfold u_lay at hlay
            rw [if_neg (by rw [hfin]; decide)] at hlay
            have h6 := u_store hfc hkC hkind hlay hi hd2 hn hfit
            rcases hlink with hlink | ⟨host, hlink⟩
            · refine W.putK hC.1 hC.2.1 (f := f) ⟨hown, hts _ hlink, ⟨_, _, _, hi'⟩, hst⟩ (by rw [q2]; exact h6) q1 q3 (by rw [hsl]; exact k2_hasslot (q4 k hkN)) rfl rfl hd fun H' e1 e2 e3 => ?_
              rw [hsl] at e1 ⊢
              exact fin H' e1 e2 e3
            · refine va_WputK hC.1 hC.2.1 (f := f) hown (va_Nw.use (nw_tabs rfl) (hC.2.2.2.2.2.2.2.2.2.2.1.2.2.1 _ hlink rfl)) hi' hst (by rw [q2]; exact h6) q1 q3 (by rw [hsl]; exact k2_hasslot (q4 k hkN)) rfl rfl hd fun H' e1 e2 e3 => ?_
              rw [hsl] at e1 ⊢
              exact fin H' e1 e2 e3
          · have hlay := hts _ (hin _ (u_in_lay hkN))
            unfold u_lay at hlay
            rw [if_pos hfin] at hlay
            have hcf : m.cls = cf := by
              obtain ⟨_, _, c', _, _, _, -, -, hf', -, -, -, hown2, -⟩ := Cond.laysFinal_spec hlay
              have e1 : c' = cf := by have := hi.symm.trans hf'; simp at this; exact this.1.symm
              rw [hdecl] at hown2
              rw [← e1]; exact Option.some.inj (hown.symm.trans hown2)
            have h6 := u_fits hfc hkC hkind (Or.inr hlay) hi hd2 hn hfit
            refine W.putFinK hC.1 hC.2.1 hown (hts _ hlink) hi' hst hcf (hC.2.2.2.2.2.2.2.2.2.1.trans hinit) (by rw [q2]; exact h6) q1 q3 (by rw [hsl]; exact k2_hasslot (q4 k hkN)) rfl rfl hd fun H' e1 e2 e3 => ?_
            rw [hsl] at e1 ⊢
            exact fin H' e1 e2 e3
        · exact True.intro
      · exact True.intro
    · exact True.intro
  · exact True.intro
end HI
