/-! THE INSTRUCTIONS that touch no heap: what they do, and that it is so -/
section I1
variable {D : va_G} {cl : List vw_C} {dA : Nat → ClassId} {base : Nat} {GF : State → Prop} {cn : Nat → String} {MT : Nat → Mi_} {M : Mi_} {bp : Nat → Nat} {pc : Nat}
theorem sk_ {p : Program} {l : Launch} {e : Env} {R : Room} {s : State} {m : MethodId} {args : Array Value} {below : List Frame} {meth : Method} {c : Code} {H : Heap} {locs : List Loc} {cells slots a b : Nat} {Q : State → Prop} {g : JFrame} (h : W p l e R s m args below meth c H locs (cells + (a - a)) (slots + (b - b)) Q g) : W p l e R s m args below meth c H locs cells slots Q g := by
  rw [Nat.sub_self, Nat.sub_self] at h
  exact h
theorem ps_at {l : Lc_} {i : Nat} {v : Value} (h : lg_ l i = some v) : ∃ k : Nat, (ps_ l 0)[k]? = some (i, v) := by
  obtain ⟨k, hk⟩ := List.getElem?_of_mem ((ps_mem l 0 i v).mpr ⟨Nat.zero_le _, h⟩)
  exact ⟨k, hk⟩
theorem bk_ {i : Ii_} {is : List Ii_} {npc : Nat} (hm : Mn_ i) (hs : So_ D cl dA base GF cn MT M bp pc npc i) (hb : Bk_ D cl dA base GF cn MT M bp npc is) : Bk_ D cl dA base GF cn MT M bp pc (i :: is) := ⟨hm, npc, hs, hb⟩
theorem bk_nil : Bk_ D cl dA base GF cn MT M bp pc [] := trivial
def I_push (v : Int32) : Ii_ := fun l st σ => nx_ l (.int v :: st) σ
theorem mn_push (v : Int32) : Mn_ (I_push v) := fun _ _ _ => ⟨Nat.le_refl _, Nat.le_refl _⟩
theorem so_push_iconst {v : Int32} {n : Int} (hd : decode M.2.1 pc = .ok (.iconst n, 1)) (hv : Int32.ofInt n = v) : So_ D cl dA base GF cn MT M bp pc (pc + 1) (I_push v) := by
  intro p l e R s m args below meth c hC lc st σ ls H locs cells slots hl hR hS
  intro Q _ _ k
  exact lv_iconst hC.1 hC.2.1 hd hv (sk_ (k ls H locs hl hR hS))
theorem so_push_bipush {v : Int32} {n : Int} (hd : decode M.2.1 pc = .ok (.bipush n, 2)) (hv : (Int8.ofInt n).toInt32 = v) : So_ D cl dA base GF cn MT M bp pc (pc + 2) (I_push v) := by
  intro p l e R s m args below meth c hC lc st σ ls H locs cells slots hl hR hS
  intro Q _ _ k
  exact lv_bipush hC.1 hC.2.1 hd hv (sk_ (k ls H locs hl hR hS))
theorem so_push_sipush {v : Int32} {n : Int} (hd : decode M.2.1 pc = .ok (.sipush n, 3)) (hv : (Int16.ofInt n).toInt32 = v) : So_ D cl dA base GF cn MT M bp pc (pc + 3) (I_push v) := by
  intro p l e R s m args below meth c hC lc st σ ls H locs cells slots hl hR hS
  intro Q _ _ k
  exact lv_sipush hC.1 hC.2.1 hd hv (sk_ (k ls H locs hl hR hS))
theorem so_push_ldc {v : Int32} {n : Nat} (hd : decode M.2.1 pc = .ok (.ldc n, 2)) (hw : Cond.constant M.1.cls n v ∈ lw_all) : So_ D cl dA base GF cn MT M bp pc (pc + 2) (I_push v) := by
  intro p l e R s m args below meth c hC lc st σ ls H locs cells slots hl hR hS
  intro Q _ _ k
  exact lv_ldc hC.1 hC.2.1 hC.2.2.2.2.2.1 (hC.2.2.2.2.2.2.1 _ hw) hd (sk_ (k ls H locs hl hR hS))
theorem so_push_ldcw {v : Int32} {n : Nat} (hd : decode M.2.1 pc = .ok (.ldc_w n, 3)) (hw : Cond.constant M.1.cls n v ∈ lw_all) : So_ D cl dA base GF cn MT M bp pc (pc + 3) (I_push v) := by
  intro p l e R s m args below meth c hC lc st σ ls H locs cells slots hl hR hS
  intro Q _ _ k
  exact lv_ldcw hC.1 hC.2.1 hC.2.2.2.2.2.1 (hC.2.2.2.2.2.2.1 _ hw) hd (sk_ (k ls H locs hl hR hS))
def I_pushl (v : Int64) : Ii_ := fun l st σ => nx_ l (.long v :: st) σ
theorem mn_pushl (v : Int64) : Mn_ (I_pushl v) := fun _ _ _ => ⟨Nat.le_refl _, Nat.le_refl _⟩
theorem so_pushl_lconst {v : Int64} {n : Fin 2} (hd : decode M.2.1 pc = .ok (.lconst n, 1)) (hv : Int64.ofNat (n : Nat) = v) : So_ D cl dA base GF cn MT M bp pc (pc + 1) (I_pushl v) := by
  intro p l e R s m args below meth c hC lc st σ ls H locs cells slots hl hR hS
  intro Q _ _ k
  exact lv_lconst hC.1 hC.2.1 hd hv (sk_ (k ls H locs hl hR hS))
theorem so_pushl_ldc2 {v : Int64} {n : Nat} (hd : decode M.2.1 pc = .ok (.ldc2_w n, 3)) (hw : Cond.constantLong M.1.cls n v ∈ lw_all) : So_ D cl dA base GF cn MT M bp pc (pc + 3) (I_pushl v) := by
  intro p l e R s m args below meth c hC lc st σ ls H locs cells slots hl hR hS
  intro Q _ _ k
  exact lv_ldc2 hC.1 hC.2.1 hC.2.2.2.2.2.1 (hC.2.2.2.2.2.2.1 _ hw) hd (sk_ (k ls H locs hl hR hS))
def I_fc0 : Ii_ := fun l st σ => nx_ l (.float FP.fconst0 :: st) σ
theorem mn_fc0 : Mn_ I_fc0 := fun _ _ _ => ⟨Nat.le_refl _, Nat.le_refl _⟩
theorem so_fc0 (hd : decode M.2.1 pc = .ok (.fconst 0, 1)) : So_ D cl dA base GF cn MT M bp pc (pc + 1) I_fc0 := by
  intro p l e R s m args below meth c hC lc st σ ls H locs cells slots hl hR hS
  intro Q _ _ k
  exact lv_fconst0 hC.1 hC.2.1 hd (sk_ (k ls H locs hl hR hS))
def I_fc1 : Ii_ := fun l st σ => nx_ l (.float FP.fconst1 :: st) σ
theorem mn_fc1 : Mn_ I_fc1 := fun _ _ _ => ⟨Nat.le_refl _, Nat.le_refl _⟩
theorem so_fc1 (hd : decode M.2.1 pc = .ok (.fconst 1, 1)) : So_ D cl dA base GF cn MT M bp pc (pc + 1) I_fc1 := by
  intro p l e R s m args below meth c hC lc st σ ls H locs cells slots hl hR hS
  intro Q _ _ k
  exact lv_fconst1 hC.1 hC.2.1 hd (sk_ (k ls H locs hl hR hS))
def I_dc0 : Ii_ := fun l st σ => nx_ l (.double FP.dconst0 :: st) σ
theorem mn_dc0 : Mn_ I_dc0 := fun _ _ _ => ⟨Nat.le_refl _, Nat.le_refl _⟩
theorem so_dc0 (hd : decode M.2.1 pc = .ok (.dconst 0, 1)) : So_ D cl dA base GF cn MT M bp pc (pc + 1) I_dc0 := by
  intro p l e R s m args below meth c hC lc st σ ls H locs cells slots hl hR hS
  intro Q _ _ k
  exact lv_dconst0 hC.1 hC.2.1 hd (sk_ (k ls H locs hl hR hS))
def I_null : Ii_ := fun l st σ => nx_ l (.null :: st) σ
theorem mn_null : Mn_ I_null := fun _ _ _ => ⟨Nat.le_refl _, Nat.le_refl _⟩
theorem so_null (hd : decode M.2.1 pc = .ok (.aconst_null, 1)) : So_ D cl dA base GF cn MT M bp pc (pc + 1) I_null := by
  intro p l e R s m args below meth c hC lc st σ ls H locs cells slots hl hR hS
  intro Q _ _ k
  exact lv_null hC.1 hC.2.1 hd (sk_ (k ls H locs hl hR hS))
def I_mask (bs : List Bool) : Ii_ := fun l st σ => nx_ (mk_ bs l) st σ
theorem mn_mask (bs : List Bool) : Mn_ (I_mask bs) := fun _ _ _ => ⟨Nat.le_refl _, Nat.le_refl _⟩
theorem so_mask (bs : List Bool) : So_ D cl dA base GF cn MT M bp pc pc (I_mask bs) := by
  intro p l e R s m args below meth c hC lc st σ ls H locs cells slots hl hR hS
  intro Q _ _ k
  exact sk_ (k ls H locs (hl.mask bs) hR hS)
def I_iload (i : Nat) : Ii_ := fun l st σ => match lg_ l i with
  | some (.int x) => nx_ l (.int x :: st) σ
  | _ => none
theorem mn_iload (i : Nat) : Mn_ (I_iload i) := by
  intro lc st σ
  unfold I_iload
  repeat' split
  all_goals first | exact True.intro | exact ⟨Nat.le_refl _, Nat.le_refl _⟩ | exact rfl
theorem so_iload_n {i : Nat} {k : Fin 4} (hd : decode M.2.1 pc = .ok (.iload_n k, 1)) (hi : (k : Nat) = i) : So_ D cl dA base GF cn MT M bp pc (pc + 1) (I_iload i) := by
  intro p l e R s m args below meth c hC lc st σ ls H locs cells slots hl hR hS
  unfold I_iload
  split
  · next x hx =>
    intro Q _ _ k
    exact lv_iload_n hC.1 hC.2.1 hd hi (hl.2.2 _ _ hx) (sk_ (k ls H locs hl hR hS))
  · exact True.intro
theorem so_iload {i : Nat} (hd : decode M.2.1 pc = .ok (.iload i, 2)) : So_ D cl dA base GF cn MT M bp pc (pc + 2) (I_iload i) := by
  intro p l e R s m args below meth c hC lc st σ ls H locs cells slots hl hR hS
  unfold I_iload
  split
  · next x hx =>
    intro Q _ _ k
    exact lv_iload hC.1 hC.2.1 hd (hl.2.2 _ _ hx) (sk_ (k ls H locs hl hR hS))
  · exact True.intro
def I_lload (i : Nat) : Ii_ := fun l st σ => match lg_ l i with
  | some (.long x) => nx_ l (.long x :: st) σ
  | _ => none
theorem mn_lload (i : Nat) : Mn_ (I_lload i) := by
  intro lc st σ
  unfold I_lload
  repeat' split
  all_goals first | exact True.intro | exact ⟨Nat.le_refl _, Nat.le_refl _⟩ | exact rfl
theorem so_lload_n {i : Nat} {k : Fin 4} (hd : decode M.2.1 pc = .ok (.lload_n k, 1)) (hi : (k : Nat) = i) : So_ D cl dA base GF cn MT M bp pc (pc + 1) (I_lload i) := by
  intro p l e R s m args below meth c hC lc st σ ls H locs cells slots hl hR hS
  unfold I_lload
  split
  · next x hx =>
    intro Q _ _ k
    exact lv_lload_n hC.1 hC.2.1 hd hi (hl.2.2 _ _ hx) (sk_ (k ls H locs hl hR hS))
  · exact True.intro
theorem so_lload {i : Nat} (hd : decode M.2.1 pc = .ok (.lload i, 2)) : So_ D cl dA base GF cn MT M bp pc (pc + 2) (I_lload i) := by
  intro p l e R s m args below meth c hC lc st σ ls H locs cells slots hl hR hS
  unfold I_lload
  split
  · next x hx =>
    intro Q _ _ k
    exact lv_lload hC.1 hC.2.1 hd (hl.2.2 _ _ hx) (sk_ (k ls H locs hl hR hS))
  · exact True.intro
def I_dload (i : Nat) : Ii_ := fun l st σ => match lg_ l i with
  | some (.double x) => nx_ l (.double x :: st) σ
  | _ => none
theorem mn_dload (i : Nat) : Mn_ (I_dload i) := by
  intro lc st σ
  unfold I_dload
  repeat' split
  all_goals first | exact True.intro | exact ⟨Nat.le_refl _, Nat.le_refl _⟩ | exact rfl
theorem so_dload_n {i : Nat} {k : Fin 4} (hd : decode M.2.1 pc = .ok (.dload_n k, 1)) (hi : (k : Nat) = i) : So_ D cl dA base GF cn MT M bp pc (pc + 1) (I_dload i) := by
  intro p l e R s m args below meth c hC lc st σ ls H locs cells slots hl hR hS
  unfold I_dload
  split
  · next x hx =>
    intro Q _ _ k
    exact lv_dload_n hC.1 hC.2.1 hd hi (hl.2.2 _ _ hx) (sk_ (k ls H locs hl hR hS))
  · exact True.intro
theorem so_dload {i : Nat} (hd : decode M.2.1 pc = .ok (.dload i, 2)) : So_ D cl dA base GF cn MT M bp pc (pc + 2) (I_dload i) := by
  intro p l e R s m args below meth c hC lc st σ ls H locs cells slots hl hR hS
  unfold I_dload
  split
  · next x hx =>
    intro Q _ _ k
    exact lv_dload hC.1 hC.2.1 hd (hl.2.2 _ _ hx) (sk_ (k ls H locs hl hR hS))
  · exact True.intro
def I_fload (i : Nat) : Ii_ := fun l st σ => match lg_ l i with
  | some (.float x) => nx_ l (.float x :: st) σ
  | _ => none
theorem mn_fload (i : Nat) : Mn_ (I_fload i) := by
  intro lc st σ
  unfold I_fload
  repeat' split
  all_goals first | exact True.intro | exact ⟨Nat.le_refl _, Nat.le_refl _⟩ | exact rfl
theorem so_fload_n {i : Nat} {k : Fin 4} (hd : decode M.2.1 pc = .ok (.fload_n k, 1)) (hi : (k : Nat) = i) : So_ D cl dA base GF cn MT M bp pc (pc + 1) (I_fload i) := by
  intro p l e R s m args below meth c hC lc st σ ls H locs cells slots hl hR hS
  unfold I_fload
  split
  · next x hx =>
    intro Q _ _ k
    exact lv_fload_n hC.1 hC.2.1 hd hi (hl.2.2 _ _ hx) (sk_ (k ls H locs hl hR hS))
  · exact True.intro
theorem so_fload {i : Nat} (hd : decode M.2.1 pc = .ok (.fload i, 2)) : So_ D cl dA base GF cn MT M bp pc (pc + 2) (I_fload i) := by
  intro p l e R s m args below meth c hC lc st σ ls H locs cells slots hl hR hS
  unfold I_fload
  split
  · next x hx =>
    intro Q _ _ k
    exact lv_fload hC.1 hC.2.1 hd (hl.2.2 _ _ hx) (sk_ (k ls H locs hl hR hS))
  · exact True.intro
def I_aload (i : Nat) : Ii_ := fun l st σ => match lg_ l i with
  | some (.ref x) => nx_ l (.ref x :: st) σ
  | some .null => nx_ l (.null :: st) σ
  | _ => none
theorem mn_aload (i : Nat) : Mn_ (I_aload i) := by
  intro lc st σ
  unfold I_aload
  repeat' split
  all_goals first | exact True.intro | exact ⟨Nat.le_refl _, Nat.le_refl _⟩ | exact rfl
theorem so_aload_n {i : Nat} {k : Fin 4} (hd : decode M.2.1 pc = .ok (.aload_n k, 1)) (hi : (k : Nat) = i) : So_ D cl dA base GF cn MT M bp pc (pc + 1) (I_aload i) := by
  intro p l e R s m args below meth c hC lc st σ ls H locs cells slots hl hR hS
  unfold I_aload
  split
  · next x hx =>
    intro Q _ _ k
    exact lv_aload_n hC.1 hC.2.1 hd hi (hl.2.2 _ _ hx) (sk_ (k ls H locs hl hR hS))
  · next hx =>
    intro Q _ _ k
    exact lv_aload_nN hC.1 hC.2.1 hd hi (hl.2.2 _ _ hx) (sk_ (k ls H locs hl hR hS))
  · exact True.intro
theorem so_aload {i : Nat} (hd : decode M.2.1 pc = .ok (.aload i, 2)) : So_ D cl dA base GF cn MT M bp pc (pc + 2) (I_aload i) := by
  intro p l e R s m args below meth c hC lc st σ ls H locs cells slots hl hR hS
  unfold I_aload
  split
  · next x hx =>
    intro Q _ _ k
    exact lv_aload hC.1 hC.2.1 hd (hl.2.2 _ _ hx) (sk_ (k ls H locs hl hR hS))
  · next hx =>
    intro Q _ _ k
    exact lv_aloadN hC.1 hC.2.1 hd (hl.2.2 _ _ hx) (sk_ (k ls H locs hl hR hS))
  · exact True.intro
def I_istore (i : Nat) : Ii_ := fun l st σ => match st with
  | .int x :: r => nx_ (st1_ l i (.int x)) r σ
  | _ => none
theorem mn_istore (i : Nat) : Mn_ (I_istore i) := by
  intro lc st σ
  unfold I_istore
  repeat' split
  all_goals first | exact True.intro | exact ⟨Nat.le_refl _, Nat.le_refl _⟩ | exact rfl
theorem so_istore_n {i : Nat} {k : Fin 4} (hd : decode M.2.1 pc = .ok (.istore_n k, 1)) (hi : (k : Nat) = i) (hn : i < M.2.2.1) : So_ D cl dA base GF cn MT M bp pc (pc + 1) (I_istore i) := by
  intro p l e R s m args below meth c hC lc st σ ls H locs cells slots hl hR hS
  unfold I_istore
  split
  · intro Q _ _ k
    exact lv_istore_n hC.1 hC.2.1 hd hi hl.has hn rfl (fun ls' hl' => sk_ (k ls' H locs (lvh_.st1 hl') hR hS))
  · exact True.intro
theorem so_istore {i : Nat} (hd : decode M.2.1 pc = .ok (.istore i, 2)) (hn : i < M.2.2.1) : So_ D cl dA base GF cn MT M bp pc (pc + 2) (I_istore i) := by
  intro p l e R s m args below meth c hC lc st σ ls H locs cells slots hl hR hS
  unfold I_istore
  split
  · intro Q _ _ k
    exact lv_istore hC.1 hC.2.1 hd hl.has hn rfl (fun ls' hl' => sk_ (k ls' H locs (lvh_.st1 hl') hR hS))
  · exact True.intro
def I_lstore (i : Nat) : Ii_ := fun l st σ => match st with
  | .long x :: r => nx_ (st2_ l i (.long x)) r σ
  | _ => none
theorem mn_lstore (i : Nat) : Mn_ (I_lstore i) := by
  intro lc st σ
  unfold I_lstore
  repeat' split
  all_goals first | exact True.intro | exact ⟨Nat.le_refl _, Nat.le_refl _⟩ | exact rfl
theorem so_lstore_n {i : Nat} {k : Fin 4} (hd : decode M.2.1 pc = .ok (.lstore_n k, 1)) (hi : (k : Nat) = i) (hn : i + 1 < M.2.2.1) : So_ D cl dA base GF cn MT M bp pc (pc + 1) (I_lstore i) := by
  intro p l e R s m args below meth c hC lc st σ ls H locs cells slots hl hR hS
  unfold I_lstore
  split
  · intro Q _ _ k
    exact lv_lstore_n hC.1 hC.2.1 hd hi hl.has hn rfl (fun ls' hl' => sk_ (k ls' H locs (lvh_.st2 hl') hR hS))
  · exact True.intro
theorem so_lstore {i : Nat} (hd : decode M.2.1 pc = .ok (.lstore i, 2)) (hn : i + 1 < M.2.2.1) : So_ D cl dA base GF cn MT M bp pc (pc + 2) (I_lstore i) := by
  intro p l e R s m args below meth c hC lc st σ ls H locs cells slots hl hR hS
  unfold I_lstore
  split
  · intro Q _ _ k
    exact lv_lstore hC.1 hC.2.1 hd hl.has hn rfl (fun ls' hl' => sk_ (k ls' H locs (lvh_.st2 hl') hR hS))
  · exact True.intro
def I_dstore (i : Nat) : Ii_ := fun l st σ => match st with
  | .double x :: r => nx_ (st2_ l i (.double x)) r σ
  | _ => none
theorem mn_dstore (i : Nat) : Mn_ (I_dstore i) := by
  intro lc st σ
  unfold I_dstore
  repeat' split
  all_goals first | exact True.intro | exact ⟨Nat.le_refl _, Nat.le_refl _⟩ | exact rfl
theorem so_dstore_n {i : Nat} {k : Fin 4} (hd : decode M.2.1 pc = .ok (.dstore_n k, 1)) (hi : (k : Nat) = i) (hn : i + 1 < M.2.2.1) : So_ D cl dA base GF cn MT M bp pc (pc + 1) (I_dstore i) := by
  intro p l e R s m args below meth c hC lc st σ ls H locs cells slots hl hR hS
  unfold I_dstore
  split
  · intro Q _ _ k
    exact lv_dstore_n hC.1 hC.2.1 hd hi hl.has hn rfl (fun ls' hl' => sk_ (k ls' H locs (lvh_.st2 hl') hR hS))
  · exact True.intro
theorem so_dstore {i : Nat} (hd : decode M.2.1 pc = .ok (.dstore i, 2)) (hn : i + 1 < M.2.2.1) : So_ D cl dA base GF cn MT M bp pc (pc + 2) (I_dstore i) := by
  intro p l e R s m args below meth c hC lc st σ ls H locs cells slots hl hR hS
  unfold I_dstore
  split
  · intro Q _ _ k
    exact lv_dstore hC.1 hC.2.1 hd hl.has hn rfl (fun ls' hl' => sk_ (k ls' H locs (lvh_.st2 hl') hR hS))
  · exact True.intro
def I_fstore (i : Nat) : Ii_ := fun l st σ => match st with
  | .float x :: r => nx_ (st1_ l i (.float x)) r σ
  | _ => none
theorem mn_fstore (i : Nat) : Mn_ (I_fstore i) := by
  intro lc st σ
  unfold I_fstore
  repeat' split
  all_goals first | exact True.intro | exact ⟨Nat.le_refl _, Nat.le_refl _⟩ | exact rfl
theorem so_fstore_n {i : Nat} {k : Fin 4} (hd : decode M.2.1 pc = .ok (.fstore_n k, 1)) (hi : (k : Nat) = i) (hn : i < M.2.2.1) : So_ D cl dA base GF cn MT M bp pc (pc + 1) (I_fstore i) := by
  intro p l e R s m args below meth c hC lc st σ ls H locs cells slots hl hR hS
  unfold I_fstore
  split
  · intro Q _ _ k
    exact lv_fstore_n hC.1 hC.2.1 hd hi hl.has hn rfl (fun ls' hl' => sk_ (k ls' H locs (lvh_.st1 hl') hR hS))
  · exact True.intro
theorem so_fstore {i : Nat} (hd : decode M.2.1 pc = .ok (.fstore i, 2)) (hn : i < M.2.2.1) : So_ D cl dA base GF cn MT M bp pc (pc + 2) (I_fstore i) := by
  intro p l e R s m args below meth c hC lc st σ ls H locs cells slots hl hR hS
  unfold I_fstore
  split
  · intro Q _ _ k
    exact lv_fstore hC.1 hC.2.1 hd hl.has hn rfl (fun ls' hl' => sk_ (k ls' H locs (lvh_.st1 hl') hR hS))
  · exact True.intro
def I_astore (i : Nat) : Ii_ := fun l st σ => match st with
  | .ref x :: r => nx_ (st1_ l i (.ref x)) r σ
  | .null :: r => nx_ (st1_ l i .null) r σ
  | _ => none
theorem mn_astore (i : Nat) : Mn_ (I_astore i) := by
  intro lc st σ
  unfold I_astore
  repeat' split
  all_goals first | exact True.intro | exact ⟨Nat.le_refl _, Nat.le_refl _⟩ | exact rfl
theorem so_astore_n {i : Nat} {k : Fin 4} (hd : decode M.2.1 pc = .ok (.astore_n k, 1)) (hi : (k : Nat) = i) (hn : i < M.2.2.1) : So_ D cl dA base GF cn MT M bp pc (pc + 1) (I_astore i) := by
  intro p l e R s m args below meth c hC lc st σ ls H locs cells slots hl hR hS
  unfold I_astore
  split
  · intro Q _ _ k
    exact lv_astore_n hC.1 hC.2.1 hd hi hl.has hn rfl (fun ls' hl' => sk_ (k ls' H locs (lvh_.st1 hl') hR hS))
  · intro Q _ _ k
    exact lv_astore_nN hC.1 hC.2.1 hd hi hl.has hn rfl (fun ls' hl' => sk_ (k ls' H locs (lvh_.st1 hl') hR hS))
  · exact True.intro
theorem so_astore {i : Nat} (hd : decode M.2.1 pc = .ok (.astore i, 2)) (hn : i < M.2.2.1) : So_ D cl dA base GF cn MT M bp pc (pc + 2) (I_astore i) := by
  intro p l e R s m args below meth c hC lc st σ ls H locs cells slots hl hR hS
  unfold I_astore
  split
  · intro Q _ _ k
    exact lv_astore hC.1 hC.2.1 hd hl.has hn rfl (fun ls' hl' => sk_ (k ls' H locs (lvh_.st1 hl') hR hS))
  · intro Q _ _ k
    exact lv_astoreN hC.1 hC.2.1 hd hl.has hn rfl (fun ls' hl' => sk_ (k ls' H locs (lvh_.st1 hl') hR hS))
  · exact True.intro
def I_iinc (i : Nat) (v : Int32) : Ii_ := fun l st σ => match lg_ l i with
  | some (.int x) => nx_ (st1_ l i (.int (x + v))) st σ
  | _ => none
theorem mn_iinc (i : Nat) (v : Int32) : Mn_ (I_iinc i v) := by
  intro lc st σ
  unfold I_iinc
  repeat' split
  all_goals first | exact True.intro | exact ⟨Nat.le_refl _, Nat.le_refl _⟩ | exact rfl
theorem so_iinc {i : Nat} {v : Int32} {n : Int} (hd : decode M.2.1 pc = .ok (.iinc i n, 3)) (hv : Int32.ofInt n = v) (hn : i < M.2.2.1) : So_ D cl dA base GF cn MT M bp pc (pc + 3) (I_iinc i v) := by
  intro p l e R s m args below meth c hC lc st σ ls H locs cells slots hl hR hS
  unfold I_iinc
  split
  · next x hx =>
    intro Q _ _ k
    obtain ⟨j, hj⟩ := ps_at hx
    exact lv_iinc hC.1 hC.2.1 hd hl.has hj (by rw [hv]) hn rfl (fun ls' hl' => sk_ (k ls' H locs (lvh_.st1 hl') hR hS))
  · exact True.intro
def I_iadd : Ii_ := fun l st σ => match st with
  | .int y :: .int x :: r => nx_ l (.int (x + y) :: r) σ
  | _ => none
theorem mn_iadd  : Mn_ (I_iadd ) := by
  intro lc st σ
  unfold I_iadd
  repeat' split
  all_goals first | exact True.intro | exact ⟨Nat.le_refl _, Nat.le_refl _⟩ | exact rfl
theorem so_iadd (hd : decode M.2.1 pc = .ok (.iadd, 1)) : So_ D cl dA base GF cn MT M bp pc (pc + 1) I_iadd := by
  intro p l e R s m args below meth c hC lc st σ ls H locs cells slots hl hR hS
  unfold I_iadd
  split
  · intro Q _ _ k
    exact lv_iadd hC.1 hC.2.1 hd (sk_ (k ls H locs hl hR hS))
  · exact True.intro
def I_isub : Ii_ := fun l st σ => match st with
  | .int y :: .int x :: r => nx_ l (.int (x - y) :: r) σ
  | _ => none
theorem mn_isub  : Mn_ (I_isub ) := by
  intro lc st σ
  unfold I_isub
  repeat' split
  all_goals first | exact True.intro | exact ⟨Nat.le_refl _, Nat.le_refl _⟩ | exact rfl
theorem so_isub (hd : decode M.2.1 pc = .ok (.isub, 1)) : So_ D cl dA base GF cn MT M bp pc (pc + 1) I_isub := by
  intro p l e R s m args below meth c hC lc st σ ls H locs cells slots hl hR hS
  unfold I_isub
  split
  · intro Q _ _ k
    exact lv_isub hC.1 hC.2.1 hd (sk_ (k ls H locs hl hR hS))
  · exact True.intro
def I_imul : Ii_ := fun l st σ => match st with
  | .int y :: .int x :: r => nx_ l (.int (x * y) :: r) σ
  | _ => none
theorem mn_imul  : Mn_ (I_imul ) := by
  intro lc st σ
  unfold I_imul
  repeat' split
  all_goals first | exact True.intro | exact ⟨Nat.le_refl _, Nat.le_refl _⟩ | exact rfl
theorem so_imul (hd : decode M.2.1 pc = .ok (.imul, 1)) : So_ D cl dA base GF cn MT M bp pc (pc + 1) I_imul := by
  intro p l e R s m args below meth c hC lc st σ ls H locs cells slots hl hR hS
  unfold I_imul
  split
  · intro Q _ _ k
    exact lv_imul hC.1 hC.2.1 hd (sk_ (k ls H locs hl hR hS))
  · exact True.intro
def I_iand : Ii_ := fun l st σ => match st with
  | .int y :: .int x :: r => nx_ l (.int (x &&& y) :: r) σ
  | _ => none
theorem mn_iand  : Mn_ (I_iand ) := by
  intro lc st σ
  unfold I_iand
  repeat' split
  all_goals first | exact True.intro | exact ⟨Nat.le_refl _, Nat.le_refl _⟩ | exact rfl
theorem so_iand (hd : decode M.2.1 pc = .ok (.iand, 1)) : So_ D cl dA base GF cn MT M bp pc (pc + 1) I_iand := by
  intro p l e R s m args below meth c hC lc st σ ls H locs cells slots hl hR hS
  unfold I_iand
  split
  · intro Q _ _ k
    exact lv_iand hC.1 hC.2.1 hd (sk_ (k ls H locs hl hR hS))
  · exact True.intro
def I_ior : Ii_ := fun l st σ => match st with
  | .int y :: .int x :: r => nx_ l (.int (x ||| y) :: r) σ
  | _ => none
theorem mn_ior  : Mn_ (I_ior ) := by
  intro lc st σ
  unfold I_ior
  repeat' split
  all_goals first | exact True.intro | exact ⟨Nat.le_refl _, Nat.le_refl _⟩ | exact rfl
theorem so_ior (hd : decode M.2.1 pc = .ok (.ior, 1)) : So_ D cl dA base GF cn MT M bp pc (pc + 1) I_ior := by
  intro p l e R s m args below meth c hC lc st σ ls H locs cells slots hl hR hS
  unfold I_ior
  split
  · intro Q _ _ k
    exact lv_ior hC.1 hC.2.1 hd (sk_ (k ls H locs hl hR hS))
  · exact True.intro
def I_ixor : Ii_ := fun l st σ => match st with
  | .int y :: .int x :: r => nx_ l (.int (x ^^^ y) :: r) σ
  | _ => none
theorem mn_ixor  : Mn_ (I_ixor ) := by
  intro lc st σ
  unfold I_ixor
  repeat' split
  all_goals first | exact True.intro | exact ⟨Nat.le_refl _, Nat.le_refl _⟩ | exact rfl
theorem so_ixor (hd : decode M.2.1 pc = .ok (.ixor, 1)) : So_ D cl dA base GF cn MT M bp pc (pc + 1) I_ixor := by
  intro p l e R s m args below meth c hC lc st σ ls H locs cells slots hl hR hS
  unfold I_ixor
  split
  · intro Q _ _ k
    exact lv_ixor hC.1 hC.2.1 hd (sk_ (k ls H locs hl hR hS))
  · exact True.intro
def I_ishl : Ii_ := fun l st σ => match st with
  | .int y :: .int x :: r => nx_ l (.int (x <<< (y &&& 31)) :: r) σ
  | _ => none
theorem mn_ishl  : Mn_ (I_ishl ) := by
  intro lc st σ
  unfold I_ishl
  repeat' split
  all_goals first | exact True.intro | exact ⟨Nat.le_refl _, Nat.le_refl _⟩ | exact rfl
theorem so_ishl (hd : decode M.2.1 pc = .ok (.ishl, 1)) : So_ D cl dA base GF cn MT M bp pc (pc + 1) I_ishl := by
  intro p l e R s m args below meth c hC lc st σ ls H locs cells slots hl hR hS
  unfold I_ishl
  split
  · intro Q _ _ k
    exact lv_ishl hC.1 hC.2.1 hd (sk_ (k ls H locs hl hR hS))
  · exact True.intro
def I_ishr : Ii_ := fun l st σ => match st with
  | .int y :: .int x :: r => nx_ l (.int (x >>> (y &&& 31)) :: r) σ
  | _ => none
theorem mn_ishr  : Mn_ (I_ishr ) := by
  intro lc st σ
  unfold I_ishr
  repeat' split
  all_goals first | exact True.intro | exact ⟨Nat.le_refl _, Nat.le_refl _⟩ | exact rfl
theorem so_ishr (hd : decode M.2.1 pc = .ok (.ishr, 1)) : So_ D cl dA base GF cn MT M bp pc (pc + 1) I_ishr := by
  intro p l e R s m args below meth c hC lc st σ ls H locs cells slots hl hR hS
  unfold I_ishr
  split
  · intro Q _ _ k
    exact lv_ishr hC.1 hC.2.1 hd (sk_ (k ls H locs hl hR hS))
  · exact True.intro
def I_iushr : Ii_ := fun l st σ => match st with
  | .int y :: .int x :: r => nx_ l (.int ((x.toUInt32 >>> (y.toUInt32 &&& Int32.toUInt32 31)).toInt32) :: r) σ
  | _ => none
theorem mn_iushr  : Mn_ (I_iushr ) := by
  intro lc st σ
  unfold I_iushr
  repeat' split
  all_goals first | exact True.intro | exact ⟨Nat.le_refl _, Nat.le_refl _⟩ | exact rfl
theorem so_iushr (hd : decode M.2.1 pc = .ok (.iushr, 1)) : So_ D cl dA base GF cn MT M bp pc (pc + 1) I_iushr := by
  intro p l e R s m args below meth c hC lc st σ ls H locs cells slots hl hR hS
  unfold I_iushr
  split
  · intro Q _ _ k
    exact lv_iushr hC.1 hC.2.1 hd rfl (sk_ (k ls H locs hl hR hS))
  · exact True.intro
def I_idiv : Ii_ := fun l st σ => match st with
  | .int y :: .int x :: r => if y = 0 then none else nx_ l (.int (x / y) :: r) σ
  | _ => none
theorem mn_idiv  : Mn_ (I_idiv ) := by
  intro lc st σ
  unfold I_idiv
  repeat' split
  all_goals first | exact True.intro | exact ⟨Nat.le_refl _, Nat.le_refl _⟩ | exact rfl
theorem so_idiv (hd : decode M.2.1 pc = .ok (.idiv, 1)) : So_ D cl dA base GF cn MT M bp pc (pc + 1) I_idiv := by
  intro p l e R s m args below meth c hC lc st σ ls H locs cells slots hl hR hS
  unfold I_idiv
  split
  · next x y r =>
    split
    · exact True.intro
    · next hne =>
      intro Q _ _ k
      exact lv_idiv hC.1 hC.2.1 hd hne (sk_ (k ls H locs hl hR hS))
  · exact True.intro
def I_irem : Ii_ := fun l st σ => match st with
  | .int y :: .int x :: r => if y = 0 then none else nx_ l (.int (x - x / y * y) :: r) σ
  | _ => none
theorem mn_irem  : Mn_ (I_irem ) := by
  intro lc st σ
  unfold I_irem
  repeat' split
  all_goals first | exact True.intro | exact ⟨Nat.le_refl _, Nat.le_refl _⟩ | exact rfl
theorem so_irem (hd : decode M.2.1 pc = .ok (.irem, 1)) : So_ D cl dA base GF cn MT M bp pc (pc + 1) I_irem := by
  intro p l e R s m args below meth c hC lc st σ ls H locs cells slots hl hR hS
  unfold I_irem
  split
  · next x y r =>
    split
    · exact True.intro
    · next hne =>
      intro Q _ _ k
      exact lv_irem hC.1 hC.2.1 hd hne (sk_ (k ls H locs hl hR hS))
  · exact True.intro
def I_ineg : Ii_ := fun l st σ => match st with
  | .int x :: r => nx_ l (.int (-x) :: r) σ
  | _ => none
theorem mn_ineg  : Mn_ (I_ineg ) := by
  intro lc st σ
  unfold I_ineg
  repeat' split
  all_goals first | exact True.intro | exact ⟨Nat.le_refl _, Nat.le_refl _⟩ | exact rfl
theorem so_ineg (hd : decode M.2.1 pc = .ok (.ineg, 1)) : So_ D cl dA base GF cn MT M bp pc (pc + 1) I_ineg := by
  intro p l e R s m args below meth c hC lc st σ ls H locs cells slots hl hR hS
  unfold I_ineg
  split
  · intro Q _ _ k
    exact lv_ineg hC.1 hC.2.1 hd (sk_ (k ls H locs hl hR hS))
  · exact True.intro
def I_ladd : Ii_ := fun l st σ => match st with
  | .long y :: .long x :: r => nx_ l (.long (x + y) :: r) σ
  | _ => none
theorem mn_ladd  : Mn_ (I_ladd ) := by
  intro lc st σ
  unfold I_ladd
  repeat' split
  all_goals first | exact True.intro | exact ⟨Nat.le_refl _, Nat.le_refl _⟩ | exact rfl
theorem so_ladd (hd : decode M.2.1 pc = .ok (.ladd, 1)) : So_ D cl dA base GF cn MT M bp pc (pc + 1) I_ladd := by
  intro p l e R s m args below meth c hC lc st σ ls H locs cells slots hl hR hS
  unfold I_ladd
  split
  · intro Q _ _ k
    exact lv_ladd hC.1 hC.2.1 hd (sk_ (k ls H locs hl hR hS))
  · exact True.intro
def I_lsub : Ii_ := fun l st σ => match st with
  | .long y :: .long x :: r => nx_ l (.long (x - y) :: r) σ
  | _ => none
theorem mn_lsub  : Mn_ (I_lsub ) := by
  intro lc st σ
  unfold I_lsub
  repeat' split
  all_goals first | exact True.intro | exact ⟨Nat.le_refl _, Nat.le_refl _⟩ | exact rfl
theorem so_lsub (hd : decode M.2.1 pc = .ok (.lsub, 1)) : So_ D cl dA base GF cn MT M bp pc (pc + 1) I_lsub := by
  intro p l e R s m args below meth c hC lc st σ ls H locs cells slots hl hR hS
  unfold I_lsub
  split
  · intro Q _ _ k
    exact lv_lsub hC.1 hC.2.1 hd (sk_ (k ls H locs hl hR hS))
  · exact True.intro
def I_lmul : Ii_ := fun l st σ => match st with
  | .long y :: .long x :: r => nx_ l (.long (x * y) :: r) σ
  | _ => none
theorem mn_lmul  : Mn_ (I_lmul ) := by
  intro lc st σ
  unfold I_lmul
  repeat' split
  all_goals first | exact True.intro | exact ⟨Nat.le_refl _, Nat.le_refl _⟩ | exact rfl
theorem so_lmul (hd : decode M.2.1 pc = .ok (.lmul, 1)) : So_ D cl dA base GF cn MT M bp pc (pc + 1) I_lmul := by
  intro p l e R s m args below meth c hC lc st σ ls H locs cells slots hl hR hS
  unfold I_lmul
  split
  · intro Q _ _ k
    exact lv_lmul hC.1 hC.2.1 hd (sk_ (k ls H locs hl hR hS))
  · exact True.intro
def I_lxor : Ii_ := fun l st σ => match st with
  | .long y :: .long x :: r => nx_ l (.long (x ^^^ y) :: r) σ
  | _ => none
theorem mn_lxor  : Mn_ (I_lxor ) := by
  intro lc st σ
  unfold I_lxor
  repeat' split
  all_goals first | exact True.intro | exact ⟨Nat.le_refl _, Nat.le_refl _⟩ | exact rfl
theorem so_lxor (hd : decode M.2.1 pc = .ok (.lxor, 1)) : So_ D cl dA base GF cn MT M bp pc (pc + 1) I_lxor := by
  intro p l e R s m args below meth c hC lc st σ ls H locs cells slots hl hR hS
  unfold I_lxor
  split
  · intro Q _ _ k
    exact lv_lxor hC.1 hC.2.1 hd (sk_ (k ls H locs hl hR hS))
  · exact True.intro
def I_ldiv : Ii_ := fun l st σ => match st with
  | .long y :: .long x :: r => if y = 0 then none else nx_ l (.long (x / y) :: r) σ
  | _ => none
theorem mn_ldiv  : Mn_ (I_ldiv ) := by
  intro lc st σ
  unfold I_ldiv
  repeat' split
  all_goals first | exact True.intro | exact ⟨Nat.le_refl _, Nat.le_refl _⟩ | exact rfl
theorem so_ldiv (hd : decode M.2.1 pc = .ok (.ldiv, 1)) : So_ D cl dA base GF cn MT M bp pc (pc + 1) I_ldiv := by
  intro p l e R s m args below meth c hC lc st σ ls H locs cells slots hl hR hS
  unfold I_ldiv
  split
  · next x y r =>
    split
    · exact True.intro
    · next hne =>
      intro Q _ _ k
      exact lv_ldiv hC.1 hC.2.1 hd hne (sk_ (k ls H locs hl hR hS))
  · exact True.intro
def I_i2l : Ii_ := fun l st σ => match st with
  | .int x :: r => nx_ l (.long x.toInt64 :: r) σ
  | _ => none
theorem mn_i2l  : Mn_ (I_i2l ) := by
  intro lc st σ
  unfold I_i2l
  repeat' split
  all_goals first | exact True.intro | exact ⟨Nat.le_refl _, Nat.le_refl _⟩ | exact rfl
theorem so_i2l (hd : decode M.2.1 pc = .ok (.i2l, 1)) : So_ D cl dA base GF cn MT M bp pc (pc + 1) I_i2l := by
  intro p l e R s m args below meth c hC lc st σ ls H locs cells slots hl hR hS
  unfold I_i2l
  split
  · intro Q _ _ k
    exact lv_i2l hC.1 hC.2.1 hd rfl (sk_ (k ls H locs hl hR hS))
  · exact True.intro
def I_l2i : Ii_ := fun l st σ => match st with
  | .long x :: r => nx_ l (.int x.toInt32 :: r) σ
  | _ => none
theorem mn_l2i  : Mn_ (I_l2i ) := by
  intro lc st σ
  unfold I_l2i
  repeat' split
  all_goals first | exact True.intro | exact ⟨Nat.le_refl _, Nat.le_refl _⟩ | exact rfl
theorem so_l2i (hd : decode M.2.1 pc = .ok (.l2i, 1)) : So_ D cl dA base GF cn MT M bp pc (pc + 1) I_l2i := by
  intro p l e R s m args below meth c hC lc st σ ls H locs cells slots hl hR hS
  unfold I_l2i
  split
  · intro Q _ _ k
    exact lv_l2i hC.1 hC.2.1 hd rfl (sk_ (k ls H locs hl hR hS))
  · exact True.intro
def I_i2b : Ii_ := fun l st σ => match st with
  | .int x :: r => nx_ l (.int x.toInt8.toInt32 :: r) σ
  | _ => none
theorem mn_i2b  : Mn_ (I_i2b ) := by
  intro lc st σ
  unfold I_i2b
  repeat' split
  all_goals first | exact True.intro | exact ⟨Nat.le_refl _, Nat.le_refl _⟩ | exact rfl
theorem so_i2b (hd : decode M.2.1 pc = .ok (.i2b, 1)) : So_ D cl dA base GF cn MT M bp pc (pc + 1) I_i2b := by
  intro p l e R s m args below meth c hC lc st σ ls H locs cells slots hl hR hS
  unfold I_i2b
  split
  · intro Q _ _ k
    exact lv_i2b hC.1 hC.2.1 hd rfl (sk_ (k ls H locs hl hR hS))
  · exact True.intro
def I_i2c : Ii_ := fun l st σ => match st with
  | .int x :: r => nx_ l (.int ((x.toUInt32 % 65536).toInt32) :: r) σ
  | _ => none
theorem mn_i2c  : Mn_ (I_i2c ) := by
  intro lc st σ
  unfold I_i2c
  repeat' split
  all_goals first | exact True.intro | exact ⟨Nat.le_refl _, Nat.le_refl _⟩ | exact rfl
theorem so_i2c (hd : decode M.2.1 pc = .ok (.i2c, 1)) : So_ D cl dA base GF cn MT M bp pc (pc + 1) I_i2c := by
  intro p l e R s m args below meth c hC lc st σ ls H locs cells slots hl hR hS
  unfold I_i2c
  split
  · intro Q _ _ k
    exact lv_i2c hC.1 hC.2.1 hd rfl (sk_ (k ls H locs hl hR hS))
  · exact True.intro
def I_i2f : Ii_ := fun l st σ => match st with
  | .int x :: r => nx_ l (.float (FP.i2f x) :: r) σ
  | _ => none
theorem mn_i2f  : Mn_ (I_i2f ) := by
  intro lc st σ
  unfold I_i2f
  repeat' split
  all_goals first | exact True.intro | exact ⟨Nat.le_refl _, Nat.le_refl _⟩ | exact rfl
theorem so_i2f (hd : decode M.2.1 pc = .ok (.i2f, 1)) : So_ D cl dA base GF cn MT M bp pc (pc + 1) I_i2f := by
  intro p l e R s m args below meth c hC lc st σ ls H locs cells slots hl hR hS
  unfold I_i2f
  split
  · intro Q _ _ k
    exact lv_i2f hC.1 hC.2.1 hd (sk_ (k ls H locs hl hR hS))
  · exact True.intro
def I_i2d : Ii_ := fun l st σ => match st with
  | .int x :: r => nx_ l (.double (FP.i2d x) :: r) σ
  | _ => none
theorem mn_i2d  : Mn_ (I_i2d ) := by
  intro lc st σ
  unfold I_i2d
  repeat' split
  all_goals first | exact True.intro | exact ⟨Nat.le_refl _, Nat.le_refl _⟩ | exact rfl
theorem so_i2d (hd : decode M.2.1 pc = .ok (.i2d, 1)) : So_ D cl dA base GF cn MT M bp pc (pc + 1) I_i2d := by
  intro p l e R s m args below meth c hC lc st σ ls H locs cells slots hl hR hS
  unfold I_i2d
  split
  · intro Q _ _ k
    exact lv_i2d hC.1 hC.2.1 hd (sk_ (k ls H locs hl hR hS))
  · exact True.intro
def I_lcmp : Ii_ := fun l st σ => match st with
  | .long y :: .long x :: r => nx_ l (.int (lg_cmp x y) :: r) σ
  | _ => none
theorem mn_lcmp  : Mn_ (I_lcmp ) := by
  intro lc st σ
  unfold I_lcmp
  repeat' split
  all_goals first | exact True.intro | exact ⟨Nat.le_refl _, Nat.le_refl _⟩ | exact rfl
theorem so_lcmp (hd : decode M.2.1 pc = .ok (.lcmp, 1)) : So_ D cl dA base GF cn MT M bp pc (pc + 1) I_lcmp := by
  intro p l e R s m args below meth c hC lc st σ ls H locs cells slots hl hR hS
  unfold I_lcmp
  split
  · intro Q _ _ k
    exact W.lcmp hC.1 hC.2.1 hd (sk_ (k ls H locs hl hR hS))
  · exact True.intro
def I_fdiv : Ii_ := fun l st σ => match st with
  | .float y :: .float x :: r => if FP.fdiv x y &&& 0x7fffffff ≤ 0x7f800000 then nx_ l (.float (FP.fdiv x y) :: r) σ else none
  | _ => none
theorem mn_fdiv  : Mn_ (I_fdiv ) := by
  intro lc st σ
  unfold I_fdiv
  repeat' split
  all_goals first | exact True.intro | exact ⟨Nat.le_refl _, Nat.le_refl _⟩ | exact rfl
theorem so_fdiv (hd : decode M.2.1 pc = .ok (.fdiv, 1)) : So_ D cl dA base GF cn MT M bp pc (pc + 1) I_fdiv := by
  intro p l e R s m args below meth c hC lc st σ ls H locs cells slots hl hR hS
  unfold I_fdiv
  split
  · split
    · next hne =>
      intro Q _ _ k
      exact lv_fdiv hC.1 hC.2.1 hd hne (sk_ (k ls H locs hl hR hS))
    · exact True.intro
  · exact True.intro
def I_ddiv : Ii_ := fun l st σ => match st with
  | .double y :: .double x :: r => if FP.ddiv x y &&& 0x7fffffffffffffff ≤ 0x7ff0000000000000 then nx_ l (.double (FP.ddiv x y) :: r) σ else none
  | _ => none
theorem mn_ddiv  : Mn_ (I_ddiv ) := by
  intro lc st σ
  unfold I_ddiv
  repeat' split
  all_goals first | exact True.intro | exact ⟨Nat.le_refl _, Nat.le_refl _⟩ | exact rfl
theorem so_ddiv (hd : decode M.2.1 pc = .ok (.ddiv, 1)) : So_ D cl dA base GF cn MT M bp pc (pc + 1) I_ddiv := by
  intro p l e R s m args below meth c hC lc st σ ls H locs cells slots hl hR hS
  unfold I_ddiv
  split
  · split
    · next hne =>
      intro Q _ _ k
      exact lv_ddiv hC.1 hC.2.1 hd hne (sk_ (k ls H locs hl hR hS))
    · exact True.intro
  · exact True.intro
def I_f2d : Ii_ := fun l st σ => match st with
  | .float x :: r => if FP.f2d x &&& 0x7fffffffffffffff ≤ 0x7ff0000000000000 then nx_ l (.double (FP.f2d x) :: r) σ else none
  | _ => none
theorem mn_f2d  : Mn_ (I_f2d ) := by
  intro lc st σ
  unfold I_f2d
  repeat' split
  all_goals first | exact True.intro | exact ⟨Nat.le_refl _, Nat.le_refl _⟩ | exact rfl
theorem so_f2d (hd : decode M.2.1 pc = .ok (.f2d, 1)) : So_ D cl dA base GF cn MT M bp pc (pc + 1) I_f2d := by
  intro p l e R s m args below meth c hC lc st σ ls H locs cells slots hl hR hS
  unfold I_f2d
  split
  · split
    · next hne =>
      intro Q _ _ k
      exact lv_f2d hC.1 hC.2.1 hd hne (sk_ (k ls H locs hl hR hS))
    · exact True.intro
  · exact True.intro
def I_dcmp (o : CmpOp) : Ii_ := fun l st σ => match st with
  | .double y :: .double x :: r => nx_ l (.int (Op.cmpValue (FP.dcmp x y) o) :: r) σ
  | _ => none
theorem mn_dcmp (o : CmpOp) : Mn_ (I_dcmp o) := by
  intro lc st σ
  unfold I_dcmp
  repeat' split
  all_goals first | exact True.intro | exact ⟨Nat.le_refl _, Nat.le_refl _⟩ | exact rfl
theorem so_dcmp {o : CmpOp} (hd : decode M.2.1 pc = .ok (.dcmp o, 1)) : So_ D cl dA base GF cn MT M bp pc (pc + 1) (I_dcmp o) := by
  intro p l e R s m args below meth c hC lc st σ ls H locs cells slots hl hR hS
  unfold I_dcmp
  split
  · intro Q _ _ k
    exact lv_dcmp hC.1 hC.2.1 hd (sk_ (k ls H locs hl hR hS))
  · exact True.intro
def I_dup : Ii_ := fun l st σ => match st with
  | a :: r => if a.category = 1 then nx_ l (a :: a :: r) σ else none
  | _ => none
theorem mn_dup  : Mn_ (I_dup ) := by
  intro lc st σ
  unfold I_dup
  repeat' split
  all_goals first | exact True.intro | exact ⟨Nat.le_refl _, Nat.le_refl _⟩ | exact rfl
theorem so_dup (hd : decode M.2.1 pc = .ok (.dup, 1)) : So_ D cl dA base GF cn MT M bp pc (pc + 1) I_dup := by
  intro p l e R s m args below meth c hC lc st σ ls H locs cells slots hl hR hS
  unfold I_dup
  split
  · split
    · next h =>
      intro Q _ _ k
      exact lv_dup hC.1 hC.2.1 hd h (sk_ (k ls H locs hl hR hS))
    · exact True.intro
  · exact True.intro
def I_pop : Ii_ := fun l st σ => match st with
  | a :: r => if a.category = 1 then nx_ l r σ else none
  | _ => none
theorem mn_pop  : Mn_ (I_pop ) := by
  intro lc st σ
  unfold I_pop
  repeat' split
  all_goals first | exact True.intro | exact ⟨Nat.le_refl _, Nat.le_refl _⟩ | exact rfl
theorem so_pop (hd : decode M.2.1 pc = .ok (.pop, 1)) : So_ D cl dA base GF cn MT M bp pc (pc + 1) I_pop := by
  intro p l e R s m args below meth c hC lc st σ ls H locs cells slots hl hR hS
  unfold I_pop
  split
  · split
    · next h =>
      intro Q _ _ k
      exact lv_pop hC.1 hC.2.1 hd h (sk_ (k ls H locs hl hR hS))
    · exact True.intro
  · exact True.intro
def I_dup_x1 : Ii_ := fun l st σ => match st with
  | a :: b :: r => if a.category = 1 ∧ b.category = 1 then nx_ l (a :: b :: a :: r) σ else none
  | _ => none
theorem mn_dup_x1  : Mn_ (I_dup_x1 ) := by
  intro lc st σ
  unfold I_dup_x1
  repeat' split
  all_goals first | exact True.intro | exact ⟨Nat.le_refl _, Nat.le_refl _⟩ | exact rfl
theorem so_dup_x1 (hd : decode M.2.1 pc = .ok (.dup_x1, 1)) : So_ D cl dA base GF cn MT M bp pc (pc + 1) I_dup_x1 := by
  intro p l e R s m args below meth c hC lc st σ ls H locs cells slots hl hR hS
  unfold I_dup_x1
  split
  · split
    · next h =>
      intro Q _ _ k
      exact lv_dup_x1 hC.1 hC.2.1 hd h.1 h.2 (sk_ (k ls H locs hl hR hS))
    · exact True.intro
  · exact True.intro
def I_dup2 : Ii_ := fun l st σ => match st with
  | a :: b :: r => if a.category = 1 ∧ b.category = 1 then nx_ l (a :: b :: a :: b :: r) σ else none
  | _ => none
theorem mn_dup2  : Mn_ (I_dup2 ) := by
  intro lc st σ
  unfold I_dup2
  repeat' split
  all_goals first | exact True.intro | exact ⟨Nat.le_refl _, Nat.le_refl _⟩ | exact rfl
theorem so_dup2 (hd : decode M.2.1 pc = .ok (.dup2, 1)) : So_ D cl dA base GF cn MT M bp pc (pc + 1) I_dup2 := by
  intro p l e R s m args below meth c hC lc st σ ls H locs cells slots hl hR hS
  unfold I_dup2
  split
  · split
    · next h =>
      intro Q _ _ k
      exact lv_dup2_11 hC.1 hC.2.1 hd h.1 h.2 (sk_ (k ls H locs hl hR hS))
    · exact True.intro
  · exact True.intro
def I_ifne (b : Nat) : Ii_ := fun l st σ => match st with
  | .int x :: r => if x = 0 then nx_ l r σ else jp_ b l r σ
  | _ => none
theorem mn_ifne (b : Nat) : Mn_ (I_ifne b) := by
  intro lc st σ
  unfold I_ifne
  repeat' split
  all_goals first | exact True.intro | exact ⟨Nat.le_refl _, Nat.le_refl _⟩ | exact rfl
theorem so_ifne {b : Nat} {off : Int} (hd : decode M.2.1 pc = .ok (.ifCond .ne off, 3)) (ht : (pc : Int) + off = (bp b : Int)) : So_ D cl dA base GF cn MT M bp pc (pc + 3) (I_ifne b) := by
  intro p l e R s m args below meth c hC lc st σ ls H locs cells slots hl hR hS
  unfold I_ifne
  split
  · split
    · next h =>
      intro Q _ _ k
      exact lv_if_ne hC.1 hC.2.1 hd ht (fun h' => absurd h h') (fun _ => sk_ (k ls H locs hl hR hS))
    · next h =>
      intro Q k
      exact lv_if_ne hC.1 hC.2.1 hd ht (fun _ => k ls hl) (fun h' => absurd h' h)
  · exact True.intro
def I_icne (b : Nat) : Ii_ := fun l st σ => match st with
  | .int y :: .int x :: r => if x = y then nx_ l r σ else jp_ b l r σ
  | _ => none
theorem mn_icne (b : Nat) : Mn_ (I_icne b) := by
  intro lc st σ
  unfold I_icne
  repeat' split
  all_goals first | exact True.intro | exact ⟨Nat.le_refl _, Nat.le_refl _⟩ | exact rfl
theorem so_icne {b : Nat} {off : Int} (hd : decode M.2.1 pc = .ok (.if_icmp .ne off, 3)) (ht : (pc : Int) + off = (bp b : Int)) : So_ D cl dA base GF cn MT M bp pc (pc + 3) (I_icne b) := by
  intro p l e R s m args below meth c hC lc st σ ls H locs cells slots hl hR hS
  unfold I_icne
  split
  · split
    · next h =>
      intro Q _ _ k
      exact lv_icmp_ne hC.1 hC.2.1 hd ht (fun h' => absurd h h') (fun _ => sk_ (k ls H locs hl hR hS))
    · next h =>
      intro Q k
      exact lv_icmp_ne hC.1 hC.2.1 hd ht (fun _ => k ls hl) (fun h' => absurd h' h)
  · exact True.intro
def I_ifeq (b : Nat) : Ii_ := fun l st σ => match st with
  | .int x :: r => if x = 0 then jp_ b l r σ else nx_ l r σ
  | _ => none
theorem mn_ifeq (b : Nat) : Mn_ (I_ifeq b) := by
  intro lc st σ
  unfold I_ifeq
  repeat' split
  all_goals first | exact True.intro | exact ⟨Nat.le_refl _, Nat.le_refl _⟩ | exact rfl
theorem so_ifeq {b : Nat} {off : Int} (hd : decode M.2.1 pc = .ok (.ifCond .eq off, 3)) (ht : (pc : Int) + off = (bp b : Int)) : So_ D cl dA base GF cn MT M bp pc (pc + 3) (I_ifeq b) := by
  intro p l e R s m args below meth c hC lc st σ ls H locs cells slots hl hR hS
  unfold I_ifeq
  split
  · split
    · next h =>
      intro Q k
      exact lv_if_eq hC.1 hC.2.1 hd ht (fun _ => k ls hl) (fun h' => absurd h h')
    · next h =>
      intro Q _ _ k
      exact lv_if_eq hC.1 hC.2.1 hd ht (fun h' => absurd h' h) (fun _ => sk_ (k ls H locs hl hR hS))
  · exact True.intro
def I_iflt (b : Nat) : Ii_ := fun l st σ => match st with
  | .int x :: r => if x < 0 then jp_ b l r σ else nx_ l r σ
  | _ => none
theorem mn_iflt (b : Nat) : Mn_ (I_iflt b) := by
  intro lc st σ
  unfold I_iflt
  repeat' split
  all_goals first | exact True.intro | exact ⟨Nat.le_refl _, Nat.le_refl _⟩ | exact rfl
theorem so_iflt {b : Nat} {off : Int} (hd : decode M.2.1 pc = .ok (.ifCond .lt off, 3)) (ht : (pc : Int) + off = (bp b : Int)) : So_ D cl dA base GF cn MT M bp pc (pc + 3) (I_iflt b) := by
  intro p l e R s m args below meth c hC lc st σ ls H locs cells slots hl hR hS
  unfold I_iflt
  split
  · split
    · next h =>
      intro Q k
      exact lv_if_lt hC.1 hC.2.1 hd ht (fun _ => k ls hl) (fun h' => absurd h h')
    · next h =>
      intro Q _ _ k
      exact lv_if_lt hC.1 hC.2.1 hd ht (fun h' => absurd h' h) (fun _ => sk_ (k ls H locs hl hR hS))
  · exact True.intro
def I_ifge (b : Nat) : Ii_ := fun l st σ => match st with
  | .int x :: r => if 0 ≤ x then jp_ b l r σ else nx_ l r σ
  | _ => none
theorem mn_ifge (b : Nat) : Mn_ (I_ifge b) := by
  intro lc st σ
  unfold I_ifge
  repeat' split
  all_goals first | exact True.intro | exact ⟨Nat.le_refl _, Nat.le_refl _⟩ | exact rfl
theorem so_ifge {b : Nat} {off : Int} (hd : decode M.2.1 pc = .ok (.ifCond .ge off, 3)) (ht : (pc : Int) + off = (bp b : Int)) : So_ D cl dA base GF cn MT M bp pc (pc + 3) (I_ifge b) := by
  intro p l e R s m args below meth c hC lc st σ ls H locs cells slots hl hR hS
  unfold I_ifge
  split
  · split
    · next h =>
      intro Q k
      exact lv_if_ge hC.1 hC.2.1 hd ht (fun _ => k ls hl) (fun h' => absurd h h')
    · next h =>
      intro Q _ _ k
      exact lv_if_ge hC.1 hC.2.1 hd ht (fun h' => absurd h' h) (fun _ => sk_ (k ls H locs hl hR hS))
  · exact True.intro
def I_ifgt (b : Nat) : Ii_ := fun l st σ => match st with
  | .int x :: r => if 0 < x then jp_ b l r σ else nx_ l r σ
  | _ => none
theorem mn_ifgt (b : Nat) : Mn_ (I_ifgt b) := by
  intro lc st σ
  unfold I_ifgt
  repeat' split
  all_goals first | exact True.intro | exact ⟨Nat.le_refl _, Nat.le_refl _⟩ | exact rfl
theorem so_ifgt {b : Nat} {off : Int} (hd : decode M.2.1 pc = .ok (.ifCond .gt off, 3)) (ht : (pc : Int) + off = (bp b : Int)) : So_ D cl dA base GF cn MT M bp pc (pc + 3) (I_ifgt b) := by
  intro p l e R s m args below meth c hC lc st σ ls H locs cells slots hl hR hS
  unfold I_ifgt
  split
  · split
    · next h =>
      intro Q k
      exact lv_if_gt hC.1 hC.2.1 hd ht (fun _ => k ls hl) (fun h' => absurd h h')
    · next h =>
      intro Q _ _ k
      exact lv_if_gt hC.1 hC.2.1 hd ht (fun h' => absurd h' h) (fun _ => sk_ (k ls H locs hl hR hS))
  · exact True.intro
def I_ifle (b : Nat) : Ii_ := fun l st σ => match st with
  | .int x :: r => if x ≤ 0 then jp_ b l r σ else nx_ l r σ
  | _ => none
theorem mn_ifle (b : Nat) : Mn_ (I_ifle b) := by
  intro lc st σ
  unfold I_ifle
  repeat' split
  all_goals first | exact True.intro | exact ⟨Nat.le_refl _, Nat.le_refl _⟩ | exact rfl
theorem so_ifle {b : Nat} {off : Int} (hd : decode M.2.1 pc = .ok (.ifCond .le off, 3)) (ht : (pc : Int) + off = (bp b : Int)) : So_ D cl dA base GF cn MT M bp pc (pc + 3) (I_ifle b) := by
  intro p l e R s m args below meth c hC lc st σ ls H locs cells slots hl hR hS
  unfold I_ifle
  split
  · split
    · next h =>
      intro Q k
      exact lv_if_le hC.1 hC.2.1 hd ht (fun _ => k ls hl) (fun h' => absurd h h')
    · next h =>
      intro Q _ _ k
      exact lv_if_le hC.1 hC.2.1 hd ht (fun h' => absurd h' h) (fun _ => sk_ (k ls H locs hl hR hS))
  · exact True.intro
def I_iceq (b : Nat) : Ii_ := fun l st σ => match st with
  | .int y :: .int x :: r => if x = y then jp_ b l r σ else nx_ l r σ
  | _ => none
theorem mn_iceq (b : Nat) : Mn_ (I_iceq b) := by
  intro lc st σ
  unfold I_iceq
  repeat' split
  all_goals first | exact True.intro | exact ⟨Nat.le_refl _, Nat.le_refl _⟩ | exact rfl
theorem so_iceq {b : Nat} {off : Int} (hd : decode M.2.1 pc = .ok (.if_icmp .eq off, 3)) (ht : (pc : Int) + off = (bp b : Int)) : So_ D cl dA base GF cn MT M bp pc (pc + 3) (I_iceq b) := by
  intro p l e R s m args below meth c hC lc st σ ls H locs cells slots hl hR hS
  unfold I_iceq
  split
  · split
    · next h =>
      intro Q k
      exact lv_icmp_eq hC.1 hC.2.1 hd ht (fun _ => k ls hl) (fun h' => absurd h h')
    · next h =>
      intro Q _ _ k
      exact lv_icmp_eq hC.1 hC.2.1 hd ht (fun h' => absurd h' h) (fun _ => sk_ (k ls H locs hl hR hS))
  · exact True.intro
def I_iclt (b : Nat) : Ii_ := fun l st σ => match st with
  | .int y :: .int x :: r => if x < y then jp_ b l r σ else nx_ l r σ
  | _ => none
theorem mn_iclt (b : Nat) : Mn_ (I_iclt b) := by
  intro lc st σ
  unfold I_iclt
  repeat' split
  all_goals first | exact True.intro | exact ⟨Nat.le_refl _, Nat.le_refl _⟩ | exact rfl
theorem so_iclt {b : Nat} {off : Int} (hd : decode M.2.1 pc = .ok (.if_icmp .lt off, 3)) (ht : (pc : Int) + off = (bp b : Int)) : So_ D cl dA base GF cn MT M bp pc (pc + 3) (I_iclt b) := by
  intro p l e R s m args below meth c hC lc st σ ls H locs cells slots hl hR hS
  unfold I_iclt
  split
  · split
    · next h =>
      intro Q k
      exact lv_icmp_lt hC.1 hC.2.1 hd ht (fun _ => k ls hl) (fun h' => absurd h h')
    · next h =>
      intro Q _ _ k
      exact lv_icmp_lt hC.1 hC.2.1 hd ht (fun h' => absurd h' h) (fun _ => sk_ (k ls H locs hl hR hS))
  · exact True.intro
def I_icge (b : Nat) : Ii_ := fun l st σ => match st with
  | .int y :: .int x :: r => if y ≤ x then jp_ b l r σ else nx_ l r σ
  | _ => none
theorem mn_icge (b : Nat) : Mn_ (I_icge b) := by
  intro lc st σ
  unfold I_icge
  repeat' split
  all_goals first | exact True.intro | exact ⟨Nat.le_refl _, Nat.le_refl _⟩ | exact rfl
theorem so_icge {b : Nat} {off : Int} (hd : decode M.2.1 pc = .ok (.if_icmp .ge off, 3)) (ht : (pc : Int) + off = (bp b : Int)) : So_ D cl dA base GF cn MT M bp pc (pc + 3) (I_icge b) := by
  intro p l e R s m args below meth c hC lc st σ ls H locs cells slots hl hR hS
  unfold I_icge
  split
  · split
    · next h =>
      intro Q k
      exact lv_icmp_ge hC.1 hC.2.1 hd ht (fun _ => k ls hl) (fun h' => absurd h h')
    · next h =>
      intro Q _ _ k
      exact lv_icmp_ge hC.1 hC.2.1 hd ht (fun h' => absurd h' h) (fun _ => sk_ (k ls H locs hl hR hS))
  · exact True.intro
def I_icgt (b : Nat) : Ii_ := fun l st σ => match st with
  | .int y :: .int x :: r => if y < x then jp_ b l r σ else nx_ l r σ
  | _ => none
theorem mn_icgt (b : Nat) : Mn_ (I_icgt b) := by
  intro lc st σ
  unfold I_icgt
  repeat' split
  all_goals first | exact True.intro | exact ⟨Nat.le_refl _, Nat.le_refl _⟩ | exact rfl
theorem so_icgt {b : Nat} {off : Int} (hd : decode M.2.1 pc = .ok (.if_icmp .gt off, 3)) (ht : (pc : Int) + off = (bp b : Int)) : So_ D cl dA base GF cn MT M bp pc (pc + 3) (I_icgt b) := by
  intro p l e R s m args below meth c hC lc st σ ls H locs cells slots hl hR hS
  unfold I_icgt
  split
  · split
    · next h =>
      intro Q k
      exact lv_icmp_gt hC.1 hC.2.1 hd ht (fun _ => k ls hl) (fun h' => absurd h h')
    · next h =>
      intro Q _ _ k
      exact lv_icmp_gt hC.1 hC.2.1 hd ht (fun h' => absurd h' h) (fun _ => sk_ (k ls H locs hl hR hS))
  · exact True.intro
def I_icle (b : Nat) : Ii_ := fun l st σ => match st with
  | .int y :: .int x :: r => if x ≤ y then jp_ b l r σ else nx_ l r σ
  | _ => none
theorem mn_icle (b : Nat) : Mn_ (I_icle b) := by
  intro lc st σ
  unfold I_icle
  repeat' split
  all_goals first | exact True.intro | exact ⟨Nat.le_refl _, Nat.le_refl _⟩ | exact rfl
theorem so_icle {b : Nat} {off : Int} (hd : decode M.2.1 pc = .ok (.if_icmp .le off, 3)) (ht : (pc : Int) + off = (bp b : Int)) : So_ D cl dA base GF cn MT M bp pc (pc + 3) (I_icle b) := by
  intro p l e R s m args below meth c hC lc st σ ls H locs cells slots hl hR hS
  unfold I_icle
  split
  · split
    · next h =>
      intro Q k
      exact lv_icmp_le hC.1 hC.2.1 hd ht (fun _ => k ls hl) (fun h' => absurd h h')
    · next h =>
      intro Q _ _ k
      exact lv_icmp_le hC.1 hC.2.1 hd ht (fun h' => absurd h' h) (fun _ => sk_ (k ls H locs hl hR hS))
  · exact True.intro
def I_ifnull (b : Nat) : Ii_ := fun l st σ => match st with
  | .null :: r => jp_ b l r σ
  | .ref _ :: r => nx_ l r σ
  | _ => none
theorem mn_ifnull (b : Nat) : Mn_ (I_ifnull b) := by
  intro lc st σ
  unfold I_ifnull
  repeat' split
  all_goals first | exact True.intro | exact ⟨Nat.le_refl _, Nat.le_refl _⟩ | exact rfl
theorem so_ifnull {b : Nat} {off : Int} (hd : decode M.2.1 pc = .ok (.ifnull off, 3)) (ht : (pc : Int) + off = (bp b : Int)) : So_ D cl dA base GF cn MT M bp pc (pc + 3) (I_ifnull b) := by
  intro p l e R s m args below meth c hC lc st σ ls H locs cells slots hl hR hS
  unfold I_ifnull
  split
  · intro Q k
    exact lv_ifnullN hC.1 hC.2.1 hd ht (k ls hl)
  · intro Q _ _ k
    exact lv_ifnull hC.1 hC.2.1 hd (sk_ (k ls H locs hl hR hS))
  · exact True.intro
def I_ifnonnull (b : Nat) : Ii_ := fun l st σ => match st with
  | .ref _ :: r => jp_ b l r σ
  | .null :: r => nx_ l r σ
  | _ => none
theorem mn_ifnonnull (b : Nat) : Mn_ (I_ifnonnull b) := by
  intro lc st σ
  unfold I_ifnonnull
  repeat' split
  all_goals first | exact True.intro | exact ⟨Nat.le_refl _, Nat.le_refl _⟩ | exact rfl
theorem so_ifnonnull {b : Nat} {off : Int} (hd : decode M.2.1 pc = .ok (.ifnonnull off, 3)) (ht : (pc : Int) + off = (bp b : Int)) : So_ D cl dA base GF cn MT M bp pc (pc + 3) (I_ifnonnull b) := by
  intro p l e R s m args below meth c hC lc st σ ls H locs cells slots hl hR hS
  unfold I_ifnonnull
  split
  · intro Q k
    exact lv_ifnonnull hC.1 hC.2.1 hd ht (k ls hl)
  · intro Q _ _ k
    exact lv_ifnonnullN hC.1 hC.2.1 hd (sk_ (k ls H locs hl hR hS))
  · exact True.intro
/-- a reference's address, or null -/
def ro_ : Value → Option (Option Nat)
  | .ref a => some (some a)
  | .null => some none
  | _ => none
theorem ro_some {v : Value} {r : Option Nat} (h : ro_ v = some r) : v = va_rf r := by
  cases v <;> simp [ro_] at h <;> subst h <;> rfl
def I_ane (b : Nat) : Ii_ := fun l st σ => match st with
  | y :: x :: r => match ro_ x, ro_ y with
    | some u, some v => if u = v then nx_ l r σ else jp_ b l r σ
    | _, _ => none
  | _ => none
theorem mn_ane (b : Nat) : Mn_ (I_ane b) := by
  intro lc st σ
  unfold I_ane
  repeat' split
  all_goals first | exact True.intro | exact ⟨Nat.le_refl _, Nat.le_refl _⟩ | exact rfl
theorem so_ane {b : Nat} {off : Int} (hd : decode M.2.1 pc = .ok (.if_acmp .ne off, 3)) (ht : (pc : Int) + off = (bp b : Int)) : So_ D cl dA base GF cn MT M bp pc (pc + 3) (I_ane b) := by
  intro p l e R s m args below meth c hC lc st σ ls H locs cells slots hl hR hS
  unfold I_ane
  split
  · split
    · next u v hu hv =>
      rw [ro_some hu, ro_some hv]
      split
      · next h =>
        intro Q _ _ k
        exact lv_acmp_ne hC.1 hC.2.1 hd ht (fun h' => absurd h h') (fun _ => sk_ (k ls H locs hl hR hS))
      · next h =>
        intro Q k
        exact lv_acmp_ne hC.1 hC.2.1 hd ht (fun _ => k ls hl) (fun h' => absurd h' h)
    · exact True.intro
  · exact True.intro
def I_aeq (b : Nat) : Ii_ := fun l st σ => match st with
  | y :: x :: r => match ro_ x, ro_ y with
    | some u, some v => if u = v then jp_ b l r σ else nx_ l r σ
    | _, _ => none
  | _ => none
theorem mn_aeq (b : Nat) : Mn_ (I_aeq b) := by
  intro lc st σ
  unfold I_aeq
  repeat' split
  all_goals first | exact True.intro | exact ⟨Nat.le_refl _, Nat.le_refl _⟩ | exact rfl
theorem so_aeq {b : Nat} {off : Int} (hd : decode M.2.1 pc = .ok (.if_acmp .eq off, 3)) (ht : (pc : Int) + off = (bp b : Int)) : So_ D cl dA base GF cn MT M bp pc (pc + 3) (I_aeq b) := by
  intro p l e R s m args below meth c hC lc st σ ls H locs cells slots hl hR hS
  unfold I_aeq
  split
  · split
    · next u v hu hv =>
      rw [ro_some hu, ro_some hv]
      split
      · next h =>
        intro Q k
        exact lv_acmp_eq hC.1 hC.2.1 hd ht (fun _ => k ls hl) (fun h' => absurd h h')
      · next h =>
        intro Q _ _ k
        exact lv_acmp_eq hC.1 hC.2.1 hd ht (fun h' => absurd h' h) (fun _ => sk_ (k ls H locs hl hR hS))
    · exact True.intro
  · exact True.intro
def I_goto (b : Nat) : Ii_ := fun l st σ => jp_ b l st σ
theorem mn_goto (b : Nat) : Mn_ (I_goto b) := fun _ _ _ => rfl
theorem so_goto {b npc : Nat} {off : Int} (hd : decode M.2.1 pc = .ok (.goto off, 3)) (ht : (pc : Int) + off = (bp b : Int)) : So_ D cl dA base GF cn MT M bp pc npc (I_goto b) := by
  intro p l e R s m args below meth c hC lc st σ ls H locs cells slots hl hR hS
  intro Q k
  exact lv_goto hC.1 hC.2.1 hd ht (k ls hl)
/-- the next block stands right behind -/
theorem so_fall {b npc : Nat} (ht : pc = bp b) : So_ D cl dA base GF cn MT M bp pc npc (I_goto b) := by
  intro p l e R s m args below meth c hC lc st σ ls H locs cells slots hl hR hS
  intro Q k
  rw [ht]
  exact k ls hl
def I_tsw (lo : Int) (bs : List Nat) (b : Nat) : Ii_ := fun l st σ => match st with
  | .int x :: r => if x.toInt < lo ∨ lo + bs.length ≤ x.toInt then jp_ b l r σ else jp_ (bs.getD (x.toInt - lo).toNat b) l r σ
  | _ => none
theorem mn_tsw (lo : Int) (bs : List Nat) (b : Nat) : Mn_ (I_tsw lo bs b) := by
  intro lc st σ
  unfold I_tsw
  repeat' split
  all_goals first | exact True.intro | exact ⟨Nat.le_refl _, Nat.le_refl _⟩ | exact rfl
theorem so_tsw {lo hi dflt : Int} {bs : List Nat} {b npc len : Nat} {offs : Array Int} (hd : decode M.2.1 pc = .ok (.tableswitch dflt lo hi offs, len)) (hh : hi = lo + bs.length - 1) (ho : offs.toList = bs.map (fun k => (bp k : Int) - pc)) (ht : (pc : Int) + dflt = (bp b : Int)) : So_ D cl dA base GF cn MT M bp pc npc (I_tsw lo bs b) := by
  intro p l e R s m args below meth c hC lc st σ ls H locs cells slots hl hR hS
  unfold I_tsw
  split
  · next x r =>
    split
    · next h =>
      intro Q k
      exact lv_tableOut hC.1 hC.2.1 hd (h.elim Or.inl (fun h => Or.inr (by omega))) ht (k ls hl)
    · next h =>
      intro Q k
      have h1 : (x.toInt - lo).toNat < bs.length := by omega
      refine lv_tableIn (off := (bp (bs.getD (x.toInt - lo).toNat b) : Int) - pc) hC.1 hC.2.1 hd (by omega) (by omega) ?_ (by omega) (k ls hl)
      rw [← Array.getElem?_toList, ho, List.getElem?_map, List.getElem?_eq_getElem h1, List.getD_eq_getElem?_getD, List.getElem?_eq_getElem h1]
      rfl
  · exact True.intro
def lk_ : List (Int × Nat) → Nat → Int → Nat
  | [], b, _ => b
  | (k, c) :: r, b, x => if x = k then c else lk_ r b x
def I_lsw (ks : List (Int × Nat)) (b : Nat) : Ii_ := fun l st σ => match st with
  | .int x :: r => jp_ (lk_ ks b x.toInt) l r σ
  | _ => none
theorem mn_lsw (ks : List (Int × Nat)) (b : Nat) : Mn_ (I_lsw ks b) := by
  intro lc st σ
  unfold I_lsw
  repeat' split
  all_goals first | exact True.intro | exact ⟨Nat.le_refl _, Nat.le_refl _⟩ | exact rfl
theorem lk_off (ks : List (Int × Nat)) (b : Nat) (f : Nat → Int) (x : Int) : Op.lookupswitch.offset (ks.map (fun q => (q.1, f q.2))) (f b) x = f (lk_ ks b x) := by
  induction ks with
  | nil => rfl
  | cons q r ih =>
    rw [List.map_cons, lk_]
    by_cases h : x = q.1
    · rw [if_pos h]; simp [Op.lookupswitch.offset, h]
    · rw [if_neg h, ← ih]
      have h2 : ¬ q.1 = x := fun e => h e.symm
      simp [Op.lookupswitch.offset, h, h2]
theorem so_lsw {dflt : Int} {ks : List (Int × Nat)} {b npc len : Nat} {ps : Array (Int × Int)} (hd : decode M.2.1 pc = .ok (.lookupswitch dflt ps, len)) (hp : (ps.toList.zip (ps.toList.drop 1)).all (fun (a, next) => a.1 < next.1) = true) (ho : ps.toList = ks.map (fun q => (q.1, (bp q.2 : Int) - pc))) (ht : dflt = (bp b : Int) - pc) : So_ D cl dA base GF cn MT M bp pc npc (I_lsw ks b) := by
  intro p l e R s m args below meth c hC lc st σ ls H locs cells slots hl hR hS
  unfold I_lsw
  split
  · next x r =>
    intro Q k
    refine lv_lookup (off := (bp (lk_ ks b x.toInt) : Int) - pc) hC.1 hC.2.1 hd hp ?_ (by omega) (k ls hl)
    rw [ho, ht]
    exact lk_off ks b (fun k => (bp k : Int) - pc) x.toInt
  · exact True.intro
def I_iret : Ii_ := fun _ st σ => match st with
  | [.int x] => rt_ (some (.int x)) σ
  | _ => none
theorem mn_iret  : Mn_ (I_iret ) := by
  intro lc st σ
  unfold I_iret
  repeat' split
  all_goals first | exact True.intro | exact ⟨Nat.le_refl _, Nat.le_refl _⟩ | exact rfl
theorem so_iret {npc : Nat} (hd : decode M.2.1 pc = .ok (.ireturn, 1)) (hr : M.2.2.2.1 = some .int) : So_ D cl dA base GF cn MT M bp pc npc I_iret := by
  intro p l e R s m args below meth c hC lc st σ ls H locs cells slots hl hR hS
  unfold I_iret
  split
  · intro XC
    exact vx_ret (W.iret hC.1 hC.2.1 (hC.2.2.1.trans hr) (fun t ht hW => ⟨_, rfl, rfl, by rw [ht]; exact hR, hS.F ht⟩) hS.2.2 hd hC.2.2.2.1)
  · exact True.intro
def I_lret : Ii_ := fun _ st σ => match st with
  | [.long x] => rt_ (some (.long x)) σ
  | _ => none
theorem mn_lret  : Mn_ (I_lret ) := by
  intro lc st σ
  unfold I_lret
  repeat' split
  all_goals first | exact True.intro | exact ⟨Nat.le_refl _, Nat.le_refl _⟩ | exact rfl
theorem so_lret {npc : Nat} (hd : decode M.2.1 pc = .ok (.lreturn, 1)) (hr : M.2.2.2.1 = some .long) : So_ D cl dA base GF cn MT M bp pc npc I_lret := by
  intro p l e R s m args below meth c hC lc st σ ls H locs cells slots hl hR hS
  unfold I_lret
  split
  · intro XC
    exact vx_ret (W.lret hC.1 hC.2.1 (hC.2.2.1.trans hr) (fun t ht hW => ⟨_, rfl, rfl, by rw [ht]; exact hR, hS.F ht⟩) hS.2.2 hd hC.2.2.2.1)
  · exact True.intro
def I_fret : Ii_ := fun _ st σ => match st with
  | [.float x] => rt_ (some (.float x)) σ
  | _ => none
theorem mn_fret  : Mn_ (I_fret ) := by
  intro lc st σ
  unfold I_fret
  repeat' split
  all_goals first | exact True.intro | exact ⟨Nat.le_refl _, Nat.le_refl _⟩ | exact rfl
theorem so_fret {npc : Nat} (hd : decode M.2.1 pc = .ok (.freturn, 1)) (hr : M.2.2.2.1 = some .float) : So_ D cl dA base GF cn MT M bp pc npc I_fret := by
  intro p l e R s m args below meth c hC lc st σ ls H locs cells slots hl hR hS
  unfold I_fret
  split
  · intro XC
    exact vx_ret (W.fret hC.1 hC.2.1 (hC.2.2.1.trans hr) (fun t ht hW => ⟨_, rfl, rfl, by rw [ht]; exact hR, hS.F ht⟩) hS.2.2 hd hC.2.2.2.1)
  · exact True.intro
def I_dret : Ii_ := fun _ st σ => match st with
  | [.double x] => rt_ (some (.double x)) σ
  | _ => none
theorem mn_dret  : Mn_ (I_dret ) := by
  intro lc st σ
  unfold I_dret
  repeat' split
  all_goals first | exact True.intro | exact ⟨Nat.le_refl _, Nat.le_refl _⟩ | exact rfl
theorem so_dret {npc : Nat} (hd : decode M.2.1 pc = .ok (.dreturn, 1)) (hr : M.2.2.2.1 = some .double) : So_ D cl dA base GF cn MT M bp pc npc I_dret := by
  intro p l e R s m args below meth c hC lc st σ ls H locs cells slots hl hR hS
  unfold I_dret
  split
  · intro XC
    exact vx_ret (W.dret hC.1 hC.2.1 (hC.2.2.1.trans hr) (fun t ht hW => ⟨_, rfl, rfl, by rw [ht]; exact hR, hS.F ht⟩) hS.2.2 hd hC.2.2.2.1)
  · exact True.intro
def I_vret : Ii_ := fun _ st σ => match st with
  | [] => rt_ (none) σ
  | _ => none
theorem mn_vret  : Mn_ (I_vret ) := by
  intro lc st σ
  unfold I_vret
  repeat' split
  all_goals first | exact True.intro | exact ⟨Nat.le_refl _, Nat.le_refl _⟩ | exact rfl
theorem so_vret {npc : Nat} (hd : decode M.2.1 pc = .ok (.return_, 1)) (hr : M.2.2.2.1 = none) : So_ D cl dA base GF cn MT M bp pc npc I_vret := by
  intro p l e R s m args below meth c hC lc st σ ls H locs cells slots hl hR hS
  unfold I_vret
  split
  · intro XC
    exact vx_ret (W.vret hC.1 hC.2.1 (hC.2.2.1.trans hr) (fun t ht hW => ⟨_, rfl, rfl, by rw [ht]; exact hR, hS.F ht⟩) hS.2.2 hd hC.2.2.2.1)
  · exact True.intro
def I_aret : Ii_ := fun _ st σ => match st with
  | [.ref a] => rt_ (some (.ref a)) σ
  | [.null] => rt_ (some .null) σ
  | _ => none
theorem mn_aret  : Mn_ (I_aret ) := by
  intro lc st σ
  unfold I_aret
  repeat' split
  all_goals first | exact True.intro | exact ⟨Nat.le_refl _, Nat.le_refl _⟩ | exact rfl
theorem so_aret {npc : Nat} {ty : FieldType} (hd : decode M.2.1 pc = .ok (.areturn, 1)) (hr : M.2.2.2.1 = some ty) (ht : (∃ n, ty = .object n) ∨ ∃ t, ty = .array t) : So_ D cl dA base GF cn MT M bp pc npc I_aret := by
  intro p l e R s m args below meth c hC lc st σ ls H locs cells slots hl hR hS
  unfold I_aret
  split
  · intro XC
    exact vx_ret (W.aret hC.1 hC.2.1 (hC.2.2.1.trans hr) ht (Or.inr ⟨_, rfl⟩) (fun t ht hW => ⟨_, rfl, rfl, by rw [ht]; exact hR, hS.F ht⟩) hS.2.2 hd hC.2.2.2.1)
  · intro XC
    exact vx_ret (W.aret hC.1 hC.2.1 (hC.2.2.1.trans hr) ht (Or.inl rfl) (fun t ht hW => ⟨_, rfl, rfl, by rw [ht]; exact hR, hS.F ht⟩) hS.2.2 hd hC.2.2.2.1)
  · exact True.intro
/-- ireturn of a small type: of what it holds already -/
def I_nret (ty : FieldType) : Ii_ := fun _ st σ => match st with
  | [.int x] => if vp_nar ty x = x then rt_ (some (.int x)) σ else none
  | _ => none
theorem mn_nret (ty : FieldType) : Mn_ (I_nret ty) := by
  intro lc st σ
  unfold I_nret
  repeat' split
  all_goals first | exact True.intro | exact ⟨Nat.le_refl _, Nat.le_refl _⟩ | exact rfl
theorem so_nret {npc : Nat} {ty : FieldType} (hd : decode M.2.1 pc = .ok (.ireturn, 1)) (hr : M.2.2.2.1 = some ty) (ht : ∀ x, narrow ty (.int x) = .int (vp_nar ty x)) : So_ D cl dA base GF cn MT M bp pc npc (I_nret ty) := by
  intro p l e R s m args below meth c hC lc st σ ls H locs cells slots hl hR hS
  unfold I_nret
  split
  · split
    · next h =>
      intro XC
      exact vx_ret (W.zret hC.1 hC.2.1 (hC.2.2.1.trans hr) (by rw [ht, h]) (fun t ht hW => ⟨_, rfl, rfl, by rw [ht]; exact hR, hS.F ht⟩) hS.2.2 hd hC.2.2.2.1)
    · exact True.intro
  · exact True.intro
end I1
