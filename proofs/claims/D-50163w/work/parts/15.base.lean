section BS
theorem es_0 : es_ [] = [] := rfl
theorem es_i {x : Int32} {vs : List Value} : es_ (.int x :: vs) = some (.int x) :: es_ vs := rfl
theorem es_r {x : Nat} {vs : List Value} : es_ (.ref x :: vs) = some (.ref x) :: es_ vs := rfl
theorem es_n {vs : List Value} : es_ (.null :: vs) = some .null :: es_ vs := rfl
theorem es_l {x : Int64} {vs : List Value} : es_ (.long x :: vs) = some (.long x) :: none :: es_ vs := rfl
theorem lit_ {n : Nat} : (OfNat.ofNat n : Int32) = nI (OfNat.ofNat n) := rfl
theorem nI_mul (a b : Nat) : nI a * nI b = nI (a * b) := by
  unfold nI
  apply Int32.toBitVec_inj.mp
  simp
theorem nI_sub {a b : Nat} (h : b ≤ a) : nI a - nI b = nI (a - b) := by
  obtain ⟨c, rfl⟩ := Nat.exists_eq_add_of_le h
  rw [← nI_add, Nat.add_sub_cancel_left]
  rw [Int32.add_comm, Int32.add_sub_cancel]
/-- a truth value -/
def bI (p : Prop) [Decidable p] : Int32 := if p then 1 else 0
theorem bI_0 {p : Prop} [Decidable p] : (bI p = nI 0) = ¬ p := by
  unfold bI
  by_cases h : p
  · rw [if_pos h]; simp only [h, not_true_eq_false, eq_iff_iff, iff_false]; decide
  · rw [if_neg h]; simp only [h, not_false_eq_true, eq_iff_iff, iff_true]; decide
theorem bI_1 {p : Prop} [Decidable p] : (bI p = nI 1) = p := by
  unfold bI
  by_cases h : p
  · rw [if_pos h]; simp only [h, eq_iff_iff, iff_true]; decide
  · rw [if_neg h]; simp only [h, eq_iff_iff, iff_false]; decide
theorem ite_b1 {p : Prop} [Decidable p] {σ : As_} : (if p then (some (.inl (some (.int (nI 1))), σ) : Option (Rs_ × As_)) else some (.inl (some (.int (nI 0))), σ)) = some (.inl (some (.int (bI p))), σ) := by
  unfold bI
  split <;> rfl
theorem ite_b2 {p : Prop} [Decidable p] {σ : As_} : (if p then (some (.inl (some (.int (nI 0))), σ) : Option (Rs_ × As_)) else some (.inl (some (.int (nI 1))), σ)) = some (.inl (some (.int (bI (¬ p)))), σ) := by
  unfold bI
  by_cases h : p
  · rw [if_pos h, if_neg (fun k => k h)]; rfl
  · rw [if_neg h, if_pos h]; rfl
theorem ft_a {τ : FieldType} {a : Nat} : ft_ (.array τ) (.ref a) = true := rfl
theorem ft_o {τ : String} {a : Nat} : ft_ (.object τ) (.ref a) = true := rfl
theorem ft_n {τ : String} : ft_ (.object τ) .null = true := rfl
theorem ft_i {x : Int32} : ft_ .int (.int x) = true := rfl
theorem ft_l {x : Int64} : ft_ .long (.long x) = true := rfl
theorem ft_b0 : ft_ .boolean (.int (nI 0)) = true := by decide
theorem ft_b1 : ft_ .boolean (.int (nI 1)) = true := by decide
theorem ft_bI {p : Prop} [Decidable p] : ft_ .boolean (.int (bI p)) = true := by
  unfold bI
  split <;> decide
theorem nr_0 : vp_nar .boolean (nI 0) = nI 0 := by decide
theorem nr_1 : vp_nar .boolean (nI 1) = nI 1 := by decide
theorem nr_bI {p : Prop} [Decidable p] : vp_nar .boolean (bI p) = bI p := by
  unfold bI
  split <;> decide
theorem cq_lt {x y : Int64} : (lg_cmp x y < nI 0) = (x < y) := by
  unfold lg_cmp
  simp only [eq_iff_iff, Int64.lt_iff_toInt_lt, gt_iff_lt, ← Int64.toInt_inj]
  split
  · next h => exact ⟨fun k => absurd k (by decide), fun k => by omega⟩
  · split
    · exact ⟨fun k => absurd k (by decide), fun k => by omega⟩
    · exact ⟨fun _ => by omega, fun _ => by decide⟩
theorem cq_gt {x y : Int64} : (nI 0 < lg_cmp x y) = (y < x) := by
  unfold lg_cmp
  simp only [eq_iff_iff, Int64.lt_iff_toInt_lt, gt_iff_lt, ← Int64.toInt_inj]
  split
  · next h => exact ⟨fun _ => h, fun _ => by decide⟩
  · split
    · exact ⟨fun k => absurd k (by decide), fun k => by omega⟩
    · exact ⟨fun k => absurd k (by decide), fun k => by omega⟩
theorem cq_le {x y : Int64} : (lg_cmp x y ≤ nI 0) = (x ≤ y) := by
  unfold lg_cmp
  simp only [eq_iff_iff, Int64.lt_iff_toInt_lt, Int64.le_iff_toInt_le, gt_iff_lt, ← Int64.toInt_inj]
  split
  · next h => exact ⟨fun k => absurd k (by decide), fun k => by omega⟩
  · split
    · exact ⟨fun k => by omega, fun k => by decide⟩
    · exact ⟨fun _ => by omega, fun _ => by decide⟩
theorem cq_ge {x y : Int64} : (nI 0 ≤ lg_cmp x y) = (y ≤ x) := by
  unfold lg_cmp
  simp only [eq_iff_iff, Int64.lt_iff_toInt_lt, Int64.le_iff_toInt_le, gt_iff_lt, ← Int64.toInt_inj]
  split
  · next h => exact ⟨fun _ => by omega, fun _ => by decide⟩
  · split
    · exact ⟨fun k => by omega, fun k => by decide⟩
    · exact ⟨fun k => absurd k (by decide), fun k => by omega⟩
theorem cq_eq {x y : Int64} : (lg_cmp x y = nI 0) = (x = y) := by
  unfold lg_cmp
  simp only [eq_iff_iff, gt_iff_lt]
  split
  · next h => exact ⟨fun k => absurd k (by decide), fun k => by subst k; exact absurd h (by simp)⟩
  · split
    · exact ⟨fun k => by assumption, fun k => by decide⟩
    · exact ⟨fun k => absurd k (by decide), fun k => absurd k (by assumption)⟩
/-- instructions whose text has numbers in their conditions, with those as nI -/
def ab_ (x : Int32) : Int32 := if 0 ≤ x then x else 0 - x
def mx_ (x y : Int32) : Int32 := if x < y then y else x
def mn_ (x y : Int32) : Int32 := if y < x then y else x
section IN
variable {l : Lc_} {r : List Value} {σ : As_} {x y : Int32} {b : Nat}
theorem i_ifeq : I_ifeq b l (.int x :: r) σ = if x = nI 0 then jp_ b l r σ else nx_ l r σ := rfl
theorem i_ifne : I_ifne b l (.int x :: r) σ = if x = nI 0 then nx_ l r σ else jp_ b l r σ := rfl
theorem i_iflt : I_iflt b l (.int x :: r) σ = if x < nI 0 then jp_ b l r σ else nx_ l r σ := rfl
theorem i_ifge : I_ifge b l (.int x :: r) σ = if nI 0 ≤ x then jp_ b l r σ else nx_ l r σ := rfl
theorem i_ifgt : I_ifgt b l (.int x :: r) σ = if nI 0 < x then jp_ b l r σ else nx_ l r σ := rfl
theorem i_ifle : I_ifle b l (.int x :: r) σ = if x ≤ nI 0 then jp_ b l r σ else nx_ l r σ := rfl
theorem i_idiv (h : ¬ y = nI 0) : I_idiv l (.int y :: .int x :: r) σ = nx_ l (.int (x / y) :: r) σ := if_neg h
theorem i_irem (h : ¬ y = nI 0) : I_irem l (.int y :: .int x :: r) σ = nx_ l (.int (x - x / y * y) :: r) σ := if_neg h
theorem i_ldiv {x y : Int64} (h : ¬ y = 0) : I_ldiv l (.long y :: .long x :: r) σ = nx_ l (.long (x / y) :: r) σ := if_neg h
theorem i_newa {t n : Nat} (h : n ≤ 60000000) : I_newa t l (.int (nI n) :: r) σ = nx_ l (.ref σ.1 :: r) (σ.1 + 1, σ.2.1 + n, up_ σ.2.2 σ.1 (if t = 3 then tL_ t n (fun _ => 0) else tI_ t n (fun _ => nI 0))) := by
  have e : (nI n).toNatClampNeg = n := nI_clamp (by omega)
  show (if nI n < 0 ∨ 60000000 < (nI n).toNatClampNeg then none else _) = _
  rw [e, if_neg]
  · rfl
  · rintro (h1 | h1)
    · exact nI_pos (by omega) h1
    · omega
theorem i_newo {n : Nat} (h : n ≤ 60000000) : I_newo l (.int (nI n) :: r) σ = nx_ l (.ref σ.1 :: r) (σ.1 + 1, σ.2.1 + n, up_ σ.2.2 σ.1 (tR_ 4 n (fun _ => none))) := by
  have e : (nI n).toNatClampNeg = n := nI_clamp (by omega)
  show (if nI n < 0 ∨ 60000000 < (nI n).toNatClampNeg then none else _) = _
  rw [e, if_neg]
  rintro (h1 | h1)
  · exact nI_pos (by omega) h1
  · omega
theorem i_abs : I_abs l (.int x :: r) σ = if sl_ r = true then nx_ l (.int (ab_ x) :: r) σ else none := rfl
theorem i_max : I_max l (.int y :: .int x :: r) σ = if sl_ r = true then nx_ l (.int (mx_ x y) :: r) σ else none := rfl
theorem i_min : I_min l (.int y :: .int x :: r) σ = if sl_ r = true then nx_ l (.int (mn_ x y) :: r) σ else none := rfl
end IN
/-- the floored quotients as the code finds them -/
def fdL (x y : Int64) : Int64 := if 0 ≤ x ^^^ y then x / y else if x / y * y = x then x / y else x / y - 1
def fdI (x y : Int32) : Int32 := if nI 0 ≤ x ^^^ y then x / y else if x / y * y = x then x / y else x / y - nI 1
theorem J_fdL {E : En_} {σ : As_} {x y : Int64} (h : ¬ y = 0) : D_ E 14 [.long x, .long y] σ = some (.inl (some (.long (fdL x y))), σ) := by
  rw [D_run]
  simp only [l14, b14_0, K14_0, b14_1, K14_1, R_cons, go_nx, go_jp, go_rt, go_th, go_ca, go_no, go_ite, rr_v, rr_n, rr_x, hx_n, hx_p, hx_b, I_push, I_pushl, I_fc0, I_fc1, I_dc0, I_null, I_mask, I_iload, I_lload, I_dload, I_fload, I_aload, I_istore, I_lstore, I_dstore, I_fstore, I_astore, I_iinc, I_iadd, I_isub, I_imul, I_iand, I_ior, I_ixor, I_ishl, I_ishr, I_iushr, I_ineg, I_ladd, I_lsub, I_lmul, I_lxor, I_i2l, I_l2i, I_i2b, I_i2c, I_i2f, I_i2d, I_lcmp, I_fdiv, I_ddiv, I_f2d, I_dcmp, I_dup, I_pop, I_dup_x1, I_dup2, I_icne, I_iceq, I_iclt, I_icge, I_icgt, I_icle, I_ifnull, I_ifnonnull, I_ane, I_aeq, I_goto, I_tsw, I_lsw, I_iret, I_lret, I_fret, I_dret, I_vret, I_nret, I_aret, I_iald, I_bald, I_lald, I_aald, I_iast, I_bast, I_last, I_aast, I_alen, I_new, I_val, I_cast, I_inst, I_obj, I_throw, I_mkx, I_getf, I_putf, I_call, I_calli, I_callv, I_acopy, I_clone, I_getc, i_ifeq, i_ifne, i_iflt, i_ifge, i_ifgt, i_ifle, i_idiv, i_irem, i_newa, i_newo, i_abs, i_max, i_min, i_ldiv, en_, es_i, es_r, es_0, es_n, es_l, List.length_cons, List.length_nil, List.cons_append, List.nil_append, Nat.reduceAdd, Nat.reduceSub, List.replicate, lg_, st1_, st2_, cn_, nl_, mk_, pk_, kd_, sl_, la_, ft_a, ft_i, ft_l, ft_o, ft_n, ft_b0, ft_b1, ft_bI, nr_0, nr_1, nr_bI, ro_, no_, if_true, if_false, ite_true, ite_false, reduceIte, Nat.reduceMod, Nat.reduceEqDiff, Nat.zero_add, Nat.add_zero, lk_, lit_, cq_lt, cq_gt, cq_eq, cq_le, cq_ge, h, not_false_eq_true]
  unfold fdL
  split
  · rfl
  · split <;> rfl
theorem J_fdI {E : En_} {σ : As_} {x y : Int32} (h : ¬ y = nI 0) : D_ E 15 [.int x, .int y] σ = some (.inl (some (.int (fdI x y))), σ) := by
  rw [D_run]
  simp only [l15, b15_0, K15_0, b15_1, K15_1, R_cons, go_nx, go_jp, go_rt, go_th, go_ca, go_no, go_ite, rr_v, rr_n, rr_x, hx_n, hx_p, hx_b, I_push, I_pushl, I_fc0, I_fc1, I_dc0, I_null, I_mask, I_iload, I_lload, I_dload, I_fload, I_aload, I_istore, I_lstore, I_dstore, I_fstore, I_astore, I_iinc, I_iadd, I_isub, I_imul, I_iand, I_ior, I_ixor, I_ishl, I_ishr, I_iushr, I_ineg, I_ladd, I_lsub, I_lmul, I_lxor, I_i2l, I_l2i, I_i2b, I_i2c, I_i2f, I_i2d, I_lcmp, I_fdiv, I_ddiv, I_f2d, I_dcmp, I_dup, I_pop, I_dup_x1, I_dup2, I_icne, I_iceq, I_iclt, I_icge, I_icgt, I_icle, I_ifnull, I_ifnonnull, I_ane, I_aeq, I_goto, I_tsw, I_lsw, I_iret, I_lret, I_fret, I_dret, I_vret, I_nret, I_aret, I_iald, I_bald, I_lald, I_aald, I_iast, I_bast, I_last, I_aast, I_alen, I_new, I_val, I_cast, I_inst, I_obj, I_throw, I_mkx, I_getf, I_putf, I_call, I_calli, I_callv, I_acopy, I_clone, I_getc, i_ifeq, i_ifne, i_iflt, i_ifge, i_ifgt, i_ifle, i_idiv, i_irem, i_newa, i_newo, i_abs, i_max, i_min, i_ldiv, en_, es_i, es_r, es_0, es_n, es_l, List.length_cons, List.length_nil, List.cons_append, List.nil_append, Nat.reduceAdd, Nat.reduceSub, List.replicate, lg_, st1_, st2_, cn_, nl_, mk_, pk_, kd_, sl_, la_, ft_a, ft_i, ft_l, ft_o, ft_n, ft_b0, ft_b1, ft_bI, nr_0, nr_1, nr_bI, ro_, no_, if_true, if_false, ite_true, ite_false, reduceIte, Nat.reduceMod, Nat.reduceEqDiff, Nat.zero_add, Nat.add_zero, lk_, lit_, cq_lt, cq_gt, cq_eq, cq_le, cq_ge, h, not_false_eq_true]
  unfold fdI
  split
  · rfl
  · split <;> rfl
end BS
