section UPL
variable {h : Nat → Option Ac_} {a b : Nat} {c d : Ac_}
theorem up_up : up_ (up_ h a c) a d = up_ h a d := by
  funext x
  unfold up_
  split <;> rfl
theorem up_id (hh : h a = some c) : up_ h a c = h := by
  funext x
  unfold up_
  split
  · next e => rw [e, hh]
  · rfl
end UPL
/-- the first n of f, then g -/
def cp_ (n : Nat) (f g : Nat → Int32) : Nat → Int32 := fun j => if j < n then f j else g j
section TW2
variable {E : En_} {σ : As_} {t : Nat} {M : Nat → Nat → Int32}
theorem copies_lp {a b s1 s2 : Nat} {h : Nat → Option Ac_} {f : Nat → Int32} (hab : a ≠ b) (ha : h a = some (tI_ 0 308 f)) : ∀ (d i : Nat) (g : Nat → Int32), i + d = 308 →
    R_ E 99 (B_ E 99 1) [some (.ref a), some (.ref b), some (.int (nI i))] [] (s1, s2, up_ h b (tI_ 0 308 g)) = some (.inl none, (s1, s2, up_ h b (tI_ 0 308 (fo_ (fun j g => upd g j (f j)) d i g)))) := by
  intro d
  induction d with
  | zero =>
    intro i g hi
    obtain rfl : i = 308 := by omega
    rw [b99_1]
    simp (disch := omega) only [l99, b99_2, K99_2, K99_1, R_cons, go_nx, go_jp, go_rt, go_th, go_ca, go_no, go_ite, rr_v, rr_n, rr_x, hx_n, hx_p, hx_b, I_push, I_pushl, I_fc0, I_fc1, I_dc0, I_null, I_mask, I_iload, I_lload, I_dload, I_fload, I_aload, I_istore, I_lstore, I_dstore, I_fstore, I_astore, I_iinc, I_iadd, I_isub, I_imul, I_iand, I_ior, I_ixor, I_ishl, I_ishr, I_iushr, I_ineg, I_ladd, I_lsub, I_lmul, I_lxor, I_i2l, I_l2i, I_i2b, I_i2c, I_i2f, I_i2d, I_lcmp, I_fdiv, I_ddiv, I_f2d, I_dcmp, I_dup, I_pop, I_dup_x1, I_dup2, I_icne, I_iceq, I_iclt, I_icge, I_icgt, I_icle, I_ifnull, I_ifnonnull, I_ane, I_aeq, I_goto, I_tsw, I_lsw, I_iret, I_lret, I_fret, I_dret, I_vret, I_nret, I_aret, I_iald, I_bald, I_lald, I_aald, I_iast, I_bast, I_last, I_aast, I_alen, I_new, I_val, I_cast, I_inst, I_obj, I_throw, I_mkx, I_getf, I_putf, I_call, I_calli, I_callv, I_acopy, I_clone, I_getc, i_ifeq, i_ifne, i_iflt, i_ifge, i_ifgt, i_ifle, i_idiv, i_irem, i_newa, i_newo, i_abs, i_max, i_min, i_ldiv, en_, es_i, es_r, es_0, es_n, es_l, List.length_cons, List.length_nil, List.cons_append, List.nil_append, Nat.reduceAdd, Nat.reduceSub, List.replicate, lg_, st1_, st2_, cn_, nl_, mk_, pk_, kd_, sl_, la_, ft_a, ft_i, ft_l, ft_o, ft_n, ft_b0, ft_b1, ft_bI, nr_0, nr_1, nr_bI, ro_, no_, if_true, if_false, ite_true, ite_false, reduceIte, Nat.reduceMod, Nat.reduceEqDiff, Nat.zero_add, Nat.add_zero, lk_, lit_, nI_add, nI_mul, ix_nI, nI_leI, Nat.le_refl, fo_]
  | succ d ih =>
    intro i g hi
    rw [b99_1]
    have h1 : ¬ 308 ≤ i := by omega
    simp (disch := omega) only [l99, b99_2, K99_2, K99_1, R_cons, go_nx, go_jp, go_rt, go_th, go_ca, go_no, go_ite, rr_v, rr_n, rr_x, hx_n, hx_p, hx_b, I_push, I_pushl, I_fc0, I_fc1, I_dc0, I_null, I_mask, I_iload, I_lload, I_dload, I_fload, I_aload, I_istore, I_lstore, I_dstore, I_fstore, I_astore, I_iinc, I_iadd, I_isub, I_imul, I_iand, I_ior, I_ixor, I_ishl, I_ishr, I_iushr, I_ineg, I_ladd, I_lsub, I_lmul, I_lxor, I_i2l, I_l2i, I_i2b, I_i2c, I_i2f, I_i2d, I_lcmp, I_fdiv, I_ddiv, I_f2d, I_dcmp, I_dup, I_pop, I_dup_x1, I_dup2, I_icne, I_iceq, I_iclt, I_icge, I_icgt, I_icle, I_ifnull, I_ifnonnull, I_ane, I_aeq, I_goto, I_tsw, I_lsw, I_iret, I_lret, I_fret, I_dret, I_vret, I_nret, I_aret, I_iald, I_bald, I_lald, I_aald, I_iast, I_bast, I_last, I_aast, I_alen, I_new, I_val, I_cast, I_inst, I_obj, I_throw, I_mkx, I_getf, I_putf, I_call, I_calli, I_callv, I_acopy, I_clone, I_getc, i_ifeq, i_ifne, i_iflt, i_ifge, i_ifgt, i_ifle, i_idiv, i_irem, i_newa, i_newo, i_abs, i_max, i_min, i_ldiv, en_, es_i, es_r, es_0, es_n, es_l, List.length_cons, List.length_nil, List.cons_append, List.nil_append, Nat.reduceAdd, Nat.reduceSub, List.replicate, lg_, st1_, st2_, cn_, nl_, mk_, pk_, kd_, sl_, la_, ft_a, ft_i, ft_l, ft_o, ft_n, ft_b0, ft_b1, ft_bI, nr_0, nr_1, nr_bI, ro_, no_, if_true, if_false, ite_true, ite_false, reduceIte, Nat.reduceMod, Nat.reduceEqDiff, Nat.zero_add, Nat.add_zero, lk_, lit_, nI_add, nI_mul, ix_nI, nI_leI, h1, up_s, up_n, ha, up_up, nI_1, ih, fo_]
theorem fo_upd {f : Nat → Int32} : ∀ (d i : Nat) (g : Nat → Int32), fo_ (fun j g => upd g j (f j)) d i g = fun j => if i ≤ j ∧ j < i + d then f j else g j := by
  intro d
  induction d with
  | zero => intro i g; funext j; rw [if_neg (by omega)]; rfl
  | succ d ih =>
    intro i g
    rw [fo_, ih]
    funext j
    by_cases h1 : i + 1 ≤ j ∧ j < i + 1 + d
    · rw [if_pos h1, if_pos (by omega)]
    · rw [if_neg h1]
      unfold upd
      by_cases h2 : j = i
      · rw [if_pos h2, if_pos (by omega), h2]
      · rw [if_neg h2, if_neg (by omega)]
theorem T_copies {a b : Nat} {f g : Nat → Int32} (hab : a ≠ b) (ha : σ.2.2 a = some (tI_ 0 308 f)) (hb : σ.2.2 b = some (tI_ 0 308 g)) : D_ E 99 [.ref a, .ref b] σ = some (.inl none, (σ.1, σ.2.1, up_ σ.2.2 b (tI_ 0 308 (cp_ 308 f g)))) := by
  rw [D_run]
  simp (disch := omega) only [b99_0, K99_0, l99, R_cons, go_nx, go_jp, go_rt, go_th, go_ca, go_no, go_ite, rr_v, rr_n, rr_x, hx_n, hx_p, hx_b, I_push, I_pushl, I_fc0, I_fc1, I_dc0, I_null, I_mask, I_iload, I_lload, I_dload, I_fload, I_aload, I_istore, I_lstore, I_dstore, I_fstore, I_astore, I_iinc, I_iadd, I_isub, I_imul, I_iand, I_ior, I_ixor, I_ishl, I_ishr, I_iushr, I_ineg, I_ladd, I_lsub, I_lmul, I_lxor, I_i2l, I_l2i, I_i2b, I_i2c, I_i2f, I_i2d, I_lcmp, I_fdiv, I_ddiv, I_f2d, I_dcmp, I_dup, I_pop, I_dup_x1, I_dup2, I_icne, I_iceq, I_iclt, I_icge, I_icgt, I_icle, I_ifnull, I_ifnonnull, I_ane, I_aeq, I_goto, I_tsw, I_lsw, I_iret, I_lret, I_fret, I_dret, I_vret, I_nret, I_aret, I_iald, I_bald, I_lald, I_aald, I_iast, I_bast, I_last, I_aast, I_alen, I_new, I_val, I_cast, I_inst, I_obj, I_throw, I_mkx, I_getf, I_putf, I_call, I_calli, I_callv, I_acopy, I_clone, I_getc, i_ifeq, i_ifne, i_iflt, i_ifge, i_ifgt, i_ifle, i_idiv, i_irem, i_newa, i_newo, i_abs, i_max, i_min, i_ldiv, en_, es_i, es_r, es_0, es_n, es_l, List.length_cons, List.length_nil, List.cons_append, List.nil_append, Nat.reduceAdd, Nat.reduceSub, List.replicate, lg_, st1_, st2_, cn_, nl_, mk_, pk_, kd_, sl_, la_, ft_a, ft_i, ft_l, ft_o, ft_n, ft_b0, ft_b1, ft_bI, nr_0, nr_1, nr_bI, ro_, no_, if_true, if_false, ite_true, ite_false, reduceIte, Nat.reduceMod, Nat.reduceEqDiff, Nat.zero_add, Nat.add_zero, lk_, lit_, nI_add, nI_mul, ix_nI]
  have e : σ = (σ.1, σ.2.1, up_ σ.2.2 b (tI_ 0 308 g)) := by rw [up_id hb]
  conv => lhs; rw [e]
  rw [copies_lp hab ha 308 0 g rfl, fo_upd]
  unfold cp_
  simp only [Nat.zero_le, true_and, Nat.zero_add]
end TW2
section TW3
variable {E : En_} {σ : As_} {t : Nat} {M : Nat → Nat → Int32}
/-- no height, no estimate -/
abbrev NOH : Int32 := -nI 10000000
abbrev NOO : Int32 := -nI 1
/-- a round of an estimate over the sight i -/
def es1_ (r : Nat → Int32) (p : Nat) (i : Nat) (x : Int64 × Int64 × Nat × Nat) : Int64 × Int64 × Nat × Nat :=
  if r (68 + 6 * i + 5) = nI 0 then
    if pas_ r i = p then
      if fr_ r i < to_ r i then
        if r (68 + 6 * i + 2) = nI 0 then (x.1 + (pu_ r i).toInt64, x.2.1, x.2.2.1 + 1, x.2.2.2) else (x.1, x.2.1 + (pu_ r i).toInt64, x.2.2.1, x.2.2.2 + 1)
      else
        if r (68 + 6 * i + 2) = nI 0 then (x.1, x.2.1 + (-pu_ r i).toInt64, x.2.2.1, x.2.2.2 + 1) else (x.1 + (-pu_ r i).toInt64, x.2.1, x.2.2.1 + 1, x.2.2.2)
    else x
  else x
theorem est_lp {n s a b : Nat} (hW : Wr_ (M 1) n s) (ha : a < 12) (hb : b < 12) : ∀ (d i : Nat) (w v : Int64) (wm vm : Nat), i + d = s →
    R_ E 107 (B_ E 107 3) [some (.ref t), some (.int (nI a)), some (.int (nI b)), some (.long w), none, some (.long v), none, some (.int (nI wm)), some (.int (nI vm)), some (.int (nI i)), none] [] (tw σ t M)
    = R_ E 107 (B_ E 107 11) [some (.ref t), some (.int (nI a)), some (.int (nI b)), some (.long (fo_ (es1_ (M 1) (pa_ a b)) d i (w, v, wm, vm)).1), none, some (.long (fo_ (es1_ (M 1) (pa_ a b)) d i (w, v, wm, vm)).2.1), none, some (.int (nI (fo_ (es1_ (M 1) (pa_ a b)) d i (w, v, wm, vm)).2.2.1)), some (.int (nI (fo_ (es1_ (M 1) (pa_ a b)) d i (w, v, wm, vm)).2.2.2)), some (.int (nI s)), none] [] (tw σ t M) := by
  have h40 := wr_s40 hW
  have hs := wr_s hW
  intro d
  induction d with
  | zero =>
    intro i w v wm vm hi
    obtain rfl : i = s := by omega
    conv => lhs; rw [b107_3]
    simp (disch := omega) only [K107_3, R_cons, go_nx, go_jp, go_rt, go_th, go_ca, go_no, go_ite, rr_v, rr_n, rr_x, hx_n, hx_p, hx_b, I_push, I_pushl, I_fc0, I_fc1, I_dc0, I_null, I_mask, I_iload, I_lload, I_dload, I_fload, I_aload, I_istore, I_lstore, I_dstore, I_fstore, I_astore, I_iinc, I_iadd, I_isub, I_imul, I_iand, I_ior, I_ixor, I_ishl, I_ishr, I_iushr, I_ineg, I_ladd, I_lsub, I_lmul, I_lxor, I_i2l, I_l2i, I_i2b, I_i2c, I_i2f, I_i2d, I_lcmp, I_fdiv, I_ddiv, I_f2d, I_dcmp, I_dup, I_pop, I_dup_x1, I_dup2, I_icne, I_iceq, I_iclt, I_icge, I_icgt, I_icle, I_ifnull, I_ifnonnull, I_ane, I_aeq, I_goto, I_tsw, I_lsw, I_iret, I_lret, I_fret, I_dret, I_vret, I_nret, I_aret, I_iald, I_bald, I_lald, I_aald, I_iast, I_bast, I_last, I_aast, I_alen, I_new, I_val, I_cast, I_inst, I_obj, I_throw, I_mkx, I_getf, I_putf, I_call, I_calli, I_callv, I_acopy, I_clone, I_getc, i_ifeq, i_ifne, i_iflt, i_ifge, i_ifgt, i_ifle, i_idiv, i_irem, i_newa, i_newo, i_abs, i_max, i_min, i_ldiv, en_, es_i, es_r, es_0, es_n, es_l, List.length_cons, List.length_nil, List.cons_append, List.nil_append, Nat.reduceAdd, Nat.reduceSub, List.replicate, lg_, st1_, st2_, cn_, nl_, mk_, pk_, kd_, sl_, la_, ft_a, ft_i, ft_l, ft_o, ft_n, ft_b0, ft_b1, ft_bI, nr_0, nr_1, nr_bI, ro_, no_, if_true, if_false, ite_true, ite_false, reduceIte, Nat.reduceMod, Nat.reduceEqDiff, Nat.zero_add, Nat.add_zero, lk_, tw_t, tw_1, tw_2, tw_3, tw_4, tw_5, tw_6, tw_9, tw_11, tw_12, tw_13, tw_14, tw_15, tw_16, tw_18, tw_19, tw_30, tg_0, tg_1, tg_2, tg_3, tg_4, tg_5, tg_6, tg_7, tg_8, tg_9, tg_10, tg_11, tg_12, tg_13, tg_14, tg_15, tg_16, tg_17, tg_18, tg_19, tg_20, tg_21, tg_22, tg_23, tg_24, tg_25, tg_26, tg_27, tg_28, tg_29, tg_30, tg_31, ts_0, ts_1, ts_2, ts_3, ts_4, ts_5, ts_6, ts_7, ts_8, ts_9, ts_10, ts_11, ts_12, ts_13, ts_14, ts_15, ts_16, ts_17, ts_18, ts_19, ts_20, ts_21, ts_22, ts_23, ts_24, ts_25, ts_26, ts_27, ts_28, ts_29, ts_30, ts_31, lit_, nI_add, nI_mul, ix_nI, T_sights, hs, nI_leI, Nat.le_refl, fo_]
  | succ d ih =>
    intro i w v wm vm hi
    have hlt : ¬ s ≤ i := by omega
    have hi' : i < s := by omega
    have hp : pas_ (M 1) i < 144 := pa_lt (Nat.lt_of_lt_of_le (wr_fr hW hi').2 (wr_n12 hW)) (Nat.lt_of_lt_of_le (wr_to hW hi').2 (wr_n12 hW))
    have hp2 : pa_ a b < 144 := pa_lt ha hb
    conv => lhs; rw [b107_3]
    by_cases c1 : M 1 (68 + 6 * i + 5) = nI 0 <;> by_cases c2 : pas_ (M 1) i = pa_ a b <;> by_cases c3 : fr_ (M 1) i < to_ (M 1) i <;> by_cases c4 : M 1 (68 + 6 * i + 2) = nI 0 <;>
    simp (disch := omega) only [K107_3, l107, b107_4, K107_4, b107_5, K107_5, b107_6, K107_6, b107_7, K107_7, b107_8, K107_8, b107_9, K107_9, b107_10, K107_10, R_cons, go_nx, go_jp, go_rt, go_th, go_ca, go_no, go_ite, rr_v, rr_n, rr_x, hx_n, hx_p, hx_b, I_push, I_pushl, I_fc0, I_fc1, I_dc0, I_null, I_mask, I_iload, I_lload, I_dload, I_fload, I_aload, I_istore, I_lstore, I_dstore, I_fstore, I_astore, I_iinc, I_iadd, I_isub, I_imul, I_iand, I_ior, I_ixor, I_ishl, I_ishr, I_iushr, I_ineg, I_ladd, I_lsub, I_lmul, I_lxor, I_i2l, I_l2i, I_i2b, I_i2c, I_i2f, I_i2d, I_lcmp, I_fdiv, I_ddiv, I_f2d, I_dcmp, I_dup, I_pop, I_dup_x1, I_dup2, I_icne, I_iceq, I_iclt, I_icge, I_icgt, I_icle, I_ifnull, I_ifnonnull, I_ane, I_aeq, I_goto, I_tsw, I_lsw, I_iret, I_lret, I_fret, I_dret, I_vret, I_nret, I_aret, I_iald, I_bald, I_lald, I_aald, I_iast, I_bast, I_last, I_aast, I_alen, I_new, I_val, I_cast, I_inst, I_obj, I_throw, I_mkx, I_getf, I_putf, I_call, I_calli, I_callv, I_acopy, I_clone, I_getc, i_ifeq, i_ifne, i_iflt, i_ifge, i_ifgt, i_ifle, i_idiv, i_irem, i_newa, i_newo, i_abs, i_max, i_min, i_ldiv, en_, es_i, es_r, es_0, es_n, es_l, List.length_cons, List.length_nil, List.cons_append, List.nil_append, Nat.reduceAdd, Nat.reduceSub, List.replicate, lg_, st1_, st2_, cn_, nl_, mk_, pk_, kd_, sl_, la_, ft_a, ft_i, ft_l, ft_o, ft_n, ft_b0, ft_b1, ft_bI, nr_0, nr_1, nr_bI, ro_, no_, if_true, if_false, ite_true, ite_false, reduceIte, Nat.reduceMod, Nat.reduceEqDiff, Nat.zero_add, Nat.add_zero, lk_, tw_t, tw_1, tw_2, tw_3, tw_4, tw_5, tw_6, tw_9, tw_11, tw_12, tw_13, tw_14, tw_15, tw_16, tw_18, tw_19, tw_30, tg_0, tg_1, tg_2, tg_3, tg_4, tg_5, tg_6, tg_7, tg_8, tg_9, tg_10, tg_11, tg_12, tg_13, tg_14, tg_15, tg_16, tg_17, tg_18, tg_19, tg_20, tg_21, tg_22, tg_23, tg_24, tg_25, tg_26, tg_27, tg_28, tg_29, tg_30, tg_31, ts_0, ts_1, ts_2, ts_3, ts_4, ts_5, ts_6, ts_7, ts_8, ts_9, ts_10, ts_11, ts_12, ts_13, ts_14, ts_15, ts_16, ts_17, ts_18, ts_19, ts_20, ts_21, ts_22, ts_23, ts_24, ts_25, ts_26, ts_27, ts_28, ts_29, ts_30, ts_31, lit_, nI_add, nI_mul, ix_nI, bI_0, bI_1, ite_b1, ite_b2, T_sights, hs, nI_leI, hlt, T_counts, T_pairOfSight hW hi', T_pairOf, T_goesUp hW hi', T_pureOf hW hi', T_ofSight, nI_eq, nI_1, ih, c1, c2, c3, c4, fo_, es1_, if_true, if_false, not_true_eq_false, not_false_eq_true, Bool.false_eq_true, and_true, true_and, and_false, false_and, or_true, true_or, or_false, false_or, eq_self_iff_true, iff_true, iff_false, true_iff, false_iff, Classical.not_not, reduceIte]
theorem fo_count {r : Nat → Int32} {p : Nat} : ∀ (d i : Nat) (x : Int64 × Int64 × Nat × Nat), (fo_ (es1_ r p) d i x).2.2.1 ≤ x.2.2.1 + d ∧ (fo_ (es1_ r p) d i x).2.2.2 ≤ x.2.2.2 + d := by
  intro d
  induction d with
  | zero => intro i x; exact ⟨Nat.le_refl _, Nat.le_refl _⟩
  | succ d ih =>
    intro i x
    rw [fo_]
    have h := ih (i + 1) (es1_ r p i x)
    have h2 : (es1_ r p i x).2.2.1 ≤ x.2.2.1 + 1 ∧ (es1_ r p i x).2.2.2 ≤ x.2.2.2 + 1 := by
      unfold es1_
      repeat' split
      all_goals exact ⟨by simp, by simp⟩
    omega
/-- what the sights of a pair tell of the error -/
def esf_ (r : Nat → Int32) (s p : Nat) : Int64 × Int64 × Nat × Nat := fo_ (es1_ r p) s 0 (0, 0, 0, 0)
def est_ (r : Nat → Int32) (s a b : Nat) : Int32 :=
  if a = b then NOH else if od_ r a b = true then
    if (esf_ r s (pa_ a b)).2.2.1 = 0 then NOH else if (esf_ r s (pa_ a b)).2.2.2 = 0 then NOH else
    (fdL (fdL (esf_ r s (pa_ a b)).1 (nI (esf_ r s (pa_ a b)).2.2.1).toInt64 - fdL (esf_ r s (pa_ a b)).2.1 (nI (esf_ r s (pa_ a b)).2.2.2).toInt64) 2).toInt32
  else NOH
theorem nI64_ne {k : Nat} (h : ¬ k = 0) (hk : k < 2 ^ 31) : ¬ (nI k).toInt64 = 0 := by
  intro e
  have h1 := congrArg Int64.toInt e
  rw [Int32.toInt_toInt64, nI_toInt hk] at h1
  exact h (by simpa using h1)
theorem T_estimateOf {n s a b : Nat} (hW : Wr_ (M 1) n s) (ha : a < 12) (hb : b < 12) : D_ E 107 [.ref t, .int (nI a), .int (nI b)] (tw σ t M) = some (.inl (some (.int (est_ (M 1) s a b))), tw σ t M) := by
  have h40 := wr_s40 hW
  have hL := wr_L hW
  have hc := fo_count (r := M 1) (p := pa_ a b) s 0 (0, 0, 0, 0)
  have e := est_lp (E := E) (σ := σ) (t := t) hW ha hb s 0 0 0 0 0 (by omega)
  rw [show fo_ (es1_ (M 1) (pa_ a b)) s 0 (0, 0, 0, 0) = esf_ (M 1) s (pa_ a b) from rfl] at e hc
  rw [D_run]
  unfold est_
  generalize esf_ (M 1) s (pa_ a b) = x at e hc ⊢
  obtain ⟨w, v, wm, vm⟩ := x
  dsimp only at hc e ⊢
  by_cases c1 : a = b
  · simp (disch := first | assumption | omega) only [b107_0, K107_0, b107_1, K107_1, l107, R_cons, go_nx, go_jp, go_rt, go_th, go_ca, go_no, go_ite, rr_v, rr_n, rr_x, hx_n, hx_p, hx_b, I_push, I_pushl, I_fc0, I_fc1, I_dc0, I_null, I_mask, I_iload, I_lload, I_dload, I_fload, I_aload, I_istore, I_lstore, I_dstore, I_fstore, I_astore, I_iinc, I_iadd, I_isub, I_imul, I_iand, I_ior, I_ixor, I_ishl, I_ishr, I_iushr, I_ineg, I_ladd, I_lsub, I_lmul, I_lxor, I_i2l, I_l2i, I_i2b, I_i2c, I_i2f, I_i2d, I_lcmp, I_fdiv, I_ddiv, I_f2d, I_dcmp, I_dup, I_pop, I_dup_x1, I_dup2, I_icne, I_iceq, I_iclt, I_icge, I_icgt, I_icle, I_ifnull, I_ifnonnull, I_ane, I_aeq, I_goto, I_tsw, I_lsw, I_iret, I_lret, I_fret, I_dret, I_vret, I_nret, I_aret, I_iald, I_bald, I_lald, I_aald, I_iast, I_bast, I_last, I_aast, I_alen, I_new, I_val, I_cast, I_inst, I_obj, I_throw, I_mkx, I_getf, I_putf, I_call, I_calli, I_callv, I_acopy, I_clone, I_getc, i_ifeq, i_ifne, i_iflt, i_ifge, i_ifgt, i_ifle, i_idiv, i_irem, i_newa, i_newo, i_abs, i_max, i_min, i_ldiv, en_, es_i, es_r, es_0, es_n, es_l, List.length_cons, List.length_nil, List.cons_append, List.nil_append, Nat.reduceAdd, Nat.reduceSub, List.replicate, lg_, st1_, st2_, cn_, nl_, mk_, pk_, kd_, sl_, la_, ft_a, ft_i, ft_l, ft_o, ft_n, ft_b0, ft_b1, ft_bI, nr_0, nr_1, nr_bI, ro_, no_, if_true, if_false, ite_true, ite_false, reduceIte, Nat.reduceMod, Nat.reduceEqDiff, Nat.zero_add, Nat.add_zero, lk_, tw_t, tw_1, tw_2, tw_3, tw_4, tw_5, tw_6, tw_9, tw_11, tw_12, tw_13, tw_14, tw_15, tw_16, tw_18, tw_19, tw_30, tg_0, tg_1, tg_2, tg_3, tg_4, tg_5, tg_6, tg_7, tg_8, tg_9, tg_10, tg_11, tg_12, tg_13, tg_14, tg_15, tg_16, tg_17, tg_18, tg_19, tg_20, tg_21, tg_22, tg_23, tg_24, tg_25, tg_26, tg_27, tg_28, tg_29, tg_30, tg_31, ts_0, ts_1, ts_2, ts_3, ts_4, ts_5, ts_6, ts_7, ts_8, ts_9, ts_10, ts_11, ts_12, ts_13, ts_14, ts_15, ts_16, ts_17, ts_18, ts_19, ts_20, ts_21, ts_22, ts_23, ts_24, ts_25, ts_26, ts_27, ts_28, ts_29, ts_30, ts_31, lit_, nI_add, nI_mul, ix_nI, bI_0, bI_1, ite_b1, ite_b2, nI_eq, c1, if_true, if_false, not_true_eq_false, not_false_eq_true, Bool.false_eq_true, and_true, true_and, and_false, false_and, or_true, true_or, or_false, false_or, eq_self_iff_true, iff_true, iff_false, true_iff, false_iff, Classical.not_not, reduceIte]
  · by_cases c2 : od_ (M 1) a b = true
    · by_cases c3 : wm = 0
      · simp (disch := first | assumption | omega) only [b107_0, K107_0, b107_1, K107_1, b107_2, K107_2, b107_11, K107_11, b107_12, K107_12, l107, R_cons, go_nx, go_jp, go_rt, go_th, go_ca, go_no, go_ite, rr_v, rr_n, rr_x, hx_n, hx_p, hx_b, I_push, I_pushl, I_fc0, I_fc1, I_dc0, I_null, I_mask, I_iload, I_lload, I_dload, I_fload, I_aload, I_istore, I_lstore, I_dstore, I_fstore, I_astore, I_iinc, I_iadd, I_isub, I_imul, I_iand, I_ior, I_ixor, I_ishl, I_ishr, I_iushr, I_ineg, I_ladd, I_lsub, I_lmul, I_lxor, I_i2l, I_l2i, I_i2b, I_i2c, I_i2f, I_i2d, I_lcmp, I_fdiv, I_ddiv, I_f2d, I_dcmp, I_dup, I_pop, I_dup_x1, I_dup2, I_icne, I_iceq, I_iclt, I_icge, I_icgt, I_icle, I_ifnull, I_ifnonnull, I_ane, I_aeq, I_goto, I_tsw, I_lsw, I_iret, I_lret, I_fret, I_dret, I_vret, I_nret, I_aret, I_iald, I_bald, I_lald, I_aald, I_iast, I_bast, I_last, I_aast, I_alen, I_new, I_val, I_cast, I_inst, I_obj, I_throw, I_mkx, I_getf, I_putf, I_call, I_calli, I_callv, I_acopy, I_clone, I_getc, i_ifeq, i_ifne, i_iflt, i_ifge, i_ifgt, i_ifle, i_idiv, i_irem, i_newa, i_newo, i_abs, i_max, i_min, i_ldiv, en_, es_i, es_r, es_0, es_n, es_l, List.length_cons, List.length_nil, List.cons_append, List.nil_append, Nat.reduceAdd, Nat.reduceSub, List.replicate, lg_, st1_, st2_, cn_, nl_, mk_, pk_, kd_, sl_, la_, ft_a, ft_i, ft_l, ft_o, ft_n, ft_b0, ft_b1, ft_bI, nr_0, nr_1, nr_bI, ro_, no_, if_true, if_false, ite_true, ite_false, reduceIte, Nat.reduceMod, Nat.reduceEqDiff, Nat.zero_add, Nat.add_zero, lk_, tw_t, tw_1, tw_2, tw_3, tw_4, tw_5, tw_6, tw_9, tw_11, tw_12, tw_13, tw_14, tw_15, tw_16, tw_18, tw_19, tw_30, tg_0, tg_1, tg_2, tg_3, tg_4, tg_5, tg_6, tg_7, tg_8, tg_9, tg_10, tg_11, tg_12, tg_13, tg_14, tg_15, tg_16, tg_17, tg_18, tg_19, tg_20, tg_21, tg_22, tg_23, tg_24, tg_25, tg_26, tg_27, tg_28, tg_29, tg_30, tg_31, ts_0, ts_1, ts_2, ts_3, ts_4, ts_5, ts_6, ts_7, ts_8, ts_9, ts_10, ts_11, ts_12, ts_13, ts_14, ts_15, ts_16, ts_17, ts_18, ts_19, ts_20, ts_21, ts_22, ts_23, ts_24, ts_25, ts_26, ts_27, ts_28, ts_29, ts_30, ts_31, lit_, nI_add, nI_mul, ix_nI, bI_0, bI_1, ite_b1, ite_b2, nI_eq, T_isOdd, c1, c2, e, c3, if_true, if_false, not_true_eq_false, not_false_eq_true, Bool.false_eq_true, and_true, true_and, and_false, false_and, or_true, true_or, or_false, false_or, eq_self_iff_true, iff_true, iff_false, true_iff, false_iff, Classical.not_not, reduceIte]
      · by_cases c4 : vm = 0
        · simp (disch := first | assumption | omega) only [b107_0, K107_0, b107_1, K107_1, b107_2, K107_2, b107_11, K107_11, b107_12, K107_12, l107, R_cons, go_nx, go_jp, go_rt, go_th, go_ca, go_no, go_ite, rr_v, rr_n, rr_x, hx_n, hx_p, hx_b, I_push, I_pushl, I_fc0, I_fc1, I_dc0, I_null, I_mask, I_iload, I_lload, I_dload, I_fload, I_aload, I_istore, I_lstore, I_dstore, I_fstore, I_astore, I_iinc, I_iadd, I_isub, I_imul, I_iand, I_ior, I_ixor, I_ishl, I_ishr, I_iushr, I_ineg, I_ladd, I_lsub, I_lmul, I_lxor, I_i2l, I_l2i, I_i2b, I_i2c, I_i2f, I_i2d, I_lcmp, I_fdiv, I_ddiv, I_f2d, I_dcmp, I_dup, I_pop, I_dup_x1, I_dup2, I_icne, I_iceq, I_iclt, I_icge, I_icgt, I_icle, I_ifnull, I_ifnonnull, I_ane, I_aeq, I_goto, I_tsw, I_lsw, I_iret, I_lret, I_fret, I_dret, I_vret, I_nret, I_aret, I_iald, I_bald, I_lald, I_aald, I_iast, I_bast, I_last, I_aast, I_alen, I_new, I_val, I_cast, I_inst, I_obj, I_throw, I_mkx, I_getf, I_putf, I_call, I_calli, I_callv, I_acopy, I_clone, I_getc, i_ifeq, i_ifne, i_iflt, i_ifge, i_ifgt, i_ifle, i_idiv, i_irem, i_newa, i_newo, i_abs, i_max, i_min, i_ldiv, en_, es_i, es_r, es_0, es_n, es_l, List.length_cons, List.length_nil, List.cons_append, List.nil_append, Nat.reduceAdd, Nat.reduceSub, List.replicate, lg_, st1_, st2_, cn_, nl_, mk_, pk_, kd_, sl_, la_, ft_a, ft_i, ft_l, ft_o, ft_n, ft_b0, ft_b1, ft_bI, nr_0, nr_1, nr_bI, ro_, no_, if_true, if_false, ite_true, ite_false, reduceIte, Nat.reduceMod, Nat.reduceEqDiff, Nat.zero_add, Nat.add_zero, lk_, tw_t, tw_1, tw_2, tw_3, tw_4, tw_5, tw_6, tw_9, tw_11, tw_12, tw_13, tw_14, tw_15, tw_16, tw_18, tw_19, tw_30, tg_0, tg_1, tg_2, tg_3, tg_4, tg_5, tg_6, tg_7, tg_8, tg_9, tg_10, tg_11, tg_12, tg_13, tg_14, tg_15, tg_16, tg_17, tg_18, tg_19, tg_20, tg_21, tg_22, tg_23, tg_24, tg_25, tg_26, tg_27, tg_28, tg_29, tg_30, tg_31, ts_0, ts_1, ts_2, ts_3, ts_4, ts_5, ts_6, ts_7, ts_8, ts_9, ts_10, ts_11, ts_12, ts_13, ts_14, ts_15, ts_16, ts_17, ts_18, ts_19, ts_20, ts_21, ts_22, ts_23, ts_24, ts_25, ts_26, ts_27, ts_28, ts_29, ts_30, ts_31, lit_, nI_add, nI_mul, ix_nI, bI_0, bI_1, ite_b1, ite_b2, nI_eq, T_isOdd, c1, c2, e, c3, c4, if_true, if_false, not_true_eq_false, not_false_eq_true, Bool.false_eq_true, and_true, true_and, and_false, false_and, or_true, true_or, or_false, false_or, eq_self_iff_true, iff_true, iff_false, true_iff, false_iff, Classical.not_not, reduceIte]
        · have d3 := nI64_ne c3 (by omega)
          have d4 := nI64_ne c4 (by omega)
          simp (disch := first | assumption | omega | decide) only [b107_0, K107_0, b107_1, K107_1, b107_2, K107_2, b107_11, K107_11, b107_12, K107_12, b107_13, K107_13, l107, R_cons, go_nx, go_jp, go_rt, go_th, go_ca, go_no, go_ite, rr_v, rr_n, rr_x, hx_n, hx_p, hx_b, I_push, I_pushl, I_fc0, I_fc1, I_dc0, I_null, I_mask, I_iload, I_lload, I_dload, I_fload, I_aload, I_istore, I_lstore, I_dstore, I_fstore, I_astore, I_iinc, I_iadd, I_isub, I_imul, I_iand, I_ior, I_ixor, I_ishl, I_ishr, I_iushr, I_ineg, I_ladd, I_lsub, I_lmul, I_lxor, I_i2l, I_l2i, I_i2b, I_i2c, I_i2f, I_i2d, I_lcmp, I_fdiv, I_ddiv, I_f2d, I_dcmp, I_dup, I_pop, I_dup_x1, I_dup2, I_icne, I_iceq, I_iclt, I_icge, I_icgt, I_icle, I_ifnull, I_ifnonnull, I_ane, I_aeq, I_goto, I_tsw, I_lsw, I_iret, I_lret, I_fret, I_dret, I_vret, I_nret, I_aret, I_iald, I_bald, I_lald, I_aald, I_iast, I_bast, I_last, I_aast, I_alen, I_new, I_val, I_cast, I_inst, I_obj, I_throw, I_mkx, I_getf, I_putf, I_call, I_calli, I_callv, I_acopy, I_clone, I_getc, i_ifeq, i_ifne, i_iflt, i_ifge, i_ifgt, i_ifle, i_idiv, i_irem, i_newa, i_newo, i_abs, i_max, i_min, i_ldiv, en_, es_i, es_r, es_0, es_n, es_l, List.length_cons, List.length_nil, List.cons_append, List.nil_append, Nat.reduceAdd, Nat.reduceSub, List.replicate, lg_, st1_, st2_, cn_, nl_, mk_, pk_, kd_, sl_, la_, ft_a, ft_i, ft_l, ft_o, ft_n, ft_b0, ft_b1, ft_bI, nr_0, nr_1, nr_bI, ro_, no_, if_true, if_false, ite_true, ite_false, reduceIte, Nat.reduceMod, Nat.reduceEqDiff, Nat.zero_add, Nat.add_zero, lk_, tw_t, tw_1, tw_2, tw_3, tw_4, tw_5, tw_6, tw_9, tw_11, tw_12, tw_13, tw_14, tw_15, tw_16, tw_18, tw_19, tw_30, tg_0, tg_1, tg_2, tg_3, tg_4, tg_5, tg_6, tg_7, tg_8, tg_9, tg_10, tg_11, tg_12, tg_13, tg_14, tg_15, tg_16, tg_17, tg_18, tg_19, tg_20, tg_21, tg_22, tg_23, tg_24, tg_25, tg_26, tg_27, tg_28, tg_29, tg_30, tg_31, ts_0, ts_1, ts_2, ts_3, ts_4, ts_5, ts_6, ts_7, ts_8, ts_9, ts_10, ts_11, ts_12, ts_13, ts_14, ts_15, ts_16, ts_17, ts_18, ts_19, ts_20, ts_21, ts_22, ts_23, ts_24, ts_25, ts_26, ts_27, ts_28, ts_29, ts_30, ts_31, lit_, nI_add, nI_mul, ix_nI, bI_0, bI_1, ite_b1, ite_b2, nI_eq, T_isOdd, c1, c2, e, c3, c4, J_fdL, if_true, if_false, not_true_eq_false, not_false_eq_true, Bool.false_eq_true, and_true, true_and, and_false, false_and, or_true, true_or, or_false, false_or, eq_self_iff_true, iff_true, iff_false, true_iff, false_iff, Classical.not_not, reduceIte]
    · simp (disch := first | assumption | omega) only [b107_0, K107_0, b107_1, K107_1, l107, R_cons, go_nx, go_jp, go_rt, go_th, go_ca, go_no, go_ite, rr_v, rr_n, rr_x, hx_n, hx_p, hx_b, I_push, I_pushl, I_fc0, I_fc1, I_dc0, I_null, I_mask, I_iload, I_lload, I_dload, I_fload, I_aload, I_istore, I_lstore, I_dstore, I_fstore, I_astore, I_iinc, I_iadd, I_isub, I_imul, I_iand, I_ior, I_ixor, I_ishl, I_ishr, I_iushr, I_ineg, I_ladd, I_lsub, I_lmul, I_lxor, I_i2l, I_l2i, I_i2b, I_i2c, I_i2f, I_i2d, I_lcmp, I_fdiv, I_ddiv, I_f2d, I_dcmp, I_dup, I_pop, I_dup_x1, I_dup2, I_icne, I_iceq, I_iclt, I_icge, I_icgt, I_icle, I_ifnull, I_ifnonnull, I_ane, I_aeq, I_goto, I_tsw, I_lsw, I_iret, I_lret, I_fret, I_dret, I_vret, I_nret, I_aret, I_iald, I_bald, I_lald, I_aald, I_iast, I_bast, I_last, I_aast, I_alen, I_new, I_val, I_cast, I_inst, I_obj, I_throw, I_mkx, I_getf, I_putf, I_call, I_calli, I_callv, I_acopy, I_clone, I_getc, i_ifeq, i_ifne, i_iflt, i_ifge, i_ifgt, i_ifle, i_idiv, i_irem, i_newa, i_newo, i_abs, i_max, i_min, i_ldiv, en_, es_i, es_r, es_0, es_n, es_l, List.length_cons, List.length_nil, List.cons_append, List.nil_append, Nat.reduceAdd, Nat.reduceSub, List.replicate, lg_, st1_, st2_, cn_, nl_, mk_, pk_, kd_, sl_, la_, ft_a, ft_i, ft_l, ft_o, ft_n, ft_b0, ft_b1, ft_bI, nr_0, nr_1, nr_bI, ro_, no_, if_true, if_false, ite_true, ite_false, reduceIte, Nat.reduceMod, Nat.reduceEqDiff, Nat.zero_add, Nat.add_zero, lk_, tw_t, tw_1, tw_2, tw_3, tw_4, tw_5, tw_6, tw_9, tw_11, tw_12, tw_13, tw_14, tw_15, tw_16, tw_18, tw_19, tw_30, tg_0, tg_1, tg_2, tg_3, tg_4, tg_5, tg_6, tg_7, tg_8, tg_9, tg_10, tg_11, tg_12, tg_13, tg_14, tg_15, tg_16, tg_17, tg_18, tg_19, tg_20, tg_21, tg_22, tg_23, tg_24, tg_25, tg_26, tg_27, tg_28, tg_29, tg_30, tg_31, ts_0, ts_1, ts_2, ts_3, ts_4, ts_5, ts_6, ts_7, ts_8, ts_9, ts_10, ts_11, ts_12, ts_13, ts_14, ts_15, ts_16, ts_17, ts_18, ts_19, ts_20, ts_21, ts_22, ts_23, ts_24, ts_25, ts_26, ts_27, ts_28, ts_29, ts_30, ts_31, lit_, nI_add, nI_mul, ix_nI, bI_0, bI_1, ite_b1, ite_b2, nI_eq, T_isOdd, c1, c2, if_true, if_false, not_true_eq_false, not_false_eq_true, Bool.false_eq_true, and_true, true_and, and_false, false_and, or_true, true_or, or_false, false_or, eq_self_iff_true, iff_true, iff_false, true_iff, false_iff, Classical.not_not, reduceIte]
/-- the pairs a < b < n in their order -/
def prs_ (n : Nat) : List (Nat × Nat) := (List.range n).flatMap fun a => (List.range' (a + 1) (n - (a + 1))).map fun b => (a, b)
end TW3
