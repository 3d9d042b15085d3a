section TWU
variable {E : En_} {σ : As_} {t : Nat} {M : Nat → Nat → Int32}
theorem fo_shift {g0 : Nat → Int32} {c : Nat} (hc : 0 < c) : ∀ (d i : Nat), fo_ (fun k (g : Nat → Int32) => upd g k (g (k + c))) d i (fun j => if j < i then g0 (j + c) else g0 j) = fun j => if j < i + d then g0 (j + c) else g0 j := by
  intro d
  induction d with
  | zero => intro i; rfl
  | succ d ih =>
    intro i
    rw [fo_]
    have e : upd (fun j => if j < i then g0 (j + c) else g0 j) i ((fun j => if j < i then g0 (j + c) else g0 j) (i + c)) = fun j => if j < i + 1 then g0 (j + c) else g0 j := by
      funext j
      unfold upd
      by_cases c1 : j = i
      · rw [if_pos c1, if_pos (by omega), c1]
        exact if_neg (by omega)
      · rw [if_neg c1]
        dsimp only
        by_cases c2 : j < i
        · rw [if_pos c2, if_pos (by omega)]
        · rw [if_neg c2, if_neg (by omega)]
    rw [e, ih (i + 1), show i + 1 + d = i + (d + 1) by omega]
theorem fo_lay {g0 f : Nat → Int32} {b : Nat} : ∀ (d i : Nat), fo_ (fun k (g : Nat → Int32) => upd g (b + k) (f k)) d i (fun j => if b ≤ j ∧ j < b + i then f (j - b) else g0 j) = fun j => if b ≤ j ∧ j < b + (i + d) then f (j - b) else g0 j := by
  intro d
  induction d with
  | zero => intro i; rfl
  | succ d ih =>
    intro i
    rw [fo_]
    have e : upd (fun j => if b ≤ j ∧ j < b + i then f (j - b) else g0 j) (b + i) (f i) = fun j => if b ≤ j ∧ j < b + (i + 1) then f (j - b) else g0 j := by
      funext j
      unfold upd
      by_cases c1 : j = b + i
      · rw [if_pos c1, if_pos (by omega), c1, Nat.add_sub_cancel_left]
      · rw [if_neg c1]
        dsimp only
        by_cases c2 : b ≤ j ∧ j < b + i
        · rw [if_pos c2, if_pos (by omega)]
        · rw [if_neg c2, if_neg (by omega)]
    rw [e, ih (i + 1), show i + 1 + d = i + (d + 1) by omega]
theorem dn_sh {x : Int32} : ∀ (d i : Nat) (g : Nat → Int32), i + d = 2772 →
    R_ E 204 (B_ E 204 1) [some (.ref t), some (.int x), some (.int (nI i))] [] (tw σ t (um M 6 g)) = R_ E 204 (B_ E 204 2) [some (.ref t), some (.int x), some (.int (nI 2772))] [] (tw σ t (um M 6 (fo_ (fun k (g : Nat → Int32) => upd g k (g (k + 308))) d i g))) := by
  intro d
  induction d with
  | zero =>
    intro i g hi
    obtain rfl : i = 2772 := by omega
    conv => lhs; rw [b204_1]
    simp (disch := omega) only [K204_1, R_cons, go_nx, go_jp, go_rt, go_th, go_ca, go_no, go_ite, rr_v, rr_n, rr_x, hx_n, hx_p, hx_b, I_push, I_pushl, I_fc0, I_fc1, I_dc0, I_null, I_mask, I_iload, I_lload, I_dload, I_fload, I_aload, I_istore, I_lstore, I_dstore, I_fstore, I_astore, I_iinc, I_iadd, I_isub, I_imul, I_iand, I_ior, I_ixor, I_ishl, I_ishr, I_iushr, I_ineg, I_ladd, I_lsub, I_lmul, I_lxor, I_i2l, I_l2i, I_i2b, I_i2c, I_i2f, I_i2d, I_lcmp, I_fdiv, I_ddiv, I_f2d, I_dcmp, I_dup, I_pop, I_dup_x1, I_dup2, I_icne, I_iceq, I_iclt, I_icge, I_icgt, I_icle, I_ifnull, I_ifnonnull, I_ane, I_aeq, I_goto, I_tsw, I_lsw, I_iret, I_lret, I_fret, I_dret, I_vret, I_nret, I_aret, I_iald, I_bald, I_lald, I_aald, I_iast, I_bast, I_last, I_aast, I_alen, I_new, I_val, I_cast, I_inst, I_obj, I_throw, I_mkx, I_getf, I_putf, I_call, I_calli, I_callv, I_acopy, I_clone, I_getc, i_ifeq, i_ifne, i_iflt, i_ifge, i_ifgt, i_ifle, i_idiv, i_irem, i_newa, i_newo, i_abs, i_max, i_min, i_ldiv, en_, es_i, es_r, es_0, es_n, es_l, List.length_cons, List.length_nil, List.cons_append, List.nil_append, Nat.reduceAdd, Nat.reduceSub, List.replicate, lg_, st1_, st2_, cn_, nl_, mk_, pk_, kd_, sl_, la_, ft_a, ft_i, ft_l, ft_o, ft_n, ft_b0, ft_b1, ft_bI, nr_0, nr_1, nr_bI, ro_, no_, if_true, if_false, ite_true, ite_false, reduceIte, Nat.reduceMod, Nat.reduceEqDiff, Nat.zero_add, Nat.add_zero, lk_, tw_t, tw_1, tw_2, tw_3, tw_4, tw_5, tw_6, tw_9, tw_11, tw_12, tw_13, tw_14, tw_15, tw_16, tw_18, tw_19, tw_30, tg_0, tg_1, tg_2, tg_3, tg_4, tg_5, tg_6, tg_7, tg_8, tg_9, tg_10, tg_11, tg_12, tg_13, tg_14, tg_15, tg_16, tg_17, tg_18, tg_19, tg_20, tg_21, tg_22, tg_23, tg_24, tg_25, tg_26, tg_27, tg_28, tg_29, tg_30, tg_31, ts_0, ts_1, ts_2, ts_3, ts_4, ts_5, ts_6, ts_7, ts_8, ts_9, ts_10, ts_11, ts_12, ts_13, ts_14, ts_15, ts_16, ts_17, ts_18, ts_19, ts_20, ts_21, ts_22, ts_23, ts_24, ts_25, ts_26, ts_27, ts_28, ts_29, ts_30, ts_31, um_s, um_n, um_um, um_co, um_id, id_eq, lit_, nI_add, nI_mul, ix_nI, nI_leI, Nat.le_refl, fo_]
  | succ d ih =>
    intro i g hi
    have hlt : ¬ 2772 ≤ i := by omega
    conv => lhs; rw [b204_1]
    simp (disch := omega) only [K204_1, R_cons, go_nx, go_jp, go_rt, go_th, go_ca, go_no, go_ite, rr_v, rr_n, rr_x, hx_n, hx_p, hx_b, I_push, I_pushl, I_fc0, I_fc1, I_dc0, I_null, I_mask, I_iload, I_lload, I_dload, I_fload, I_aload, I_istore, I_lstore, I_dstore, I_fstore, I_astore, I_iinc, I_iadd, I_isub, I_imul, I_iand, I_ior, I_ixor, I_ishl, I_ishr, I_iushr, I_ineg, I_ladd, I_lsub, I_lmul, I_lxor, I_i2l, I_l2i, I_i2b, I_i2c, I_i2f, I_i2d, I_lcmp, I_fdiv, I_ddiv, I_f2d, I_dcmp, I_dup, I_pop, I_dup_x1, I_dup2, I_icne, I_iceq, I_iclt, I_icge, I_icgt, I_icle, I_ifnull, I_ifnonnull, I_ane, I_aeq, I_goto, I_tsw, I_lsw, I_iret, I_lret, I_fret, I_dret, I_vret, I_nret, I_aret, I_iald, I_bald, I_lald, I_aald, I_iast, I_bast, I_last, I_aast, I_alen, I_new, I_val, I_cast, I_inst, I_obj, I_throw, I_mkx, I_getf, I_putf, I_call, I_calli, I_callv, I_acopy, I_clone, I_getc, i_ifeq, i_ifne, i_iflt, i_ifge, i_ifgt, i_ifle, i_idiv, i_irem, i_newa, i_newo, i_abs, i_max, i_min, i_ldiv, en_, es_i, es_r, es_0, es_n, es_l, List.length_cons, List.length_nil, List.cons_append, List.nil_append, Nat.reduceAdd, Nat.reduceSub, List.replicate, lg_, st1_, st2_, cn_, nl_, mk_, pk_, kd_, sl_, la_, ft_a, ft_i, ft_l, ft_o, ft_n, ft_b0, ft_b1, ft_bI, nr_0, nr_1, nr_bI, ro_, no_, if_true, if_false, ite_true, ite_false, reduceIte, Nat.reduceMod, Nat.reduceEqDiff, Nat.zero_add, Nat.add_zero, lk_, tw_t, tw_1, tw_2, tw_3, tw_4, tw_5, tw_6, tw_9, tw_11, tw_12, tw_13, tw_14, tw_15, tw_16, tw_18, tw_19, tw_30, tg_0, tg_1, tg_2, tg_3, tg_4, tg_5, tg_6, tg_7, tg_8, tg_9, tg_10, tg_11, tg_12, tg_13, tg_14, tg_15, tg_16, tg_17, tg_18, tg_19, tg_20, tg_21, tg_22, tg_23, tg_24, tg_25, tg_26, tg_27, tg_28, tg_29, tg_30, tg_31, ts_0, ts_1, ts_2, ts_3, ts_4, ts_5, ts_6, ts_7, ts_8, ts_9, ts_10, ts_11, ts_12, ts_13, ts_14, ts_15, ts_16, ts_17, ts_18, ts_19, ts_20, ts_21, ts_22, ts_23, ts_24, ts_25, ts_26, ts_27, ts_28, ts_29, ts_30, ts_31, um_s, um_n, um_um, um_co, um_id, id_eq, lit_, nI_add, nI_mul, ix_nI, nI_leI, hlt, nI_1, ih, fo_]
theorem dn_la {x : Int32} {m : Nat} (hm : m < 10) (h7 : M 7 0 = nI m) : ∀ (d i : Nat) (g : Nat → Int32), i + d = 308 →
    R_ E 204 (B_ E 204 4) [some (.ref t), some (.int x), some (.int (nI i))] [] (tw σ t (um M 6 g)) = R_ E 204 (B_ E 204 5) [some (.ref t), some (.int x), some (.int (nI 308))] [] (tw σ t (um M 6 (fo_ (fun k (g : Nat → Int32) => upd g (308 * m + k) (M 2 k)) d i g))) := by
  intro d
  induction d with
  | zero =>
    intro i g hi
    obtain rfl : i = 308 := by omega
    conv => lhs; rw [b204_4]
    simp (disch := omega) only [K204_4, R_cons, go_nx, go_jp, go_rt, go_th, go_ca, go_no, go_ite, rr_v, rr_n, rr_x, hx_n, hx_p, hx_b, I_push, I_pushl, I_fc0, I_fc1, I_dc0, I_null, I_mask, I_iload, I_lload, I_dload, I_fload, I_aload, I_istore, I_lstore, I_dstore, I_fstore, I_astore, I_iinc, I_iadd, I_isub, I_imul, I_iand, I_ior, I_ixor, I_ishl, I_ishr, I_iushr, I_ineg, I_ladd, I_lsub, I_lmul, I_lxor, I_i2l, I_l2i, I_i2b, I_i2c, I_i2f, I_i2d, I_lcmp, I_fdiv, I_ddiv, I_f2d, I_dcmp, I_dup, I_pop, I_dup_x1, I_dup2, I_icne, I_iceq, I_iclt, I_icge, I_icgt, I_icle, I_ifnull, I_ifnonnull, I_ane, I_aeq, I_goto, I_tsw, I_lsw, I_iret, I_lret, I_fret, I_dret, I_vret, I_nret, I_aret, I_iald, I_bald, I_lald, I_aald, I_iast, I_bast, I_last, I_aast, I_alen, I_new, I_val, I_cast, I_inst, I_obj, I_throw, I_mkx, I_getf, I_putf, I_call, I_calli, I_callv, I_acopy, I_clone, I_getc, i_ifeq, i_ifne, i_iflt, i_ifge, i_ifgt, i_ifle, i_idiv, i_irem, i_newa, i_newo, i_abs, i_max, i_min, i_ldiv, en_, es_i, es_r, es_0, es_n, es_l, List.length_cons, List.length_nil, List.cons_append, List.nil_append, Nat.reduceAdd, Nat.reduceSub, List.replicate, lg_, st1_, st2_, cn_, nl_, mk_, pk_, kd_, sl_, la_, ft_a, ft_i, ft_l, ft_o, ft_n, ft_b0, ft_b1, ft_bI, nr_0, nr_1, nr_bI, ro_, no_, if_true, if_false, ite_true, ite_false, reduceIte, Nat.reduceMod, Nat.reduceEqDiff, Nat.zero_add, Nat.add_zero, lk_, tw_t, tw_1, tw_2, tw_3, tw_4, tw_5, tw_6, tw_9, tw_11, tw_12, tw_13, tw_14, tw_15, tw_16, tw_18, tw_19, tw_30, tg_0, tg_1, tg_2, tg_3, tg_4, tg_5, tg_6, tg_7, tg_8, tg_9, tg_10, tg_11, tg_12, tg_13, tg_14, tg_15, tg_16, tg_17, tg_18, tg_19, tg_20, tg_21, tg_22, tg_23, tg_24, tg_25, tg_26, tg_27, tg_28, tg_29, tg_30, tg_31, ts_0, ts_1, ts_2, ts_3, ts_4, ts_5, ts_6, ts_7, ts_8, ts_9, ts_10, ts_11, ts_12, ts_13, ts_14, ts_15, ts_16, ts_17, ts_18, ts_19, ts_20, ts_21, ts_22, ts_23, ts_24, ts_25, ts_26, ts_27, ts_28, ts_29, ts_30, ts_31, um_s, um_n, um_um, um_co, um_id, id_eq, lit_, nI_add, nI_mul, ix_nI, nI_leI, Nat.le_refl, fo_]
  | succ d ih =>
    intro i g hi
    have hlt : ¬ 308 ≤ i := by omega
    conv => lhs; rw [b204_4]
    simp (disch := omega) only [K204_4, R_cons, go_nx, go_jp, go_rt, go_th, go_ca, go_no, go_ite, rr_v, rr_n, rr_x, hx_n, hx_p, hx_b, I_push, I_pushl, I_fc0, I_fc1, I_dc0, I_null, I_mask, I_iload, I_lload, I_dload, I_fload, I_aload, I_istore, I_lstore, I_dstore, I_fstore, I_astore, I_iinc, I_iadd, I_isub, I_imul, I_iand, I_ior, I_ixor, I_ishl, I_ishr, I_iushr, I_ineg, I_ladd, I_lsub, I_lmul, I_lxor, I_i2l, I_l2i, I_i2b, I_i2c, I_i2f, I_i2d, I_lcmp, I_fdiv, I_ddiv, I_f2d, I_dcmp, I_dup, I_pop, I_dup_x1, I_dup2, I_icne, I_iceq, I_iclt, I_icge, I_icgt, I_icle, I_ifnull, I_ifnonnull, I_ane, I_aeq, I_goto, I_tsw, I_lsw, I_iret, I_lret, I_fret, I_dret, I_vret, I_nret, I_aret, I_iald, I_bald, I_lald, I_aald, I_iast, I_bast, I_last, I_aast, I_alen, I_new, I_val, I_cast, I_inst, I_obj, I_throw, I_mkx, I_getf, I_putf, I_call, I_calli, I_callv, I_acopy, I_clone, I_getc, i_ifeq, i_ifne, i_iflt, i_ifge, i_ifgt, i_ifle, i_idiv, i_irem, i_newa, i_newo, i_abs, i_max, i_min, i_ldiv, en_, es_i, es_r, es_0, es_n, es_l, List.length_cons, List.length_nil, List.cons_append, List.nil_append, Nat.reduceAdd, Nat.reduceSub, List.replicate, lg_, st1_, st2_, cn_, nl_, mk_, pk_, kd_, sl_, la_, ft_a, ft_i, ft_l, ft_o, ft_n, ft_b0, ft_b1, ft_bI, nr_0, nr_1, nr_bI, ro_, no_, if_true, if_false, ite_true, ite_false, reduceIte, Nat.reduceMod, Nat.reduceEqDiff, Nat.zero_add, Nat.add_zero, lk_, tw_t, tw_1, tw_2, tw_3, tw_4, tw_5, tw_6, tw_9, tw_11, tw_12, tw_13, tw_14, tw_15, tw_16, tw_18, tw_19, tw_30, tg_0, tg_1, tg_2, tg_3, tg_4, tg_5, tg_6, tg_7, tg_8, tg_9, tg_10, tg_11, tg_12, tg_13, tg_14, tg_15, tg_16, tg_17, tg_18, tg_19, tg_20, tg_21, tg_22, tg_23, tg_24, tg_25, tg_26, tg_27, tg_28, tg_29, tg_30, tg_31, ts_0, ts_1, ts_2, ts_3, ts_4, ts_5, ts_6, ts_7, ts_8, ts_9, ts_10, ts_11, ts_12, ts_13, ts_14, ts_15, ts_16, ts_17, ts_18, ts_19, ts_20, ts_21, ts_22, ts_23, ts_24, ts_25, ts_26, ts_27, ts_28, ts_29, ts_30, ts_31, um_s, um_n, um_um, um_co, um_id, id_eq, lit_, nI_add, nI_mul, ix_nI, h7, nI_leI, hlt, nI_1, ih, fo_]
/-- the m-th row of the history -/
def hr_ (h : Nat → Int32) (m : Nat) : Nat → Int32 := fun j => h (308 * m + j)
theorem T_done {x : Int32} {m : Nat} (hm : m ≤ 10) (h7 : M 7 0 = nI m) : ∃ g, D_ E 204 [.ref t, .int x] (tw σ t M) = some (.inl (some (.int x)), tw σ t (um (um M 6 g) 7 (fun _ => nI (if m = 10 then 10 else m + 1)))) ∧
    (∀ k, k + 1 < (if m = 10 then 10 else m + 1) → ∀ j, j < 308 → hr_ g k j = hr_ (M 6) (if m = 10 then k + 1 else k) j) ∧ (∀ j, j < 308 → hr_ g ((if m = 10 then 10 else m + 1) - 1) j = M 2 j) := by
  by_cases c : m = 10
  · subst c
    have a1 := dn_sh (E := E) (σ := σ) (t := t) (M := M) (x := x) 2772 0 (M 6) rfl
    have e1 := fo_shift (g0 := M 6) (c := 308) (by omega) 2772 0
    have e2 : (fun j => if j < 0 then M 6 (j + 308) else M 6 j) = M 6 := by funext j; exact if_neg (by omega)
    rw [e2] at e1
    rw [e1, um_id, Nat.zero_add] at a1
    generalize hq : (fun j => if j < 2772 then M 6 (j + 308) else M 6 j) = q at a1
    have a2 := dn_la (E := E) (σ := σ) (t := t) (M := um M 7 (fun _ => nI 9)) (x := x) (m := 9) (by omega) rfl 308 0 q rfl
    have e3 := fo_lay (g0 := q) (f := M 2) (b := 308 * 9) 308 0
    have e4 : (fun j => if 308 * 9 ≤ j ∧ j < 308 * 9 + 0 then M 2 (j - 308 * 9) else q j) = q := by funext j; exact if_neg (by omega)
    rw [e4] at e3
    simp (disch := omega) only [um_s, um_n, um_um, um_co, um_id, id_eq] at a2
    rw [e3] at a2
    refine ⟨fun j => if 308 * 9 ≤ j ∧ j < 308 * 9 + (0 + 308) then M 2 (j - 308 * 9) else q j, ?_, fun k hk j hj => ?_, fun j hj => ?_⟩
    · rw [D_run]
      simp (disch := omega) only [b204_0, K204_0, l204, R_cons, go_nx, go_jp, go_rt, go_th, go_ca, go_no, go_ite, rr_v, rr_n, rr_x, hx_n, hx_p, hx_b, I_push, I_pushl, I_fc0, I_fc1, I_dc0, I_null, I_mask, I_iload, I_lload, I_dload, I_fload, I_aload, I_istore, I_lstore, I_dstore, I_fstore, I_astore, I_iinc, I_iadd, I_isub, I_imul, I_iand, I_ior, I_ixor, I_ishl, I_ishr, I_iushr, I_ineg, I_ladd, I_lsub, I_lmul, I_lxor, I_i2l, I_l2i, I_i2b, I_i2c, I_i2f, I_i2d, I_lcmp, I_fdiv, I_ddiv, I_f2d, I_dcmp, I_dup, I_pop, I_dup_x1, I_dup2, I_icne, I_iceq, I_iclt, I_icge, I_icgt, I_icle, I_ifnull, I_ifnonnull, I_ane, I_aeq, I_goto, I_tsw, I_lsw, I_iret, I_lret, I_fret, I_dret, I_vret, I_nret, I_aret, I_iald, I_bald, I_lald, I_aald, I_iast, I_bast, I_last, I_aast, I_alen, I_new, I_val, I_cast, I_inst, I_obj, I_throw, I_mkx, I_getf, I_putf, I_call, I_calli, I_callv, I_acopy, I_clone, I_getc, i_ifeq, i_ifne, i_iflt, i_ifge, i_ifgt, i_ifle, i_idiv, i_irem, i_newa, i_newo, i_abs, i_max, i_min, i_ldiv, en_, es_i, es_r, es_0, es_n, es_l, List.length_cons, List.length_nil, List.cons_append, List.nil_append, Nat.reduceAdd, Nat.reduceSub, List.replicate, lg_, st1_, st2_, cn_, nl_, mk_, pk_, kd_, sl_, la_, ft_a, ft_i, ft_l, ft_o, ft_n, ft_b0, ft_b1, ft_bI, nr_0, nr_1, nr_bI, ro_, no_, if_true, if_false, ite_true, ite_false, reduceIte, Nat.reduceMod, Nat.reduceEqDiff, Nat.zero_add, Nat.add_zero, lk_, tw_t, tw_1, tw_2, tw_3, tw_4, tw_5, tw_6, tw_9, tw_11, tw_12, tw_13, tw_14, tw_15, tw_16, tw_18, tw_19, tw_30, tg_0, tg_1, tg_2, tg_3, tg_4, tg_5, tg_6, tg_7, tg_8, tg_9, tg_10, tg_11, tg_12, tg_13, tg_14, tg_15, tg_16, tg_17, tg_18, tg_19, tg_20, tg_21, tg_22, tg_23, tg_24, tg_25, tg_26, tg_27, tg_28, tg_29, tg_30, tg_31, ts_0, ts_1, ts_2, ts_3, ts_4, ts_5, ts_6, ts_7, ts_8, ts_9, ts_10, ts_11, ts_12, ts_13, ts_14, ts_15, ts_16, ts_17, ts_18, ts_19, ts_20, ts_21, ts_22, ts_23, ts_24, ts_25, ts_26, ts_27, ts_28, ts_29, ts_30, ts_31, um_s, um_n, um_um, um_co, um_id, id_eq, lit_, nI_add, nI_mul, ix_nI, h7]
      rw [a1]
      simp (disch := omega) only [b204_2, K204_2, b204_3, K204_3, R_cons, go_nx, go_jp, go_rt, go_th, go_ca, go_no, go_ite, rr_v, rr_n, rr_x, hx_n, hx_p, hx_b, I_push, I_pushl, I_fc0, I_fc1, I_dc0, I_null, I_mask, I_iload, I_lload, I_dload, I_fload, I_aload, I_istore, I_lstore, I_dstore, I_fstore, I_astore, I_iinc, I_iadd, I_isub, I_imul, I_iand, I_ior, I_ixor, I_ishl, I_ishr, I_iushr, I_ineg, I_ladd, I_lsub, I_lmul, I_lxor, I_i2l, I_l2i, I_i2b, I_i2c, I_i2f, I_i2d, I_lcmp, I_fdiv, I_ddiv, I_f2d, I_dcmp, I_dup, I_pop, I_dup_x1, I_dup2, I_icne, I_iceq, I_iclt, I_icge, I_icgt, I_icle, I_ifnull, I_ifnonnull, I_ane, I_aeq, I_goto, I_tsw, I_lsw, I_iret, I_lret, I_fret, I_dret, I_vret, I_nret, I_aret, I_iald, I_bald, I_lald, I_aald, I_iast, I_bast, I_last, I_aast, I_alen, I_new, I_val, I_cast, I_inst, I_obj, I_throw, I_mkx, I_getf, I_putf, I_call, I_calli, I_callv, I_acopy, I_clone, I_getc, i_ifeq, i_ifne, i_iflt, i_ifge, i_ifgt, i_ifle, i_idiv, i_irem, i_newa, i_newo, i_abs, i_max, i_min, i_ldiv, en_, es_i, es_r, es_0, es_n, es_l, List.length_cons, List.length_nil, List.cons_append, List.nil_append, Nat.reduceAdd, Nat.reduceSub, List.replicate, lg_, st1_, st2_, cn_, nl_, mk_, pk_, kd_, sl_, la_, ft_a, ft_i, ft_l, ft_o, ft_n, ft_b0, ft_b1, ft_bI, nr_0, nr_1, nr_bI, ro_, no_, if_true, if_false, ite_true, ite_false, reduceIte, Nat.reduceMod, Nat.reduceEqDiff, Nat.zero_add, Nat.add_zero, lk_, tw_t, tw_1, tw_2, tw_3, tw_4, tw_5, tw_6, tw_9, tw_11, tw_12, tw_13, tw_14, tw_15, tw_16, tw_18, tw_19, tw_30, tg_0, tg_1, tg_2, tg_3, tg_4, tg_5, tg_6, tg_7, tg_8, tg_9, tg_10, tg_11, tg_12, tg_13, tg_14, tg_15, tg_16, tg_17, tg_18, tg_19, tg_20, tg_21, tg_22, tg_23, tg_24, tg_25, tg_26, tg_27, tg_28, tg_29, tg_30, tg_31, ts_0, ts_1, ts_2, ts_3, ts_4, ts_5, ts_6, ts_7, ts_8, ts_9, ts_10, ts_11, ts_12, ts_13, ts_14, ts_15, ts_16, ts_17, ts_18, ts_19, ts_20, ts_21, ts_22, ts_23, ts_24, ts_25, ts_26, ts_27, ts_28, ts_29, ts_30, ts_31, um_s, um_n, um_um, um_co, um_id, id_eq, lit_, nI_add, nI_mul, ix_nI, h7, nI_sub]
      rw [a2]
      simp (disch := omega) only [b204_5, K204_5, R_cons, go_nx, go_jp, go_rt, go_th, go_ca, go_no, go_ite, rr_v, rr_n, rr_x, hx_n, hx_p, hx_b, I_push, I_pushl, I_fc0, I_fc1, I_dc0, I_null, I_mask, I_iload, I_lload, I_dload, I_fload, I_aload, I_istore, I_lstore, I_dstore, I_fstore, I_astore, I_iinc, I_iadd, I_isub, I_imul, I_iand, I_ior, I_ixor, I_ishl, I_ishr, I_iushr, I_ineg, I_ladd, I_lsub, I_lmul, I_lxor, I_i2l, I_l2i, I_i2b, I_i2c, I_i2f, I_i2d, I_lcmp, I_fdiv, I_ddiv, I_f2d, I_dcmp, I_dup, I_pop, I_dup_x1, I_dup2, I_icne, I_iceq, I_iclt, I_icge, I_icgt, I_icle, I_ifnull, I_ifnonnull, I_ane, I_aeq, I_goto, I_tsw, I_lsw, I_iret, I_lret, I_fret, I_dret, I_vret, I_nret, I_aret, I_iald, I_bald, I_lald, I_aald, I_iast, I_bast, I_last, I_aast, I_alen, I_new, I_val, I_cast, I_inst, I_obj, I_throw, I_mkx, I_getf, I_putf, I_call, I_calli, I_callv, I_acopy, I_clone, I_getc, i_ifeq, i_ifne, i_iflt, i_ifge, i_ifgt, i_ifle, i_idiv, i_irem, i_newa, i_newo, i_abs, i_max, i_min, i_ldiv, en_, es_i, es_r, es_0, es_n, es_l, List.length_cons, List.length_nil, List.cons_append, List.nil_append, Nat.reduceAdd, Nat.reduceSub, List.replicate, lg_, st1_, st2_, cn_, nl_, mk_, pk_, kd_, sl_, la_, ft_a, ft_i, ft_l, ft_o, ft_n, ft_b0, ft_b1, ft_bI, nr_0, nr_1, nr_bI, ro_, no_, if_true, if_false, ite_true, ite_false, reduceIte, Nat.reduceMod, Nat.reduceEqDiff, Nat.zero_add, Nat.add_zero, lk_, tw_t, tw_1, tw_2, tw_3, tw_4, tw_5, tw_6, tw_9, tw_11, tw_12, tw_13, tw_14, tw_15, tw_16, tw_18, tw_19, tw_30, tg_0, tg_1, tg_2, tg_3, tg_4, tg_5, tg_6, tg_7, tg_8, tg_9, tg_10, tg_11, tg_12, tg_13, tg_14, tg_15, tg_16, tg_17, tg_18, tg_19, tg_20, tg_21, tg_22, tg_23, tg_24, tg_25, tg_26, tg_27, tg_28, tg_29, tg_30, tg_31, ts_0, ts_1, ts_2, ts_3, ts_4, ts_5, ts_6, ts_7, ts_8, ts_9, ts_10, ts_11, ts_12, ts_13, ts_14, ts_15, ts_16, ts_17, ts_18, ts_19, ts_20, ts_21, ts_22, ts_23, ts_24, ts_25, ts_26, ts_27, ts_28, ts_29, ts_30, ts_31, um_s, um_n, um_um, um_co, um_id, id_eq, lit_, nI_add, nI_mul, ix_nI, h7]
    · rw [if_pos rfl] at hk
      unfold hr_
      rw [if_pos rfl]
      dsimp only
      rw [if_neg (by omega), ← hq]
      dsimp only
      rw [if_pos (by omega), show 308 * k + j + 308 = 308 * (k + 1) + j by omega]
    · unfold hr_
      rw [if_pos rfl]
      dsimp only
      rw [if_pos (by omega), show 308 * (10 - 1) + j - 308 * 9 = j by omega]
  · have a2 := dn_la (E := E) (σ := σ) (t := t) (M := M) (x := x) (m := m) (by omega) h7 308 0 (M 6) rfl
    have e3 := fo_lay (g0 := M 6) (f := M 2) (b := 308 * m) 308 0
    have e4 : (fun j => if 308 * m ≤ j ∧ j < 308 * m + 0 then M 2 (j - 308 * m) else M 6 j) = M 6 := by funext j; exact if_neg (by omega)
    rw [e4] at e3
    rw [um_id, e3] at a2
    refine ⟨fun j => if 308 * m ≤ j ∧ j < 308 * m + (0 + 308) then M 2 (j - 308 * m) else M 6 j, ?_, fun k hk j hj => ?_, fun j hj => ?_⟩
    · rw [D_run, if_neg c]
      simp (disch := omega) only [b204_0, K204_0, b204_3, K204_3, l204, R_cons, go_nx, go_jp, go_rt, go_th, go_ca, go_no, go_ite, rr_v, rr_n, rr_x, hx_n, hx_p, hx_b, I_push, I_pushl, I_fc0, I_fc1, I_dc0, I_null, I_mask, I_iload, I_lload, I_dload, I_fload, I_aload, I_istore, I_lstore, I_dstore, I_fstore, I_astore, I_iinc, I_iadd, I_isub, I_imul, I_iand, I_ior, I_ixor, I_ishl, I_ishr, I_iushr, I_ineg, I_ladd, I_lsub, I_lmul, I_lxor, I_i2l, I_l2i, I_i2b, I_i2c, I_i2f, I_i2d, I_lcmp, I_fdiv, I_ddiv, I_f2d, I_dcmp, I_dup, I_pop, I_dup_x1, I_dup2, I_icne, I_iceq, I_iclt, I_icge, I_icgt, I_icle, I_ifnull, I_ifnonnull, I_ane, I_aeq, I_goto, I_tsw, I_lsw, I_iret, I_lret, I_fret, I_dret, I_vret, I_nret, I_aret, I_iald, I_bald, I_lald, I_aald, I_iast, I_bast, I_last, I_aast, I_alen, I_new, I_val, I_cast, I_inst, I_obj, I_throw, I_mkx, I_getf, I_putf, I_call, I_calli, I_callv, I_acopy, I_clone, I_getc, i_ifeq, i_ifne, i_iflt, i_ifge, i_ifgt, i_ifle, i_idiv, i_irem, i_newa, i_newo, i_abs, i_max, i_min, i_ldiv, en_, es_i, es_r, es_0, es_n, es_l, List.length_cons, List.length_nil, List.cons_append, List.nil_append, Nat.reduceAdd, Nat.reduceSub, List.replicate, lg_, st1_, st2_, cn_, nl_, mk_, pk_, kd_, sl_, la_, ft_a, ft_i, ft_l, ft_o, ft_n, ft_b0, ft_b1, ft_bI, nr_0, nr_1, nr_bI, ro_, no_, if_true, if_false, ite_true, ite_false, reduceIte, Nat.reduceMod, Nat.reduceEqDiff, Nat.zero_add, Nat.add_zero, lk_, tw_t, tw_1, tw_2, tw_3, tw_4, tw_5, tw_6, tw_9, tw_11, tw_12, tw_13, tw_14, tw_15, tw_16, tw_18, tw_19, tw_30, tg_0, tg_1, tg_2, tg_3, tg_4, tg_5, tg_6, tg_7, tg_8, tg_9, tg_10, tg_11, tg_12, tg_13, tg_14, tg_15, tg_16, tg_17, tg_18, tg_19, tg_20, tg_21, tg_22, tg_23, tg_24, tg_25, tg_26, tg_27, tg_28, tg_29, tg_30, tg_31, ts_0, ts_1, ts_2, ts_3, ts_4, ts_5, ts_6, ts_7, ts_8, ts_9, ts_10, ts_11, ts_12, ts_13, ts_14, ts_15, ts_16, ts_17, ts_18, ts_19, ts_20, ts_21, ts_22, ts_23, ts_24, ts_25, ts_26, ts_27, ts_28, ts_29, ts_30, ts_31, um_s, um_n, um_um, um_co, um_id, id_eq, lit_, nI_add, nI_mul, ix_nI, h7, nI_eq, c]
      rw [a2]
      simp (disch := omega) only [b204_5, K204_5, R_cons, go_nx, go_jp, go_rt, go_th, go_ca, go_no, go_ite, rr_v, rr_n, rr_x, hx_n, hx_p, hx_b, I_push, I_pushl, I_fc0, I_fc1, I_dc0, I_null, I_mask, I_iload, I_lload, I_dload, I_fload, I_aload, I_istore, I_lstore, I_dstore, I_fstore, I_astore, I_iinc, I_iadd, I_isub, I_imul, I_iand, I_ior, I_ixor, I_ishl, I_ishr, I_iushr, I_ineg, I_ladd, I_lsub, I_lmul, I_lxor, I_i2l, I_l2i, I_i2b, I_i2c, I_i2f, I_i2d, I_lcmp, I_fdiv, I_ddiv, I_f2d, I_dcmp, I_dup, I_pop, I_dup_x1, I_dup2, I_icne, I_iceq, I_iclt, I_icge, I_icgt, I_icle, I_ifnull, I_ifnonnull, I_ane, I_aeq, I_goto, I_tsw, I_lsw, I_iret, I_lret, I_fret, I_dret, I_vret, I_nret, I_aret, I_iald, I_bald, I_lald, I_aald, I_iast, I_bast, I_last, I_aast, I_alen, I_new, I_val, I_cast, I_inst, I_obj, I_throw, I_mkx, I_getf, I_putf, I_call, I_calli, I_callv, I_acopy, I_clone, I_getc, i_ifeq, i_ifne, i_iflt, i_ifge, i_ifgt, i_ifle, i_idiv, i_irem, i_newa, i_newo, i_abs, i_max, i_min, i_ldiv, en_, es_i, es_r, es_0, es_n, es_l, List.length_cons, List.length_nil, List.cons_append, List.nil_append, Nat.reduceAdd, Nat.reduceSub, List.replicate, lg_, st1_, st2_, cn_, nl_, mk_, pk_, kd_, sl_, la_, ft_a, ft_i, ft_l, ft_o, ft_n, ft_b0, ft_b1, ft_bI, nr_0, nr_1, nr_bI, ro_, no_, if_true, if_false, ite_true, ite_false, reduceIte, Nat.reduceMod, Nat.reduceEqDiff, Nat.zero_add, Nat.add_zero, lk_, tw_t, tw_1, tw_2, tw_3, tw_4, tw_5, tw_6, tw_9, tw_11, tw_12, tw_13, tw_14, tw_15, tw_16, tw_18, tw_19, tw_30, tg_0, tg_1, tg_2, tg_3, tg_4, tg_5, tg_6, tg_7, tg_8, tg_9, tg_10, tg_11, tg_12, tg_13, tg_14, tg_15, tg_16, tg_17, tg_18, tg_19, tg_20, tg_21, tg_22, tg_23, tg_24, tg_25, tg_26, tg_27, tg_28, tg_29, tg_30, tg_31, ts_0, ts_1, ts_2, ts_3, ts_4, ts_5, ts_6, ts_7, ts_8, ts_9, ts_10, ts_11, ts_12, ts_13, ts_14, ts_15, ts_16, ts_17, ts_18, ts_19, ts_20, ts_21, ts_22, ts_23, ts_24, ts_25, ts_26, ts_27, ts_28, ts_29, ts_30, ts_31, um_s, um_n, um_um, um_co, um_id, id_eq, lit_, nI_add, nI_mul, ix_nI, h7]
    · rw [if_neg c] at hk
      unfold hr_
      rw [if_neg c]
      dsimp only
      rw [if_neg (by omega)]
    · unfold hr_
      rw [if_neg c]
      dsimp only
      rw [if_pos (by omega), show 308 * (m + 1 - 1) + j - 308 * m = j by omega]
end TWU
