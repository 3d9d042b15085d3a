section WLD
variable {E : En_} {σ : As_} {t : Nat} {M : Nat → Nat → Int32}
theorem T_inr {x : Int32} {lo hi : Int64} (a b : Int) (ha : lo.toInt = a) (hb : hi.toInt = b) : D_ E 145 [.long x.toInt64, .long lo, .long hi] σ = some (.inl (some (.int (bI (inr_ x a b)))), σ) := by
  rw [T_isIn, bI_congr (q := inr_ x a b)]
  unfold inr_
  rw [Int64.le_iff_toInt_le, Int64.le_iff_toInt_le, Int32.toInt_toInt64, ha, hb]
/-- the numbers that are set -/
theorem wr_s2 {r : Nat → Int32} {n s : Nat} {x : Int32} (hW : Wr_ r n s) (hx : inr_ x 1 9999) : Wr_ (upd r 2 x) n s := by
  obtain ⟨a1, a2, a3, a4, a5, a6, a7, a8, a9, a10, a11, a12, a13⟩ := hW
  refine ⟨a1, a2, by rw [upd_n (by omega)]; exact a3, by rw [upd_n (by omega)]; exact a4, by rw [upd_s]; exact hx, by rw [upd_n (by omega)]; exact a6, by rw [upd_n (by omega)]; exact a7, by rw [upd_n (by omega)]; exact a8, by rw [upd_n (by omega)]; exact a9, by rw [upd_n (by omega)]; exact a10, ?_, ?_, ?_⟩
  · intro a ha
    rw [upd_n (by omega), upd_n (by omega), upd_n (by omega), upd_n (by omega)]
    exact a11 a ha
  · intro a ha b hb
    rw [upd_n (by omega), upd_n (by omega), upd_n (by omega), upd_n (by omega)]
    exact a12 a ha b hb
  · intro i hi
    rw [upd_n (by omega), upd_n (by omega), upd_n (by omega), upd_n (by omega), upd_n (by omega), upd_n (by omega)]
    exact a13 i hi
theorem upd_bk {r : Nat → Int32} {k : Nat} {x : Int32} : upd (upd r k x) k (r k) = r := by
  funext j
  by_cases c : j = k
  · rw [c, upd_s]
  · rw [upd_n c, upd_n c]
theorem T_errorWith {n s : Nat} {x : Int32} (hW : Wr_ (M 1) n s) : ∃ M' v, D_ E 189 [.ref t, .int x] (tw σ t M) = some (.inl (some (.int v)), tw σ t M') ∧ (qf_ M M' ∧ M' 0 0 = bI (¬ inr_ x 1 9999)) ∧ (inr_ x 1 9999 → v = fnd_ (upd (M 1) 2 x) n s) := by
  have hin := fun σ => T_inr (E := E) (σ := σ) (x := x) (lo := 1) (hi := 9999) 1 9999 (by decide) (by decide)
  by_cases c : inr_ x 1 9999
  · obtain ⟨M0, hM0⟩ : ∃ M0, M0 = um M 0 (fun _ => nI 0) := ⟨_, rfl⟩
    have m1 : M0 1 = M 1 := by rw [hM0]; rfl
    obtain ⟨f, hf⟩ := T_foundError (E := E) (σ := σ) (t := t) (M := um M0 1 (upd (M 1) 2 x)) (n := n) (s := s) (wr_s2 hW c)
    rw [bI_t c] at hin
    rw [bI_f (fun h => h c)]
    refine ⟨um M0 9 f, fnd_ (upd (M 1) 2 x) n s, ?_, ⟨fun j h0 h9 => ?_, by rw [hM0]; rfl⟩, fun _ => rfl⟩
    · have e1 : um (um (um M0 1 (upd (M 1) 2 x)) 9 f) 1 (upd (upd (M 1) 2 x) 2 (M 1 2)) = um M0 9 f := by
        rw [upd_bk]
        funext j
        unfold um
        by_cases j1 : j = 1
        · subst j1; rw [← m1]; rfl
        · rw [if_neg j1, if_neg j1]
      have e2 : um (um M0 1 (upd (M 1) 2 x)) 9 f 1 = upd (M 1) 2 x := rfl
      have e3 : um M0 1 (upd (M 1) 2 x) 1 = upd (M 1) 2 x := rfl
      rw [e3] at hf
      rw [D_run]
      simp (disch := omega) only [l189, b189_0, K189_0, b189_1, K189_1, R_cons, go_nx, go_jp, go_rt, go_th, go_ca, go_no, go_ite, rr_v, rr_n, rr_x, hx_n, hx_p, hx_b, I_push, I_pushl, I_fc0, I_fc1, I_dc0, I_null, I_mask, I_iload, I_lload, I_dload, I_fload, I_aload, I_istore, I_lstore, I_dstore, I_fstore, I_astore, I_iinc, I_iadd, I_isub, I_imul, I_iand, I_ior, I_ixor, I_ishl, I_ishr, I_iushr, I_ineg, I_ladd, I_lsub, I_lmul, I_lxor, I_i2l, I_l2i, I_i2b, I_i2c, I_i2f, I_i2d, I_lcmp, I_fdiv, I_ddiv, I_f2d, I_dcmp, I_dup, I_pop, I_dup_x1, I_dup2, I_icne, I_iceq, I_iclt, I_icge, I_icgt, I_icle, I_ifnull, I_ifnonnull, I_ane, I_aeq, I_goto, I_lsw, I_iret, I_lret, I_fret, I_dret, I_vret, I_nret, I_aret, I_iald, I_bald, I_lald, I_aald, I_iast, I_bast, I_last, I_aast, I_alen, I_new, I_val, I_cast, I_inst, I_obj, I_throw, I_mkx, I_getf, I_putf, I_call, I_calli, I_callv, I_acopy, I_clone, I_getc, i_ifeq, i_ifne, i_iflt, i_ifge, i_ifgt, i_ifle, i_idiv, i_irem, i_newa, i_newo, i_abs, i_max, i_min, i_ldiv, en_, es_i, es_r, es_0, es_n, es_l, List.length_cons, List.length_nil, List.cons_append, List.nil_append, Nat.reduceAdd, Nat.reduceSub, List.replicate, lg_, st1_, st2_, cn_, nl_, mk_, pk_, kd_, sl_, la_, ft_a, ft_i, ft_l, ft_o, ft_n, ft_b0, ft_b1, ft_bI, nr_0, nr_1, nr_bI, ro_, no_, if_true, if_false, ite_true, ite_false, reduceIte, Nat.reduceMod, Nat.reduceEqDiff, Nat.zero_add, Nat.add_zero, lk_, tw_t, tw_1, tw_2, tw_3, tw_4, tw_5, tw_6, tw_9, tw_11, tw_12, tw_13, tw_14, tw_15, tw_16, tw_18, tw_19, tw_30, tg_0, tg_1, tg_2, tg_3, tg_4, tg_5, tg_6, tg_7, tg_8, tg_9, tg_10, tg_11, tg_12, tg_13, tg_14, tg_15, tg_16, tg_17, tg_18, tg_19, tg_20, tg_21, tg_22, tg_23, tg_24, tg_25, tg_26, tg_27, tg_28, tg_29, tg_30, tg_31, ts_0, ts_1, ts_2, ts_3, ts_4, ts_5, ts_6, ts_7, ts_8, ts_9, ts_10, ts_11, ts_12, ts_13, ts_14, ts_15, ts_16, ts_17, ts_18, ts_19, ts_20, ts_21, ts_22, ts_23, ts_24, ts_25, ts_26, ts_27, ts_28, ts_29, ts_30, ts_31, lit_, nI_add, nI_mul, ix_nI, hin, T_is1, n10_, ← hM0, m1, hf, e2, e1]
    · rw [um_n (by omega), hM0, um_n h0]
  · rw [bI_f c] at hin
    rw [bI_t c]
    refine ⟨um M 0 (fun _ => nI 1), nI 0, ?_, qf_1, fun h => absurd h c⟩
    rw [D_run]
    simp (disch := omega) only [b189_0, K189_0, l189, R_cons, go_nx, go_jp, go_rt, go_th, go_ca, go_no, go_ite, rr_v, rr_n, rr_x, hx_n, hx_p, hx_b, I_push, I_pushl, I_fc0, I_fc1, I_dc0, I_null, I_mask, I_iload, I_lload, I_dload, I_fload, I_aload, I_istore, I_lstore, I_dstore, I_fstore, I_astore, I_iinc, I_iadd, I_isub, I_imul, I_iand, I_ior, I_ixor, I_ishl, I_ishr, I_iushr, I_ineg, I_ladd, I_lsub, I_lmul, I_lxor, I_i2l, I_l2i, I_i2b, I_i2c, I_i2f, I_i2d, I_lcmp, I_fdiv, I_ddiv, I_f2d, I_dcmp, I_dup, I_pop, I_dup_x1, I_dup2, I_icne, I_iceq, I_iclt, I_icge, I_icgt, I_icle, I_ifnull, I_ifnonnull, I_ane, I_aeq, I_goto, I_lsw, I_iret, I_lret, I_fret, I_dret, I_vret, I_nret, I_aret, I_iald, I_bald, I_lald, I_aald, I_iast, I_bast, I_last, I_aast, I_alen, I_new, I_val, I_cast, I_inst, I_obj, I_throw, I_mkx, I_getf, I_putf, I_call, I_calli, I_callv, I_acopy, I_clone, I_getc, i_ifeq, i_ifne, i_iflt, i_ifge, i_ifgt, i_ifle, i_idiv, i_irem, i_newa, i_newo, i_abs, i_max, i_min, i_ldiv, en_, es_i, es_r, es_0, es_n, es_l, List.length_cons, List.length_nil, List.cons_append, List.nil_append, Nat.reduceAdd, Nat.reduceSub, List.replicate, lg_, st1_, st2_, cn_, nl_, mk_, pk_, kd_, sl_, la_, ft_a, ft_i, ft_l, ft_o, ft_n, ft_b0, ft_b1, ft_bI, nr_0, nr_1, nr_bI, ro_, no_, if_true, if_false, ite_true, ite_false, reduceIte, Nat.reduceMod, Nat.reduceEqDiff, Nat.zero_add, Nat.add_zero, lk_, tw_t, tw_1, tw_2, tw_3, tw_4, tw_5, tw_6, tw_9, tw_11, tw_12, tw_13, tw_14, tw_15, tw_16, tw_18, tw_19, tw_30, tg_0, tg_1, tg_2, tg_3, tg_4, tg_5, tg_6, tg_7, tg_8, tg_9, tg_10, tg_11, tg_12, tg_13, tg_14, tg_15, tg_16, tg_17, tg_18, tg_19, tg_20, tg_21, tg_22, tg_23, tg_24, tg_25, tg_26, tg_27, tg_28, tg_29, tg_30, tg_31, ts_0, ts_1, ts_2, ts_3, ts_4, ts_5, ts_6, ts_7, ts_8, ts_9, ts_10, ts_11, ts_12, ts_13, ts_14, ts_15, ts_16, ts_17, ts_18, ts_19, ts_20, ts_21, ts_22, ts_23, ts_24, ts_25, ts_26, ts_27, ts_28, ts_29, ts_30, ts_31, lit_, nI_add, nI_mul, ix_nI, hin, T_is0]
/-- as a question, but the row aside for what is tried may change too -/
def qt_ (M M' : Nat → Nat → Int32) : Prop := ∀ i, i ≠ 0 → i ≠ 3 → ¬ (9 ≤ i ∧ i ≤ 18) → M' i = M i
theorem cp_hs {r q : Nat → Int32} {g : Nat → Int32} (h : hs_ r q) : cp_ 308 (cp_ 308 r g) q = r := by
  funext j
  unfold cp_
  by_cases c : j < 308
  · rw [if_pos c, if_pos c]
  · rw [if_neg c]
    exact h j (by omega)
theorem T_misfitAfter {n s : Nat} {x : Int32} (hW : Wr_ (M 1) n s) : ∃ M' v, D_ E 190 [.ref t, .int x] (tw σ t M) = some (.inl (some (.long v)), tw σ t M') ∧ (qt_ M M' ∧ M' 0 0 = bI (¬ inN_ x 51)) ∧
    (inN_ x 51 → v = mif_ (rnd_ (lev_ (M 1) n s) n s x.toNatClampNeg).1 n s) := by
  by_cases c : inN_ x 51
  · have hin := fun σ => T_inw1 (E := E) (σ := σ) (x := x) (y := 50) 50 (by decide) c
    obtain ⟨m, hm, rfl⟩ := inN_nI c
    rw [bI_f (fun h => h c), nI_clamp (by omega)]
    have h0 := T_tries (E := E) (σ := σ) (t := t) (M := um M 0 (fun _ => nI 0))
    obtain ⟨M1, h1, r1, s1, w1, k1, f1⟩ := T_levels (E := E) (σ := σ) (t := t) (M := um (um M 0 (fun _ => nI 0)) 3 (cp_ 308 (M 1) (M 3))) (n := n) (s := s) hW
    obtain ⟨M2, h2, r2, s2, w2, k2, f2⟩ := T_rounds (E := E) (σ := σ) (t := t) (m := m) (by omega) w1
    obtain ⟨M3, h3, f3⟩ := T_misfitNow (E := E) (σ := σ) (t := t) w2
    have h4 := T_laysBack (E := E) (σ := σ) (t := t) (M := M3)
    have e0 : um (um M 0 (fun _ => nI 0)) 3 (cp_ 308 (um M 0 (fun _ => nI 0) 1) (um M 0 (fun _ => nI 0) 3)) = um (um M 0 (fun _ => nI 0)) 3 (cp_ 308 (M 1) (M 3)) := rfl
    rw [e0] at h0
    refine ⟨um M3 1 (cp_ 308 (M3 3) (M3 1)), _, ?_, ⟨fun j j0 j3 j9 => ?_, ?_⟩, fun _ => rfl⟩
    · rw [D_run]
      simp (disch := omega) only [l190, b190_0, K190_0, b190_1, K190_1, R_cons, go_nx, go_jp, go_rt, go_th, go_ca, go_no, go_ite, rr_v, rr_n, rr_x, hx_n, hx_p, hx_b, I_push, I_pushl, I_fc0, I_fc1, I_dc0, I_null, I_mask, I_iload, I_lload, I_dload, I_fload, I_aload, I_istore, I_lstore, I_dstore, I_fstore, I_astore, I_iinc, I_iadd, I_isub, I_imul, I_iand, I_ior, I_ixor, I_ishl, I_ishr, I_iushr, I_ineg, I_ladd, I_lsub, I_lmul, I_lxor, I_i2l, I_l2i, I_i2b, I_i2c, I_i2f, I_i2d, I_lcmp, I_fdiv, I_ddiv, I_f2d, I_dcmp, I_dup, I_pop, I_dup_x1, I_dup2, I_icne, I_iceq, I_iclt, I_icge, I_icgt, I_icle, I_ifnull, I_ifnonnull, I_ane, I_aeq, I_goto, I_lsw, I_iret, I_lret, I_fret, I_dret, I_vret, I_nret, I_aret, I_iald, I_bald, I_lald, I_aald, I_iast, I_bast, I_last, I_aast, I_alen, I_new, I_val, I_cast, I_inst, I_obj, I_throw, I_mkx, I_getf, I_putf, I_call, I_calli, I_callv, I_acopy, I_clone, I_getc, i_ifeq, i_ifne, i_iflt, i_ifge, i_ifgt, i_ifle, i_idiv, i_irem, i_newa, i_newo, i_abs, i_max, i_min, i_ldiv, en_, es_i, es_r, es_0, es_n, es_l, List.length_cons, List.length_nil, List.cons_append, List.nil_append, Nat.reduceAdd, Nat.reduceSub, List.replicate, lg_, st1_, st2_, cn_, nl_, mk_, pk_, kd_, sl_, la_, ft_a, ft_i, ft_l, ft_o, ft_n, ft_b0, ft_b1, ft_bI, nr_0, nr_1, nr_bI, ro_, no_, if_true, if_false, ite_true, ite_false, reduceIte, Nat.reduceMod, Nat.reduceEqDiff, Nat.zero_add, Nat.add_zero, lk_, tw_t, tw_1, tw_2, tw_3, tw_4, tw_5, tw_6, tw_9, tw_11, tw_12, tw_13, tw_14, tw_15, tw_16, tw_18, tw_19, tw_30, tg_0, tg_1, tg_2, tg_3, tg_4, tg_5, tg_6, tg_7, tg_8, tg_9, tg_10, tg_11, tg_12, tg_13, tg_14, tg_15, tg_16, tg_17, tg_18, tg_19, tg_20, tg_21, tg_22, tg_23, tg_24, tg_25, tg_26, tg_27, tg_28, tg_29, tg_30, tg_31, ts_0, ts_1, ts_2, ts_3, ts_4, ts_5, ts_6, ts_7, ts_8, ts_9, ts_10, ts_11, ts_12, ts_13, ts_14, ts_15, ts_16, ts_17, ts_18, ts_19, ts_20, ts_21, ts_22, ts_23, ts_24, ts_25, ts_26, ts_27, ts_28, ts_29, ts_30, ts_31, lit_, nI_add, nI_mul, ix_nI, hin, T_is1, n10_, h0, h1, h2, h3, h4]
      rw [r2, r1]
      rfl
    · by_cases j1 : j = 1
      · subst j1
        show cp_ 308 (M3 3) (M3 1) = M 1
        have e3 : M3 3 = cp_ 308 (M 1) (M 3) := by
          rw [f3 3 (by decide), f2 3 (by decide), f1 3 (by decide)]
          rfl
        rw [e3, f3 1 (by decide)]
        exact cp_hs (hs_trans s1 s2)
      · rw [um_n j1, f3 j (by omega), f2 j (by omega), f1 j (by omega), um_n j3, um_n j0]
    · show M3 0 0 = _
      rw [f3 0 (by decide), f2 0 (by decide), f1 0 (by decide)]
      rfl
  · have hin := fun σ => T_inw0 (E := E) (σ := σ) (x := x) (y := 50) 50 (by decide) c
    rw [bI_t c]
    refine ⟨um M 0 (fun _ => nI 1), 0, ?_, ⟨fun j j0 _ _ => um_n j0, rfl⟩, fun h => absurd h c⟩
    rw [D_run]
    simp (disch := omega) only [b190_0, K190_0, l190, R_cons, go_nx, go_jp, go_rt, go_th, go_ca, go_no, go_ite, rr_v, rr_n, rr_x, hx_n, hx_p, hx_b, I_push, I_pushl, I_fc0, I_fc1, I_dc0, I_null, I_mask, I_iload, I_lload, I_dload, I_fload, I_aload, I_istore, I_lstore, I_dstore, I_fstore, I_astore, I_iinc, I_iadd, I_isub, I_imul, I_iand, I_ior, I_ixor, I_ishl, I_ishr, I_iushr, I_ineg, I_ladd, I_lsub, I_lmul, I_lxor, I_i2l, I_l2i, I_i2b, I_i2c, I_i2f, I_i2d, I_lcmp, I_fdiv, I_ddiv, I_f2d, I_dcmp, I_dup, I_pop, I_dup_x1, I_dup2, I_icne, I_iceq, I_iclt, I_icge, I_icgt, I_icle, I_ifnull, I_ifnonnull, I_ane, I_aeq, I_goto, I_lsw, I_iret, I_lret, I_fret, I_dret, I_vret, I_nret, I_aret, I_iald, I_bald, I_lald, I_aald, I_iast, I_bast, I_last, I_aast, I_alen, I_new, I_val, I_cast, I_inst, I_obj, I_throw, I_mkx, I_getf, I_putf, I_call, I_calli, I_callv, I_acopy, I_clone, I_getc, i_ifeq, i_ifne, i_iflt, i_ifge, i_ifgt, i_ifle, i_idiv, i_irem, i_newa, i_newo, i_abs, i_max, i_min, i_ldiv, en_, es_i, es_r, es_0, es_n, es_l, List.length_cons, List.length_nil, List.cons_append, List.nil_append, Nat.reduceAdd, Nat.reduceSub, List.replicate, lg_, st1_, st2_, cn_, nl_, mk_, pk_, kd_, sl_, la_, ft_a, ft_i, ft_l, ft_o, ft_n, ft_b0, ft_b1, ft_bI, nr_0, nr_1, nr_bI, ro_, no_, if_true, if_false, ite_true, ite_false, reduceIte, Nat.reduceMod, Nat.reduceEqDiff, Nat.zero_add, Nat.add_zero, lk_, tw_t, tw_1, tw_2, tw_3, tw_4, tw_5, tw_6, tw_9, tw_11, tw_12, tw_13, tw_14, tw_15, tw_16, tw_18, tw_19, tw_30, tg_0, tg_1, tg_2, tg_3, tg_4, tg_5, tg_6, tg_7, tg_8, tg_9, tg_10, tg_11, tg_12, tg_13, tg_14, tg_15, tg_16, tg_17, tg_18, tg_19, tg_20, tg_21, tg_22, tg_23, tg_24, tg_25, tg_26, tg_27, tg_28, tg_29, tg_30, tg_31, ts_0, ts_1, ts_2, ts_3, ts_4, ts_5, ts_6, ts_7, ts_8, ts_9, ts_10, ts_11, ts_12, ts_13, ts_14, ts_15, ts_16, ts_17, ts_18, ts_19, ts_20, ts_21, ts_22, ts_23, ts_24, ts_25, ts_26, ts_27, ts_28, ts_29, ts_30, ts_31, lit_, nI_add, nI_mul, ix_nI, hin, T_is0]
theorem T_heightIf {n s : Nat} {x : Int32} (hW : Wr_ (M 1) n s) : ∃ M' v, D_ E 198 [.ref t, .int x] (tw σ t M) = some (.inl (some (.int v)), tw σ t M') ∧ (qt_ M M' ∧ M' 0 0 = bI (¬ inN_ x n)) ∧
    (inN_ x n → v = hgt_ (lev_ (M 1) n s) x.toNatClampNeg) := by
  have hA := T_isMark (E := E) (σ := σ) (t := t) (M := M) (x := x) hW
  have h12 := wr_n12 hW
  by_cases c : inN_ x n
  · rw [bI_t c] at hA
    obtain ⟨m, hm, rfl⟩ := inN_nI c
    rw [bI_f (fun h => h c), nI_clamp (by omega)]
    have h0 := T_tries (E := E) (σ := σ) (t := t) (M := um M 0 (fun _ => nI 0))
    obtain ⟨M1, h1, r1, s1, w1, k1, f1⟩ := T_levels (E := E) (σ := σ) (t := t) (M := um (um M 0 (fun _ => nI 0)) 3 (cp_ 308 (M 1) (M 3))) (n := n) (s := s) hW
    have h3 := T_heightOf (E := E) (σ := σ) (t := t) (M := M1) (k := m) (by omega)
    have h4 := T_laysBack (E := E) (σ := σ) (t := t) (M := M1)
    have e0 : um (um M 0 (fun _ => nI 0)) 3 (cp_ 308 (um M 0 (fun _ => nI 0) 1) (um M 0 (fun _ => nI 0) 3)) = um (um M 0 (fun _ => nI 0)) 3 (cp_ 308 (M 1) (M 3)) := rfl
    rw [e0] at h0
    refine ⟨um M1 1 (cp_ 308 (M1 3) (M1 1)), _, ?_, ⟨fun j j0 j3 j9 => ?_, ?_⟩, fun _ => rfl⟩
    · rw [D_run]
      simp (disch := omega) only [l198, b198_0, K198_0, b198_1, K198_1, R_cons, go_nx, go_jp, go_rt, go_th, go_ca, go_no, go_ite, rr_v, rr_n, rr_x, hx_n, hx_p, hx_b, I_push, I_pushl, I_fc0, I_fc1, I_dc0, I_null, I_mask, I_iload, I_lload, I_dload, I_fload, I_aload, I_istore, I_lstore, I_dstore, I_fstore, I_astore, I_iinc, I_iadd, I_isub, I_imul, I_iand, I_ior, I_ixor, I_ishl, I_ishr, I_iushr, I_ineg, I_ladd, I_lsub, I_lmul, I_lxor, I_i2l, I_l2i, I_i2b, I_i2c, I_i2f, I_i2d, I_lcmp, I_fdiv, I_ddiv, I_f2d, I_dcmp, I_dup, I_pop, I_dup_x1, I_dup2, I_icne, I_iceq, I_iclt, I_icge, I_icgt, I_icle, I_ifnull, I_ifnonnull, I_ane, I_aeq, I_goto, I_lsw, I_iret, I_lret, I_fret, I_dret, I_vret, I_nret, I_aret, I_iald, I_bald, I_lald, I_aald, I_iast, I_bast, I_last, I_aast, I_alen, I_new, I_val, I_cast, I_inst, I_obj, I_throw, I_mkx, I_getf, I_putf, I_call, I_calli, I_callv, I_acopy, I_clone, I_getc, i_ifeq, i_ifne, i_iflt, i_ifge, i_ifgt, i_ifle, i_idiv, i_irem, i_newa, i_newo, i_abs, i_max, i_min, i_ldiv, en_, es_i, es_r, es_0, es_n, es_l, List.length_cons, List.length_nil, List.cons_append, List.nil_append, Nat.reduceAdd, Nat.reduceSub, List.replicate, lg_, st1_, st2_, cn_, nl_, mk_, pk_, kd_, sl_, la_, ft_a, ft_i, ft_l, ft_o, ft_n, ft_b0, ft_b1, ft_bI, nr_0, nr_1, nr_bI, ro_, no_, if_true, if_false, ite_true, ite_false, reduceIte, Nat.reduceMod, Nat.reduceEqDiff, Nat.zero_add, Nat.add_zero, lk_, tw_t, tw_1, tw_2, tw_3, tw_4, tw_5, tw_6, tw_9, tw_11, tw_12, tw_13, tw_14, tw_15, tw_16, tw_18, tw_19, tw_30, tg_0, tg_1, tg_2, tg_3, tg_4, tg_5, tg_6, tg_7, tg_8, tg_9, tg_10, tg_11, tg_12, tg_13, tg_14, tg_15, tg_16, tg_17, tg_18, tg_19, tg_20, tg_21, tg_22, tg_23, tg_24, tg_25, tg_26, tg_27, tg_28, tg_29, tg_30, tg_31, ts_0, ts_1, ts_2, ts_3, ts_4, ts_5, ts_6, ts_7, ts_8, ts_9, ts_10, ts_11, ts_12, ts_13, ts_14, ts_15, ts_16, ts_17, ts_18, ts_19, ts_20, ts_21, ts_22, ts_23, ts_24, ts_25, ts_26, ts_27, ts_28, ts_29, ts_30, ts_31, lit_, nI_add, nI_mul, ix_nI, hA, T_is1, n10_, h0, h1, h3, h4]
      rw [r1]
      rfl
    · by_cases j1 : j = 1
      · subst j1
        show cp_ 308 (M1 3) (M1 1) = M 1
        have e3 : M1 3 = cp_ 308 (M 1) (M 3) := by
          rw [f1 3 (by decide)]
          rfl
        rw [e3]
        exact cp_hs s1
      · rw [um_n j1, f1 j (by omega), um_n j3, um_n j0]
    · show M1 0 0 = _
      rw [f1 0 (by decide)]
      rfl
  · rw [bI_f c] at hA
    rw [bI_t c]
    refine ⟨um M 0 (fun _ => nI 1), nI 0, ?_, ⟨fun j j0 _ _ => um_n j0, rfl⟩, fun h => absurd h c⟩
    rw [D_run]
    simp (disch := omega) only [b198_0, K198_0, l198, R_cons, go_nx, go_jp, go_rt, go_th, go_ca, go_no, go_ite, rr_v, rr_n, rr_x, hx_n, hx_p, hx_b, I_push, I_pushl, I_fc0, I_fc1, I_dc0, I_null, I_mask, I_iload, I_lload, I_dload, I_fload, I_aload, I_istore, I_lstore, I_dstore, I_fstore, I_astore, I_iinc, I_iadd, I_isub, I_imul, I_iand, I_ior, I_ixor, I_ishl, I_ishr, I_iushr, I_ineg, I_ladd, I_lsub, I_lmul, I_lxor, I_i2l, I_l2i, I_i2b, I_i2c, I_i2f, I_i2d, I_lcmp, I_fdiv, I_ddiv, I_f2d, I_dcmp, I_dup, I_pop, I_dup_x1, I_dup2, I_icne, I_iceq, I_iclt, I_icge, I_icgt, I_icle, I_ifnull, I_ifnonnull, I_ane, I_aeq, I_goto, I_lsw, I_iret, I_lret, I_fret, I_dret, I_vret, I_nret, I_aret, I_iald, I_bald, I_lald, I_aald, I_iast, I_bast, I_last, I_aast, I_alen, I_new, I_val, I_cast, I_inst, I_obj, I_throw, I_mkx, I_getf, I_putf, I_call, I_calli, I_callv, I_acopy, I_clone, I_getc, i_ifeq, i_ifne, i_iflt, i_ifge, i_ifgt, i_ifle, i_idiv, i_irem, i_newa, i_newo, i_abs, i_max, i_min, i_ldiv, en_, es_i, es_r, es_0, es_n, es_l, List.length_cons, List.length_nil, List.cons_append, List.nil_append, Nat.reduceAdd, Nat.reduceSub, List.replicate, lg_, st1_, st2_, cn_, nl_, mk_, pk_, kd_, sl_, la_, ft_a, ft_i, ft_l, ft_o, ft_n, ft_b0, ft_b1, ft_bI, nr_0, nr_1, nr_bI, ro_, no_, if_true, if_false, ite_true, ite_false, reduceIte, Nat.reduceMod, Nat.reduceEqDiff, Nat.zero_add, Nat.add_zero, lk_, tw_t, tw_1, tw_2, tw_3, tw_4, tw_5, tw_6, tw_9, tw_11, tw_12, tw_13, tw_14, tw_15, tw_16, tw_18, tw_19, tw_30, tg_0, tg_1, tg_2, tg_3, tg_4, tg_5, tg_6, tg_7, tg_8, tg_9, tg_10, tg_11, tg_12, tg_13, tg_14, tg_15, tg_16, tg_17, tg_18, tg_19, tg_20, tg_21, tg_22, tg_23, tg_24, tg_25, tg_26, tg_27, tg_28, tg_29, tg_30, tg_31, ts_0, ts_1, ts_2, ts_3, ts_4, ts_5, ts_6, ts_7, ts_8, ts_9, ts_10, ts_11, ts_12, ts_13, ts_14, ts_15, ts_16, ts_17, ts_18, ts_19, ts_20, ts_21, ts_22, ts_23, ts_24, ts_25, ts_26, ts_27, ts_28, ts_29, ts_30, ts_31, lit_, nI_add, nI_mul, ix_nI, hA, T_is0]
/-- the least limit that closes a loop, from one on -/
def ll1_ (m w : Int32) : Nat → Nat → Nat
  | 0, l => l
  | d + 1, l => if clo_ m w (nI l) = true then l else ll1_ m w d (l + 1)
theorem ll1_le {m w : Int32} : ∀ (d l : Nat), l + d = 1000 → ll1_ m w d l ≤ 1000 ∧ l ≤ ll1_ m w d l := by
  intro d
  induction d with
  | zero => intro l h; exact ⟨by unfold ll1_; omega, Nat.le_refl _⟩
  | succ d ih =>
    intro l h
    rw [ll1_]
    split
    · omega
    · have := ih (l + 1) (by omega); omega
noncomputable def llk_ (r : Nat → Int32) (n s k l : Nat) : Nat := ll1_ (mis_ r n s k) (wal_ r n s k) (1000 - l) l
noncomputable def llq_ (r : Nat → Int32) (n s : Nat) : Int32 := if 999 < fo_ (llk_ r n s) (lps_ r n s).length 0 0 then NOO else nI (fo_ (llk_ r n s) (lps_ r n s).length 0 0)
theorem ll_in {r : Nat → Int32} {n s k : Nat} (hk : k < (lps_ r n s).length) : ∀ (d l : Nat) (M : Nat → Nat → Int32), Ct_ M r n s → l + d = 1000 →
    ∃ M', R_ E 199 (B_ E 199 2) [some (.ref t), some (.int (nI l)), some (.int (nI k))] [] (tw σ t M) = R_ E 199 (B_ E 199 1) [some (.ref t), some (.int (nI (ll1_ (mis_ r n s k) (wal_ r n s k) d l))), some (.int (nI (k + 1)))] [] (tw σ t M') ∧ sW_ M M' := by
  intro d
  induction d with
  | zero =>
    intro l M hC hl
    obtain rfl : l = 1000 := by omega
    refine ⟨M, ?_, sW_rfl⟩
    have h9 : nI 999 < nI 1000 := by decide
    conv => lhs; rw [b199_2]
    simp (disch := omega) only [K199_2, b199_3, K199_3, R_cons, go_nx, go_jp, go_rt, go_th, go_ca, go_no, go_ite, rr_v, rr_n, rr_x, hx_n, hx_p, hx_b, I_push, I_pushl, I_fc0, I_fc1, I_dc0, I_null, I_mask, I_iload, I_lload, I_dload, I_fload, I_aload, I_istore, I_lstore, I_dstore, I_fstore, I_astore, I_iinc, I_iadd, I_isub, I_imul, I_iand, I_ior, I_ixor, I_ishl, I_ishr, I_iushr, I_ineg, I_ladd, I_lsub, I_lmul, I_lxor, I_i2l, I_l2i, I_i2b, I_i2c, I_i2f, I_i2d, I_lcmp, I_fdiv, I_ddiv, I_f2d, I_dcmp, I_dup, I_pop, I_dup_x1, I_dup2, I_icne, I_iceq, I_iclt, I_icge, I_icgt, I_icle, I_ifnull, I_ifnonnull, I_ane, I_aeq, I_goto, I_lsw, I_iret, I_lret, I_fret, I_dret, I_vret, I_nret, I_aret, I_iald, I_bald, I_lald, I_aald, I_iast, I_bast, I_last, I_aast, I_alen, I_new, I_val, I_cast, I_inst, I_obj, I_throw, I_mkx, I_getf, I_putf, I_call, I_calli, I_callv, I_acopy, I_clone, I_getc, i_ifeq, i_ifne, i_iflt, i_ifge, i_ifgt, i_ifle, i_idiv, i_irem, i_newa, i_newo, i_abs, i_max, i_min, i_ldiv, en_, es_i, es_r, es_0, es_n, es_l, List.length_cons, List.length_nil, List.cons_append, List.nil_append, Nat.reduceAdd, Nat.reduceSub, List.replicate, lg_, st1_, st2_, cn_, nl_, mk_, pk_, kd_, sl_, la_, ft_a, ft_i, ft_l, ft_o, ft_n, ft_b0, ft_b1, ft_bI, nr_0, nr_1, nr_bI, ro_, no_, if_true, if_false, ite_true, ite_false, reduceIte, Nat.reduceMod, Nat.reduceEqDiff, Nat.zero_add, Nat.add_zero, lk_, tw_t, tw_1, tw_2, tw_3, tw_4, tw_5, tw_6, tw_9, tw_11, tw_12, tw_13, tw_14, tw_15, tw_16, tw_18, tw_19, tw_30, tg_0, tg_1, tg_2, tg_3, tg_4, tg_5, tg_6, tg_7, tg_8, tg_9, tg_10, tg_11, tg_12, tg_13, tg_14, tg_15, tg_16, tg_17, tg_18, tg_19, tg_20, tg_21, tg_22, tg_23, tg_24, tg_25, tg_26, tg_27, tg_28, tg_29, tg_30, tg_31, ts_0, ts_1, ts_2, ts_3, ts_4, ts_5, ts_6, ts_7, ts_8, ts_9, ts_10, ts_11, ts_12, ts_13, ts_14, ts_15, ts_16, ts_17, ts_18, ts_19, ts_20, ts_21, ts_22, ts_23, ts_24, ts_25, ts_26, ts_27, ts_28, ts_29, ts_30, ts_31, um_s, um_n, um_um, um_co, um_id, id_eq, lit_, nI_add, nI_mul, ix_nI, h9, ll1_, nI_1]
  | succ d ih =>
    intro l M hC hl
    have h9 : ¬ nI 999 < nI l := by rw [Int32.lt_iff_toInt_lt, nI_toInt (by omega), nI_toInt (by omega)]; omega
    obtain ⟨M1, h1, h2⟩ := T_closesWith (E := E) (σ := σ) (t := t) (l := nI l) hC hk
    rw [ll1_]
    by_cases c : clo_ (mis_ r n s k) (wal_ r n s k) (nI l) = true
    · rw [bI_t c] at h1
      refine ⟨M1, ?_, h2⟩
      rw [if_pos c]
      conv => lhs; rw [b199_2]
      simp (disch := omega) only [K199_2, b199_3, K199_3, R_cons, go_nx, go_jp, go_rt, go_th, go_ca, go_no, go_ite, rr_v, rr_n, rr_x, hx_n, hx_p, hx_b, I_push, I_pushl, I_fc0, I_fc1, I_dc0, I_null, I_mask, I_iload, I_lload, I_dload, I_fload, I_aload, I_istore, I_lstore, I_dstore, I_fstore, I_astore, I_iinc, I_iadd, I_isub, I_imul, I_iand, I_ior, I_ixor, I_ishl, I_ishr, I_iushr, I_ineg, I_ladd, I_lsub, I_lmul, I_lxor, I_i2l, I_l2i, I_i2b, I_i2c, I_i2f, I_i2d, I_lcmp, I_fdiv, I_ddiv, I_f2d, I_dcmp, I_dup, I_pop, I_dup_x1, I_dup2, I_icne, I_iceq, I_iclt, I_icge, I_icgt, I_icle, I_ifnull, I_ifnonnull, I_ane, I_aeq, I_goto, I_lsw, I_iret, I_lret, I_fret, I_dret, I_vret, I_nret, I_aret, I_iald, I_bald, I_lald, I_aald, I_iast, I_bast, I_last, I_aast, I_alen, I_new, I_val, I_cast, I_inst, I_obj, I_throw, I_mkx, I_getf, I_putf, I_call, I_calli, I_callv, I_acopy, I_clone, I_getc, i_ifeq, i_ifne, i_iflt, i_ifge, i_ifgt, i_ifle, i_idiv, i_irem, i_newa, i_newo, i_abs, i_max, i_min, i_ldiv, en_, es_i, es_r, es_0, es_n, es_l, List.length_cons, List.length_nil, List.cons_append, List.nil_append, Nat.reduceAdd, Nat.reduceSub, List.replicate, lg_, st1_, st2_, cn_, nl_, mk_, pk_, kd_, sl_, la_, ft_a, ft_i, ft_l, ft_o, ft_n, ft_b0, ft_b1, ft_bI, nr_0, nr_1, nr_bI, ro_, no_, if_true, if_false, ite_true, ite_false, reduceIte, Nat.reduceMod, Nat.reduceEqDiff, Nat.zero_add, Nat.add_zero, lk_, tw_t, tw_1, tw_2, tw_3, tw_4, tw_5, tw_6, tw_9, tw_11, tw_12, tw_13, tw_14, tw_15, tw_16, tw_18, tw_19, tw_30, tg_0, tg_1, tg_2, tg_3, tg_4, tg_5, tg_6, tg_7, tg_8, tg_9, tg_10, tg_11, tg_12, tg_13, tg_14, tg_15, tg_16, tg_17, tg_18, tg_19, tg_20, tg_21, tg_22, tg_23, tg_24, tg_25, tg_26, tg_27, tg_28, tg_29, tg_30, tg_31, ts_0, ts_1, ts_2, ts_3, ts_4, ts_5, ts_6, ts_7, ts_8, ts_9, ts_10, ts_11, ts_12, ts_13, ts_14, ts_15, ts_16, ts_17, ts_18, ts_19, ts_20, ts_21, ts_22, ts_23, ts_24, ts_25, ts_26, ts_27, ts_28, ts_29, ts_30, ts_31, um_s, um_n, um_um, um_co, um_id, id_eq, lit_, nI_add, nI_mul, ix_nI, h9, h1, n10_, nI_1]
    · rw [bI_f c] at h1
      obtain ⟨M2, h3, h4⟩ := ih (l + 1) M1 (ct_sw hC h2) (by omega)
      refine ⟨M2, ?_, sW_trans h2 h4⟩
      rw [if_neg c, ← h3]
      conv => lhs; rw [b199_2]
      simp (disch := omega) only [K199_2, R_cons, go_nx, go_jp, go_rt, go_th, go_ca, go_no, go_ite, rr_v, rr_n, rr_x, hx_n, hx_p, hx_b, I_push, I_pushl, I_fc0, I_fc1, I_dc0, I_null, I_mask, I_iload, I_lload, I_dload, I_fload, I_aload, I_istore, I_lstore, I_dstore, I_fstore, I_astore, I_iinc, I_iadd, I_isub, I_imul, I_iand, I_ior, I_ixor, I_ishl, I_ishr, I_iushr, I_ineg, I_ladd, I_lsub, I_lmul, I_lxor, I_i2l, I_l2i, I_i2b, I_i2c, I_i2f, I_i2d, I_lcmp, I_fdiv, I_ddiv, I_f2d, I_dcmp, I_dup, I_pop, I_dup_x1, I_dup2, I_icne, I_iceq, I_iclt, I_icge, I_icgt, I_icle, I_ifnull, I_ifnonnull, I_ane, I_aeq, I_goto, I_lsw, I_iret, I_lret, I_fret, I_dret, I_vret, I_nret, I_aret, I_iald, I_bald, I_lald, I_aald, I_iast, I_bast, I_last, I_aast, I_alen, I_new, I_val, I_cast, I_inst, I_obj, I_throw, I_mkx, I_getf, I_putf, I_call, I_calli, I_callv, I_acopy, I_clone, I_getc, i_ifeq, i_ifne, i_iflt, i_ifge, i_ifgt, i_ifle, i_idiv, i_irem, i_newa, i_newo, i_abs, i_max, i_min, i_ldiv, en_, es_i, es_r, es_0, es_n, es_l, List.length_cons, List.length_nil, List.cons_append, List.nil_append, Nat.reduceAdd, Nat.reduceSub, List.replicate, lg_, st1_, st2_, cn_, nl_, mk_, pk_, kd_, sl_, la_, ft_a, ft_i, ft_l, ft_o, ft_n, ft_b0, ft_b1, ft_bI, nr_0, nr_1, nr_bI, ro_, no_, if_true, if_false, ite_true, ite_false, reduceIte, Nat.reduceMod, Nat.reduceEqDiff, Nat.zero_add, Nat.add_zero, lk_, tw_t, tw_1, tw_2, tw_3, tw_4, tw_5, tw_6, tw_9, tw_11, tw_12, tw_13, tw_14, tw_15, tw_16, tw_18, tw_19, tw_30, tg_0, tg_1, tg_2, tg_3, tg_4, tg_5, tg_6, tg_7, tg_8, tg_9, tg_10, tg_11, tg_12, tg_13, tg_14, tg_15, tg_16, tg_17, tg_18, tg_19, tg_20, tg_21, tg_22, tg_23, tg_24, tg_25, tg_26, tg_27, tg_28, tg_29, tg_30, tg_31, ts_0, ts_1, ts_2, ts_3, ts_4, ts_5, ts_6, ts_7, ts_8, ts_9, ts_10, ts_11, ts_12, ts_13, ts_14, ts_15, ts_16, ts_17, ts_18, ts_19, ts_20, ts_21, ts_22, ts_23, ts_24, ts_25, ts_26, ts_27, ts_28, ts_29, ts_30, ts_31, um_s, um_n, um_um, um_co, um_id, id_eq, lit_, nI_add, nI_mul, ix_nI, h9, h1, nI_1]
theorem ll_out {r : Nat → Int32} {n s : Nat} : ∀ (d k l : Nat) (M : Nat → Nat → Int32), Ct_ M r n s → k + d = (lps_ r n s).length → l ≤ 1000 →
    ∃ M', R_ E 199 (B_ E 199 1) [some (.ref t), some (.int (nI l)), some (.int (nI k))] [] (tw σ t M) = R_ E 199 (B_ E 199 4) [some (.ref t), some (.int (nI (fo_ (llk_ r n s) d k l))), some (.int (nI (lps_ r n s).length))] [] (tw σ t M') ∧ sW_ M M' ∧ fo_ (llk_ r n s) d k l ≤ 1000 := by
  intro d
  induction d with
  | zero =>
    intro k l M hC hk hl
    have h0 : (lps_ r n s).length ≤ k := by omega
    have hle := lps_le (r := r) (s := s) (wr_n12 hC.2.1)
    have hlo := T_loops (E := E) (σ := σ) (t := t) (M := M) (n := n) (s := s) (hC.1 ▸ hC.2.1) hC.2.2
    rw [hC.1] at hlo
    refine ⟨M, ?_, sW_rfl, hl⟩
    obtain rfl : k = (lps_ r n s).length := by omega
    conv => lhs; rw [b199_1]
    simp (disch := omega) only [K199_1, R_cons, go_nx, go_jp, go_rt, go_th, go_ca, go_no, go_ite, rr_v, rr_n, rr_x, hx_n, hx_p, hx_b, I_push, I_pushl, I_fc0, I_fc1, I_dc0, I_null, I_mask, I_iload, I_lload, I_dload, I_fload, I_aload, I_istore, I_lstore, I_dstore, I_fstore, I_astore, I_iinc, I_iadd, I_isub, I_imul, I_iand, I_ior, I_ixor, I_ishl, I_ishr, I_iushr, I_ineg, I_ladd, I_lsub, I_lmul, I_lxor, I_i2l, I_l2i, I_i2b, I_i2c, I_i2f, I_i2d, I_lcmp, I_fdiv, I_ddiv, I_f2d, I_dcmp, I_dup, I_pop, I_dup_x1, I_dup2, I_icne, I_iceq, I_iclt, I_icge, I_icgt, I_icle, I_ifnull, I_ifnonnull, I_ane, I_aeq, I_goto, I_lsw, I_iret, I_lret, I_fret, I_dret, I_vret, I_nret, I_aret, I_iald, I_bald, I_lald, I_aald, I_iast, I_bast, I_last, I_aast, I_alen, I_new, I_val, I_cast, I_inst, I_obj, I_throw, I_mkx, I_getf, I_putf, I_call, I_calli, I_callv, I_acopy, I_clone, I_getc, i_ifeq, i_ifne, i_iflt, i_ifge, i_ifgt, i_ifle, i_idiv, i_irem, i_newa, i_newo, i_abs, i_max, i_min, i_ldiv, en_, es_i, es_r, es_0, es_n, es_l, List.length_cons, List.length_nil, List.cons_append, List.nil_append, Nat.reduceAdd, Nat.reduceSub, List.replicate, lg_, st1_, st2_, cn_, nl_, mk_, pk_, kd_, sl_, la_, ft_a, ft_i, ft_l, ft_o, ft_n, ft_b0, ft_b1, ft_bI, nr_0, nr_1, nr_bI, ro_, no_, if_true, if_false, ite_true, ite_false, reduceIte, Nat.reduceMod, Nat.reduceEqDiff, Nat.zero_add, Nat.add_zero, lk_, tw_t, tw_1, tw_2, tw_3, tw_4, tw_5, tw_6, tw_9, tw_11, tw_12, tw_13, tw_14, tw_15, tw_16, tw_18, tw_19, tw_30, tg_0, tg_1, tg_2, tg_3, tg_4, tg_5, tg_6, tg_7, tg_8, tg_9, tg_10, tg_11, tg_12, tg_13, tg_14, tg_15, tg_16, tg_17, tg_18, tg_19, tg_20, tg_21, tg_22, tg_23, tg_24, tg_25, tg_26, tg_27, tg_28, tg_29, tg_30, tg_31, ts_0, ts_1, ts_2, ts_3, ts_4, ts_5, ts_6, ts_7, ts_8, ts_9, ts_10, ts_11, ts_12, ts_13, ts_14, ts_15, ts_16, ts_17, ts_18, ts_19, ts_20, ts_21, ts_22, ts_23, ts_24, ts_25, ts_26, ts_27, ts_28, ts_29, ts_30, ts_31, um_s, um_n, um_um, um_co, um_id, id_eq, lit_, nI_add, nI_mul, ix_nI, hlo, nI_leI, h0, fo_]
  | succ d ih =>
    intro k l M hC hk hl
    have h0 : ¬ (lps_ r n s).length ≤ k := by omega
    have hle := lps_le (r := r) (s := s) (wr_n12 hC.2.1)
    have hlo := T_loops (E := E) (σ := σ) (t := t) (M := M) (n := n) (s := s) (hC.1 ▸ hC.2.1) hC.2.2
    rw [hC.1] at hlo
    have hk' : k < (lps_ r n s).length := by omega
    obtain ⟨M1, h1, h2⟩ := ll_in (E := E) (σ := σ) (t := t) hk' (1000 - l) l M hC (by omega)
    have hl2 := ll1_le (m := mis_ r n s k) (w := wal_ r n s k) (1000 - l) l (by omega)
    obtain ⟨M2, h3, h4, h5⟩ := ih (k + 1) (llk_ r n s k l) M1 (ct_sw hC h2) (by omega) hl2.1
    rw [fo_]
    refine ⟨M2, ?_, sW_trans h2 h4, h5⟩
    rw [← h3, ← show ll1_ (mis_ r n s k) (wal_ r n s k) (1000 - l) l = llk_ r n s k l from rfl, ← h1]
    conv => lhs; rw [b199_1]
    simp (disch := omega) only [K199_1, R_cons, go_nx, go_jp, go_rt, go_th, go_ca, go_no, go_ite, rr_v, rr_n, rr_x, hx_n, hx_p, hx_b, I_push, I_pushl, I_fc0, I_fc1, I_dc0, I_null, I_mask, I_iload, I_lload, I_dload, I_fload, I_aload, I_istore, I_lstore, I_dstore, I_fstore, I_astore, I_iinc, I_iadd, I_isub, I_imul, I_iand, I_ior, I_ixor, I_ishl, I_ishr, I_iushr, I_ineg, I_ladd, I_lsub, I_lmul, I_lxor, I_i2l, I_l2i, I_i2b, I_i2c, I_i2f, I_i2d, I_lcmp, I_fdiv, I_ddiv, I_f2d, I_dcmp, I_dup, I_pop, I_dup_x1, I_dup2, I_icne, I_iceq, I_iclt, I_icge, I_icgt, I_icle, I_ifnull, I_ifnonnull, I_ane, I_aeq, I_goto, I_lsw, I_iret, I_lret, I_fret, I_dret, I_vret, I_nret, I_aret, I_iald, I_bald, I_lald, I_aald, I_iast, I_bast, I_last, I_aast, I_alen, I_new, I_val, I_cast, I_inst, I_obj, I_throw, I_mkx, I_getf, I_putf, I_call, I_calli, I_callv, I_acopy, I_clone, I_getc, i_ifeq, i_ifne, i_iflt, i_ifge, i_ifgt, i_ifle, i_idiv, i_irem, i_newa, i_newo, i_abs, i_max, i_min, i_ldiv, en_, es_i, es_r, es_0, es_n, es_l, List.length_cons, List.length_nil, List.cons_append, List.nil_append, Nat.reduceAdd, Nat.reduceSub, List.replicate, lg_, st1_, st2_, cn_, nl_, mk_, pk_, kd_, sl_, la_, ft_a, ft_i, ft_l, ft_o, ft_n, ft_b0, ft_b1, ft_bI, nr_0, nr_1, nr_bI, ro_, no_, if_true, if_false, ite_true, ite_false, reduceIte, Nat.reduceMod, Nat.reduceEqDiff, Nat.zero_add, Nat.add_zero, lk_, tw_t, tw_1, tw_2, tw_3, tw_4, tw_5, tw_6, tw_9, tw_11, tw_12, tw_13, tw_14, tw_15, tw_16, tw_18, tw_19, tw_30, tg_0, tg_1, tg_2, tg_3, tg_4, tg_5, tg_6, tg_7, tg_8, tg_9, tg_10, tg_11, tg_12, tg_13, tg_14, tg_15, tg_16, tg_17, tg_18, tg_19, tg_20, tg_21, tg_22, tg_23, tg_24, tg_25, tg_26, tg_27, tg_28, tg_29, tg_30, tg_31, ts_0, ts_1, ts_2, ts_3, ts_4, ts_5, ts_6, ts_7, ts_8, ts_9, ts_10, ts_11, ts_12, ts_13, ts_14, ts_15, ts_16, ts_17, ts_18, ts_19, ts_20, ts_21, ts_22, ts_23, ts_24, ts_25, ts_26, ts_27, ts_28, ts_29, ts_30, ts_31, um_s, um_n, um_um, um_co, um_id, id_eq, lit_, nI_add, nI_mul, ix_nI, hlo, nI_leI, h0]
theorem T_leastLimit {n s : Nat} (hW : Wr_ (M 1) n s) : ∃ M', D_ E 199 [.ref t] (tw σ t M) = some (.inl (some (.int (llq_ (M 1) n s))), tw σ t M') ∧ (qf_ M M' ∧ M' 0 0 = nI 0) := by
  obtain ⟨M1, h1, m1, hW', hK, hq⟩ := T_rk0 (E := E) (σ := σ) (t := t) (M := M) hW
  obtain ⟨M2, h2, h3, h4⟩ := ll_out (E := E) (σ := σ) (t := t) (lps_ (M 1) n s).length 0 0 M1 ⟨m1, hW, hK⟩ (by omega) (by omega)
  refine ⟨M2, ?_, qf_sW hq h3⟩
  unfold llq_
  generalize fo_ (llk_ (M 1) n s) (lps_ (M 1) n s).length 0 0 = q at h2 h4 ⊢
  rw [D_run]
  simp (disch := omega) only [b199_0, K199_0, l199, R_cons, go_nx, go_jp, go_rt, go_th, go_ca, go_no, go_ite, rr_v, rr_n, rr_x, hx_n, hx_p, hx_b, I_push, I_pushl, I_fc0, I_fc1, I_dc0, I_null, I_mask, I_iload, I_lload, I_dload, I_fload, I_aload, I_istore, I_lstore, I_dstore, I_fstore, I_astore, I_iinc, I_iadd, I_isub, I_imul, I_iand, I_ior, I_ixor, I_ishl, I_ishr, I_iushr, I_ineg, I_ladd, I_lsub, I_lmul, I_lxor, I_i2l, I_l2i, I_i2b, I_i2c, I_i2f, I_i2d, I_lcmp, I_fdiv, I_ddiv, I_f2d, I_dcmp, I_dup, I_pop, I_dup_x1, I_dup2, I_icne, I_iceq, I_iclt, I_icge, I_icgt, I_icle, I_ifnull, I_ifnonnull, I_ane, I_aeq, I_goto, I_lsw, I_iret, I_lret, I_fret, I_dret, I_vret, I_nret, I_aret, I_iald, I_bald, I_lald, I_aald, I_iast, I_bast, I_last, I_aast, I_alen, I_new, I_val, I_cast, I_inst, I_obj, I_throw, I_mkx, I_getf, I_putf, I_call, I_calli, I_callv, I_acopy, I_clone, I_getc, i_ifeq, i_ifne, i_iflt, i_ifge, i_ifgt, i_ifle, i_idiv, i_irem, i_newa, i_newo, i_abs, i_max, i_min, i_ldiv, en_, es_i, es_r, es_0, es_n, es_l, List.length_cons, List.length_nil, List.cons_append, List.nil_append, Nat.reduceAdd, Nat.reduceSub, List.replicate, lg_, st1_, st2_, cn_, nl_, mk_, pk_, kd_, sl_, la_, ft_a, ft_i, ft_l, ft_o, ft_n, ft_b0, ft_b1, ft_bI, nr_0, nr_1, nr_bI, ro_, no_, if_true, if_false, ite_true, ite_false, reduceIte, Nat.reduceMod, Nat.reduceEqDiff, Nat.zero_add, Nat.add_zero, lk_, tw_t, tw_1, tw_2, tw_3, tw_4, tw_5, tw_6, tw_9, tw_11, tw_12, tw_13, tw_14, tw_15, tw_16, tw_18, tw_19, tw_30, tg_0, tg_1, tg_2, tg_3, tg_4, tg_5, tg_6, tg_7, tg_8, tg_9, tg_10, tg_11, tg_12, tg_13, tg_14, tg_15, tg_16, tg_17, tg_18, tg_19, tg_20, tg_21, tg_22, tg_23, tg_24, tg_25, tg_26, tg_27, tg_28, tg_29, tg_30, tg_31, ts_0, ts_1, ts_2, ts_3, ts_4, ts_5, ts_6, ts_7, ts_8, ts_9, ts_10, ts_11, ts_12, ts_13, ts_14, ts_15, ts_16, ts_17, ts_18, ts_19, ts_20, ts_21, ts_22, ts_23, ts_24, ts_25, ts_26, ts_27, ts_28, ts_29, ts_30, ts_31, lit_, nI_add, nI_mul, ix_nI, h1]
  rw [h2]
  by_cases c : 999 < q
  · rw [if_pos c]
    have c' : ¬ q ≤ 999 := by omega
    simp (disch := omega) only [b199_4, K199_4, b199_6, K199_6, R_cons, go_nx, go_jp, go_rt, go_th, go_ca, go_no, go_ite, rr_v, rr_n, rr_x, hx_n, hx_p, hx_b, I_push, I_pushl, I_fc0, I_fc1, I_dc0, I_null, I_mask, I_iload, I_lload, I_dload, I_fload, I_aload, I_istore, I_lstore, I_dstore, I_fstore, I_astore, I_iinc, I_iadd, I_isub, I_imul, I_iand, I_ior, I_ixor, I_ishl, I_ishr, I_iushr, I_ineg, I_ladd, I_lsub, I_lmul, I_lxor, I_i2l, I_l2i, I_i2b, I_i2c, I_i2f, I_i2d, I_lcmp, I_fdiv, I_ddiv, I_f2d, I_dcmp, I_dup, I_pop, I_dup_x1, I_dup2, I_icne, I_iceq, I_iclt, I_icge, I_icgt, I_icle, I_ifnull, I_ifnonnull, I_ane, I_aeq, I_goto, I_lsw, I_iret, I_lret, I_fret, I_dret, I_vret, I_nret, I_aret, I_iald, I_bald, I_lald, I_aald, I_iast, I_bast, I_last, I_aast, I_alen, I_new, I_val, I_cast, I_inst, I_obj, I_throw, I_mkx, I_getf, I_putf, I_call, I_calli, I_callv, I_acopy, I_clone, I_getc, i_ifeq, i_ifne, i_iflt, i_ifge, i_ifgt, i_ifle, i_idiv, i_irem, i_newa, i_newo, i_abs, i_max, i_min, i_ldiv, en_, es_i, es_r, es_0, es_n, es_l, List.length_cons, List.length_nil, List.cons_append, List.nil_append, Nat.reduceAdd, Nat.reduceSub, List.replicate, lg_, st1_, st2_, cn_, nl_, mk_, pk_, kd_, sl_, la_, ft_a, ft_i, ft_l, ft_o, ft_n, ft_b0, ft_b1, ft_bI, nr_0, nr_1, nr_bI, ro_, no_, if_true, if_false, ite_true, ite_false, reduceIte, Nat.reduceMod, Nat.reduceEqDiff, Nat.zero_add, Nat.add_zero, lk_, tw_t, tw_1, tw_2, tw_3, tw_4, tw_5, tw_6, tw_9, tw_11, tw_12, tw_13, tw_14, tw_15, tw_16, tw_18, tw_19, tw_30, tg_0, tg_1, tg_2, tg_3, tg_4, tg_5, tg_6, tg_7, tg_8, tg_9, tg_10, tg_11, tg_12, tg_13, tg_14, tg_15, tg_16, tg_17, tg_18, tg_19, tg_20, tg_21, tg_22, tg_23, tg_24, tg_25, tg_26, tg_27, tg_28, tg_29, tg_30, tg_31, ts_0, ts_1, ts_2, ts_3, ts_4, ts_5, ts_6, ts_7, ts_8, ts_9, ts_10, ts_11, ts_12, ts_13, ts_14, ts_15, ts_16, ts_17, ts_18, ts_19, ts_20, ts_21, ts_22, ts_23, ts_24, ts_25, ts_26, ts_27, ts_28, ts_29, ts_30, ts_31, lit_, nI_add, nI_mul, ix_nI, nI_leI, c']
  · rw [if_neg c]
    have c' : q ≤ 999 := by omega
    simp (disch := omega) only [b199_4, K199_4, b199_5, K199_5, b199_6, K199_6, R_cons, go_nx, go_jp, go_rt, go_th, go_ca, go_no, go_ite, rr_v, rr_n, rr_x, hx_n, hx_p, hx_b, I_push, I_pushl, I_fc0, I_fc1, I_dc0, I_null, I_mask, I_iload, I_lload, I_dload, I_fload, I_aload, I_istore, I_lstore, I_dstore, I_fstore, I_astore, I_iinc, I_iadd, I_isub, I_imul, I_iand, I_ior, I_ixor, I_ishl, I_ishr, I_iushr, I_ineg, I_ladd, I_lsub, I_lmul, I_lxor, I_i2l, I_l2i, I_i2b, I_i2c, I_i2f, I_i2d, I_lcmp, I_fdiv, I_ddiv, I_f2d, I_dcmp, I_dup, I_pop, I_dup_x1, I_dup2, I_icne, I_iceq, I_iclt, I_icge, I_icgt, I_icle, I_ifnull, I_ifnonnull, I_ane, I_aeq, I_goto, I_lsw, I_iret, I_lret, I_fret, I_dret, I_vret, I_nret, I_aret, I_iald, I_bald, I_lald, I_aald, I_iast, I_bast, I_last, I_aast, I_alen, I_new, I_val, I_cast, I_inst, I_obj, I_throw, I_mkx, I_getf, I_putf, I_call, I_calli, I_callv, I_acopy, I_clone, I_getc, i_ifeq, i_ifne, i_iflt, i_ifge, i_ifgt, i_ifle, i_idiv, i_irem, i_newa, i_newo, i_abs, i_max, i_min, i_ldiv, en_, es_i, es_r, es_0, es_n, es_l, List.length_cons, List.length_nil, List.cons_append, List.nil_append, Nat.reduceAdd, Nat.reduceSub, List.replicate, lg_, st1_, st2_, cn_, nl_, mk_, pk_, kd_, sl_, la_, ft_a, ft_i, ft_l, ft_o, ft_n, ft_b0, ft_b1, ft_bI, nr_0, nr_1, nr_bI, ro_, no_, if_true, if_false, ite_true, ite_false, reduceIte, Nat.reduceMod, Nat.reduceEqDiff, Nat.zero_add, Nat.add_zero, lk_, tw_t, tw_1, tw_2, tw_3, tw_4, tw_5, tw_6, tw_9, tw_11, tw_12, tw_13, tw_14, tw_15, tw_16, tw_18, tw_19, tw_30, tg_0, tg_1, tg_2, tg_3, tg_4, tg_5, tg_6, tg_7, tg_8, tg_9, tg_10, tg_11, tg_12, tg_13, tg_14, tg_15, tg_16, tg_17, tg_18, tg_19, tg_20, tg_21, tg_22, tg_23, tg_24, tg_25, tg_26, tg_27, tg_28, tg_29, tg_30, tg_31, ts_0, ts_1, ts_2, ts_3, ts_4, ts_5, ts_6, ts_7, ts_8, ts_9, ts_10, ts_11, ts_12, ts_13, ts_14, ts_15, ts_16, ts_17, ts_18, ts_19, ts_20, ts_21, ts_22, ts_23, ts_24, ts_25, ts_26, ts_27, ts_28, ts_29, ts_30, ts_31, lit_, nI_add, nI_mul, ix_nI, nI_leI, c']
end WLD
