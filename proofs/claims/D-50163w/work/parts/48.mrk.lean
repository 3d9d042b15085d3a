section MRK
variable {E : En_} {σ : As_} {t : Nat} {M : Nat → Nat → Int32}
/-- what is asked of a mark -/
noncomputable def mrkq_ (r : Nat → Int32) (n s a w : Nat) : Int32 := match w with
  | 0 => r (8 + 5 * a + 1)
  | 1 => r (8 + 5 * a + 2)
  | 2 => nI (cnt_ (fun k => decide (edg_ r s a k)) n 0 0)
  | 3 => nI (cnt_ (fun k => decide (r (68 + 6 * k + 5) = nI 0) && decide (sof_ r k a)) s 0 0)
  | _ => nI (prt_ r n s a)
theorem T_mark_in {n s a w : Nat} (hW : Wr_ (M 1) n s) (ha : a < n) (hw : w < 5) : ∃ M', D_ E 150 [.ref t, .int (nI a), .int (nI w)] (tw σ t M) = some (.inl (some (.int (mrkq_ (M 1) n s a w))), tw σ t M') ∧ qf_ M M' ∧ M' 0 0 = nI 0 := by
  have h12 := wr_n12 hW
  have hne : ¬ nI 1 = nI 0 := by decide
  have hA := T_isMark (E := E) (σ := σ) (t := t) (M := M) (x := nI a) hW
  have e1 : bI (inN_ (nI a) n) = nI 1 := by
    rw [bI_1]; unfold inN_; rw [nI_toInt (by omega)]; omega
  rw [e1] at hA
  have hin : bI ((0 : Int64) ≤ (nI w).toInt64 ∧ (nI w).toInt64 ≤ 4) = nI 1 := by
    rw [bI_1, Int64.le_iff_toInt_le, Int64.le_iff_toInt_le, Int32.toInt_toInt64, nI_toInt (by omega)]
    have a : (0 : Int64).toInt = 0 := by decide
    have b : (4 : Int64).toInt = 4 := by decide
    rw [a, b]; omega
  obtain ⟨M1, h1, h2, h3⟩ := T_reckons (E := E) (σ := σ) (t := t) (M := um M 0 (fun _ => nI 0)) (n := n) (s := s) hW
  have m1 : M1 1 = M 1 := h2 1 (Or.inl (by decide))
  have hW1 : Wr_ (M1 1) n s := by rw [m1]; exact hW
  have hq := qf_sm1 h2
  have q2 := T_edgesOf (E := E) (σ := σ) (t := t) hW1 h3.1 ha
  have q3 := T_sightsOf (E := E) (σ := σ) (t := t) hW1 ha
  have q4 := h3.2.1 a ha
  rw [m1] at q2 q3 q4
  have hw6 : w = 0 ∨ w = 1 ∨ w = 2 ∨ w = 3 ∨ w = 4 := by omega
  have ht : ∀ (l : Lc_) (r : List Value) (σ : As_), I_tsw 0 [3, 4, 5, 6] 7 l (.int (nI 4) :: r) σ = jp_ 7 l r σ := fun l r σ => i_tswo0 (by decide)
  refine ⟨M1, ?_, hq⟩
  rcases hw6 with rfl | rfl | rfl | rfl | rfl <;> rw [D_run]
  all_goals simp (disch := first | omega | decide) only [l150, b150_0, K150_0, b150_1, K150_1, b150_2, K150_2, b150_3, K150_3, b150_4, K150_4, b150_5, K150_5, b150_6, K150_6, b150_7, K150_7, R_cons, go_nx, go_jp, go_rt, go_th, go_ca, go_no, go_ite, rr_v, rr_n, rr_x, hx_n, hx_p, hx_b, I_push, I_pushl, I_fc0, I_fc1, I_dc0, I_null, I_mask, I_iload, I_lload, I_dload, I_fload, I_aload, I_istore, I_lstore, I_dstore, I_fstore, I_astore, I_iinc, I_iadd, I_isub, I_imul, I_iand, I_ior, I_ixor, I_ishl, I_ishr, I_iushr, I_ineg, I_ladd, I_lsub, I_lmul, I_lxor, I_i2l, I_l2i, I_i2b, I_i2c, I_i2f, I_i2d, I_lcmp, I_fdiv, I_ddiv, I_f2d, I_dcmp, I_dup, I_pop, I_dup_x1, I_dup2, I_icne, I_iceq, I_iclt, I_icge, I_icgt, I_icle, I_ifnull, I_ifnonnull, I_ane, I_aeq, I_goto, I_lsw, I_iret, I_lret, I_fret, I_dret, I_vret, I_nret, I_aret, I_iald, I_bald, I_lald, I_aald, I_iast, I_bast, I_last, I_aast, I_alen, I_new, I_val, I_cast, I_inst, I_obj, I_throw, I_mkx, I_getf, I_putf, I_call, I_calli, I_callv, I_acopy, I_clone, I_getc, i_ifeq, i_ifne, i_iflt, i_ifge, i_ifgt, i_ifle, i_idiv, i_irem, i_newa, i_newo, i_abs, i_max, i_min, i_ldiv, en_, es_i, es_r, es_0, es_n, es_l, List.length_cons, List.length_nil, List.cons_append, List.nil_append, Nat.reduceAdd, Nat.reduceSub, List.replicate, lg_, st1_, st2_, cn_, nl_, mk_, pk_, kd_, sl_, la_, ft_a, ft_i, ft_l, ft_o, ft_n, ft_b0, ft_b1, ft_bI, nr_0, nr_1, nr_bI, ro_, no_, if_true, if_false, ite_true, ite_false, reduceIte, Nat.reduceMod, Nat.reduceEqDiff, Nat.zero_add, Nat.add_zero, lk_, tw_t, tw_1, tw_2, tw_3, tw_4, tw_5, tw_6, tw_9, tw_11, tw_12, tw_13, tw_14, tw_15, tw_16, tw_18, tw_19, tw_30, tg_0, tg_1, tg_2, tg_3, tg_4, tg_5, tg_6, tg_7, tg_8, tg_9, tg_10, tg_11, tg_12, tg_13, tg_14, tg_15, tg_16, tg_17, tg_18, tg_19, tg_20, tg_21, tg_22, tg_23, tg_24, tg_25, tg_26, tg_27, tg_28, tg_29, tg_30, tg_31, ts_0, ts_1, ts_2, ts_3, ts_4, ts_5, ts_6, ts_7, ts_8, ts_9, ts_10, ts_11, ts_12, ts_13, ts_14, ts_15, ts_16, ts_17, ts_18, ts_19, ts_20, ts_21, ts_22, ts_23, ts_24, ts_25, ts_26, ts_27, ts_28, ts_29, ts_30, ts_31, lit_, nI_add, nI_mul, ix_nI, hA, T_is1, T_isIn, hin, T_may1, um_um, hne, h1, i_tsw0, ht, List.getD_cons_zero, List.getD_cons_succ, T_of, m1, q2, q3, q4]
  all_goals rfl
end MRK
