section CWE
variable {E : En_} {σ : As_} {w n s : Nat} {r : Nat → Int32} {ms ss : List Nat}
theorem W_error (hd : E7_ E σ.2.2) (h4 : E45_ E σ.2.2) (hwl : Wl_ E σ.2.2 w r ms ss) (hm : ms.length = n) (hss : ss.length = s) (hW : Wr_ r n s) (hw : Hw_ σ) : ∃ σ', D_ E 275 [.ref w] σ = some (.inl (some (.int (err_ r n s))), σ') ∧ Fr_ 570 σ σ' := by
  obtain ⟨σ1, g1, g2⟩ := W_found (E := E) hd h4 hwl hm hss hW hw
  obtain ⟨am, em, as, es, st, mc, mc', hA⟩ := hwl
  have hb : bit_ (r 6) := hW.2.2.2.2.2.2.2.2.1
  unfold err_
  rcases hb with h6 | h6
  · rw [if_neg (by rw [h6]; decide)]
    refine ⟨σ1, ?_, g2⟩
    rw [D_run]
    simp (disch := omega) only [l275, b275_0, K275_0, b275_1, K275_1, b275_2, K275_2, R_cons, go_nx, go_jp, go_rt, go_th, go_ca, go_no, go_ite, rr_v, rr_n, rr_x, hx_n, hx_p, hx_b, I_push, I_pushl, I_fc0, I_fc1, I_dc0, I_null, I_mask, I_iload, I_lload, I_dload, I_fload, I_aload, I_istore, I_lstore, I_dstore, I_fstore, I_astore, I_iinc, I_iadd, I_isub, I_imul, I_iand, I_ior, I_ixor, I_ishl, I_ishr, I_iushr, I_ineg, I_ladd, I_lsub, I_lmul, I_lxor, I_i2l, I_l2i, I_i2b, I_i2c, I_i2f, I_i2d, I_lcmp, I_fdiv, I_ddiv, I_f2d, I_dcmp, I_dup, I_pop, I_dup_x1, I_dup2, I_icne, I_iceq, I_iclt, I_icge, I_icgt, I_icle, I_ifnull, I_ifnonnull, I_ane, I_aeq, I_goto, I_lsw, I_iret, I_lret, I_fret, I_dret, I_vret, I_nret, I_aret, I_iald, I_bald, I_lald, I_aald, I_iast, I_bast, I_last, I_aast, I_alen, I_new, I_val, I_cast, I_inst, I_obj, I_throw, I_mkx, I_getf, I_putf, I_call, I_calli, I_callv, I_clone, I_getc, i_ifeq, i_ifne, i_iflt, i_ifge, i_ifgt, i_ifle, i_idiv, i_irem, i_newa, i_newo, i_abs, i_max, i_min, i_ldiv, en_, es_i, es_r, es_0, es_n, es_l, List.length_cons, List.length_nil, List.cons_append, List.nil_append, Nat.reduceAdd, Nat.reduceSub, List.replicate, lg_, st1_, st2_, cn_, nl_, mk_, pk_, kd_, sl_, la_, ft_a, ft_i, ft_l, ft_o, ft_n, ft_b0, ft_b1, ft_bI, nr_0, nr_1, nr_bI, ro_, no_, if_true, if_false, ite_true, ite_false, reduceIte, Nat.reduceMod, Nat.reduceEqDiff, Nat.zero_add, Nat.add_zero, lk_, lit_, nI_add, nI_mul, ix_nI, fgk_0, fgk_1, fgk_2, fgk_3, fgk_4, fgk_5, fgk_6, fgk_7, fgk_8, fgk_9, fgk_10, fgk_11, fgk_12, fgk_13, fsk_0, fsk_1, fsk_2, fsk_3, fsk_4, fsk_5, fsk_6, fsk_7, fsk_8, fsk_9, fsk_10, fsk_11, fsk_12, fsk_13, ca_i, ca_r, ca_n, Nat.reduceLT, true_or, or_true, if_true, false_or, or_false, and_true, true_and, List.mem_singleton, eq_self, hA.1, h6, g1]
  · rw [if_pos h6]
    refine ⟨σ, ?_, Fr_rfl hw⟩
    rw [D_run]
    simp (disch := omega) only [l275, b275_0, K275_0, b275_1, K275_1, b275_2, K275_2, R_cons, go_nx, go_jp, go_rt, go_th, go_ca, go_no, go_ite, rr_v, rr_n, rr_x, hx_n, hx_p, hx_b, I_push, I_pushl, I_fc0, I_fc1, I_dc0, I_null, I_mask, I_iload, I_lload, I_dload, I_fload, I_aload, I_istore, I_lstore, I_dstore, I_fstore, I_astore, I_iinc, I_iadd, I_isub, I_imul, I_iand, I_ior, I_ixor, I_ishl, I_ishr, I_iushr, I_ineg, I_ladd, I_lsub, I_lmul, I_lxor, I_i2l, I_l2i, I_i2b, I_i2c, I_i2f, I_i2d, I_lcmp, I_fdiv, I_ddiv, I_f2d, I_dcmp, I_dup, I_pop, I_dup_x1, I_dup2, I_icne, I_iceq, I_iclt, I_icge, I_icgt, I_icle, I_ifnull, I_ifnonnull, I_ane, I_aeq, I_goto, I_lsw, I_iret, I_lret, I_fret, I_dret, I_vret, I_nret, I_aret, I_iald, I_bald, I_lald, I_aald, I_iast, I_bast, I_last, I_aast, I_alen, I_new, I_val, I_cast, I_inst, I_obj, I_throw, I_mkx, I_getf, I_putf, I_call, I_calli, I_callv, I_clone, I_getc, i_ifeq, i_ifne, i_iflt, i_ifge, i_ifgt, i_ifle, i_idiv, i_irem, i_newa, i_newo, i_abs, i_max, i_min, i_ldiv, en_, es_i, es_r, es_0, es_n, es_l, List.length_cons, List.length_nil, List.cons_append, List.nil_append, Nat.reduceAdd, Nat.reduceSub, List.replicate, lg_, st1_, st2_, cn_, nl_, mk_, pk_, kd_, sl_, la_, ft_a, ft_i, ft_l, ft_o, ft_n, ft_b0, ft_b1, ft_bI, nr_0, nr_1, nr_bI, ro_, no_, if_true, if_false, ite_true, ite_false, reduceIte, Nat.reduceMod, Nat.reduceEqDiff, Nat.zero_add, Nat.add_zero, lk_, lit_, nI_add, nI_mul, ix_nI, fgk_0, fgk_1, fgk_2, fgk_3, fgk_4, fgk_5, fgk_6, fgk_7, fgk_8, fgk_9, fgk_10, fgk_11, fgk_12, fgk_13, fsk_0, fsk_1, fsk_2, fsk_3, fsk_4, fsk_5, fsk_6, fsk_7, fsk_8, fsk_9, fsk_10, fsk_11, fsk_12, fsk_13, ca_i, ca_r, ca_n, Nat.reduceLT, true_or, or_true, if_true, false_or, or_false, and_true, true_and, List.mem_singleton, eq_self, hA.1, h6, n10_]
/-- heights that are none aren't numbers of heights -/
def Hok_ (r : Nat → Int32) (n : Nat) : Prop := ∀ k, k < n → r (8 + 5 * k + 3) = nI 1 → ¬ r (8 + 5 * k + 4) = NOH
theorem hgt_no {k : Nat} (hH : Hok_ r n) (hW : Wr_ r n s) (hk : k < n) : (hgt_ r k = NOH) = ¬ (r (8 + 5 * k + 3) = nI 1) := by
  unfold hgt_
  by_cases c : r (8 + 5 * k + 3) = nI 1
  · rw [if_pos c, eq_iff_iff]
    exact ⟨fun q => absurd q (hH k hk c), fun q => absurd c q⟩
  · rw [if_neg c, eq_iff_iff]
    exact ⟨fun _ => c, fun _ => rfl⟩
theorem K_hasM {x k : Nat} (hH : Hok_ r n) (hW : Wr_ r n s) (hk : k < n) (h : MkC_ σ.2.2 x r k) : D_ E 250 [.ref x] σ = some (.inl (some (.int (bI (r (8 + 5 * k + 3) = nI 1)))), σ) := by
  obtain ⟨nm, m1, _⟩ := h
  have hn := hgt_no hH hW hk
  rw [D_run]
  by_cases c : r (8 + 5 * k + 3) = nI 1
  · have c' : ¬ hgt_ r k = NOH := by rw [hn]; exact fun q => q c
    rw [bI_t c]
    simp (disch := omega) only [l250, b250_0, K250_0, b250_1, K250_1, b250_2, K250_2, R_cons, go_nx, go_jp, go_rt, go_th, go_ca, go_no, go_ite, rr_v, rr_n, rr_x, hx_n, hx_p, hx_b, I_push, I_pushl, I_fc0, I_fc1, I_dc0, I_null, I_mask, I_iload, I_lload, I_dload, I_fload, I_aload, I_istore, I_lstore, I_dstore, I_fstore, I_astore, I_iinc, I_iadd, I_isub, I_imul, I_iand, I_ior, I_ixor, I_ishl, I_ishr, I_iushr, I_ineg, I_ladd, I_lsub, I_lmul, I_lxor, I_i2l, I_l2i, I_i2b, I_i2c, I_i2f, I_i2d, I_lcmp, I_fdiv, I_ddiv, I_f2d, I_dcmp, I_dup, I_pop, I_dup_x1, I_dup2, I_icne, I_iceq, I_iclt, I_icge, I_icgt, I_icle, I_ifnull, I_ifnonnull, I_ane, I_aeq, I_goto, I_lsw, I_iret, I_lret, I_fret, I_dret, I_vret, I_nret, I_aret, I_iald, I_bald, I_lald, I_aald, I_iast, I_bast, I_last, I_aast, I_alen, I_new, I_val, I_cast, I_inst, I_obj, I_throw, I_mkx, I_getf, I_putf, I_call, I_calli, I_callv, I_clone, I_getc, i_ifeq, i_ifne, i_iflt, i_ifge, i_ifgt, i_ifle, i_idiv, i_irem, i_newa, i_newo, i_abs, i_max, i_min, i_ldiv, en_, es_i, es_r, es_0, es_n, es_l, List.length_cons, List.length_nil, List.cons_append, List.nil_append, Nat.reduceAdd, Nat.reduceSub, List.replicate, lg_, st1_, st2_, cn_, nl_, mk_, pk_, kd_, sl_, la_, ft_a, ft_i, ft_l, ft_o, ft_n, ft_b0, ft_b1, ft_bI, nr_0, nr_1, nr_bI, ro_, no_, if_true, if_false, ite_true, ite_false, reduceIte, Nat.reduceMod, Nat.reduceEqDiff, Nat.zero_add, Nat.add_zero, lk_, lit_, nI_add, nI_mul, ix_nI, fgk_0, fgk_1, fgk_2, fgk_3, fgk_4, fgk_5, fgk_6, fgk_7, fgk_8, fgk_9, fgk_10, fgk_11, fgk_12, fgk_13, fsk_0, fsk_1, fsk_2, fsk_3, fsk_4, fsk_5, fsk_6, fsk_7, fsk_8, fsk_9, fsk_10, fsk_11, fsk_12, fsk_13, ca_i, ca_r, ca_n, Nat.reduceLT, true_or, or_true, if_true, false_or, or_false, and_true, true_and, List.mem_singleton, eq_self, m1, c']
  · have c' : hgt_ r k = NOH := by rw [hn]; exact c
    rw [c'] at m1
    rw [bI_f c]
    simp (disch := omega) only [l250, b250_0, K250_0, b250_1, K250_1, b250_2, K250_2, R_cons, go_nx, go_jp, go_rt, go_th, go_ca, go_no, go_ite, rr_v, rr_n, rr_x, hx_n, hx_p, hx_b, I_push, I_pushl, I_fc0, I_fc1, I_dc0, I_null, I_mask, I_iload, I_lload, I_dload, I_fload, I_aload, I_istore, I_lstore, I_dstore, I_fstore, I_astore, I_iinc, I_iadd, I_isub, I_imul, I_iand, I_ior, I_ixor, I_ishl, I_ishr, I_iushr, I_ineg, I_ladd, I_lsub, I_lmul, I_lxor, I_i2l, I_l2i, I_i2b, I_i2c, I_i2f, I_i2d, I_lcmp, I_fdiv, I_ddiv, I_f2d, I_dcmp, I_dup, I_pop, I_dup_x1, I_dup2, I_icne, I_iceq, I_iclt, I_icge, I_icgt, I_icle, I_ifnull, I_ifnonnull, I_ane, I_aeq, I_goto, I_lsw, I_iret, I_lret, I_fret, I_dret, I_vret, I_nret, I_aret, I_iald, I_bald, I_lald, I_aald, I_iast, I_bast, I_last, I_aast, I_alen, I_new, I_val, I_cast, I_inst, I_obj, I_throw, I_mkx, I_getf, I_putf, I_call, I_calli, I_callv, I_clone, I_getc, i_ifeq, i_ifne, i_iflt, i_ifge, i_ifgt, i_ifle, i_idiv, i_irem, i_newa, i_newo, i_abs, i_max, i_min, i_ldiv, en_, es_i, es_r, es_0, es_n, es_l, List.length_cons, List.length_nil, List.cons_append, List.nil_append, Nat.reduceAdd, Nat.reduceSub, List.replicate, lg_, st1_, st2_, cn_, nl_, mk_, pk_, kd_, sl_, la_, ft_a, ft_i, ft_l, ft_o, ft_n, ft_b0, ft_b1, ft_bI, nr_0, nr_1, nr_bI, ro_, no_, if_true, if_false, ite_true, ite_false, reduceIte, Nat.reduceMod, Nat.reduceEqDiff, Nat.zero_add, Nat.add_zero, lk_, lit_, nI_add, nI_mul, ix_nI, fgk_0, fgk_1, fgk_2, fgk_3, fgk_4, fgk_5, fgk_6, fgk_7, fgk_8, fgk_9, fgk_10, fgk_11, fgk_12, fgk_13, fsk_0, fsk_1, fsk_2, fsk_3, fsk_4, fsk_5, fsk_6, fsk_7, fsk_8, fsk_9, fsk_10, fsk_11, fsk_12, fsk_13, ca_i, ca_r, ca_n, Nat.reduceLT, true_or, or_true, if_true, false_or, or_false, and_true, true_and, List.mem_singleton, eq_self, m1]
/-- the state while an iterator is the one new cell -/
abbrev its_ (σ : As_) (k lr mc : Int32) (a : Nat) : As_ := (σ.1 + 1, σ.2.1 + 4, up_ σ.2.2 σ.1 (.inr (12, [.int k, .int lr, .int mc, .ref a])))
theorem its_le {k lr mc : Int32} {a : Nat} (hw : Hw_ σ) : le_ σ.2.2 (its_ σ k lr mc a).2.2 := le_up (hw _ (Nat.le_refl _)) le_rfl
theorem ben_it {am em as es st : Nat} {mc mc' : Int32} (hA : WlA_ E σ.2.2 w r am em as es st mc mc' ms ss) (hm : ms.length = n) (hW : Wr_ r n s) (hw : Hw_ σ) : ∀ (d k : Nat) (x lr : Int32) (u v : Option Value), k + d = n →
    ∃ c, R_ E 273 (B_ E 273 1) [u, some (.int x), some (.ref σ.1), v] [] (its_ σ (nI k) lr mc am) = some (.inl (some (.int (sum_ (fun k => r (8 + 5 * k + 2)) d k x))), (σ.1 + 1, σ.2.1 + 4, up_ σ.2.2 σ.1 c)) := by
  have h12 := wr_n12 hW
  intro d
  induction d with
  | zero =>
    intro k x lr u v hk
    have hL := Ls_mono (its_le (k := nI k) (lr := lr) (mc := mc) (a := am) hw) hA.2.1
    have hN := J_hasNext (E := E) (it := σ.1) (k := k) (lr := lr) (m := mc) hL (up_s _ _ _) (by omega)
    rw [bI_f (by omega)] at hN
    refine ⟨.inr (12, [.int (nI k), .int lr, .int mc, .ref am]), ?_⟩
    rw [b273_1]
    simp (disch := omega) only [K273_1, b273_2, K273_2, R_cons, go_nx, go_jp, go_rt, go_th, go_ca, go_no, go_ite, rr_v, rr_n, rr_x, hx_n, hx_p, hx_b, I_push, I_pushl, I_fc0, I_fc1, I_dc0, I_null, I_mask, I_iload, I_lload, I_dload, I_fload, I_aload, I_istore, I_lstore, I_dstore, I_fstore, I_astore, I_iinc, I_iadd, I_isub, I_imul, I_iand, I_ior, I_ixor, I_ishl, I_ishr, I_iushr, I_ineg, I_ladd, I_lsub, I_lmul, I_lxor, I_i2l, I_l2i, I_i2b, I_i2c, I_i2f, I_i2d, I_lcmp, I_fdiv, I_ddiv, I_f2d, I_dcmp, I_dup, I_pop, I_dup_x1, I_dup2, I_icne, I_iceq, I_iclt, I_icge, I_icgt, I_icle, I_ifnull, I_ifnonnull, I_ane, I_aeq, I_goto, I_lsw, I_iret, I_lret, I_fret, I_dret, I_vret, I_nret, I_aret, I_iald, I_bald, I_lald, I_aald, I_iast, I_bast, I_last, I_aast, I_alen, I_new, I_val, I_cast, I_inst, I_obj, I_throw, I_mkx, I_getf, I_putf, I_call, I_calli, I_callv, I_clone, I_getc, i_ifeq, i_ifne, i_iflt, i_ifge, i_ifgt, i_ifle, i_idiv, i_irem, i_newa, i_newo, i_abs, i_max, i_min, i_ldiv, en_, es_i, es_r, es_0, es_n, es_l, List.length_cons, List.length_nil, List.cons_append, List.nil_append, Nat.reduceAdd, Nat.reduceSub, List.replicate, lg_, st1_, st2_, cn_, nl_, mk_, pk_, kd_, sl_, la_, ft_a, ft_i, ft_l, ft_o, ft_n, ft_b0, ft_b1, ft_bI, nr_0, nr_1, nr_bI, ro_, no_, if_true, if_false, ite_true, ite_false, reduceIte, Nat.reduceMod, Nat.reduceEqDiff, Nat.zero_add, Nat.add_zero, lk_, lit_, nI_add, nI_mul, ix_nI, fgk_0, fgk_1, fgk_2, fgk_3, fgk_4, fgk_5, fgk_6, fgk_7, fgk_8, fgk_9, fgk_10, fgk_11, fgk_12, fgk_13, fsk_0, fsk_1, fsk_2, fsk_3, fsk_4, fsk_5, fsk_6, fsk_7, fsk_8, fsk_9, fsk_10, fsk_11, fsk_12, fsk_13, ca_i, ca_r, ca_n, Nat.reduceLT, true_or, or_true, if_true, false_or, or_false, and_true, true_and, List.mem_singleton, eq_self, up_s, hN]
    rfl
  | succ d ih =>
    intro k x lr u v hk
    have hL := Ls_mono (its_le (k := nI k) (lr := lr) (mc := mc) (a := am) hw) hA.2.1
    have hN := J_hasNext (E := E) (it := σ.1) (k := k) (lr := lr) (m := mc) hL (up_s _ _ _) (by omega)
    rw [bI_t (by omega)] at hN
    have hX := J_next (E := E) (it := σ.1) (k := k) (lr := lr) hL (up_s _ _ _) (by omega)
    dsimp only at hX
    rw [up_up] at hX
    have hkl : k < ms.length := by omega
    obtain ⟨nm, m1, _⟩ := MkC_mono (its_le (k := nI (k + 1)) (lr := nI k) (mc := mc) (a := am) hw) (hA.2.2.2.2.1 k _ (List.getElem?_eq_getElem hkl))
    dsimp only at m1
    have hb := S_bit (E := E) (σ := its_ σ (nI (k + 1)) (nI k) mc am) (wr_mb hW (show k < n by omega)).1
    obtain ⟨c, g⟩ := ih (k + 1) (x + r (8 + 5 * k + 2)) (nI k) none (some (.ref ms[k])) (by omega)
    refine ⟨c, ?_⟩
    have e : sum_ (fun k => r (8 + 5 * k + 2)) (d + 1) k x = sum_ (fun k => r (8 + 5 * k + 2)) d (k + 1) (x + r (8 + 5 * k + 2)) := rfl
    rw [e, ← g]
    conv => lhs; rw [b273_1]
    simp (disch := omega) only [K273_1, R_cons, go_nx, go_jp, go_rt, go_th, go_ca, go_no, go_ite, rr_v, rr_n, rr_x, hx_n, hx_p, hx_b, I_push, I_pushl, I_fc0, I_fc1, I_dc0, I_null, I_mask, I_iload, I_lload, I_dload, I_fload, I_aload, I_istore, I_lstore, I_dstore, I_fstore, I_astore, I_iinc, I_iadd, I_isub, I_imul, I_iand, I_ior, I_ixor, I_ishl, I_ishr, I_iushr, I_ineg, I_ladd, I_lsub, I_lmul, I_lxor, I_i2l, I_l2i, I_i2b, I_i2c, I_i2f, I_i2d, I_lcmp, I_fdiv, I_ddiv, I_f2d, I_dcmp, I_dup, I_pop, I_dup_x1, I_dup2, I_icne, I_iceq, I_iclt, I_icge, I_icgt, I_icle, I_ifnull, I_ifnonnull, I_ane, I_aeq, I_goto, I_lsw, I_iret, I_lret, I_fret, I_dret, I_vret, I_nret, I_aret, I_iald, I_bald, I_lald, I_aald, I_iast, I_bast, I_last, I_aast, I_alen, I_new, I_val, I_cast, I_inst, I_obj, I_throw, I_mkx, I_getf, I_putf, I_call, I_calli, I_callv, I_clone, I_getc, i_ifeq, i_ifne, i_iflt, i_ifge, i_ifgt, i_ifle, i_idiv, i_irem, i_newa, i_newo, i_abs, i_max, i_min, i_ldiv, en_, es_i, es_r, es_0, es_n, es_l, List.length_cons, List.length_nil, List.cons_append, List.nil_append, Nat.reduceAdd, Nat.reduceSub, List.replicate, lg_, st1_, st2_, cn_, nl_, mk_, pk_, kd_, sl_, la_, ft_a, ft_i, ft_l, ft_o, ft_n, ft_b0, ft_b1, ft_bI, nr_0, nr_1, nr_bI, ro_, no_, if_true, if_false, ite_true, ite_false, reduceIte, Nat.reduceMod, Nat.reduceEqDiff, Nat.zero_add, Nat.add_zero, lk_, lit_, nI_add, nI_mul, ix_nI, fgk_0, fgk_1, fgk_2, fgk_3, fgk_4, fgk_5, fgk_6, fgk_7, fgk_8, fgk_9, fgk_10, fgk_11, fgk_12, fgk_13, fsk_0, fsk_1, fsk_2, fsk_3, fsk_4, fsk_5, fsk_6, fsk_7, fsk_8, fsk_9, fsk_10, fsk_11, fsk_12, fsk_13, ca_i, ca_r, ca_n, Nat.reduceLT, true_or, or_true, if_true, false_or, or_false, and_true, true_and, List.mem_singleton, eq_self, up_s, hN, n10_, hX, m1, hb]
theorem W_benches (hwl : Wl_ E σ.2.2 w r ms ss) (hm : ms.length = n) (hW : Wr_ r n s) (hw : Hw_ σ) : ∃ σ', D_ E 273 [.ref w] σ = some (.inl (some (.int (sum_ (fun k => r (8 + 5 * k + 2)) n 0 (nI 0)))), σ') ∧ Fr_ 8 σ σ' := by
  obtain ⟨am, em, as, es, st, mc, mc', hA⟩ := hwl
  obtain ⟨c, g⟩ := ben_it (E := E) hA hm hW hw n 0 (nI 0) (-nI 1) (some (.ref w)) none (by omega)
  have hI := J_iter (E := E) hA.2.1 hw
  obtain ⟨cap, f, tt, l1, _⟩ := hA.2.1
  refine ⟨_, ?_, Fr_new (k := 4) (c := c) hw⟩
  rw [← g, D_run]
  simp (disch := omega) only [b273_0, K273_0, l273, R_cons, go_nx, go_jp, go_rt, go_th, go_ca, go_no, go_ite, rr_v, rr_n, rr_x, hx_n, hx_p, hx_b, I_push, I_pushl, I_fc0, I_fc1, I_dc0, I_null, I_mask, I_iload, I_lload, I_dload, I_fload, I_aload, I_istore, I_lstore, I_dstore, I_fstore, I_astore, I_iinc, I_iadd, I_isub, I_imul, I_iand, I_ior, I_ixor, I_ishl, I_ishr, I_iushr, I_ineg, I_ladd, I_lsub, I_lmul, I_lxor, I_i2l, I_l2i, I_i2b, I_i2c, I_i2f, I_i2d, I_lcmp, I_fdiv, I_ddiv, I_f2d, I_dcmp, I_dup, I_pop, I_dup_x1, I_dup2, I_icne, I_iceq, I_iclt, I_icge, I_icgt, I_icle, I_ifnull, I_ifnonnull, I_ane, I_aeq, I_goto, I_lsw, I_iret, I_lret, I_fret, I_dret, I_vret, I_nret, I_aret, I_iald, I_bald, I_lald, I_aald, I_iast, I_bast, I_last, I_aast, I_alen, I_new, I_val, I_cast, I_inst, I_obj, I_throw, I_mkx, I_getf, I_putf, I_call, I_calli, I_callv, I_clone, I_getc, i_ifeq, i_ifne, i_iflt, i_ifge, i_ifgt, i_ifle, i_idiv, i_irem, i_newa, i_newo, i_abs, i_max, i_min, i_ldiv, en_, es_i, es_r, es_0, es_n, es_l, List.length_cons, List.length_nil, List.cons_append, List.nil_append, Nat.reduceAdd, Nat.reduceSub, List.replicate, lg_, st1_, st2_, cn_, nl_, mk_, pk_, kd_, sl_, la_, ft_a, ft_i, ft_l, ft_o, ft_n, ft_b0, ft_b1, ft_bI, nr_0, nr_1, nr_bI, ro_, no_, if_true, if_false, ite_true, ite_false, reduceIte, Nat.reduceMod, Nat.reduceEqDiff, Nat.zero_add, Nat.add_zero, lk_, lit_, nI_add, nI_mul, ix_nI, fgk_0, fgk_1, fgk_2, fgk_3, fgk_4, fgk_5, fgk_6, fgk_7, fgk_8, fgk_9, fgk_10, fgk_11, fgk_12, fgk_13, fsk_0, fsk_1, fsk_2, fsk_3, fsk_4, fsk_5, fsk_6, fsk_7, fsk_8, fsk_9, fsk_10, fsk_11, fsk_12, fsk_13, ca_i, ca_r, ca_n, Nat.reduceLT, true_or, or_true, if_true, false_or, or_false, and_true, true_and, List.mem_singleton, eq_self, hA.1, l1, hI]
theorem str_it {am em as es st : Nat} {mc mc' : Int32} (hA : WlA_ E σ.2.2 w r am em as es st mc mc' ms ss) (hss : ss.length = s) (hW : Wr_ r n s) (hw : Hw_ σ) : ∀ (d k : Nat) (x lr : Int32) (u v : Option Value), k + d = s →
    ∃ c, R_ E 274 (B_ E 274 1) [u, some (.int x), some (.ref σ.1), v] [] (its_ σ (nI k) lr mc' as) = some (.inl (some (.int (sum_ (fun k => r (68 + 6 * k + 5)) d k x))), (σ.1 + 1, σ.2.1 + 4, up_ σ.2.2 σ.1 c)) := by
  have h40 := wr_s40 hW
  intro d
  induction d with
  | zero =>
    intro k x lr u v hk
    have hL := Ls_mono (its_le (k := nI k) (lr := lr) (mc := mc') (a := as) hw) hA.2.2.1
    have hN := J_hasNext (E := E) (it := σ.1) (k := k) (lr := lr) (m := mc') hL (up_s _ _ _) (by omega)
    rw [bI_f (by omega)] at hN
    refine ⟨.inr (12, [.int (nI k), .int lr, .int mc', .ref as]), ?_⟩
    rw [b274_1]
    simp (disch := omega) only [K274_1, b274_2, K274_2, R_cons, go_nx, go_jp, go_rt, go_th, go_ca, go_no, go_ite, rr_v, rr_n, rr_x, hx_n, hx_p, hx_b, I_push, I_pushl, I_fc0, I_fc1, I_dc0, I_null, I_mask, I_iload, I_lload, I_dload, I_fload, I_aload, I_istore, I_lstore, I_dstore, I_fstore, I_astore, I_iinc, I_iadd, I_isub, I_imul, I_iand, I_ior, I_ixor, I_ishl, I_ishr, I_iushr, I_ineg, I_ladd, I_lsub, I_lmul, I_lxor, I_i2l, I_l2i, I_i2b, I_i2c, I_i2f, I_i2d, I_lcmp, I_fdiv, I_ddiv, I_f2d, I_dcmp, I_dup, I_pop, I_dup_x1, I_dup2, I_icne, I_iceq, I_iclt, I_icge, I_icgt, I_icle, I_ifnull, I_ifnonnull, I_ane, I_aeq, I_goto, I_lsw, I_iret, I_lret, I_fret, I_dret, I_vret, I_nret, I_aret, I_iald, I_bald, I_lald, I_aald, I_iast, I_bast, I_last, I_aast, I_alen, I_new, I_val, I_cast, I_inst, I_obj, I_throw, I_mkx, I_getf, I_putf, I_call, I_calli, I_callv, I_clone, I_getc, i_ifeq, i_ifne, i_iflt, i_ifge, i_ifgt, i_ifle, i_idiv, i_irem, i_newa, i_newo, i_abs, i_max, i_min, i_ldiv, en_, es_i, es_r, es_0, es_n, es_l, List.length_cons, List.length_nil, List.cons_append, List.nil_append, Nat.reduceAdd, Nat.reduceSub, List.replicate, lg_, st1_, st2_, cn_, nl_, mk_, pk_, kd_, sl_, la_, ft_a, ft_i, ft_l, ft_o, ft_n, ft_b0, ft_b1, ft_bI, nr_0, nr_1, nr_bI, ro_, no_, if_true, if_false, ite_true, ite_false, reduceIte, Nat.reduceMod, Nat.reduceEqDiff, Nat.zero_add, Nat.add_zero, lk_, lit_, nI_add, nI_mul, ix_nI, fgk_0, fgk_1, fgk_2, fgk_3, fgk_4, fgk_5, fgk_6, fgk_7, fgk_8, fgk_9, fgk_10, fgk_11, fgk_12, fgk_13, fsk_0, fsk_1, fsk_2, fsk_3, fsk_4, fsk_5, fsk_6, fsk_7, fsk_8, fsk_9, fsk_10, fsk_11, fsk_12, fsk_13, ca_i, ca_r, ca_n, Nat.reduceLT, true_or, or_true, if_true, false_or, or_false, and_true, true_and, List.mem_singleton, eq_self, up_s, hN]
    rfl
  | succ d ih =>
    intro k x lr u v hk
    have hL := Ls_mono (its_le (k := nI k) (lr := lr) (mc := mc') (a := as) hw) hA.2.2.1
    have hN := J_hasNext (E := E) (it := σ.1) (k := k) (lr := lr) (m := mc') hL (up_s _ _ _) (by omega)
    rw [bI_t (by omega)] at hN
    have hX := J_next (E := E) (it := σ.1) (k := k) (lr := lr) hL (up_s _ _ _) (by omega)
    dsimp only at hX
    rw [up_up] at hX
    have hkl : k < ss.length := by omega
    have m1 := its_le (k := nI (k + 1)) (lr := nI k) (mc := mc') (a := as) hw _ _ (hA.2.2.2.2.2.1 k _ (List.getElem?_eq_getElem hkl))
    unfold SgC_ at m1
    dsimp only at m1
    have hb := S_bit (E := E) (σ := its_ σ (nI (k + 1)) (nI k) mc' as) (wr_sb hW (show k < s by omega)).2.2.2
    obtain ⟨c, g⟩ := ih (k + 1) (x + r (68 + 6 * k + 5)) (nI k) none (some (.ref ss[k])) (by omega)
    refine ⟨c, ?_⟩
    have e : sum_ (fun k => r (68 + 6 * k + 5)) (d + 1) k x = sum_ (fun k => r (68 + 6 * k + 5)) d (k + 1) (x + r (68 + 6 * k + 5)) := rfl
    rw [e, ← g]
    conv => lhs; rw [b274_1]
    simp (disch := omega) only [K274_1, R_cons, go_nx, go_jp, go_rt, go_th, go_ca, go_no, go_ite, rr_v, rr_n, rr_x, hx_n, hx_p, hx_b, I_push, I_pushl, I_fc0, I_fc1, I_dc0, I_null, I_mask, I_iload, I_lload, I_dload, I_fload, I_aload, I_istore, I_lstore, I_dstore, I_fstore, I_astore, I_iinc, I_iadd, I_isub, I_imul, I_iand, I_ior, I_ixor, I_ishl, I_ishr, I_iushr, I_ineg, I_ladd, I_lsub, I_lmul, I_lxor, I_i2l, I_l2i, I_i2b, I_i2c, I_i2f, I_i2d, I_lcmp, I_fdiv, I_ddiv, I_f2d, I_dcmp, I_dup, I_pop, I_dup_x1, I_dup2, I_icne, I_iceq, I_iclt, I_icge, I_icgt, I_icle, I_ifnull, I_ifnonnull, I_ane, I_aeq, I_goto, I_lsw, I_iret, I_lret, I_fret, I_dret, I_vret, I_nret, I_aret, I_iald, I_bald, I_lald, I_aald, I_iast, I_bast, I_last, I_aast, I_alen, I_new, I_val, I_cast, I_inst, I_obj, I_throw, I_mkx, I_getf, I_putf, I_call, I_calli, I_callv, I_clone, I_getc, i_ifeq, i_ifne, i_iflt, i_ifge, i_ifgt, i_ifle, i_idiv, i_irem, i_newa, i_newo, i_abs, i_max, i_min, i_ldiv, en_, es_i, es_r, es_0, es_n, es_l, List.length_cons, List.length_nil, List.cons_append, List.nil_append, Nat.reduceAdd, Nat.reduceSub, List.replicate, lg_, st1_, st2_, cn_, nl_, mk_, pk_, kd_, sl_, la_, ft_a, ft_i, ft_l, ft_o, ft_n, ft_b0, ft_b1, ft_bI, nr_0, nr_1, nr_bI, ro_, no_, if_true, if_false, ite_true, ite_false, reduceIte, Nat.reduceMod, Nat.reduceEqDiff, Nat.zero_add, Nat.add_zero, lk_, lit_, nI_add, nI_mul, ix_nI, fgk_0, fgk_1, fgk_2, fgk_3, fgk_4, fgk_5, fgk_6, fgk_7, fgk_8, fgk_9, fgk_10, fgk_11, fgk_12, fgk_13, fsk_0, fsk_1, fsk_2, fsk_3, fsk_4, fsk_5, fsk_6, fsk_7, fsk_8, fsk_9, fsk_10, fsk_11, fsk_12, fsk_13, ca_i, ca_r, ca_n, Nat.reduceLT, true_or, or_true, if_true, false_or, or_false, and_true, true_and, List.mem_singleton, eq_self, up_s, hN, n10_, hX, m1, hb]
theorem W_struck (hwl : Wl_ E σ.2.2 w r ms ss) (hss : ss.length = s) (hW : Wr_ r n s) (hw : Hw_ σ) : ∃ σ', D_ E 274 [.ref w] σ = some (.inl (some (.int (sum_ (fun k => r (68 + 6 * k + 5)) s 0 (nI 0)))), σ') ∧ Fr_ 8 σ σ' := by
  obtain ⟨am, em, as, es, st, mc, mc', hA⟩ := hwl
  obtain ⟨c, g⟩ := str_it (E := E) hA hss hW hw s 0 (nI 0) (-nI 1) (some (.ref w)) none (by omega)
  have hI := J_iter (E := E) hA.2.2.1 hw
  obtain ⟨cap, f, tt, l1, _⟩ := hA.2.2.1
  refine ⟨_, ?_, Fr_new (k := 4) (c := c) hw⟩
  rw [← g, D_run]
  simp (disch := omega) only [b274_0, K274_0, l274, R_cons, go_nx, go_jp, go_rt, go_th, go_ca, go_no, go_ite, rr_v, rr_n, rr_x, hx_n, hx_p, hx_b, I_push, I_pushl, I_fc0, I_fc1, I_dc0, I_null, I_mask, I_iload, I_lload, I_dload, I_fload, I_aload, I_istore, I_lstore, I_dstore, I_fstore, I_astore, I_iinc, I_iadd, I_isub, I_imul, I_iand, I_ior, I_ixor, I_ishl, I_ishr, I_iushr, I_ineg, I_ladd, I_lsub, I_lmul, I_lxor, I_i2l, I_l2i, I_i2b, I_i2c, I_i2f, I_i2d, I_lcmp, I_fdiv, I_ddiv, I_f2d, I_dcmp, I_dup, I_pop, I_dup_x1, I_dup2, I_icne, I_iceq, I_iclt, I_icge, I_icgt, I_icle, I_ifnull, I_ifnonnull, I_ane, I_aeq, I_goto, I_lsw, I_iret, I_lret, I_fret, I_dret, I_vret, I_nret, I_aret, I_iald, I_bald, I_lald, I_aald, I_iast, I_bast, I_last, I_aast, I_alen, I_new, I_val, I_cast, I_inst, I_obj, I_throw, I_mkx, I_getf, I_putf, I_call, I_calli, I_callv, I_clone, I_getc, i_ifeq, i_ifne, i_iflt, i_ifge, i_ifgt, i_ifle, i_idiv, i_irem, i_newa, i_newo, i_abs, i_max, i_min, i_ldiv, en_, es_i, es_r, es_0, es_n, es_l, List.length_cons, List.length_nil, List.cons_append, List.nil_append, Nat.reduceAdd, Nat.reduceSub, List.replicate, lg_, st1_, st2_, cn_, nl_, mk_, pk_, kd_, sl_, la_, ft_a, ft_i, ft_l, ft_o, ft_n, ft_b0, ft_b1, ft_bI, nr_0, nr_1, nr_bI, ro_, no_, if_true, if_false, ite_true, ite_false, reduceIte, Nat.reduceMod, Nat.reduceEqDiff, Nat.zero_add, Nat.add_zero, lk_, lit_, nI_add, nI_mul, ix_nI, fgk_0, fgk_1, fgk_2, fgk_3, fgk_4, fgk_5, fgk_6, fgk_7, fgk_8, fgk_9, fgk_10, fgk_11, fgk_12, fgk_13, fsk_0, fsk_1, fsk_2, fsk_3, fsk_4, fsk_5, fsk_6, fsk_7, fsk_8, fsk_9, fsk_10, fsk_11, fsk_12, fsk_13, ca_i, ca_r, ca_n, Nat.reduceLT, true_or, or_true, if_true, false_or, or_false, and_true, true_and, List.mem_singleton, eq_self, hA.1, l1, hI]
theorem hts_it {am em as es st : Nat} {mc mc' : Int32} (hA : WlA_ E σ.2.2 w r am em as es st mc mc' ms ss) (hm : ms.length = n) (hW : Wr_ r n s) (hH : Hok_ r n) (hw : Hw_ σ) : ∀ (d k x : Nat) (lr : Int32) (u v : Option Value), k + d = n →
    ∃ c, R_ E 286 (B_ E 286 1) [u, some (.int (nI x)), some (.ref σ.1), v] [] (its_ σ (nI k) lr mc am) = some (.inl (some (.int (nI (cnt_ (fun k => decide (r (8 + 5 * k + 3) = nI 1)) d k x)))), (σ.1 + 1, σ.2.1 + 4, up_ σ.2.2 σ.1 c)) := by
  have h12 := wr_n12 hW
  intro d
  induction d with
  | zero =>
    intro k x lr u v hk
    have hL := Ls_mono (its_le (k := nI k) (lr := lr) (mc := mc) (a := am) hw) hA.2.1
    have hN := J_hasNext (E := E) (it := σ.1) (k := k) (lr := lr) (m := mc) hL (up_s _ _ _) (by omega)
    rw [bI_f (by omega)] at hN
    refine ⟨.inr (12, [.int (nI k), .int lr, .int mc, .ref am]), ?_⟩
    rw [b286_1]
    simp (disch := omega) only [K286_1, b286_2, K286_2, R_cons, go_nx, go_jp, go_rt, go_th, go_ca, go_no, go_ite, rr_v, rr_n, rr_x, hx_n, hx_p, hx_b, I_push, I_pushl, I_fc0, I_fc1, I_dc0, I_null, I_mask, I_iload, I_lload, I_dload, I_fload, I_aload, I_istore, I_lstore, I_dstore, I_fstore, I_astore, I_iinc, I_iadd, I_isub, I_imul, I_iand, I_ior, I_ixor, I_ishl, I_ishr, I_iushr, I_ineg, I_ladd, I_lsub, I_lmul, I_lxor, I_i2l, I_l2i, I_i2b, I_i2c, I_i2f, I_i2d, I_lcmp, I_fdiv, I_ddiv, I_f2d, I_dcmp, I_dup, I_pop, I_dup_x1, I_dup2, I_icne, I_iceq, I_iclt, I_icge, I_icgt, I_icle, I_ifnull, I_ifnonnull, I_ane, I_aeq, I_goto, I_lsw, I_iret, I_lret, I_fret, I_dret, I_vret, I_nret, I_aret, I_iald, I_bald, I_lald, I_aald, I_iast, I_bast, I_last, I_aast, I_alen, I_new, I_val, I_cast, I_inst, I_obj, I_throw, I_mkx, I_getf, I_putf, I_call, I_calli, I_callv, I_clone, I_getc, i_ifeq, i_ifne, i_iflt, i_ifge, i_ifgt, i_ifle, i_idiv, i_irem, i_newa, i_newo, i_abs, i_max, i_min, i_ldiv, en_, es_i, es_r, es_0, es_n, es_l, List.length_cons, List.length_nil, List.cons_append, List.nil_append, Nat.reduceAdd, Nat.reduceSub, List.replicate, lg_, st1_, st2_, cn_, nl_, mk_, pk_, kd_, sl_, la_, ft_a, ft_i, ft_l, ft_o, ft_n, ft_b0, ft_b1, ft_bI, nr_0, nr_1, nr_bI, ro_, no_, if_true, if_false, ite_true, ite_false, reduceIte, Nat.reduceMod, Nat.reduceEqDiff, Nat.zero_add, Nat.add_zero, lk_, lit_, nI_add, nI_mul, ix_nI, fgk_0, fgk_1, fgk_2, fgk_3, fgk_4, fgk_5, fgk_6, fgk_7, fgk_8, fgk_9, fgk_10, fgk_11, fgk_12, fgk_13, fsk_0, fsk_1, fsk_2, fsk_3, fsk_4, fsk_5, fsk_6, fsk_7, fsk_8, fsk_9, fsk_10, fsk_11, fsk_12, fsk_13, ca_i, ca_r, ca_n, Nat.reduceLT, true_or, or_true, if_true, false_or, or_false, and_true, true_and, List.mem_singleton, eq_self, up_s, hN, cnt_]
  | succ d ih =>
    intro k x lr u v hk
    have hL := Ls_mono (its_le (k := nI k) (lr := lr) (mc := mc) (a := am) hw) hA.2.1
    have hN := J_hasNext (E := E) (it := σ.1) (k := k) (lr := lr) (m := mc) hL (up_s _ _ _) (by omega)
    rw [bI_t (by omega)] at hN
    have hX := J_next (E := E) (it := σ.1) (k := k) (lr := lr) hL (up_s _ _ _) (by omega)
    dsimp only at hX
    rw [up_up] at hX
    have hkl : k < ms.length := by omega
    have hMk := MkC_mono (its_le (k := nI (k + 1)) (lr := nI k) (mc := mc) (a := am) hw) (hA.2.2.2.2.1 k _ (List.getElem?_eq_getElem hkl))
    have hHas := K_hasM (E := E) (σ := its_ σ (nI (k + 1)) (nI k) mc am) hH hW (show k < n by omega) hMk
    obtain ⟨nm, m1, _⟩ := hMk
    dsimp only at m1
    rw [cnt_]
    by_cases c1 : r (8 + 5 * k + 3) = nI 1
    · rw [bI_t c1] at hHas
      have hb := S_bit (E := E) (σ := its_ σ (nI (k + 1)) (nI k) mc am) (x := nI 1) (Or.inr rfl)
      obtain ⟨c, g⟩ := ih (k + 1) (x + 1) (nI k) none (some (.ref ms[k])) (by omega)
      rw [if_pos (decide_eq_true c1)]
      refine ⟨c, ?_⟩
      rw [← g]
      conv => lhs; rw [b286_1]
      simp (disch := omega) only [K286_1, R_cons, go_nx, go_jp, go_rt, go_th, go_ca, go_no, go_ite, rr_v, rr_n, rr_x, hx_n, hx_p, hx_b, I_push, I_pushl, I_fc0, I_fc1, I_dc0, I_null, I_mask, I_iload, I_lload, I_dload, I_fload, I_aload, I_istore, I_lstore, I_dstore, I_fstore, I_astore, I_iinc, I_iadd, I_isub, I_imul, I_iand, I_ior, I_ixor, I_ishl, I_ishr, I_iushr, I_ineg, I_ladd, I_lsub, I_lmul, I_lxor, I_i2l, I_l2i, I_i2b, I_i2c, I_i2f, I_i2d, I_lcmp, I_fdiv, I_ddiv, I_f2d, I_dcmp, I_dup, I_pop, I_dup_x1, I_dup2, I_icne, I_iceq, I_iclt, I_icge, I_icgt, I_icle, I_ifnull, I_ifnonnull, I_ane, I_aeq, I_goto, I_lsw, I_iret, I_lret, I_fret, I_dret, I_vret, I_nret, I_aret, I_iald, I_bald, I_lald, I_aald, I_iast, I_bast, I_last, I_aast, I_alen, I_new, I_val, I_cast, I_inst, I_obj, I_throw, I_mkx, I_getf, I_putf, I_call, I_calli, I_callv, I_clone, I_getc, i_ifeq, i_ifne, i_iflt, i_ifge, i_ifgt, i_ifle, i_idiv, i_irem, i_newa, i_newo, i_abs, i_max, i_min, i_ldiv, en_, es_i, es_r, es_0, es_n, es_l, List.length_cons, List.length_nil, List.cons_append, List.nil_append, Nat.reduceAdd, Nat.reduceSub, List.replicate, lg_, st1_, st2_, cn_, nl_, mk_, pk_, kd_, sl_, la_, ft_a, ft_i, ft_l, ft_o, ft_n, ft_b0, ft_b1, ft_bI, nr_0, nr_1, nr_bI, ro_, no_, if_true, if_false, ite_true, ite_false, reduceIte, Nat.reduceMod, Nat.reduceEqDiff, Nat.zero_add, Nat.add_zero, lk_, lit_, nI_add, nI_mul, ix_nI, fgk_0, fgk_1, fgk_2, fgk_3, fgk_4, fgk_5, fgk_6, fgk_7, fgk_8, fgk_9, fgk_10, fgk_11, fgk_12, fgk_13, fsk_0, fsk_1, fsk_2, fsk_3, fsk_4, fsk_5, fsk_6, fsk_7, fsk_8, fsk_9, fsk_10, fsk_11, fsk_12, fsk_13, ca_i, ca_r, ca_n, Nat.reduceLT, true_or, or_true, if_true, false_or, or_false, and_true, true_and, List.mem_singleton, eq_self, up_s, hN, n10_, hX, m1, hHas, hb]
    · rw [bI_f c1] at hHas
      have hb := S_bit (E := E) (σ := its_ σ (nI (k + 1)) (nI k) mc am) (x := nI 0) (Or.inl rfl)
      obtain ⟨c, g⟩ := ih (k + 1) x (nI k) none (some (.ref ms[k])) (by omega)
      rw [if_neg (by rw [decide_eq_true_eq]; exact c1)]
      refine ⟨c, ?_⟩
      rw [← g]
      conv => lhs; rw [b286_1]
      simp (disch := omega) only [K286_1, R_cons, go_nx, go_jp, go_rt, go_th, go_ca, go_no, go_ite, rr_v, rr_n, rr_x, hx_n, hx_p, hx_b, I_push, I_pushl, I_fc0, I_fc1, I_dc0, I_null, I_mask, I_iload, I_lload, I_dload, I_fload, I_aload, I_istore, I_lstore, I_dstore, I_fstore, I_astore, I_iinc, I_iadd, I_isub, I_imul, I_iand, I_ior, I_ixor, I_ishl, I_ishr, I_iushr, I_ineg, I_ladd, I_lsub, I_lmul, I_lxor, I_i2l, I_l2i, I_i2b, I_i2c, I_i2f, I_i2d, I_lcmp, I_fdiv, I_ddiv, I_f2d, I_dcmp, I_dup, I_pop, I_dup_x1, I_dup2, I_icne, I_iceq, I_iclt, I_icge, I_icgt, I_icle, I_ifnull, I_ifnonnull, I_ane, I_aeq, I_goto, I_lsw, I_iret, I_lret, I_fret, I_dret, I_vret, I_nret, I_aret, I_iald, I_bald, I_lald, I_aald, I_iast, I_bast, I_last, I_aast, I_alen, I_new, I_val, I_cast, I_inst, I_obj, I_throw, I_mkx, I_getf, I_putf, I_call, I_calli, I_callv, I_clone, I_getc, i_ifeq, i_ifne, i_iflt, i_ifge, i_ifgt, i_ifle, i_idiv, i_irem, i_newa, i_newo, i_abs, i_max, i_min, i_ldiv, en_, es_i, es_r, es_0, es_n, es_l, List.length_cons, List.length_nil, List.cons_append, List.nil_append, Nat.reduceAdd, Nat.reduceSub, List.replicate, lg_, st1_, st2_, cn_, nl_, mk_, pk_, kd_, sl_, la_, ft_a, ft_i, ft_l, ft_o, ft_n, ft_b0, ft_b1, ft_bI, nr_0, nr_1, nr_bI, ro_, no_, if_true, if_false, ite_true, ite_false, reduceIte, Nat.reduceMod, Nat.reduceEqDiff, Nat.zero_add, Nat.add_zero, lk_, lit_, nI_add, nI_mul, ix_nI, fgk_0, fgk_1, fgk_2, fgk_3, fgk_4, fgk_5, fgk_6, fgk_7, fgk_8, fgk_9, fgk_10, fgk_11, fgk_12, fgk_13, fsk_0, fsk_1, fsk_2, fsk_3, fsk_4, fsk_5, fsk_6, fsk_7, fsk_8, fsk_9, fsk_10, fsk_11, fsk_12, fsk_13, ca_i, ca_r, ca_n, Nat.reduceLT, true_or, or_true, if_true, false_or, or_false, and_true, true_and, List.mem_singleton, eq_self, up_s, hN, n10_, hX, m1, hHas, hb]
theorem W_heights (hwl : Wl_ E σ.2.2 w r ms ss) (hm : ms.length = n) (hW : Wr_ r n s) (hH : Hok_ r n) (hw : Hw_ σ) : ∃ σ', D_ E 286 [.ref w] σ = some (.inl (some (.int (nI (cnt_ (fun k => decide (r (8 + 5 * k + 3) = nI 1)) n 0 0)))), σ') ∧ Fr_ 8 σ σ' := by
  obtain ⟨am, em, as, es, st, mc, mc', hA⟩ := hwl
  obtain ⟨c, g⟩ := hts_it (E := E) hA hm hW hH hw n 0 0 (-nI 1) (some (.ref w)) none (by omega)
  have hI := J_iter (E := E) hA.2.1 hw
  obtain ⟨cap, f, tt, l1, _⟩ := hA.2.1
  refine ⟨_, ?_, Fr_new (k := 4) (c := c) hw⟩
  rw [← g, D_run]
  simp (disch := omega) only [b286_0, K286_0, l286, R_cons, go_nx, go_jp, go_rt, go_th, go_ca, go_no, go_ite, rr_v, rr_n, rr_x, hx_n, hx_p, hx_b, I_push, I_pushl, I_fc0, I_fc1, I_dc0, I_null, I_mask, I_iload, I_lload, I_dload, I_fload, I_aload, I_istore, I_lstore, I_dstore, I_fstore, I_astore, I_iinc, I_iadd, I_isub, I_imul, I_iand, I_ior, I_ixor, I_ishl, I_ishr, I_iushr, I_ineg, I_ladd, I_lsub, I_lmul, I_lxor, I_i2l, I_l2i, I_i2b, I_i2c, I_i2f, I_i2d, I_lcmp, I_fdiv, I_ddiv, I_f2d, I_dcmp, I_dup, I_pop, I_dup_x1, I_dup2, I_icne, I_iceq, I_iclt, I_icge, I_icgt, I_icle, I_ifnull, I_ifnonnull, I_ane, I_aeq, I_goto, I_lsw, I_iret, I_lret, I_fret, I_dret, I_vret, I_nret, I_aret, I_iald, I_bald, I_lald, I_aald, I_iast, I_bast, I_last, I_aast, I_alen, I_new, I_val, I_cast, I_inst, I_obj, I_throw, I_mkx, I_getf, I_putf, I_call, I_calli, I_callv, I_clone, I_getc, i_ifeq, i_ifne, i_iflt, i_ifge, i_ifgt, i_ifle, i_idiv, i_irem, i_newa, i_newo, i_abs, i_max, i_min, i_ldiv, en_, es_i, es_r, es_0, es_n, es_l, List.length_cons, List.length_nil, List.cons_append, List.nil_append, Nat.reduceAdd, Nat.reduceSub, List.replicate, lg_, st1_, st2_, cn_, nl_, mk_, pk_, kd_, sl_, la_, ft_a, ft_i, ft_l, ft_o, ft_n, ft_b0, ft_b1, ft_bI, nr_0, nr_1, nr_bI, ro_, no_, if_true, if_false, ite_true, ite_false, reduceIte, Nat.reduceMod, Nat.reduceEqDiff, Nat.zero_add, Nat.add_zero, lk_, lit_, nI_add, nI_mul, ix_nI, fgk_0, fgk_1, fgk_2, fgk_3, fgk_4, fgk_5, fgk_6, fgk_7, fgk_8, fgk_9, fgk_10, fgk_11, fgk_12, fgk_13, fsk_0, fsk_1, fsk_2, fsk_3, fsk_4, fsk_5, fsk_6, fsk_7, fsk_8, fsk_9, fsk_10, fsk_11, fsk_12, fsk_13, ca_i, ca_r, ca_n, Nat.reduceLT, true_or, or_true, if_true, false_or, or_false, and_true, true_and, List.mem_singleton, eq_self, hA.1, l1, hI]
end CWE
