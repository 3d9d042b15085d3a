/-! the history: a LinkedList -/
def ov_ : Option Nat → Value
  | none => .null
  | some a => .ref a
def prv_ (ns : List Nat) (i : Nat) : Option Nat := if i = 0 then none else ns[i - 1]?
def Hi_ (h : Nat → Option Ac_) (hl : Nat) (ns ws : List Nat) : Prop := ∃ mc, h hl = some (.inr (13, [.int mc, .int (nI ns.length), ov_ ns.head?, ov_ ns.getLast?])) ∧ ns.length = ws.length ∧ ns.Nodup ∧
  (∀ (i x : Nat), ns[i]? = some x → ∃ w, ws[i]? = some w ∧ h x = some (.inr (14, [.ref w, ov_ ns[i + 1]?, ov_ (prv_ ns i)])))
section LNK
variable {E : En_} {σ : As_} {hl w : Nat} {ns ws : List Nat}
theorem Hi_ne {h : Nat → Option Ac_} (hH : Hi_ h hl ns ws) : hl ∉ ns := fun hm => by
  obtain ⟨mc, h1, h2, h3, h4⟩ := hH
  obtain ⟨i, hi, e⟩ := List.getElem_of_mem hm
  obtain ⟨v, _, v2⟩ := h4 i hl (by rw [List.getElem?_eq_getElem hi, e])
  rw [h1] at v2
  cases v2
theorem Hi_kp {h h' : Nat → Option Ac_} (hH : Hi_ h hl ns ws) (hk : ∀ y k fs, h y = some (.inr (k, fs)) → (k = 13 ∨ k = 14) → h' y = some (.inr (k, fs))) : Hi_ h' hl ns ws := by
  obtain ⟨mc, h1, h2, h3, h4⟩ := hH
  exact ⟨mc, hk _ _ _ h1 (Or.inl rfl), h2, h3, fun i x hx => by
    obtain ⟨v, v1, v2⟩ := h4 i x hx
    exact ⟨v, v1, hk _ _ _ v2 (Or.inr rfl)⟩⟩
theorem H_size (hH : Hi_ σ.2.2 hl ns ws) : D_ E 53 [.ref hl] σ = some (.inl (some (.int (nI ns.length))), σ) := by
  obtain ⟨mc, h1, _⟩ := hH
  rw [D_run]
  simp (disch := omega) only [l53, b53_0, K53_0, R_cons, go_nx, go_jp, go_rt, go_th, go_ca, go_no, go_ite, rr_v, rr_n, rr_x, hx_n, hx_p, hx_b, I_push, I_pushl, I_fc0, I_fc1, I_dc0, I_null, I_mask, I_iload, I_lload, I_dload, I_fload, I_aload, I_istore, I_lstore, I_dstore, I_fstore, I_astore, I_iinc, I_iadd, I_isub, I_imul, I_iand, I_ior, I_ixor, I_ishl, I_ishr, I_iushr, I_ineg, I_ladd, I_lsub, I_lmul, I_lxor, I_i2l, I_l2i, I_i2b, I_i2c, I_i2f, I_i2d, I_lcmp, I_fdiv, I_ddiv, I_f2d, I_dcmp, I_dup, I_pop, I_dup_x1, I_dup2, I_icne, I_iceq, I_iclt, I_icge, I_icgt, I_icle, I_ifnull, I_ifnonnull, I_ane, I_aeq, I_goto, I_lsw, I_iret, I_lret, I_fret, I_dret, I_vret, I_nret, I_aret, I_iald, I_bald, I_lald, I_aald, I_iast, I_bast, I_last, I_aast, I_alen, I_new, I_val, I_cast, I_inst, I_obj, I_throw, I_mkx, I_getf, I_putf, I_call, I_calli, I_callv, I_clone, I_getc, i_ifeq, i_ifne, i_iflt, i_ifge, i_ifgt, i_ifle, i_idiv, i_irem, i_newa, i_newo, i_abs, i_max, i_min, i_ldiv, en_, es_i, es_r, es_0, es_n, es_l, List.length_cons, List.length_nil, List.cons_append, List.nil_append, Nat.reduceAdd, Nat.reduceSub, List.replicate, lg_, st1_, st2_, cn_, nl_, mk_, pk_, kd_, sl_, la_, ft_a, ft_i, ft_l, ft_o, ft_n, ft_b0, ft_b1, ft_bI, nr_0, nr_1, nr_bI, ro_, no_, if_true, if_false, ite_true, ite_false, reduceIte, Nat.reduceMod, Nat.reduceEqDiff, Nat.zero_add, Nat.add_zero, lk_, lit_, nI_add, nI_mul, ix_nI, fgk_0, fgk_1, fgk_2, fgk_3, fgk_4, fgk_5, fgk_6, fgk_7, fgk_8, fgk_9, fgk_10, fgk_11, fgk_12, fgk_13, fsk_0, fsk_1, fsk_2, fsk_3, fsk_4, fsk_5, fsk_6, fsk_7, fsk_8, fsk_9, fsk_10, fsk_11, fsk_12, fsk_13, ca_i, ca_r, ca_n, Nat.reduceLT, true_or, or_true, if_true, false_or, or_false, and_true, true_and, List.mem_singleton, eq_self, h1]
theorem H_isEmpty (hH : Hi_ σ.2.2 hl ns ws) (hn : ns.length < 100) : D_ E 1 [.ref hl] σ = some (.inl (some (.int (bI (ns.length = 0)))), σ) := by
  have hs := H_size (E := E) hH
  obtain ⟨mc, h1, _⟩ := hH
  rw [D_run]
  by_cases c : ns.length = 0
  · rw [bI_t c]
    rw [c] at hs
    simp (disch := omega) only [l1, b1_0, K1_0, b1_1, K1_1, b1_2, K1_2, R_cons, go_nx, go_jp, go_rt, go_th, go_ca, go_no, go_ite, rr_v, rr_n, rr_x, hx_n, hx_p, hx_b, I_push, I_pushl, I_fc0, I_fc1, I_dc0, I_null, I_mask, I_iload, I_lload, I_dload, I_fload, I_aload, I_istore, I_lstore, I_dstore, I_fstore, I_astore, I_iinc, I_iadd, I_isub, I_imul, I_iand, I_ior, I_ixor, I_ishl, I_ishr, I_iushr, I_ineg, I_ladd, I_lsub, I_lmul, I_lxor, I_i2l, I_l2i, I_i2b, I_i2c, I_i2f, I_i2d, I_lcmp, I_fdiv, I_ddiv, I_f2d, I_dcmp, I_dup, I_pop, I_dup_x1, I_dup2, I_icne, I_iceq, I_iclt, I_icge, I_icgt, I_icle, I_ifnull, I_ifnonnull, I_ane, I_aeq, I_goto, I_lsw, I_iret, I_lret, I_fret, I_dret, I_vret, I_nret, I_aret, I_iald, I_bald, I_lald, I_aald, I_iast, I_bast, I_last, I_aast, I_alen, I_new, I_val, I_cast, I_inst, I_obj, I_throw, I_mkx, I_getf, I_putf, I_call, I_calli, I_callv, I_clone, I_getc, i_ifeq, i_ifne, i_iflt, i_ifge, i_ifgt, i_ifle, i_idiv, i_irem, i_newa, i_newo, i_abs, i_max, i_min, i_ldiv, en_, es_i, es_r, es_0, es_n, es_l, List.length_cons, List.length_nil, List.cons_append, List.nil_append, Nat.reduceAdd, Nat.reduceSub, List.replicate, lg_, st1_, st2_, cn_, nl_, mk_, pk_, kd_, sl_, la_, ft_a, ft_i, ft_l, ft_o, ft_n, ft_b0, ft_b1, ft_bI, nr_0, nr_1, nr_bI, ro_, no_, if_true, if_false, ite_true, ite_false, reduceIte, Nat.reduceMod, Nat.reduceEqDiff, Nat.zero_add, Nat.add_zero, lk_, lit_, nI_add, nI_mul, ix_nI, fgk_0, fgk_1, fgk_2, fgk_3, fgk_4, fgk_5, fgk_6, fgk_7, fgk_8, fgk_9, fgk_10, fgk_11, fgk_12, fgk_13, fsk_0, fsk_1, fsk_2, fsk_3, fsk_4, fsk_5, fsk_6, fsk_7, fsk_8, fsk_9, fsk_10, fsk_11, fsk_12, fsk_13, ca_i, ca_r, ca_n, Nat.reduceLT, true_or, or_true, if_true, false_or, or_false, and_true, true_and, List.mem_singleton, eq_self, h1, hs]
  · have c' : ¬ nI ns.length = nI 0 := fun q => c ((nI_eq (by omega) (by omega)).1 q)
    rw [bI_f c]
    simp (disch := omega) only [l1, b1_0, K1_0, b1_1, K1_1, b1_2, K1_2, R_cons, go_nx, go_jp, go_rt, go_th, go_ca, go_no, go_ite, rr_v, rr_n, rr_x, hx_n, hx_p, hx_b, I_push, I_pushl, I_fc0, I_fc1, I_dc0, I_null, I_mask, I_iload, I_lload, I_dload, I_fload, I_aload, I_istore, I_lstore, I_dstore, I_fstore, I_astore, I_iinc, I_iadd, I_isub, I_imul, I_iand, I_ior, I_ixor, I_ishl, I_ishr, I_iushr, I_ineg, I_ladd, I_lsub, I_lmul, I_lxor, I_i2l, I_l2i, I_i2b, I_i2c, I_i2f, I_i2d, I_lcmp, I_fdiv, I_ddiv, I_f2d, I_dcmp, I_dup, I_pop, I_dup_x1, I_dup2, I_icne, I_iceq, I_iclt, I_icge, I_icgt, I_icle, I_ifnull, I_ifnonnull, I_ane, I_aeq, I_goto, I_lsw, I_iret, I_lret, I_fret, I_dret, I_vret, I_nret, I_aret, I_iald, I_bald, I_lald, I_aald, I_iast, I_bast, I_last, I_aast, I_alen, I_new, I_val, I_cast, I_inst, I_obj, I_throw, I_mkx, I_getf, I_putf, I_call, I_calli, I_callv, I_clone, I_getc, i_ifeq, i_ifne, i_iflt, i_ifge, i_ifgt, i_ifle, i_idiv, i_irem, i_newa, i_newo, i_abs, i_max, i_min, i_ldiv, en_, es_i, es_r, es_0, es_n, es_l, List.length_cons, List.length_nil, List.cons_append, List.nil_append, Nat.reduceAdd, Nat.reduceSub, List.replicate, lg_, st1_, st2_, cn_, nl_, mk_, pk_, kd_, sl_, la_, ft_a, ft_i, ft_l, ft_o, ft_n, ft_b0, ft_b1, ft_bI, nr_0, nr_1, nr_bI, ro_, no_, if_true, if_false, ite_true, ite_false, reduceIte, Nat.reduceMod, Nat.reduceEqDiff, Nat.zero_add, Nat.add_zero, lk_, lit_, nI_add, nI_mul, ix_nI, fgk_0, fgk_1, fgk_2, fgk_3, fgk_4, fgk_5, fgk_6, fgk_7, fgk_8, fgk_9, fgk_10, fgk_11, fgk_12, fgk_13, fsk_0, fsk_1, fsk_2, fsk_3, fsk_4, fsk_5, fsk_6, fsk_7, fsk_8, fsk_9, fsk_10, fsk_11, fsk_12, fsk_13, ca_i, ca_r, ca_n, Nat.reduceLT, true_or, or_true, if_true, false_or, or_false, and_true, true_and, List.mem_singleton, eq_self, h1, hs, c']
/-- a wall more -/
theorem H_addLast (hH : Hi_ σ.2.2 hl ns ws) (hw : Hw_ σ) (hn : ns.length < 100) :
    ∃ σ', D_ E 58 [.ref hl, .ref w] σ = some (.inl none, σ') ∧ Hi_ σ'.2.2 hl (ns ++ [σ.1]) (ws ++ [w]) ∧ (∀ y c, σ.2.2 y = some c → y ≠ hl → y ∉ ns → σ'.2.2 y = some c) ∧ Hw_ σ' ∧ σ'.1 = σ.1 + 1 ∧ σ'.2.1 = σ.2.1 + 3 := by
  have hne := Hi_ne hH
  obtain ⟨mc, h1, h2, h3, h4⟩ := hH
  have hll := Hw_lt hw h1
  rcases List.eq_nil_or_concat ns with rfl | ⟨l, y, e⟩
  · have e1 : ws = [] := List.eq_nil_of_length_eq_zero h2.symm
    subst e1
    simp only [List.head?_nil, List.getLast?_nil, ov_, List.length_nil] at h1
    have hin : D_ E 51 [.ref σ.1, .null, .ref w, .null] (σ.1 + 1, σ.2.1 + 3, up_ σ.2.2 σ.1 (.inr (14, [.null, .null, .null]))) = some (.inl none, (σ.1 + 1, σ.2.1 + 3, up_ σ.2.2 σ.1 (.inr (14, [.ref w, .null, .null])))) := by
      rw [D_run]
      simp (disch := omega) only [l51, b51_0, K51_0, R_cons, go_nx, go_jp, go_rt, go_th, go_ca, go_no, go_ite, rr_v, rr_n, rr_x, hx_n, hx_p, hx_b, I_push, I_pushl, I_fc0, I_fc1, I_dc0, I_null, I_mask, I_iload, I_lload, I_dload, I_fload, I_aload, I_istore, I_lstore, I_dstore, I_fstore, I_astore, I_iinc, I_iadd, I_isub, I_imul, I_iand, I_ior, I_ixor, I_ishl, I_ishr, I_iushr, I_ineg, I_ladd, I_lsub, I_lmul, I_lxor, I_i2l, I_l2i, I_i2b, I_i2c, I_i2f, I_i2d, I_lcmp, I_fdiv, I_ddiv, I_f2d, I_dcmp, I_dup, I_pop, I_dup_x1, I_dup2, I_icne, I_iceq, I_iclt, I_icge, I_icgt, I_icle, I_ifnull, I_ifnonnull, I_ane, I_aeq, I_goto, I_lsw, I_iret, I_lret, I_fret, I_dret, I_vret, I_nret, I_aret, I_iald, I_bald, I_lald, I_aald, I_iast, I_bast, I_last, I_aast, I_alen, I_new, I_val, I_cast, I_inst, I_obj, I_throw, I_mkx, I_getf, I_putf, I_call, I_calli, I_callv, I_clone, I_getc, i_ifeq, i_ifne, i_iflt, i_ifge, i_ifgt, i_ifle, i_idiv, i_irem, i_newa, i_newo, i_abs, i_max, i_min, i_ldiv, en_, es_i, es_r, es_0, es_n, es_l, List.length_cons, List.length_nil, List.cons_append, List.nil_append, Nat.reduceAdd, Nat.reduceSub, List.replicate, lg_, st1_, st2_, cn_, nl_, mk_, pk_, kd_, sl_, la_, ft_a, ft_i, ft_l, ft_o, ft_n, ft_b0, ft_b1, ft_bI, nr_0, nr_1, nr_bI, ro_, no_, if_true, if_false, ite_true, ite_false, reduceIte, Nat.reduceMod, Nat.reduceEqDiff, Nat.zero_add, Nat.add_zero, lk_, lit_, nI_add, nI_mul, ix_nI, fgk_0, fgk_1, fgk_2, fgk_3, fgk_4, fgk_5, fgk_6, fgk_7, fgk_8, fgk_9, fgk_10, fgk_11, fgk_12, fgk_13, fsk_0, fsk_1, fsk_2, fsk_3, fsk_4, fsk_5, fsk_6, fsk_7, fsk_8, fsk_9, fsk_10, fsk_11, fsk_12, fsk_13, ca_i, ca_r, ca_n, Nat.reduceLT, true_or, or_true, if_true, false_or, or_false, and_true, true_and, List.mem_singleton, eq_self, up_s, up_up]
    have hli : D_ E 54 [.ref hl, .ref w] σ = some (.inl none, (σ.1 + 1, σ.2.1 + 3, up_ (up_ σ.2.2 σ.1 (.inr (14, [.ref w, .null, .null]))) hl (.inr (13, [.int (mc + nI 1), .int (nI 1), .ref σ.1, .ref σ.1])))) := by
      rw [D_run]
      simp (disch := omega) only [b54_0, K54_0, b54_2, K54_2, l54, R_cons, go_nx, go_jp, go_rt, go_th, go_ca, go_no, go_ite, rr_v, rr_n, rr_x, hx_n, hx_p, hx_b, I_push, I_pushl, I_fc0, I_fc1, I_dc0, I_null, I_mask, I_iload, I_lload, I_dload, I_fload, I_aload, I_istore, I_lstore, I_dstore, I_fstore, I_astore, I_iinc, I_iadd, I_isub, I_imul, I_iand, I_ior, I_ixor, I_ishl, I_ishr, I_iushr, I_ineg, I_ladd, I_lsub, I_lmul, I_lxor, I_i2l, I_l2i, I_i2b, I_i2c, I_i2f, I_i2d, I_lcmp, I_fdiv, I_ddiv, I_f2d, I_dcmp, I_dup, I_pop, I_dup_x1, I_dup2, I_icne, I_iceq, I_iclt, I_icge, I_icgt, I_icle, I_ifnull, I_ifnonnull, I_ane, I_aeq, I_goto, I_lsw, I_iret, I_lret, I_fret, I_dret, I_vret, I_nret, I_aret, I_iald, I_bald, I_lald, I_aald, I_iast, I_bast, I_last, I_aast, I_alen, I_new, I_val, I_cast, I_inst, I_obj, I_throw, I_mkx, I_getf, I_putf, I_call, I_calli, I_callv, I_clone, I_getc, i_ifeq, i_ifne, i_iflt, i_ifge, i_ifgt, i_ifle, i_idiv, i_irem, i_newa, i_newo, i_abs, i_max, i_min, i_ldiv, en_, es_i, es_r, es_0, es_n, es_l, List.length_cons, List.length_nil, List.cons_append, List.nil_append, Nat.reduceAdd, Nat.reduceSub, List.replicate, lg_, st1_, st2_, cn_, nl_, mk_, pk_, kd_, sl_, la_, ft_a, ft_i, ft_l, ft_o, ft_n, ft_b0, ft_b1, ft_bI, nr_0, nr_1, nr_bI, ro_, no_, if_true, if_false, ite_true, ite_false, reduceIte, Nat.reduceMod, Nat.reduceEqDiff, Nat.zero_add, Nat.add_zero, lk_, lit_, nI_add, nI_mul, ix_nI, fgk_0, fgk_1, fgk_2, fgk_3, fgk_4, fgk_5, fgk_6, fgk_7, fgk_8, fgk_9, fgk_10, fgk_11, fgk_12, fgk_13, fsk_0, fsk_1, fsk_2, fsk_3, fsk_4, fsk_5, fsk_6, fsk_7, fsk_8, fsk_9, fsk_10, fsk_11, fsk_12, fsk_13, ca_i, ca_r, ca_n, Nat.reduceLT, true_or, or_true, if_true, false_or, or_false, and_true, true_and, List.mem_singleton, eq_self, h1, up_n, up_s, up_up, hin]
    refine ⟨(σ.1 + 1, σ.2.1 + 3, up_ (up_ σ.2.2 σ.1 (.inr (14, [.ref w, .null, .null]))) hl (.inr (13, [.int (mc + nI 1), .int (nI 1), .ref σ.1, .ref σ.1]))), ?_, ⟨mc + nI 1, up_s _ _ _, rfl, by simp, fun i x hx => ?_⟩, fun y c hy hyl _ => ?_, ?_, rfl, rfl⟩
    · rw [D_run]
      simp (disch := omega) only [l58, b58_0, K58_0, R_cons, go_nx, go_jp, go_rt, go_th, go_ca, go_no, go_ite, rr_v, rr_n, rr_x, hx_n, hx_p, hx_b, I_push, I_pushl, I_fc0, I_fc1, I_dc0, I_null, I_mask, I_iload, I_lload, I_dload, I_fload, I_aload, I_istore, I_lstore, I_dstore, I_fstore, I_astore, I_iinc, I_iadd, I_isub, I_imul, I_iand, I_ior, I_ixor, I_ishl, I_ishr, I_iushr, I_ineg, I_ladd, I_lsub, I_lmul, I_lxor, I_i2l, I_l2i, I_i2b, I_i2c, I_i2f, I_i2d, I_lcmp, I_fdiv, I_ddiv, I_f2d, I_dcmp, I_dup, I_pop, I_dup_x1, I_dup2, I_icne, I_iceq, I_iclt, I_icge, I_icgt, I_icle, I_ifnull, I_ifnonnull, I_ane, I_aeq, I_goto, I_lsw, I_iret, I_lret, I_fret, I_dret, I_vret, I_nret, I_aret, I_iald, I_bald, I_lald, I_aald, I_iast, I_bast, I_last, I_aast, I_alen, I_new, I_val, I_cast, I_inst, I_obj, I_throw, I_mkx, I_getf, I_putf, I_call, I_calli, I_callv, I_clone, I_getc, i_ifeq, i_ifne, i_iflt, i_ifge, i_ifgt, i_ifle, i_idiv, i_irem, i_newa, i_newo, i_abs, i_max, i_min, i_ldiv, en_, es_i, es_r, es_0, es_n, es_l, List.length_cons, List.length_nil, List.cons_append, List.nil_append, Nat.reduceAdd, Nat.reduceSub, List.replicate, lg_, st1_, st2_, cn_, nl_, mk_, pk_, kd_, sl_, la_, ft_a, ft_i, ft_l, ft_o, ft_n, ft_b0, ft_b1, ft_bI, nr_0, nr_1, nr_bI, ro_, no_, if_true, if_false, ite_true, ite_false, reduceIte, Nat.reduceMod, Nat.reduceEqDiff, Nat.zero_add, Nat.add_zero, lk_, lit_, nI_add, nI_mul, ix_nI, fgk_0, fgk_1, fgk_2, fgk_3, fgk_4, fgk_5, fgk_6, fgk_7, fgk_8, fgk_9, fgk_10, fgk_11, fgk_12, fgk_13, fsk_0, fsk_1, fsk_2, fsk_3, fsk_4, fsk_5, fsk_6, fsk_7, fsk_8, fsk_9, fsk_10, fsk_11, fsk_12, fsk_13, ca_i, ca_r, ca_n, Nat.reduceLT, true_or, or_true, if_true, false_or, or_false, and_true, true_and, List.mem_singleton, eq_self, h1, hli]
    · cases i with
      | zero =>
        simp at hx
        subst hx
        exact ⟨w, rfl, by dsimp only; rw [up_n (by omega), up_s]; rfl⟩
      | succ i => simp at hx
    · dsimp only
      have := Hw_lt hw hy
      rw [up_n hyl, up_n (by omega)]
      exact hy
    · intro y hy
      dsimp only at hy ⊢
      rw [up_n (by omega), up_n (by omega)]
      exact hw y (by omega)
  · rw [List.concat_eq_append] at e
    subst e
    have ey : (l ++ [y]).getLast? = some y := by simp
    have hyl : y ≠ hl := fun q => hne (by rw [← q]; simp)
    have hyi : (l ++ [y])[l.length]? = some y := by simp
    obtain ⟨wy, y1, y2⟩ := h4 _ _ hyi
    have eyn : (l ++ [y])[l.length + 1]? = none := by simp
    rw [eyn] at y2
    have hyl2 := Hw_lt hw y2
    rw [ey, show ov_ (some y) = .ref y from rfl] at h1
    rw [show ov_ none = .null from rfl] at y2
    have hin : D_ E 51 [.ref σ.1, .ref y, .ref w, .null] (σ.1 + 1, σ.2.1 + 3, up_ σ.2.2 σ.1 (.inr (14, [.null, .null, .null]))) = some (.inl none, (σ.1 + 1, σ.2.1 + 3, up_ σ.2.2 σ.1 (.inr (14, [.ref w, .null, .ref y])))) := by
      rw [D_run]
      simp (disch := omega) only [l51, b51_0, K51_0, R_cons, go_nx, go_jp, go_rt, go_th, go_ca, go_no, go_ite, rr_v, rr_n, rr_x, hx_n, hx_p, hx_b, I_push, I_pushl, I_fc0, I_fc1, I_dc0, I_null, I_mask, I_iload, I_lload, I_dload, I_fload, I_aload, I_istore, I_lstore, I_dstore, I_fstore, I_astore, I_iinc, I_iadd, I_isub, I_imul, I_iand, I_ior, I_ixor, I_ishl, I_ishr, I_iushr, I_ineg, I_ladd, I_lsub, I_lmul, I_lxor, I_i2l, I_l2i, I_i2b, I_i2c, I_i2f, I_i2d, I_lcmp, I_fdiv, I_ddiv, I_f2d, I_dcmp, I_dup, I_pop, I_dup_x1, I_dup2, I_icne, I_iceq, I_iclt, I_icge, I_icgt, I_icle, I_ifnull, I_ifnonnull, I_ane, I_aeq, I_goto, I_lsw, I_iret, I_lret, I_fret, I_dret, I_vret, I_nret, I_aret, I_iald, I_bald, I_lald, I_aald, I_iast, I_bast, I_last, I_aast, I_alen, I_new, I_val, I_cast, I_inst, I_obj, I_throw, I_mkx, I_getf, I_putf, I_call, I_calli, I_callv, I_clone, I_getc, i_ifeq, i_ifne, i_iflt, i_ifge, i_ifgt, i_ifle, i_idiv, i_irem, i_newa, i_newo, i_abs, i_max, i_min, i_ldiv, en_, es_i, es_r, es_0, es_n, es_l, List.length_cons, List.length_nil, List.cons_append, List.nil_append, Nat.reduceAdd, Nat.reduceSub, List.replicate, lg_, st1_, st2_, cn_, nl_, mk_, pk_, kd_, sl_, la_, ft_a, ft_i, ft_l, ft_o, ft_n, ft_b0, ft_b1, ft_bI, nr_0, nr_1, nr_bI, ro_, no_, if_true, if_false, ite_true, ite_false, reduceIte, Nat.reduceMod, Nat.reduceEqDiff, Nat.zero_add, Nat.add_zero, lk_, lit_, nI_add, nI_mul, ix_nI, fgk_0, fgk_1, fgk_2, fgk_3, fgk_4, fgk_5, fgk_6, fgk_7, fgk_8, fgk_9, fgk_10, fgk_11, fgk_12, fgk_13, fsk_0, fsk_1, fsk_2, fsk_3, fsk_4, fsk_5, fsk_6, fsk_7, fsk_8, fsk_9, fsk_10, fsk_11, fsk_12, fsk_13, ca_i, ca_r, ca_n, Nat.reduceLT, true_or, or_true, if_true, false_or, or_false, and_true, true_and, List.mem_singleton, eq_self, up_s, up_up]
    have hpv : ∀ j, j ≤ (l ++ [y]).length → prv_ (l ++ [y] ++ [σ.1]) j = prv_ (l ++ [y]) j := fun j hj => by
      unfold prv_
      by_cases c : j = 0
      · rw [if_pos c, if_pos c]
      · rw [if_neg c, if_neg c, List.getElem?_append_left (by omega)]
    have hli : D_ E 54 [.ref hl, .ref w] σ = some (.inl none, (σ.1 + 1, σ.2.1 + 3, up_ (up_ (up_ σ.2.2 σ.1 (.inr (14, [.ref w, .null, .ref y]))) y (.inr (14, [.ref wy, .ref σ.1, ov_ (prv_ (l ++ [y]) l.length)]))) hl (.inr (13, [.int (mc + nI 1), .int (nI ((l ++ [y]).length + 1)), ov_ (l ++ [y]).head?, .ref σ.1])))) := by
      rw [D_run]
      simp (disch := omega) only [l54, b54_0, K54_0, b54_1, K54_1, b54_2, K54_2, R_cons, go_nx, go_jp, go_rt, go_th, go_ca, go_no, go_ite, rr_v, rr_n, rr_x, hx_n, hx_p, hx_b, I_push, I_pushl, I_fc0, I_fc1, I_dc0, I_null, I_mask, I_iload, I_lload, I_dload, I_fload, I_aload, I_istore, I_lstore, I_dstore, I_fstore, I_astore, I_iinc, I_iadd, I_isub, I_imul, I_iand, I_ior, I_ixor, I_ishl, I_ishr, I_iushr, I_ineg, I_ladd, I_lsub, I_lmul, I_lxor, I_i2l, I_l2i, I_i2b, I_i2c, I_i2f, I_i2d, I_lcmp, I_fdiv, I_ddiv, I_f2d, I_dcmp, I_dup, I_pop, I_dup_x1, I_dup2, I_icne, I_iceq, I_iclt, I_icge, I_icgt, I_icle, I_ifnull, I_ifnonnull, I_ane, I_aeq, I_goto, I_lsw, I_iret, I_lret, I_fret, I_dret, I_vret, I_nret, I_aret, I_iald, I_bald, I_lald, I_aald, I_iast, I_bast, I_last, I_aast, I_alen, I_new, I_val, I_cast, I_inst, I_obj, I_throw, I_mkx, I_getf, I_putf, I_call, I_calli, I_callv, I_clone, I_getc, i_ifeq, i_ifne, i_iflt, i_ifge, i_ifgt, i_ifle, i_idiv, i_irem, i_newa, i_newo, i_abs, i_max, i_min, i_ldiv, en_, es_i, es_r, es_0, es_n, es_l, List.length_cons, List.length_nil, List.cons_append, List.nil_append, Nat.reduceAdd, Nat.reduceSub, List.replicate, lg_, st1_, st2_, cn_, nl_, mk_, pk_, kd_, sl_, la_, ft_a, ft_i, ft_l, ft_o, ft_n, ft_b0, ft_b1, ft_bI, nr_0, nr_1, nr_bI, ro_, no_, if_true, if_false, ite_true, ite_false, reduceIte, Nat.reduceMod, Nat.reduceEqDiff, Nat.zero_add, Nat.add_zero, lk_, lit_, nI_add, nI_mul, ix_nI, fgk_0, fgk_1, fgk_2, fgk_3, fgk_4, fgk_5, fgk_6, fgk_7, fgk_8, fgk_9, fgk_10, fgk_11, fgk_12, fgk_13, fsk_0, fsk_1, fsk_2, fsk_3, fsk_4, fsk_5, fsk_6, fsk_7, fsk_8, fsk_9, fsk_10, fsk_11, fsk_12, fsk_13, ca_i, ca_r, ca_n, Nat.reduceLT, true_or, or_true, if_true, false_or, or_false, and_true, true_and, List.mem_singleton, eq_self, h1, up_n, up_s, up_up, hin, y2, up_3]
    have hlen : (l ++ [y]).length = l.length + 1 := by simp
    have hold : ∀ x, x ∈ l ++ [y] → x < σ.1 ∧ x ≠ hl := fun x hx => by
      obtain ⟨i, hi, e⟩ := List.getElem_of_mem hx
      obtain ⟨v, _, v2⟩ := h4 i x (by rw [List.getElem?_eq_getElem hi, e])
      exact ⟨Hw_lt hw v2, fun q => hne (q ▸ hx)⟩
    refine ⟨(σ.1 + 1, σ.2.1 + 3, up_ (up_ (up_ σ.2.2 σ.1 (.inr (14, [.ref w, .null, .ref y]))) y (.inr (14, [.ref wy, .ref σ.1, ov_ (prv_ (l ++ [y]) l.length)]))) hl (.inr (13, [.int (mc + nI 1), .int (nI ((l ++ [y]).length + 1)), ov_ (l ++ [y]).head?, .ref σ.1]))), ?_, ⟨mc + nI 1, ?_, by simp [← h2], ?_, fun i x hx => ?_⟩, fun z c hz hzl hzn => ?_, ?_, rfl, rfl⟩
    · rw [D_run]
      simp (disch := omega) only [l58, b58_0, K58_0, R_cons, go_nx, go_jp, go_rt, go_th, go_ca, go_no, go_ite, rr_v, rr_n, rr_x, hx_n, hx_p, hx_b, I_push, I_pushl, I_fc0, I_fc1, I_dc0, I_null, I_mask, I_iload, I_lload, I_dload, I_fload, I_aload, I_istore, I_lstore, I_dstore, I_fstore, I_astore, I_iinc, I_iadd, I_isub, I_imul, I_iand, I_ior, I_ixor, I_ishl, I_ishr, I_iushr, I_ineg, I_ladd, I_lsub, I_lmul, I_lxor, I_i2l, I_l2i, I_i2b, I_i2c, I_i2f, I_i2d, I_lcmp, I_fdiv, I_ddiv, I_f2d, I_dcmp, I_dup, I_pop, I_dup_x1, I_dup2, I_icne, I_iceq, I_iclt, I_icge, I_icgt, I_icle, I_ifnull, I_ifnonnull, I_ane, I_aeq, I_goto, I_lsw, I_iret, I_lret, I_fret, I_dret, I_vret, I_nret, I_aret, I_iald, I_bald, I_lald, I_aald, I_iast, I_bast, I_last, I_aast, I_alen, I_new, I_val, I_cast, I_inst, I_obj, I_throw, I_mkx, I_getf, I_putf, I_call, I_calli, I_callv, I_clone, I_getc, i_ifeq, i_ifne, i_iflt, i_ifge, i_ifgt, i_ifle, i_idiv, i_irem, i_newa, i_newo, i_abs, i_max, i_min, i_ldiv, en_, es_i, es_r, es_0, es_n, es_l, List.length_cons, List.length_nil, List.cons_append, List.nil_append, Nat.reduceAdd, Nat.reduceSub, List.replicate, lg_, st1_, st2_, cn_, nl_, mk_, pk_, kd_, sl_, la_, ft_a, ft_i, ft_l, ft_o, ft_n, ft_b0, ft_b1, ft_bI, nr_0, nr_1, nr_bI, ro_, no_, if_true, if_false, ite_true, ite_false, reduceIte, Nat.reduceMod, Nat.reduceEqDiff, Nat.zero_add, Nat.add_zero, lk_, lit_, nI_add, nI_mul, ix_nI, fgk_0, fgk_1, fgk_2, fgk_3, fgk_4, fgk_5, fgk_6, fgk_7, fgk_8, fgk_9, fgk_10, fgk_11, fgk_12, fgk_13, fsk_0, fsk_1, fsk_2, fsk_3, fsk_4, fsk_5, fsk_6, fsk_7, fsk_8, fsk_9, fsk_10, fsk_11, fsk_12, fsk_13, ca_i, ca_r, ca_n, Nat.reduceLT, true_or, or_true, if_true, false_or, or_false, and_true, true_and, List.mem_singleton, eq_self, h1, hli]
    · dsimp only
      rw [up_s]
      have e1 : (l ++ [y] ++ [σ.1]).length = (l ++ [y]).length + 1 := by simp
      have e2 : (l ++ [y] ++ [σ.1]).head? = (l ++ [y]).head? := by cases l <;> simp
      have e3 : (l ++ [y] ++ [σ.1]).getLast? = some σ.1 := by simp
      rw [e1, e2, e3]
      rfl
    · rw [List.nodup_append]
      exact ⟨h3, by simp, fun a ha b hb e => by
        rw [List.mem_singleton] at hb
        have := (hold a ha).1
        omega⟩
    · dsimp only
      by_cases c : i < (l ++ [y]).length
      · rw [List.getElem?_append_left c] at hx
        have hxm := List.mem_of_getElem? hx
        obtain ⟨q1, q2⟩ := hold x hxm
        obtain ⟨v, v1, v2⟩ := h4 i x hx
        refine ⟨v, by rw [List.getElem?_append_left (by omega)]; exact v1, ?_⟩
        rw [up_n q2, hpv i (by omega)]
        by_cases cy : i = l.length
        · subst cy
          rw [hyi] at hx
          cases hx
          rw [y1] at v1
          cases v1
          rw [up_s, List.getElem?_append_right (by omega), hlen]
          simp [ov_]
        · have hxy : x ≠ y := fun q => by
            subst q
            have e1 := List.getElem?_eq_some_iff.mp hx
            have e2 := List.getElem?_eq_some_iff.mp hyi
            obtain ⟨a1, a2⟩ := e1
            obtain ⟨b1, b2⟩ := e2
            have e3 : (l ++ [x])[i] = (l ++ [x])[l.length] := by rw [a2, b2]
            rcases Nat.lt_trichotomy i l.length with q | q | q
            · exact absurd e3 (List.pairwise_iff_getElem.1 h3 i _ a1 b1 q)
            · exact cy q
            · omega
          rw [up_n hxy, up_n (by omega), List.getElem?_append_left (by omega)]
          exact v2
      · rw [List.getElem?_append_right (by omega)] at hx
        have e0 : i - (l ++ [y]).length = 0 := by
          cases q : i - (l ++ [y]).length with
          | zero => rfl
          | succ j => rw [q] at hx; simp at hx
        rw [e0] at hx
        simp at hx
        subst hx
        obtain rfl : i = (l ++ [y]).length := by omega
        refine ⟨w, by rw [List.getElem?_append_right (by omega), show (l ++ [y]).length - ws.length = 0 by omega]; rfl, ?_⟩
        rw [up_n (by omega), up_n (by omega), up_s]
        have e1 : (l ++ [y] ++ [σ.1])[(l ++ [y]).length + 1]? = none := by simp
        have e2 : prv_ (l ++ [y] ++ [σ.1]) (l ++ [y]).length = some y := by
          unfold prv_
          rw [if_neg (by omega), List.getElem?_append_left (by omega), hlen]
          simpa using hyi
        rw [e1, e2]
        rfl
    · dsimp only
      have := Hw_lt hw hz
      rw [up_n hzl, up_n (fun q => hzn (by rw [q]; simp)), up_n (by omega)]
      exact hz
    · intro z hz
      dsimp only at hz ⊢
      rw [up_n (by omega), up_n (by omega), up_n (by omega)]
      exact hw z (by omega)
/-- the first wall goes -/
theorem H_removeFirst {x v : Nat} {l vs : List Nat} (hH : Hi_ σ.2.2 hl (x :: l) (v :: vs)) (hw : Hw_ σ) (hn : l.length < 100) :
    ∃ σ', D_ E 56 [.ref hl] σ = some (.inl (some (.ref v)), σ') ∧ Hi_ σ'.2.2 hl l vs ∧ (∀ y c, σ.2.2 y = some c → y ≠ hl → y ∉ x :: l → σ'.2.2 y = some c) ∧ Hw_ σ' ∧ σ'.1 = σ.1 ∧ σ'.2.1 = σ.2.1 := by
  have hne := Hi_ne hH
  obtain ⟨mc, h1, h2, h3, h4⟩ := hH
  have hll := Hw_lt hw h1
  obtain ⟨v', v1, x1⟩ := h4 0 x rfl
  cases v1
  have hxl : x ≠ hl := fun q => hne (by rw [← q]; simp)
  have hxlt := Hw_lt hw x1
  have hsz : nI (x :: l).length - nI 1 = nI l.length := by rw [nI_sub (by simp)]; rfl
  have hh : ov_ (x :: l).head? = .ref x := rfl
  have hnx : ov_ (x :: l)[0 + 1]? = ov_ l.head? := by cases l <;> rfl
  have hpx : ov_ (prv_ (x :: l) 0) = .null := rfl
  rw [hh] at h1
  rw [hnx, hpx] at x1
  cases l with
  | nil =>
    have hul : D_ E 57 [.ref hl, .ref x] σ = some (.inl (some (.ref v)), (σ.1, σ.2.1, up_ (up_ σ.2.2 x (.inr (14, [.null, .null, .null]))) hl (.inr (13, [.int (mc + nI 1), .int (nI 0), .null, .null])))) := by
      have e1 : ov_ [x].getLast? = .ref x := rfl
      have e0 : ov_ ([] : List Nat).head? = .null := rfl
      rw [e1] at h1
      rw [e0] at x1
      rw [List.length_singleton] at h1 hsz
      rw [D_run]
      simp (disch := omega) only [l57, b57_0, K57_0, b57_1, K57_1, b57_2, K57_2, R_cons, go_nx, go_jp, go_rt, go_th, go_ca, go_no, go_ite, rr_v, rr_n, rr_x, hx_n, hx_p, hx_b, I_push, I_pushl, I_fc0, I_fc1, I_dc0, I_null, I_mask, I_iload, I_lload, I_dload, I_fload, I_aload, I_istore, I_lstore, I_dstore, I_fstore, I_astore, I_iinc, I_iadd, I_isub, I_imul, I_iand, I_ior, I_ixor, I_ishl, I_ishr, I_iushr, I_ineg, I_ladd, I_lsub, I_lmul, I_lxor, I_i2l, I_l2i, I_i2b, I_i2c, I_i2f, I_i2d, I_lcmp, I_fdiv, I_ddiv, I_f2d, I_dcmp, I_dup, I_pop, I_dup_x1, I_dup2, I_icne, I_iceq, I_iclt, I_icge, I_icgt, I_icle, I_ifnull, I_ifnonnull, I_ane, I_aeq, I_goto, I_lsw, I_iret, I_lret, I_fret, I_dret, I_vret, I_nret, I_aret, I_iald, I_bald, I_lald, I_aald, I_iast, I_bast, I_last, I_aast, I_alen, I_new, I_val, I_cast, I_inst, I_obj, I_throw, I_mkx, I_getf, I_putf, I_call, I_calli, I_callv, I_clone, I_getc, i_ifeq, i_ifne, i_iflt, i_ifge, i_ifgt, i_ifle, i_idiv, i_irem, i_newa, i_newo, i_abs, i_max, i_min, i_ldiv, en_, es_i, es_r, es_0, es_n, es_l, List.length_cons, List.length_nil, List.cons_append, List.nil_append, Nat.reduceAdd, Nat.reduceSub, List.replicate, lg_, st1_, st2_, cn_, nl_, mk_, pk_, kd_, sl_, la_, ft_a, ft_i, ft_l, ft_o, ft_n, ft_b0, ft_b1, ft_bI, nr_0, nr_1, nr_bI, ro_, no_, if_true, if_false, ite_true, ite_false, reduceIte, Nat.reduceMod, Nat.reduceEqDiff, Nat.zero_add, Nat.add_zero, lk_, lit_, nI_add, nI_mul, ix_nI, fgk_0, fgk_1, fgk_2, fgk_3, fgk_4, fgk_5, fgk_6, fgk_7, fgk_8, fgk_9, fgk_10, fgk_11, fgk_12, fgk_13, fsk_0, fsk_1, fsk_2, fsk_3, fsk_4, fsk_5, fsk_6, fsk_7, fsk_8, fsk_9, fsk_10, fsk_11, fsk_12, fsk_13, ca_i, ca_r, ca_n, Nat.reduceLT, true_or, or_true, if_true, false_or, or_false, and_true, true_and, List.mem_singleton, eq_self, h1, x1, up_n, up_s, up_up, up_3, hsz, List.length_nil]
    refine ⟨(σ.1, σ.2.1, up_ (up_ σ.2.2 x (.inr (14, [.null, .null, .null]))) hl (.inr (13, [.int (mc + nI 1), .int (nI 0), .null, .null]))), ?_, ⟨mc + nI 1, up_s _ _ _, ?_, by simp, fun i z hz => by simp at hz⟩, fun z c hz hzl hzn => ?_, ?_, rfl, rfl⟩
    · rw [D_run]
      simp (disch := omega) only [l56, b56_0, K56_0, b56_1, K56_1, R_cons, go_nx, go_jp, go_rt, go_th, go_ca, go_no, go_ite, rr_v, rr_n, rr_x, hx_n, hx_p, hx_b, I_push, I_pushl, I_fc0, I_fc1, I_dc0, I_null, I_mask, I_iload, I_lload, I_dload, I_fload, I_aload, I_istore, I_lstore, I_dstore, I_fstore, I_astore, I_iinc, I_iadd, I_isub, I_imul, I_iand, I_ior, I_ixor, I_ishl, I_ishr, I_iushr, I_ineg, I_ladd, I_lsub, I_lmul, I_lxor, I_i2l, I_l2i, I_i2b, I_i2c, I_i2f, I_i2d, I_lcmp, I_fdiv, I_ddiv, I_f2d, I_dcmp, I_dup, I_pop, I_dup_x1, I_dup2, I_icne, I_iceq, I_iclt, I_icge, I_icgt, I_icle, I_ifnull, I_ifnonnull, I_ane, I_aeq, I_goto, I_lsw, I_iret, I_lret, I_fret, I_dret, I_vret, I_nret, I_aret, I_iald, I_bald, I_lald, I_aald, I_iast, I_bast, I_last, I_aast, I_alen, I_new, I_val, I_cast, I_inst, I_obj, I_throw, I_mkx, I_getf, I_putf, I_call, I_calli, I_callv, I_clone, I_getc, i_ifeq, i_ifne, i_iflt, i_ifge, i_ifgt, i_ifle, i_idiv, i_irem, i_newa, i_newo, i_abs, i_max, i_min, i_ldiv, en_, es_i, es_r, es_0, es_n, es_l, List.length_cons, List.length_nil, List.cons_append, List.nil_append, Nat.reduceAdd, Nat.reduceSub, List.replicate, lg_, st1_, st2_, cn_, nl_, mk_, pk_, kd_, sl_, la_, ft_a, ft_i, ft_l, ft_o, ft_n, ft_b0, ft_b1, ft_bI, nr_0, nr_1, nr_bI, ro_, no_, if_true, if_false, ite_true, ite_false, reduceIte, Nat.reduceMod, Nat.reduceEqDiff, Nat.zero_add, Nat.add_zero, lk_, lit_, nI_add, nI_mul, ix_nI, fgk_0, fgk_1, fgk_2, fgk_3, fgk_4, fgk_5, fgk_6, fgk_7, fgk_8, fgk_9, fgk_10, fgk_11, fgk_12, fgk_13, fsk_0, fsk_1, fsk_2, fsk_3, fsk_4, fsk_5, fsk_6, fsk_7, fsk_8, fsk_9, fsk_10, fsk_11, fsk_12, fsk_13, ca_i, ca_r, ca_n, Nat.reduceLT, true_or, or_true, if_true, false_or, or_false, and_true, true_and, List.mem_singleton, eq_self, h1, hul]
    · have : vs = [] := by simpa using h2
      rw [this]
    · dsimp only
      rw [up_n hzl, up_n (fun q => hzn (by rw [q]; simp))]
      exact hz
    · intro z hz
      dsimp only at hz ⊢
      rw [up_n (by omega), up_n (by omega)]
      exact hw z hz
  | cons y l =>
    obtain ⟨wy, w1, y1⟩ := h4 1 y rfl
    have hyl : y ≠ hl := fun q => hne (by rw [← q]; simp)
    have hxy : x ≠ y := fun q => by rw [q] at h3; simp at h3
    have hylt := Hw_lt hw y1
    have hpy : ov_ (prv_ (x :: y :: l) 1) = .ref x := rfl
    have hny : (x :: y :: l)[1 + 1]? = (y :: l)[0 + 1]? := rfl
    have hhy : ov_ (y :: l).head? = .ref y := rfl
    rw [hpy, hny] at y1
    rw [hhy] at x1
    have hul : D_ E 57 [.ref hl, .ref x] σ = some (.inl (some (.ref v)), (σ.1, σ.2.1, up_ (up_ (up_ σ.2.2 x (.inr (14, [.null, .null, .null]))) y (.inr (14, [.ref wy, ov_ (y :: l)[0 + 1]?, .null]))) hl (.inr (13, [.int (mc + nI 1), .int (nI (y :: l).length), .ref y, ov_ (x :: y :: l).getLast?])))) := by
      rw [D_run]
      have hs2 : nI (l.length + 1 + 1) - nI 1 = nI (l.length + 1) := by rw [nI_sub (by omega)]; rfl
      simp (disch := omega) only [l57, b57_0, K57_0, b57_1, K57_1, b57_2, K57_2, R_cons, go_nx, go_jp, go_rt, go_th, go_ca, go_no, go_ite, rr_v, rr_n, rr_x, hx_n, hx_p, hx_b, I_push, I_pushl, I_fc0, I_fc1, I_dc0, I_null, I_mask, I_iload, I_lload, I_dload, I_fload, I_aload, I_istore, I_lstore, I_dstore, I_fstore, I_astore, I_iinc, I_iadd, I_isub, I_imul, I_iand, I_ior, I_ixor, I_ishl, I_ishr, I_iushr, I_ineg, I_ladd, I_lsub, I_lmul, I_lxor, I_i2l, I_l2i, I_i2b, I_i2c, I_i2f, I_i2d, I_lcmp, I_fdiv, I_ddiv, I_f2d, I_dcmp, I_dup, I_pop, I_dup_x1, I_dup2, I_icne, I_iceq, I_iclt, I_icge, I_icgt, I_icle, I_ifnull, I_ifnonnull, I_ane, I_aeq, I_goto, I_lsw, I_iret, I_lret, I_fret, I_dret, I_vret, I_nret, I_aret, I_iald, I_bald, I_lald, I_aald, I_iast, I_bast, I_last, I_aast, I_alen, I_new, I_val, I_cast, I_inst, I_obj, I_throw, I_mkx, I_getf, I_putf, I_call, I_calli, I_callv, I_clone, I_getc, i_ifeq, i_ifne, i_iflt, i_ifge, i_ifgt, i_ifle, i_idiv, i_irem, i_newa, i_newo, i_abs, i_max, i_min, i_ldiv, en_, es_i, es_r, es_0, es_n, es_l, List.length_cons, List.length_nil, List.cons_append, List.nil_append, Nat.reduceAdd, Nat.reduceSub, List.replicate, lg_, st1_, st2_, cn_, nl_, mk_, pk_, kd_, sl_, la_, ft_a, ft_i, ft_l, ft_o, ft_n, ft_b0, ft_b1, ft_bI, nr_0, nr_1, nr_bI, ro_, no_, if_true, if_false, ite_true, ite_false, reduceIte, Nat.reduceMod, Nat.reduceEqDiff, Nat.zero_add, Nat.add_zero, lk_, lit_, nI_add, nI_mul, ix_nI, fgk_0, fgk_1, fgk_2, fgk_3, fgk_4, fgk_5, fgk_6, fgk_7, fgk_8, fgk_9, fgk_10, fgk_11, fgk_12, fgk_13, fsk_0, fsk_1, fsk_2, fsk_3, fsk_4, fsk_5, fsk_6, fsk_7, fsk_8, fsk_9, fsk_10, fsk_11, fsk_12, fsk_13, ca_i, ca_r, ca_n, Nat.reduceLT, true_or, or_true, if_true, false_or, or_false, and_true, true_and, List.mem_singleton, eq_self, h1, x1, y1, up_n, up_s, up_up, up_3, hs2]
    refine ⟨(σ.1, σ.2.1, up_ (up_ (up_ σ.2.2 x (.inr (14, [.null, .null, .null]))) y (.inr (14, [.ref wy, ov_ (y :: l)[0 + 1]?, .null]))) hl (.inr (13, [.int (mc + nI 1), .int (nI (y :: l).length), .ref y, ov_ (x :: y :: l).getLast?]))), ?_, ⟨mc + nI 1, ?_, by simpa using h2, (List.nodup_cons.mp h3).2, fun i z hz => ?_⟩, fun z c hz hzl hzn => ?_, ?_, rfl, rfl⟩
    · rw [D_run]
      simp (disch := omega) only [l56, b56_0, K56_0, b56_1, K56_1, R_cons, go_nx, go_jp, go_rt, go_th, go_ca, go_no, go_ite, rr_v, rr_n, rr_x, hx_n, hx_p, hx_b, I_push, I_pushl, I_fc0, I_fc1, I_dc0, I_null, I_mask, I_iload, I_lload, I_dload, I_fload, I_aload, I_istore, I_lstore, I_dstore, I_fstore, I_astore, I_iinc, I_iadd, I_isub, I_imul, I_iand, I_ior, I_ixor, I_ishl, I_ishr, I_iushr, I_ineg, I_ladd, I_lsub, I_lmul, I_lxor, I_i2l, I_l2i, I_i2b, I_i2c, I_i2f, I_i2d, I_lcmp, I_fdiv, I_ddiv, I_f2d, I_dcmp, I_dup, I_pop, I_dup_x1, I_dup2, I_icne, I_iceq, I_iclt, I_icge, I_icgt, I_icle, I_ifnull, I_ifnonnull, I_ane, I_aeq, I_goto, I_lsw, I_iret, I_lret, I_fret, I_dret, I_vret, I_nret, I_aret, I_iald, I_bald, I_lald, I_aald, I_iast, I_bast, I_last, I_aast, I_alen, I_new, I_val, I_cast, I_inst, I_obj, I_throw, I_mkx, I_getf, I_putf, I_call, I_calli, I_callv, I_clone, I_getc, i_ifeq, i_ifne, i_iflt, i_ifge, i_ifgt, i_ifle, i_idiv, i_irem, i_newa, i_newo, i_abs, i_max, i_min, i_ldiv, en_, es_i, es_r, es_0, es_n, es_l, List.length_cons, List.length_nil, List.cons_append, List.nil_append, Nat.reduceAdd, Nat.reduceSub, List.replicate, lg_, st1_, st2_, cn_, nl_, mk_, pk_, kd_, sl_, la_, ft_a, ft_i, ft_l, ft_o, ft_n, ft_b0, ft_b1, ft_bI, nr_0, nr_1, nr_bI, ro_, no_, if_true, if_false, ite_true, ite_false, reduceIte, Nat.reduceMod, Nat.reduceEqDiff, Nat.zero_add, Nat.add_zero, lk_, lit_, nI_add, nI_mul, ix_nI, fgk_0, fgk_1, fgk_2, fgk_3, fgk_4, fgk_5, fgk_6, fgk_7, fgk_8, fgk_9, fgk_10, fgk_11, fgk_12, fgk_13, fsk_0, fsk_1, fsk_2, fsk_3, fsk_4, fsk_5, fsk_6, fsk_7, fsk_8, fsk_9, fsk_10, fsk_11, fsk_12, fsk_13, ca_i, ca_r, ca_n, Nat.reduceLT, true_or, or_true, if_true, false_or, or_false, and_true, true_and, List.mem_singleton, eq_self, h1, hul]
    · dsimp only
      rw [up_s, List.getLast?_cons_cons]
      rfl
    · dsimp only
      have hzm := List.mem_of_getElem? hz
      have hzl : z ≠ hl := fun q => hne (by rw [← q]; exact List.mem_cons_of_mem _ hzm)
      have hzx : z ≠ x := fun q => (List.nodup_cons.mp h3).1 (q ▸ hzm)
      obtain ⟨u, u1, u2⟩ := h4 (i + 1) z (by rw [List.getElem?_cons_succ]; exact hz)
      refine ⟨u, by rwa [List.getElem?_cons_succ] at u1, ?_⟩
      rw [up_n hzl]
      cases i with
      | zero =>
        simp at hz
        subst hz
        rw [w1] at u1
        cases u1
        rw [up_s]
        rfl
      | succ i =>
        have hzy : z ≠ y := fun q => by
          subst q
          rw [List.getElem?_cons_succ] at hz
          have := List.mem_of_getElem? hz
          exact (List.nodup_cons.mp (List.nodup_cons.mp h3).2).1 this
        rw [up_n hzy, up_n hzx, u2]
        rfl
    · dsimp only
      rw [up_n hzl, up_n (fun q => hzn (by rw [q]; simp)), up_n (fun q => hzn (by rw [q]; simp))]
      exact hz
    · intro z hz
      dsimp only at hz ⊢
      rw [up_n (by omega), up_n (by omega), up_n (by omega)]
      exact hw z hz
/-- the last wall goes -/
theorem H_removeLast {y v : Nat} {l vs : List Nat} (hH : Hi_ σ.2.2 hl (l ++ [y]) (vs ++ [v])) (hw : Hw_ σ) (hn : l.length < 100) :
    ∃ σ', D_ E 59 [.ref hl] σ = some (.inl (some (.ref v)), σ') ∧ Hi_ σ'.2.2 hl l vs ∧ (∀ z c, σ.2.2 z = some c → z ≠ hl → z ∉ l ++ [y] → σ'.2.2 z = some c) ∧ Hw_ σ' ∧ σ'.1 = σ.1 ∧ σ'.2.1 = σ.2.1 := by
  have hne := Hi_ne hH
  obtain ⟨mc, h1, h2, h3, h4⟩ := hH
  have hll := Hw_lt hw h1
  have hlv : l.length = vs.length := by simpa using h2
  have hyi : (l ++ [y])[l.length]? = some y := by simp
  obtain ⟨v', v1, y1⟩ := h4 _ _ hyi
  have ev : v' = v := by
    rw [hlv] at v1
    simpa using v1.symm
  subst ev
  have hyl : y ≠ hl := fun q => hne (by rw [← q]; simp)
  have hylt := Hw_lt hw y1
  have hsz : nI (l ++ [y]).length - nI 1 = nI l.length := by rw [nI_sub (by simp)]; simp
  have hh : ov_ (l ++ [y]).getLast? = .ref y := by simp [ov_]
  have hny : ov_ (l ++ [y])[l.length + 1]? = .null := by simp [ov_]
  rw [hh] at h1
  rw [hny] at y1
  rcases List.eq_nil_or_concat l with e | ⟨k, u, e⟩
  · subst e
    have hpy : ov_ (prv_ ([] ++ [y]) ([] : List Nat).length) = .null := rfl
    have hhy : ov_ ([] ++ [y]).head? = .ref y := rfl
    rw [hpy] at y1
    rw [hhy] at h1
    have hul : D_ E 60 [.ref hl, .ref y] σ = some (.inl (some (.ref v')), (σ.1, σ.2.1, up_ (up_ σ.2.2 y (.inr (14, [.null, .null, .null]))) hl (.inr (13, [.int (mc + nI 1), .int (nI ([] : List Nat).length), .null, .null])))) := by
      rw [D_run]
      have hs0 : nI 1 - nI 1 = nI 0 := by decide
      simp (disch := omega) only [l60, b60_0, K60_0, b60_1, K60_1, b60_2, K60_2, R_cons, go_nx, go_jp, go_rt, go_th, go_ca, go_no, go_ite, rr_v, rr_n, rr_x, hx_n, hx_p, hx_b, I_push, I_pushl, I_fc0, I_fc1, I_dc0, I_null, I_mask, I_iload, I_lload, I_dload, I_fload, I_aload, I_istore, I_lstore, I_dstore, I_fstore, I_astore, I_iinc, I_iadd, I_isub, I_imul, I_iand, I_ior, I_ixor, I_ishl, I_ishr, I_iushr, I_ineg, I_ladd, I_lsub, I_lmul, I_lxor, I_i2l, I_l2i, I_i2b, I_i2c, I_i2f, I_i2d, I_lcmp, I_fdiv, I_ddiv, I_f2d, I_dcmp, I_dup, I_pop, I_dup_x1, I_dup2, I_icne, I_iceq, I_iclt, I_icge, I_icgt, I_icle, I_ifnull, I_ifnonnull, I_ane, I_aeq, I_goto, I_lsw, I_iret, I_lret, I_fret, I_dret, I_vret, I_nret, I_aret, I_iald, I_bald, I_lald, I_aald, I_iast, I_bast, I_last, I_aast, I_alen, I_new, I_val, I_cast, I_inst, I_obj, I_throw, I_mkx, I_getf, I_putf, I_call, I_calli, I_callv, I_clone, I_getc, i_ifeq, i_ifne, i_iflt, i_ifge, i_ifgt, i_ifle, i_idiv, i_irem, i_newa, i_newo, i_abs, i_max, i_min, i_ldiv, en_, es_i, es_r, es_0, es_n, es_l, List.length_cons, List.length_nil, List.cons_append, List.nil_append, Nat.reduceAdd, Nat.reduceSub, List.replicate, lg_, st1_, st2_, cn_, nl_, mk_, pk_, kd_, sl_, la_, ft_a, ft_i, ft_l, ft_o, ft_n, ft_b0, ft_b1, ft_bI, nr_0, nr_1, nr_bI, ro_, no_, if_true, if_false, ite_true, ite_false, reduceIte, Nat.reduceMod, Nat.reduceEqDiff, Nat.zero_add, Nat.add_zero, lk_, lit_, nI_add, nI_mul, ix_nI, fgk_0, fgk_1, fgk_2, fgk_3, fgk_4, fgk_5, fgk_6, fgk_7, fgk_8, fgk_9, fgk_10, fgk_11, fgk_12, fgk_13, fsk_0, fsk_1, fsk_2, fsk_3, fsk_4, fsk_5, fsk_6, fsk_7, fsk_8, fsk_9, fsk_10, fsk_11, fsk_12, fsk_13, ca_i, ca_r, ca_n, Nat.reduceLT, true_or, or_true, if_true, false_or, or_false, and_true, true_and, List.mem_singleton, eq_self, h1, y1, up_n, up_s, up_up, up_3, hs0]
    refine ⟨(σ.1, σ.2.1, up_ (up_ σ.2.2 y (.inr (14, [.null, .null, .null]))) hl (.inr (13, [.int (mc + nI 1), .int (nI ([] : List Nat).length), .null, .null]))), ?_, ⟨mc + nI 1, up_s _ _ _, hlv, by simp, fun i z hz => by simp at hz⟩, fun z c hz hzl hzn => ?_, ?_, rfl, rfl⟩
    · rw [D_run]
      simp (disch := omega) only [l59, b59_0, K59_0, b59_1, K59_1, R_cons, go_nx, go_jp, go_rt, go_th, go_ca, go_no, go_ite, rr_v, rr_n, rr_x, hx_n, hx_p, hx_b, I_push, I_pushl, I_fc0, I_fc1, I_dc0, I_null, I_mask, I_iload, I_lload, I_dload, I_fload, I_aload, I_istore, I_lstore, I_dstore, I_fstore, I_astore, I_iinc, I_iadd, I_isub, I_imul, I_iand, I_ior, I_ixor, I_ishl, I_ishr, I_iushr, I_ineg, I_ladd, I_lsub, I_lmul, I_lxor, I_i2l, I_l2i, I_i2b, I_i2c, I_i2f, I_i2d, I_lcmp, I_fdiv, I_ddiv, I_f2d, I_dcmp, I_dup, I_pop, I_dup_x1, I_dup2, I_icne, I_iceq, I_iclt, I_icge, I_icgt, I_icle, I_ifnull, I_ifnonnull, I_ane, I_aeq, I_goto, I_lsw, I_iret, I_lret, I_fret, I_dret, I_vret, I_nret, I_aret, I_iald, I_bald, I_lald, I_aald, I_iast, I_bast, I_last, I_aast, I_alen, I_new, I_val, I_cast, I_inst, I_obj, I_throw, I_mkx, I_getf, I_putf, I_call, I_calli, I_callv, I_clone, I_getc, i_ifeq, i_ifne, i_iflt, i_ifge, i_ifgt, i_ifle, i_idiv, i_irem, i_newa, i_newo, i_abs, i_max, i_min, i_ldiv, en_, es_i, es_r, es_0, es_n, es_l, List.length_cons, List.length_nil, List.cons_append, List.nil_append, Nat.reduceAdd, Nat.reduceSub, List.replicate, lg_, st1_, st2_, cn_, nl_, mk_, pk_, kd_, sl_, la_, ft_a, ft_i, ft_l, ft_o, ft_n, ft_b0, ft_b1, ft_bI, nr_0, nr_1, nr_bI, ro_, no_, if_true, if_false, ite_true, ite_false, reduceIte, Nat.reduceMod, Nat.reduceEqDiff, Nat.zero_add, Nat.add_zero, lk_, lit_, nI_add, nI_mul, ix_nI, fgk_0, fgk_1, fgk_2, fgk_3, fgk_4, fgk_5, fgk_6, fgk_7, fgk_8, fgk_9, fgk_10, fgk_11, fgk_12, fgk_13, fsk_0, fsk_1, fsk_2, fsk_3, fsk_4, fsk_5, fsk_6, fsk_7, fsk_8, fsk_9, fsk_10, fsk_11, fsk_12, fsk_13, ca_i, ca_r, ca_n, Nat.reduceLT, true_or, or_true, if_true, false_or, or_false, and_true, true_and, List.mem_singleton, eq_self, h1, hul]
    · dsimp only
      rw [up_n hzl, up_n (fun q => hzn (by rw [q]; simp))]
      exact hz
    · intro z hz
      dsimp only at hz ⊢
      rw [up_n (by omega), up_n (by omega)]
      exact hw z hz
  · rw [List.concat_eq_append] at e
    subst e
    have hui : (k ++ [u] ++ [y])[k.length]? = some u := by simp
    obtain ⟨wu, u1, u2⟩ := h4 _ _ hui
    have hul0 : u ≠ hl := fun q => hne (by rw [← q]; simp)
    have hult := Hw_lt hw u2
    have hklen : (k ++ [u]).length = k.length + 1 := by simp
    have hnd := List.nodup_append.mp h3
    have huy : u ≠ y := hnd.2.2 u (by simp) y (by simp)
    have hpy : ov_ (prv_ (k ++ [u] ++ [y]) (k ++ [u]).length) = .ref u := by
      unfold prv_
      rw [if_neg (by omega), hklen, Nat.add_sub_cancel, hui]
      rfl
    have hnu : ov_ (k ++ [u] ++ [y])[k.length + 1]? = .ref y := by
      rw [List.getElem?_append_right (by omega), hklen]
      simp [ov_]
    rw [hpy] at y1
    rw [hnu] at u2
    have hul : D_ E 60 [.ref hl, .ref y] σ = some (.inl (some (.ref v')), (σ.1, σ.2.1, up_ (up_ (up_ σ.2.2 y (.inr (14, [.null, .null, .null]))) u (.inr (14, [.ref wu, .null, ov_ (prv_ (k ++ [u] ++ [y]) k.length)]))) hl (.inr (13, [.int (mc + nI 1), .int (nI (k ++ [u]).length), ov_ (k ++ [u] ++ [y]).head?, .ref u])))) := by
      rw [D_run]
      simp (disch := omega) only [l60, b60_0, K60_0, b60_1, K60_1, b60_2, K60_2, R_cons, go_nx, go_jp, go_rt, go_th, go_ca, go_no, go_ite, rr_v, rr_n, rr_x, hx_n, hx_p, hx_b, I_push, I_pushl, I_fc0, I_fc1, I_dc0, I_null, I_mask, I_iload, I_lload, I_dload, I_fload, I_aload, I_istore, I_lstore, I_dstore, I_fstore, I_astore, I_iinc, I_iadd, I_isub, I_imul, I_iand, I_ior, I_ixor, I_ishl, I_ishr, I_iushr, I_ineg, I_ladd, I_lsub, I_lmul, I_lxor, I_i2l, I_l2i, I_i2b, I_i2c, I_i2f, I_i2d, I_lcmp, I_fdiv, I_ddiv, I_f2d, I_dcmp, I_dup, I_pop, I_dup_x1, I_dup2, I_icne, I_iceq, I_iclt, I_icge, I_icgt, I_icle, I_ifnull, I_ifnonnull, I_ane, I_aeq, I_goto, I_lsw, I_iret, I_lret, I_fret, I_dret, I_vret, I_nret, I_aret, I_iald, I_bald, I_lald, I_aald, I_iast, I_bast, I_last, I_aast, I_alen, I_new, I_val, I_cast, I_inst, I_obj, I_throw, I_mkx, I_getf, I_putf, I_call, I_calli, I_callv, I_clone, I_getc, i_ifeq, i_ifne, i_iflt, i_ifge, i_ifgt, i_ifle, i_idiv, i_irem, i_newa, i_newo, i_abs, i_max, i_min, i_ldiv, en_, es_i, es_r, es_0, es_n, es_l, List.length_cons, List.length_nil, List.cons_append, List.nil_append, Nat.reduceAdd, Nat.reduceSub, List.replicate, lg_, st1_, st2_, cn_, nl_, mk_, pk_, kd_, sl_, la_, ft_a, ft_i, ft_l, ft_o, ft_n, ft_b0, ft_b1, ft_bI, nr_0, nr_1, nr_bI, ro_, no_, if_true, if_false, ite_true, ite_false, reduceIte, Nat.reduceMod, Nat.reduceEqDiff, Nat.zero_add, Nat.add_zero, lk_, lit_, nI_add, nI_mul, ix_nI, fgk_0, fgk_1, fgk_2, fgk_3, fgk_4, fgk_5, fgk_6, fgk_7, fgk_8, fgk_9, fgk_10, fgk_11, fgk_12, fgk_13, fsk_0, fsk_1, fsk_2, fsk_3, fsk_4, fsk_5, fsk_6, fsk_7, fsk_8, fsk_9, fsk_10, fsk_11, fsk_12, fsk_13, ca_i, ca_r, ca_n, Nat.reduceLT, true_or, or_true, if_true, false_or, or_false, and_true, true_and, List.mem_singleton, eq_self, h1, y1, u2, up_n, up_s, up_up, up_3, hsz]
    refine ⟨(σ.1, σ.2.1, up_ (up_ (up_ σ.2.2 y (.inr (14, [.null, .null, .null]))) u (.inr (14, [.ref wu, .null, ov_ (prv_ (k ++ [u] ++ [y]) k.length)]))) hl (.inr (13, [.int (mc + nI 1), .int (nI (k ++ [u]).length), ov_ (k ++ [u] ++ [y]).head?, .ref u]))), ?_, ⟨mc + nI 1, ?_, hlv, hnd.1, fun i z hz => ?_⟩, fun z c hz hzl hzn => ?_, ?_, rfl, rfl⟩
    · rw [D_run]
      simp (disch := omega) only [l59, b59_0, K59_0, b59_1, K59_1, R_cons, go_nx, go_jp, go_rt, go_th, go_ca, go_no, go_ite, rr_v, rr_n, rr_x, hx_n, hx_p, hx_b, I_push, I_pushl, I_fc0, I_fc1, I_dc0, I_null, I_mask, I_iload, I_lload, I_dload, I_fload, I_aload, I_istore, I_lstore, I_dstore, I_fstore, I_astore, I_iinc, I_iadd, I_isub, I_imul, I_iand, I_ior, I_ixor, I_ishl, I_ishr, I_iushr, I_ineg, I_ladd, I_lsub, I_lmul, I_lxor, I_i2l, I_l2i, I_i2b, I_i2c, I_i2f, I_i2d, I_lcmp, I_fdiv, I_ddiv, I_f2d, I_dcmp, I_dup, I_pop, I_dup_x1, I_dup2, I_icne, I_iceq, I_iclt, I_icge, I_icgt, I_icle, I_ifnull, I_ifnonnull, I_ane, I_aeq, I_goto, I_lsw, I_iret, I_lret, I_fret, I_dret, I_vret, I_nret, I_aret, I_iald, I_bald, I_lald, I_aald, I_iast, I_bast, I_last, I_aast, I_alen, I_new, I_val, I_cast, I_inst, I_obj, I_throw, I_mkx, I_getf, I_putf, I_call, I_calli, I_callv, I_clone, I_getc, i_ifeq, i_ifne, i_iflt, i_ifge, i_ifgt, i_ifle, i_idiv, i_irem, i_newa, i_newo, i_abs, i_max, i_min, i_ldiv, en_, es_i, es_r, es_0, es_n, es_l, List.length_cons, List.length_nil, List.cons_append, List.nil_append, Nat.reduceAdd, Nat.reduceSub, List.replicate, lg_, st1_, st2_, cn_, nl_, mk_, pk_, kd_, sl_, la_, ft_a, ft_i, ft_l, ft_o, ft_n, ft_b0, ft_b1, ft_bI, nr_0, nr_1, nr_bI, ro_, no_, if_true, if_false, ite_true, ite_false, reduceIte, Nat.reduceMod, Nat.reduceEqDiff, Nat.zero_add, Nat.add_zero, lk_, lit_, nI_add, nI_mul, ix_nI, fgk_0, fgk_1, fgk_2, fgk_3, fgk_4, fgk_5, fgk_6, fgk_7, fgk_8, fgk_9, fgk_10, fgk_11, fgk_12, fgk_13, fsk_0, fsk_1, fsk_2, fsk_3, fsk_4, fsk_5, fsk_6, fsk_7, fsk_8, fsk_9, fsk_10, fsk_11, fsk_12, fsk_13, ca_i, ca_r, ca_n, Nat.reduceLT, true_or, or_true, if_true, false_or, or_false, and_true, true_and, List.mem_singleton, eq_self, h1, hul]
    · dsimp only
      have e2 : (k ++ [u] ++ [y]).head? = (k ++ [u]).head? := by cases k <;> simp
      have e3 : (k ++ [u]).getLast? = some u := by simp
      rw [up_s, e2, e3]
      rfl
    · dsimp only
      have hil := (List.getElem?_eq_some_iff.mp hz).1
      have hzm := List.mem_of_getElem? hz
      have hzl : z ≠ hl := fun q => hne (by rw [← q]; exact List.mem_append_left _ hzm)
      have hzy : z ≠ y := hnd.2.2 z hzm y (by simp)
      obtain ⟨a, a1, a2⟩ := h4 i z (by rw [List.getElem?_append_left hil]; exact hz)
      refine ⟨a, by rw [List.getElem?_append_left (by omega)] at a1; exact a1, ?_⟩
      have hpv : prv_ (k ++ [u] ++ [y]) i = prv_ (k ++ [u]) i := by
        unfold prv_
        by_cases c : i = 0
        · rw [if_pos c, if_pos c]
        · rw [if_neg c, if_neg c, List.getElem?_append_left (by omega)]
      rw [up_n hzl]
      by_cases cu : i = k.length
      · subst cu
        have : z = u := by
          have e4 : (k ++ [u])[k.length]? = some u := by simp
          rw [e4] at hz
          exact (Option.some.inj hz).symm
        subst this
        have e5 : (k ++ [z] ++ [y])[k.length]? = some z := by simp
        rw [u1] at a1
        cases a1
        rw [up_s, hpv]
        have e6 : (k ++ [z])[k.length + 1]? = none := by simp
        rw [e6]
        rfl
      · have hzu : z ≠ u := fun q => by
          subst q
          have e4 : (k ++ [z])[k.length]? = some z := by simp
          obtain ⟨b1, b2⟩ := List.getElem?_eq_some_iff.mp e4
          obtain ⟨c1, c2⟩ := List.getElem?_eq_some_iff.mp hz
          have e3 : (k ++ [z])[i] = (k ++ [z])[k.length] := by rw [c2, b2]
          rcases Nat.lt_trichotomy i k.length with q | q | q
          · exact absurd e3 (List.pairwise_iff_getElem.1 hnd.1 i _ c1 b1 q)
          · exact cu q
          · omega
        rw [up_n hzu, up_n hzy, a2, hpv, List.getElem?_append_left (by omega)]
    · dsimp only
      rw [up_n hzl, up_n (fun q => hzn (by rw [q]; simp)), up_n (fun q => hzn (by rw [q]; simp))]
      exact hz
    · intro z hz
      dsimp only at hz ⊢
      rw [up_n (by omega), up_n (by omega), up_n (by omega)]
      exact hw z hz
end LNK
