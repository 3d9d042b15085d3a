section REM
variable {E : En_} {σ : As_} {hl w p n s : Nat} {ns ws : List Nat} {r : Nat → Int32} {ms ss : List Nat}
/-- nodes in a row -/
def Ch_ (h : Nat → Option Ac_) : List Nat → Prop
  | [] => True
  | x :: l => (∃ v q, h x = some (.inr (14, [v, ov_ l.head?, q]))) ∧ Ch_ h l
theorem Ch_up {h : Nat → Option Ac_} {x : Nat} {c : Ac_} : ∀ (l : List Nat), x ∉ l → Ch_ h l → Ch_ (up_ h x c) l := by
  intro l
  induction l with
  | nil => intro _ _; trivial
  | cons y l ih =>
    intro hx h1
    obtain ⟨⟨v, q, h2⟩, h3⟩ := h1
    exact ⟨⟨v, q, by rw [up_n (fun e => hx (by rw [← e]; simp))]; exact h2⟩, ih (fun e => hx (List.mem_cons_of_mem _ e)) h3⟩
theorem Hi_Ch (hH : Hi_ σ.2.2 hl ns ws) : Ch_ σ.2.2 ns := by
  obtain ⟨mc, h1, h2, h3, h4⟩ := hH
  have : ∀ (k : Nat) (l : List Nat), (∀ i, l[i]? = ns[k + i]?) → Ch_ σ.2.2 l := by
    intro k l
    induction l generalizing k with
    | nil => intro _; trivial
    | cons x l ih =>
      intro hi
      have h0 := hi 0
      rw [List.getElem?_cons_zero, Nat.add_zero] at h0
      obtain ⟨v, _, v2⟩ := h4 k x h0.symm
      have h5 := hi 1
      rw [List.getElem?_cons_succ] at h5
      refine ⟨⟨.ref v, _, by rw [v2, ← h5]; rw [List.head?_eq_getElem?]⟩, ih (k + 1) (fun i => ?_)⟩
      have := hi (i + 1)
      rw [List.getElem?_cons_succ] at this
      rw [this]
      congr 1
      omega
  exact this 0 ns (fun i => by rw [Nat.zero_add])
theorem clr_lp : ∀ (l : List Nat) (σ : As_) (u : Option Value), Ch_ σ.2.2 l → l.Nodup → Hw_ σ →
    ∃ σ', R_ E 55 (B_ E 55 1) [some (.ref hl), some (ov_ l.head?), u] [] σ = R_ E 55 (B_ E 55 2) [some (.ref hl), some .null, none] [] σ' ∧ (∀ z c, σ.2.2 z = some c → z ∉ l → σ'.2.2 z = some c) ∧ Hw_ σ' ∧ σ'.1 = σ.1 ∧ σ'.2.1 = σ.2.1 := by
  intro l
  induction l with
  | nil =>
    intro σ u _ _ hw
    refine ⟨σ, ?_, fun z c hz _ => hz, hw, rfl, rfl⟩
    rw [show ov_ ([] : List Nat).head? = .null from rfl]
    conv => lhs; rw [b55_1]
    simp (disch := omega) only [K55_1, R_cons, go_nx, go_jp, go_rt, go_th, go_ca, go_no, go_ite, rr_v, rr_n, rr_x, hx_n, hx_p, hx_b, I_push, I_pushl, I_fc0, I_fc1, I_dc0, I_null, I_mask, I_iload, I_lload, I_dload, I_fload, I_aload, I_istore, I_lstore, I_dstore, I_fstore, I_astore, I_iinc, I_iadd, I_isub, I_imul, I_iand, I_ior, I_ixor, I_ishl, I_ishr, I_iushr, I_ineg, I_ladd, I_lsub, I_lmul, I_lxor, I_i2l, I_l2i, I_i2b, I_i2c, I_i2f, I_i2d, I_lcmp, I_fdiv, I_ddiv, I_f2d, I_dcmp, I_dup, I_pop, I_dup_x1, I_dup2, I_icne, I_iceq, I_iclt, I_icge, I_icgt, I_icle, I_ifnull, I_ifnonnull, I_ane, I_aeq, I_goto, I_lsw, I_iret, I_lret, I_fret, I_dret, I_vret, I_nret, I_aret, I_iald, I_bald, I_lald, I_aald, I_iast, I_bast, I_last, I_aast, I_alen, I_new, I_val, I_cast, I_inst, I_obj, I_throw, I_mkx, I_getf, I_putf, I_call, I_calli, I_callv, I_clone, I_getc, i_ifeq, i_ifne, i_iflt, i_ifge, i_ifgt, i_ifle, i_idiv, i_irem, i_newa, i_newo, i_abs, i_max, i_min, i_ldiv, en_, es_i, es_r, es_0, es_n, es_l, List.length_cons, List.length_nil, List.cons_append, List.nil_append, Nat.reduceAdd, Nat.reduceSub, List.replicate, lg_, st1_, st2_, cn_, nl_, mk_, pk_, kd_, sl_, la_, ft_a, ft_i, ft_l, ft_o, ft_n, ft_b0, ft_b1, ft_bI, nr_0, nr_1, nr_bI, ro_, no_, if_true, if_false, ite_true, ite_false, reduceIte, Nat.reduceMod, Nat.reduceEqDiff, Nat.zero_add, Nat.add_zero, lk_, lit_, nI_add, nI_mul, ix_nI, fgk_0, fgk_1, fgk_2, fgk_3, fgk_4, fgk_5, fgk_6, fgk_7, fgk_8, fgk_9, fgk_10, fgk_11, fgk_12, fgk_13, fsk_0, fsk_1, fsk_2, fsk_3, fsk_4, fsk_5, fsk_6, fsk_7, fsk_8, fsk_9, fsk_10, fsk_11, fsk_12, fsk_13, ca_i, ca_r, ca_n, Nat.reduceLT, true_or, or_true, if_true, false_or, or_false, and_true, true_and, List.mem_singleton, eq_self]
  | cons x l ih =>
    intro σ u hC hd hw
    obtain ⟨⟨v, q, h1⟩, h2⟩ := hC
    obtain ⟨hd1, hd2⟩ := List.nodup_cons.mp hd
    have hxl := Hw_lt hw h1
    obtain ⟨σ', g1, g2, g3, g4, g5⟩ := ih (σ.1, σ.2.1, up_ σ.2.2 x (.inr (14, [.null, .null, .null]))) (some (ov_ l.head?)) (Ch_up l hd1 h2) hd2 (up_Hw hw hxl)
    refine ⟨σ', ?_, fun z c hz hzl => g2 z c (by
      dsimp only
      rw [up_n (fun e => hzl (by rw [e]; simp))]
      exact hz) (fun e => hzl (List.mem_cons_of_mem _ e)), g3, g4, g5⟩
    rw [← g1, show ov_ (x :: l).head? = .ref x from rfl]
    conv => lhs; rw [b55_1]
    cases hq : l.head? with
    | none =>
      rw [hq, show ov_ none = .null from rfl] at h1
      rw [show ov_ none = .null from rfl]
      simp (disch := omega) only [K55_1, R_cons, go_nx, go_jp, go_rt, go_th, go_ca, go_no, go_ite, rr_v, rr_n, rr_x, hx_n, hx_p, hx_b, I_push, I_pushl, I_fc0, I_fc1, I_dc0, I_null, I_mask, I_iload, I_lload, I_dload, I_fload, I_aload, I_istore, I_lstore, I_dstore, I_fstore, I_astore, I_iinc, I_iadd, I_isub, I_imul, I_iand, I_ior, I_ixor, I_ishl, I_ishr, I_iushr, I_ineg, I_ladd, I_lsub, I_lmul, I_lxor, I_i2l, I_l2i, I_i2b, I_i2c, I_i2f, I_i2d, I_lcmp, I_fdiv, I_ddiv, I_f2d, I_dcmp, I_dup, I_pop, I_dup_x1, I_dup2, I_icne, I_iceq, I_iclt, I_icge, I_icgt, I_icle, I_ifnull, I_ifnonnull, I_ane, I_aeq, I_goto, I_lsw, I_iret, I_lret, I_fret, I_dret, I_vret, I_nret, I_aret, I_iald, I_bald, I_lald, I_aald, I_iast, I_bast, I_last, I_aast, I_alen, I_new, I_val, I_cast, I_inst, I_obj, I_throw, I_mkx, I_getf, I_putf, I_call, I_calli, I_callv, I_clone, I_getc, i_ifeq, i_ifne, i_iflt, i_ifge, i_ifgt, i_ifle, i_idiv, i_irem, i_newa, i_newo, i_abs, i_max, i_min, i_ldiv, en_, es_i, es_r, es_0, es_n, es_l, List.length_cons, List.length_nil, List.cons_append, List.nil_append, Nat.reduceAdd, Nat.reduceSub, List.replicate, lg_, st1_, st2_, cn_, nl_, mk_, pk_, kd_, sl_, la_, ft_a, ft_i, ft_l, ft_o, ft_n, ft_b0, ft_b1, ft_bI, nr_0, nr_1, nr_bI, ro_, no_, if_true, if_false, ite_true, ite_false, reduceIte, Nat.reduceMod, Nat.reduceEqDiff, Nat.zero_add, Nat.add_zero, lk_, lit_, nI_add, nI_mul, ix_nI, fgk_0, fgk_1, fgk_2, fgk_3, fgk_4, fgk_5, fgk_6, fgk_7, fgk_8, fgk_9, fgk_10, fgk_11, fgk_12, fgk_13, fsk_0, fsk_1, fsk_2, fsk_3, fsk_4, fsk_5, fsk_6, fsk_7, fsk_8, fsk_9, fsk_10, fsk_11, fsk_12, fsk_13, ca_i, ca_r, ca_n, Nat.reduceLT, true_or, or_true, if_true, false_or, or_false, and_true, true_and, List.mem_singleton, eq_self, h1, up_s, up_up]
    | some y =>
      rw [hq, show ov_ (some y) = .ref y from rfl] at h1
      rw [show ov_ (some y) = .ref y from rfl]
      simp (disch := omega) only [K55_1, R_cons, go_nx, go_jp, go_rt, go_th, go_ca, go_no, go_ite, rr_v, rr_n, rr_x, hx_n, hx_p, hx_b, I_push, I_pushl, I_fc0, I_fc1, I_dc0, I_null, I_mask, I_iload, I_lload, I_dload, I_fload, I_aload, I_istore, I_lstore, I_dstore, I_fstore, I_astore, I_iinc, I_iadd, I_isub, I_imul, I_iand, I_ior, I_ixor, I_ishl, I_ishr, I_iushr, I_ineg, I_ladd, I_lsub, I_lmul, I_lxor, I_i2l, I_l2i, I_i2b, I_i2c, I_i2f, I_i2d, I_lcmp, I_fdiv, I_ddiv, I_f2d, I_dcmp, I_dup, I_pop, I_dup_x1, I_dup2, I_icne, I_iceq, I_iclt, I_icge, I_icgt, I_icle, I_ifnull, I_ifnonnull, I_ane, I_aeq, I_goto, I_lsw, I_iret, I_lret, I_fret, I_dret, I_vret, I_nret, I_aret, I_iald, I_bald, I_lald, I_aald, I_iast, I_bast, I_last, I_aast, I_alen, I_new, I_val, I_cast, I_inst, I_obj, I_throw, I_mkx, I_getf, I_putf, I_call, I_calli, I_callv, I_clone, I_getc, i_ifeq, i_ifne, i_iflt, i_ifge, i_ifgt, i_ifle, i_idiv, i_irem, i_newa, i_newo, i_abs, i_max, i_min, i_ldiv, en_, es_i, es_r, es_0, es_n, es_l, List.length_cons, List.length_nil, List.cons_append, List.nil_append, Nat.reduceAdd, Nat.reduceSub, List.replicate, lg_, st1_, st2_, cn_, nl_, mk_, pk_, kd_, sl_, la_, ft_a, ft_i, ft_l, ft_o, ft_n, ft_b0, ft_b1, ft_bI, nr_0, nr_1, nr_bI, ro_, no_, if_true, if_false, ite_true, ite_false, reduceIte, Nat.reduceMod, Nat.reduceEqDiff, Nat.zero_add, Nat.add_zero, lk_, lit_, nI_add, nI_mul, ix_nI, fgk_0, fgk_1, fgk_2, fgk_3, fgk_4, fgk_5, fgk_6, fgk_7, fgk_8, fgk_9, fgk_10, fgk_11, fgk_12, fgk_13, fsk_0, fsk_1, fsk_2, fsk_3, fsk_4, fsk_5, fsk_6, fsk_7, fsk_8, fsk_9, fsk_10, fsk_11, fsk_12, fsk_13, ca_i, ca_r, ca_n, Nat.reduceLT, true_or, or_true, if_true, false_or, or_false, and_true, true_and, List.mem_singleton, eq_self, h1, up_s, up_up]
theorem H_clear (hH : Hi_ σ.2.2 hl ns ws) (hw : Hw_ σ) : ∃ σ', D_ E 55 [.ref hl] σ = some (.inl none, σ') ∧ Hi_ σ'.2.2 hl [] [] ∧ (∀ z c, σ.2.2 z = some c → z ≠ hl → z ∉ ns → σ'.2.2 z = some c) ∧ Hw_ σ' ∧ σ'.1 = σ.1 ∧ σ'.2.1 = σ.2.1 := by
  have hne := Hi_ne hH
  have hC := Hi_Ch hH
  obtain ⟨mc, h1, h2, h3, h4⟩ := hH
  obtain ⟨σ1, g1, g2, g3, g4, g5⟩ := clr_lp (E := E) (hl := hl) ns σ none hC h3 hw
  have h1' := g2 _ _ h1 hne
  have hll := Hw_lt g3 h1'
  refine ⟨(σ1.1, σ1.2.1, up_ σ1.2.2 hl (.inr (13, [.int (mc + nI 1), .int (nI 0), .null, .null]))), ?_, ⟨mc + nI 1, up_s _ _ _, rfl, List.nodup_nil, fun i x hx => by simp at hx⟩, fun z c hz hzl hzn => ?_, up_Hw g3 hll, g4, g5⟩
  · rw [D_run]
    have hst : R_ E 55 (B_ E 55 0) (en_ (L_ 55) [.ref hl]) [] σ = R_ E 55 (B_ E 55 1) [some (.ref hl), some (ov_ ns.head?), none] [] σ := by
      cases hq : ns.head? with
      | none =>
        rw [hq, show ov_ none = .null from rfl] at h1
        rw [show ov_ none = .null from rfl]
        simp (disch := omega) only [b55_0, K55_0, l55, R_cons, go_nx, go_jp, go_rt, go_th, go_ca, go_no, go_ite, rr_v, rr_n, rr_x, hx_n, hx_p, hx_b, I_push, I_pushl, I_fc0, I_fc1, I_dc0, I_null, I_mask, I_iload, I_lload, I_dload, I_fload, I_aload, I_istore, I_lstore, I_dstore, I_fstore, I_astore, I_iinc, I_iadd, I_isub, I_imul, I_iand, I_ior, I_ixor, I_ishl, I_ishr, I_iushr, I_ineg, I_ladd, I_lsub, I_lmul, I_lxor, I_i2l, I_l2i, I_i2b, I_i2c, I_i2f, I_i2d, I_lcmp, I_fdiv, I_ddiv, I_f2d, I_dcmp, I_dup, I_pop, I_dup_x1, I_dup2, I_icne, I_iceq, I_iclt, I_icge, I_icgt, I_icle, I_ifnull, I_ifnonnull, I_ane, I_aeq, I_goto, I_lsw, I_iret, I_lret, I_fret, I_dret, I_vret, I_nret, I_aret, I_iald, I_bald, I_lald, I_aald, I_iast, I_bast, I_last, I_aast, I_alen, I_new, I_val, I_cast, I_inst, I_obj, I_throw, I_mkx, I_getf, I_putf, I_call, I_calli, I_callv, I_clone, I_getc, i_ifeq, i_ifne, i_iflt, i_ifge, i_ifgt, i_ifle, i_idiv, i_irem, i_newa, i_newo, i_abs, i_max, i_min, i_ldiv, en_, es_i, es_r, es_0, es_n, es_l, List.length_cons, List.length_nil, List.cons_append, List.nil_append, Nat.reduceAdd, Nat.reduceSub, List.replicate, lg_, st1_, st2_, cn_, nl_, mk_, pk_, kd_, sl_, la_, ft_a, ft_i, ft_l, ft_o, ft_n, ft_b0, ft_b1, ft_bI, nr_0, nr_1, nr_bI, ro_, no_, if_true, if_false, ite_true, ite_false, reduceIte, Nat.reduceMod, Nat.reduceEqDiff, Nat.zero_add, Nat.add_zero, lk_, lit_, nI_add, nI_mul, ix_nI, fgk_0, fgk_1, fgk_2, fgk_3, fgk_4, fgk_5, fgk_6, fgk_7, fgk_8, fgk_9, fgk_10, fgk_11, fgk_12, fgk_13, fsk_0, fsk_1, fsk_2, fsk_3, fsk_4, fsk_5, fsk_6, fsk_7, fsk_8, fsk_9, fsk_10, fsk_11, fsk_12, fsk_13, ca_i, ca_r, ca_n, Nat.reduceLT, true_or, or_true, if_true, false_or, or_false, and_true, true_and, List.mem_singleton, eq_self, h1]
      | some y =>
        rw [hq, show ov_ (some y) = .ref y from rfl] at h1
        rw [show ov_ (some y) = .ref y from rfl]
        simp (disch := omega) only [b55_0, K55_0, l55, R_cons, go_nx, go_jp, go_rt, go_th, go_ca, go_no, go_ite, rr_v, rr_n, rr_x, hx_n, hx_p, hx_b, I_push, I_pushl, I_fc0, I_fc1, I_dc0, I_null, I_mask, I_iload, I_lload, I_dload, I_fload, I_aload, I_istore, I_lstore, I_dstore, I_fstore, I_astore, I_iinc, I_iadd, I_isub, I_imul, I_iand, I_ior, I_ixor, I_ishl, I_ishr, I_iushr, I_ineg, I_ladd, I_lsub, I_lmul, I_lxor, I_i2l, I_l2i, I_i2b, I_i2c, I_i2f, I_i2d, I_lcmp, I_fdiv, I_ddiv, I_f2d, I_dcmp, I_dup, I_pop, I_dup_x1, I_dup2, I_icne, I_iceq, I_iclt, I_icge, I_icgt, I_icle, I_ifnull, I_ifnonnull, I_ane, I_aeq, I_goto, I_lsw, I_iret, I_lret, I_fret, I_dret, I_vret, I_nret, I_aret, I_iald, I_bald, I_lald, I_aald, I_iast, I_bast, I_last, I_aast, I_alen, I_new, I_val, I_cast, I_inst, I_obj, I_throw, I_mkx, I_getf, I_putf, I_call, I_calli, I_callv, I_clone, I_getc, i_ifeq, i_ifne, i_iflt, i_ifge, i_ifgt, i_ifle, i_idiv, i_irem, i_newa, i_newo, i_abs, i_max, i_min, i_ldiv, en_, es_i, es_r, es_0, es_n, es_l, List.length_cons, List.length_nil, List.cons_append, List.nil_append, Nat.reduceAdd, Nat.reduceSub, List.replicate, lg_, st1_, st2_, cn_, nl_, mk_, pk_, kd_, sl_, la_, ft_a, ft_i, ft_l, ft_o, ft_n, ft_b0, ft_b1, ft_bI, nr_0, nr_1, nr_bI, ro_, no_, if_true, if_false, ite_true, ite_false, reduceIte, Nat.reduceMod, Nat.reduceEqDiff, Nat.zero_add, Nat.add_zero, lk_, lit_, nI_add, nI_mul, ix_nI, fgk_0, fgk_1, fgk_2, fgk_3, fgk_4, fgk_5, fgk_6, fgk_7, fgk_8, fgk_9, fgk_10, fgk_11, fgk_12, fgk_13, fsk_0, fsk_1, fsk_2, fsk_3, fsk_4, fsk_5, fsk_6, fsk_7, fsk_8, fsk_9, fsk_10, fsk_11, fsk_12, fsk_13, ca_i, ca_r, ca_n, Nat.reduceLT, true_or, or_true, if_true, false_or, or_false, and_true, true_and, List.mem_singleton, eq_self, h1]
    rw [hst, g1, b55_2]
    simp (disch := omega) only [K55_2, R_cons, go_nx, go_jp, go_rt, go_th, go_ca, go_no, go_ite, rr_v, rr_n, rr_x, hx_n, hx_p, hx_b, I_push, I_pushl, I_fc0, I_fc1, I_dc0, I_null, I_mask, I_iload, I_lload, I_dload, I_fload, I_aload, I_istore, I_lstore, I_dstore, I_fstore, I_astore, I_iinc, I_iadd, I_isub, I_imul, I_iand, I_ior, I_ixor, I_ishl, I_ishr, I_iushr, I_ineg, I_ladd, I_lsub, I_lmul, I_lxor, I_i2l, I_l2i, I_i2b, I_i2c, I_i2f, I_i2d, I_lcmp, I_fdiv, I_ddiv, I_f2d, I_dcmp, I_dup, I_pop, I_dup_x1, I_dup2, I_icne, I_iceq, I_iclt, I_icge, I_icgt, I_icle, I_ifnull, I_ifnonnull, I_ane, I_aeq, I_goto, I_lsw, I_iret, I_lret, I_fret, I_dret, I_vret, I_nret, I_aret, I_iald, I_bald, I_lald, I_aald, I_iast, I_bast, I_last, I_aast, I_alen, I_new, I_val, I_cast, I_inst, I_obj, I_throw, I_mkx, I_getf, I_putf, I_call, I_calli, I_callv, I_clone, I_getc, i_ifeq, i_ifne, i_iflt, i_ifge, i_ifgt, i_ifle, i_idiv, i_irem, i_newa, i_newo, i_abs, i_max, i_min, i_ldiv, en_, es_i, es_r, es_0, es_n, es_l, List.length_cons, List.length_nil, List.cons_append, List.nil_append, Nat.reduceAdd, Nat.reduceSub, List.replicate, lg_, st1_, st2_, cn_, nl_, mk_, pk_, kd_, sl_, la_, ft_a, ft_i, ft_l, ft_o, ft_n, ft_b0, ft_b1, ft_bI, nr_0, nr_1, nr_bI, ro_, no_, if_true, if_false, ite_true, ite_false, reduceIte, Nat.reduceMod, Nat.reduceEqDiff, Nat.zero_add, Nat.add_zero, lk_, lit_, nI_add, nI_mul, ix_nI, fgk_0, fgk_1, fgk_2, fgk_3, fgk_4, fgk_5, fgk_6, fgk_7, fgk_8, fgk_9, fgk_10, fgk_11, fgk_12, fgk_13, fsk_0, fsk_1, fsk_2, fsk_3, fsk_4, fsk_5, fsk_6, fsk_7, fsk_8, fsk_9, fsk_10, fsk_11, fsk_12, fsk_13, ca_i, ca_r, ca_n, Nat.reduceLT, true_or, or_true, if_true, false_or, or_false, and_true, true_and, List.mem_singleton, eq_self, h1', up_s, up_up]
  · dsimp only
    rw [up_n hzl]
    exact g2 _ _ hz hzn
/-- a heap without some cells -/
def rsh_ (h : Nat → Option Ac_) (xs : List Nat) : Nat → Option Ac_ := fun y => if y ∈ xs then none else h y
theorem rsh_o {h : Nat → Option Ac_} {xs : List Nat} {y : Nat} (hy : y ∉ xs) : rsh_ h xs y = h y := if_neg hy
theorem rsh_i {h : Nat → Option Ac_} {xs : List Nat} {y : Nat} (hy : y ∈ xs) : rsh_ h xs y = none := if_pos hy
theorem rsh_le {h h' : Nat → Option Ac_} {xs : List Nat} (hk : ∀ y c, h y = some c → y ∉ xs → h' y = some c) : le_ (rsh_ h xs) h' := fun y c hy => by
  by_cases e : y ∈ xs
  · rw [rsh_i e] at hy; cases hy
  · rw [rsh_o e] at hy; exact hk y c hy e
/-- the object, its list and the list's nodes -/
def Mc_ (h : Nat → Option Ac_) (xs : List Nat) : Prop := ∀ y ∈ xs, ∃ k fs, h y = some (.inr (k, fs)) ∧ (k = 0 ∨ k = 13 ∨ k = 14)
theorem Mc_kp {h : Nat → Option Ac_} {xs : List Nat} (hM : Mc_ h xs) {y : Nat} {c : Ac_} (hy : h y = some c) (hc : ∀ k fs, c = .inr (k, fs) → ¬ (k = 0 ∨ k = 13 ∨ k = 14)) : y ∉ xs := fun e => by
  obtain ⟨k, fs, h1, h2⟩ := hM y e
  rw [hy] at h1
  exact hc k fs (Option.some.inj h1) h2
theorem Mc_gd {h : Nat → Option Ac_} {xs : List Nat} (hM : Mc_ h xs) {y : Nat} {c : Ac_} (hy : h y = some c) (hc : gd_ c) : y ∉ xs := Mc_kp hM hy (fun k fs e => by
  subst e
  unfold gd_ at hc
  omega)
theorem E7_rsh {h : Nat → Option Ac_} {xs : List Nat} (hM : Mc_ h xs) (h7 : E7_ E h) : E7_ E (rsh_ h xs) := by
  obtain ⟨d, e1, e2⟩ := h7
  exact ⟨d, e1, by rw [rsh_o (Mc_kp hM e2 (fun k fs e => by cases e))]; exact e2⟩
theorem E45_rsh {h : Nat → Option Ac_} {xs : List Nat} (hM : Mc_ h xs) (h4 : E45_ E h) : E45_ E (rsh_ h xs) := by
  obtain ⟨e0, c, f, tt, e1, e2, e3, e4⟩ := h4
  refine ⟨e0, c, f, tt, e1, by rw [rsh_o (Mc_kp hM e2 (fun k fs e => by cases e))]; exact e2, e3, fun k hk => ?_⟩
  obtain ⟨y, y1, cc, y2, y3⟩ := e4 k hk
  exact ⟨y, y1, cc, by rw [rsh_o (Mc_kp hM y2 (fun k fs e => by cases e; omega))]; exact y2, y3⟩
theorem LM_rsh {h : Nat → Option Ac_} {xs : List Nat} (hM : Mc_ h xs) (h1 : LM_ E h) : LM_ E (rsh_ h xs) := by
  obtain ⟨a, b, f, g, e1, e2, e3, e4, e5⟩ := h1
  exact ⟨a, b, f, g, e1, e2, by rw [rsh_o (Mc_kp hM e3 (fun k fs e => by cases e))]; exact e3, by rw [rsh_o (Mc_kp hM e4 (fun k fs e => by cases e))]; exact e4, e5⟩
theorem Wl_rsh {h : Nat → Option Ac_} {xs : List Nat} (hM : Mc_ h xs) (h1 : Wl_ E h w r ms ss) : Wl_ E (rsh_ h xs) w r ms ss := by
  obtain ⟨am, em, as, es, st, mc, mc', hA⟩ := h1
  exact ⟨am, em, as, es, st, mc, mc', WlA_kp (fun y c hy hc => by rw [rsh_o (Mc_gd hM hy hc)]; exact hy) hA⟩
theorem Mc_of {fs : List Value} (hp : σ.2.2 p = some (.inr (0, fs))) (hH : Hi_ σ.2.2 hl ns ws) : Mc_ σ.2.2 (p :: hl :: ns) := fun y hy => by
  rcases List.mem_cons.mp hy with e | hy
  · rw [e]; exact ⟨0, fs, hp, Or.inl rfl⟩
  · obtain ⟨mc, h1, h2, h3, h4⟩ := hH
    rcases List.mem_cons.mp hy with e | hy
    · rw [e]; exact ⟨13, _, h1, Or.inr (Or.inl rfl)⟩
    · obtain ⟨i, hi, e⟩ := List.getElem_of_mem hy
      obtain ⟨v, _, v2⟩ := h4 i y (by rw [List.getElem?_eq_getElem hi, e])
      exact ⟨14, _, v2, Or.inr (Or.inr rfl)⟩
/-- what the history is when a wall is remembered -/
def hpu_ (ws : List Nat) (w : Nat) : List Nat := (if ws.length = 10 then ws.tail else ws) ++ [w]
/-- what a change leaves: the wall before is remembered, the wall now has the row r' -/
def Mu_ (E : En_) (σ σ' : As_) (p w hl : Nat) (sv : Value) (ft : List Value) (ns ws : List Nat) (r' : Nat → Int32) (n s c : Nat) : Prop :=
  ∃ h0 w' am em as es st mc mc' ms' ss' ns', le_ (rsh_ σ.2.2 (p :: hl :: ns)) h0 ∧ h0 p = some (.inr (0, .ref w' :: sv :: .ref hl :: ft)) ∧ Hi_ h0 hl ns' (hpu_ ws w) ∧ WY_ E h0 σ' w' r' am em as es st mc mc' ms' ss' ∧ ms'.length = n ∧ ss'.length = s ∧ (∀ x ∈ ns', x ∈ ns ∨ σ.1 ≤ x) ∧ ns'.length ≤ 10 ∧ Sz_ c σ σ'
theorem Mu_post {σ σ' σ'' : As_} {p w hl : Nat} {sv : Value} {ft : List Value} {ns ws : List Nat} {r' : Nat → Int32} {n s c d : Nat} (h : Mu_ E σ σ' p w hl sv ft ns ws r' n s c) (hf : Fr_ d σ' σ'') : Mu_ E σ σ'' p w hl sv ft ns ws r' n s (c + d) := by
  obtain ⟨h0, w', am, em, as, es, st, mc, mc', ms', ss', ns', m1, m2, m3, m4, m5, m6, m7, m8, m9⟩ := h
  exact ⟨h0, w', am, em, as, es, st, mc, mc', ms', ss', ns', m1, m2, m3, WY_fr m4 hf, m5, m6, m7, m8, Sz_trans m9 (Fr_Sz hf)⟩
theorem Mu_pre {σ σ' σ'' : As_} {p w hl : Nat} {sv : Value} {ft : List Value} {ns ws : List Nat} {r' : Nat → Int32} {n s c d : Nat} (hf : Fr_ d σ σ') (h : Mu_ E σ' σ'' p w hl sv ft ns ws r' n s c) : Mu_ E σ σ'' p w hl sv ft ns ws r' n s (d + c) := by
  obtain ⟨h0, w', am, em, as, es, st, mc, mc', ms', ss', ns', m1, m2, m3, m4, m5, m6, m7, m8, m9⟩ := h
  refine ⟨h0, w', am, em, as, es, st, mc, mc', ms', ss', ns', le_trans (fun y c hy => ?_) m1, m2, m3, m4, m5, m6, fun x hx => (m7 x hx).imp id (fun q => Nat.le_trans hf.2.1 q), m8, Sz_trans (Fr_Sz hf) m9⟩
  by_cases e : y ∈ p :: hl :: ns
  · rw [rsh_i e] at hy; cases hy
  · rw [rsh_o e] at hy ⊢
    exact hf.1 _ _ hy
theorem S_remember {sv : Value} {ft : List Value} (h : Sq_ E σ p w (sv :: .ref hl :: ft) r n s ms ss) (hH : Hi_ σ.2.2 hl ns ws) (hn : ns.length ≤ 10) :
    ∃ σ', D_ E 356 [.ref p] σ = some (.inl none, σ') ∧ Mu_ E σ σ' p w hl sv ft ns ws r n s 740 := by
  have hp := h.1
  have hW := Sq_W h
  have hw := Sq_hw h
  have hM := Mc_of hp hH
  have hph : p ≠ hl := fun q => by
    obtain ⟨mc, h1, _⟩ := hH
    rw [q, h1] at hp
    cases hp
  have hpn : p ∉ ns := fun q => by
    obtain ⟨mc, h1, h2, h3, h4⟩ := hH
    obtain ⟨i, hi, e⟩ := List.getElem_of_mem q
    obtain ⟨v, _, v2⟩ := h4 i p (by rw [List.getElem?_eq_getElem hi, e])
    rw [hp] at v2
    cases v2
  have hlen := hH.choose_spec.2.1
  have hsz := H_size (E := E) hH
  -- the list
  obtain ⟨σ1, ns1, a1, a2, a3, a4, a5, a6, a7⟩ : ∃ σ1 ns1, R_ E 356 (B_ E 356 0) (en_ (L_ 356) [.ref p]) [] σ = R_ E 356 (B_ E 356 1) [some (.ref p)] [] σ1 ∧ Hi_ σ1.2.2 hl ns1 (if ws.length = 10 then ws.tail else ws) ∧ (∀ y c, σ.2.2 y = some c → y ≠ hl → y ∉ ns → σ1.2.2 y = some c) ∧ Hw_ σ1 ∧ σ1.1 = σ.1 ∧ σ1.2.1 = σ.2.1 ∧ (∀ x ∈ ns1, x ∈ ns) ∧ ns1.length ≤ 9 := by
    by_cases c : ns.length = 10
    · cases ns with
      | nil => simp at c
      | cons x l =>
        cases ws with
        | nil => simp at hlen
        | cons v vs =>
          obtain ⟨σ1, b1, b2, b3, b4, b5, b6⟩ := H_removeFirst (E := E) hH hw (by simp at c; omega)
          refine ⟨σ1, l, ?_, ?_, b3, b4, b5, b6, fun y hy => List.mem_cons_of_mem _ hy, by simp at c; omega⟩
          · have hp1 := b3 _ _ hp hph hpn
            obtain ⟨mc, h1, _⟩ := id hH
            rw [c] at hsz
            simp (disch := omega) only [b356_0, K356_0, l356, R_cons, go_nx, go_jp, go_rt, go_th, go_ca, go_no, go_ite, rr_v, rr_n, rr_x, hx_n, hx_p, hx_b, I_push, I_pushl, I_fc0, I_fc1, I_dc0, I_null, I_mask, I_iload, I_lload, I_dload, I_fload, I_aload, I_istore, I_lstore, I_dstore, I_fstore, I_astore, I_iinc, I_iadd, I_isub, I_imul, I_iand, I_ior, I_ixor, I_ishl, I_ishr, I_iushr, I_ineg, I_ladd, I_lsub, I_lmul, I_lxor, I_i2l, I_l2i, I_i2b, I_i2c, I_i2f, I_i2d, I_lcmp, I_fdiv, I_ddiv, I_f2d, I_dcmp, I_dup, I_pop, I_dup_x1, I_dup2, I_icne, I_iceq, I_iclt, I_icge, I_icgt, I_icle, I_ifnull, I_ifnonnull, I_ane, I_aeq, I_goto, I_lsw, I_iret, I_lret, I_fret, I_dret, I_vret, I_nret, I_aret, I_iald, I_bald, I_lald, I_aald, I_iast, I_bast, I_last, I_aast, I_alen, I_new, I_val, I_cast, I_inst, I_obj, I_throw, I_mkx, I_getf, I_putf, I_call, I_calli, I_callv, I_clone, I_getc, i_ifeq, i_ifne, i_iflt, i_ifge, i_ifgt, i_ifle, i_idiv, i_irem, i_newa, i_newo, i_abs, i_max, i_min, i_ldiv, en_, es_i, es_r, es_0, es_n, es_l, List.length_cons, List.length_nil, List.cons_append, List.nil_append, Nat.reduceAdd, Nat.reduceSub, List.replicate, lg_, st1_, st2_, cn_, nl_, mk_, pk_, kd_, sl_, la_, ft_a, ft_i, ft_l, ft_o, ft_n, ft_b0, ft_b1, ft_bI, nr_0, nr_1, nr_bI, ro_, no_, if_true, if_false, ite_true, ite_false, reduceIte, Nat.reduceMod, Nat.reduceEqDiff, Nat.zero_add, Nat.add_zero, lk_, lit_, nI_add, nI_mul, ix_nI, fgk_0, fgk_1, fgk_2, fgk_3, fgk_4, fgk_5, fgk_6, fgk_7, fgk_8, fgk_9, fgk_10, fgk_11, fgk_12, fgk_13, fsk_0, fsk_1, fsk_2, fsk_3, fsk_4, fsk_5, fsk_6, fsk_7, fsk_8, fsk_9, fsk_10, fsk_11, fsk_12, fsk_13, ca_i, ca_r, ca_n, Nat.reduceLT, true_or, or_true, if_true, false_or, or_false, and_true, true_and, List.mem_singleton, eq_self, hp, h1, hsz, b1]
          · rw [if_pos (by rw [← hlen]; exact c)]
            exact b2
    · refine ⟨σ, ns, ?_, ?_, fun y c hy _ _ => hy, hw, rfl, rfl, fun y hy => hy, by omega⟩
      · obtain ⟨mc, h1, _⟩ := id hH
        have c' : ¬ nI ns.length = nI 10 := fun q => c ((nI_eq (by omega) (by omega)).1 q)
        simp (disch := omega) only [b356_0, K356_0, l356, R_cons, go_nx, go_jp, go_rt, go_th, go_ca, go_no, go_ite, rr_v, rr_n, rr_x, hx_n, hx_p, hx_b, I_push, I_pushl, I_fc0, I_fc1, I_dc0, I_null, I_mask, I_iload, I_lload, I_dload, I_fload, I_aload, I_istore, I_lstore, I_dstore, I_fstore, I_astore, I_iinc, I_iadd, I_isub, I_imul, I_iand, I_ior, I_ixor, I_ishl, I_ishr, I_iushr, I_ineg, I_ladd, I_lsub, I_lmul, I_lxor, I_i2l, I_l2i, I_i2b, I_i2c, I_i2f, I_i2d, I_lcmp, I_fdiv, I_ddiv, I_f2d, I_dcmp, I_dup, I_pop, I_dup_x1, I_dup2, I_icne, I_iceq, I_iclt, I_icge, I_icgt, I_icle, I_ifnull, I_ifnonnull, I_ane, I_aeq, I_goto, I_lsw, I_iret, I_lret, I_fret, I_dret, I_vret, I_nret, I_aret, I_iald, I_bald, I_lald, I_aald, I_iast, I_bast, I_last, I_aast, I_alen, I_new, I_val, I_cast, I_inst, I_obj, I_throw, I_mkx, I_getf, I_putf, I_call, I_calli, I_callv, I_clone, I_getc, i_ifeq, i_ifne, i_iflt, i_ifge, i_ifgt, i_ifle, i_idiv, i_irem, i_newa, i_newo, i_abs, i_max, i_min, i_ldiv, en_, es_i, es_r, es_0, es_n, es_l, List.length_cons, List.length_nil, List.cons_append, List.nil_append, Nat.reduceAdd, Nat.reduceSub, List.replicate, lg_, st1_, st2_, cn_, nl_, mk_, pk_, kd_, sl_, la_, ft_a, ft_i, ft_l, ft_o, ft_n, ft_b0, ft_b1, ft_bI, nr_0, nr_1, nr_bI, ro_, no_, if_true, if_false, ite_true, ite_false, reduceIte, Nat.reduceMod, Nat.reduceEqDiff, Nat.zero_add, Nat.add_zero, lk_, lit_, nI_add, nI_mul, ix_nI, fgk_0, fgk_1, fgk_2, fgk_3, fgk_4, fgk_5, fgk_6, fgk_7, fgk_8, fgk_9, fgk_10, fgk_11, fgk_12, fgk_13, fsk_0, fsk_1, fsk_2, fsk_3, fsk_4, fsk_5, fsk_6, fsk_7, fsk_8, fsk_9, fsk_10, fsk_11, fsk_12, fsk_13, ca_i, ca_r, ca_n, Nat.reduceLT, true_or, or_true, if_true, false_or, or_false, and_true, true_and, List.mem_singleton, eq_self, hp, h1, hsz, c']
      · rw [if_neg (by rw [← hlen]; exact c)]
        exact hH
  have hp1 := a3 _ _ hp hph hpn
  have hpn1 : p ∉ ns1 := fun q => hpn (a7.1 p q)
  obtain ⟨σ2, b1, b2, b3, b4, b5, b6⟩ := H_addLast (E := E) (w := w) a2 a4 (by omega)
  have hp2 := b3 _ _ hp1 hph hpn1
  have hle2 : le_ (rsh_ σ.2.2 (p :: hl :: ns)) σ2.2.2 := rsh_le (fun y c hy hyx => by
    have e1 : y ≠ hl := fun q => hyx (by rw [q]; simp)
    have e2 : y ∉ ns := fun q => hyx (List.mem_cons_of_mem _ (List.mem_cons_of_mem _ q))
    exact b3 _ _ (a3 y c hy e1 e2) e1 (fun q => e2 (a7.1 y q)))
  obtain ⟨σ3, am, em, as, es, st, mc, mc', ms', ss', c1, c2, c3, c4, c5⟩ := W_copy (E := E) (σ := σ2) (E7_mono hle2 (E7_rsh hM h.2.2.2.2.2.2.1)) (Wl_mono hle2 (Wl_rsh hM h.2.1)) h.2.2.1 h.2.2.2.1 hW b4
  have hp3 := c2.2.1 _ _ hp2
  have hp3l := Hw_lt c2.2.2.1 hp3
  obtain ⟨mh, hh1, _⟩ := id a2
  obtain ⟨_, _, _, _, _, _, _, hAw⟩ := Wl_mono hle2 (Wl_rsh hM h.2.1)
  have hwc := hAw.1
  have hp2l := Hw_lt b4 hp2
  refine ⟨(σ3.1, σ3.2.1, up_ σ3.2.2 p (.inr (0, .ref σ2.1 :: sv :: .ref hl :: ft))), ?_, up_ σ2.2.2 p (.inr (0, .ref σ2.1 :: sv :: .ref hl :: ft)), σ2.1, am, em, as, es, st, mc, mc', ms', ss', ns1 ++ [σ1.1], ?_, up_s _ _ _, ?_, ?_, c3, c4, ?_, ?_, ?_⟩
  · rw [D_run, a1, b356_1]
    simp (disch := omega) only [K356_1, R_cons, go_nx, go_jp, go_rt, go_th, go_ca, go_no, go_ite, rr_v, rr_n, rr_x, hx_n, hx_p, hx_b, I_push, I_pushl, I_fc0, I_fc1, I_dc0, I_null, I_mask, I_iload, I_lload, I_dload, I_fload, I_aload, I_istore, I_lstore, I_dstore, I_fstore, I_astore, I_iinc, I_iadd, I_isub, I_imul, I_iand, I_ior, I_ixor, I_ishl, I_ishr, I_iushr, I_ineg, I_ladd, I_lsub, I_lmul, I_lxor, I_i2l, I_l2i, I_i2b, I_i2c, I_i2f, I_i2d, I_lcmp, I_fdiv, I_ddiv, I_f2d, I_dcmp, I_dup, I_pop, I_dup_x1, I_dup2, I_icne, I_iceq, I_iclt, I_icge, I_icgt, I_icle, I_ifnull, I_ifnonnull, I_ane, I_aeq, I_goto, I_lsw, I_iret, I_lret, I_fret, I_dret, I_vret, I_nret, I_aret, I_iald, I_bald, I_lald, I_aald, I_iast, I_bast, I_last, I_aast, I_alen, I_new, I_val, I_cast, I_inst, I_obj, I_throw, I_mkx, I_getf, I_putf, I_call, I_calli, I_callv, I_clone, I_getc, i_ifeq, i_ifne, i_iflt, i_ifge, i_ifgt, i_ifle, i_idiv, i_irem, i_newa, i_newo, i_abs, i_max, i_min, i_ldiv, en_, es_i, es_r, es_0, es_n, es_l, List.length_cons, List.length_nil, List.cons_append, List.nil_append, Nat.reduceAdd, Nat.reduceSub, List.replicate, lg_, st1_, st2_, cn_, nl_, mk_, pk_, kd_, sl_, la_, ft_a, ft_i, ft_l, ft_o, ft_n, ft_b0, ft_b1, ft_bI, nr_0, nr_1, nr_bI, ro_, no_, if_true, if_false, ite_true, ite_false, reduceIte, Nat.reduceMod, Nat.reduceEqDiff, Nat.zero_add, Nat.add_zero, lk_, lit_, nI_add, nI_mul, ix_nI, fgk_0, fgk_1, fgk_2, fgk_3, fgk_4, fgk_5, fgk_6, fgk_7, fgk_8, fgk_9, fgk_10, fgk_11, fgk_12, fgk_13, fsk_0, fsk_1, fsk_2, fsk_3, fsk_4, fsk_5, fsk_6, fsk_7, fsk_8, fsk_9, fsk_10, fsk_11, fsk_12, fsk_13, ca_i, ca_r, ca_n, Nat.reduceLT, true_or, or_true, if_true, false_or, or_false, and_true, true_and, List.mem_singleton, eq_self, hp1, hh1, b1, hp2, hwc, c1, hp3]
  · exact le_up (rsh_i (by simp)) hle2
  · refine Hi_kp b2 (fun y k fs hy hk => ?_)
    rw [up_n (fun q => by
      rw [q, hp2] at hy
      cases hy
      omega)]
    exact hy
  · obtain ⟨w1, w2, w3, w4, w5, w6, w7, w8, w9, w10, w11⟩ := c2
    have hnp : ∀ {y}, σ2.2.2 y = none → up_ σ2.2.2 p (.inr (0, .ref σ2.1 :: sv :: .ref hl :: ft)) y = none := fun {y} hy => by
      rw [up_n (fun q => by rw [q, hp2] at hy; cases hy)]
      exact hy
    exact ⟨WlA_kp (up_gd hp3 (by unfold gd_; omega)) w1, le_put w2, up_Hw w3 hp3l, hnp w4, hnp w5, hnp w6, hnp w7, w8.imp hnp id, w9.imp hnp id, fun x hx => hnp (w10 x hx), fun x hx => hnp (w11 x hx)⟩
  · intro x hx
    rcases List.mem_append.mp hx with q | q
    · exact Or.inl (a7.1 x q)
    · rw [List.mem_singleton] at q
      exact Or.inr (by omega)
  · rw [List.length_append]
    have := a7.2
    simp
    omega
  · obtain ⟨d1, d2, d3⟩ := c5
    exact ⟨by dsimp only; omega, by dsimp only; omega, by dsimp only; omega⟩
end REM
