/-- an edge lies within a part -/
theorem prt_edge {r : Nat → Int32} {n s p : Nat} (hW : Wr_ r n s) (h : ¬ ct_ r s p = 0) : prt_ r n s (p / 12) = prt_ r n s (p % 12) := by
  have h12 := wr_n12 hW
  have hp := ct_pair hW h
  have hall := nxi_all (r := r) (n := n) (s := s) (pt := prt_ r n s) h12
  by_cases c : prt_ r n s (p / 12) = prt_ r n s (p % 12)
  · exact c
  · exfalso
    obtain ⟨j, hj, _⟩ := hall.1 p ⟨hp.1, hp.2, h, c⟩ (by omega)
    rw [(kr_all (r := r) (s := s) h12).2.2.1] at hj
    cases hj
theorem lps_mem {r : Nat → Int32} {n s i : Nat} (hi : i < (lps_ r n s).length) : ¬ ct_ r s (lps_ r n s)[i] = 0 ∧ tkn_ r n s (lps_ r n s)[i] = false ∧ (lps_ r n s)[i] < 144 := by
  have key : ∀ x ∈ lps_ r n s, ¬ ct_ r s x = 0 ∧ tkn_ r n s x = false ∧ x < 144 := by
    intro x h
    unfold lps_ at h
    rw [List.mem_filter, List.mem_range'_1] at h
    simp at h
    exact ⟨h.2.1, h.2.2, h.1⟩
  exact key _ (List.getElem_mem hi)
/-- the edge of a loop; its way; its misclosure; its length -/
def lpe_ (r : Nat → Int32) (n s i : Nat) : Nat := (lps_ r n s).getD i 0
noncomputable def lpw_ (r : Nat → Int32) (n s i : Nat) : List Nat := pth_ r n s (lpe_ r n s i % 12) (lpe_ r n s i / 12)
noncomputable def mis_ (r : Nat → Int32) (n s i : Nat) : Int32 := upv_ r (err_ r n s) s (lpe_ r n s i) + alo_ (rf_ r (err_ r n s) s) (lpw_ r n s i) (nI 0)
noncomputable def wal_ (r : Nat → Int32) (n s i : Nat) : Int32 := di_ r (lpe_ r n s i / 12) (lpe_ r n s i % 12) + alo_ (di_ r) (lpw_ r n s i) (nI 0)
/-- it closes with a limit -/
def clo_ (m w l : Int32) : Bool := decide (1000 * m.toInt64 * m.toInt64 ≤ l.toInt64 * l.toInt64 * w.toInt64)
theorem lpe_get {r : Nat → Int32} {n s i : Nat} (hi : i < (lps_ r n s).length) : lpe_ r n s i = (lps_ r n s)[i] := by
  unfold lpe_
  rw [List.getD_eq_getElem?_getD, List.getElem?_eq_getElem hi]
  rfl
theorem lpw_spec {r : Nat → Int32} {n s i : Nat} (hW : Wr_ r n s) (hi : i < (lps_ r n s).length) : lpe_ r n s i < 144 ∧ lpe_ r n s i / 12 < lpe_ r n s i % 12 ∧ lpe_ r n s i % 12 < n ∧ wab_ (tkn_ r n s) (lpe_ r n s i % 12) (lpe_ r n s i / 12) (lpw_ r n s i) ∧ (∀ z ∈ lpw_ r n s i, z < n) ∧ 0 < (lpw_ r n s i).length ∧ (lpw_ r n s i).length ≤ 12 ∧ prt_ r n s (lpe_ r n s i % 12) = prt_ r n s (lpe_ r n s i / 12) ∧ ¬ ct_ r s (lpe_ r n s i) = 0 ∧ tkn_ r n s (lpe_ r n s i) = false := by
  have h12 := wr_n12 hW
  have hm := lps_mem hi
  rw [← lpe_get hi] at hm
  have hp := ct_pair hW hm.1
  have he := prt_edge hW hm.1
  have hs := pth_spec (r := r) (s := s) h12 hp.2 (by omega) he.symm
  refine ⟨hm.2.2, hp.1, hp.2, hs.1, hs.2, ?_, ?_, he.symm, hm.1, hm.2.1⟩
  · unfold lpw_
    cases hl : pth_ r n s (lpe_ r n s i % 12) (lpe_ r n s i / 12) with
    | nil => rw [hl] at hs; exact absurd hs.1.1 id
    | cons x q => simp
  · exact Nat.le_trans (wk_len h12 (kr_all (r := r) (s := s) h12).2.1 hs.1.1 hs.2) h12
/-- the twin's state when all is reckoned for the row r -/
def Ct_ (M : Nat → Nat → Int32) (r : Nat → Int32) (n s : Nat) : Prop := M 1 = r ∧ Wr_ r n s ∧ Kn_ M n s
/-- all but the way is as it was -/
def sW_ (M M' : Nat → Nat → Int32) : Prop := ∀ i, i ≠ 16 → i ≠ 17 → M' i = M i
theorem sW_rfl {M : Nat → Nat → Int32} : sW_ M M := fun _ _ _ => rfl
theorem sW_trans {M M' M'' : Nat → Nat → Int32} (h : sW_ M M') (h2 : sW_ M' M'') : sW_ M M'' := fun i a b => (h2 i a b).trans (h i a b)
theorem sW_um {M : Nat → Nat → Int32} {f g : Nat → Int32} : sW_ M (um (um M 16 f) 17 g) := fun i a b => by
  unfold um
  rw [if_neg b, if_neg a]
theorem ct_sw {M M' : Nat → Nat → Int32} {r : Nat → Int32} {n s : Nat} (h : Ct_ M r n s) (hs : sW_ M M') : Ct_ M' r n s := by
  have e1 := hs 1 (by decide) (by decide)
  obtain ⟨h1, h2, ⟨h3, h4, h5, h6⟩, h7, h8⟩ := h
  refine ⟨e1.trans h1, h2, ⟨?_, ?_, ?_, ?_⟩, ?_, ?_⟩
  · rw [hs 10 (by decide) (by decide), e1]; exact h3
  · rw [hs 11 (by decide) (by decide), e1]; exact h4
  · rw [hs 12 (by decide) (by decide), e1]; exact h5
  · rw [hs 13 (by decide) (by decide), e1]; exact h6
  · rw [hs 15 (by decide) (by decide), e1]; exact h7
  · rw [hs 14 (by decide) (by decide), e1]; exact h8
section TWL2
variable {E : En_} {σ : As_} {t : Nat} {M : Nat → Nat → Int32} {r : Nat → Int32} {n s : Nat}
theorem T_goesLoop {i : Nat} (hC : Ct_ M r n s) (hi : i < (lps_ r n s).length) : ∃ M', D_ E 134 [.ref t, .int (nI i)] (tw σ t M) = some (.inl none, tw σ t M') ∧ sW_ M M' ∧ Rw_ (M' 16) (lpw_ r n s i) ∧ M' 17 0 = nI (lpw_ r n s i).length := by
  obtain ⟨rfl, hW, hK⟩ := hC
  have hL := lpw_spec hW hi
  have h1 := T_loopEdge (E := E) (σ := σ) (t := t) hW hK hi
  rw [← lpe_get hi] at h1
  have h12 := wr_n12 hW
  obtain ⟨wy, c, h2, h3, h4⟩ := T_findsWay (E := E) (σ := σ) (t := t) hW hK (a := lpe_ (M 1) n s i % 12) (b := lpe_ (M 1) n s i / 12) hL.2.2.1 (by omega)
  have h5 := h4 hL.2.2.2.2.2.2.2.1
  refine ⟨um (um M 16 wy) 17 (fun _ => nI c), ?_, sW_um, h5.2, by rw [← show c = (lpw_ (M 1) n s i).length from h5.1]; rfl⟩
  rw [D_run]
  simp (disch := first | omega | decide) only [l134, b134_0, K134_0, R_cons, go_nx, go_jp, go_rt, go_th, go_ca, go_no, go_ite, rr_v, rr_n, rr_x, hx_n, hx_p, hx_b, I_push, I_pushl, I_fc0, I_fc1, I_dc0, I_null, I_mask, I_iload, I_lload, I_dload, I_fload, I_aload, I_istore, I_lstore, I_dstore, I_fstore, I_astore, I_iinc, I_iadd, I_isub, I_imul, I_iand, I_ior, I_ixor, I_ishl, I_ishr, I_iushr, I_ineg, I_ladd, I_lsub, I_lmul, I_lxor, I_i2l, I_l2i, I_i2b, I_i2c, I_i2f, I_i2d, I_lcmp, I_fdiv, I_ddiv, I_f2d, I_dcmp, I_dup, I_pop, I_dup_x1, I_dup2, I_icne, I_iceq, I_iclt, I_icge, I_icgt, I_icle, I_ifnull, I_ifnonnull, I_ane, I_aeq, I_goto, I_tsw, I_lsw, I_iret, I_lret, I_fret, I_dret, I_vret, I_nret, I_aret, I_iald, I_bald, I_lald, I_aald, I_iast, I_bast, I_last, I_aast, I_alen, I_new, I_val, I_cast, I_inst, I_obj, I_throw, I_mkx, I_getf, I_putf, I_call, I_calli, I_callv, I_acopy, I_clone, I_getc, i_ifeq, i_ifne, i_iflt, i_ifge, i_ifgt, i_ifle, i_idiv, i_irem, i_newa, i_newo, i_abs, i_max, i_min, i_ldiv, en_, es_i, es_r, es_0, es_n, es_l, List.length_cons, List.length_nil, List.cons_append, List.nil_append, Nat.reduceAdd, Nat.reduceSub, List.replicate, lg_, st1_, st2_, cn_, nl_, mk_, pk_, kd_, sl_, la_, ft_a, ft_i, ft_l, ft_o, ft_n, ft_b0, ft_b1, ft_bI, nr_0, nr_1, nr_bI, ro_, no_, if_true, if_false, ite_true, ite_false, reduceIte, Nat.reduceMod, Nat.reduceEqDiff, Nat.zero_add, Nat.add_zero, lk_, tw_t, tw_1, tw_2, tw_3, tw_4, tw_5, tw_6, tw_9, tw_11, tw_12, tw_13, tw_14, tw_15, tw_16, tw_18, tw_19, tw_30, tg_0, tg_1, tg_2, tg_3, tg_4, tg_5, tg_6, tg_7, tg_8, tg_9, tg_10, tg_11, tg_12, tg_13, tg_14, tg_15, tg_16, tg_17, tg_18, tg_19, tg_20, tg_21, tg_22, tg_23, tg_24, tg_25, tg_26, tg_27, tg_28, tg_29, tg_30, tg_31, ts_0, ts_1, ts_2, ts_3, ts_4, ts_5, ts_6, ts_7, ts_8, ts_9, ts_10, ts_11, ts_12, ts_13, ts_14, ts_15, ts_16, ts_17, ts_18, ts_19, ts_20, ts_21, ts_22, ts_23, ts_24, ts_25, ts_26, ts_27, ts_28, ts_29, ts_30, ts_31, lit_, nI_add, nI_mul, ix_nI, h1, pk_div, nI_rm, h2]
theorem T_misclosure {i : Nat} (hC : Ct_ M r n s) (hi : i < (lps_ r n s).length) : ∃ M', D_ E 133 [.ref t, .int (nI i)] (tw σ t M) = some (.inl (some (.int (mis_ r n s i))), tw σ t M') ∧ sW_ M M' := by
  obtain ⟨M', h1, h2, h3, h4⟩ := T_goesLoop (E := E) (σ := σ) (t := t) hC hi
  have hC' := ct_sw hC h2
  obtain ⟨e1, hW, hK⟩ := hC'
  have hL := lpw_spec hW hi
  subst e1
  have h5 := T_loopEdge (E := E) (σ := σ) (t := t) hW hK hi
  rw [← lpe_get hi] at h5
  have h6 := T_sumOfWay (E := E) (σ := σ) (t := t) hW hK.1 h3 h4 hL.2.2.2.2.1 hL.2.2.2.2.2.2.1 hL.2.2.2.2.2.1
  have h7 := hK.1.2.2.1 (lpe_ (M' 1) n s i) hL.1
  refine ⟨M', ?_, h2⟩
  have hl := hL.1
  rw [D_run]
  simp (disch := omega) only [l133, b133_0, K133_0, R_cons, go_nx, go_jp, go_rt, go_th, go_ca, go_no, go_ite, rr_v, rr_n, rr_x, hx_n, hx_p, hx_b, I_push, I_pushl, I_fc0, I_fc1, I_dc0, I_null, I_mask, I_iload, I_lload, I_dload, I_fload, I_aload, I_istore, I_lstore, I_dstore, I_fstore, I_astore, I_iinc, I_iadd, I_isub, I_imul, I_iand, I_ior, I_ixor, I_ishl, I_ishr, I_iushr, I_ineg, I_ladd, I_lsub, I_lmul, I_lxor, I_i2l, I_l2i, I_i2b, I_i2c, I_i2f, I_i2d, I_lcmp, I_fdiv, I_ddiv, I_f2d, I_dcmp, I_dup, I_pop, I_dup_x1, I_dup2, I_icne, I_iceq, I_iclt, I_icge, I_icgt, I_icle, I_ifnull, I_ifnonnull, I_ane, I_aeq, I_goto, I_tsw, I_lsw, I_iret, I_lret, I_fret, I_dret, I_vret, I_nret, I_aret, I_iald, I_bald, I_lald, I_aald, I_iast, I_bast, I_last, I_aast, I_alen, I_new, I_val, I_cast, I_inst, I_obj, I_throw, I_mkx, I_getf, I_putf, I_call, I_calli, I_callv, I_acopy, I_clone, I_getc, i_ifeq, i_ifne, i_iflt, i_ifge, i_ifgt, i_ifle, i_idiv, i_irem, i_newa, i_newo, i_abs, i_max, i_min, i_ldiv, en_, es_i, es_r, es_0, es_n, es_l, List.length_cons, List.length_nil, List.cons_append, List.nil_append, Nat.reduceAdd, Nat.reduceSub, List.replicate, lg_, st1_, st2_, cn_, nl_, mk_, pk_, kd_, sl_, la_, ft_a, ft_i, ft_l, ft_o, ft_n, ft_b0, ft_b1, ft_bI, nr_0, nr_1, nr_bI, ro_, no_, if_true, if_false, ite_true, ite_false, reduceIte, Nat.reduceMod, Nat.reduceEqDiff, Nat.zero_add, Nat.add_zero, lk_, tw_t, tw_1, tw_2, tw_3, tw_4, tw_5, tw_6, tw_9, tw_11, tw_12, tw_13, tw_14, tw_15, tw_16, tw_18, tw_19, tw_30, tg_0, tg_1, tg_2, tg_3, tg_4, tg_5, tg_6, tg_7, tg_8, tg_9, tg_10, tg_11, tg_12, tg_13, tg_14, tg_15, tg_16, tg_17, tg_18, tg_19, tg_20, tg_21, tg_22, tg_23, tg_24, tg_25, tg_26, tg_27, tg_28, tg_29, tg_30, tg_31, ts_0, ts_1, ts_2, ts_3, ts_4, ts_5, ts_6, ts_7, ts_8, ts_9, ts_10, ts_11, ts_12, ts_13, ts_14, ts_15, ts_16, ts_17, ts_18, ts_19, ts_20, ts_21, ts_22, ts_23, ts_24, ts_25, ts_26, ts_27, ts_28, ts_29, ts_30, ts_31, lit_, nI_add, nI_mul, ix_nI, h1, h5, h6, h7]
  rfl
theorem T_wayOf {i : Nat} (hC : Ct_ M r n s) (hi : i < (lps_ r n s).length) : ∃ M', D_ E 139 [.ref t, .int (nI i)] (tw σ t M) = some (.inl (some (.int (wal_ r n s i))), tw σ t M') ∧ sW_ M M' := by
  obtain ⟨M', h1, h2, h3, h4⟩ := T_goesLoop (E := E) (σ := σ) (t := t) hC hi
  have hC' := ct_sw hC h2
  obtain ⟨e1, hW, hK⟩ := hC'
  have hL := lpw_spec hW hi
  have h12 := wr_n12 hW
  subst e1
  have h5 := T_loopEdge (E := E) (σ := σ) (t := t) hW hK hi
  rw [← lpe_get hi] at h5
  have h6 := T_lengthOfWay (E := E) (σ := σ) (t := t) hW h3 h4 hL.2.2.2.2.1 hL.2.2.2.2.2.2.1 hL.2.2.2.2.2.1
  have ha := hL.2.1
  have hb := hL.2.2.1
  refine ⟨M', ?_, h2⟩
  rw [D_run]
  simp (disch := first | omega | decide) only [l139, b139_0, K139_0, R_cons, go_nx, go_jp, go_rt, go_th, go_ca, go_no, go_ite, rr_v, rr_n, rr_x, hx_n, hx_p, hx_b, I_push, I_pushl, I_fc0, I_fc1, I_dc0, I_null, I_mask, I_iload, I_lload, I_dload, I_fload, I_aload, I_istore, I_lstore, I_dstore, I_fstore, I_astore, I_iinc, I_iadd, I_isub, I_imul, I_iand, I_ior, I_ixor, I_ishl, I_ishr, I_iushr, I_ineg, I_ladd, I_lsub, I_lmul, I_lxor, I_i2l, I_l2i, I_i2b, I_i2c, I_i2f, I_i2d, I_lcmp, I_fdiv, I_ddiv, I_f2d, I_dcmp, I_dup, I_pop, I_dup_x1, I_dup2, I_icne, I_iceq, I_iclt, I_icge, I_icgt, I_icle, I_ifnull, I_ifnonnull, I_ane, I_aeq, I_goto, I_tsw, I_lsw, I_iret, I_lret, I_fret, I_dret, I_vret, I_nret, I_aret, I_iald, I_bald, I_lald, I_aald, I_iast, I_bast, I_last, I_aast, I_alen, I_new, I_val, I_cast, I_inst, I_obj, I_throw, I_mkx, I_getf, I_putf, I_call, I_calli, I_callv, I_acopy, I_clone, I_getc, i_ifeq, i_ifne, i_iflt, i_ifge, i_ifgt, i_ifle, i_idiv, i_irem, i_newa, i_newo, i_abs, i_max, i_min, i_ldiv, en_, es_i, es_r, es_0, es_n, es_l, List.length_cons, List.length_nil, List.cons_append, List.nil_append, Nat.reduceAdd, Nat.reduceSub, List.replicate, lg_, st1_, st2_, cn_, nl_, mk_, pk_, kd_, sl_, la_, ft_a, ft_i, ft_l, ft_o, ft_n, ft_b0, ft_b1, ft_bI, nr_0, nr_1, nr_bI, ro_, no_, if_true, if_false, ite_true, ite_false, reduceIte, Nat.reduceMod, Nat.reduceEqDiff, Nat.zero_add, Nat.add_zero, lk_, tw_t, tw_1, tw_2, tw_3, tw_4, tw_5, tw_6, tw_9, tw_11, tw_12, tw_13, tw_14, tw_15, tw_16, tw_18, tw_19, tw_30, tg_0, tg_1, tg_2, tg_3, tg_4, tg_5, tg_6, tg_7, tg_8, tg_9, tg_10, tg_11, tg_12, tg_13, tg_14, tg_15, tg_16, tg_17, tg_18, tg_19, tg_20, tg_21, tg_22, tg_23, tg_24, tg_25, tg_26, tg_27, tg_28, tg_29, tg_30, tg_31, ts_0, ts_1, ts_2, ts_3, ts_4, ts_5, ts_6, ts_7, ts_8, ts_9, ts_10, ts_11, ts_12, ts_13, ts_14, ts_15, ts_16, ts_17, ts_18, ts_19, ts_20, ts_21, ts_22, ts_23, ts_24, ts_25, ts_26, ts_27, ts_28, ts_29, ts_30, ts_31, lit_, nI_add, nI_mul, ix_nI, h1, h5, h6, pk_div, nI_rm, T_distance]
  rfl
theorem T_closesWith {i : Nat} {l : Int32} (hC : Ct_ M r n s) (hi : i < (lps_ r n s).length) : ∃ M', D_ E 132 [.ref t, .int (nI i), .int l] (tw σ t M) = some (.inl (some (.int (bI (clo_ (mis_ r n s i) (wal_ r n s i) l = true)))), tw σ t M') ∧ sW_ M M' := by
  obtain ⟨M1, h1, h2⟩ := T_misclosure (E := E) (σ := σ) (t := t) hC hi
  have hC1 := ct_sw hC h2
  obtain ⟨M2, h3, h4⟩ := T_wayOf (E := E) (σ := σ) (t := t) hC1 hi
  refine ⟨M2, ?_, sW_trans h2 h4⟩
  rw [D_run]
  simp (disch := omega) only [l132, b132_0, K132_0, b132_1, K132_1, b132_2, K132_2, R_cons, go_nx, go_jp, go_rt, go_th, go_ca, go_no, go_ite, rr_v, rr_n, rr_x, hx_n, hx_p, hx_b, I_push, I_pushl, I_fc0, I_fc1, I_dc0, I_null, I_mask, I_iload, I_lload, I_dload, I_fload, I_aload, I_istore, I_lstore, I_dstore, I_fstore, I_astore, I_iinc, I_iadd, I_isub, I_imul, I_iand, I_ior, I_ixor, I_ishl, I_ishr, I_iushr, I_ineg, I_ladd, I_lsub, I_lmul, I_lxor, I_i2l, I_l2i, I_i2b, I_i2c, I_i2f, I_i2d, I_lcmp, I_fdiv, I_ddiv, I_f2d, I_dcmp, I_dup, I_pop, I_dup_x1, I_dup2, I_icne, I_iceq, I_iclt, I_icge, I_icgt, I_icle, I_ifnull, I_ifnonnull, I_ane, I_aeq, I_goto, I_tsw, I_lsw, I_iret, I_lret, I_fret, I_dret, I_vret, I_nret, I_aret, I_iald, I_bald, I_lald, I_aald, I_iast, I_bast, I_last, I_aast, I_alen, I_new, I_val, I_cast, I_inst, I_obj, I_throw, I_mkx, I_getf, I_putf, I_call, I_calli, I_callv, I_acopy, I_clone, I_getc, i_ifeq, i_ifne, i_iflt, i_ifge, i_ifgt, i_ifle, i_idiv, i_irem, i_newa, i_newo, i_abs, i_max, i_min, i_ldiv, en_, es_i, es_r, es_0, es_n, es_l, List.length_cons, List.length_nil, List.cons_append, List.nil_append, Nat.reduceAdd, Nat.reduceSub, List.replicate, lg_, st1_, st2_, cn_, nl_, mk_, pk_, kd_, sl_, la_, ft_a, ft_i, ft_l, ft_o, ft_n, ft_b0, ft_b1, ft_bI, nr_0, nr_1, nr_bI, ro_, no_, if_true, if_false, ite_true, ite_false, reduceIte, Nat.reduceMod, Nat.reduceEqDiff, Nat.zero_add, Nat.add_zero, lk_, tw_t, tw_1, tw_2, tw_3, tw_4, tw_5, tw_6, tw_9, tw_11, tw_12, tw_13, tw_14, tw_15, tw_16, tw_18, tw_19, tw_30, tg_0, tg_1, tg_2, tg_3, tg_4, tg_5, tg_6, tg_7, tg_8, tg_9, tg_10, tg_11, tg_12, tg_13, tg_14, tg_15, tg_16, tg_17, tg_18, tg_19, tg_20, tg_21, tg_22, tg_23, tg_24, tg_25, tg_26, tg_27, tg_28, tg_29, tg_30, tg_31, ts_0, ts_1, ts_2, ts_3, ts_4, ts_5, ts_6, ts_7, ts_8, ts_9, ts_10, ts_11, ts_12, ts_13, ts_14, ts_15, ts_16, ts_17, ts_18, ts_19, ts_20, ts_21, ts_22, ts_23, ts_24, ts_25, ts_26, ts_27, ts_28, ts_29, ts_30, ts_31, lit_, nI_add, nI_mul, ix_nI, cq_lt, cq_gt, cq_eq, cq_le, cq_ge, h1, h3]
  by_cases c : 1000 * (mis_ r n s i).toInt64 * (mis_ r n s i).toInt64 ≤ l.toInt64 * l.toInt64 * (wal_ r n s i).toInt64
  · rw [if_neg (by rw [Int64.not_lt]; exact c)]
    unfold bI clo_; rw [if_pos (decide_eq_true c)]; rfl
  · rw [if_pos (by rw [← Int64.not_le]; exact c)]
    unfold bI clo_; rw [if_neg (by rw [decide_eq_true_eq]; exact c)]; rfl
/-- it closes now -/
noncomputable def cls_ (r : Nat → Int32) (n s i : Nat) : Bool := clo_ (mis_ r n s i) (wal_ r n s i) (r 5)
theorem T_closes {i : Nat} (hC : Ct_ M r n s) (hi : i < (lps_ r n s).length) : ∃ M', D_ E 131 [.ref t, .int (nI i)] (tw σ t M) = some (.inl (some (.int (bI (cls_ r n s i = true)))), tw σ t M') ∧ sW_ M M' := by
  obtain ⟨M1, h1, h2⟩ := T_closesWith (E := E) (σ := σ) (t := t) (l := r 5) hC hi
  refine ⟨M1, ?_, h2⟩
  have e := hC.1
  subst e
  rw [D_run]
  simp (disch := omega) only [l131, b131_0, K131_0, R_cons, go_nx, go_jp, go_rt, go_th, go_ca, go_no, go_ite, rr_v, rr_n, rr_x, hx_n, hx_p, hx_b, I_push, I_pushl, I_fc0, I_fc1, I_dc0, I_null, I_mask, I_iload, I_lload, I_dload, I_fload, I_aload, I_istore, I_lstore, I_dstore, I_fstore, I_astore, I_iinc, I_iadd, I_isub, I_imul, I_iand, I_ior, I_ixor, I_ishl, I_ishr, I_iushr, I_ineg, I_ladd, I_lsub, I_lmul, I_lxor, I_i2l, I_l2i, I_i2b, I_i2c, I_i2f, I_i2d, I_lcmp, I_fdiv, I_ddiv, I_f2d, I_dcmp, I_dup, I_pop, I_dup_x1, I_dup2, I_icne, I_iceq, I_iclt, I_icge, I_icgt, I_icle, I_ifnull, I_ifnonnull, I_ane, I_aeq, I_goto, I_tsw, I_lsw, I_iret, I_lret, I_fret, I_dret, I_vret, I_nret, I_aret, I_iald, I_bald, I_lald, I_aald, I_iast, I_bast, I_last, I_aast, I_alen, I_new, I_val, I_cast, I_inst, I_obj, I_throw, I_mkx, I_getf, I_putf, I_call, I_calli, I_callv, I_acopy, I_clone, I_getc, i_ifeq, i_ifne, i_iflt, i_ifge, i_ifgt, i_ifle, i_idiv, i_irem, i_newa, i_newo, i_abs, i_max, i_min, i_ldiv, en_, es_i, es_r, es_0, es_n, es_l, List.length_cons, List.length_nil, List.cons_append, List.nil_append, Nat.reduceAdd, Nat.reduceSub, List.replicate, lg_, st1_, st2_, cn_, nl_, mk_, pk_, kd_, sl_, la_, ft_a, ft_i, ft_l, ft_o, ft_n, ft_b0, ft_b1, ft_bI, nr_0, nr_1, nr_bI, ro_, no_, if_true, if_false, ite_true, ite_false, reduceIte, Nat.reduceMod, Nat.reduceEqDiff, Nat.zero_add, Nat.add_zero, lk_, tw_t, tw_1, tw_2, tw_3, tw_4, tw_5, tw_6, tw_9, tw_11, tw_12, tw_13, tw_14, tw_15, tw_16, tw_18, tw_19, tw_30, tg_0, tg_1, tg_2, tg_3, tg_4, tg_5, tg_6, tg_7, tg_8, tg_9, tg_10, tg_11, tg_12, tg_13, tg_14, tg_15, tg_16, tg_17, tg_18, tg_19, tg_20, tg_21, tg_22, tg_23, tg_24, tg_25, tg_26, tg_27, tg_28, tg_29, tg_30, tg_31, ts_0, ts_1, ts_2, ts_3, ts_4, ts_5, ts_6, ts_7, ts_8, ts_9, ts_10, ts_11, ts_12, ts_13, ts_14, ts_15, ts_16, ts_17, ts_18, ts_19, ts_20, ts_21, ts_22, ts_23, ts_24, ts_25, ts_26, ts_27, ts_28, ts_29, ts_30, ts_31, lit_, nI_add, nI_mul, ix_nI, h1]
  rfl
/-- counting with a test -/
noncomputable def cnt_ (p : Nat → Bool) : Nat → Nat → Nat → Nat
  | 0, _, c => c
  | d + 1, i, c => cnt_ p d (i + 1) (if p i = true then c + 1 else c)
theorem closing_lp : ∀ (d i c : Nat) (M : Nat → Nat → Int32), Ct_ M r n s → i + d = (lps_ r n s).length → ∃ M', R_ E 130 (B_ E 130 1) [some (.ref t), some (.int (nI c)), some (.int (nI i))] [] (tw σ t M) = some (.inl (some (.int (nI (cnt_ (cls_ r n s) d i c)))), tw σ t M') ∧ sW_ M M' := by
  intro d
  induction d with
  | zero =>
    intro i c M hC hi
    have h0 : (lps_ r n s).length ≤ i := by omega
    have hl := lps_len (r := r) (s := s) (wr_n12 hC.2.1)
    have he := eds_len (r := r) (s := s)
    have hlo := T_loops (E := E) (σ := σ) (t := t) (M := M) (n := n) (s := s) (hC.1 ▸ hC.2.1) hC.2.2
    rw [hC.1] at hlo
    refine ⟨M, ?_, sW_rfl⟩
    rw [b130_1]
    simp (disch := omega) only [K130_1, b130_3, K130_3, R_cons, go_nx, go_jp, go_rt, go_th, go_ca, go_no, go_ite, rr_v, rr_n, rr_x, hx_n, hx_p, hx_b, I_push, I_pushl, I_fc0, I_fc1, I_dc0, I_null, I_mask, I_iload, I_lload, I_dload, I_fload, I_aload, I_istore, I_lstore, I_dstore, I_fstore, I_astore, I_iinc, I_iadd, I_isub, I_imul, I_iand, I_ior, I_ixor, I_ishl, I_ishr, I_iushr, I_ineg, I_ladd, I_lsub, I_lmul, I_lxor, I_i2l, I_l2i, I_i2b, I_i2c, I_i2f, I_i2d, I_lcmp, I_fdiv, I_ddiv, I_f2d, I_dcmp, I_dup, I_pop, I_dup_x1, I_dup2, I_icne, I_iceq, I_iclt, I_icge, I_icgt, I_icle, I_ifnull, I_ifnonnull, I_ane, I_aeq, I_goto, I_tsw, I_lsw, I_iret, I_lret, I_fret, I_dret, I_vret, I_nret, I_aret, I_iald, I_bald, I_lald, I_aald, I_iast, I_bast, I_last, I_aast, I_alen, I_new, I_val, I_cast, I_inst, I_obj, I_throw, I_mkx, I_getf, I_putf, I_call, I_calli, I_callv, I_acopy, I_clone, I_getc, i_ifeq, i_ifne, i_iflt, i_ifge, i_ifgt, i_ifle, i_idiv, i_irem, i_newa, i_newo, i_abs, i_max, i_min, i_ldiv, en_, es_i, es_r, es_0, es_n, es_l, List.length_cons, List.length_nil, List.cons_append, List.nil_append, Nat.reduceAdd, Nat.reduceSub, List.replicate, lg_, st1_, st2_, cn_, nl_, mk_, pk_, kd_, sl_, la_, ft_a, ft_i, ft_l, ft_o, ft_n, ft_b0, ft_b1, ft_bI, nr_0, nr_1, nr_bI, ro_, no_, if_true, if_false, ite_true, ite_false, reduceIte, Nat.reduceMod, Nat.reduceEqDiff, Nat.zero_add, Nat.add_zero, lk_, tw_t, tw_1, tw_2, tw_3, tw_4, tw_5, tw_6, tw_9, tw_11, tw_12, tw_13, tw_14, tw_15, tw_16, tw_18, tw_19, tw_30, tg_0, tg_1, tg_2, tg_3, tg_4, tg_5, tg_6, tg_7, tg_8, tg_9, tg_10, tg_11, tg_12, tg_13, tg_14, tg_15, tg_16, tg_17, tg_18, tg_19, tg_20, tg_21, tg_22, tg_23, tg_24, tg_25, tg_26, tg_27, tg_28, tg_29, tg_30, tg_31, ts_0, ts_1, ts_2, ts_3, ts_4, ts_5, ts_6, ts_7, ts_8, ts_9, ts_10, ts_11, ts_12, ts_13, ts_14, ts_15, ts_16, ts_17, ts_18, ts_19, ts_20, ts_21, ts_22, ts_23, ts_24, ts_25, ts_26, ts_27, ts_28, ts_29, ts_30, ts_31, um_s, um_n, um_um, um_co, um_id, id_eq, lit_, nI_add, nI_mul, ix_nI, hlo, nI_leI, h0, cnt_]
  | succ d ih =>
    intro i c M hC hi
    have h0 : ¬ (lps_ r n s).length ≤ i := by omega
    have hl := lps_len (r := r) (s := s) (wr_n12 hC.2.1)
    have he := eds_len (r := r) (s := s)
    have hlo := T_loops (E := E) (σ := σ) (t := t) (M := M) (n := n) (s := s) (hC.1 ▸ hC.2.1) hC.2.2
    rw [hC.1] at hlo
    obtain ⟨M1, h1, h2⟩ := T_closes (E := E) (σ := σ) (t := t) hC (show i < (lps_ r n s).length by omega)
    obtain ⟨M2, h3, h4⟩ := ih (i + 1) (if cls_ r n s i = true then c + 1 else c) M1 (ct_sw hC h2) (by omega)
    refine ⟨M2, ?_, sW_trans h2 h4⟩
    rw [cnt_, ← h3]
    conv => lhs; rw [b130_1]
    by_cases c1 : cls_ r n s i = true <;>
    simp (disch := omega) only [K130_1, b130_2, K130_2, R_cons, go_nx, go_jp, go_rt, go_th, go_ca, go_no, go_ite, rr_v, rr_n, rr_x, hx_n, hx_p, hx_b, I_push, I_pushl, I_fc0, I_fc1, I_dc0, I_null, I_mask, I_iload, I_lload, I_dload, I_fload, I_aload, I_istore, I_lstore, I_dstore, I_fstore, I_astore, I_iinc, I_iadd, I_isub, I_imul, I_iand, I_ior, I_ixor, I_ishl, I_ishr, I_iushr, I_ineg, I_ladd, I_lsub, I_lmul, I_lxor, I_i2l, I_l2i, I_i2b, I_i2c, I_i2f, I_i2d, I_lcmp, I_fdiv, I_ddiv, I_f2d, I_dcmp, I_dup, I_pop, I_dup_x1, I_dup2, I_icne, I_iceq, I_iclt, I_icge, I_icgt, I_icle, I_ifnull, I_ifnonnull, I_ane, I_aeq, I_goto, I_tsw, I_lsw, I_iret, I_lret, I_fret, I_dret, I_vret, I_nret, I_aret, I_iald, I_bald, I_lald, I_aald, I_iast, I_bast, I_last, I_aast, I_alen, I_new, I_val, I_cast, I_inst, I_obj, I_throw, I_mkx, I_getf, I_putf, I_call, I_calli, I_callv, I_acopy, I_clone, I_getc, i_ifeq, i_ifne, i_iflt, i_ifge, i_ifgt, i_ifle, i_idiv, i_irem, i_newa, i_newo, i_abs, i_max, i_min, i_ldiv, en_, es_i, es_r, es_0, es_n, es_l, List.length_cons, List.length_nil, List.cons_append, List.nil_append, Nat.reduceAdd, Nat.reduceSub, List.replicate, lg_, st1_, st2_, cn_, nl_, mk_, pk_, kd_, sl_, la_, ft_a, ft_i, ft_l, ft_o, ft_n, ft_b0, ft_b1, ft_bI, nr_0, nr_1, nr_bI, ro_, no_, if_true, if_false, ite_true, ite_false, reduceIte, Nat.reduceMod, Nat.reduceEqDiff, Nat.zero_add, Nat.add_zero, lk_, tw_t, tw_1, tw_2, tw_3, tw_4, tw_5, tw_6, tw_9, tw_11, tw_12, tw_13, tw_14, tw_15, tw_16, tw_18, tw_19, tw_30, tg_0, tg_1, tg_2, tg_3, tg_4, tg_5, tg_6, tg_7, tg_8, tg_9, tg_10, tg_11, tg_12, tg_13, tg_14, tg_15, tg_16, tg_17, tg_18, tg_19, tg_20, tg_21, tg_22, tg_23, tg_24, tg_25, tg_26, tg_27, tg_28, tg_29, tg_30, tg_31, ts_0, ts_1, ts_2, ts_3, ts_4, ts_5, ts_6, ts_7, ts_8, ts_9, ts_10, ts_11, ts_12, ts_13, ts_14, ts_15, ts_16, ts_17, ts_18, ts_19, ts_20, ts_21, ts_22, ts_23, ts_24, ts_25, ts_26, ts_27, ts_28, ts_29, ts_30, ts_31, um_s, um_n, um_um, um_co, um_id, id_eq, lit_, nI_add, nI_mul, ix_nI, bI_0, bI_1, ite_b1, ite_b2, hlo, nI_leI, h0, h1, c1, nI_1, if_true, if_false, not_true_eq_false, not_false_eq_true, Bool.false_eq_true, and_true, true_and, and_false, false_and, or_true, true_or, or_false, false_or, eq_self_iff_true, iff_true, iff_false, true_iff, false_iff, Classical.not_not, reduceIte]
theorem T_closing (hC : Ct_ M r n s) : ∃ M', D_ E 130 [.ref t] (tw σ t M) = some (.inl (some (.int (nI (cnt_ (cls_ r n s) (lps_ r n s).length 0 0)))), tw σ t M') ∧ sW_ M M' := by
  obtain ⟨M', h1, h2⟩ := closing_lp (E := E) (σ := σ) (t := t) (lps_ r n s).length 0 0 M hC (by omega)
  refine ⟨M', ?_, h2⟩
  rw [← h1, D_run]
  simp (disch := omega) only [b130_0, K130_0, l130, R_cons, go_nx, go_jp, go_rt, go_th, go_ca, go_no, go_ite, rr_v, rr_n, rr_x, hx_n, hx_p, hx_b, I_push, I_pushl, I_fc0, I_fc1, I_dc0, I_null, I_mask, I_iload, I_lload, I_dload, I_fload, I_aload, I_istore, I_lstore, I_dstore, I_fstore, I_astore, I_iinc, I_iadd, I_isub, I_imul, I_iand, I_ior, I_ixor, I_ishl, I_ishr, I_iushr, I_ineg, I_ladd, I_lsub, I_lmul, I_lxor, I_i2l, I_l2i, I_i2b, I_i2c, I_i2f, I_i2d, I_lcmp, I_fdiv, I_ddiv, I_f2d, I_dcmp, I_dup, I_pop, I_dup_x1, I_dup2, I_icne, I_iceq, I_iclt, I_icge, I_icgt, I_icle, I_ifnull, I_ifnonnull, I_ane, I_aeq, I_goto, I_tsw, I_lsw, I_iret, I_lret, I_fret, I_dret, I_vret, I_nret, I_aret, I_iald, I_bald, I_lald, I_aald, I_iast, I_bast, I_last, I_aast, I_alen, I_new, I_val, I_cast, I_inst, I_obj, I_throw, I_mkx, I_getf, I_putf, I_call, I_calli, I_callv, I_acopy, I_clone, I_getc, i_ifeq, i_ifne, i_iflt, i_ifge, i_ifgt, i_ifle, i_idiv, i_irem, i_newa, i_newo, i_abs, i_max, i_min, i_ldiv, en_, es_i, es_r, es_0, es_n, es_l, List.length_cons, List.length_nil, List.cons_append, List.nil_append, Nat.reduceAdd, Nat.reduceSub, List.replicate, lg_, st1_, st2_, cn_, nl_, mk_, pk_, kd_, sl_, la_, ft_a, ft_i, ft_l, ft_o, ft_n, ft_b0, ft_b1, ft_bI, nr_0, nr_1, nr_bI, ro_, no_, if_true, if_false, ite_true, ite_false, reduceIte, Nat.reduceMod, Nat.reduceEqDiff, Nat.zero_add, Nat.add_zero, lk_, tw_t, tw_1, tw_2, tw_3, tw_4, tw_5, tw_6, tw_9, tw_11, tw_12, tw_13, tw_14, tw_15, tw_16, tw_18, tw_19, tw_30, tg_0, tg_1, tg_2, tg_3, tg_4, tg_5, tg_6, tg_7, tg_8, tg_9, tg_10, tg_11, tg_12, tg_13, tg_14, tg_15, tg_16, tg_17, tg_18, tg_19, tg_20, tg_21, tg_22, tg_23, tg_24, tg_25, tg_26, tg_27, tg_28, tg_29, tg_30, tg_31, ts_0, ts_1, ts_2, ts_3, ts_4, ts_5, ts_6, ts_7, ts_8, ts_9, ts_10, ts_11, ts_12, ts_13, ts_14, ts_15, ts_16, ts_17, ts_18, ts_19, ts_20, ts_21, ts_22, ts_23, ts_24, ts_25, ts_26, ts_27, ts_28, ts_29, ts_30, ts_31, lit_, nI_add, nI_mul, ix_nI]
end TWL2
