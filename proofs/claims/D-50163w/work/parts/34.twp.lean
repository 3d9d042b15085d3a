section TWP
variable {E : En_} {σ : As_} {t : Nat} {M : Nat → Nat → Int32}
/-- benches alone keep a height -/
def l0_ (k : Nat) (q : Nat → Int32) : Nat → Int32 := upd q (8 + 5 * k + 3) (q (8 + 5 * k + 2))
theorem lev0_lp {n s : Nat} (hW : Wr_ (M 1) n s) : ∀ (d i : Nat) (u v : Option Value) (q f : Nat → Int32), i + d = n → hs_ (M 1) q →
    R_ E 192 (B_ E 192 1) [some (.ref t), some (.int (nI i)), u, v] [] (tw σ t (um (um M 1 q) 18 f)) = R_ E 192 (B_ E 192 2) [some (.ref t), some (.int (nI n)), none, none] [] (tw σ t (um (um M 1 (fo_ l0_ d i q)) 18 (fo_ (fun j g => upd g j (nI 0)) d i f))) := by
  have h12 := wr_n12 hW
  have hn := wr_n hW
  intro d
  induction d with
  | zero =>
    intro i u v q f hi hq
    obtain rfl : i = n := by omega
    have hq0 : q 0 = nI i := (hq 0 (by omega)).trans hn
    conv => lhs; rw [b192_1]
    simp (disch := omega) only [K192_1, R_cons, go_nx, go_jp, go_rt, go_th, go_ca, go_no, go_ite, rr_v, rr_n, rr_x, hx_n, hx_p, hx_b, I_push, I_pushl, I_fc0, I_fc1, I_dc0, I_null, I_mask, I_iload, I_lload, I_dload, I_fload, I_aload, I_istore, I_lstore, I_dstore, I_fstore, I_astore, I_iinc, I_iadd, I_isub, I_imul, I_iand, I_ior, I_ixor, I_ishl, I_ishr, I_iushr, I_ineg, I_ladd, I_lsub, I_lmul, I_lxor, I_i2l, I_l2i, I_i2b, I_i2c, I_i2f, I_i2d, I_lcmp, I_fdiv, I_ddiv, I_f2d, I_dcmp, I_dup, I_pop, I_dup_x1, I_dup2, I_icne, I_iceq, I_iclt, I_icge, I_icgt, I_icle, I_ifnull, I_ifnonnull, I_ane, I_aeq, I_goto, I_tsw, I_lsw, I_iret, I_lret, I_fret, I_dret, I_vret, I_nret, I_aret, I_iald, I_bald, I_lald, I_aald, I_iast, I_bast, I_last, I_aast, I_alen, I_new, I_val, I_cast, I_inst, I_obj, I_throw, I_mkx, I_getf, I_putf, I_call, I_calli, I_callv, I_acopy, I_clone, I_getc, i_ifeq, i_ifne, i_iflt, i_ifge, i_ifgt, i_ifle, i_idiv, i_irem, i_newa, i_newo, i_abs, i_max, i_min, i_ldiv, en_, es_i, es_r, es_0, es_n, es_l, List.length_cons, List.length_nil, List.cons_append, List.nil_append, Nat.reduceAdd, Nat.reduceSub, List.replicate, lg_, st1_, st2_, cn_, nl_, mk_, pk_, kd_, sl_, la_, ft_a, ft_i, ft_l, ft_o, ft_n, ft_b0, ft_b1, ft_bI, nr_0, nr_1, nr_bI, ro_, no_, if_true, if_false, ite_true, ite_false, reduceIte, Nat.reduceMod, Nat.reduceEqDiff, Nat.zero_add, Nat.add_zero, lk_, tw_t, tw_1, tw_2, tw_3, tw_4, tw_5, tw_6, tw_9, tw_11, tw_12, tw_13, tw_14, tw_15, tw_16, tw_18, tw_19, tw_30, tg_0, tg_1, tg_2, tg_3, tg_4, tg_5, tg_6, tg_7, tg_8, tg_9, tg_10, tg_11, tg_12, tg_13, tg_14, tg_15, tg_16, tg_17, tg_18, tg_19, tg_20, tg_21, tg_22, tg_23, tg_24, tg_25, tg_26, tg_27, tg_28, tg_29, tg_30, tg_31, ts_0, ts_1, ts_2, ts_3, ts_4, ts_5, ts_6, ts_7, ts_8, ts_9, ts_10, ts_11, ts_12, ts_13, ts_14, ts_15, ts_16, ts_17, ts_18, ts_19, ts_20, ts_21, ts_22, ts_23, ts_24, ts_25, ts_26, ts_27, ts_28, ts_29, ts_30, ts_31, um_s, um_n, um_um, um_co, um_id, id_eq, lit_, nI_add, nI_mul, ix_nI, T_marks, hq0, nI_leI, Nat.le_refl, fo_]
  | succ d ih =>
    intro i u v q f hi hq
    have hlt : ¬ n ≤ i := by omega
    have hq0 : q 0 = nI n := (hq 0 (by omega)).trans hn
    have hq1 : hs_ (M 1) (upd q (8 + 5 * i + 3) (q (8 + 5 * i + 2))) := fun k hk => (upd_n (by omega)).trans (hq k hk)
    rw [fo_, fo_, ← ih (i + 1) none none (l0_ i q) (upd f i (nI 0)) (by omega) hq1]
    conv => lhs; rw [b192_1]
    simp (disch := omega) only [K192_1, R_cons, go_nx, go_jp, go_rt, go_th, go_ca, go_no, go_ite, rr_v, rr_n, rr_x, hx_n, hx_p, hx_b, I_push, I_pushl, I_fc0, I_fc1, I_dc0, I_null, I_mask, I_iload, I_lload, I_dload, I_fload, I_aload, I_istore, I_lstore, I_dstore, I_fstore, I_astore, I_iinc, I_iadd, I_isub, I_imul, I_iand, I_ior, I_ixor, I_ishl, I_ishr, I_iushr, I_ineg, I_ladd, I_lsub, I_lmul, I_lxor, I_i2l, I_l2i, I_i2b, I_i2c, I_i2f, I_i2d, I_lcmp, I_fdiv, I_ddiv, I_f2d, I_dcmp, I_dup, I_pop, I_dup_x1, I_dup2, I_icne, I_iceq, I_iclt, I_icge, I_icgt, I_icle, I_ifnull, I_ifnonnull, I_ane, I_aeq, I_goto, I_tsw, I_lsw, I_iret, I_lret, I_fret, I_dret, I_vret, I_nret, I_aret, I_iald, I_bald, I_lald, I_aald, I_iast, I_bast, I_last, I_aast, I_alen, I_new, I_val, I_cast, I_inst, I_obj, I_throw, I_mkx, I_getf, I_putf, I_call, I_calli, I_callv, I_acopy, I_clone, I_getc, i_ifeq, i_ifne, i_iflt, i_ifge, i_ifgt, i_ifle, i_idiv, i_irem, i_newa, i_newo, i_abs, i_max, i_min, i_ldiv, en_, es_i, es_r, es_0, es_n, es_l, List.length_cons, List.length_nil, List.cons_append, List.nil_append, Nat.reduceAdd, Nat.reduceSub, List.replicate, lg_, st1_, st2_, cn_, nl_, mk_, pk_, kd_, sl_, la_, ft_a, ft_i, ft_l, ft_o, ft_n, ft_b0, ft_b1, ft_bI, nr_0, nr_1, nr_bI, ro_, no_, if_true, if_false, ite_true, ite_false, reduceIte, Nat.reduceMod, Nat.reduceEqDiff, Nat.zero_add, Nat.add_zero, lk_, tw_t, tw_1, tw_2, tw_3, tw_4, tw_5, tw_6, tw_9, tw_11, tw_12, tw_13, tw_14, tw_15, tw_16, tw_18, tw_19, tw_30, tg_0, tg_1, tg_2, tg_3, tg_4, tg_5, tg_6, tg_7, tg_8, tg_9, tg_10, tg_11, tg_12, tg_13, tg_14, tg_15, tg_16, tg_17, tg_18, tg_19, tg_20, tg_21, tg_22, tg_23, tg_24, tg_25, tg_26, tg_27, tg_28, tg_29, tg_30, tg_31, ts_0, ts_1, ts_2, ts_3, ts_4, ts_5, ts_6, ts_7, ts_8, ts_9, ts_10, ts_11, ts_12, ts_13, ts_14, ts_15, ts_16, ts_17, ts_18, ts_19, ts_20, ts_21, ts_22, ts_23, ts_24, ts_25, ts_26, ts_27, ts_28, ts_29, ts_30, ts_31, um_s, um_n, um_um, um_co, um_id, id_eq, lit_, nI_add, nI_mul, ix_nI, T_marks, T_of, T_lays, hq0, nI_leI, hlt, nI_1, l0_]
/-- the row after the heights are laid -/
def lev_ (r : Nat → Int32) (n s : Nat) : Nat → Int32 := lv_ (err_ r n s) n s n (fo_ l0_ n 0 r) (fun _ => nI 0)
theorem mh_n {r : Nat → Int32} : ∀ (d i : Nat), fo_ (mh1_ r) d i 0 ≤ d := by
  intro d
  induction d with
  | zero => intro i; exact Nat.le_refl _
  | succ d ih =>
    intro i
    rw [fo_, mh_c]
    have := ih (i + 1)
    have : mh1_ r i 0 ≤ 1 := by unfold mh1_; split <;> omega
    omega
theorem l0_hs {r : Nat → Int32} (d i : Nat) (hi : i + d ≤ 12) : hs_ r (fo_ l0_ d i r) :=
  fo_inv (P := hs_ r) (hi := 12) (fun k q hk hq j hj => by
    unfold l0_
    rw [upd_n (by omega)]
    exact hq j hj) d i r hi (fun _ _ => rfl)
theorem l0_bt {r : Nat → Int32} {n s : Nat} (hW : Wr_ r n s) : Wr_ (fo_ l0_ n 0 r) n s := by
  have h12 := wr_n12 hW
  refine fo_inv (P := fun q => Wr_ q n s) (hi := n) (fun k q hk hq => ?_) n 0 r (by omega) hW
  refine hs_Wr (r := q) (fun j hj => by unfold l0_; exact upd_n (by omega)) hq (fun a ha => ?_)
  have hb := (hq.2.2.2.2.2.2.2.2.2.2.1 a ha)
  unfold l0_
  by_cases c : a = k
  · subst c
    rw [upd_s, upd_n (by omega)]
    exact ⟨hb.2.2.1, id⟩
  · rw [upd_n (by omega), upd_n (by omega)]
    exact ⟨hb.2.2.2.1, hb.2.2.2.2⟩
theorem T_levels {n s : Nat} (hW : Wr_ (M 1) n s) : ∃ M', D_ E 192 [.ref t] (tw σ t M) = some (.inl none, tw σ t M') ∧ M' 1 = lev_ (M 1) n s ∧ hs_ (M 1) (M' 1) ∧ Wr_ (M' 1) n s ∧ Kn_ M' n s ∧ (∀ i, ((i < 9 ∧ i ≠ 1) ∨ 18 < i) → M' i = M i) := by
  have h12 := wr_n12 hW
  obtain ⟨M1, h1, h2, h3⟩ := T_reckons (E := E) (σ := σ) (t := t) hW
  have m1 : M1 1 = M 1 := h2 1 (Or.inl (by decide))
  have hW1 : Wr_ (M1 1) n s := by rw [m1]; exact hW
  have a1 := lev0_lp (E := E) (σ := σ) (t := t) (M := M1) hW1 n 0 none none (M1 1) (M1 18) (by omega) (fun _ _ => rfl)
  rw [um_id, um_id] at a1
  have hq := l0_hs (r := M1 1) n 0 (by omega)
  have hWq := l0_bt hW1
  have hz : ∀ k, k < n → fo_ (fun j g => upd g j (nI 0)) n 0 (M1 18) k = nI 0 := fun k hk => fo_z n _ hk
  generalize hgq : fo_ l0_ n 0 (M1 1) = q at a1 hq hWq
  generalize hgf : fo_ (fun j g => upd g j (nI 0)) n 0 (M1 18) = f at a1 hz
  have hE : Ed_ (um (um M1 1 q) 18 f) n s (err_ (M 1) n s) := by
    have := hs_Ed (M := M1) (r' := q) hq h3.1
    rw [m1] at this
    exact this
  obtain ⟨g, b1, b2, b3⟩ := lev_lp (E := E) (σ := σ) (t := t) (e := err_ (M 1) n s) n (um (um M1 1 q) 18 f) none none hWq hE (mh_n n 0)
  have hN := T_nextHeight (E := E) (σ := σ) (t := t) (M := um (um M1 1 q) 18 f) hWq hE
  have elev : lv_ (err_ (M 1) n s) n s n q f = lev_ (M 1) n s := by
    unfold lev_
    rw [← m1, hgq, m1]
    exact lv_cong h12 n q f (fun _ => nI 0) hz
  have hhs : hs_ (M1 1) (lev_ (M 1) n s) := by
    rw [← elev]
    exact hs_trans hq b2
  have e5 : um (um (um (um M1 1 q) 18 f) 1 (lv_ (err_ (M 1) n s) n s n q f)) 18 g = um (um M1 1 (lev_ (M 1) n s)) 18 g := by
    rw [elev]
    simp (disch := omega) only [um_s, um_n, um_um, um_co, um_id, id_eq]
  have b1' : R_ E 192 (B_ E 192 3) [some (.ref t), some (.int (oI_ (nh_ q f n s))), none, none] [] (tw σ t (um (um M1 1 q) 18 f)) = some (.inl none, tw σ t (um (um M1 1 (lev_ (M 1) n s)) 18 g)) := by
    rw [← e5]; exact b1
  have hN' : D_ E 194 [.ref t] (tw σ t (um (um M1 1 q) 18 f)) = some (.inl (some (.int (oI_ (nh_ q f n s)))), tw σ t (um (um M1 1 q) 18 f)) := hN.2
  refine ⟨um (um M1 1 (lev_ (M 1) n s)) 18 g, ?_, rfl, ?_, ?_, ?_, ?_⟩
  · rw [← b1', D_run]
    simp (disch := omega) only [b192_0, K192_0, l192, R_cons, go_nx, go_jp, go_rt, go_th, go_ca, go_no, go_ite, rr_v, rr_n, rr_x, hx_n, hx_p, hx_b, I_push, I_pushl, I_fc0, I_fc1, I_dc0, I_null, I_mask, I_iload, I_lload, I_dload, I_fload, I_aload, I_istore, I_lstore, I_dstore, I_fstore, I_astore, I_iinc, I_iadd, I_isub, I_imul, I_iand, I_ior, I_ixor, I_ishl, I_ishr, I_iushr, I_ineg, I_ladd, I_lsub, I_lmul, I_lxor, I_i2l, I_l2i, I_i2b, I_i2c, I_i2f, I_i2d, I_lcmp, I_fdiv, I_ddiv, I_f2d, I_dcmp, I_dup, I_pop, I_dup_x1, I_dup2, I_icne, I_iceq, I_iclt, I_icge, I_icgt, I_icle, I_ifnull, I_ifnonnull, I_ane, I_aeq, I_goto, I_tsw, I_lsw, I_iret, I_lret, I_fret, I_dret, I_vret, I_nret, I_aret, I_iald, I_bald, I_lald, I_aald, I_iast, I_bast, I_last, I_aast, I_alen, I_new, I_val, I_cast, I_inst, I_obj, I_throw, I_mkx, I_getf, I_putf, I_call, I_calli, I_callv, I_acopy, I_clone, I_getc, i_ifeq, i_ifne, i_iflt, i_ifge, i_ifgt, i_ifle, i_idiv, i_irem, i_newa, i_newo, i_abs, i_max, i_min, i_ldiv, en_, es_i, es_r, es_0, es_n, es_l, List.length_cons, List.length_nil, List.cons_append, List.nil_append, Nat.reduceAdd, Nat.reduceSub, List.replicate, lg_, st1_, st2_, cn_, nl_, mk_, pk_, kd_, sl_, la_, ft_a, ft_i, ft_l, ft_o, ft_n, ft_b0, ft_b1, ft_bI, nr_0, nr_1, nr_bI, ro_, no_, if_true, if_false, ite_true, ite_false, reduceIte, Nat.reduceMod, Nat.reduceEqDiff, Nat.zero_add, Nat.add_zero, lk_, tw_t, tw_1, tw_2, tw_3, tw_4, tw_5, tw_6, tw_9, tw_11, tw_12, tw_13, tw_14, tw_15, tw_16, tw_18, tw_19, tw_30, tg_0, tg_1, tg_2, tg_3, tg_4, tg_5, tg_6, tg_7, tg_8, tg_9, tg_10, tg_11, tg_12, tg_13, tg_14, tg_15, tg_16, tg_17, tg_18, tg_19, tg_20, tg_21, tg_22, tg_23, tg_24, tg_25, tg_26, tg_27, tg_28, tg_29, tg_30, tg_31, ts_0, ts_1, ts_2, ts_3, ts_4, ts_5, ts_6, ts_7, ts_8, ts_9, ts_10, ts_11, ts_12, ts_13, ts_14, ts_15, ts_16, ts_17, ts_18, ts_19, ts_20, ts_21, ts_22, ts_23, ts_24, ts_25, ts_26, ts_27, ts_28, ts_29, ts_30, ts_31, lit_, nI_add, nI_mul, ix_nI, h1, a1]
    conv => lhs; rw [b192_2]
    simp (disch := omega) only [K192_2, R_cons, go_nx, go_jp, go_rt, go_th, go_ca, go_no, go_ite, rr_v, rr_n, rr_x, hx_n, hx_p, hx_b, I_push, I_pushl, I_fc0, I_fc1, I_dc0, I_null, I_mask, I_iload, I_lload, I_dload, I_fload, I_aload, I_istore, I_lstore, I_dstore, I_fstore, I_astore, I_iinc, I_iadd, I_isub, I_imul, I_iand, I_ior, I_ixor, I_ishl, I_ishr, I_iushr, I_ineg, I_ladd, I_lsub, I_lmul, I_lxor, I_i2l, I_l2i, I_i2b, I_i2c, I_i2f, I_i2d, I_lcmp, I_fdiv, I_ddiv, I_f2d, I_dcmp, I_dup, I_pop, I_dup_x1, I_dup2, I_icne, I_iceq, I_iclt, I_icge, I_icgt, I_icle, I_ifnull, I_ifnonnull, I_ane, I_aeq, I_goto, I_tsw, I_lsw, I_iret, I_lret, I_fret, I_dret, I_vret, I_nret, I_aret, I_iald, I_bald, I_lald, I_aald, I_iast, I_bast, I_last, I_aast, I_alen, I_new, I_val, I_cast, I_inst, I_obj, I_throw, I_mkx, I_getf, I_putf, I_call, I_calli, I_callv, I_acopy, I_clone, I_getc, i_ifeq, i_ifne, i_iflt, i_ifge, i_ifgt, i_ifle, i_idiv, i_irem, i_newa, i_newo, i_abs, i_max, i_min, i_ldiv, en_, es_i, es_r, es_0, es_n, es_l, List.length_cons, List.length_nil, List.cons_append, List.nil_append, Nat.reduceAdd, Nat.reduceSub, List.replicate, lg_, st1_, st2_, cn_, nl_, mk_, pk_, kd_, sl_, la_, ft_a, ft_i, ft_l, ft_o, ft_n, ft_b0, ft_b1, ft_bI, nr_0, nr_1, nr_bI, ro_, no_, if_true, if_false, ite_true, ite_false, reduceIte, Nat.reduceMod, Nat.reduceEqDiff, Nat.zero_add, Nat.add_zero, lk_, tw_t, tw_1, tw_2, tw_3, tw_4, tw_5, tw_6, tw_9, tw_11, tw_12, tw_13, tw_14, tw_15, tw_16, tw_18, tw_19, tw_30, tg_0, tg_1, tg_2, tg_3, tg_4, tg_5, tg_6, tg_7, tg_8, tg_9, tg_10, tg_11, tg_12, tg_13, tg_14, tg_15, tg_16, tg_17, tg_18, tg_19, tg_20, tg_21, tg_22, tg_23, tg_24, tg_25, tg_26, tg_27, tg_28, tg_29, tg_30, tg_31, ts_0, ts_1, ts_2, ts_3, ts_4, ts_5, ts_6, ts_7, ts_8, ts_9, ts_10, ts_11, ts_12, ts_13, ts_14, ts_15, ts_16, ts_17, ts_18, ts_19, ts_20, ts_21, ts_22, ts_23, ts_24, ts_25, ts_26, ts_27, ts_28, ts_29, ts_30, ts_31, lit_, nI_add, nI_mul, ix_nI, hN']
  · show hs_ (M 1) (lev_ (M 1) n s)
    rw [← m1]; rw [← m1] at hhs; exact hhs
  · show Wr_ (lev_ (M 1) n s) n s
    rw [← elev]; exact b3
  · exact hs_Kn (M := M1) hhs h3
  · intro i hi
    unfold um
    rw [if_neg (by omega), if_neg (by omega)]
    exact h2 i (by omega)
end TWP
