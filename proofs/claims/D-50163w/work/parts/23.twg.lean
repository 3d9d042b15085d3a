theorem mx_nI {a b : Nat} (ha : a < 2 ^ 31) (hb : b < 2 ^ 31) : mx_ (nI a) (nI b) = nI (max a b) := by
  unfold mx_
  rw [Nat.max_def]
  by_cases h : a < b
  · rw [if_pos ((nI_ltI ha hb).mpr h), if_pos (by omega)]
  · rw [if_neg (fun k => h ((nI_ltI ha hb).mp k))]
    split
    · congr 1; omega
    · rfl
theorem mn_nI {a b : Nat} (ha : a < 2 ^ 31) (hb : b < 2 ^ 31) : mn_ (nI a) (nI b) = nI (min a b) := by
  unfold mn_
  rw [Nat.min_def]
  by_cases h : b < a
  · rw [if_pos ((nI_ltI hb ha).mpr h), if_neg (by omega)]
  · rw [if_neg (fun k => h ((nI_ltI hb ha).mp k)), if_pos (by omega)]
section TWG
variable {E : En_} {σ : As_} {t : Nat} {M : Nat → Nat → Int32}
theorem joi_lp {n s a b F T : Nat} {pt : Nat → Nat} (hW : Wr_ (M 1) n s) (hF : F = max (pt a) (pt b)) (hT : T = min (pt a) (pt b)) (hb' : ∀ k, k < n → pt k < n) (hF12 : F < 12) : ∀ (d i : Nat) (u v : Option Value) (w : Nat → Int32), i + d = n → (∀ k, k < n → w k = nI (if k < i then joi_ pt a b k else pt k)) →
    ∃ w', (∀ k, k < n → w' k = nI (joi_ pt a b k)) ∧ R_ E 124 (B_ E 124 1) [some (.ref t), u, v, some (.int (nI F)), some (.int (nI T)), some (.int (nI i))] [] (tw σ t (um M 15 w)) = some (.inl none, tw σ t (um M 15 w')) := by
  have h12 := wr_n12 hW
  have hn := wr_n hW
  intro d
  induction d with
  | zero =>
    intro i u v w hi hw
    obtain rfl : i = n := by omega
    refine ⟨w, fun k hk => by rw [hw k hk, if_pos hk], ?_⟩
    rw [b124_1]
    simp (disch := omega) only [K124_1, b124_3, K124_3, R_cons, go_nx, go_jp, go_rt, go_th, go_ca, go_no, go_ite, rr_v, rr_n, rr_x, hx_n, hx_p, hx_b, I_push, I_pushl, I_fc0, I_fc1, I_dc0, I_null, I_mask, I_iload, I_lload, I_dload, I_fload, I_aload, I_istore, I_lstore, I_dstore, I_fstore, I_astore, I_iinc, I_iadd, I_isub, I_imul, I_iand, I_ior, I_ixor, I_ishl, I_ishr, I_iushr, I_ineg, I_ladd, I_lsub, I_lmul, I_lxor, I_i2l, I_l2i, I_i2b, I_i2c, I_i2f, I_i2d, I_lcmp, I_fdiv, I_ddiv, I_f2d, I_dcmp, I_dup, I_pop, I_dup_x1, I_dup2, I_icne, I_iceq, I_iclt, I_icge, I_icgt, I_icle, I_ifnull, I_ifnonnull, I_ane, I_aeq, I_goto, I_tsw, I_lsw, I_iret, I_lret, I_fret, I_dret, I_vret, I_nret, I_aret, I_iald, I_bald, I_lald, I_aald, I_iast, I_bast, I_last, I_aast, I_alen, I_new, I_val, I_cast, I_inst, I_obj, I_throw, I_mkx, I_getf, I_putf, I_call, I_calli, I_callv, I_acopy, I_clone, I_getc, i_ifeq, i_ifne, i_iflt, i_ifge, i_ifgt, i_ifle, i_idiv, i_irem, i_newa, i_newo, i_abs, i_max, i_min, i_ldiv, en_, es_i, es_r, es_0, es_n, es_l, List.length_cons, List.length_nil, List.cons_append, List.nil_append, Nat.reduceAdd, Nat.reduceSub, List.replicate, lg_, st1_, st2_, cn_, nl_, mk_, pk_, kd_, sl_, la_, ft_a, ft_i, ft_l, ft_o, ft_n, ft_b0, ft_b1, ft_bI, nr_0, nr_1, nr_bI, ro_, no_, if_true, if_false, ite_true, ite_false, reduceIte, Nat.reduceMod, Nat.reduceEqDiff, Nat.zero_add, Nat.add_zero, lk_, tw_t, tw_1, tw_2, tw_3, tw_4, tw_5, tw_6, tw_9, tw_11, tw_12, tw_13, tw_14, tw_15, tw_16, tw_18, tw_19, tw_30, tg_0, tg_1, tg_2, tg_3, tg_4, tg_5, tg_6, tg_7, tg_8, tg_9, tg_10, tg_11, tg_12, tg_13, tg_14, tg_15, tg_16, tg_17, tg_18, tg_19, tg_20, tg_21, tg_22, tg_23, tg_24, tg_25, tg_26, tg_27, tg_28, tg_29, tg_30, tg_31, ts_0, ts_1, ts_2, ts_3, ts_4, ts_5, ts_6, ts_7, ts_8, ts_9, ts_10, ts_11, ts_12, ts_13, ts_14, ts_15, ts_16, ts_17, ts_18, ts_19, ts_20, ts_21, ts_22, ts_23, ts_24, ts_25, ts_26, ts_27, ts_28, ts_29, ts_30, ts_31, um_s, um_n, um_um, um_co, um_id, id_eq, lit_, nI_add, nI_mul, ix_nI, T_marks, hn, nI_leI, Nat.le_refl]
  | succ d ih =>
    intro i u v w hi hw
    have hlt : ¬ n ≤ i := by omega
    have hwi := hw i (by omega)
    rw [if_neg (by omega)] at hwi
    have hpi := hb' i (by omega)
    by_cases c : pt i = F
    · obtain ⟨w', h1, h2⟩ := ih (i + 1) none none (upd w i (nI T)) (by omega) (fun k hk => by
        unfold upd
        by_cases e : k = i
        · rw [if_pos e, if_pos (by omega), e]
          unfold joi_
          rw [if_pos (by rw [c, hF]), hT]
        · rw [if_neg e, hw k hk]
          by_cases e2 : k < i
          · rw [if_pos e2, if_pos (by omega)]
          · rw [if_neg e2, if_neg (by omega)])
      refine ⟨w', h1, ?_⟩
      rw [← h2]
      conv => lhs; rw [b124_1]
      simp (disch := omega) only [K124_1, b124_2, K124_2, R_cons, go_nx, go_jp, go_rt, go_th, go_ca, go_no, go_ite, rr_v, rr_n, rr_x, hx_n, hx_p, hx_b, I_push, I_pushl, I_fc0, I_fc1, I_dc0, I_null, I_mask, I_iload, I_lload, I_dload, I_fload, I_aload, I_istore, I_lstore, I_dstore, I_fstore, I_astore, I_iinc, I_iadd, I_isub, I_imul, I_iand, I_ior, I_ixor, I_ishl, I_ishr, I_iushr, I_ineg, I_ladd, I_lsub, I_lmul, I_lxor, I_i2l, I_l2i, I_i2b, I_i2c, I_i2f, I_i2d, I_lcmp, I_fdiv, I_ddiv, I_f2d, I_dcmp, I_dup, I_pop, I_dup_x1, I_dup2, I_icne, I_iceq, I_iclt, I_icge, I_icgt, I_icle, I_ifnull, I_ifnonnull, I_ane, I_aeq, I_goto, I_tsw, I_lsw, I_iret, I_lret, I_fret, I_dret, I_vret, I_nret, I_aret, I_iald, I_bald, I_lald, I_aald, I_iast, I_bast, I_last, I_aast, I_alen, I_new, I_val, I_cast, I_inst, I_obj, I_throw, I_mkx, I_getf, I_putf, I_call, I_calli, I_callv, I_acopy, I_clone, I_getc, i_ifeq, i_ifne, i_iflt, i_ifge, i_ifgt, i_ifle, i_idiv, i_irem, i_newa, i_newo, i_abs, i_max, i_min, i_ldiv, en_, es_i, es_r, es_0, es_n, es_l, List.length_cons, List.length_nil, List.cons_append, List.nil_append, Nat.reduceAdd, Nat.reduceSub, List.replicate, lg_, st1_, st2_, cn_, nl_, mk_, pk_, kd_, sl_, la_, ft_a, ft_i, ft_l, ft_o, ft_n, ft_b0, ft_b1, ft_bI, nr_0, nr_1, nr_bI, ro_, no_, if_true, if_false, ite_true, ite_false, reduceIte, Nat.reduceMod, Nat.reduceEqDiff, Nat.zero_add, Nat.add_zero, lk_, tw_t, tw_1, tw_2, tw_3, tw_4, tw_5, tw_6, tw_9, tw_11, tw_12, tw_13, tw_14, tw_15, tw_16, tw_18, tw_19, tw_30, tg_0, tg_1, tg_2, tg_3, tg_4, tg_5, tg_6, tg_7, tg_8, tg_9, tg_10, tg_11, tg_12, tg_13, tg_14, tg_15, tg_16, tg_17, tg_18, tg_19, tg_20, tg_21, tg_22, tg_23, tg_24, tg_25, tg_26, tg_27, tg_28, tg_29, tg_30, tg_31, ts_0, ts_1, ts_2, ts_3, ts_4, ts_5, ts_6, ts_7, ts_8, ts_9, ts_10, ts_11, ts_12, ts_13, ts_14, ts_15, ts_16, ts_17, ts_18, ts_19, ts_20, ts_21, ts_22, ts_23, ts_24, ts_25, ts_26, ts_27, ts_28, ts_29, ts_30, ts_31, um_s, um_n, um_um, um_co, um_id, id_eq, lit_, nI_add, nI_mul, ix_nI, T_marks, hn, nI_leI, hlt, hwi, nI_eq, c, nI_1, if_true, if_false, not_true_eq_false, not_false_eq_true, Bool.false_eq_true, and_true, true_and, and_false, false_and, or_true, true_or, or_false, false_or, eq_self_iff_true, iff_true, iff_false, true_iff, false_iff, Classical.not_not, reduceIte]
    · obtain ⟨w', h1, h2⟩ := ih (i + 1) none none w (by omega) (fun k hk => by
        rw [hw k hk]
        by_cases e : k = i
        · rw [if_neg (by omega), if_pos (by omega), e]
          unfold joi_
          rw [if_neg (by rw [← hF]; exact c)]
        · by_cases e2 : k < i
          · rw [if_pos e2, if_pos (by omega)]
          · rw [if_neg e2, if_neg (by omega)])
      refine ⟨w', h1, ?_⟩
      rw [← h2]
      conv => lhs; rw [b124_1]
      simp (disch := omega) only [K124_1, b124_2, K124_2, R_cons, go_nx, go_jp, go_rt, go_th, go_ca, go_no, go_ite, rr_v, rr_n, rr_x, hx_n, hx_p, hx_b, I_push, I_pushl, I_fc0, I_fc1, I_dc0, I_null, I_mask, I_iload, I_lload, I_dload, I_fload, I_aload, I_istore, I_lstore, I_dstore, I_fstore, I_astore, I_iinc, I_iadd, I_isub, I_imul, I_iand, I_ior, I_ixor, I_ishl, I_ishr, I_iushr, I_ineg, I_ladd, I_lsub, I_lmul, I_lxor, I_i2l, I_l2i, I_i2b, I_i2c, I_i2f, I_i2d, I_lcmp, I_fdiv, I_ddiv, I_f2d, I_dcmp, I_dup, I_pop, I_dup_x1, I_dup2, I_icne, I_iceq, I_iclt, I_icge, I_icgt, I_icle, I_ifnull, I_ifnonnull, I_ane, I_aeq, I_goto, I_tsw, I_lsw, I_iret, I_lret, I_fret, I_dret, I_vret, I_nret, I_aret, I_iald, I_bald, I_lald, I_aald, I_iast, I_bast, I_last, I_aast, I_alen, I_new, I_val, I_cast, I_inst, I_obj, I_throw, I_mkx, I_getf, I_putf, I_call, I_calli, I_callv, I_acopy, I_clone, I_getc, i_ifeq, i_ifne, i_iflt, i_ifge, i_ifgt, i_ifle, i_idiv, i_irem, i_newa, i_newo, i_abs, i_max, i_min, i_ldiv, en_, es_i, es_r, es_0, es_n, es_l, List.length_cons, List.length_nil, List.cons_append, List.nil_append, Nat.reduceAdd, Nat.reduceSub, List.replicate, lg_, st1_, st2_, cn_, nl_, mk_, pk_, kd_, sl_, la_, ft_a, ft_i, ft_l, ft_o, ft_n, ft_b0, ft_b1, ft_bI, nr_0, nr_1, nr_bI, ro_, no_, if_true, if_false, ite_true, ite_false, reduceIte, Nat.reduceMod, Nat.reduceEqDiff, Nat.zero_add, Nat.add_zero, lk_, tw_t, tw_1, tw_2, tw_3, tw_4, tw_5, tw_6, tw_9, tw_11, tw_12, tw_13, tw_14, tw_15, tw_16, tw_18, tw_19, tw_30, tg_0, tg_1, tg_2, tg_3, tg_4, tg_5, tg_6, tg_7, tg_8, tg_9, tg_10, tg_11, tg_12, tg_13, tg_14, tg_15, tg_16, tg_17, tg_18, tg_19, tg_20, tg_21, tg_22, tg_23, tg_24, tg_25, tg_26, tg_27, tg_28, tg_29, tg_30, tg_31, ts_0, ts_1, ts_2, ts_3, ts_4, ts_5, ts_6, ts_7, ts_8, ts_9, ts_10, ts_11, ts_12, ts_13, ts_14, ts_15, ts_16, ts_17, ts_18, ts_19, ts_20, ts_21, ts_22, ts_23, ts_24, ts_25, ts_26, ts_27, ts_28, ts_29, ts_30, ts_31, um_s, um_n, um_um, um_co, um_id, id_eq, lit_, nI_add, nI_mul, ix_nI, T_marks, hn, nI_leI, hlt, hwi, nI_eq, c, nI_1, if_true, if_false, not_true_eq_false, not_false_eq_true, Bool.false_eq_true, and_true, true_and, and_false, false_and, or_true, true_or, or_false, false_or, eq_self_iff_true, iff_true, iff_false, true_iff, false_iff, Classical.not_not, reduceIte]
theorem T_joins {n s a b : Nat} {pt : Nat → Nat} {w : Nat → Int32} (hW : Wr_ (M 1) n s) (ha : a < n) (hb : b < n) (hP : ∀ k, k < n → w k = nI (pt k) ∧ pt k < n) :
    ∃ w', (∀ k, k < n → w' k = nI (joi_ pt a b k)) ∧ D_ E 124 [.ref t, .int (nI a), .int (nI b)] (tw σ t (um M 15 w)) = some (.inl none, tw σ t (um M 15 w')) := by
  have h12 := wr_n12 hW
  have h1 := hP a ha
  have h2 := hP b hb
  obtain ⟨w', h3, h4⟩ := joi_lp (E := E) (σ := σ) (t := t) (a := a) (b := b) hW rfl rfl (fun k hk => (hP k hk).2) (by omega) n 0 (some (.int (nI a))) (some (.int (nI b))) w (by omega) (fun k hk => by rw [if_neg (by omega)]; exact (hP k hk).1)
  refine ⟨w', h3, ?_⟩
  rw [← h4, D_run]
  simp (disch := omega) only [b124_0, K124_0, l124, R_cons, go_nx, go_jp, go_rt, go_th, go_ca, go_no, go_ite, rr_v, rr_n, rr_x, hx_n, hx_p, hx_b, I_push, I_pushl, I_fc0, I_fc1, I_dc0, I_null, I_mask, I_iload, I_lload, I_dload, I_fload, I_aload, I_istore, I_lstore, I_dstore, I_fstore, I_astore, I_iinc, I_iadd, I_isub, I_imul, I_iand, I_ior, I_ixor, I_ishl, I_ishr, I_iushr, I_ineg, I_ladd, I_lsub, I_lmul, I_lxor, I_i2l, I_l2i, I_i2b, I_i2c, I_i2f, I_i2d, I_lcmp, I_fdiv, I_ddiv, I_f2d, I_dcmp, I_dup, I_pop, I_dup_x1, I_dup2, I_icne, I_iceq, I_iclt, I_icge, I_icgt, I_icle, I_ifnull, I_ifnonnull, I_ane, I_aeq, I_goto, I_tsw, I_lsw, I_iret, I_lret, I_fret, I_dret, I_vret, I_nret, I_aret, I_iald, I_bald, I_lald, I_aald, I_iast, I_bast, I_last, I_aast, I_alen, I_new, I_val, I_cast, I_inst, I_obj, I_throw, I_mkx, I_getf, I_putf, I_call, I_calli, I_callv, I_acopy, I_clone, I_getc, i_ifeq, i_ifne, i_iflt, i_ifge, i_ifgt, i_ifle, i_idiv, i_irem, i_newa, i_newo, i_abs, i_max, i_min, i_ldiv, en_, es_i, es_r, es_0, es_n, es_l, List.length_cons, List.length_nil, List.cons_append, List.nil_append, Nat.reduceAdd, Nat.reduceSub, List.replicate, lg_, st1_, st2_, cn_, nl_, mk_, pk_, kd_, sl_, la_, ft_a, ft_i, ft_l, ft_o, ft_n, ft_b0, ft_b1, ft_bI, nr_0, nr_1, nr_bI, ro_, no_, if_true, if_false, ite_true, ite_false, reduceIte, Nat.reduceMod, Nat.reduceEqDiff, Nat.zero_add, Nat.add_zero, lk_, tw_t, tw_1, tw_2, tw_3, tw_4, tw_5, tw_6, tw_9, tw_11, tw_12, tw_13, tw_14, tw_15, tw_16, tw_18, tw_19, tw_30, tg_0, tg_1, tg_2, tg_3, tg_4, tg_5, tg_6, tg_7, tg_8, tg_9, tg_10, tg_11, tg_12, tg_13, tg_14, tg_15, tg_16, tg_17, tg_18, tg_19, tg_20, tg_21, tg_22, tg_23, tg_24, tg_25, tg_26, tg_27, tg_28, tg_29, tg_30, tg_31, ts_0, ts_1, ts_2, ts_3, ts_4, ts_5, ts_6, ts_7, ts_8, ts_9, ts_10, ts_11, ts_12, ts_13, ts_14, ts_15, ts_16, ts_17, ts_18, ts_19, ts_20, ts_21, ts_22, ts_23, ts_24, ts_25, ts_26, ts_27, ts_28, ts_29, ts_30, ts_31, um_s, um_n, um_um, um_co, um_id, id_eq, lit_, nI_add, nI_mul, ix_nI, h1.1, h2.1, mx_nI, mn_nI]
/-- the parts and the edges taken, after so many rounds at most -/
def kr_ (r : Nat → Int32) (n s : Nat) : Nat → (Nat → Nat) × (Nat → Bool) → (Nat → Nat) × (Nat → Bool)
  | 0, x => x
  | f + 1, x => match nxe_ r n s x.1 with
    | none => x
    | some e => kr_ r n s f (joi_ x.1 (e / 12) (e % 12), fun k => if k = e then true else x.2 k)
/-- parts are named by marks that name themselves -/
def Pt_ (n : Nat) (pt : Nat → Nat) : Prop := ∀ k, k < n → pt k ≤ k ∧ pt (pt k) = pt k
/-- how many do -/
def mu1_ (pt : Nat → Nat) (a c : Nat) : Nat := if pt a = a then c + 1 else c
def mu_ (pt : Nat → Nat) (n : Nat) : Nat := fo_ (mu1_ pt) n 0 0
theorem mu_c {pt : Nat → Nat} : ∀ (d i c : Nat), fo_ (mu1_ pt) d i c = c + fo_ (mu1_ pt) d i 0 := by
  intro d
  induction d with
  | zero => intro i c; rfl
  | succ d ih =>
    intro i c
    rw [fo_, fo_, ih (i + 1) (mu1_ pt i c), ih (i + 1) (mu1_ pt i 0)]
    unfold mu1_
    split <;> omega
theorem mu_le {pt pt' : Nat → Nat} (h : ∀ k, pt' k = k → pt k = k) : ∀ (d i : Nat), fo_ (mu1_ pt') d i 0 ≤ fo_ (mu1_ pt) d i 0 := by
  intro d
  induction d with
  | zero => intro i; exact Nat.le_refl _
  | succ d ih =>
    intro i
    rw [fo_, fo_, mu_c d, mu_c d (i + 1) (mu1_ pt i 0)]
    have h1 := ih (i + 1)
    have h2 : mu1_ pt' i 0 ≤ mu1_ pt i 0 := by
      unfold mu1_
      by_cases c : pt' i = i
      · rw [if_pos c, if_pos (h i c)]; exact Nat.le_refl _
      · rw [if_neg c]; exact Nat.zero_le _
    omega
theorem mu_lt {pt pt' : Nat → Nat} (h : ∀ k, pt' k = k → pt k = k) {m : Nat} (h1 : pt m = m) (h2 : ¬ pt' m = m) : ∀ (d i : Nat), i ≤ m → m < i + d → fo_ (mu1_ pt') d i 0 < fo_ (mu1_ pt) d i 0 := by
  intro d
  induction d with
  | zero => intro i h3 h4; omega
  | succ d ih =>
    intro i h3 h4
    rw [fo_, fo_, mu_c d, mu_c d (i + 1) (mu1_ pt i 0)]
    by_cases e : i = m
    · subst e
      have h5 := mu_le h d (i + 1)
      have h6 : mu1_ pt' i 0 = 0 := if_neg h2
      have h7 : mu1_ pt i 0 = 1 := if_pos h1
      omega
    · have h5 := ih (i + 1) (by omega) (by omega)
      have h6 : mu1_ pt' i 0 ≤ mu1_ pt i 0 := by
        unfold mu1_
        by_cases c : pt' i = i
        · rw [if_pos c, if_pos (h i c)]; exact Nat.le_refl _
        · rw [if_neg c]; exact Nat.zero_le _
      omega
theorem joi_Pt {n : Nat} {pt : Nat → Nat} {a b : Nat} (hP : Pt_ n pt) (ha : a < n) (hb : b < n) : Pt_ n (joi_ pt a b) := by
  have h1 := hP a ha
  have h2 := hP b hb
  have h6 : pt (min (pt a) (pt b)) = min (pt a) (pt b) := by
    rw [Nat.min_def]; split
    · exact h1.2
    · exact h2.2
  intro k hk
  have h3 := hP k hk
  unfold joi_
  by_cases c : pt k = max (pt a) (pt b)
  · simp only [c, if_true]
    rw [h6]
    refine ⟨by omega, ?_⟩
    split
    · rfl
    · rfl
  · simp only [c, if_false]
    rw [h3.2, if_neg c]
    exact ⟨h3.1, rfl⟩
theorem joi_mu {n : Nat} {pt : Nat → Nat} {a b : Nat} (hP : Pt_ n pt) (ha : a < n) (hb : b < n) (hab : ¬ pt a = pt b) : mu_ (joi_ pt a b) n < mu_ pt n := by
  have h1 := hP a ha
  have h2 := hP b hb
  have h5 : pt (max (pt a) (pt b)) = max (pt a) (pt b) := by
    rw [Nat.max_def]; split
    · exact h2.2
    · exact h1.2
  have h6 : pt (min (pt a) (pt b)) = min (pt a) (pt b) := by
    rw [Nat.min_def]; split
    · exact h1.2
    · exact h2.2
  refine mu_lt (m := max (pt a) (pt b)) ?_ h5 ?_ n 0 (Nat.zero_le _) (by omega)
  · intro k hk
    unfold joi_ at hk
    split at hk
    · rw [← hk]; exact h6
    · exact hk
  · intro e
    unfold joi_ at e
    rw [if_pos h5] at e
    omega
end TWG
