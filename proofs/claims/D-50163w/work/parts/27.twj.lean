/-- the way along the forest -/
noncomputable def pth_ (r : Nat → Int32) (n s a b : Nat) : List Nat :=
  @dite _ (∃ w, wab_ (tkn_ r n s) a b w ∧ ∀ z ∈ w, z < n) (Classical.propDecidable _) (fun h => h.choose) (fun _ => [])
theorem pth_spec {r : Nat → Int32} {n s a b : Nat} (hn : n ≤ 12) (ha : a < n) (hb : b < n) (h : prt_ r n s a = prt_ r n s b) : wab_ (tkn_ r n s) a b (pth_ r n s a b) ∧ (∀ z ∈ pth_ r n s a b, z < n) := by
  have hF := (kr_all (r := r) (s := s) hn).2.1
  have hex := hF.2.2 a b ha hb h
  unfold pth_
  rw [dif_pos hex]
  exact hex.choose_spec
theorem pth_eq {r : Nat → Int32} {n s a b : Nat} {w : List Nat} (hn : n ≤ 12) (ha : a < n) (hw : wab_ (tkn_ r n s) a b w) (hz : ∀ z ∈ w, z < n) : w = pth_ r n s a b := by
  have hF := (kr_all (r := r) (s := s) hn).2.1
  have hex : ∃ w, wab_ (tkn_ r n s) a b w ∧ ∀ z ∈ w, z < n := ⟨w, hw, hz⟩
  have h2 := hex.choose_spec
  have e : pth_ r n s a b = hex.choose := by unfold pth_; rw [dif_pos hex]
  rw [e]
  exact hF.2.1 a b _ _ ha hw h2.1 (fun z h => Nat.lt_of_lt_of_le (hz z h) hn) (fun z h => Nat.lt_of_lt_of_le (h2.2 z h) hn)
/-- along a list of marks -/
def alo_ (f : Nat → Nat → Int32) : List Nat → Int32 → Int32
  | x :: y :: r, v => alo_ f (y :: r) (v + f x y)
  | _, v => v
section TWJ
variable {E : En_} {σ : As_} {t : Nat} {M : Nat → Nat → Int32}
theorem T_findsWay {n s a b : Nat} (hW : Wr_ (M 1) n s) (hK : Kn_ M n s) (ha : a < n) (hb : b < n) : ∃ wy c, D_ E 136 [.ref t, .int (nI a), .int (nI b)] (tw σ t M) = some (.inl (some (.int (bI (prt_ (M 1) n s a = prt_ (M 1) n s b)))), tw σ t (um (um M 16 wy) 17 (fun _ => nI c))) ∧ c ≤ 12 ∧ (prt_ (M 1) n s a = prt_ (M 1) n s b → c = (pth_ (M 1) n s a b).length ∧ Rw_ wy (pth_ (M 1) n s a b)) := by
  have h12 := wr_n12 hW
  have hk := kr_all (r := M 1) (s := s) h12
  obtain ⟨wy, c, ok, h1, h2, h3⟩ := T_walks (E := E) (σ := σ) (t := t) (M := M) hW hK.2.2 hk.2.1 hb 12 0 [] a (M 16) rfl rfl trivial (fun z hz => by rw [List.mem_singleton.mp hz]; exact ha) (fun i z hz => by simp at hz)
  rw [um_id] at h1
  have hok : (ok = true) ↔ prt_ (M 1) n s a = prt_ (M 1) n s b := by
    constructor
    · intro ho
      obtain ⟨w, g1, _, g3, _⟩ := h2 ho
      exact wk_pt hk.2.1 w a b g1 (fun z h => Nat.lt_of_lt_of_le (g3 z h) h12)
    · intro ho
      cases ok with
      | true => rfl
      | false =>
        exfalso
        have hp := pth_spec (r := M 1) (s := s) h12 ha hb ho
        exact (h3 rfl).1 ⟨_, hp.1, hp.1.1, hp.2⟩
  refine ⟨wy, c, ?_, ?_, fun ho => ?_⟩
  · have e1 : (none : Option Nat) = ([] : List Nat).getLast? := rfl
    rw [D_run]
    have e : bI (prt_ (M 1) n s a = prt_ (M 1) n s b) = bI (ok = true) := by
      unfold bI
      by_cases c : ok = true
      · rw [if_pos c, if_pos (hok.mp c)]
      · rw [if_neg c, if_neg (fun k => c (hok.mpr k))]
    rw [e]
    have h1' : D_ E 1000 [.ref t, .int (nI a), .int (nI b), .int (-nI 1)] (tw σ t (um M 17 (fun _ => nI 0))) = some (.inl (some (.int (bI (ok = true)))), tw σ t (um (um M 16 wy) 17 (fun _ => nI c))) := h1
    simp (disch := omega) only [l136, b136_0, K136_0, R_cons, go_nx, go_jp, go_rt, go_th, go_ca, go_no, go_ite, rr_v, rr_n, rr_x, hx_n, hx_p, hx_b, I_push, I_pushl, I_fc0, I_fc1, I_dc0, I_null, I_mask, I_iload, I_lload, I_dload, I_fload, I_aload, I_istore, I_lstore, I_dstore, I_fstore, I_astore, I_iinc, I_iadd, I_isub, I_imul, I_iand, I_ior, I_ixor, I_ishl, I_ishr, I_iushr, I_ineg, I_ladd, I_lsub, I_lmul, I_lxor, I_i2l, I_l2i, I_i2b, I_i2c, I_i2f, I_i2d, I_lcmp, I_fdiv, I_ddiv, I_f2d, I_dcmp, I_dup, I_pop, I_dup_x1, I_dup2, I_icne, I_iceq, I_iclt, I_icge, I_icgt, I_icle, I_ifnull, I_ifnonnull, I_ane, I_aeq, I_goto, I_tsw, I_lsw, I_iret, I_lret, I_fret, I_dret, I_vret, I_nret, I_aret, I_iald, I_bald, I_lald, I_aald, I_iast, I_bast, I_last, I_aast, I_alen, I_new, I_val, I_cast, I_inst, I_obj, I_throw, I_mkx, I_getf, I_putf, I_call, I_calli, I_callv, I_acopy, I_clone, I_getc, i_ifeq, i_ifne, i_iflt, i_ifge, i_ifgt, i_ifle, i_idiv, i_irem, i_newa, i_newo, i_abs, i_max, i_min, i_ldiv, en_, es_i, es_r, es_0, es_n, es_l, List.length_cons, List.length_nil, List.cons_append, List.nil_append, Nat.reduceAdd, Nat.reduceSub, List.replicate, lg_, st1_, st2_, cn_, nl_, mk_, pk_, kd_, sl_, la_, ft_a, ft_i, ft_l, ft_o, ft_n, ft_b0, ft_b1, ft_bI, nr_0, nr_1, nr_bI, ro_, no_, if_true, if_false, ite_true, ite_false, reduceIte, Nat.reduceMod, Nat.reduceEqDiff, Nat.zero_add, Nat.add_zero, lk_, tw_t, tw_1, tw_2, tw_3, tw_4, tw_5, tw_6, tw_9, tw_11, tw_12, tw_13, tw_14, tw_15, tw_16, tw_18, tw_19, tw_30, tg_0, tg_1, tg_2, tg_3, tg_4, tg_5, tg_6, tg_7, tg_8, tg_9, tg_10, tg_11, tg_12, tg_13, tg_14, tg_15, tg_16, tg_17, tg_18, tg_19, tg_20, tg_21, tg_22, tg_23, tg_24, tg_25, tg_26, tg_27, tg_28, tg_29, tg_30, tg_31, ts_0, ts_1, ts_2, ts_3, ts_4, ts_5, ts_6, ts_7, ts_8, ts_9, ts_10, ts_11, ts_12, ts_13, ts_14, ts_15, ts_16, ts_17, ts_18, ts_19, ts_20, ts_21, ts_22, ts_23, ts_24, ts_25, ts_26, ts_27, ts_28, ts_29, ts_30, ts_31, lit_, nI_add, nI_mul, ix_nI, h1']
  · cases ok with
    | true =>
      obtain ⟨w, g1, _, g3, g4, _⟩ := h2 rfl
      have := wk_len h12 hk.2.1 g1.1 g3
      omega
    | false => have := (h3 rfl).2.1; omega
  · obtain ⟨w, g1, _, g3, g4, g5⟩ := h2 (hok.mpr ho)
    have e := pth_eq (r := M 1) (s := s) h12 ha g1 g3
    rw [← e]
    exact ⟨by omega, g5⟩
theorem Rw_get {f : Nat → Int32} {l : List Nat} (h : Rw_ f l) {i : Nat} (hi : i < l.length) : f i = nI l[i] := h i _ (List.getElem?_eq_getElem hi)
theorem sumw_lp {n s : Nat} {e : Int32} {l : List Nat} (hW : Wr_ (M 1) n s) (hE : Ed_ M n s e) (hl : Rw_ (M 16) l) (hc : M 17 0 = nI l.length) (hz : ∀ z ∈ l, z < n) (h12 : l.length ≤ 12) : ∀ (d k : Nat) (v : Int32), k + 1 + d = l.length →
    R_ E 137 (B_ E 137 1) [some (.ref t), some (.int v), some (.int (nI (k + 1)))] [] (tw σ t M) = some (.inl (some (.int (alo_ (rf_ (M 1) e s) (l.drop k) v))), tw σ t M) := by
  intro d
  induction d with
  | zero =>
    intro k v hk
    have e1 : ∃ x, l.drop k = [x] := by
      have : (l.drop k).length = 1 := by rw [List.length_drop]; omega
      exact List.length_eq_one_iff.mp this
    obtain ⟨x, hx⟩ := e1
    have hle : l.length ≤ k + 1 := by omega
    rw [b137_1, hx]
    simp (disch := omega) only [K137_1, b137_2, K137_2, R_cons, go_nx, go_jp, go_rt, go_th, go_ca, go_no, go_ite, rr_v, rr_n, rr_x, hx_n, hx_p, hx_b, I_push, I_pushl, I_fc0, I_fc1, I_dc0, I_null, I_mask, I_iload, I_lload, I_dload, I_fload, I_aload, I_istore, I_lstore, I_dstore, I_fstore, I_astore, I_iinc, I_iadd, I_isub, I_imul, I_iand, I_ior, I_ixor, I_ishl, I_ishr, I_iushr, I_ineg, I_ladd, I_lsub, I_lmul, I_lxor, I_i2l, I_l2i, I_i2b, I_i2c, I_i2f, I_i2d, I_lcmp, I_fdiv, I_ddiv, I_f2d, I_dcmp, I_dup, I_pop, I_dup_x1, I_dup2, I_icne, I_iceq, I_iclt, I_icge, I_icgt, I_icle, I_ifnull, I_ifnonnull, I_ane, I_aeq, I_goto, I_tsw, I_lsw, I_iret, I_lret, I_fret, I_dret, I_vret, I_nret, I_aret, I_iald, I_bald, I_lald, I_aald, I_iast, I_bast, I_last, I_aast, I_alen, I_new, I_val, I_cast, I_inst, I_obj, I_throw, I_mkx, I_getf, I_putf, I_call, I_calli, I_callv, I_acopy, I_clone, I_getc, i_ifeq, i_ifne, i_iflt, i_ifge, i_ifgt, i_ifle, i_idiv, i_irem, i_newa, i_newo, i_abs, i_max, i_min, i_ldiv, en_, es_i, es_r, es_0, es_n, es_l, List.length_cons, List.length_nil, List.cons_append, List.nil_append, Nat.reduceAdd, Nat.reduceSub, List.replicate, lg_, st1_, st2_, cn_, nl_, mk_, pk_, kd_, sl_, la_, ft_a, ft_i, ft_l, ft_o, ft_n, ft_b0, ft_b1, ft_bI, nr_0, nr_1, nr_bI, ro_, no_, if_true, if_false, ite_true, ite_false, reduceIte, Nat.reduceMod, Nat.reduceEqDiff, Nat.zero_add, Nat.add_zero, lk_, tw_t, tw_1, tw_2, tw_3, tw_4, tw_5, tw_6, tw_9, tw_11, tw_12, tw_13, tw_14, tw_15, tw_16, tw_18, tw_19, tw_30, tg_0, tg_1, tg_2, tg_3, tg_4, tg_5, tg_6, tg_7, tg_8, tg_9, tg_10, tg_11, tg_12, tg_13, tg_14, tg_15, tg_16, tg_17, tg_18, tg_19, tg_20, tg_21, tg_22, tg_23, tg_24, tg_25, tg_26, tg_27, tg_28, tg_29, tg_30, tg_31, ts_0, ts_1, ts_2, ts_3, ts_4, ts_5, ts_6, ts_7, ts_8, ts_9, ts_10, ts_11, ts_12, ts_13, ts_14, ts_15, ts_16, ts_17, ts_18, ts_19, ts_20, ts_21, ts_22, ts_23, ts_24, ts_25, ts_26, ts_27, ts_28, ts_29, ts_30, ts_31, um_s, um_n, um_um, um_co, um_id, id_eq, lit_, nI_add, nI_mul, ix_nI, hc, nI_leI, hle, alo_]
  | succ d ih =>
    intro k v hk
    have hlt : ¬ l.length ≤ k + 1 := by omega
    have h1 := Rw_get hl (show k < l.length by omega)
    have h2 := Rw_get hl (show k + 1 < l.length by omega)
    have e1 : l.drop k = l[k] :: l[k + 1] :: l.drop (k + 2) := by
      rw [List.drop_eq_getElem_cons (by omega), List.drop_eq_getElem_cons (by omega)]
    have e2 : l.drop (k + 1) = l[k + 1] :: l.drop (k + 2) := by
      rw [List.drop_eq_getElem_cons (by omega)]
    have hR := T_riseFrom (E := E) (σ := σ) (t := t) (M := M) hW hE (hz _ (List.getElem_mem (show k < l.length by omega))) (hz _ (List.getElem_mem (show k + 1 < l.length by omega)))
    rw [e1, alo_, ← e2, ← ih (k + 1) _ (by omega)]
    conv => lhs; rw [b137_1]
    simp (disch := omega) only [K137_1, R_cons, go_nx, go_jp, go_rt, go_th, go_ca, go_no, go_ite, rr_v, rr_n, rr_x, hx_n, hx_p, hx_b, I_push, I_pushl, I_fc0, I_fc1, I_dc0, I_null, I_mask, I_iload, I_lload, I_dload, I_fload, I_aload, I_istore, I_lstore, I_dstore, I_fstore, I_astore, I_iinc, I_iadd, I_isub, I_imul, I_iand, I_ior, I_ixor, I_ishl, I_ishr, I_iushr, I_ineg, I_ladd, I_lsub, I_lmul, I_lxor, I_i2l, I_l2i, I_i2b, I_i2c, I_i2f, I_i2d, I_lcmp, I_fdiv, I_ddiv, I_f2d, I_dcmp, I_dup, I_pop, I_dup_x1, I_dup2, I_icne, I_iceq, I_iclt, I_icge, I_icgt, I_icle, I_ifnull, I_ifnonnull, I_ane, I_aeq, I_goto, I_tsw, I_lsw, I_iret, I_lret, I_fret, I_dret, I_vret, I_nret, I_aret, I_iald, I_bald, I_lald, I_aald, I_iast, I_bast, I_last, I_aast, I_alen, I_new, I_val, I_cast, I_inst, I_obj, I_throw, I_mkx, I_getf, I_putf, I_call, I_calli, I_callv, I_acopy, I_clone, I_getc, i_ifeq, i_ifne, i_iflt, i_ifge, i_ifgt, i_ifle, i_idiv, i_irem, i_newa, i_newo, i_abs, i_max, i_min, i_ldiv, en_, es_i, es_r, es_0, es_n, es_l, List.length_cons, List.length_nil, List.cons_append, List.nil_append, Nat.reduceAdd, Nat.reduceSub, List.replicate, lg_, st1_, st2_, cn_, nl_, mk_, pk_, kd_, sl_, la_, ft_a, ft_i, ft_l, ft_o, ft_n, ft_b0, ft_b1, ft_bI, nr_0, nr_1, nr_bI, ro_, no_, if_true, if_false, ite_true, ite_false, reduceIte, Nat.reduceMod, Nat.reduceEqDiff, Nat.zero_add, Nat.add_zero, lk_, tw_t, tw_1, tw_2, tw_3, tw_4, tw_5, tw_6, tw_9, tw_11, tw_12, tw_13, tw_14, tw_15, tw_16, tw_18, tw_19, tw_30, tg_0, tg_1, tg_2, tg_3, tg_4, tg_5, tg_6, tg_7, tg_8, tg_9, tg_10, tg_11, tg_12, tg_13, tg_14, tg_15, tg_16, tg_17, tg_18, tg_19, tg_20, tg_21, tg_22, tg_23, tg_24, tg_25, tg_26, tg_27, tg_28, tg_29, tg_30, tg_31, ts_0, ts_1, ts_2, ts_3, ts_4, ts_5, ts_6, ts_7, ts_8, ts_9, ts_10, ts_11, ts_12, ts_13, ts_14, ts_15, ts_16, ts_17, ts_18, ts_19, ts_20, ts_21, ts_22, ts_23, ts_24, ts_25, ts_26, ts_27, ts_28, ts_29, ts_30, ts_31, um_s, um_n, um_um, um_co, um_id, id_eq, lit_, nI_add, nI_mul, ix_nI, hc, nI_leI, hlt, nI_sub, Nat.add_sub_cancel, h1, h2, hR, nI_1]
theorem T_sumOfWay {n s : Nat} {e : Int32} {l : List Nat} (hW : Wr_ (M 1) n s) (hE : Ed_ M n s e) (hl : Rw_ (M 16) l) (hc : M 17 0 = nI l.length) (hz : ∀ z ∈ l, z < n) (h12 : l.length ≤ 12) (h0 : 0 < l.length) : D_ E 137 [.ref t] (tw σ t M) = some (.inl (some (.int (alo_ (rf_ (M 1) e s) l (nI 0)))), tw σ t M) := by
  have h := sumw_lp (E := E) (σ := σ) (t := t) hW hE hl hc hz h12 (l.length - 1) 0 (nI 0) (by omega)
  rw [List.drop_zero] at h
  rw [← h, D_run]
  simp (disch := omega) only [b137_0, K137_0, l137, R_cons, go_nx, go_jp, go_rt, go_th, go_ca, go_no, go_ite, rr_v, rr_n, rr_x, hx_n, hx_p, hx_b, I_push, I_pushl, I_fc0, I_fc1, I_dc0, I_null, I_mask, I_iload, I_lload, I_dload, I_fload, I_aload, I_istore, I_lstore, I_dstore, I_fstore, I_astore, I_iinc, I_iadd, I_isub, I_imul, I_iand, I_ior, I_ixor, I_ishl, I_ishr, I_iushr, I_ineg, I_ladd, I_lsub, I_lmul, I_lxor, I_i2l, I_l2i, I_i2b, I_i2c, I_i2f, I_i2d, I_lcmp, I_fdiv, I_ddiv, I_f2d, I_dcmp, I_dup, I_pop, I_dup_x1, I_dup2, I_icne, I_iceq, I_iclt, I_icge, I_icgt, I_icle, I_ifnull, I_ifnonnull, I_ane, I_aeq, I_goto, I_tsw, I_lsw, I_iret, I_lret, I_fret, I_dret, I_vret, I_nret, I_aret, I_iald, I_bald, I_lald, I_aald, I_iast, I_bast, I_last, I_aast, I_alen, I_new, I_val, I_cast, I_inst, I_obj, I_throw, I_mkx, I_getf, I_putf, I_call, I_calli, I_callv, I_acopy, I_clone, I_getc, i_ifeq, i_ifne, i_iflt, i_ifge, i_ifgt, i_ifle, i_idiv, i_irem, i_newa, i_newo, i_abs, i_max, i_min, i_ldiv, en_, es_i, es_r, es_0, es_n, es_l, List.length_cons, List.length_nil, List.cons_append, List.nil_append, Nat.reduceAdd, Nat.reduceSub, List.replicate, lg_, st1_, st2_, cn_, nl_, mk_, pk_, kd_, sl_, la_, ft_a, ft_i, ft_l, ft_o, ft_n, ft_b0, ft_b1, ft_bI, nr_0, nr_1, nr_bI, ro_, no_, if_true, if_false, ite_true, ite_false, reduceIte, Nat.reduceMod, Nat.reduceEqDiff, Nat.zero_add, Nat.add_zero, lk_, tw_t, tw_1, tw_2, tw_3, tw_4, tw_5, tw_6, tw_9, tw_11, tw_12, tw_13, tw_14, tw_15, tw_16, tw_18, tw_19, tw_30, tg_0, tg_1, tg_2, tg_3, tg_4, tg_5, tg_6, tg_7, tg_8, tg_9, tg_10, tg_11, tg_12, tg_13, tg_14, tg_15, tg_16, tg_17, tg_18, tg_19, tg_20, tg_21, tg_22, tg_23, tg_24, tg_25, tg_26, tg_27, tg_28, tg_29, tg_30, tg_31, ts_0, ts_1, ts_2, ts_3, ts_4, ts_5, ts_6, ts_7, ts_8, ts_9, ts_10, ts_11, ts_12, ts_13, ts_14, ts_15, ts_16, ts_17, ts_18, ts_19, ts_20, ts_21, ts_22, ts_23, ts_24, ts_25, ts_26, ts_27, ts_28, ts_29, ts_30, ts_31, um_s, um_n, um_um, um_co, um_id, id_eq, lit_, nI_add, nI_mul, ix_nI]
theorem lenw_lp {n s : Nat} {l : List Nat} (hW : Wr_ (M 1) n s) (hl : Rw_ (M 16) l) (hc : M 17 0 = nI l.length) (hz : ∀ z ∈ l, z < n) (h12 : l.length ≤ 12) : ∀ (d k : Nat) (v : Int32), k + 1 + d = l.length →
    R_ E 140 (B_ E 140 1) [some (.ref t), some (.int v), some (.int (nI (k + 1)))] [] (tw σ t M) = some (.inl (some (.int (alo_ (di_ (M 1)) (l.drop k) v))), tw σ t M) := by
  have hn12 := wr_n12 hW
  intro d
  induction d with
  | zero =>
    intro k v hk
    have e1 : ∃ x, l.drop k = [x] := by
      have : (l.drop k).length = 1 := by rw [List.length_drop]; omega
      exact List.length_eq_one_iff.mp this
    obtain ⟨x, hx⟩ := e1
    have hle : l.length ≤ k + 1 := by omega
    rw [b140_1, hx]
    simp (disch := omega) only [K140_1, b140_2, K140_2, R_cons, go_nx, go_jp, go_rt, go_th, go_ca, go_no, go_ite, rr_v, rr_n, rr_x, hx_n, hx_p, hx_b, I_push, I_pushl, I_fc0, I_fc1, I_dc0, I_null, I_mask, I_iload, I_lload, I_dload, I_fload, I_aload, I_istore, I_lstore, I_dstore, I_fstore, I_astore, I_iinc, I_iadd, I_isub, I_imul, I_iand, I_ior, I_ixor, I_ishl, I_ishr, I_iushr, I_ineg, I_ladd, I_lsub, I_lmul, I_lxor, I_i2l, I_l2i, I_i2b, I_i2c, I_i2f, I_i2d, I_lcmp, I_fdiv, I_ddiv, I_f2d, I_dcmp, I_dup, I_pop, I_dup_x1, I_dup2, I_icne, I_iceq, I_iclt, I_icge, I_icgt, I_icle, I_ifnull, I_ifnonnull, I_ane, I_aeq, I_goto, I_tsw, I_lsw, I_iret, I_lret, I_fret, I_dret, I_vret, I_nret, I_aret, I_iald, I_bald, I_lald, I_aald, I_iast, I_bast, I_last, I_aast, I_alen, I_new, I_val, I_cast, I_inst, I_obj, I_throw, I_mkx, I_getf, I_putf, I_call, I_calli, I_callv, I_acopy, I_clone, I_getc, i_ifeq, i_ifne, i_iflt, i_ifge, i_ifgt, i_ifle, i_idiv, i_irem, i_newa, i_newo, i_abs, i_max, i_min, i_ldiv, en_, es_i, es_r, es_0, es_n, es_l, List.length_cons, List.length_nil, List.cons_append, List.nil_append, Nat.reduceAdd, Nat.reduceSub, List.replicate, lg_, st1_, st2_, cn_, nl_, mk_, pk_, kd_, sl_, la_, ft_a, ft_i, ft_l, ft_o, ft_n, ft_b0, ft_b1, ft_bI, nr_0, nr_1, nr_bI, ro_, no_, if_true, if_false, ite_true, ite_false, reduceIte, Nat.reduceMod, Nat.reduceEqDiff, Nat.zero_add, Nat.add_zero, lk_, tw_t, tw_1, tw_2, tw_3, tw_4, tw_5, tw_6, tw_9, tw_11, tw_12, tw_13, tw_14, tw_15, tw_16, tw_18, tw_19, tw_30, tg_0, tg_1, tg_2, tg_3, tg_4, tg_5, tg_6, tg_7, tg_8, tg_9, tg_10, tg_11, tg_12, tg_13, tg_14, tg_15, tg_16, tg_17, tg_18, tg_19, tg_20, tg_21, tg_22, tg_23, tg_24, tg_25, tg_26, tg_27, tg_28, tg_29, tg_30, tg_31, ts_0, ts_1, ts_2, ts_3, ts_4, ts_5, ts_6, ts_7, ts_8, ts_9, ts_10, ts_11, ts_12, ts_13, ts_14, ts_15, ts_16, ts_17, ts_18, ts_19, ts_20, ts_21, ts_22, ts_23, ts_24, ts_25, ts_26, ts_27, ts_28, ts_29, ts_30, ts_31, um_s, um_n, um_um, um_co, um_id, id_eq, lit_, nI_add, nI_mul, ix_nI, hc, nI_leI, hle, alo_]
  | succ d ih =>
    intro k v hk
    have hlt : ¬ l.length ≤ k + 1 := by omega
    have h1 := Rw_get hl (show k < l.length by omega)
    have h2 := Rw_get hl (show k + 1 < l.length by omega)
    have e1 : l.drop k = l[k] :: l[k + 1] :: l.drop (k + 2) := by
      rw [List.drop_eq_getElem_cons (by omega), List.drop_eq_getElem_cons (by omega)]
    have e2 : l.drop (k + 1) = l[k + 1] :: l.drop (k + 2) := by
      rw [List.drop_eq_getElem_cons (by omega)]
    have hR := T_distance (E := E) (σ := σ) (t := t) (M := M) (Nat.lt_of_lt_of_le (hz _ (List.getElem_mem (show k < l.length by omega))) hn12) (Nat.lt_of_lt_of_le (hz _ (List.getElem_mem (show k + 1 < l.length by omega))) hn12)
    rw [e1, alo_, ← e2, ← ih (k + 1) _ (by omega)]
    conv => lhs; rw [b140_1]
    simp (disch := omega) only [K140_1, R_cons, go_nx, go_jp, go_rt, go_th, go_ca, go_no, go_ite, rr_v, rr_n, rr_x, hx_n, hx_p, hx_b, I_push, I_pushl, I_fc0, I_fc1, I_dc0, I_null, I_mask, I_iload, I_lload, I_dload, I_fload, I_aload, I_istore, I_lstore, I_dstore, I_fstore, I_astore, I_iinc, I_iadd, I_isub, I_imul, I_iand, I_ior, I_ixor, I_ishl, I_ishr, I_iushr, I_ineg, I_ladd, I_lsub, I_lmul, I_lxor, I_i2l, I_l2i, I_i2b, I_i2c, I_i2f, I_i2d, I_lcmp, I_fdiv, I_ddiv, I_f2d, I_dcmp, I_dup, I_pop, I_dup_x1, I_dup2, I_icne, I_iceq, I_iclt, I_icge, I_icgt, I_icle, I_ifnull, I_ifnonnull, I_ane, I_aeq, I_goto, I_tsw, I_lsw, I_iret, I_lret, I_fret, I_dret, I_vret, I_nret, I_aret, I_iald, I_bald, I_lald, I_aald, I_iast, I_bast, I_last, I_aast, I_alen, I_new, I_val, I_cast, I_inst, I_obj, I_throw, I_mkx, I_getf, I_putf, I_call, I_calli, I_callv, I_acopy, I_clone, I_getc, i_ifeq, i_ifne, i_iflt, i_ifge, i_ifgt, i_ifle, i_idiv, i_irem, i_newa, i_newo, i_abs, i_max, i_min, i_ldiv, en_, es_i, es_r, es_0, es_n, es_l, List.length_cons, List.length_nil, List.cons_append, List.nil_append, Nat.reduceAdd, Nat.reduceSub, List.replicate, lg_, st1_, st2_, cn_, nl_, mk_, pk_, kd_, sl_, la_, ft_a, ft_i, ft_l, ft_o, ft_n, ft_b0, ft_b1, ft_bI, nr_0, nr_1, nr_bI, ro_, no_, if_true, if_false, ite_true, ite_false, reduceIte, Nat.reduceMod, Nat.reduceEqDiff, Nat.zero_add, Nat.add_zero, lk_, tw_t, tw_1, tw_2, tw_3, tw_4, tw_5, tw_6, tw_9, tw_11, tw_12, tw_13, tw_14, tw_15, tw_16, tw_18, tw_19, tw_30, tg_0, tg_1, tg_2, tg_3, tg_4, tg_5, tg_6, tg_7, tg_8, tg_9, tg_10, tg_11, tg_12, tg_13, tg_14, tg_15, tg_16, tg_17, tg_18, tg_19, tg_20, tg_21, tg_22, tg_23, tg_24, tg_25, tg_26, tg_27, tg_28, tg_29, tg_30, tg_31, ts_0, ts_1, ts_2, ts_3, ts_4, ts_5, ts_6, ts_7, ts_8, ts_9, ts_10, ts_11, ts_12, ts_13, ts_14, ts_15, ts_16, ts_17, ts_18, ts_19, ts_20, ts_21, ts_22, ts_23, ts_24, ts_25, ts_26, ts_27, ts_28, ts_29, ts_30, ts_31, um_s, um_n, um_um, um_co, um_id, id_eq, lit_, nI_add, nI_mul, ix_nI, hc, nI_leI, hlt, nI_sub, Nat.add_sub_cancel, h1, h2, hR, nI_1]
theorem T_lengthOfWay {n s : Nat} {l : List Nat} (hW : Wr_ (M 1) n s) (hl : Rw_ (M 16) l) (hc : M 17 0 = nI l.length) (hz : ∀ z ∈ l, z < n) (h12 : l.length ≤ 12) (h0 : 0 < l.length) : D_ E 140 [.ref t] (tw σ t M) = some (.inl (some (.int (alo_ (di_ (M 1)) l (nI 0)))), tw σ t M) := by
  have h := lenw_lp (E := E) (σ := σ) (t := t) hW hl hc hz h12 (l.length - 1) 0 (nI 0) (by omega)
  rw [List.drop_zero] at h
  rw [← h, D_run]
  simp (disch := omega) only [b140_0, K140_0, l140, R_cons, go_nx, go_jp, go_rt, go_th, go_ca, go_no, go_ite, rr_v, rr_n, rr_x, hx_n, hx_p, hx_b, I_push, I_pushl, I_fc0, I_fc1, I_dc0, I_null, I_mask, I_iload, I_lload, I_dload, I_fload, I_aload, I_istore, I_lstore, I_dstore, I_fstore, I_astore, I_iinc, I_iadd, I_isub, I_imul, I_iand, I_ior, I_ixor, I_ishl, I_ishr, I_iushr, I_ineg, I_ladd, I_lsub, I_lmul, I_lxor, I_i2l, I_l2i, I_i2b, I_i2c, I_i2f, I_i2d, I_lcmp, I_fdiv, I_ddiv, I_f2d, I_dcmp, I_dup, I_pop, I_dup_x1, I_dup2, I_icne, I_iceq, I_iclt, I_icge, I_icgt, I_icle, I_ifnull, I_ifnonnull, I_ane, I_aeq, I_goto, I_tsw, I_lsw, I_iret, I_lret, I_fret, I_dret, I_vret, I_nret, I_aret, I_iald, I_bald, I_lald, I_aald, I_iast, I_bast, I_last, I_aast, I_alen, I_new, I_val, I_cast, I_inst, I_obj, I_throw, I_mkx, I_getf, I_putf, I_call, I_calli, I_callv, I_acopy, I_clone, I_getc, i_ifeq, i_ifne, i_iflt, i_ifge, i_ifgt, i_ifle, i_idiv, i_irem, i_newa, i_newo, i_abs, i_max, i_min, i_ldiv, en_, es_i, es_r, es_0, es_n, es_l, List.length_cons, List.length_nil, List.cons_append, List.nil_append, Nat.reduceAdd, Nat.reduceSub, List.replicate, lg_, st1_, st2_, cn_, nl_, mk_, pk_, kd_, sl_, la_, ft_a, ft_i, ft_l, ft_o, ft_n, ft_b0, ft_b1, ft_bI, nr_0, nr_1, nr_bI, ro_, no_, if_true, if_false, ite_true, ite_false, reduceIte, Nat.reduceMod, Nat.reduceEqDiff, Nat.zero_add, Nat.add_zero, lk_, tw_t, tw_1, tw_2, tw_3, tw_4, tw_5, tw_6, tw_9, tw_11, tw_12, tw_13, tw_14, tw_15, tw_16, tw_18, tw_19, tw_30, tg_0, tg_1, tg_2, tg_3, tg_4, tg_5, tg_6, tg_7, tg_8, tg_9, tg_10, tg_11, tg_12, tg_13, tg_14, tg_15, tg_16, tg_17, tg_18, tg_19, tg_20, tg_21, tg_22, tg_23, tg_24, tg_25, tg_26, tg_27, tg_28, tg_29, tg_30, tg_31, ts_0, ts_1, ts_2, ts_3, ts_4, ts_5, ts_6, ts_7, ts_8, ts_9, ts_10, ts_11, ts_12, ts_13, ts_14, ts_15, ts_16, ts_17, ts_18, ts_19, ts_20, ts_21, ts_22, ts_23, ts_24, ts_25, ts_26, ts_27, ts_28, ts_29, ts_30, ts_31, um_s, um_n, um_um, um_co, um_id, id_eq, lit_, nI_add, nI_mul, ix_nI]
end TWJ
