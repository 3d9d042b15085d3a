section CNF
variable {E : En_} {σ : As_} {w n s b bb q : Nat} {r : Nat → Int32} {ms ss : List Nat} {h0 : Nat → Option Ac_} {lc : Ac_} {N : Nat → Nat → Int32}
/-- the rise of a sight, seen from the smaller mark -/
def gv_ (r : Nat → Int32) (e : Int32) (i : Nat) : Int32 := if fr_ r i < to_ r i then ri_ r e i else -ri_ r e i
/-- a sight is laid into the rows -/
def lr1_ (r : Nat → Int32) (e : Int32) (i : Nat) (N : Nat → Nat → Int32) : Nat → Nat → Int32 :=
  if r (68 + 6 * i + 5) = nI 0 then
    um (um (um (um N 2 (upd (N 2) (pas_ r i) (if N 0 (pas_ r i) = nI 0 then gv_ r e i else mn_ (N 2 (pas_ r i)) (gv_ r e i)))) 3 (upd (N 3) (pas_ r i) (if N 0 (pas_ r i) = nI 0 then gv_ r e i else mx_ (N 3 (pas_ r i)) (gv_ r e i)))) 1 (upd (N 1) (pas_ r i) (N 1 (pas_ r i) + gv_ r e i))) 0 (upd (N 0) (pas_ r i) (N 0 (pas_ r i) + nI 1))
  else N
theorem one_mulI {z : Int32} : nI 1 * z = z := Int32.one_mul z
theorem neg1_mulI {z : Int32} : -nI 1 * z = -z := by
  rw [Int32.neg_mul]
  exact congrArg _ (Int32.one_mul z)
theorem lr_lp {am em as es st it : Nat} {mc mc' : Int32} {e : Int32} (hA : WlA_ E h0 w r am em as es st mc mc' ms ss) (hm : ms.length = n) (hss : ss.length = s) (hW : Wr_ r n s) (hit : q + 2 < it) : ∀ (d k : Nat) (N : Nat → Nat → Int32) (σ : As_) (lr : Int32) (u2 u3 u4 : Option Value), k + d = s → NV_ h0 σ b bb q w lc N → N 7 0 = e → It_ σ.2.2 it k lr mc' as →
    ∃ σ', R_ E 289 (B_ E 289 1) [some (.ref b), some (.ref it), u2, u3, u4] [] σ = R_ E 289 (B_ E 289 7) [some (.ref b), some (.ref it), none, none, none] [] σ' ∧ NV_ h0 σ' b bb q w lc (fo_ (lr1_ r e) d k N) ∧ σ'.1 = σ.1 ∧ σ'.2.1 = σ.2.1 := by
  have h40 := wr_s40 hW
  have h12 := wr_n12 hW
  intro d
  induction d with
  | zero =>
    intro k N σ lr u2 u3 u4 hk h h7 hI
    have hL := Ls_mono h.2.1 hA.2.2.1
    have hN := J_hasNext (E := E) hL hI (by omega)
    rw [bI_f (by omega)] at hN
    unfold It_ at hI
    refine ⟨σ, ?_, h, rfl, rfl⟩
    conv => lhs; rw [b289_1]
    simp (disch := omega) only [K289_1, R_cons, go_nx, go_jp, go_rt, go_th, go_ca, go_no, go_ite, rr_v, rr_n, rr_x, hx_n, hx_p, hx_b, I_push, I_pushl, I_fc0, I_fc1, I_dc0, I_null, I_mask, I_iload, I_lload, I_dload, I_fload, I_aload, I_istore, I_lstore, I_dstore, I_fstore, I_astore, I_iinc, I_iadd, I_isub, I_imul, I_iand, I_ior, I_ixor, I_ishl, I_ishr, I_iushr, I_ineg, I_ladd, I_lsub, I_lmul, I_lxor, I_i2l, I_l2i, I_i2b, I_i2c, I_i2f, I_i2d, I_lcmp, I_fdiv, I_ddiv, I_f2d, I_dcmp, I_dup, I_pop, I_dup_x1, I_dup2, I_icne, I_iceq, I_iclt, I_icge, I_icgt, I_icle, I_ifnull, I_ifnonnull, I_ane, I_aeq, I_goto, I_lsw, I_iret, I_lret, I_fret, I_dret, I_vret, I_nret, I_aret, I_iald, I_bald, I_lald, I_aald, I_iast, I_bast, I_last, I_aast, I_alen, I_new, I_val, I_cast, I_inst, I_obj, I_throw, I_mkx, I_getf, I_putf, I_call, I_calli, I_callv, I_clone, I_getc, i_ifeq, i_ifne, i_iflt, i_ifge, i_ifgt, i_ifle, i_idiv, i_irem, i_newa, i_newo, i_abs, i_max, i_min, i_ldiv, en_, es_i, es_r, es_0, es_n, es_l, List.length_cons, List.length_nil, List.cons_append, List.nil_append, Nat.reduceAdd, Nat.reduceSub, List.replicate, lg_, st1_, st2_, cn_, nl_, mk_, pk_, kd_, sl_, la_, ft_a, ft_i, ft_l, ft_o, ft_n, ft_b0, ft_b1, ft_bI, nr_0, nr_1, nr_bI, ro_, no_, if_true, if_false, ite_true, ite_false, reduceIte, Nat.reduceMod, Nat.reduceEqDiff, Nat.zero_add, Nat.add_zero, lk_, lit_, nI_add, nI_mul, ix_nI, fgk_0, fgk_1, fgk_2, fgk_3, fgk_4, fgk_5, fgk_6, fgk_7, fgk_8, fgk_9, fgk_10, fgk_11, fgk_12, fgk_13, fsk_0, fsk_1, fsk_2, fsk_3, fsk_4, fsk_5, fsk_6, fsk_7, fsk_8, fsk_9, fsk_10, fsk_11, fsk_12, fsk_13, ca_i, ca_r, ca_n, Nat.reduceLT, true_or, or_true, if_true, false_or, or_false, and_true, true_and, List.mem_singleton, eq_self, hI, hN]
  | succ d ih =>
    intro k N σ lr u2 u3 u4 hk h h7 hI
    have hL := Ls_mono h.2.1 hA.2.2.1
    have hN := J_hasNext (E := E) hL hI (by omega)
    rw [bI_t (by omega)] at hN
    have hX := J_next (E := E) hL hI (show k < ss.length by omega)
    have hI' := hI
    unfold It_ at hI'
    have hkl : k < ss.length := by omega
    have hks : k < s := by omega
    obtain ⟨σ1, hσ1⟩ : ∃ σ1 : As_, σ1 = (σ.1, σ.2.1, up_ σ.2.2 it (.inr (12, [.int (nI (k + 1)), .int (nI k), .int mc', .ref as]))) := ⟨_, rfl⟩
    have h1 : NV_ h0 σ1 b bb q w lc N := by rw [hσ1]; exact NV_oth h hI' (by have := h.2.2.2.2; omega) (Or.inr hit)
    have hit1 : It_ σ1.2.2 it (k + 1) (nI k) mc' as := by rw [hσ1]; exact up_s _ _ _
    rw [← hσ1] at hX
    have hS : SgC_ σ1.2.2 ss[k] r k := h1.2.1 _ _ (hA.2.2.2.2.2.1 k _ (List.getElem?_eq_getElem hkl))
    have hS' := sg_ft hW hks hS
    have hwl : Wl_ E σ1.2.2 w r ms ss := ⟨am, em, as, es, st, mc, mc', WlA_mono h1.2.1 hA⟩
    have hK := G_key (E := E) hW hks hS
    have hG := G_sign (E := E) hW hks hS
    have hR := W_rise (E := E) (e := N 7 0) hwl hm hW hks hS
    have hp : pas_ r k < 144 := pa_lt (by have := (wr_fr hW hks).2; omega) (by have := (wr_to hW hks).2; omega)
    have hst1 : σ1.1 = σ.1 ∧ σ1.2.1 = σ.2.1 := by rw [hσ1]; exact ⟨rfl, rfl⟩
    have hbq := h.2.2.2.2
    have hwc := h1.2.1 _ _ hA.1
    rw [fo_]
    unfold lr1_
    by_cases c1 : r (68 + 6 * k + 5) = nI 0
    · rw [if_pos c1]
      have h2 := NV_2 (f := upd (N 2) (pas_ r k) (if N 0 (pas_ r k) = nI 0 then gv_ r e k else mn_ (N 2 (pas_ r k)) (gv_ r e k))) h1
      have h3 := NV_3 (f := upd (N 3) (pas_ r k) (if N 0 (pas_ r k) = nI 0 then gv_ r e k else mx_ (N 3 (pas_ r k)) (gv_ r e k))) h2
      have h4 := NV_1 (f := upd (N 1) (pas_ r k) (N 1 (pas_ r k) + gv_ r e k)) h3
      have h5 := NV_0 (f := upd (N 0) (pas_ r k) (N 0 (pas_ r k) + nI 1)) h4
      dsimp only at h5
      have e7 : um (um (um (um N 2 (upd (N 2) (pas_ r k) (if N 0 (pas_ r k) = nI 0 then gv_ r e k else mn_ (N 2 (pas_ r k)) (gv_ r e k)))) 3 (upd (N 3) (pas_ r k) (if N 0 (pas_ r k) = nI 0 then gv_ r e k else mx_ (N 3 (pas_ r k)) (gv_ r e k)))) 1 (upd (N 1) (pas_ r k) (N 1 (pas_ r k) + gv_ r e k))) 0 (upd (N 0) (pas_ r k) (N 0 (pas_ r k) + nI 1)) 7 0 = e := h7
      obtain ⟨σ', g1, g2, g3, g4⟩ := ih (k + 1) _ _ (nI k) none (some (.int (nI (pas_ r k)))) (some (.int (gv_ r e k))) (by omega) h5 e7 (by
        unfold It_
        dsimp only
        rw [up_n (by omega), up_n (by omega), up_n (by omega), up_n (by omega)]
        exact hit1)
      refine ⟨σ', ?_, g2, by rw [g3]; exact hst1.1, by rw [g4]; exact hst1.2⟩
      rw [← g1]
      obtain ⟨⟨c0, d0, d1, d2, d3, _⟩, _⟩ := h1
      have c0' := h.1.1
      conv => lhs; rw [b289_1]
      rw [h7] at hR
      by_cases c4 : fr_ r k < to_ r k
      · rw [if_pos c4] at hG
        have eg : gv_ r e k = ri_ r e k := if_pos c4
        rw [eg]
        by_cases c5 : N 0 (pas_ r k) = nI 0
        · rw [if_pos c5, if_pos c5]
          simp (disch := first | assumption | omega) only [K289_1, b289_2, K289_2, b289_4, K289_4, b289_6, K289_6, R_cons, go_nx, go_jp, go_rt, go_th, go_ca, go_no, go_ite, rr_v, rr_n, rr_x, hx_n, hx_p, hx_b, I_push, I_pushl, I_fc0, I_fc1, I_dc0, I_null, I_mask, I_iload, I_lload, I_dload, I_fload, I_aload, I_istore, I_lstore, I_dstore, I_fstore, I_astore, I_iinc, I_iadd, I_isub, I_imul, I_iand, I_ior, I_ixor, I_ishl, I_ishr, I_iushr, I_ineg, I_ladd, I_lsub, I_lmul, I_lxor, I_i2l, I_l2i, I_i2b, I_i2c, I_i2f, I_i2d, I_lcmp, I_fdiv, I_ddiv, I_f2d, I_dcmp, I_dup, I_pop, I_dup_x1, I_dup2, I_icne, I_iceq, I_iclt, I_icge, I_icgt, I_icle, I_ifnull, I_ifnonnull, I_ane, I_aeq, I_goto, I_lsw, I_iret, I_lret, I_fret, I_dret, I_vret, I_nret, I_aret, I_iald, I_bald, I_lald, I_aald, I_iast, I_bast, I_last, I_aast, I_alen, I_new, I_val, I_cast, I_inst, I_obj, I_throw, I_mkx, I_getf, I_putf, I_call, I_calli, I_callv, I_clone, I_getc, i_ifeq, i_ifne, i_iflt, i_ifge, i_ifgt, i_ifle, i_idiv, i_irem, i_newa, i_newo, i_abs, i_max, i_min, i_ldiv, en_, es_i, es_r, es_0, es_n, es_l, List.length_cons, List.length_nil, List.cons_append, List.nil_append, Nat.reduceAdd, Nat.reduceSub, List.replicate, lg_, st1_, st2_, cn_, nl_, mk_, pk_, kd_, sl_, la_, ft_a, ft_i, ft_l, ft_o, ft_n, ft_b0, ft_b1, ft_bI, nr_0, nr_1, nr_bI, ro_, no_, if_true, if_false, ite_true, ite_false, reduceIte, Nat.reduceMod, Nat.reduceEqDiff, Nat.zero_add, Nat.add_zero, lk_, lit_, nI_add, nI_mul, ix_nI, fgk_0, fgk_1, fgk_2, fgk_3, fgk_4, fgk_5, fgk_6, fgk_7, fgk_8, fgk_9, fgk_10, fgk_11, fgk_12, fgk_13, fsk_0, fsk_1, fsk_2, fsk_3, fsk_4, fsk_5, fsk_6, fsk_7, fsk_8, fsk_9, fsk_10, fsk_11, fsk_12, fsk_13, ca_i, ca_r, ca_n, Nat.reduceLT, true_or, or_true, if_true, false_or, or_false, and_true, true_and, List.mem_singleton, eq_self, hI', hN, n10_, hX, hS', c1, hK, hG, c0, nf_12, nf_7, h7, hwc, hR, one_mulI, nf_0, nf_1, nf_2, nf_3, d0, d1, d2, d3, ix_nI, up_s, up_n, c5, Nat.reduceEqDiff]
        · rw [if_neg c5, if_neg c5]
          simp (disch := first | assumption | omega) only [K289_1, b289_2, K289_2, b289_3, K289_3, b289_4, K289_4, b289_5, K289_5, b289_6, K289_6, R_cons, go_nx, go_jp, go_rt, go_th, go_ca, go_no, go_ite, rr_v, rr_n, rr_x, hx_n, hx_p, hx_b, I_push, I_pushl, I_fc0, I_fc1, I_dc0, I_null, I_mask, I_iload, I_lload, I_dload, I_fload, I_aload, I_istore, I_lstore, I_dstore, I_fstore, I_astore, I_iinc, I_iadd, I_isub, I_imul, I_iand, I_ior, I_ixor, I_ishl, I_ishr, I_iushr, I_ineg, I_ladd, I_lsub, I_lmul, I_lxor, I_i2l, I_l2i, I_i2b, I_i2c, I_i2f, I_i2d, I_lcmp, I_fdiv, I_ddiv, I_f2d, I_dcmp, I_dup, I_pop, I_dup_x1, I_dup2, I_icne, I_iceq, I_iclt, I_icge, I_icgt, I_icle, I_ifnull, I_ifnonnull, I_ane, I_aeq, I_goto, I_lsw, I_iret, I_lret, I_fret, I_dret, I_vret, I_nret, I_aret, I_iald, I_bald, I_lald, I_aald, I_iast, I_bast, I_last, I_aast, I_alen, I_new, I_val, I_cast, I_inst, I_obj, I_throw, I_mkx, I_getf, I_putf, I_call, I_calli, I_callv, I_clone, I_getc, i_ifeq, i_ifne, i_iflt, i_ifge, i_ifgt, i_ifle, i_idiv, i_irem, i_newa, i_newo, i_abs, i_max, i_min, i_ldiv, en_, es_i, es_r, es_0, es_n, es_l, List.length_cons, List.length_nil, List.cons_append, List.nil_append, Nat.reduceAdd, Nat.reduceSub, List.replicate, lg_, st1_, st2_, cn_, nl_, mk_, pk_, kd_, sl_, la_, ft_a, ft_i, ft_l, ft_o, ft_n, ft_b0, ft_b1, ft_bI, nr_0, nr_1, nr_bI, ro_, no_, if_true, if_false, ite_true, ite_false, reduceIte, Nat.reduceMod, Nat.reduceEqDiff, Nat.zero_add, Nat.add_zero, lk_, lit_, nI_add, nI_mul, ix_nI, fgk_0, fgk_1, fgk_2, fgk_3, fgk_4, fgk_5, fgk_6, fgk_7, fgk_8, fgk_9, fgk_10, fgk_11, fgk_12, fgk_13, fsk_0, fsk_1, fsk_2, fsk_3, fsk_4, fsk_5, fsk_6, fsk_7, fsk_8, fsk_9, fsk_10, fsk_11, fsk_12, fsk_13, ca_i, ca_r, ca_n, Nat.reduceLT, true_or, or_true, if_true, false_or, or_false, and_true, true_and, List.mem_singleton, eq_self, hI', hN, n10_, hX, hS', c1, hK, hG, c0, nf_12, nf_7, h7, hwc, hR, one_mulI, nf_0, nf_1, nf_2, nf_3, d0, d1, d2, d3, ix_nI, up_s, up_n, c5]
      · rw [if_neg c4] at hG
        have eg : gv_ r e k = -ri_ r e k := if_neg c4
        rw [eg]
        by_cases c5 : N 0 (pas_ r k) = nI 0
        · rw [if_pos c5, if_pos c5]
          simp (disch := first | assumption | omega) only [K289_1, b289_2, K289_2, b289_4, K289_4, b289_6, K289_6, R_cons, go_nx, go_jp, go_rt, go_th, go_ca, go_no, go_ite, rr_v, rr_n, rr_x, hx_n, hx_p, hx_b, I_push, I_pushl, I_fc0, I_fc1, I_dc0, I_null, I_mask, I_iload, I_lload, I_dload, I_fload, I_aload, I_istore, I_lstore, I_dstore, I_fstore, I_astore, I_iinc, I_iadd, I_isub, I_imul, I_iand, I_ior, I_ixor, I_ishl, I_ishr, I_iushr, I_ineg, I_ladd, I_lsub, I_lmul, I_lxor, I_i2l, I_l2i, I_i2b, I_i2c, I_i2f, I_i2d, I_lcmp, I_fdiv, I_ddiv, I_f2d, I_dcmp, I_dup, I_pop, I_dup_x1, I_dup2, I_icne, I_iceq, I_iclt, I_icge, I_icgt, I_icle, I_ifnull, I_ifnonnull, I_ane, I_aeq, I_goto, I_lsw, I_iret, I_lret, I_fret, I_dret, I_vret, I_nret, I_aret, I_iald, I_bald, I_lald, I_aald, I_iast, I_bast, I_last, I_aast, I_alen, I_new, I_val, I_cast, I_inst, I_obj, I_throw, I_mkx, I_getf, I_putf, I_call, I_calli, I_callv, I_clone, I_getc, i_ifeq, i_ifne, i_iflt, i_ifge, i_ifgt, i_ifle, i_idiv, i_irem, i_newa, i_newo, i_abs, i_max, i_min, i_ldiv, en_, es_i, es_r, es_0, es_n, es_l, List.length_cons, List.length_nil, List.cons_append, List.nil_append, Nat.reduceAdd, Nat.reduceSub, List.replicate, lg_, st1_, st2_, cn_, nl_, mk_, pk_, kd_, sl_, la_, ft_a, ft_i, ft_l, ft_o, ft_n, ft_b0, ft_b1, ft_bI, nr_0, nr_1, nr_bI, ro_, no_, if_true, if_false, ite_true, ite_false, reduceIte, Nat.reduceMod, Nat.reduceEqDiff, Nat.zero_add, Nat.add_zero, lk_, lit_, nI_add, nI_mul, ix_nI, fgk_0, fgk_1, fgk_2, fgk_3, fgk_4, fgk_5, fgk_6, fgk_7, fgk_8, fgk_9, fgk_10, fgk_11, fgk_12, fgk_13, fsk_0, fsk_1, fsk_2, fsk_3, fsk_4, fsk_5, fsk_6, fsk_7, fsk_8, fsk_9, fsk_10, fsk_11, fsk_12, fsk_13, ca_i, ca_r, ca_n, Nat.reduceLT, true_or, or_true, if_true, false_or, or_false, and_true, true_and, List.mem_singleton, eq_self, hI', hN, n10_, hX, hS', c1, hK, hG, c0, nf_12, nf_7, h7, hwc, hR, neg1_mulI, nf_0, nf_1, nf_2, nf_3, d0, d1, d2, d3, ix_nI, up_s, up_n, c5]
        · rw [if_neg c5, if_neg c5]
          simp (disch := first | assumption | omega) only [K289_1, b289_2, K289_2, b289_3, K289_3, b289_4, K289_4, b289_5, K289_5, b289_6, K289_6, R_cons, go_nx, go_jp, go_rt, go_th, go_ca, go_no, go_ite, rr_v, rr_n, rr_x, hx_n, hx_p, hx_b, I_push, I_pushl, I_fc0, I_fc1, I_dc0, I_null, I_mask, I_iload, I_lload, I_dload, I_fload, I_aload, I_istore, I_lstore, I_dstore, I_fstore, I_astore, I_iinc, I_iadd, I_isub, I_imul, I_iand, I_ior, I_ixor, I_ishl, I_ishr, I_iushr, I_ineg, I_ladd, I_lsub, I_lmul, I_lxor, I_i2l, I_l2i, I_i2b, I_i2c, I_i2f, I_i2d, I_lcmp, I_fdiv, I_ddiv, I_f2d, I_dcmp, I_dup, I_pop, I_dup_x1, I_dup2, I_icne, I_iceq, I_iclt, I_icge, I_icgt, I_icle, I_ifnull, I_ifnonnull, I_ane, I_aeq, I_goto, I_lsw, I_iret, I_lret, I_fret, I_dret, I_vret, I_nret, I_aret, I_iald, I_bald, I_lald, I_aald, I_iast, I_bast, I_last, I_aast, I_alen, I_new, I_val, I_cast, I_inst, I_obj, I_throw, I_mkx, I_getf, I_putf, I_call, I_calli, I_callv, I_clone, I_getc, i_ifeq, i_ifne, i_iflt, i_ifge, i_ifgt, i_ifle, i_idiv, i_irem, i_newa, i_newo, i_abs, i_max, i_min, i_ldiv, en_, es_i, es_r, es_0, es_n, es_l, List.length_cons, List.length_nil, List.cons_append, List.nil_append, Nat.reduceAdd, Nat.reduceSub, List.replicate, lg_, st1_, st2_, cn_, nl_, mk_, pk_, kd_, sl_, la_, ft_a, ft_i, ft_l, ft_o, ft_n, ft_b0, ft_b1, ft_bI, nr_0, nr_1, nr_bI, ro_, no_, if_true, if_false, ite_true, ite_false, reduceIte, Nat.reduceMod, Nat.reduceEqDiff, Nat.zero_add, Nat.add_zero, lk_, lit_, nI_add, nI_mul, ix_nI, fgk_0, fgk_1, fgk_2, fgk_3, fgk_4, fgk_5, fgk_6, fgk_7, fgk_8, fgk_9, fgk_10, fgk_11, fgk_12, fgk_13, fsk_0, fsk_1, fsk_2, fsk_3, fsk_4, fsk_5, fsk_6, fsk_7, fsk_8, fsk_9, fsk_10, fsk_11, fsk_12, fsk_13, ca_i, ca_r, ca_n, Nat.reduceLT, true_or, or_true, if_true, false_or, or_false, and_true, true_and, List.mem_singleton, eq_self, hI', hN, n10_, hX, hS', c1, hK, hG, c0, nf_12, nf_7, h7, hwc, hR, neg1_mulI, nf_0, nf_1, nf_2, nf_3, d0, d1, d2, d3, ix_nI, up_s, up_n, c5]
    · rw [if_neg c1]
      obtain ⟨σ', g1, g2, g3, g4⟩ := ih (k + 1) N σ1 (nI k) (some (.ref ss[k])) none none (by omega) h1 h7 hit1
      refine ⟨σ', ?_, g2, by rw [g3]; exact hst1.1, by rw [g4]; exact hst1.2⟩
      rw [← g1]
      conv => lhs; rw [b289_1]
      simp (disch := first | assumption | omega) only [K289_1, b289_2, K289_2, R_cons, go_nx, go_jp, go_rt, go_th, go_ca, go_no, go_ite, rr_v, rr_n, rr_x, hx_n, hx_p, hx_b, I_push, I_pushl, I_fc0, I_fc1, I_dc0, I_null, I_mask, I_iload, I_lload, I_dload, I_fload, I_aload, I_istore, I_lstore, I_dstore, I_fstore, I_astore, I_iinc, I_iadd, I_isub, I_imul, I_iand, I_ior, I_ixor, I_ishl, I_ishr, I_iushr, I_ineg, I_ladd, I_lsub, I_lmul, I_lxor, I_i2l, I_l2i, I_i2b, I_i2c, I_i2f, I_i2d, I_lcmp, I_fdiv, I_ddiv, I_f2d, I_dcmp, I_dup, I_pop, I_dup_x1, I_dup2, I_icne, I_iceq, I_iclt, I_icge, I_icgt, I_icle, I_ifnull, I_ifnonnull, I_ane, I_aeq, I_goto, I_lsw, I_iret, I_lret, I_fret, I_dret, I_vret, I_nret, I_aret, I_iald, I_bald, I_lald, I_aald, I_iast, I_bast, I_last, I_aast, I_alen, I_new, I_val, I_cast, I_inst, I_obj, I_throw, I_mkx, I_getf, I_putf, I_call, I_calli, I_callv, I_clone, I_getc, i_ifeq, i_ifne, i_iflt, i_ifge, i_ifgt, i_ifle, i_idiv, i_irem, i_newa, i_newo, i_abs, i_max, i_min, i_ldiv, en_, es_i, es_r, es_0, es_n, es_l, List.length_cons, List.length_nil, List.cons_append, List.nil_append, Nat.reduceAdd, Nat.reduceSub, List.replicate, lg_, st1_, st2_, cn_, nl_, mk_, pk_, kd_, sl_, la_, ft_a, ft_i, ft_l, ft_o, ft_n, ft_b0, ft_b1, ft_bI, nr_0, nr_1, nr_bI, ro_, no_, if_true, if_false, ite_true, ite_false, reduceIte, Nat.reduceMod, Nat.reduceEqDiff, Nat.zero_add, Nat.add_zero, lk_, lit_, nI_add, nI_mul, ix_nI, fgk_0, fgk_1, fgk_2, fgk_3, fgk_4, fgk_5, fgk_6, fgk_7, fgk_8, fgk_9, fgk_10, fgk_11, fgk_12, fgk_13, fsk_0, fsk_1, fsk_2, fsk_3, fsk_4, fsk_5, fsk_6, fsk_7, fsk_8, fsk_9, fsk_10, fsk_11, fsk_12, fsk_13, ca_i, ca_r, ca_n, Nat.reduceLT, true_or, or_true, if_true, false_or, or_false, and_true, true_and, List.mem_singleton, eq_self, hI', hN, n10_, hX, hS', c1]
/-- a fold over edges may begin at the next one -/
theorem fe_skip {α : Type} {c : Nat → Int32} {G : Nat → α → α} (hG : ∀ j x, c j = nI 0 → G j x = x) : ∀ (d k : Nat) (x : α), fo_ G d k x = fo_ G (d + k - nxk_ c d k) (nxk_ c d k) x := by
  intro d
  induction d with
  | zero =>
    intro k x
    rw [nxk_]
    have : 0 + k - k = 0 := by omega
    rw [this]
  | succ d ih =>
    intro k x
    rw [nxk_]
    by_cases h : c k = nI 0
    · rw [if_pos h, fo_, hG k x h, ih (k + 1) x]
      have e : d + (k + 1) - nxk_ c d (k + 1) = d + 1 + k - nxk_ c d (k + 1) := by omega
      rw [e]
    · rw [if_neg h]
      have e : d + 1 + k - k = d + 1 := by omega
      rw [e]
theorem nxk_nz {c : Nat → Int32} : ∀ (d k : Nat), nxk_ c d k < k + d → ¬ c (nxk_ c d k) = nI 0 := by
  intro d
  induction d with
  | zero => intro k h; rw [nxk_] at h; omega
  | succ d ih =>
    intro k h
    rw [nxk_] at h ⊢
    by_cases h1 : c k = nI 0
    · rw [if_pos h1] at h ⊢
      exact ih (k + 1) (by omega)
    · rw [if_neg h1]
      exact h1
def lm1_ (c : Nat → Int32) (j : Nat) (x : Nat → Int32) : Nat → Int32 := if c j = nI 0 then x else upd x j (fdI (x j) (c j))
theorem lm_lp {it : Nat} (h4 : E45_ E h0) (hit : q + 2 < it) : ∀ (m k : Nat) (N : Nat → Nat → Int32) (σ : As_) (u : Option Value), 144 - k ≤ m → k ≤ 144 → (k < 144 → ¬ N 0 k = nI 0) → NV_ h0 σ b bb q w lc N → NI_ σ.2.2 it k b →
    ∃ σ', R_ E 289 (B_ E 289 8) [some (.ref b), some (.ref it), u, none, none] [] σ = some (.inl none, σ') ∧ NV_ h0 σ' b bb q w lc (um N 1 (fo_ (lm1_ (N 0)) (144 - k) k (N 1))) ∧ Sz_ (5 * m) σ σ' := by
  intro m
  induction m with
  | zero =>
    intro k N σ u hm hk hz h hI
    obtain rfl : k = 144 := by omega
    have hN := I_hasNextN (E := E) h hI (by omega)
    rw [bI_f (by omega)] at hN
    unfold NI_ at hI
    refine ⟨σ, ?_, by rw [show fo_ (lm1_ (N 0)) (144 - 144) 144 (N 1) = N 1 from rfl, um_id]; exact h, Sz_le Sz_rfl (by omega)⟩
    rw [b289_8]
    simp (disch := omega) only [K289_8, b289_9, K289_9, R_cons, go_nx, go_jp, go_rt, go_th, go_ca, go_no, go_ite, rr_v, rr_n, rr_x, hx_n, hx_p, hx_b, I_push, I_pushl, I_fc0, I_fc1, I_dc0, I_null, I_mask, I_iload, I_lload, I_dload, I_fload, I_aload, I_istore, I_lstore, I_dstore, I_fstore, I_astore, I_iinc, I_iadd, I_isub, I_imul, I_iand, I_ior, I_ixor, I_ishl, I_ishr, I_iushr, I_ineg, I_ladd, I_lsub, I_lmul, I_lxor, I_i2l, I_l2i, I_i2b, I_i2c, I_i2f, I_i2d, I_lcmp, I_fdiv, I_ddiv, I_f2d, I_dcmp, I_dup, I_pop, I_dup_x1, I_dup2, I_icne, I_iceq, I_iclt, I_icge, I_icgt, I_icle, I_ifnull, I_ifnonnull, I_ane, I_aeq, I_goto, I_lsw, I_iret, I_lret, I_fret, I_dret, I_vret, I_nret, I_aret, I_iald, I_bald, I_lald, I_aald, I_iast, I_bast, I_last, I_aast, I_alen, I_new, I_val, I_cast, I_inst, I_obj, I_throw, I_mkx, I_getf, I_putf, I_call, I_calli, I_callv, I_clone, I_getc, i_ifeq, i_ifne, i_iflt, i_ifge, i_ifgt, i_ifle, i_idiv, i_irem, i_newa, i_newo, i_abs, i_max, i_min, i_ldiv, en_, es_i, es_r, es_0, es_n, es_l, List.length_cons, List.length_nil, List.cons_append, List.nil_append, Nat.reduceAdd, Nat.reduceSub, List.replicate, lg_, st1_, st2_, cn_, nl_, mk_, pk_, kd_, sl_, la_, ft_a, ft_i, ft_l, ft_o, ft_n, ft_b0, ft_b1, ft_bI, nr_0, nr_1, nr_bI, ro_, no_, if_true, if_false, ite_true, ite_false, reduceIte, Nat.reduceMod, Nat.reduceEqDiff, Nat.zero_add, Nat.add_zero, lk_, lit_, nI_add, nI_mul, ix_nI, fgk_0, fgk_1, fgk_2, fgk_3, fgk_4, fgk_5, fgk_6, fgk_7, fgk_8, fgk_9, fgk_10, fgk_11, fgk_12, fgk_13, fsk_0, fsk_1, fsk_2, fsk_3, fsk_4, fsk_5, fsk_6, fsk_7, fsk_8, fsk_9, fsk_10, fsk_11, fsk_12, fsk_13, ca_i, ca_r, ca_n, Nat.reduceLT, true_or, or_true, if_true, false_or, or_false, and_true, true_and, List.mem_singleton, eq_self, hI, hN]
  | succ m ih =>
    intro k N σ u hm hk hz h hI
    have hN := I_hasNextN (E := E) h hI (by omega)
    by_cases c : k < 144
    · rw [bI_t c] at hN
      obtain ⟨σ1, x, g1, g2, g3, g4, g5⟩ := I_nextN (E := E) h4 h hI c (by have := h.2.2.2.2; omega) (Or.inr hit)
      have hv := J_intValue (E := E) g4
      have hnk := nxk_le (c := N 0) (144 - (k + 1)) (k + 1)
      have hbq := h.2.2.2.2
      have h2 := NV_1 (f := upd (N 1) k (fdI (N 1 k) (N 0 k))) g2
      have hI2 : NI_ (up_ σ1.2.2 (bb + 2) (tI_ 0 144 (upd (N 1) k (fdI (N 1 k) (N 0 k))))) it (nxk_ (N 0) (144 - (k + 1)) (k + 1)) b := by
        unfold NI_ at g3 ⊢
        rw [up_n (by omega)]
        exact g3
      obtain ⟨σ', j1, j2, j3⟩ := ih (nxk_ (N 0) (144 - (k + 1)) (k + 1)) (um N 1 (upd (N 1) k (fdI (N 1 k) (N 0 k)))) (σ1.1, σ1.2.1, up_ σ1.2.2 (bb + 2) (tI_ 0 144 (upd (N 1) k (fdI (N 1 k) (N 0 k))))) (some (.int (nI k))) (by omega) (by omega) (fun q => nxk_nz (c := N 0) _ _ (by omega)) h2 hI2
      have hs := Fr_Sz g5
      have e0 : um N 1 (upd (N 1) k (fdI (N 1 k) (N 0 k))) 0 = N 0 := rfl
      have e1 : um N 1 (upd (N 1) k (fdI (N 1 k) (N 0 k))) 1 = upd (N 1) k (fdI (N 1 k) (N 0 k)) := rfl
      rw [e0, e1, um_um] at j2
      have ef : fo_ (lm1_ (N 0)) (144 - k) k (N 1) = fo_ (lm1_ (N 0)) (144 - nxk_ (N 0) (144 - (k + 1)) (k + 1)) (nxk_ (N 0) (144 - (k + 1)) (k + 1)) (upd (N 1) k (fdI (N 1 k) (N 0 k))) := by
        have ed : 144 - k = (144 - (k + 1)) + 1 := by omega
        rw [ed, fo_]
        have e9 : lm1_ (N 0) k (N 1) = upd (N 1) k (fdI (N 1 k) (N 0 k)) := if_neg (hz c)
        rw [e9, fe_skip (c := N 0) (G := lm1_ (N 0)) (fun j x h => if_pos h)]
        have e8 : 144 - (k + 1) + (k + 1) - nxk_ (N 0) (144 - (k + 1)) (k + 1) = 144 - nxk_ (N 0) (144 - (k + 1)) (k + 1) := by omega
        rw [e8]
      rw [← ef] at j2
      refine ⟨σ', ?_, j2, ?_⟩
      · rw [← j1]
        have hfd := J_fdI (E := E) (σ := σ1) (x := N 1 k) (hz c)
        obtain ⟨⟨c0, d0, d1, _⟩, _⟩ := g2
        unfold NI_ at hI g3
        obtain ⟨cx, x1, x2⟩ := g4
        conv => lhs; rw [b289_8]
        simp (disch := first | assumption | omega) only [K289_8, R_cons, go_nx, go_jp, go_rt, go_th, go_ca, go_no, go_ite, rr_v, rr_n, rr_x, hx_n, hx_p, hx_b, I_push, I_pushl, I_fc0, I_fc1, I_dc0, I_null, I_mask, I_iload, I_lload, I_dload, I_fload, I_aload, I_istore, I_lstore, I_dstore, I_fstore, I_astore, I_iinc, I_iadd, I_isub, I_imul, I_iand, I_ior, I_ixor, I_ishl, I_ishr, I_iushr, I_ineg, I_ladd, I_lsub, I_lmul, I_lxor, I_i2l, I_l2i, I_i2b, I_i2c, I_i2f, I_i2d, I_lcmp, I_fdiv, I_ddiv, I_f2d, I_dcmp, I_dup, I_pop, I_dup_x1, I_dup2, I_icne, I_iceq, I_iclt, I_icge, I_icgt, I_icle, I_ifnull, I_ifnonnull, I_ane, I_aeq, I_goto, I_lsw, I_iret, I_lret, I_fret, I_dret, I_vret, I_nret, I_aret, I_iald, I_bald, I_lald, I_aald, I_iast, I_bast, I_last, I_aast, I_alen, I_new, I_val, I_cast, I_inst, I_obj, I_throw, I_mkx, I_getf, I_putf, I_call, I_calli, I_callv, I_clone, I_getc, i_ifeq, i_ifne, i_iflt, i_ifge, i_ifgt, i_ifle, i_idiv, i_irem, i_newa, i_newo, i_abs, i_max, i_min, i_ldiv, en_, es_i, es_r, es_0, es_n, es_l, List.length_cons, List.length_nil, List.cons_append, List.nil_append, Nat.reduceAdd, Nat.reduceSub, List.replicate, lg_, st1_, st2_, cn_, nl_, mk_, pk_, kd_, sl_, la_, ft_a, ft_i, ft_l, ft_o, ft_n, ft_b0, ft_b1, ft_bI, nr_0, nr_1, nr_bI, ro_, no_, if_true, if_false, ite_true, ite_false, reduceIte, Nat.reduceMod, Nat.reduceEqDiff, Nat.zero_add, Nat.add_zero, lk_, lit_, nI_add, nI_mul, ix_nI, fgk_0, fgk_1, fgk_2, fgk_3, fgk_4, fgk_5, fgk_6, fgk_7, fgk_8, fgk_9, fgk_10, fgk_11, fgk_12, fgk_13, fsk_0, fsk_1, fsk_2, fsk_3, fsk_4, fsk_5, fsk_6, fsk_7, fsk_8, fsk_9, fsk_10, fsk_11, fsk_12, fsk_13, ca_i, ca_r, ca_n, Nat.reduceLT, true_or, or_true, if_true, false_or, or_false, and_true, true_and, List.mem_singleton, eq_self, hI, hN, n10_, g1, x1, x2, hv, c0, nf_0, nf_1, d0, d1, ix_nI, hfd]
      · obtain ⟨s1, s2, s3⟩ := hs
        obtain ⟨t1, t2, t3⟩ := j3
        dsimp only at s1 s2 s3 t1 t2 t3
        exact ⟨by omega, by omega, by omega⟩
    · obtain rfl : k = 144 := by omega
      rw [bI_f c] at hN
      unfold NI_ at hI
      refine ⟨σ, ?_, by rw [show fo_ (lm1_ (N 0)) (144 - 144) 144 (N 1) = N 1 from rfl, um_id]; exact h, Sz_le Sz_rfl (by omega)⟩
      rw [b289_8]
      simp (disch := omega) only [K289_8, b289_9, K289_9, R_cons, go_nx, go_jp, go_rt, go_th, go_ca, go_no, go_ite, rr_v, rr_n, rr_x, hx_n, hx_p, hx_b, I_push, I_pushl, I_fc0, I_fc1, I_dc0, I_null, I_mask, I_iload, I_lload, I_dload, I_fload, I_aload, I_istore, I_lstore, I_dstore, I_fstore, I_astore, I_iinc, I_iadd, I_isub, I_imul, I_iand, I_ior, I_ixor, I_ishl, I_ishr, I_iushr, I_ineg, I_ladd, I_lsub, I_lmul, I_lxor, I_i2l, I_l2i, I_i2b, I_i2c, I_i2f, I_i2d, I_lcmp, I_fdiv, I_ddiv, I_f2d, I_dcmp, I_dup, I_pop, I_dup_x1, I_dup2, I_icne, I_iceq, I_iclt, I_icge, I_icgt, I_icle, I_ifnull, I_ifnonnull, I_ane, I_aeq, I_goto, I_lsw, I_iret, I_lret, I_fret, I_dret, I_vret, I_nret, I_aret, I_iald, I_bald, I_lald, I_aald, I_iast, I_bast, I_last, I_aast, I_alen, I_new, I_val, I_cast, I_inst, I_obj, I_throw, I_mkx, I_getf, I_putf, I_call, I_calli, I_callv, I_clone, I_getc, i_ifeq, i_ifne, i_iflt, i_ifge, i_ifgt, i_ifle, i_idiv, i_irem, i_newa, i_newo, i_abs, i_max, i_min, i_ldiv, en_, es_i, es_r, es_0, es_n, es_l, List.length_cons, List.length_nil, List.cons_append, List.nil_append, Nat.reduceAdd, Nat.reduceSub, List.replicate, lg_, st1_, st2_, cn_, nl_, mk_, pk_, kd_, sl_, la_, ft_a, ft_i, ft_l, ft_o, ft_n, ft_b0, ft_b1, ft_bI, nr_0, nr_1, nr_bI, ro_, no_, if_true, if_false, ite_true, ite_false, reduceIte, Nat.reduceMod, Nat.reduceEqDiff, Nat.zero_add, Nat.add_zero, lk_, lit_, nI_add, nI_mul, ix_nI, fgk_0, fgk_1, fgk_2, fgk_3, fgk_4, fgk_5, fgk_6, fgk_7, fgk_8, fgk_9, fgk_10, fgk_11, fgk_12, fgk_13, fsk_0, fsk_1, fsk_2, fsk_3, fsk_4, fsk_5, fsk_6, fsk_7, fsk_8, fsk_9, fsk_10, fsk_11, fsk_12, fsk_13, ca_i, ca_r, ca_n, Nat.reduceLT, true_or, or_true, if_true, false_or, or_false, and_true, true_and, List.mem_singleton, eq_self, hI, hN]
/-- the rows after all sights: numbers and sums by edges -/
theorem lr_at {e : Int32} (p : Nat) : ∀ (d i c : Nat) (N : Nat → Nat → Int32), N 0 p = nI c → (fo_ (lr1_ r e) d i N) 0 p = nI (fo_ (ctp_ r p) d i c) ∧ (fo_ (lr1_ r e) d i N) 1 p = fo_ (sup_ r e p) d i (N 1 p) ∧ (∀ j, ¬ j < 4 → (fo_ (lr1_ r e) d i N) j = N j) := by
  intro d
  induction d with
  | zero => intro i c N h; exact ⟨h, rfl, fun _ _ => rfl⟩
  | succ d ih =>
    intro i c N h
    rw [fo_, fo_, fo_]
    by_cases c1 : r (68 + 6 * i + 5) = nI 0
    · have e1 : lr1_ r e i N = um (um (um (um N 2 (upd (N 2) (pas_ r i) (if N 0 (pas_ r i) = nI 0 then gv_ r e i else mn_ (N 2 (pas_ r i)) (gv_ r e i)))) 3 (upd (N 3) (pas_ r i) (if N 0 (pas_ r i) = nI 0 then gv_ r e i else mx_ (N 3 (pas_ r i)) (gv_ r e i)))) 1 (upd (N 1) (pas_ r i) (N 1 (pas_ r i) + gv_ r e i))) 0 (upd (N 0) (pas_ r i) (N 0 (pas_ r i) + nI 1)) := if_pos c1
      have f0 : (lr1_ r e i N) 0 = upd (N 0) (pas_ r i) (N 0 (pas_ r i) + nI 1) := by rw [e1]; rfl
      have f1 : (lr1_ r e i N) 1 = upd (N 1) (pas_ r i) (N 1 (pas_ r i) + gv_ r e i) := by rw [e1]; rfl
      have f4 : ∀ j, ¬ j < 4 → (lr1_ r e i N) j = N j := fun j hj => by
        rw [e1, um_n (by omega), um_n (by omega), um_n (by omega), um_n (by omega)]
      by_cases c2 : pas_ r i = p
      · have ec : ctp_ r p i c = c + 1 := if_pos ⟨c1, c2⟩
        have es : sup_ r e p i (N 1 p) = N 1 p + gv_ r e i := if_pos ⟨c1, c2⟩
        obtain ⟨g1, g2, g3⟩ := ih (i + 1) (c + 1) (lr1_ r e i N) (by rw [f0, c2, upd_s, h]; exact nI_1 _)
        rw [ec, es]
        refine ⟨g1, ?_, fun j hj => (g3 j hj).trans (f4 j hj)⟩
        rw [g2, f1, c2, upd_s]
      · have ec : ctp_ r p i c = c := if_neg (fun h => c2 h.2)
        have es : sup_ r e p i (N 1 p) = N 1 p := if_neg (fun h => c2 h.2)
        obtain ⟨g1, g2, g3⟩ := ih (i + 1) c (lr1_ r e i N) (by rw [f0, upd_n (fun q => c2 q.symm)]; exact h)
        rw [ec, es]
        refine ⟨g1, ?_, fun j hj => (g3 j hj).trans (f4 j hj)⟩
        rw [g2, f1, upd_n (fun q => c2 q.symm)]
    · have e1 : lr1_ r e i N = N := if_neg c1
      have ec : ctp_ r p i c = c := if_neg (fun h => c1 h.1)
      have es : sup_ r e p i (N 1 p) = N 1 p := if_neg (fun h => c1 h.1)
      rw [e1, ec, es]
      exact ih (i + 1) c N h
theorem lm_at {c : Nat → Int32} (p : Nat) : ∀ (d k : Nat) (x : Nat → Int32), fo_ (lm1_ c) d k x p = if k ≤ p ∧ p < k + d ∧ ¬ c p = nI 0 then fdI (x p) (c p) else x p := by
  intro d
  induction d with
  | zero => intro k x; rw [if_neg (by omega)]; rfl
  | succ d ih =>
    intro k x
    rw [fo_, ih]
    have ex : ∀ p, ¬ p = k → lm1_ c k x p = x p := fun p hp => by
      unfold lm1_
      split
      · rfl
      · exact upd_n hp
    by_cases c1 : p = k
    · subst c1
      rw [if_neg (by omega)]
      unfold lm1_
      by_cases c2 : c p = nI 0
      · rw [if_pos c2, if_neg (fun h => h.2.2 c2)]
      · rw [if_neg c2, upd_s, if_pos ⟨by omega, by omega, c2⟩]
    · rw [ex p c1]
      by_cases c2 : k + 1 ≤ p ∧ p < k + 1 + d ∧ ¬ c p = nI 0
      · rw [if_pos c2, if_pos ⟨by omega, by omega, c2.2.2⟩]
      · rw [if_neg c2, if_neg (fun h => c2 ⟨by omega, by omega, h.2.2⟩)]
end CNF
