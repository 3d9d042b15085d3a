/-- how many numbers at the head are less -/
def pos_ (i : Int32) : List Int32 → Nat
  | [] => 0
  | y :: r => if y < i then pos_ i r + 1 else 0
theorem pos_le {i : Int32} : ∀ {l : List Int32}, pos_ i l ≤ l.length := by
  intro l
  induction l with
  | nil => exact Nat.le_refl _
  | cons y r ih =>
    rw [pos_, List.length_cons]
    split <;> omega
theorem inV_ins {i : Int32} : ∀ {l : List Int32}, inV_ l (pos_ i l) i = ins_ i l := by
  intro l
  induction l with
  | nil => rfl
  | cons y r ih =>
    rw [pos_, ins_]
    by_cases c : y < i
    · rw [if_pos c, if_neg (Int32.not_le.mpr c), ← ih]
      rfl
    · rw [if_neg c, if_pos (Int32.not_lt.mp c)]
      rfl
/-- sizes after a step -/
def Sz_ (c : Nat) (σ σ' : As_) : Prop := σ.1 ≤ σ'.1 ∧ 4 * σ'.1 + σ'.2.1 ≤ 4 * σ.1 + σ.2.1 + c ∧ σ.2.1 ≤ σ'.2.1
theorem Sz_rfl {σ : As_} : Sz_ 0 σ σ := ⟨Nat.le_refl _, Nat.le_refl _, Nat.le_refl _⟩
theorem Sz_trans {c d : Nat} {σ σ' σ'' : As_} (h : Sz_ c σ σ') (h2 : Sz_ d σ' σ'') : Sz_ (c + d) σ σ'' := ⟨Nat.le_trans h.1 h2.1, by have := h.2.1; have := h2.2.1; omega, Nat.le_trans h.2.2 h2.2.2⟩
theorem Sz_le {c d : Nat} {σ σ' : As_} (h : Sz_ c σ σ') (hcd : c ≤ d) : Sz_ d σ σ' := ⟨h.1, by have := h.2.1; omega, h.2.2⟩
/-- sizes while a list grows from L to L' -/
def Szt_ (c L L' : Nat) (σ σ' : As_) : Prop := σ.1 ≤ σ'.1 ∧ 4 * σ'.1 + σ'.2.1 + tot_ L ≤ 4 * σ.1 + σ.2.1 + tot_ L' + c ∧ σ.2.1 ≤ σ'.2.1
theorem Szt_rfl {L c : Nat} {σ : As_} : Szt_ c L L σ σ := ⟨Nat.le_refl _, by omega, Nat.le_refl _⟩
theorem Szt_trans {c d L M K : Nat} {σ σ' σ'' : As_} (h : Szt_ c L M σ σ') (h2 : Szt_ d M K σ' σ'') : Szt_ (c + d) L K σ σ'' := ⟨Nat.le_trans h.1 h2.1, by have := h.2.1; have := h2.2.1; omega, Nat.le_trans h.2.2 h2.2.2⟩
theorem Szt_le {c d L M : Nat} {σ σ' : As_} (h : Szt_ c L M σ σ') (hcd : c ≤ d) : Szt_ d L M σ σ' := ⟨h.1, by have := h.2.1; omega, h.2.2⟩
theorem tot_66 : tot_ 66 ≤ 226 := by decide +kernel
theorem tot_40 : tot_ 40 ≤ 149 := by decide +kernel
theorem tot_144 : tot_ 144 ≤ 506 := by decide +kernel
/-- pairs of d marks -/
def trp_ : Nat → Nat
  | 0 => 0
  | d + 1 => d + trp_ d
theorem trp_mono {d e : Nat} (h : d ≤ e) : trp_ d ≤ trp_ e := by
  induction e with
  | zero => obtain rfl : d = 0 := by omega
            exact Nat.le_refl _
  | succ e ih =>
    by_cases c : d = e + 1
    · rw [c]; exact Nat.le_refl _
    · have := ih (by omega)
      rw [show trp_ (e + 1) = e + trp_ e from rfl]
      omega
theorem Fr_Sz {c : Nat} {σ σ' : As_} (h : Fr_ c σ σ') : Sz_ c σ σ' := ⟨h.2.1, h.2.2.1, h.2.2.2.1⟩
section CWD
variable {E : En_} {σ : As_} {w n s : Nat} {r : Nat → Int32} {ms ss : List Nat}
/-- the row of numbers -/
def Rw0_ (h : Nat → Option Ac_) (b a w : Nat) : Prop := h b = some (.inr (8, [.ref a, .ref w]))
theorem IL_cell {h0 : Nat → Option Ac_} {a : Nat} {l : List Int32} (h : IL_ E h0 σ a l) : ∃ fs, σ.2.2 a = some (.inr (11, fs)) := by
  obtain ⟨mc, e, xs, ⟨cap, f, tt, a1, _⟩, _⟩ := h
  exact ⟨_, a1⟩
theorem radd_lp {h0 : Nat → Option Ac_} {b a : Nat} {l : List Int32} {i : Int32} (h : IL_ E h0 σ a l) (hb : Rw0_ σ.2.2 b a w) (hl : l.length < 400) : ∀ (d k : Nat), k + d = l.length →
    R_ E 264 (B_ E 264 1) [some (.ref b), some (.int i), some (.int (nI k))] [] σ = R_ E 264 (B_ E 264 2) [some (.ref b), some (.int i), some (.int (nI (k + pos_ i (l.drop k))))] [] σ := by
  have hs := IL_size h
  obtain ⟨fs, hc⟩ := IL_cell h
  unfold Rw0_ at hb
  intro d
  induction d with
  | zero =>
    intro k hk
    obtain rfl : k = l.length := by omega
    rw [List.drop_length, pos_]
    conv => lhs; rw [b264_1]
    simp (disch := omega) only [K264_1, R_cons, go_nx, go_jp, go_rt, go_th, go_ca, go_no, go_ite, rr_v, rr_n, rr_x, hx_n, hx_p, hx_b, I_push, I_pushl, I_fc0, I_fc1, I_dc0, I_null, I_mask, I_iload, I_lload, I_dload, I_fload, I_aload, I_istore, I_lstore, I_dstore, I_fstore, I_astore, I_iinc, I_iadd, I_isub, I_imul, I_iand, I_ior, I_ixor, I_ishl, I_ishr, I_iushr, I_ineg, I_ladd, I_lsub, I_lmul, I_lxor, I_i2l, I_l2i, I_i2b, I_i2c, I_i2f, I_i2d, I_lcmp, I_fdiv, I_ddiv, I_f2d, I_dcmp, I_dup, I_pop, I_dup_x1, I_dup2, I_icne, I_iceq, I_iclt, I_icge, I_icgt, I_icle, I_ifnull, I_ifnonnull, I_ane, I_aeq, I_goto, I_lsw, I_iret, I_lret, I_fret, I_dret, I_vret, I_nret, I_aret, I_iald, I_bald, I_lald, I_aald, I_iast, I_bast, I_last, I_aast, I_alen, I_new, I_val, I_cast, I_inst, I_obj, I_throw, I_mkx, I_getf, I_putf, I_call, I_calli, I_callv, I_clone, I_getc, i_ifeq, i_ifne, i_iflt, i_ifge, i_ifgt, i_ifle, i_idiv, i_irem, i_newa, i_newo, i_abs, i_max, i_min, i_ldiv, en_, es_i, es_r, es_0, es_n, es_l, List.length_cons, List.length_nil, List.cons_append, List.nil_append, Nat.reduceAdd, Nat.reduceSub, List.replicate, lg_, st1_, st2_, cn_, nl_, mk_, pk_, kd_, sl_, la_, ft_a, ft_i, ft_l, ft_o, ft_n, ft_b0, ft_b1, ft_bI, nr_0, nr_1, nr_bI, ro_, no_, if_true, if_false, ite_true, ite_false, reduceIte, Nat.reduceMod, Nat.reduceEqDiff, Nat.zero_add, Nat.add_zero, lk_, lit_, nI_add, nI_mul, ix_nI, fgk_0, fgk_1, fgk_2, fgk_3, fgk_4, fgk_5, fgk_6, fgk_7, fgk_8, fgk_9, fgk_10, fgk_11, fgk_12, fgk_13, fsk_0, fsk_1, fsk_2, fsk_3, fsk_4, fsk_5, fsk_6, fsk_7, fsk_8, fsk_9, fsk_10, fsk_11, fsk_12, fsk_13, ca_i, ca_r, ca_n, Nat.reduceLT, true_or, or_true, if_true, false_or, or_false, and_true, true_and, List.mem_singleton, eq_self, hb, hc, hs, nI_leI, Nat.le_refl]
  | succ d ih =>
    intro k hk
    have hlt : ¬ l.length ≤ k := by omega
    have hkl : k < l.length := by omega
    obtain ⟨x, x1, c, x2, x3⟩ := IL_get h hkl
    have hv := J_intValue (E := E) (σ := σ) ⟨c, x2, x3⟩
    rw [List.drop_eq_getElem_cons hkl, pos_]
    by_cases c1 : l[k] < i
    · have c1' : ¬ i ≤ l[k] := Int32.not_le.mpr c1
      have e : k + (pos_ i (l.drop (k + 1)) + 1) = k + 1 + pos_ i (l.drop (k + 1)) := by omega
      rw [if_pos c1, e, ← ih (k + 1) (by omega)]
      conv => lhs; rw [b264_1]
      simp (disch := omega) only [K264_1, R_cons, go_nx, go_jp, go_rt, go_th, go_ca, go_no, go_ite, rr_v, rr_n, rr_x, hx_n, hx_p, hx_b, I_push, I_pushl, I_fc0, I_fc1, I_dc0, I_null, I_mask, I_iload, I_lload, I_dload, I_fload, I_aload, I_istore, I_lstore, I_dstore, I_fstore, I_astore, I_iinc, I_iadd, I_isub, I_imul, I_iand, I_ior, I_ixor, I_ishl, I_ishr, I_iushr, I_ineg, I_ladd, I_lsub, I_lmul, I_lxor, I_i2l, I_l2i, I_i2b, I_i2c, I_i2f, I_i2d, I_lcmp, I_fdiv, I_ddiv, I_f2d, I_dcmp, I_dup, I_pop, I_dup_x1, I_dup2, I_icne, I_iceq, I_iclt, I_icge, I_icgt, I_icle, I_ifnull, I_ifnonnull, I_ane, I_aeq, I_goto, I_lsw, I_iret, I_lret, I_fret, I_dret, I_vret, I_nret, I_aret, I_iald, I_bald, I_lald, I_aald, I_iast, I_bast, I_last, I_aast, I_alen, I_new, I_val, I_cast, I_inst, I_obj, I_throw, I_mkx, I_getf, I_putf, I_call, I_calli, I_callv, I_clone, I_getc, i_ifeq, i_ifne, i_iflt, i_ifge, i_ifgt, i_ifle, i_idiv, i_irem, i_newa, i_newo, i_abs, i_max, i_min, i_ldiv, en_, es_i, es_r, es_0, es_n, es_l, List.length_cons, List.length_nil, List.cons_append, List.nil_append, Nat.reduceAdd, Nat.reduceSub, List.replicate, lg_, st1_, st2_, cn_, nl_, mk_, pk_, kd_, sl_, la_, ft_a, ft_i, ft_l, ft_o, ft_n, ft_b0, ft_b1, ft_bI, nr_0, nr_1, nr_bI, ro_, no_, if_true, if_false, ite_true, ite_false, reduceIte, Nat.reduceMod, Nat.reduceEqDiff, Nat.zero_add, Nat.add_zero, lk_, lit_, nI_add, nI_mul, ix_nI, fgk_0, fgk_1, fgk_2, fgk_3, fgk_4, fgk_5, fgk_6, fgk_7, fgk_8, fgk_9, fgk_10, fgk_11, fgk_12, fgk_13, fsk_0, fsk_1, fsk_2, fsk_3, fsk_4, fsk_5, fsk_6, fsk_7, fsk_8, fsk_9, fsk_10, fsk_11, fsk_12, fsk_13, ca_i, ca_r, ca_n, Nat.reduceLT, true_or, or_true, if_true, false_or, or_false, and_true, true_and, List.mem_singleton, eq_self, hb, hc, hs, nI_leI, hlt, x1, x2, x3, hv, c1', nI_1]
    · have c1' : i ≤ l[k] := Int32.not_lt.mp c1
      rw [if_neg c1]
      conv => lhs; rw [b264_1]
      simp (disch := omega) only [K264_1, R_cons, go_nx, go_jp, go_rt, go_th, go_ca, go_no, go_ite, rr_v, rr_n, rr_x, hx_n, hx_p, hx_b, I_push, I_pushl, I_fc0, I_fc1, I_dc0, I_null, I_mask, I_iload, I_lload, I_dload, I_fload, I_aload, I_istore, I_lstore, I_dstore, I_fstore, I_astore, I_iinc, I_iadd, I_isub, I_imul, I_iand, I_ior, I_ixor, I_ishl, I_ishr, I_iushr, I_ineg, I_ladd, I_lsub, I_lmul, I_lxor, I_i2l, I_l2i, I_i2b, I_i2c, I_i2f, I_i2d, I_lcmp, I_fdiv, I_ddiv, I_f2d, I_dcmp, I_dup, I_pop, I_dup_x1, I_dup2, I_icne, I_iceq, I_iclt, I_icge, I_icgt, I_icle, I_ifnull, I_ifnonnull, I_ane, I_aeq, I_goto, I_lsw, I_iret, I_lret, I_fret, I_dret, I_vret, I_nret, I_aret, I_iald, I_bald, I_lald, I_aald, I_iast, I_bast, I_last, I_aast, I_alen, I_new, I_val, I_cast, I_inst, I_obj, I_throw, I_mkx, I_getf, I_putf, I_call, I_calli, I_callv, I_clone, I_getc, i_ifeq, i_ifne, i_iflt, i_ifge, i_ifgt, i_ifle, i_idiv, i_irem, i_newa, i_newo, i_abs, i_max, i_min, i_ldiv, en_, es_i, es_r, es_0, es_n, es_l, List.length_cons, List.length_nil, List.cons_append, List.nil_append, Nat.reduceAdd, Nat.reduceSub, List.replicate, lg_, st1_, st2_, cn_, nl_, mk_, pk_, kd_, sl_, la_, ft_a, ft_i, ft_l, ft_o, ft_n, ft_b0, ft_b1, ft_bI, nr_0, nr_1, nr_bI, ro_, no_, if_true, if_false, ite_true, ite_false, reduceIte, Nat.reduceMod, Nat.reduceEqDiff, Nat.zero_add, Nat.add_zero, lk_, lit_, nI_add, nI_mul, ix_nI, fgk_0, fgk_1, fgk_2, fgk_3, fgk_4, fgk_5, fgk_6, fgk_7, fgk_8, fgk_9, fgk_10, fgk_11, fgk_12, fgk_13, fsk_0, fsk_1, fsk_2, fsk_3, fsk_4, fsk_5, fsk_6, fsk_7, fsk_8, fsk_9, fsk_10, fsk_11, fsk_12, fsk_13, ca_i, ca_r, ca_n, Nat.reduceLT, true_or, or_true, if_true, false_or, or_false, and_true, true_and, List.mem_singleton, eq_self, hb, hc, hs, nI_leI, hlt, x1, x2, x3, hv, c1']
theorem R_addI {h0 : Nat → Option Ac_} {b a : Nat} {l : List Int32} {i : Int32} (hd : E7_ E h0) (h4 : E45_ E h0) (h : IL_ E h0 σ a l) (hb : Rw0_ σ.2.2 b a w) (hl : l.length < 400) : ∃ σ', D_ E 264 [.ref b, .int i] σ = some (.inl none, σ') ∧ IL_ E h0 σ' a (ins_ i l) ∧ Rw0_ σ'.2.2 b a w ∧ Szt_ 5 l.length (l.length + 1) σ σ' := by
  have hlp := radd_lp (i := i) h hb hl l.length 0 (by omega)
  rw [List.drop_zero, Nat.zero_add] at hlp
  obtain ⟨mc, e, xs, y1, y2, y3, y4, y5, y6, y7⟩ := h
  have hI : IL_ E h0 σ a l := ⟨mc, e, xs, y1, y2, y3, y4, y5, y6, y7⟩
  obtain ⟨σ1, x, v1, v2, v3⟩ := J_valueOf (E := E) (i := i) (E45_mono y6 h4) y7
  have hI1 := IL_fr hI v2
  obtain ⟨σ2, g1, g2, g3, g4, g5, g6⟩ := IL_addAt (k := pos_ i l) (x := x) (i := i) hd hI1 pos_le hl v3
  obtain ⟨fs, hc⟩ := IL_cell hI
  obtain ⟨fs1, hc1⟩ := IL_cell hI1
  have hb1 : Rw0_ σ1.2.2 b a w := v2.1 _ _ hb
  have hba : b ≠ a := fun q => by unfold Rw0_ at hb; rw [q, hc] at hb; cases hb
  rw [inV_ins] at g2
  refine ⟨σ2, ?_, g2, g3 _ _ hb1 hba (fun n q => by intro q; cases q), ⟨Nat.le_trans v2.2.1 g4, by have := v2.2.2.1; omega, Nat.le_trans v2.2.2.2.1 g6⟩⟩
  unfold Rw0_ at hb hb1
  rw [D_run]
  simp (disch := omega) only [b264_0, K264_0, l264, R_cons, go_nx, go_jp, go_rt, go_th, go_ca, go_no, go_ite, rr_v, rr_n, rr_x, hx_n, hx_p, hx_b, I_push, I_pushl, I_fc0, I_fc1, I_dc0, I_null, I_mask, I_iload, I_lload, I_dload, I_fload, I_aload, I_istore, I_lstore, I_dstore, I_fstore, I_astore, I_iinc, I_iadd, I_isub, I_imul, I_iand, I_ior, I_ixor, I_ishl, I_ishr, I_iushr, I_ineg, I_ladd, I_lsub, I_lmul, I_lxor, I_i2l, I_l2i, I_i2b, I_i2c, I_i2f, I_i2d, I_lcmp, I_fdiv, I_ddiv, I_f2d, I_dcmp, I_dup, I_pop, I_dup_x1, I_dup2, I_icne, I_iceq, I_iclt, I_icge, I_icgt, I_icle, I_ifnull, I_ifnonnull, I_ane, I_aeq, I_goto, I_lsw, I_iret, I_lret, I_fret, I_dret, I_vret, I_nret, I_aret, I_iald, I_bald, I_lald, I_aald, I_iast, I_bast, I_last, I_aast, I_alen, I_new, I_val, I_cast, I_inst, I_obj, I_throw, I_mkx, I_getf, I_putf, I_call, I_calli, I_callv, I_clone, I_getc, i_ifeq, i_ifne, i_iflt, i_ifge, i_ifgt, i_ifle, i_idiv, i_irem, i_newa, i_newo, i_abs, i_max, i_min, i_ldiv, en_, es_i, es_r, es_0, es_n, es_l, List.length_cons, List.length_nil, List.cons_append, List.nil_append, Nat.reduceAdd, Nat.reduceSub, List.replicate, lg_, st1_, st2_, cn_, nl_, mk_, pk_, kd_, sl_, la_, ft_a, ft_i, ft_l, ft_o, ft_n, ft_b0, ft_b1, ft_bI, nr_0, nr_1, nr_bI, ro_, no_, if_true, if_false, ite_true, ite_false, reduceIte, Nat.reduceMod, Nat.reduceEqDiff, Nat.zero_add, Nat.add_zero, lk_, lit_, nI_add, nI_mul, ix_nI]
  rw [hlp]
  simp (disch := omega) only [b264_2, K264_2, R_cons, go_nx, go_jp, go_rt, go_th, go_ca, go_no, go_ite, rr_v, rr_n, rr_x, hx_n, hx_p, hx_b, I_push, I_pushl, I_fc0, I_fc1, I_dc0, I_null, I_mask, I_iload, I_lload, I_dload, I_fload, I_aload, I_istore, I_lstore, I_dstore, I_fstore, I_astore, I_iinc, I_iadd, I_isub, I_imul, I_iand, I_ior, I_ixor, I_ishl, I_ishr, I_iushr, I_ineg, I_ladd, I_lsub, I_lmul, I_lxor, I_i2l, I_l2i, I_i2b, I_i2c, I_i2f, I_i2d, I_lcmp, I_fdiv, I_ddiv, I_f2d, I_dcmp, I_dup, I_pop, I_dup_x1, I_dup2, I_icne, I_iceq, I_iclt, I_icge, I_icgt, I_icle, I_ifnull, I_ifnonnull, I_ane, I_aeq, I_goto, I_lsw, I_iret, I_lret, I_fret, I_dret, I_vret, I_nret, I_aret, I_iald, I_bald, I_lald, I_aald, I_iast, I_bast, I_last, I_aast, I_alen, I_new, I_val, I_cast, I_inst, I_obj, I_throw, I_mkx, I_getf, I_putf, I_call, I_calli, I_callv, I_clone, I_getc, i_ifeq, i_ifne, i_iflt, i_ifge, i_ifgt, i_ifle, i_idiv, i_irem, i_newa, i_newo, i_abs, i_max, i_min, i_ldiv, en_, es_i, es_r, es_0, es_n, es_l, List.length_cons, List.length_nil, List.cons_append, List.nil_append, Nat.reduceAdd, Nat.reduceSub, List.replicate, lg_, st1_, st2_, cn_, nl_, mk_, pk_, kd_, sl_, la_, ft_a, ft_i, ft_l, ft_o, ft_n, ft_b0, ft_b1, ft_bI, nr_0, nr_1, nr_bI, ro_, no_, if_true, if_false, ite_true, ite_false, reduceIte, Nat.reduceMod, Nat.reduceEqDiff, Nat.zero_add, Nat.add_zero, lk_, lit_, nI_add, nI_mul, ix_nI, fgk_0, fgk_1, fgk_2, fgk_3, fgk_4, fgk_5, fgk_6, fgk_7, fgk_8, fgk_9, fgk_10, fgk_11, fgk_12, fgk_13, fsk_0, fsk_1, fsk_2, fsk_3, fsk_4, fsk_5, fsk_6, fsk_7, fsk_8, fsk_9, fsk_10, fsk_11, fsk_12, fsk_13, ca_i, ca_r, ca_n, Nat.reduceLT, true_or, or_true, if_true, false_or, or_false, and_true, true_and, List.mem_singleton, eq_self, hb, hc, hc1, v1, g1]
theorem R_median {h0 : Nat → Option Ac_} {b a : Nat} {l : List Int32} (h : IL_ E h0 σ a l) (hb : Rw0_ σ.2.2 b a w) (hl : l.length < 400) : D_ E 265 [.ref b] σ = some (.inl (some (.int (l.getD ((l.length - 1) / 2) (nI 0)))), σ) := by
  have hs := IL_size h
  obtain ⟨fs, hc⟩ := IL_cell h
  unfold Rw0_ at hb
  have hE : D_ E 36 [.ref a] σ = some (.inl (some (.int (bI (l.length = 0)))), σ) := by
    obtain ⟨mc, e, xs, y1, y2, y3⟩ := h
    rw [J_isEmpty y1, y2]
  rw [D_run]
  by_cases c : l.length = 0
  · rw [bI_t c] at hE
    have e : l.getD ((l.length - 1) / 2) (nI 0) = nI 0 := by
      rw [List.getD_eq_getElem?_getD, List.getElem?_eq_none (by omega)]
      rfl
    rw [e]
    simp (disch := omega) only [l265, b265_0, K265_0, b265_1, K265_1, b265_2, K265_2, R_cons, go_nx, go_jp, go_rt, go_th, go_ca, go_no, go_ite, rr_v, rr_n, rr_x, hx_n, hx_p, hx_b, I_push, I_pushl, I_fc0, I_fc1, I_dc0, I_null, I_mask, I_iload, I_lload, I_dload, I_fload, I_aload, I_istore, I_lstore, I_dstore, I_fstore, I_astore, I_iinc, I_iadd, I_isub, I_imul, I_iand, I_ior, I_ixor, I_ishl, I_ishr, I_iushr, I_ineg, I_ladd, I_lsub, I_lmul, I_lxor, I_i2l, I_l2i, I_i2b, I_i2c, I_i2f, I_i2d, I_lcmp, I_fdiv, I_ddiv, I_f2d, I_dcmp, I_dup, I_pop, I_dup_x1, I_dup2, I_icne, I_iceq, I_iclt, I_icge, I_icgt, I_icle, I_ifnull, I_ifnonnull, I_ane, I_aeq, I_goto, I_lsw, I_iret, I_lret, I_fret, I_dret, I_vret, I_nret, I_aret, I_iald, I_bald, I_lald, I_aald, I_iast, I_bast, I_last, I_aast, I_alen, I_new, I_val, I_cast, I_inst, I_obj, I_throw, I_mkx, I_getf, I_putf, I_call, I_calli, I_callv, I_clone, I_getc, i_ifeq, i_ifne, i_iflt, i_ifge, i_ifgt, i_ifle, i_idiv, i_irem, i_newa, i_newo, i_abs, i_max, i_min, i_ldiv, en_, es_i, es_r, es_0, es_n, es_l, List.length_cons, List.length_nil, List.cons_append, List.nil_append, Nat.reduceAdd, Nat.reduceSub, List.replicate, lg_, st1_, st2_, cn_, nl_, mk_, pk_, kd_, sl_, la_, ft_a, ft_i, ft_l, ft_o, ft_n, ft_b0, ft_b1, ft_bI, nr_0, nr_1, nr_bI, ro_, no_, if_true, if_false, ite_true, ite_false, reduceIte, Nat.reduceMod, Nat.reduceEqDiff, Nat.zero_add, Nat.add_zero, lk_, lit_, nI_add, nI_mul, ix_nI, fgk_0, fgk_1, fgk_2, fgk_3, fgk_4, fgk_5, fgk_6, fgk_7, fgk_8, fgk_9, fgk_10, fgk_11, fgk_12, fgk_13, fsk_0, fsk_1, fsk_2, fsk_3, fsk_4, fsk_5, fsk_6, fsk_7, fsk_8, fsk_9, fsk_10, fsk_11, fsk_12, fsk_13, ca_i, ca_r, ca_n, Nat.reduceLT, true_or, or_true, if_true, false_or, or_false, and_true, true_and, List.mem_singleton, eq_self, hb, hc, hE, n10_]
  · rw [bI_f c] at hE
    have hk : (l.length - 1) / 2 < l.length := by omega
    obtain ⟨x, x1, cx, x2, x3⟩ := IL_get h hk
    have hv := J_intValue (E := E) (σ := σ) ⟨cx, x2, x3⟩
    have e : l.getD ((l.length - 1) / 2) (nI 0) = l[(l.length - 1) / 2] := by
      rw [List.getD_eq_getElem?_getD, List.getElem?_eq_getElem hk]
      rfl
    have e1 : nI l.length - nI 1 = nI (l.length - 1) := nI_sub (by omega)
    have e2 : nI (l.length - 1) / nI 2 = nI ((l.length - 1) / 2) := nI_dvI (by omega) (by decide) (by decide)
    have n2 : ¬ nI 2 = nI 0 := by decide
    rw [e]
    simp (disch := first | assumption | omega) only [l265, b265_0, K265_0, b265_1, K265_1, b265_2, K265_2, R_cons, go_nx, go_jp, go_rt, go_th, go_ca, go_no, go_ite, rr_v, rr_n, rr_x, hx_n, hx_p, hx_b, I_push, I_pushl, I_fc0, I_fc1, I_dc0, I_null, I_mask, I_iload, I_lload, I_dload, I_fload, I_aload, I_istore, I_lstore, I_dstore, I_fstore, I_astore, I_iinc, I_iadd, I_isub, I_imul, I_iand, I_ior, I_ixor, I_ishl, I_ishr, I_iushr, I_ineg, I_ladd, I_lsub, I_lmul, I_lxor, I_i2l, I_l2i, I_i2b, I_i2c, I_i2f, I_i2d, I_lcmp, I_fdiv, I_ddiv, I_f2d, I_dcmp, I_dup, I_pop, I_dup_x1, I_dup2, I_icne, I_iceq, I_iclt, I_icge, I_icgt, I_icle, I_ifnull, I_ifnonnull, I_ane, I_aeq, I_goto, I_lsw, I_iret, I_lret, I_fret, I_dret, I_vret, I_nret, I_aret, I_iald, I_bald, I_lald, I_aald, I_iast, I_bast, I_last, I_aast, I_alen, I_new, I_val, I_cast, I_inst, I_obj, I_throw, I_mkx, I_getf, I_putf, I_call, I_calli, I_callv, I_clone, I_getc, i_ifeq, i_ifne, i_iflt, i_ifge, i_ifgt, i_ifle, i_idiv, i_irem, i_newa, i_newo, i_abs, i_max, i_min, i_ldiv, en_, es_i, es_r, es_0, es_n, es_l, List.length_cons, List.length_nil, List.cons_append, List.nil_append, Nat.reduceAdd, Nat.reduceSub, List.replicate, lg_, st1_, st2_, cn_, nl_, mk_, pk_, kd_, sl_, la_, ft_a, ft_i, ft_l, ft_o, ft_n, ft_b0, ft_b1, ft_bI, nr_0, nr_1, nr_bI, ro_, no_, if_true, if_false, ite_true, ite_false, reduceIte, Nat.reduceMod, Nat.reduceEqDiff, Nat.zero_add, Nat.add_zero, lk_, lit_, nI_add, nI_mul, ix_nI, fgk_0, fgk_1, fgk_2, fgk_3, fgk_4, fgk_5, fgk_6, fgk_7, fgk_8, fgk_9, fgk_10, fgk_11, fgk_12, fgk_13, fsk_0, fsk_1, fsk_2, fsk_3, fsk_4, fsk_5, fsk_6, fsk_7, fsk_8, fsk_9, fsk_10, fsk_11, fsk_12, fsk_13, ca_i, ca_r, ca_n, Nat.reduceLT, true_or, or_true, if_true, false_or, or_false, and_true, true_and, List.mem_singleton, eq_self, hb, hc, hE, hs, e1, n2, e2, x1, x2, x3, hv]
theorem fb_lp {h0 : Nat → Option Ac_} {b a i : Nat} (hd : E7_ E h0) (h4 : E45_ E h0) (hwl : Wl_ E h0 w r ms ss) (hm : ms.length = n) (hss : ss.length = s) (hW : Wr_ r n s) (hi : i < n) : ∀ (d j : Nat) (l : List Int32) (u : Option Value) (σ : As_), i < j → j + d = n → IL_ E h0 σ a l → Rw0_ σ.2.2 b a w → l.length + d ≤ 144 →
    ∃ σ', R_ E 276 (B_ E 276 2) [some (.ref w), some (.ref b), some (.int (nI i)), some (.int (nI j)), u] [] σ = R_ E 276 (B_ E 276 1) [some (.ref w), some (.ref b), some (.int (nI (i + 1))), none, none] [] σ' ∧ IL_ E h0 σ' a (fo_ (fdb_ r s i) d j l) ∧ Rw0_ σ'.2.2 b a w ∧ (fo_ (fdb_ r s i) d j l).length ≤ l.length + d ∧ Szt_ (5 * d) l.length (fo_ (fdb_ r s i) d j l).length σ σ' := by
  have h12 := wr_n12 hW
  intro d
  induction d with
  | zero =>
    intro j l u σ hij hj hI hb hl
    obtain rfl : j = n := by omega
    have hle : le_ h0 σ.2.2 := by obtain ⟨_, _, _, _, _, _, _, _, q, _⟩ := hI; exact q
    obtain ⟨am, em, as, es, st, mc, mc', hA⟩ := Wl_mono hle hwl
    obtain ⟨cap, f, tt, l1, _⟩ := hA.2.1
    have hsz := J_size (E := E) hA.2.1
    refine ⟨σ, ?_, hI, hb, Nat.le_refl _, Szt_rfl⟩
    conv => lhs; rw [b276_2]
    simp (disch := omega) only [K276_2, b276_4, K276_4, R_cons, go_nx, go_jp, go_rt, go_th, go_ca, go_no, go_ite, rr_v, rr_n, rr_x, hx_n, hx_p, hx_b, I_push, I_pushl, I_fc0, I_fc1, I_dc0, I_null, I_mask, I_iload, I_lload, I_dload, I_fload, I_aload, I_istore, I_lstore, I_dstore, I_fstore, I_astore, I_iinc, I_iadd, I_isub, I_imul, I_iand, I_ior, I_ixor, I_ishl, I_ishr, I_iushr, I_ineg, I_ladd, I_lsub, I_lmul, I_lxor, I_i2l, I_l2i, I_i2b, I_i2c, I_i2f, I_i2d, I_lcmp, I_fdiv, I_ddiv, I_f2d, I_dcmp, I_dup, I_pop, I_dup_x1, I_dup2, I_icne, I_iceq, I_iclt, I_icge, I_icgt, I_icle, I_ifnull, I_ifnonnull, I_ane, I_aeq, I_goto, I_lsw, I_iret, I_lret, I_fret, I_dret, I_vret, I_nret, I_aret, I_iald, I_bald, I_lald, I_aald, I_iast, I_bast, I_last, I_aast, I_alen, I_new, I_val, I_cast, I_inst, I_obj, I_throw, I_mkx, I_getf, I_putf, I_call, I_calli, I_callv, I_clone, I_getc, i_ifeq, i_ifne, i_iflt, i_ifge, i_ifgt, i_ifle, i_idiv, i_irem, i_newa, i_newo, i_abs, i_max, i_min, i_ldiv, en_, es_i, es_r, es_0, es_n, es_l, List.length_cons, List.length_nil, List.cons_append, List.nil_append, Nat.reduceAdd, Nat.reduceSub, List.replicate, lg_, st1_, st2_, cn_, nl_, mk_, pk_, kd_, sl_, la_, ft_a, ft_i, ft_l, ft_o, ft_n, ft_b0, ft_b1, ft_bI, nr_0, nr_1, nr_bI, ro_, no_, if_true, if_false, ite_true, ite_false, reduceIte, Nat.reduceMod, Nat.reduceEqDiff, Nat.zero_add, Nat.add_zero, lk_, lit_, nI_add, nI_mul, ix_nI, fgk_0, fgk_1, fgk_2, fgk_3, fgk_4, fgk_5, fgk_6, fgk_7, fgk_8, fgk_9, fgk_10, fgk_11, fgk_12, fgk_13, fsk_0, fsk_1, fsk_2, fsk_3, fsk_4, fsk_5, fsk_6, fsk_7, fsk_8, fsk_9, fsk_10, fsk_11, fsk_12, fsk_13, ca_i, ca_r, ca_n, Nat.reduceLT, true_or, or_true, if_true, false_or, or_false, and_true, true_and, List.mem_singleton, eq_self, hA.1, l1, hsz, hm, nI_leI, Nat.le_refl, nI_1]
  | succ d ih =>
    intro j l u σ hij hj hI hb hl
    have hlt : ¬ n ≤ j := by omega
    have hle : le_ h0 σ.2.2 := by obtain ⟨_, _, _, _, _, _, _, _, q, _⟩ := hI; exact q
    have hwl' := Wl_mono hle hwl
    have hkey := S_key (E := E) (σ := σ) (a := i) (b := j) (by omega) (by omega)
    have hp : pa_ i j = 12 * i + j := if_pos hij
    rw [hp] at hkey
    have hest := W_estimate (E := E) (p := 12 * i + j) hwl' hm hss hW (by omega)
    rw [ece_est hW hij (by omega)] at hest
    obtain ⟨am, em, as, es, st, mc, mc', hA⟩ := hwl'
    obtain ⟨cap, f, tt, l1, _⟩ := hA.2.1
    have hsz := J_size (E := E) hA.2.1
    have hbc := hb
    unfold Rw0_ at hbc
    rw [fo_]
    unfold fdb_
    by_cases c : est_ r s i j = NOH
    · obtain ⟨σ2, g1, g2, g3, g4, g5⟩ := ih (j + 1) l none σ (by omega) (by omega) hI hb (by omega)
      rw [if_pos c]
      refine ⟨σ2, ?_, g2, g3, Nat.le_trans g4 (by omega), Szt_le g5 (by omega)⟩
      rw [← g1]
      conv => lhs; rw [b276_2]
      simp (disch := omega) only [K276_2, b276_3, K276_3, R_cons, go_nx, go_jp, go_rt, go_th, go_ca, go_no, go_ite, rr_v, rr_n, rr_x, hx_n, hx_p, hx_b, I_push, I_pushl, I_fc0, I_fc1, I_dc0, I_null, I_mask, I_iload, I_lload, I_dload, I_fload, I_aload, I_istore, I_lstore, I_dstore, I_fstore, I_astore, I_iinc, I_iadd, I_isub, I_imul, I_iand, I_ior, I_ixor, I_ishl, I_ishr, I_iushr, I_ineg, I_ladd, I_lsub, I_lmul, I_lxor, I_i2l, I_l2i, I_i2b, I_i2c, I_i2f, I_i2d, I_lcmp, I_fdiv, I_ddiv, I_f2d, I_dcmp, I_dup, I_pop, I_dup_x1, I_dup2, I_icne, I_iceq, I_iclt, I_icge, I_icgt, I_icle, I_ifnull, I_ifnonnull, I_ane, I_aeq, I_goto, I_lsw, I_iret, I_lret, I_fret, I_dret, I_vret, I_nret, I_aret, I_iald, I_bald, I_lald, I_aald, I_iast, I_bast, I_last, I_aast, I_alen, I_new, I_val, I_cast, I_inst, I_obj, I_throw, I_mkx, I_getf, I_putf, I_call, I_calli, I_callv, I_clone, I_getc, i_ifeq, i_ifne, i_iflt, i_ifge, i_ifgt, i_ifle, i_idiv, i_irem, i_newa, i_newo, i_abs, i_max, i_min, i_ldiv, en_, es_i, es_r, es_0, es_n, es_l, List.length_cons, List.length_nil, List.cons_append, List.nil_append, Nat.reduceAdd, Nat.reduceSub, List.replicate, lg_, st1_, st2_, cn_, nl_, mk_, pk_, kd_, sl_, la_, ft_a, ft_i, ft_l, ft_o, ft_n, ft_b0, ft_b1, ft_bI, nr_0, nr_1, nr_bI, ro_, no_, if_true, if_false, ite_true, ite_false, reduceIte, Nat.reduceMod, Nat.reduceEqDiff, Nat.zero_add, Nat.add_zero, lk_, lit_, nI_add, nI_mul, ix_nI, fgk_0, fgk_1, fgk_2, fgk_3, fgk_4, fgk_5, fgk_6, fgk_7, fgk_8, fgk_9, fgk_10, fgk_11, fgk_12, fgk_13, fsk_0, fsk_1, fsk_2, fsk_3, fsk_4, fsk_5, fsk_6, fsk_7, fsk_8, fsk_9, fsk_10, fsk_11, fsk_12, fsk_13, ca_i, ca_r, ca_n, Nat.reduceLT, true_or, or_true, if_true, false_or, or_false, and_true, true_and, List.mem_singleton, eq_self, hA.1, l1, hsz, hm, nI_leI, hlt, hkey, hest, c, nI_1]
    · obtain ⟨σ1, k1, k2, k3, k4⟩ := R_addI (i := est_ r s i j) hd h4 hI hb (by omega)
      have hlen : (ins_ (est_ r s i j) l).length = l.length + 1 := ins_len
      obtain ⟨σ2, g1, g2, g3, g4, g5⟩ := ih (j + 1) (ins_ (est_ r s i j) l) none σ1 (by omega) (by omega) k2 k3 (by omega)
      rw [if_neg c]
      refine ⟨σ2, ?_, g2, g3, Nat.le_trans g4 (by omega), Szt_le (Szt_trans k4 (by rw [← hlen]; exact g5)) (by omega)⟩
      rw [← g1]
      conv => lhs; rw [b276_2]
      simp (disch := omega) only [K276_2, b276_3, K276_3, R_cons, go_nx, go_jp, go_rt, go_th, go_ca, go_no, go_ite, rr_v, rr_n, rr_x, hx_n, hx_p, hx_b, I_push, I_pushl, I_fc0, I_fc1, I_dc0, I_null, I_mask, I_iload, I_lload, I_dload, I_fload, I_aload, I_istore, I_lstore, I_dstore, I_fstore, I_astore, I_iinc, I_iadd, I_isub, I_imul, I_iand, I_ior, I_ixor, I_ishl, I_ishr, I_iushr, I_ineg, I_ladd, I_lsub, I_lmul, I_lxor, I_i2l, I_l2i, I_i2b, I_i2c, I_i2f, I_i2d, I_lcmp, I_fdiv, I_ddiv, I_f2d, I_dcmp, I_dup, I_pop, I_dup_x1, I_dup2, I_icne, I_iceq, I_iclt, I_icge, I_icgt, I_icle, I_ifnull, I_ifnonnull, I_ane, I_aeq, I_goto, I_lsw, I_iret, I_lret, I_fret, I_dret, I_vret, I_nret, I_aret, I_iald, I_bald, I_lald, I_aald, I_iast, I_bast, I_last, I_aast, I_alen, I_new, I_val, I_cast, I_inst, I_obj, I_throw, I_mkx, I_getf, I_putf, I_call, I_calli, I_callv, I_clone, I_getc, i_ifeq, i_ifne, i_iflt, i_ifge, i_ifgt, i_ifle, i_idiv, i_irem, i_newa, i_newo, i_abs, i_max, i_min, i_ldiv, en_, es_i, es_r, es_0, es_n, es_l, List.length_cons, List.length_nil, List.cons_append, List.nil_append, Nat.reduceAdd, Nat.reduceSub, List.replicate, lg_, st1_, st2_, cn_, nl_, mk_, pk_, kd_, sl_, la_, ft_a, ft_i, ft_l, ft_o, ft_n, ft_b0, ft_b1, ft_bI, nr_0, nr_1, nr_bI, ro_, no_, if_true, if_false, ite_true, ite_false, reduceIte, Nat.reduceMod, Nat.reduceEqDiff, Nat.zero_add, Nat.add_zero, lk_, lit_, nI_add, nI_mul, ix_nI, fgk_0, fgk_1, fgk_2, fgk_3, fgk_4, fgk_5, fgk_6, fgk_7, fgk_8, fgk_9, fgk_10, fgk_11, fgk_12, fgk_13, fsk_0, fsk_1, fsk_2, fsk_3, fsk_4, fsk_5, fsk_6, fsk_7, fsk_8, fsk_9, fsk_10, fsk_11, fsk_12, fsk_13, ca_i, ca_r, ca_n, Nat.reduceLT, true_or, or_true, if_true, false_or, or_false, and_true, true_and, List.mem_singleton, eq_self, hA.1, l1, hsz, hm, nI_leI, hlt, hkey, hest, c, hbc, k1, nI_1]
theorem fa_lp {h0 : Nat → Option Ac_} {b a : Nat} (hd : E7_ E h0) (h4 : E45_ E h0) (hwl : Wl_ E h0 w r ms ss) (hm : ms.length = n) (hss : ss.length = s) (hW : Wr_ r n s) : ∀ (d i : Nat) (l : List Int32) (u v : Option Value) (σ : As_), i + d = n → IL_ E h0 σ a l → Rw0_ σ.2.2 b a w → l.length + trp_ d ≤ 144 →
    ∃ σ', R_ E 276 (B_ E 276 1) [some (.ref w), some (.ref b), some (.int (nI i)), u, v] [] σ = some (.inl (some (.int ((fo_ (fda_ r s n) d i l).getD (((fo_ (fda_ r s n) d i l).length - 1) / 2) (nI 0)))), σ') ∧ le_ h0 σ'.2.2 ∧ Hw_ σ' ∧ (fo_ (fda_ r s n) d i l).length ≤ l.length + trp_ d ∧ Szt_ (5 * trp_ d) l.length (fo_ (fda_ r s n) d i l).length σ σ' := by
  have h12 := wr_n12 hW
  intro d
  induction d with
  | zero =>
    intro i l u v σ hi hI hb hl
    obtain rfl : i = n := by omega
    have hle : le_ h0 σ.2.2 ∧ Hw_ σ := by obtain ⟨_, _, _, _, _, _, _, _, q, q2⟩ := hI; exact ⟨q, q2⟩
    obtain ⟨am, em, as, es, st, mc, mc', hA⟩ := Wl_mono hle.1 hwl
    obtain ⟨cap, f, tt, l1, _⟩ := hA.2.1
    have hsz := J_size (E := E) hA.2.1
    have hmed := R_median hI hb (by omega)
    have hbc := hb
    unfold Rw0_ at hbc
    refine ⟨σ, ?_, hle.1, hle.2, Nat.le_add_right _ _, Szt_rfl⟩
    rw [b276_1]
    simp (disch := omega) only [K276_1, b276_5, K276_5, R_cons, go_nx, go_jp, go_rt, go_th, go_ca, go_no, go_ite, rr_v, rr_n, rr_x, hx_n, hx_p, hx_b, I_push, I_pushl, I_fc0, I_fc1, I_dc0, I_null, I_mask, I_iload, I_lload, I_dload, I_fload, I_aload, I_istore, I_lstore, I_dstore, I_fstore, I_astore, I_iinc, I_iadd, I_isub, I_imul, I_iand, I_ior, I_ixor, I_ishl, I_ishr, I_iushr, I_ineg, I_ladd, I_lsub, I_lmul, I_lxor, I_i2l, I_l2i, I_i2b, I_i2c, I_i2f, I_i2d, I_lcmp, I_fdiv, I_ddiv, I_f2d, I_dcmp, I_dup, I_pop, I_dup_x1, I_dup2, I_icne, I_iceq, I_iclt, I_icge, I_icgt, I_icle, I_ifnull, I_ifnonnull, I_ane, I_aeq, I_goto, I_lsw, I_iret, I_lret, I_fret, I_dret, I_vret, I_nret, I_aret, I_iald, I_bald, I_lald, I_aald, I_iast, I_bast, I_last, I_aast, I_alen, I_new, I_val, I_cast, I_inst, I_obj, I_throw, I_mkx, I_getf, I_putf, I_call, I_calli, I_callv, I_clone, I_getc, i_ifeq, i_ifne, i_iflt, i_ifge, i_ifgt, i_ifle, i_idiv, i_irem, i_newa, i_newo, i_abs, i_max, i_min, i_ldiv, en_, es_i, es_r, es_0, es_n, es_l, List.length_cons, List.length_nil, List.cons_append, List.nil_append, Nat.reduceAdd, Nat.reduceSub, List.replicate, lg_, st1_, st2_, cn_, nl_, mk_, pk_, kd_, sl_, la_, ft_a, ft_i, ft_l, ft_o, ft_n, ft_b0, ft_b1, ft_bI, nr_0, nr_1, nr_bI, ro_, no_, if_true, if_false, ite_true, ite_false, reduceIte, Nat.reduceMod, Nat.reduceEqDiff, Nat.zero_add, Nat.add_zero, lk_, lit_, nI_add, nI_mul, ix_nI, fgk_0, fgk_1, fgk_2, fgk_3, fgk_4, fgk_5, fgk_6, fgk_7, fgk_8, fgk_9, fgk_10, fgk_11, fgk_12, fgk_13, fsk_0, fsk_1, fsk_2, fsk_3, fsk_4, fsk_5, fsk_6, fsk_7, fsk_8, fsk_9, fsk_10, fsk_11, fsk_12, fsk_13, ca_i, ca_r, ca_n, Nat.reduceLT, true_or, or_true, if_true, false_or, or_false, and_true, true_and, List.mem_singleton, eq_self, hA.1, l1, hsz, hm, nI_leI, Nat.le_refl, hbc, hmed, fo_]
  | succ d ih =>
    intro i l u v σ hi hI hb hl
    have hlt : ¬ n ≤ i := by omega
    have hle : le_ h0 σ.2.2 := by obtain ⟨_, _, _, _, _, _, _, _, q, _⟩ := hI; exact q
    obtain ⟨am, em, as, es, st, mc, mc', hA⟩ := Wl_mono hle hwl
    obtain ⟨cap, f, tt, l1, _⟩ := hA.2.1
    have hsz := J_size (E := E) hA.2.1
    obtain ⟨σ1, k1, k2, k3, k4, k5⟩ := fb_lp hd h4 hwl hm hss hW (show i < n by omega) (n - (i + 1)) (i + 1) l none σ (by omega) (by omega) hI hb (by rw [show trp_ (d + 1) = d + trp_ d from rfl] at hl; omega)
    have e1 : fda_ r s n i l = fo_ (fdb_ r s i) (n - (i + 1)) (i + 1) l := rfl
    rw [← e1] at k2 k4 k5
    have htd : trp_ (d + 1) = d + trp_ d := rfl
    obtain ⟨σ2, g1, g2, g3, g4, g5⟩ := ih (i + 1) (fda_ r s n i l) none none σ1 (by omega) k2 k3 (by omega)
    rw [fo_]
    refine ⟨σ2, ?_, g2, g3, by omega, Szt_le (Szt_trans k5 g5) (by omega)⟩
    rw [← g1, ← k1]
    conv => lhs; rw [b276_1]
    simp (disch := omega) only [K276_1, R_cons, go_nx, go_jp, go_rt, go_th, go_ca, go_no, go_ite, rr_v, rr_n, rr_x, hx_n, hx_p, hx_b, I_push, I_pushl, I_fc0, I_fc1, I_dc0, I_null, I_mask, I_iload, I_lload, I_dload, I_fload, I_aload, I_istore, I_lstore, I_dstore, I_fstore, I_astore, I_iinc, I_iadd, I_isub, I_imul, I_iand, I_ior, I_ixor, I_ishl, I_ishr, I_iushr, I_ineg, I_ladd, I_lsub, I_lmul, I_lxor, I_i2l, I_l2i, I_i2b, I_i2c, I_i2f, I_i2d, I_lcmp, I_fdiv, I_ddiv, I_f2d, I_dcmp, I_dup, I_pop, I_dup_x1, I_dup2, I_icne, I_iceq, I_iclt, I_icge, I_icgt, I_icle, I_ifnull, I_ifnonnull, I_ane, I_aeq, I_goto, I_lsw, I_iret, I_lret, I_fret, I_dret, I_vret, I_nret, I_aret, I_iald, I_bald, I_lald, I_aald, I_iast, I_bast, I_last, I_aast, I_alen, I_new, I_val, I_cast, I_inst, I_obj, I_throw, I_mkx, I_getf, I_putf, I_call, I_calli, I_callv, I_clone, I_getc, i_ifeq, i_ifne, i_iflt, i_ifge, i_ifgt, i_ifle, i_idiv, i_irem, i_newa, i_newo, i_abs, i_max, i_min, i_ldiv, en_, es_i, es_r, es_0, es_n, es_l, List.length_cons, List.length_nil, List.cons_append, List.nil_append, Nat.reduceAdd, Nat.reduceSub, List.replicate, lg_, st1_, st2_, cn_, nl_, mk_, pk_, kd_, sl_, la_, ft_a, ft_i, ft_l, ft_o, ft_n, ft_b0, ft_b1, ft_bI, nr_0, nr_1, nr_bI, ro_, no_, if_true, if_false, ite_true, ite_false, reduceIte, Nat.reduceMod, Nat.reduceEqDiff, Nat.zero_add, Nat.add_zero, lk_, lit_, nI_add, nI_mul, ix_nI, fgk_0, fgk_1, fgk_2, fgk_3, fgk_4, fgk_5, fgk_6, fgk_7, fgk_8, fgk_9, fgk_10, fgk_11, fgk_12, fgk_13, fsk_0, fsk_1, fsk_2, fsk_3, fsk_4, fsk_5, fsk_6, fsk_7, fsk_8, fsk_9, fsk_10, fsk_11, fsk_12, fsk_13, ca_i, ca_r, ca_n, Nat.reduceLT, true_or, or_true, if_true, false_or, or_false, and_true, true_and, List.mem_singleton, eq_self, hA.1, l1, hsz, hm, nI_leI, hlt, nI_1]
/-- writing a field of another object leaves a list as it is -/
theorem IL_put {h0 : Nat → Option Ac_} {a b c0 : Nat} {l : List Int32} {fs0 fs1 : List Value} (h : IL_ E h0 σ a l) (hb : σ.2.2 b = some (.inr (c0, fs0))) (h0b : h0 b = none) (hc : c0 ≠ 11) (hc2 : c0 % 100 ≠ 17) : IL_ E h0 (σ.1, σ.2.1, up_ σ.2.2 b (.inr (c0, fs1))) a l := by
  obtain ⟨mc, e, xs, ⟨cap, f, tt, a1, a2, a3, a4, a5, a6, a7, a8⟩, y2, y3, y4, y5, y6, y7⟩ := h
  have hab : a ≠ b := fun q => by rw [q, hb] at a1; cases a1; exact hc rfl
  have heb : e ≠ b := fun q => by rw [q, hb] at a2; cases a2
  refine ⟨mc, e, xs, ⟨cap, f, tt, ?_, ?_, a3, a4, a5, a6, fun x hx => ?_, a8⟩, y2, fun j x hj => ?_, y4, y5, le_up h0b y6, Hw_put y7 hb⟩
  · dsimp only
    rw [up_n hab]
    exact a1
  · dsimp only
    rw [up_n heb]
    exact a2
  · obtain ⟨c, fs, o1, o2⟩ := a7 x hx
    dsimp only
    by_cases q : x = b
    · subst q
      rw [hb] at o1
      cases o1
      exact ⟨c0, fs1, up_s _ _ _, o2⟩
    · exact ⟨c, fs, by rw [up_n q]; exact o1, o2⟩
  · obtain ⟨v, v1, c, v2, v3⟩ := y3 j x hj
    refine ⟨v, v1, c, ?_, v3⟩
    dsimp only
    rw [up_n (fun q => by rw [q, hb] at v2; cases v2; exact hc2 v3)]
    exact v2
/-- the error that is found -/
theorem W_found (hd : E7_ E σ.2.2) (h4 : E45_ E σ.2.2) (hwl : Wl_ E σ.2.2 w r ms ss) (hm : ms.length = n) (hss : ss.length = s) (hW : Wr_ r n s) (hw : Hw_ σ) : ∃ σ', D_ E 276 [.ref w] σ = some (.inl (some (.int (fnd_ r n s))), σ') ∧ Fr_ 570 σ σ' := by
  have h12 := wr_n12 hW
  obtain ⟨d, hd1, hd2⟩ := id hd
  -- the row is made
  obtain ⟨σ1, q1, q2, q3, q4⟩ : ∃ σ1, D_ E 263 [.ref σ.1, .ref w] (σ.1 + 1, σ.2.1 + 2, up_ σ.2.2 σ.1 (.inr (8, [.null, .null]))) = some (.inl none, σ1) ∧ IL_ E σ.2.2 σ1 (σ.1 + 1) [] ∧ Rw0_ σ1.2.2 σ.1 (σ.1 + 1) w ∧ Sz_ 13 σ σ1 := by
    have hz : Hw_ (σ.1 + 1, σ.2.1 + 2, up_ σ.2.2 σ.1 (.inr (8, [.null, .ref w]))) := Hw_new hw
    have hz2 : Hw_ (σ.1 + 1 + 1, σ.2.1 + 2 + 3, up_ (up_ σ.2.2 σ.1 (.inr (8, [.null, .ref w]))) (σ.1 + 1) (.inr (11, [.int (nI 0), .null, .int (nI 0)]))) := Hw_new hz
    obtain ⟨d', e1, e2⟩ := IL_new (E := E) (h0 := σ.2.2) (a := σ.1 + 1) hd (le_up (hw _ (by omega)) (le_up (hw _ (Nat.le_refl _)) le_rfl)) hz2 (hw _ (by omega)) (up_s _ _ _)
    have hne : σ.1 ≠ σ.1 + 1 := by omega
    have hcell : up_ (up_ σ.2.2 σ.1 (.inr (8, [.null, .ref w]))) (σ.1 + 1) (.inr (11, [.int (nI 0), .ref d', .int (nI 0)])) σ.1 = some (.inr (8, [.null, .ref w])) := by rw [up_n hne, up_s]
    have e3 := IL_put (fs1 := [.ref (σ.1 + 1), .ref w]) e2 (b := σ.1) (c0 := 8) (fs0 := [.null, .ref w]) (by dsimp only; rw [up_up]; exact hcell) (hw _ (Nat.le_refl _)) (by decide) (by decide)
    dsimp only at e1 e3
    refine ⟨_, ?_, e3, up_s _ _ _, ?_⟩
    · rw [D_run]
      simp (disch := first | assumption | omega) only [l263, b263_0, K263_0, R_cons, go_nx, go_jp, go_rt, go_th, go_ca, go_no, go_ite, rr_v, rr_n, rr_x, hx_n, hx_p, hx_b, I_push, I_pushl, I_fc0, I_fc1, I_dc0, I_null, I_mask, I_iload, I_lload, I_dload, I_fload, I_aload, I_istore, I_lstore, I_dstore, I_fstore, I_astore, I_iinc, I_iadd, I_isub, I_imul, I_iand, I_ior, I_ixor, I_ishl, I_ishr, I_iushr, I_ineg, I_ladd, I_lsub, I_lmul, I_lxor, I_i2l, I_l2i, I_i2b, I_i2c, I_i2f, I_i2d, I_lcmp, I_fdiv, I_ddiv, I_f2d, I_dcmp, I_dup, I_pop, I_dup_x1, I_dup2, I_icne, I_iceq, I_iclt, I_icge, I_icgt, I_icle, I_ifnull, I_ifnonnull, I_ane, I_aeq, I_goto, I_lsw, I_iret, I_lret, I_fret, I_dret, I_vret, I_nret, I_aret, I_iald, I_bald, I_lald, I_aald, I_iast, I_bast, I_last, I_aast, I_alen, I_new, I_val, I_cast, I_inst, I_obj, I_throw, I_mkx, I_getf, I_putf, I_call, I_calli, I_callv, I_clone, I_getc, i_ifeq, i_ifne, i_iflt, i_ifge, i_ifgt, i_ifle, i_idiv, i_irem, i_newa, i_newo, i_abs, i_max, i_min, i_ldiv, en_, es_i, es_r, es_0, es_n, es_l, List.length_cons, List.length_nil, List.cons_append, List.nil_append, Nat.reduceAdd, Nat.reduceSub, List.replicate, lg_, st1_, st2_, cn_, nl_, mk_, pk_, kd_, sl_, la_, ft_a, ft_i, ft_l, ft_o, ft_n, ft_b0, ft_b1, ft_bI, nr_0, nr_1, nr_bI, ro_, no_, if_true, if_false, ite_true, ite_false, reduceIte, Nat.reduceMod, Nat.reduceEqDiff, Nat.zero_add, Nat.add_zero, lk_, lit_, nI_add, nI_mul, ix_nI, fgk_0, fgk_1, fgk_2, fgk_3, fgk_4, fgk_5, fgk_6, fgk_7, fgk_8, fgk_9, fgk_10, fgk_11, fgk_12, fgk_13, fsk_0, fsk_1, fsk_2, fsk_3, fsk_4, fsk_5, fsk_6, fsk_7, fsk_8, fsk_9, fsk_10, fsk_11, fsk_12, fsk_13, ca_i, ca_r, ca_n, Nat.reduceLT, true_or, or_true, if_true, false_or, or_false, and_true, true_and, List.mem_singleton, eq_self, up_s, up_n, up_up, e1]
    · exact ⟨by dsimp only; omega, by dsimp only; omega, by dsimp only; omega⟩
  have ht66 : trp_ n ≤ 66 := trp_mono (e := 12) h12
  obtain ⟨σ2, g1, g2, g3, g4, g5⟩ := fa_lp hd h4 hwl hm hss hW n 0 [] none none σ1 (by omega) q2 q3 (by show 0 + trp_ n ≤ 144; omega)
  have hlt : (fo_ (fda_ r s n) n 0 []).length ≤ 66 := by
    have : (fo_ (fda_ r s n) n 0 []).length ≤ 0 + trp_ n := g4
    omega
  have htt : tot_ (fo_ (fda_ r s n) n 0 []).length ≤ 226 := Nat.le_trans (tot_mono hlt) tot_66
  have h0t : tot_ ([] : List Int32).length = 0 := rfl
  refine ⟨σ2, ?_, g2, Nat.le_trans q4.1 g5.1, by have := g5.2.1; have := q4.2.1; omega, Nat.le_trans q4.2.2 g5.2.2, g3⟩
  unfold fnd_ fdl_
  rw [← g1, D_run]
  simp (disch := omega) only [b276_0, K276_0, l276, R_cons, go_nx, go_jp, go_rt, go_th, go_ca, go_no, go_ite, rr_v, rr_n, rr_x, hx_n, hx_p, hx_b, I_push, I_pushl, I_fc0, I_fc1, I_dc0, I_null, I_mask, I_iload, I_lload, I_dload, I_fload, I_aload, I_istore, I_lstore, I_dstore, I_fstore, I_astore, I_iinc, I_iadd, I_isub, I_imul, I_iand, I_ior, I_ixor, I_ishl, I_ishr, I_iushr, I_ineg, I_ladd, I_lsub, I_lmul, I_lxor, I_i2l, I_l2i, I_i2b, I_i2c, I_i2f, I_i2d, I_lcmp, I_fdiv, I_ddiv, I_f2d, I_dcmp, I_dup, I_pop, I_dup_x1, I_dup2, I_icne, I_iceq, I_iclt, I_icge, I_icgt, I_icle, I_ifnull, I_ifnonnull, I_ane, I_aeq, I_goto, I_lsw, I_iret, I_lret, I_fret, I_dret, I_vret, I_nret, I_aret, I_iald, I_bald, I_lald, I_aald, I_iast, I_bast, I_last, I_aast, I_alen, I_new, I_val, I_cast, I_inst, I_obj, I_throw, I_mkx, I_getf, I_putf, I_call, I_calli, I_callv, I_clone, I_getc, i_ifeq, i_ifne, i_iflt, i_ifge, i_ifgt, i_ifle, i_idiv, i_irem, i_newa, i_newo, i_abs, i_max, i_min, i_ldiv, en_, es_i, es_r, es_0, es_n, es_l, List.length_cons, List.length_nil, List.cons_append, List.nil_append, Nat.reduceAdd, Nat.reduceSub, List.replicate, lg_, st1_, st2_, cn_, nl_, mk_, pk_, kd_, sl_, la_, ft_a, ft_i, ft_l, ft_o, ft_n, ft_b0, ft_b1, ft_bI, nr_0, nr_1, nr_bI, ro_, no_, if_true, if_false, ite_true, ite_false, reduceIte, Nat.reduceMod, Nat.reduceEqDiff, Nat.zero_add, Nat.add_zero, lk_, lit_, nI_add, nI_mul, ix_nI, fgk_0, fgk_1, fgk_2, fgk_3, fgk_4, fgk_5, fgk_6, fgk_7, fgk_8, fgk_9, fgk_10, fgk_11, fgk_12, fgk_13, fsk_0, fsk_1, fsk_2, fsk_3, fsk_4, fsk_5, fsk_6, fsk_7, fsk_8, fsk_9, fsk_10, fsk_11, fsk_12, fsk_13, ca_i, ca_r, ca_n, Nat.reduceLT, true_or, or_true, if_true, false_or, or_false, and_true, true_and, List.mem_singleton, eq_self, q1]
end CWD
