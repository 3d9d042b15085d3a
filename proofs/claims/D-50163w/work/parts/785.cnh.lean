section CNH
variable {E : En_} {σ : As_} {w n s b bb q : Nat} {r : Nat → Int32} {ms ss : List Nat} {h0 : Nat → Option Ac_} {lc : Ac_} {N : Nat → Nat → Int32}
theorem NV_Ay {σ' : As_} {a : Nat} (h : NV_ h0 σ b bb q w lc N) (hA : Ay_ σ σ' a) (ha : q + 2 < a) (hlc : ∀ n q, lc ≠ .inl (4, n, q)) (hle : le_ h0 σ'.2.2) (hw : Hw_ σ') : NV_ h0 σ' b bb q w lc N := by
  obtain ⟨⟨c0, c1, c2, c3, c4, c5, c6, c8, c9, c10, cL⟩, g2, g3, g4, g5⟩ := h
  exact ⟨⟨hA _ _ c0 (by omega) (fun n q => (by intro q; cases q)), hA _ _ c1 (by omega) (fun n q => (by intro q; cases q)), hA _ _ c2 (by omega) (fun n q => (by intro q; cases q)), hA _ _ c3 (by omega) (fun n q => (by intro q; cases q)), hA _ _ c4 (by omega) (fun n q => (by intro q; cases q)), hA _ _ c5 (by omega) (fun n q => (by intro q; cases q)), hA _ _ c6 (by omega) (fun n q => (by intro q; cases q)), hA _ _ c8 (by omega) (fun n q => (by intro q; cases q)), hA _ _ c9 (by omega) (fun n q => (by intro q; cases q)), hA _ _ c10 (by omega) (fun n q => (by intro q; cases q)), hA _ _ cL (by omega) hlc⟩, hle, hw, g4, g5⟩
theorem IL_leHw {a : Nat} {l : List Int32} (h : IL_ E h0 σ a l) : le_ h0 σ.2.2 ∧ Hw_ σ := by
  obtain ⟨_, _, _, _, _, _, _, _, q, q2⟩ := h
  exact ⟨q, q2⟩
/-- the place in the sorted list -/
theorem lp_lp {a x : Nat} {l : List Nat} {u2 : Option Value} (h : NV_ h0 σ b bb q w lc N) (hwl : Wl_ E h0 w r ms ss) (hm : ms.length = n) (h12 : n ≤ 12) (hI : IL_ E h0 σ a (l.map nI)) (hx : x / 12 < n ∧ x % 12 < n) (hl : ∀ y ∈ l, y / 12 < n ∧ y % 12 < n) (hl2 : l.length < 400) : ∀ (k : Nat), k ≤ l.length →
    R_ E 291 (B_ E 291 2) [some (.ref b), some (.ref a), u2, some (.int (nI x)), some (.int (nI k)), none, none] [] σ = R_ E 291 (B_ E 291 3) [some (.ref b), some (.ref a), u2, some (.int (nI x)), some (.int (nI (tpo_ r x l k))), none, none] [] σ := by
  obtain ⟨fs, hc⟩ := IL_cell hI
  have hfx := N_far (E := E) h hwl hm hx h12
  obtain ⟨⟨c0, _⟩, _⟩ := id h
  intro k
  induction k with
  | zero =>
    intro hk
    have hz : nI 0 ≤ nI 0 := by decide
    conv => lhs; rw [b291_2]
    cases u2 <;> simp (disch := first | assumption | omega | decide) only [K291_2, R_cons, go_nx, go_jp, go_rt, go_th, go_ca, go_no, go_ite, rr_v, rr_n, rr_x, hx_n, hx_p, hx_b, I_push, I_pushl, I_fc0, I_fc1, I_dc0, I_null, I_mask, I_iload, I_lload, I_dload, I_fload, I_aload, I_istore, I_lstore, I_dstore, I_fstore, I_astore, I_iinc, I_iadd, I_isub, I_imul, I_iand, I_ior, I_ixor, I_ishl, I_ishr, I_iushr, I_ineg, I_ladd, I_lsub, I_lmul, I_lxor, I_i2l, I_l2i, I_i2b, I_i2c, I_i2f, I_i2d, I_lcmp, I_fdiv, I_ddiv, I_f2d, I_dcmp, I_dup, I_pop, I_dup_x1, I_dup2, I_icne, I_iceq, I_iclt, I_icge, I_icgt, I_icle, I_ifnull, I_ifnonnull, I_ane, I_aeq, I_goto, I_lsw, I_iret, I_lret, I_fret, I_dret, I_vret, I_nret, I_aret, I_iald, I_bald, I_lald, I_aald, I_iast, I_bast, I_last, I_aast, I_alen, I_new, I_val, I_cast, I_inst, I_obj, I_throw, I_mkx, I_getf, I_putf, I_call, I_calli, I_callv, I_clone, I_getc, i_ifeq, i_ifne, i_iflt, i_ifge, i_ifgt, i_ifle, i_idiv, i_irem, i_newa, i_newo, i_abs, i_max, i_min, i_ldiv, en_, es_i, es_r, es_0, es_n, es_l, List.length_cons, List.length_nil, List.cons_append, List.nil_append, Nat.reduceAdd, Nat.reduceSub, List.replicate, lg_, st1_, st2_, cn_, nl_, mk_, pk_, kd_, sl_, la_, ft_a, ft_i, ft_l, ft_o, ft_n, ft_b0, ft_b1, ft_bI, nr_0, nr_1, nr_bI, ro_, no_, if_true, if_false, ite_true, ite_false, reduceIte, Nat.reduceMod, Nat.reduceEqDiff, Nat.zero_add, Nat.add_zero, lk_, lit_, nI_add, nI_mul, ix_nI, fgk_0, fgk_1, fgk_2, fgk_3, fgk_4, fgk_5, fgk_6, fgk_7, fgk_8, fgk_9, fgk_10, fgk_11, fgk_12, fgk_13, fsk_0, fsk_1, fsk_2, fsk_3, fsk_4, fsk_5, fsk_6, fsk_7, fsk_8, fsk_9, fsk_10, fsk_11, fsk_12, fsk_13, ca_i, ca_r, ca_n, Nat.reduceLT, true_or, or_true, if_true, false_or, or_false, and_true, true_and, List.mem_singleton, eq_self, hz, tpo_]
  | succ k ih =>
    intro hk
    have hkl : k < l.length := by omega
    obtain ⟨y, y1, cy, y2, y3⟩ := IL_get hI (show k < (l.map nI).length by rw [List.length_map]; exact hkl)
    rw [List.getElem_map] at y2
    have hv := J_intValue (E := E) (σ := σ) ⟨cy, y2, y3⟩
    have hfy := N_far (E := E) h hwl hm (hl _ (List.getElem_mem hkl)) h12
    have eg : l.getD k 0 = l[k] := by rw [List.getD_eq_getElem?_getD, List.getElem?_eq_getElem hkl]; rfl
    have hz : ¬ nI (k + 1) ≤ nI 0 := by rw [nI_leI (by omega) (by decide)]; omega
    have hs : nI (k + 1) - nI 1 = nI k := by rw [nI_sub (by omega)]; congr 1
    have hs2 : nI (k + 1) + -nI 1 = nI k := nm1_
    rw [tpo_, eg]
    by_cases c : di_ r (x / 12) (x % 12) < di_ r (l[k] / 12) (l[k] % 12)
    · have c' : ¬ di_ r (l[k] / 12) (l[k] % 12) ≤ di_ r (x / 12) (x % 12) := Int32.not_le.mpr c
      rw [if_pos c, ← ih (by omega)]
      conv => lhs; rw [b291_2]
      simp (disch := first | assumption | omega | decide) only [K291_2, R_cons, go_nx, go_jp, go_rt, go_th, go_ca, go_no, go_ite, rr_v, rr_n, rr_x, hx_n, hx_p, hx_b, I_push, I_pushl, I_fc0, I_fc1, I_dc0, I_null, I_mask, I_iload, I_lload, I_dload, I_fload, I_aload, I_istore, I_lstore, I_dstore, I_fstore, I_astore, I_iinc, I_iadd, I_isub, I_imul, I_iand, I_ior, I_ixor, I_ishl, I_ishr, I_iushr, I_ineg, I_ladd, I_lsub, I_lmul, I_lxor, I_i2l, I_l2i, I_i2b, I_i2c, I_i2f, I_i2d, I_lcmp, I_fdiv, I_ddiv, I_f2d, I_dcmp, I_dup, I_pop, I_dup_x1, I_dup2, I_icne, I_iceq, I_iclt, I_icge, I_icgt, I_icle, I_ifnull, I_ifnonnull, I_ane, I_aeq, I_goto, I_lsw, I_iret, I_lret, I_fret, I_dret, I_vret, I_nret, I_aret, I_iald, I_bald, I_lald, I_aald, I_iast, I_bast, I_last, I_aast, I_alen, I_new, I_val, I_cast, I_inst, I_obj, I_throw, I_mkx, I_getf, I_putf, I_call, I_calli, I_callv, I_clone, I_getc, i_ifeq, i_ifne, i_iflt, i_ifge, i_ifgt, i_ifle, i_idiv, i_irem, i_newa, i_newo, i_abs, i_max, i_min, i_ldiv, en_, es_i, es_r, es_0, es_n, es_l, List.length_cons, List.length_nil, List.cons_append, List.nil_append, Nat.reduceAdd, Nat.reduceSub, List.replicate, lg_, st1_, st2_, cn_, nl_, mk_, pk_, kd_, sl_, la_, ft_a, ft_i, ft_l, ft_o, ft_n, ft_b0, ft_b1, ft_bI, nr_0, nr_1, nr_bI, ro_, no_, if_true, if_false, ite_true, ite_false, reduceIte, Nat.reduceMod, Nat.reduceEqDiff, Nat.zero_add, Nat.add_zero, lk_, lit_, nI_add, nI_mul, ix_nI, fgk_0, fgk_1, fgk_2, fgk_3, fgk_4, fgk_5, fgk_6, fgk_7, fgk_8, fgk_9, fgk_10, fgk_11, fgk_12, fgk_13, fsk_0, fsk_1, fsk_2, fsk_3, fsk_4, fsk_5, fsk_6, fsk_7, fsk_8, fsk_9, fsk_10, fsk_11, fsk_12, fsk_13, ca_i, ca_r, ca_n, Nat.reduceLT, true_or, or_true, if_true, false_or, or_false, and_true, true_and, List.mem_singleton, eq_self, hz, hs, c0, hc, y1, y2, y3, hv, hfy, hfx, c', hs2]
    · have c' : di_ r (l[k] / 12) (l[k] % 12) ≤ di_ r (x / 12) (x % 12) := Int32.not_lt.mp c
      rw [if_neg c]
      conv => lhs; rw [b291_2]
      simp (disch := first | assumption | omega | decide) only [K291_2, R_cons, go_nx, go_jp, go_rt, go_th, go_ca, go_no, go_ite, rr_v, rr_n, rr_x, hx_n, hx_p, hx_b, I_push, I_pushl, I_fc0, I_fc1, I_dc0, I_null, I_mask, I_iload, I_lload, I_dload, I_fload, I_aload, I_istore, I_lstore, I_dstore, I_fstore, I_astore, I_iinc, I_iadd, I_isub, I_imul, I_iand, I_ior, I_ixor, I_ishl, I_ishr, I_iushr, I_ineg, I_ladd, I_lsub, I_lmul, I_lxor, I_i2l, I_l2i, I_i2b, I_i2c, I_i2f, I_i2d, I_lcmp, I_fdiv, I_ddiv, I_f2d, I_dcmp, I_dup, I_pop, I_dup_x1, I_dup2, I_icne, I_iceq, I_iclt, I_icge, I_icgt, I_icle, I_ifnull, I_ifnonnull, I_ane, I_aeq, I_goto, I_lsw, I_iret, I_lret, I_fret, I_dret, I_vret, I_nret, I_aret, I_iald, I_bald, I_lald, I_aald, I_iast, I_bast, I_last, I_aast, I_alen, I_new, I_val, I_cast, I_inst, I_obj, I_throw, I_mkx, I_getf, I_putf, I_call, I_calli, I_callv, I_clone, I_getc, i_ifeq, i_ifne, i_iflt, i_ifge, i_ifgt, i_ifle, i_idiv, i_irem, i_newa, i_newo, i_abs, i_max, i_min, i_ldiv, en_, es_i, es_r, es_0, es_n, es_l, List.length_cons, List.length_nil, List.cons_append, List.nil_append, Nat.reduceAdd, Nat.reduceSub, List.replicate, lg_, st1_, st2_, cn_, nl_, mk_, pk_, kd_, sl_, la_, ft_a, ft_i, ft_l, ft_o, ft_n, ft_b0, ft_b1, ft_bI, nr_0, nr_1, nr_bI, ro_, no_, if_true, if_false, ite_true, ite_false, reduceIte, Nat.reduceMod, Nat.reduceEqDiff, Nat.zero_add, Nat.add_zero, lk_, lit_, nI_add, nI_mul, ix_nI, fgk_0, fgk_1, fgk_2, fgk_3, fgk_4, fgk_5, fgk_6, fgk_7, fgk_8, fgk_9, fgk_10, fgk_11, fgk_12, fgk_13, fsk_0, fsk_1, fsk_2, fsk_3, fsk_4, fsk_5, fsk_6, fsk_7, fsk_8, fsk_9, fsk_10, fsk_11, fsk_12, fsk_13, ca_i, ca_r, ca_n, Nat.reduceLT, true_or, or_true, if_true, false_or, or_false, and_true, true_and, List.mem_singleton, eq_self, hz, hs, c0, hc, y1, y2, y3, hv, hfy, hfx, c']
theorem inV_ink {x : Nat} {l : List Nat} : inV_ (l.map nI) (tpo_ r x l l.length) (nI x) = (ink_ r x l).map nI := by
  unfold inV_ ink_
  rw [List.map_append, List.map_cons, List.map_take, List.map_drop]
theorem nxk_co {c c' : Nat → Int32} : ∀ (d k : Nat), (∀ j, j < k + d → c j = c' j) → nxk_ c d k = nxk_ c' d k := by
  intro d
  induction d with
  | zero => intro k h; rfl
  | succ d ih =>
    intro k h
    rw [nxk_, nxk_, h k (by omega), ih (k + 1) (fun j hj => h j (by omega))]
/-- the edges into the sorted list -/
theorem lf_lp {a it : Nat} (hd : E7_ E h0) (h4 : E45_ E h0) (hwl : Wl_ E h0 w r ms ss) (hm : ms.length = n) (hW : Wr_ r n s) (hN : ∀ p, p < 144 → N 0 p = nI (ct_ r s p)) (ha : q + 2 < a) (hia : a < it) (hlc : ∀ n q, lc ≠ .inl (4, n, q)) : ∀ (m k : Nat) (l : List Nat) (σ : As_) (u3 u4 : Option Value), 144 - k ≤ m → k ≤ 144 → (k < 144 → ¬ N 0 k = nI 0) → NV_ h0 σ b bb q w lc N → NI_ σ.2.2 it k b → IL_ E h0 σ a (l.map nI) → (∀ y ∈ l, y / 12 < n ∧ y % 12 < n) → l.length ≤ k →
    ∃ σ', R_ E 291 (B_ E 291 1) [some (.ref b), some (.ref a), some (.ref it), u3, u4, none, none] [] σ = R_ E 291 (B_ E 291 4) [some (.ref b), some (.ref a), some (.ref it), none, none, none, none] [] σ' ∧ NV_ h0 σ' b bb q w lc N ∧ IL_ E h0 σ' a ((fo_ (sg1_ r s) (144 - k) k l).map nI) ∧ σ.1 ≤ σ'.1 ∧ 4 * σ'.1 + σ'.2.1 + tot_ l.length + 10 * l.length ≤ 4 * σ.1 + σ.2.1 + tot_ (fo_ (sg1_ r s) (144 - k) k l).length + 10 * (fo_ (sg1_ r s) (144 - k) k l).length ∧ σ.2.1 ≤ σ'.2.1 := by
  have h12 := wr_n12 hW
  have hz0 : ∀ (k : Nat) (l : List Nat) (σ : As_) (u3 u4 : Option Value) (m : Nat), k = 144 → NV_ h0 σ b bb q w lc N → NI_ σ.2.2 it k b → IL_ E h0 σ a (l.map nI) → ∃ σ', R_ E 291 (B_ E 291 1) [some (.ref b), some (.ref a), some (.ref it), u3, u4, none, none] [] σ = R_ E 291 (B_ E 291 4) [some (.ref b), some (.ref a), some (.ref it), none, none, none, none] [] σ' ∧ NV_ h0 σ' b bb q w lc N ∧ IL_ E h0 σ' a ((fo_ (sg1_ r s) (144 - k) k l).map nI) ∧ σ.1 ≤ σ'.1 ∧ 4 * σ'.1 + σ'.2.1 + tot_ l.length + 10 * l.length ≤ 4 * σ.1 + σ.2.1 + tot_ (fo_ (sg1_ r s) (144 - k) k l).length + 10 * (fo_ (sg1_ r s) (144 - k) k l).length ∧ σ.2.1 ≤ σ'.2.1 := by
    intro k l σ u3 u4 m hk h hI hL
    subst hk
    have hH := I_hasNextN (E := E) h hI (by omega)
    rw [bI_f (by omega)] at hH
    unfold NI_ at hI
    refine ⟨σ, ?_, h, hL, Nat.le_refl _, Nat.le_refl _, Nat.le_refl _⟩
    conv => lhs; rw [b291_1]
    simp (disch := omega) only [K291_1, R_cons, go_nx, go_jp, go_rt, go_th, go_ca, go_no, go_ite, rr_v, rr_n, rr_x, hx_n, hx_p, hx_b, I_push, I_pushl, I_fc0, I_fc1, I_dc0, I_null, I_mask, I_iload, I_lload, I_dload, I_fload, I_aload, I_istore, I_lstore, I_dstore, I_fstore, I_astore, I_iinc, I_iadd, I_isub, I_imul, I_iand, I_ior, I_ixor, I_ishl, I_ishr, I_iushr, I_ineg, I_ladd, I_lsub, I_lmul, I_lxor, I_i2l, I_l2i, I_i2b, I_i2c, I_i2f, I_i2d, I_lcmp, I_fdiv, I_ddiv, I_f2d, I_dcmp, I_dup, I_pop, I_dup_x1, I_dup2, I_icne, I_iceq, I_iclt, I_icge, I_icgt, I_icle, I_ifnull, I_ifnonnull, I_ane, I_aeq, I_goto, I_lsw, I_iret, I_lret, I_fret, I_dret, I_vret, I_nret, I_aret, I_iald, I_bald, I_lald, I_aald, I_iast, I_bast, I_last, I_aast, I_alen, I_new, I_val, I_cast, I_inst, I_obj, I_throw, I_mkx, I_getf, I_putf, I_call, I_calli, I_callv, I_clone, I_getc, i_ifeq, i_ifne, i_iflt, i_ifge, i_ifgt, i_ifle, i_idiv, i_irem, i_newa, i_newo, i_abs, i_max, i_min, i_ldiv, en_, es_i, es_r, es_0, es_n, es_l, List.length_cons, List.length_nil, List.cons_append, List.nil_append, Nat.reduceAdd, Nat.reduceSub, List.replicate, lg_, st1_, st2_, cn_, nl_, mk_, pk_, kd_, sl_, la_, ft_a, ft_i, ft_l, ft_o, ft_n, ft_b0, ft_b1, ft_bI, nr_0, nr_1, nr_bI, ro_, no_, if_true, if_false, ite_true, ite_false, reduceIte, Nat.reduceMod, Nat.reduceEqDiff, Nat.zero_add, Nat.add_zero, lk_, lit_, nI_add, nI_mul, ix_nI, fgk_0, fgk_1, fgk_2, fgk_3, fgk_4, fgk_5, fgk_6, fgk_7, fgk_8, fgk_9, fgk_10, fgk_11, fgk_12, fgk_13, fsk_0, fsk_1, fsk_2, fsk_3, fsk_4, fsk_5, fsk_6, fsk_7, fsk_8, fsk_9, fsk_10, fsk_11, fsk_12, fsk_13, ca_i, ca_r, ca_n, Nat.reduceLT, true_or, or_true, if_true, false_or, or_false, and_true, true_and, List.mem_singleton, eq_self, hI, hH]
  intro m
  induction m with
  | zero => intro k l σ u3 u4 hm hk hz h hI hL hl hlk; exact hz0 k l σ u3 u4 0 (by omega) h hI hL
  | succ m ih =>
    intro k l σ u3 u4 hmm hk hz h hI hL hl hlk
    by_cases c : k < 144
    · have hH := I_hasNextN (E := E) h hI (by omega)
      rw [bI_t c] at hH
      have hbq := h.2.2.2.2
      obtain ⟨σ1, x, g1, g2, g3, g4, g5⟩ := I_nextN (E := E) h4 h hI c (by omega) (Or.inr (by omega))
      have hv := J_intValue (E := E) g4
      have hnk := nxk_le (c := N 0) (144 - (k + 1)) (k + 1)
      have hcz : ¬ ct_ r s k = 0 := fun q => hz c (by rw [hN k c, q])
      have hcp := ct_pair hW hcz
      have hL1 : IL_ E h0 σ1 a (l.map nI) := by
        exact IL_fr (IL_put hL hI (h.2.2.2.1 _ (by omega)) (by decide) (by decide)) g5
      have hsz := IL_size (E := E) hL1
      obtain ⟨fsL, hLc⟩ := IL_cell hL1
      obtain ⟨ci, i1, i2⟩ := g4
      have hp := lp_lp (E := E) (x := k) (l := l) (u2 := some (.ref it)) g2 hwl hm h12 hL1 ⟨by omega, by omega⟩ hl (by omega) l.length (Nat.le_refl _)
      obtain ⟨σ2, y, j1, j2, j3⟩ := J_valueOf (E := E) (i := nI k) (E45_mono g2.2.1 h4) g2.2.2.1
      have h2 := NV_fr g2 j2
      have hL2 := IL_fr hL1 j2
      have htl := tpo_le (r := r) (x := k) (l := l) l.length
      obtain ⟨σ3, k1, k2, k3, k4, k5, k6⟩ := IL_addAt (E := E) hd hL2 (show tpo_ r k l l.length ≤ (l.map nI).length by rw [List.length_map]; exact htl) (by rw [List.length_map]; omega) j3
      rw [inV_ink] at k2
      have hlw := IL_leHw k2
      have h3 := NV_Ay h2 k3 (by omega) hlc hlw.1 hlw.2
      have hI3 : NI_ σ3.2.2 it (nxk_ (N 0) (144 - (k + 1)) (k + 1)) b := k3 _ _ (j2.1 _ _ g3) (by omega) (fun n q => (by intro q; cases q))
      obtain ⟨σ', m1, m2, m3, m4⟩ := ih (nxk_ (N 0) (144 - (k + 1)) (k + 1)) (ink_ r k l) σ3 (some (.int (nI k))) (some (.int (nI (tpo_ r k l l.length)))) (by omega) (by omega) (fun q => nxk_nz (c := N 0) _ _ (by omega)) h3 hI3 k2 (fun z hz => by
        rcases ink_mem.mp hz with e | e
        · rw [e]; exact ⟨by omega, by omega⟩
        · exact hl z e) (by rw [ink_len]; omega)
      have ef : fo_ (sg1_ r s) (144 - k) k l = fo_ (sg1_ r s) (144 - nxk_ (N 0) (144 - (k + 1)) (k + 1)) (nxk_ (N 0) (144 - (k + 1)) (k + 1)) (ink_ r k l) := by
        have ed : 144 - k = (144 - (k + 1)) + 1 := by omega
        rw [ed, fo_]
        have e9 : sg1_ r s k l = ink_ r k l := if_neg hcz
        rw [e9]
        have ec : nxk_ (N 0) (144 - (k + 1)) (k + 1) = nxk_ (fun j => if j < 144 then N 0 j else nI 1) (144 - (k + 1)) (k + 1) := nxk_co _ _ (fun j hj => by rw [if_pos (by omega)])
        have sk := fe_skip (c := fun j => if j < 144 then N 0 j else nI 1) (G := sg1_ r s) (fun j x h => by
          by_cases cj : j < 144
          · rw [if_pos cj, hN j cj] at h
            have h40 := ct_40 hW j
            rw [nI_eq (by omega) (by decide)] at h
            exact if_pos h
          · rw [if_neg cj] at h
            exact absurd h (by decide)) (144 - (k + 1)) (k + 1) (ink_ r k l)
        rw [← ec] at sk
        rw [sk]
        have e8 : 144 - (k + 1) + (k + 1) - nxk_ (N 0) (144 - (k + 1)) (k + 1) = 144 - nxk_ (N 0) (144 - (k + 1)) (k + 1) := by omega
        rw [e8]
      rw [← ef, ink_len] at m4
      rw [← ef] at m3
      rw [List.length_map] at k5
      refine ⟨σ', ?_, m2, m3, ?_⟩
      · rw [← m1]
        unfold NI_ at hI
        conv => lhs; rw [b291_1]
        simp (disch := first | assumption | omega) only [K291_1, R_cons, go_nx, go_jp, go_rt, go_th, go_ca, go_no, go_ite, rr_v, rr_n, rr_x, hx_n, hx_p, hx_b, I_push, I_pushl, I_fc0, I_fc1, I_dc0, I_null, I_mask, I_iload, I_lload, I_dload, I_fload, I_aload, I_istore, I_lstore, I_dstore, I_fstore, I_astore, I_iinc, I_iadd, I_isub, I_imul, I_iand, I_ior, I_ixor, I_ishl, I_ishr, I_iushr, I_ineg, I_ladd, I_lsub, I_lmul, I_lxor, I_i2l, I_l2i, I_i2b, I_i2c, I_i2f, I_i2d, I_lcmp, I_fdiv, I_ddiv, I_f2d, I_dcmp, I_dup, I_pop, I_dup_x1, I_dup2, I_icne, I_iceq, I_iclt, I_icge, I_icgt, I_icle, I_ifnull, I_ifnonnull, I_ane, I_aeq, I_goto, I_lsw, I_iret, I_lret, I_fret, I_dret, I_vret, I_nret, I_aret, I_iald, I_bald, I_lald, I_aald, I_iast, I_bast, I_last, I_aast, I_alen, I_new, I_val, I_cast, I_inst, I_obj, I_throw, I_mkx, I_getf, I_putf, I_call, I_calli, I_callv, I_clone, I_getc, i_ifeq, i_ifne, i_iflt, i_ifge, i_ifgt, i_ifle, i_idiv, i_irem, i_newa, i_newo, i_abs, i_max, i_min, i_ldiv, en_, es_i, es_r, es_0, es_n, es_l, List.length_cons, List.length_nil, List.cons_append, List.nil_append, Nat.reduceAdd, Nat.reduceSub, List.replicate, lg_, st1_, st2_, cn_, nl_, mk_, pk_, kd_, sl_, la_, ft_a, ft_i, ft_l, ft_o, ft_n, ft_b0, ft_b1, ft_bI, nr_0, nr_1, nr_bI, ro_, no_, if_true, if_false, ite_true, ite_false, reduceIte, Nat.reduceMod, Nat.reduceEqDiff, Nat.zero_add, Nat.add_zero, lk_, lit_, nI_add, nI_mul, ix_nI, fgk_0, fgk_1, fgk_2, fgk_3, fgk_4, fgk_5, fgk_6, fgk_7, fgk_8, fgk_9, fgk_10, fgk_11, fgk_12, fgk_13, fsk_0, fsk_1, fsk_2, fsk_3, fsk_4, fsk_5, fsk_6, fsk_7, fsk_8, fsk_9, fsk_10, fsk_11, fsk_12, fsk_13, ca_i, ca_r, ca_n, Nat.reduceLT, true_or, or_true, if_true, false_or, or_false, and_true, true_and, List.mem_singleton, eq_self, hI, hH, n10_, g1, i1, i2, hv, hsz, hLc, List.length_map]
        obtain ⟨fsM, hLd⟩ := IL_cell hL2
        rw [hp, b291_3]
        simp (disch := first | assumption | omega) only [K291_3, R_cons, go_nx, go_jp, go_rt, go_th, go_ca, go_no, go_ite, rr_v, rr_n, rr_x, hx_n, hx_p, hx_b, I_push, I_pushl, I_fc0, I_fc1, I_dc0, I_null, I_mask, I_iload, I_lload, I_dload, I_fload, I_aload, I_istore, I_lstore, I_dstore, I_fstore, I_astore, I_iinc, I_iadd, I_isub, I_imul, I_iand, I_ior, I_ixor, I_ishl, I_ishr, I_iushr, I_ineg, I_ladd, I_lsub, I_lmul, I_lxor, I_i2l, I_l2i, I_i2b, I_i2c, I_i2f, I_i2d, I_lcmp, I_fdiv, I_ddiv, I_f2d, I_dcmp, I_dup, I_pop, I_dup_x1, I_dup2, I_icne, I_iceq, I_iclt, I_icge, I_icgt, I_icle, I_ifnull, I_ifnonnull, I_ane, I_aeq, I_goto, I_lsw, I_iret, I_lret, I_fret, I_dret, I_vret, I_nret, I_aret, I_iald, I_bald, I_lald, I_aald, I_iast, I_bast, I_last, I_aast, I_alen, I_new, I_val, I_cast, I_inst, I_obj, I_throw, I_mkx, I_getf, I_putf, I_call, I_calli, I_callv, I_clone, I_getc, i_ifeq, i_ifne, i_iflt, i_ifge, i_ifgt, i_ifle, i_idiv, i_irem, i_newa, i_newo, i_abs, i_max, i_min, i_ldiv, en_, es_i, es_r, es_0, es_n, es_l, List.length_cons, List.length_nil, List.cons_append, List.nil_append, Nat.reduceAdd, Nat.reduceSub, List.replicate, lg_, st1_, st2_, cn_, nl_, mk_, pk_, kd_, sl_, la_, ft_a, ft_i, ft_l, ft_o, ft_n, ft_b0, ft_b1, ft_bI, nr_0, nr_1, nr_bI, ro_, no_, if_true, if_false, ite_true, ite_false, reduceIte, Nat.reduceMod, Nat.reduceEqDiff, Nat.zero_add, Nat.add_zero, lk_, lit_, nI_add, nI_mul, ix_nI, fgk_0, fgk_1, fgk_2, fgk_3, fgk_4, fgk_5, fgk_6, fgk_7, fgk_8, fgk_9, fgk_10, fgk_11, fgk_12, fgk_13, fsk_0, fsk_1, fsk_2, fsk_3, fsk_4, fsk_5, fsk_6, fsk_7, fsk_8, fsk_9, fsk_10, fsk_11, fsk_12, fsk_13, ca_i, ca_r, ca_n, Nat.reduceLT, true_or, or_true, if_true, false_or, or_false, and_true, true_and, List.mem_singleton, eq_self, j1, hLd, k1]
      · have hs := Fr_Sz g5
        have hs2 := Fr_Sz j2
        obtain ⟨s1, s2, s3⟩ := hs
        obtain ⟨t1, t2, t3⟩ := hs2
        obtain ⟨v1, v2, v3⟩ := m4
        dsimp only at s1 s2 s3
        exact ⟨by omega, by omega, by omega⟩
    · exact hz0 k l σ u3 u4 0 (by omega) h hI hL
end CNH
