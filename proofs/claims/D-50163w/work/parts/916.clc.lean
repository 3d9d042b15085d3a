section CLC
variable {E : En_} {w am em as es st n s b bb q y z m m' : Nat} {mc mc' : Int32} {ms ss : List Nat} {h0 g hB : Nat → Option Ac_} {N : Nat → Nat → Int32} {r far : Nat → Int32}
/-- where from, where to -/
def lf_ : Option Nat → Int32
  | none => -nI 1
  | some j => nI (j % 12)
def lt_ : Option Nat → Int32
  | none => -nI 1
  | some j => nI (j / 12)
theorem lf_s {a c : Nat} (h : a < 12) : lf_ (some (12 * c + a)) = nI a := by
  show nI ((12 * c + a) % 12) = nI a
  rw [show (12 * c + a) % 12 = a by omega]
theorem lto_s {a c : Nat} (h : a < 12) : lt_ (some (12 * c + a)) = nI c := by
  show nI ((12 * c + a) / 12) = nI c
  rw [show (12 * c + a) / 12 = c by omega]
theorem edg_co {a c : Nat} : edg_ r s a c ↔ edg_ r s c a := by
  unfold edg_
  rw [pa_co a c]
  exact ⟨fun h => ⟨fun q => h.1 q.symm, h.2⟩, fun h => ⟨fun q => h.1 q.symm, h.2⟩⟩
/-- what the walk of the heights needs of a state -/
theorem lvF (hyz : y < z) (hN : Nx_ E g (z, m, hB) b bb q w N r n s ms ss) (hw0 : Wl_ E g w r ms ss) (hH : Hok_ r n) (hBy : hB y = none) :
    ∃ am as st i j fm, up_ hB y (tI_ 0 12 far) b = some (.inr (6, nf_ bb q w N)) ∧ up_ hB y (tI_ 0 12 far) w = some (.inr (1, [.ref am, .ref as, .ref st, .int i, .int j])) ∧ up_ hB y (tI_ 0 12 far) am = some (.inr (11, fm)) ∧ D_ E 26 [.ref am] (z, m, up_ hB y (tI_ 0 12 far)) = some (.inl (some (.int (nI n))), (z, m, up_ hB y (tI_ 0 12 far))) ∧
      (∀ k, k < n → ∃ x fs, D_ E 27 [.ref am, .int (nI k)] (z, m, up_ hB y (tI_ 0 12 far)) = some (.inl (some (.ref x)), (z, m, up_ hB y (tI_ 0 12 far))) ∧ up_ hB y (tI_ 0 12 far) x = some (.inr (2, fs)) ∧ D_ E 250 [.ref x] (z, m, up_ hB y (tI_ 0 12 far)) = some (.inl (some (.int (bI (r (8 + 5 * k + 3) = nI 1)))), (z, m, up_ hB y (tI_ 0 12 far)))) ∧
      (∀ a c, a < n → c < n → D_ E 307 [.ref b, .int (nI a), .int (nI c)] (z, m, up_ hB y (tI_ 0 12 far)) = some (.inl (some (.int (bI (edg_ r s a c)))), (z, m, up_ hB y (tI_ 0 12 far)))) ∧
      (∀ a c, a < n → c < n → D_ E 278 [.ref w, .int (nI a), .int (nI c)] (z, m, up_ hB y (tI_ 0 12 far)) = some (.inl (some (.int (di_ r a c))), (z, m, up_ hB y (tI_ 0 12 far)))) ∧
      (∀ a c, a < n → c < n → D_ E 297 [.ref b, .int (nI a), .int (nI c)] (z, m, up_ hB y (tI_ 0 12 far)) = some (.inl (some (.int (rf_ r (err_ r n s) s a c))), (z, m, up_ hB y (tI_ 0 12 far)))) := by
  have hf : Fr_ 0 (z, m, hB) (z, m, up_ hB y (tI_ 0 12 far)) := ⟨le_up hBy le_rfl, Nat.le_refl _, Nat.le_refl _, Nat.le_refl _, up_Hw (σ := (z, m, hB)) (hN.1.choose_spec.2.2.1) hyz⟩
  have hN' := Nx_fr hN hf
  have hW := hN.2.2.2.2.2.2.1
  obtain ⟨lc, hV⟩ := hN'.1
  have hwl := hN'.2.2.2.1
  obtain ⟨am, em, as, es, st, mc1, mc2, hA⟩ := id hwl
  obtain ⟨_, _, _, l5, _⟩ := id hA.2.1
  have hsz := J_size (E := E) hA.2.1
  rw [hN.2.2.2.2.1] at hsz
  refine ⟨am, as, st, _, _, _, hV.1.1, hA.1, l5, hsz, fun k hk => ?_, fun a c ha hc => N_isEdge hV hW hN.2.1.2.1.1 ha hc, fun a c ha hc => W_distance hwl (by rw [hN.2.2.2.2.1]; exact ha) (by rw [hN.2.2.2.2.1]; exact hc), fun a c ha hc => N_riseE hV hW hN.2.1.2.1.2.1 ha hc⟩
  have hkl : k < ms.length := by rw [hN.2.2.2.2.1]; exact hk
  obtain ⟨x1, x2⟩ := wl_mark (E := E) hA hkl
  have x3 := K_hasM (E := E) hH hW hk x2
  obtain ⟨nm, x4, _⟩ := x2
  exact ⟨_, _, x1, x4, x3⟩
theorem lv5_lp (hyz : y < z) (hN : Nx_ E g (z, m, hB) b bb q w N r n s ms ss) (hw0 : Wl_ E g w r ms ss) (hH : Hok_ r n) (hBy : hB y = none) {c : Nat} (hc : c < n) : ∀ (d a : Nat) (k : Option Nat), a + d = n → (∀ j, k = some j → j / 12 < n ∧ j % 12 < n) →
    R_ E 308 (B_ E 308 5) [some (.ref b), some (.ref y), some (.int (lf_ k)), some (.int (lt_ k)), some (.int (nI c)), some (.int (nI a))] [] (z, m, up_ hB y (tI_ 0 12 far)) = R_ E 308 (B_ E 308 4) [some (.ref b), some (.ref y), some (.int (lf_ (fo_ (nh1_ r far s c) d a k))), some (.int (lt_ (fo_ (nh1_ r far s c) d a k))), some (.int (nI (c + 1))), none] [] (z, m, up_ hB y (tI_ 0 12 far)) ∧ (∀ j, fo_ (nh1_ r far s c) d a k = some j → j / 12 < n ∧ j % 12 < n) := by
  have hW := hN.2.2.2.2.2.2.1
  have h12 := wr_n12 hW
  obtain ⟨am, as, st, i, j0, fm, f1, f2, f3, f4, f5, f6, f7, f8⟩ := lvF (far := far) hyz hN hw0 hH hBy
  intro d
  induction d with
  | zero =>
    intro a k ha hk
    refine ⟨?_, hk⟩
    have c1 : nI n ≤ nI a := (nI_leI (by omega) (by omega)).2 (by omega)
    conv => lhs; rw [b308_5]
    simp (disch := omega) only [K308_5, b308_9, K308_9, R_cons, go_nx, go_jp, go_rt, go_th, go_ca, go_no, go_ite, rr_v, rr_n, rr_x, hx_n, hx_p, hx_b, I_push, I_pushl, I_fc0, I_fc1, I_dc0, I_null, I_mask, I_iload, I_lload, I_dload, I_fload, I_aload, I_istore, I_lstore, I_dstore, I_fstore, I_astore, I_iinc, I_iadd, I_isub, I_imul, I_iand, I_ior, I_ixor, I_ishl, I_ishr, I_iushr, I_ineg, I_ladd, I_lsub, I_lmul, I_lxor, I_i2l, I_l2i, I_i2b, I_i2c, I_i2f, I_i2d, I_lcmp, I_fdiv, I_ddiv, I_f2d, I_dcmp, I_dup, I_pop, I_dup_x1, I_dup2, I_icne, I_iceq, I_iclt, I_icge, I_icgt, I_icle, I_ifnull, I_ifnonnull, I_ane, I_aeq, I_goto, I_lsw, I_iret, I_lret, I_fret, I_dret, I_vret, I_nret, I_aret, I_iald, I_bald, I_lald, I_aald, I_iast, I_bast, I_last, I_aast, I_alen, I_new, I_val, I_cast, I_inst, I_obj, I_throw, I_mkx, I_getf, I_putf, I_call, I_calli, I_callv, I_clone, I_getc, i_ifeq, i_ifne, i_iflt, i_ifge, i_ifgt, i_ifle, i_idiv, i_irem, i_newa, i_newo, i_abs, i_max, i_min, i_ldiv, en_, es_i, es_r, es_0, es_n, es_l, List.length_cons, List.length_nil, List.cons_append, List.nil_append, Nat.reduceAdd, Nat.reduceSub, List.replicate, lg_, st1_, st2_, cn_, nl_, mk_, pk_, kd_, sl_, la_, ft_a, ft_i, ft_l, ft_o, ft_n, ft_b0, ft_b1, ft_bI, nr_0, nr_1, nr_bI, ro_, no_, if_true, if_false, ite_true, ite_false, reduceIte, Nat.reduceMod, Nat.reduceEqDiff, Nat.zero_add, Nat.add_zero, lk_, lit_, nI_add, nI_mul, ix_nI, fgk_0, fgk_1, fgk_2, fgk_3, fgk_4, fgk_5, fgk_6, fgk_7, fgk_8, fgk_9, fgk_10, fgk_11, fgk_12, fgk_13, fsk_0, fsk_1, fsk_2, fsk_3, fsk_4, fsk_5, fsk_6, fsk_7, fsk_8, fsk_9, fsk_10, fsk_11, fsk_12, fsk_13, ca_i, ca_r, ca_n, Nat.reduceLT, true_or, or_true, if_true, false_or, or_false, and_true, true_and, List.mem_singleton, eq_self, f1, fg_nf12, f2, f3, f4, c1, nI_1, fo_]
  | succ d ih =>
    intro a k ha hk
    have han : a < n := by omega
    have c1 : ¬ nI n ≤ nI a := fun q => absurd ((nI_leI (by omega) (by omega)).1 q) (by omega)
    obtain ⟨x, fx, x1, x2, x3⟩ := f5 c hc
    obtain ⟨u, fu, u1, u2, u3⟩ := f5 a han
    have e1 := f6 c a hc han
    have hstep : ∀ k', nh1_ r far s c a k = k' → (∀ j, k' = some j → j / 12 < n ∧ j % 12 < n) → R_ E 308 (B_ E 308 5) [some (.ref b), some (.ref y), some (.int (lf_ k)), some (.int (lt_ k)), some (.int (nI c)), some (.int (nI a))] [] (z, m, up_ hB y (tI_ 0 12 far)) = R_ E 308 (B_ E 308 5) [some (.ref b), some (.ref y), some (.int (lf_ k')), some (.int (lt_ k')), some (.int (nI c)), some (.int (nI (a + 1)))] [] (z, m, up_ hB y (tI_ 0 12 far)) → R_ E 308 (B_ E 308 5) [some (.ref b), some (.ref y), some (.int (lf_ k)), some (.int (lt_ k)), some (.int (nI c)), some (.int (nI a))] [] (z, m, up_ hB y (tI_ 0 12 far)) = R_ E 308 (B_ E 308 4) [some (.ref b), some (.ref y), some (.int (lf_ (fo_ (nh1_ r far s c) (d + 1) a k))), some (.int (lt_ (fo_ (nh1_ r far s c) (d + 1) a k))), some (.int (nI (c + 1))), none] [] (z, m, up_ hB y (tI_ 0 12 far)) ∧ (∀ j, fo_ (nh1_ r far s c) (d + 1) a k = some j → j / 12 < n ∧ j % 12 < n) := fun k' hk' hj hR => by
      rw [fo_, hk', hR]
      exact ih (a + 1) k' (by omega) hj
    by_cases cb : r (8 + 5 * c + 3) = nI 1
    · rw [bI_t cb] at x3
      refine hstep k (by unfold nh1_; rw [if_pos cb]) hk ?_
      conv => lhs; rw [b308_5]
      simp (disch := omega) only [K308_5, b308_8, K308_8, R_cons, go_nx, go_jp, go_rt, go_th, go_ca, go_no, go_ite, rr_v, rr_n, rr_x, hx_n, hx_p, hx_b, I_push, I_pushl, I_fc0, I_fc1, I_dc0, I_null, I_mask, I_iload, I_lload, I_dload, I_fload, I_aload, I_istore, I_lstore, I_dstore, I_fstore, I_astore, I_iinc, I_iadd, I_isub, I_imul, I_iand, I_ior, I_ixor, I_ishl, I_ishr, I_iushr, I_ineg, I_ladd, I_lsub, I_lmul, I_lxor, I_i2l, I_l2i, I_i2b, I_i2c, I_i2f, I_i2d, I_lcmp, I_fdiv, I_ddiv, I_f2d, I_dcmp, I_dup, I_pop, I_dup_x1, I_dup2, I_icne, I_iceq, I_iclt, I_icge, I_icgt, I_icle, I_ifnull, I_ifnonnull, I_ane, I_aeq, I_goto, I_lsw, I_iret, I_lret, I_fret, I_dret, I_vret, I_nret, I_aret, I_iald, I_bald, I_lald, I_aald, I_iast, I_bast, I_last, I_aast, I_alen, I_new, I_val, I_cast, I_inst, I_obj, I_throw, I_mkx, I_getf, I_putf, I_call, I_calli, I_callv, I_clone, I_getc, i_ifeq, i_ifne, i_iflt, i_ifge, i_ifgt, i_ifle, i_idiv, i_irem, i_newa, i_newo, i_abs, i_max, i_min, i_ldiv, en_, es_i, es_r, es_0, es_n, es_l, List.length_cons, List.length_nil, List.cons_append, List.nil_append, Nat.reduceAdd, Nat.reduceSub, List.replicate, lg_, st1_, st2_, cn_, nl_, mk_, pk_, kd_, sl_, la_, ft_a, ft_i, ft_l, ft_o, ft_n, ft_b0, ft_b1, ft_bI, nr_0, nr_1, nr_bI, ro_, no_, if_true, if_false, ite_true, ite_false, reduceIte, Nat.reduceMod, Nat.reduceEqDiff, Nat.zero_add, Nat.add_zero, lk_, lit_, nI_add, nI_mul, ix_nI, fgk_0, fgk_1, fgk_2, fgk_3, fgk_4, fgk_5, fgk_6, fgk_7, fgk_8, fgk_9, fgk_10, fgk_11, fgk_12, fgk_13, fsk_0, fsk_1, fsk_2, fsk_3, fsk_4, fsk_5, fsk_6, fsk_7, fsk_8, fsk_9, fsk_10, fsk_11, fsk_12, fsk_13, ca_i, ca_r, ca_n, Nat.reduceLT, true_or, or_true, if_true, false_or, or_false, and_true, true_and, List.mem_singleton, eq_self, f1, fg_nf12, f2, f3, f4, c1, x1, x2, x3, n10_, nI_1]
    · rw [bI_f cb] at x3
      by_cases ca : r (8 + 5 * a + 3) = nI 1
      · rw [bI_t ca] at u3
        by_cases ce : edg_ r s a c
        · rw [bI_t (edg_co.1 ce)] at e1
          cases k with
          | none =>
            refine hstep (some (12 * c + a)) (by unfold nh1_; rw [if_neg cb, if_pos ca, if_pos ce]) (fun j hj => by cases hj; omega) ?_
            have q1 : lf_ (some (12 * c + a)) = nI a := lf_s (by omega)
            have q2 : lt_ (some (12 * c + a)) = nI c := lto_s (by omega)
            rw [q1, q2]
            conv => lhs; rw [b308_5]
            simp (disch := omega) only [K308_5, b308_6, K308_6, b308_7, K308_7, b308_8, K308_8, R_cons, go_nx, go_jp, go_rt, go_th, go_ca, go_no, go_ite, rr_v, rr_n, rr_x, hx_n, hx_p, hx_b, I_push, I_pushl, I_fc0, I_fc1, I_dc0, I_null, I_mask, I_iload, I_lload, I_dload, I_fload, I_aload, I_istore, I_lstore, I_dstore, I_fstore, I_astore, I_iinc, I_iadd, I_isub, I_imul, I_iand, I_ior, I_ixor, I_ishl, I_ishr, I_iushr, I_ineg, I_ladd, I_lsub, I_lmul, I_lxor, I_i2l, I_l2i, I_i2b, I_i2c, I_i2f, I_i2d, I_lcmp, I_fdiv, I_ddiv, I_f2d, I_dcmp, I_dup, I_pop, I_dup_x1, I_dup2, I_icne, I_iceq, I_iclt, I_icge, I_icgt, I_icle, I_ifnull, I_ifnonnull, I_ane, I_aeq, I_goto, I_lsw, I_iret, I_lret, I_fret, I_dret, I_vret, I_nret, I_aret, I_iald, I_bald, I_lald, I_aald, I_iast, I_bast, I_last, I_aast, I_alen, I_new, I_val, I_cast, I_inst, I_obj, I_throw, I_mkx, I_getf, I_putf, I_call, I_calli, I_callv, I_clone, I_getc, i_ifeq, i_ifne, i_iflt, i_ifge, i_ifgt, i_ifle, i_idiv, i_irem, i_newa, i_newo, i_abs, i_max, i_min, i_ldiv, en_, es_i, es_r, es_0, es_n, es_l, List.length_cons, List.length_nil, List.cons_append, List.nil_append, Nat.reduceAdd, Nat.reduceSub, List.replicate, lg_, st1_, st2_, cn_, nl_, mk_, pk_, kd_, sl_, la_, ft_a, ft_i, ft_l, ft_o, ft_n, ft_b0, ft_b1, ft_bI, nr_0, nr_1, nr_bI, ro_, no_, if_true, if_false, ite_true, ite_false, reduceIte, Nat.reduceMod, Nat.reduceEqDiff, Nat.zero_add, Nat.add_zero, lk_, lit_, nI_add, nI_mul, ix_nI, fgk_0, fgk_1, fgk_2, fgk_3, fgk_4, fgk_5, fgk_6, fgk_7, fgk_8, fgk_9, fgk_10, fgk_11, fgk_12, fgk_13, fsk_0, fsk_1, fsk_2, fsk_3, fsk_4, fsk_5, fsk_6, fsk_7, fsk_8, fsk_9, fsk_10, fsk_11, fsk_12, fsk_13, ca_i, ca_r, ca_n, Nat.reduceLT, true_or, or_true, if_true, false_or, or_false, and_true, true_and, List.mem_singleton, eq_self, f1, fg_nf12, f2, f3, f4, c1, x1, x2, x3, u1, u2, u3, e1, n10_, lf_, lt_, nI_1]
          | some j =>
            obtain ⟨j1, j2⟩ := hk j rfl
            have q3 : ¬ nI (j / 12) = -nI 1 := nI_nm1 (by omega)
            have g1 := f7 a c han hc
            have g2 := f7 (j % 12) (j / 12) j2 j1
            have hy1 : up_ hB y (tI_ 0 12 far) y = some (tI_ 0 12 far) := up_s _ _ _
            by_cases cf : far a + di_ r a c < far (j % 12) + di_ r (j % 12) (j / 12)
            · refine hstep (some (12 * c + a)) (by unfold nh1_; rw [if_neg cb, if_pos ca, if_pos ce]; exact if_pos cf) (fun j hj => by cases hj; omega) ?_
              have q1 : lf_ (some (12 * c + a)) = nI a := lf_s (by omega)
              have q2 : lt_ (some (12 * c + a)) = nI c := lto_s (by omega)
              rw [q1, q2]
              conv => lhs; rw [b308_5]
              simp (disch := omega) only [K308_5, b308_6, K308_6, b308_7, K308_7, b308_8, K308_8, R_cons, go_nx, go_jp, go_rt, go_th, go_ca, go_no, go_ite, rr_v, rr_n, rr_x, hx_n, hx_p, hx_b, I_push, I_pushl, I_fc0, I_fc1, I_dc0, I_null, I_mask, I_iload, I_lload, I_dload, I_fload, I_aload, I_istore, I_lstore, I_dstore, I_fstore, I_astore, I_iinc, I_iadd, I_isub, I_imul, I_iand, I_ior, I_ixor, I_ishl, I_ishr, I_iushr, I_ineg, I_ladd, I_lsub, I_lmul, I_lxor, I_i2l, I_l2i, I_i2b, I_i2c, I_i2f, I_i2d, I_lcmp, I_fdiv, I_ddiv, I_f2d, I_dcmp, I_dup, I_pop, I_dup_x1, I_dup2, I_icne, I_iceq, I_iclt, I_icge, I_icgt, I_icle, I_ifnull, I_ifnonnull, I_ane, I_aeq, I_goto, I_lsw, I_iret, I_lret, I_fret, I_dret, I_vret, I_nret, I_aret, I_iald, I_bald, I_lald, I_aald, I_iast, I_bast, I_last, I_aast, I_alen, I_new, I_val, I_cast, I_inst, I_obj, I_throw, I_mkx, I_getf, I_putf, I_call, I_calli, I_callv, I_clone, I_getc, i_ifeq, i_ifne, i_iflt, i_ifge, i_ifgt, i_ifle, i_idiv, i_irem, i_newa, i_newo, i_abs, i_max, i_min, i_ldiv, en_, es_i, es_r, es_0, es_n, es_l, List.length_cons, List.length_nil, List.cons_append, List.nil_append, Nat.reduceAdd, Nat.reduceSub, List.replicate, lg_, st1_, st2_, cn_, nl_, mk_, pk_, kd_, sl_, la_, ft_a, ft_i, ft_l, ft_o, ft_n, ft_b0, ft_b1, ft_bI, nr_0, nr_1, nr_bI, ro_, no_, if_true, if_false, ite_true, ite_false, reduceIte, Nat.reduceMod, Nat.reduceEqDiff, Nat.zero_add, Nat.add_zero, lk_, lit_, nI_add, nI_mul, ix_nI, fgk_0, fgk_1, fgk_2, fgk_3, fgk_4, fgk_5, fgk_6, fgk_7, fgk_8, fgk_9, fgk_10, fgk_11, fgk_12, fgk_13, fsk_0, fsk_1, fsk_2, fsk_3, fsk_4, fsk_5, fsk_6, fsk_7, fsk_8, fsk_9, fsk_10, fsk_11, fsk_12, fsk_13, ca_i, ca_r, ca_n, Nat.reduceLT, true_or, or_true, if_true, false_or, or_false, and_true, true_and, List.mem_singleton, eq_self, f1, fg_nf12, f2, f3, f4, c1, x1, x2, x3, u1, u2, u3, e1, n10_, lf_, lt_, q3, g1, g2, hy1, ix_nI, cf, nI_1]
            · refine hstep (some j) (by unfold nh1_; rw [if_neg cb, if_pos ca, if_pos ce]; exact if_neg cf) hk ?_
              conv => lhs; rw [b308_5]
              simp (disch := omega) only [K308_5, b308_6, K308_6, b308_8, K308_8, R_cons, go_nx, go_jp, go_rt, go_th, go_ca, go_no, go_ite, rr_v, rr_n, rr_x, hx_n, hx_p, hx_b, I_push, I_pushl, I_fc0, I_fc1, I_dc0, I_null, I_mask, I_iload, I_lload, I_dload, I_fload, I_aload, I_istore, I_lstore, I_dstore, I_fstore, I_astore, I_iinc, I_iadd, I_isub, I_imul, I_iand, I_ior, I_ixor, I_ishl, I_ishr, I_iushr, I_ineg, I_ladd, I_lsub, I_lmul, I_lxor, I_i2l, I_l2i, I_i2b, I_i2c, I_i2f, I_i2d, I_lcmp, I_fdiv, I_ddiv, I_f2d, I_dcmp, I_dup, I_pop, I_dup_x1, I_dup2, I_icne, I_iceq, I_iclt, I_icge, I_icgt, I_icle, I_ifnull, I_ifnonnull, I_ane, I_aeq, I_goto, I_lsw, I_iret, I_lret, I_fret, I_dret, I_vret, I_nret, I_aret, I_iald, I_bald, I_lald, I_aald, I_iast, I_bast, I_last, I_aast, I_alen, I_new, I_val, I_cast, I_inst, I_obj, I_throw, I_mkx, I_getf, I_putf, I_call, I_calli, I_callv, I_clone, I_getc, i_ifeq, i_ifne, i_iflt, i_ifge, i_ifgt, i_ifle, i_idiv, i_irem, i_newa, i_newo, i_abs, i_max, i_min, i_ldiv, en_, es_i, es_r, es_0, es_n, es_l, List.length_cons, List.length_nil, List.cons_append, List.nil_append, Nat.reduceAdd, Nat.reduceSub, List.replicate, lg_, st1_, st2_, cn_, nl_, mk_, pk_, kd_, sl_, la_, ft_a, ft_i, ft_l, ft_o, ft_n, ft_b0, ft_b1, ft_bI, nr_0, nr_1, nr_bI, ro_, no_, if_true, if_false, ite_true, ite_false, reduceIte, Nat.reduceMod, Nat.reduceEqDiff, Nat.zero_add, Nat.add_zero, lk_, lit_, nI_add, nI_mul, ix_nI, fgk_0, fgk_1, fgk_2, fgk_3, fgk_4, fgk_5, fgk_6, fgk_7, fgk_8, fgk_9, fgk_10, fgk_11, fgk_12, fgk_13, fsk_0, fsk_1, fsk_2, fsk_3, fsk_4, fsk_5, fsk_6, fsk_7, fsk_8, fsk_9, fsk_10, fsk_11, fsk_12, fsk_13, ca_i, ca_r, ca_n, Nat.reduceLT, true_or, or_true, if_true, false_or, or_false, and_true, true_and, List.mem_singleton, eq_self, f1, fg_nf12, f2, f3, f4, c1, x1, x2, x3, u1, u2, u3, e1, n10_, lf_, lt_, q3, g1, g2, hy1, ix_nI, cf, nI_1]
        · rw [bI_f (fun q => ce (edg_co.2 q))] at e1
          refine hstep k (by unfold nh1_; rw [if_neg cb, if_pos ca, if_neg ce]) hk ?_
          conv => lhs; rw [b308_5]
          simp (disch := omega) only [K308_5, b308_8, K308_8, R_cons, go_nx, go_jp, go_rt, go_th, go_ca, go_no, go_ite, rr_v, rr_n, rr_x, hx_n, hx_p, hx_b, I_push, I_pushl, I_fc0, I_fc1, I_dc0, I_null, I_mask, I_iload, I_lload, I_dload, I_fload, I_aload, I_istore, I_lstore, I_dstore, I_fstore, I_astore, I_iinc, I_iadd, I_isub, I_imul, I_iand, I_ior, I_ixor, I_ishl, I_ishr, I_iushr, I_ineg, I_ladd, I_lsub, I_lmul, I_lxor, I_i2l, I_l2i, I_i2b, I_i2c, I_i2f, I_i2d, I_lcmp, I_fdiv, I_ddiv, I_f2d, I_dcmp, I_dup, I_pop, I_dup_x1, I_dup2, I_icne, I_iceq, I_iclt, I_icge, I_icgt, I_icle, I_ifnull, I_ifnonnull, I_ane, I_aeq, I_goto, I_lsw, I_iret, I_lret, I_fret, I_dret, I_vret, I_nret, I_aret, I_iald, I_bald, I_lald, I_aald, I_iast, I_bast, I_last, I_aast, I_alen, I_new, I_val, I_cast, I_inst, I_obj, I_throw, I_mkx, I_getf, I_putf, I_call, I_calli, I_callv, I_clone, I_getc, i_ifeq, i_ifne, i_iflt, i_ifge, i_ifgt, i_ifle, i_idiv, i_irem, i_newa, i_newo, i_abs, i_max, i_min, i_ldiv, en_, es_i, es_r, es_0, es_n, es_l, List.length_cons, List.length_nil, List.cons_append, List.nil_append, Nat.reduceAdd, Nat.reduceSub, List.replicate, lg_, st1_, st2_, cn_, nl_, mk_, pk_, kd_, sl_, la_, ft_a, ft_i, ft_l, ft_o, ft_n, ft_b0, ft_b1, ft_bI, nr_0, nr_1, nr_bI, ro_, no_, if_true, if_false, ite_true, ite_false, reduceIte, Nat.reduceMod, Nat.reduceEqDiff, Nat.zero_add, Nat.add_zero, lk_, lit_, nI_add, nI_mul, ix_nI, fgk_0, fgk_1, fgk_2, fgk_3, fgk_4, fgk_5, fgk_6, fgk_7, fgk_8, fgk_9, fgk_10, fgk_11, fgk_12, fgk_13, fsk_0, fsk_1, fsk_2, fsk_3, fsk_4, fsk_5, fsk_6, fsk_7, fsk_8, fsk_9, fsk_10, fsk_11, fsk_12, fsk_13, ca_i, ca_r, ca_n, Nat.reduceLT, true_or, or_true, if_true, false_or, or_false, and_true, true_and, List.mem_singleton, eq_self, f1, fg_nf12, f2, f3, f4, c1, x1, x2, x3, u1, u2, u3, e1, n10_, nI_1]
      · rw [bI_f ca] at u3
        refine hstep k (by unfold nh1_; rw [if_neg cb, if_neg ca]) hk ?_
        conv => lhs; rw [b308_5]
        simp (disch := omega) only [K308_5, b308_8, K308_8, R_cons, go_nx, go_jp, go_rt, go_th, go_ca, go_no, go_ite, rr_v, rr_n, rr_x, hx_n, hx_p, hx_b, I_push, I_pushl, I_fc0, I_fc1, I_dc0, I_null, I_mask, I_iload, I_lload, I_dload, I_fload, I_aload, I_istore, I_lstore, I_dstore, I_fstore, I_astore, I_iinc, I_iadd, I_isub, I_imul, I_iand, I_ior, I_ixor, I_ishl, I_ishr, I_iushr, I_ineg, I_ladd, I_lsub, I_lmul, I_lxor, I_i2l, I_l2i, I_i2b, I_i2c, I_i2f, I_i2d, I_lcmp, I_fdiv, I_ddiv, I_f2d, I_dcmp, I_dup, I_pop, I_dup_x1, I_dup2, I_icne, I_iceq, I_iclt, I_icge, I_icgt, I_icle, I_ifnull, I_ifnonnull, I_ane, I_aeq, I_goto, I_lsw, I_iret, I_lret, I_fret, I_dret, I_vret, I_nret, I_aret, I_iald, I_bald, I_lald, I_aald, I_iast, I_bast, I_last, I_aast, I_alen, I_new, I_val, I_cast, I_inst, I_obj, I_throw, I_mkx, I_getf, I_putf, I_call, I_calli, I_callv, I_clone, I_getc, i_ifeq, i_ifne, i_iflt, i_ifge, i_ifgt, i_ifle, i_idiv, i_irem, i_newa, i_newo, i_abs, i_max, i_min, i_ldiv, en_, es_i, es_r, es_0, es_n, es_l, List.length_cons, List.length_nil, List.cons_append, List.nil_append, Nat.reduceAdd, Nat.reduceSub, List.replicate, lg_, st1_, st2_, cn_, nl_, mk_, pk_, kd_, sl_, la_, ft_a, ft_i, ft_l, ft_o, ft_n, ft_b0, ft_b1, ft_bI, nr_0, nr_1, nr_bI, ro_, no_, if_true, if_false, ite_true, ite_false, reduceIte, Nat.reduceMod, Nat.reduceEqDiff, Nat.zero_add, Nat.add_zero, lk_, lit_, nI_add, nI_mul, ix_nI, fgk_0, fgk_1, fgk_2, fgk_3, fgk_4, fgk_5, fgk_6, fgk_7, fgk_8, fgk_9, fgk_10, fgk_11, fgk_12, fgk_13, fsk_0, fsk_1, fsk_2, fsk_3, fsk_4, fsk_5, fsk_6, fsk_7, fsk_8, fsk_9, fsk_10, fsk_11, fsk_12, fsk_13, ca_i, ca_r, ca_n, Nat.reduceLT, true_or, or_true, if_true, false_or, or_false, and_true, true_and, List.mem_singleton, eq_self, f1, fg_nf12, f2, f3, f4, c1, x1, x2, x3, u1, u2, u3, n10_, nI_1]
theorem lv4_lp (hyz : y < z) (hN : Nx_ E g (z, m, hB) b bb q w N r n s ms ss) (hw0 : Wl_ E g w r ms ss) (hH : Hok_ r n) (hBy : hB y = none) : ∀ (d c : Nat) (k : Option Nat) (u5 : Option Value), c + d = n → (∀ j, k = some j → j / 12 < n ∧ j % 12 < n) →
    R_ E 308 (B_ E 308 4) [some (.ref b), some (.ref y), some (.int (lf_ k)), some (.int (lt_ k)), some (.int (nI c)), u5] [] (z, m, up_ hB y (tI_ 0 12 far)) = R_ E 308 (B_ E 308 10) [some (.ref b), some (.ref y), some (.int (lf_ (fo_ (fun c => fo_ (nh1_ r far s c) n 0) d c k))), some (.int (lt_ (fo_ (fun c => fo_ (nh1_ r far s c) n 0) d c k))), some (.int (nI n)), none] [] (z, m, up_ hB y (tI_ 0 12 far)) := by
  have hW := hN.2.2.2.2.2.2.1
  have h12 := wr_n12 hW
  obtain ⟨am, as, st, i, j0, fm, f1, f2, f3, f4, f5, f6, f7, f8⟩ := lvF (far := far) hyz hN hw0 hH hBy
  intro d
  induction d with
  | zero =>
    intro c k u5 hc hk
    have c1 : nI n ≤ nI c := (nI_leI (by omega) (by omega)).2 (by omega)
    obtain rfl : c = n := by omega
    conv => lhs; rw [b308_4]
    simp (disch := omega) only [K308_4, R_cons, go_nx, go_jp, go_rt, go_th, go_ca, go_no, go_ite, rr_v, rr_n, rr_x, hx_n, hx_p, hx_b, I_push, I_pushl, I_fc0, I_fc1, I_dc0, I_null, I_mask, I_iload, I_lload, I_dload, I_fload, I_aload, I_istore, I_lstore, I_dstore, I_fstore, I_astore, I_iinc, I_iadd, I_isub, I_imul, I_iand, I_ior, I_ixor, I_ishl, I_ishr, I_iushr, I_ineg, I_ladd, I_lsub, I_lmul, I_lxor, I_i2l, I_l2i, I_i2b, I_i2c, I_i2f, I_i2d, I_lcmp, I_fdiv, I_ddiv, I_f2d, I_dcmp, I_dup, I_pop, I_dup_x1, I_dup2, I_icne, I_iceq, I_iclt, I_icge, I_icgt, I_icle, I_ifnull, I_ifnonnull, I_ane, I_aeq, I_goto, I_lsw, I_iret, I_lret, I_fret, I_dret, I_vret, I_nret, I_aret, I_iald, I_bald, I_lald, I_aald, I_iast, I_bast, I_last, I_aast, I_alen, I_new, I_val, I_cast, I_inst, I_obj, I_throw, I_mkx, I_getf, I_putf, I_call, I_calli, I_callv, I_clone, I_getc, i_ifeq, i_ifne, i_iflt, i_ifge, i_ifgt, i_ifle, i_idiv, i_irem, i_newa, i_newo, i_abs, i_max, i_min, i_ldiv, en_, es_i, es_r, es_0, es_n, es_l, List.length_cons, List.length_nil, List.cons_append, List.nil_append, Nat.reduceAdd, Nat.reduceSub, List.replicate, lg_, st1_, st2_, cn_, nl_, mk_, pk_, kd_, sl_, la_, ft_a, ft_i, ft_l, ft_o, ft_n, ft_b0, ft_b1, ft_bI, nr_0, nr_1, nr_bI, ro_, no_, if_true, if_false, ite_true, ite_false, reduceIte, Nat.reduceMod, Nat.reduceEqDiff, Nat.zero_add, Nat.add_zero, lk_, lit_, nI_add, nI_mul, ix_nI, fgk_0, fgk_1, fgk_2, fgk_3, fgk_4, fgk_5, fgk_6, fgk_7, fgk_8, fgk_9, fgk_10, fgk_11, fgk_12, fgk_13, fsk_0, fsk_1, fsk_2, fsk_3, fsk_4, fsk_5, fsk_6, fsk_7, fsk_8, fsk_9, fsk_10, fsk_11, fsk_12, fsk_13, ca_i, ca_r, ca_n, Nat.reduceLT, true_or, or_true, if_true, false_or, or_false, and_true, true_and, List.mem_singleton, eq_self, f1, fg_nf12, f2, f3, f4, c1, fo_]
  | succ d ih =>
    intro c k u5 hc hk
    have c1 : ¬ nI n ≤ nI c := fun q => absurd ((nI_leI (by omega) (by omega)).1 q) (by omega)
    obtain ⟨h1, h2⟩ := lv5_lp (far := far) hyz hN hw0 hH hBy (show c < n by omega) n 0 k (by omega) hk
    rw [fo_, ← ih (c + 1) _ none (by omega) h2, ← h1]
    conv => lhs; rw [b308_4]
    simp (disch := omega) only [K308_4, R_cons, go_nx, go_jp, go_rt, go_th, go_ca, go_no, go_ite, rr_v, rr_n, rr_x, hx_n, hx_p, hx_b, I_push, I_pushl, I_fc0, I_fc1, I_dc0, I_null, I_mask, I_iload, I_lload, I_dload, I_fload, I_aload, I_istore, I_lstore, I_dstore, I_fstore, I_astore, I_iinc, I_iadd, I_isub, I_imul, I_iand, I_ior, I_ixor, I_ishl, I_ishr, I_iushr, I_ineg, I_ladd, I_lsub, I_lmul, I_lxor, I_i2l, I_l2i, I_i2b, I_i2c, I_i2f, I_i2d, I_lcmp, I_fdiv, I_ddiv, I_f2d, I_dcmp, I_dup, I_pop, I_dup_x1, I_dup2, I_icne, I_iceq, I_iclt, I_icge, I_icgt, I_icle, I_ifnull, I_ifnonnull, I_ane, I_aeq, I_goto, I_lsw, I_iret, I_lret, I_fret, I_dret, I_vret, I_nret, I_aret, I_iald, I_bald, I_lald, I_aald, I_iast, I_bast, I_last, I_aast, I_alen, I_new, I_val, I_cast, I_inst, I_obj, I_throw, I_mkx, I_getf, I_putf, I_call, I_calli, I_callv, I_clone, I_getc, i_ifeq, i_ifne, i_iflt, i_ifge, i_ifgt, i_ifle, i_idiv, i_irem, i_newa, i_newo, i_abs, i_max, i_min, i_ldiv, en_, es_i, es_r, es_0, es_n, es_l, List.length_cons, List.length_nil, List.cons_append, List.nil_append, Nat.reduceAdd, Nat.reduceSub, List.replicate, lg_, st1_, st2_, cn_, nl_, mk_, pk_, kd_, sl_, la_, ft_a, ft_i, ft_l, ft_o, ft_n, ft_b0, ft_b1, ft_bI, nr_0, nr_1, nr_bI, ro_, no_, if_true, if_false, ite_true, ite_false, reduceIte, Nat.reduceMod, Nat.reduceEqDiff, Nat.zero_add, Nat.add_zero, lk_, lit_, nI_add, nI_mul, ix_nI, fgk_0, fgk_1, fgk_2, fgk_3, fgk_4, fgk_5, fgk_6, fgk_7, fgk_8, fgk_9, fgk_10, fgk_11, fgk_12, fgk_13, fsk_0, fsk_1, fsk_2, fsk_3, fsk_4, fsk_5, fsk_6, fsk_7, fsk_8, fsk_9, fsk_10, fsk_11, fsk_12, fsk_13, ca_i, ca_r, ca_n, Nat.reduceLT, true_or, or_true, if_true, false_or, or_false, and_true, true_and, List.mem_singleton, eq_self, f1, fg_nf12, f2, f3, f4, c1]
end CLC
