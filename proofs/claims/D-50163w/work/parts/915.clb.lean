section CLB
variable {E : En_} {w am em as es st n s b bb q y z m m' : Nat} {mc mc' : Int32} {ms ss : List Nat} {h0 : Nat → Option Ac_} {N : Nat → Nat → Int32}
theorem up_co {h : Nat → Option Ac_} {a c : Nat} {x d : Ac_} (hac : a ≠ c) : up_ (up_ h a x) c d = up_ (up_ h c d) a x := by
  funext i
  by_cases e : i = c
  · subst e
    rw [up_s, up_n (fun q => hac q.symm), up_s]
  · rw [up_n e]
    by_cases e2 : i = a
    · subst e2
      rw [up_s, up_s]
    · rw [up_n e2, up_n e2, up_n e]
theorem fg_nf12 : fg_ (nf_ bb q w N) 12 = .ref w := rfl
theorem l0_W {r : Nat → Int32} {k : Nat} (hW : Wr_ r n s) (hk : k < n) : Wr_ (l0_ k r) n s := by
  have h12 := wr_n12 hW
  refine hs_Wr (r := r) (fun j hj => by unfold l0_; exact upd_n (by omega)) hW (fun a ha => ?_)
  have hb := (hW.2.2.2.2.2.2.2.2.2.2.1 a ha)
  unfold l0_
  by_cases c : a = k
  · subst c
    rw [upd_s, upd_n (by omega)]
    exact ⟨hb.2.2.1, id⟩
  · rw [upd_n (by omega), upd_n (by omega)]
    exact ⟨hb.2.2.2.1, hb.2.2.2.2⟩
/-- the iterator's cell isn't the net's -/
theorem Nx_it {g : Nat → Option Ac_} {σ : As_} {r : Nat → Int32} {it : Nat} {fs : List Value} {c : Ac_} (h : Nx_ E g σ b bb q w N r n s ms ss) (hi : σ.2.2 it = some (.inr (12, fs))) (hb : bb < it) : Nx_ E g (σ.1, σ.2.1, up_ σ.2.2 it c) b bb q w N r n s ms ss := by
  obtain ⟨⟨lc, hV⟩, hK, hL, hwl, hm, hss, hW, h4⟩ := h
  obtain ⟨⟨c0, c1, c2, c3, c4, c5, c6, c8, c9, c10, cL⟩, v2, v3, v4, v5⟩ := hV
  have hni : ∀ {y d}, σ.2.2 y = some d → (∀ fs, d ≠ .inr (12, fs)) → up_ σ.2.2 it c y = some d := fun {y d} hy hd => by
    rw [up_n (fun q => by rw [q, hi] at hy; cases hy; exact hd _ rfl)]
    exact hy
  obtain ⟨mc0, e, xs, l1, l2, l3, l4⟩ := id hL
  obtain ⟨_, _, _, l5, _⟩ := id l1
  have hlc : ∀ fs, lc ≠ .inr (12, fs) := fun fs q => by rw [cL, q] at l5; cases l5
  have hlo : ∀ i y, xs[i]? = some y → LpO_ (q + 2) (up_ σ.2.2 it c) y (lpe_ r n s i / 12) (lpw_ r n s i) (mis_ r n s i) (wal_ r n s i) := fun i y hy => by
    obtain ⟨_, a', f, e1, e2, e3⟩ := l4 i y hy
    exact ⟨a', f, hni e1 (fun _ q => by cases q), hni e2 (fun _ q => by cases q), e3⟩
  obtain ⟨am, em, as, es, st, mc1, mc2, hA⟩ := hwl
  refine ⟨⟨lc, ⟨hni c0 (fun _ q => by cases q), hni c1 (fun _ q => by cases q), hni c2 (fun _ q => by cases q), hni c3 (fun _ q => by cases q), hni c4 (fun _ q => by cases q), hni c5 (fun _ q => by cases q), hni c6 (fun _ q => by cases q), hni c8 (fun _ q => by cases q), hni c9 (fun _ q => by cases q), hni c10 (fun _ q => by cases q), hni cL hlc⟩, le_up (v4 it (Or.inr hb)) v2, up_Hw v3 (Hw_lt v3 hi), v4, v5⟩, hK, ⟨mc0, e, xs, Ls_ne hi (fun _ q => by cases q) (fun _ _ _ q => by cases q) (all_i fun i y hy => ?_) l1, l2, l3, fun i y hy => ⟨(l4 i y hy).1, hlo i y hy⟩⟩, ⟨am, em, as, es, st, mc1, mc2, WlA_kp (up_gd hi (by unfold gd_; omega)) hA⟩, hm, hss, hW, h4⟩
  obtain ⟨a', f, e1, _⟩ := hlo i y hy
  exact ⟨_, _, e1, by decide⟩
/-- heights are taken away -/
theorem lv1_lp {it : Nat} {F : Ac_} (hyz : y < z) (hyb : bb < y) (hib : bb < it) (hiy : it ≠ y) : ∀ (d k : Nat) (lr : Int32) (u3 u4 u5 : Option Value) (g hB : Nat → Option Ac_) (r : Nat → Int32), k + d = n → Nx_ E g (z, m, hB) b bb q w N r n s ms ss → WY_ E h0 (bb + 1, m', g) w r am em as es st mc mc' ms ss → It_ hB it k lr mc am → hB y = none →
    ∃ g' hB', R_ E 308 (B_ E 308 1) [some (.ref b), some (.ref y), some (.ref it), u3, u4, u5] [] (z, m, up_ hB y F) = R_ E 308 (B_ E 308 3) [some (.ref b), some (.ref y), some (.ref it), none, none, none] [] (z, m, up_ hB' y F) ∧ Nx_ E g' (z, m, hB') b bb q w N (fo_ l0_ d k r) n s ms ss ∧ WY_ E h0 (bb + 1, m', g') w (fo_ l0_ d k r) am em as es st mc mc' ms ss ∧ hB' y = none := by
  intro d
  induction d with
  | zero =>
    intro k lr u3 u4 u5 g hB r hk hN hY hI hBy
    have hL := Ls_mono (le_up (c := F) hBy le_rfl) (Ls_mono (hN.1.choose_spec.2.1) hY.1.2.1)
    have hI' := le_up (c := F) hBy le_rfl _ _ hI
    have hlen := hN.2.2.2.2.1
    have hX := J_hasNext (E := E) (σ := (z, m, up_ hB y F)) hL hI' (by omega)
    rw [bI_f (by omega)] at hX
    refine ⟨g, hB, ?_, hN, hY, hBy⟩
    conv => lhs; rw [b308_1]
    simp (disch := omega) only [K308_1, R_cons, go_nx, go_jp, go_rt, go_th, go_ca, go_no, go_ite, rr_v, rr_n, rr_x, hx_n, hx_p, hx_b, I_push, I_pushl, I_fc0, I_fc1, I_dc0, I_null, I_mask, I_iload, I_lload, I_dload, I_fload, I_aload, I_istore, I_lstore, I_dstore, I_fstore, I_astore, I_iinc, I_iadd, I_isub, I_imul, I_iand, I_ior, I_ixor, I_ishl, I_ishr, I_iushr, I_ineg, I_ladd, I_lsub, I_lmul, I_lxor, I_i2l, I_l2i, I_i2b, I_i2c, I_i2f, I_i2d, I_lcmp, I_fdiv, I_ddiv, I_f2d, I_dcmp, I_dup, I_pop, I_dup_x1, I_dup2, I_icne, I_iceq, I_iclt, I_icge, I_icgt, I_icle, I_ifnull, I_ifnonnull, I_ane, I_aeq, I_goto, I_lsw, I_iret, I_lret, I_fret, I_dret, I_vret, I_nret, I_aret, I_iald, I_bald, I_lald, I_aald, I_iast, I_bast, I_last, I_aast, I_alen, I_new, I_val, I_cast, I_inst, I_obj, I_throw, I_mkx, I_getf, I_putf, I_call, I_calli, I_callv, I_clone, I_getc, i_ifeq, i_ifne, i_iflt, i_ifge, i_ifgt, i_ifle, i_idiv, i_irem, i_newa, i_newo, i_abs, i_max, i_min, i_ldiv, en_, es_i, es_r, es_0, es_n, es_l, List.length_cons, List.length_nil, List.cons_append, List.nil_append, Nat.reduceAdd, Nat.reduceSub, List.replicate, lg_, st1_, st2_, cn_, nl_, mk_, pk_, kd_, sl_, la_, ft_a, ft_i, ft_l, ft_o, ft_n, ft_b0, ft_b1, ft_bI, nr_0, nr_1, nr_bI, ro_, no_, if_true, if_false, ite_true, ite_false, reduceIte, Nat.reduceMod, Nat.reduceEqDiff, Nat.zero_add, Nat.add_zero, lk_, lit_, nI_add, nI_mul, ix_nI, fgk_0, fgk_1, fgk_2, fgk_3, fgk_4, fgk_5, fgk_6, fgk_7, fgk_8, fgk_9, fgk_10, fgk_11, fgk_12, fgk_13, fsk_0, fsk_1, fsk_2, fsk_3, fsk_4, fsk_5, fsk_6, fsk_7, fsk_8, fsk_9, fsk_10, fsk_11, fsk_12, fsk_13, ca_i, ca_r, ca_n, Nat.reduceLT, true_or, or_true, if_true, false_or, or_false, and_true, true_and, List.mem_singleton, eq_self, hI', hX]
  | succ d ih =>
    intro k lr u3 u4 u5 g hB r hk hN hY hI hBy
    have hlen := hN.2.2.2.2.1
    have hW := hN.2.2.2.2.2.2.1
    have h12 := wr_n12 hW
    have hkn : k < n := by omega
    have hkl : k < ms.length := by omega
    have hgB := hN.1.choose_spec.2.1
    have hle : le_ hB (up_ hB y F) := le_up hBy le_rfl
    have hL := Ls_mono hle (Ls_mono hgB hY.1.2.1)
    have hI' := hle _ _ hI
    have hX := J_hasNext (E := E) (σ := (z, m, up_ hB y F)) hL hI' (by omega)
    rw [bI_t (by omega)] at hX
    have hX2 := J_next (E := E) (σ := (z, m, up_ hB y F)) hL hI' hkl
    dsimp only at hX2
    obtain ⟨hB1, eB1⟩ : ∃ hB1, hB1 = up_ hB it (.inr (12, [.int (nI (k + 1)), .int (nI k), .int mc, .ref am])) := ⟨_, rfl⟩
    have eS1 : up_ (up_ hB y F) it (.inr (12, [.int (nI (k + 1)), .int (nI k), .int mc, .ref am])) = up_ hB1 y F := by
      rw [eB1, up_co (fun q => hiy q.symm)]
    rw [eS1] at hX2
    have hN1 : Nx_ E g (z, m, hB1) b bb q w N r n s ms ss := by
      rw [eB1]
      exact Nx_it hN hI hib
    have hB1y : hB1 y = none := by rw [eB1, up_n (fun q => hiy q.symm)]; exact hBy
    have hle1 : le_ hB1 (up_ hB1 y F) := le_up hB1y le_rfl
    have hI1 : It_ hB1 it (k + 1) (nI k) mc am := by rw [eB1]; exact up_s _ _ _
    obtain ⟨nm, x1, x2⟩ := hY.1.2.2.2.2.1 k _ (List.getElem?_eq_getElem hkl)
    dsimp only at x1
    have hgB1 := hN1.1.choose_spec.2.1
    have x3 := hle1 _ _ (hgB1 _ _ x1)
    have hmb := wr_mb hW hkn
    rw [fo_]
    rcases hmb.1 with c | c
    · have hput := Nx_put (r' := l0_ k r) hN1 hY (List.getElem?_eq_getElem hkl) x1 (fun j hj => by unfold l0_; exact upd_n (by omega)) (fun j hj => by unfold l0_; exact upd_n (by omega)) (l0_W hW hkn)
      dsimp only at hput
      have hxb : ms[k] < bb + 1 := Hw_lt hY.2.2.1 x1
      have e1 : l0_ k r (8 + 5 * k + 1) = r (8 + 5 * k + 1) := by unfold l0_; exact upd_n (by omega)
      have e2 : l0_ k r (8 + 5 * k + 2) = nI 0 := by unfold l0_; rw [upd_n (by omega)]; exact c
      have e3 : hgt_ (l0_ k r) k = NOH := by
        unfold hgt_ l0_
        rw [upd_s, if_neg]
        rw [c]; decide
      rw [e1, e2, e3] at hput
      obtain ⟨p1, p2⟩ := hput
      obtain ⟨g', hB', k1, k2, k3, k4⟩ := ih (k + 1) (nI k) none none none _ _ (l0_ k r) (by omega) p1 p2 (by
        unfold It_
        rw [up_n (by omega)]
        exact hI1) (by rw [up_n (by omega)]; exact hB1y)
      refine ⟨g', hB', ?_, k2, k3, k4⟩
      rw [← k1]
      conv => lhs; rw [b308_1]
      rw [c] at x3
      simp (disch := omega) only [K308_1, b308_2, K308_2, R_cons, go_nx, go_jp, go_rt, go_th, go_ca, go_no, go_ite, rr_v, rr_n, rr_x, hx_n, hx_p, hx_b, I_push, I_pushl, I_fc0, I_fc1, I_dc0, I_null, I_mask, I_iload, I_lload, I_dload, I_fload, I_aload, I_istore, I_lstore, I_dstore, I_fstore, I_astore, I_iinc, I_iadd, I_isub, I_imul, I_iand, I_ior, I_ixor, I_ishl, I_ishr, I_iushr, I_ineg, I_ladd, I_lsub, I_lmul, I_lxor, I_i2l, I_l2i, I_i2b, I_i2c, I_i2f, I_i2d, I_lcmp, I_fdiv, I_ddiv, I_f2d, I_dcmp, I_dup, I_pop, I_dup_x1, I_dup2, I_icne, I_iceq, I_iclt, I_icge, I_icgt, I_icle, I_ifnull, I_ifnonnull, I_ane, I_aeq, I_goto, I_lsw, I_iret, I_lret, I_fret, I_dret, I_vret, I_nret, I_aret, I_iald, I_bald, I_lald, I_aald, I_iast, I_bast, I_last, I_aast, I_alen, I_new, I_val, I_cast, I_inst, I_obj, I_throw, I_mkx, I_getf, I_putf, I_call, I_calli, I_callv, I_clone, I_getc, i_ifeq, i_ifne, i_iflt, i_ifge, i_ifgt, i_ifle, i_idiv, i_irem, i_newa, i_newo, i_abs, i_max, i_min, i_ldiv, en_, es_i, es_r, es_0, es_n, es_l, List.length_cons, List.length_nil, List.cons_append, List.nil_append, Nat.reduceAdd, Nat.reduceSub, List.replicate, lg_, st1_, st2_, cn_, nl_, mk_, pk_, kd_, sl_, la_, ft_a, ft_i, ft_l, ft_o, ft_n, ft_b0, ft_b1, ft_bI, nr_0, nr_1, nr_bI, ro_, no_, if_true, if_false, ite_true, ite_false, reduceIte, Nat.reduceMod, Nat.reduceEqDiff, Nat.zero_add, Nat.add_zero, lk_, lit_, nI_add, nI_mul, ix_nI, fgk_0, fgk_1, fgk_2, fgk_3, fgk_4, fgk_5, fgk_6, fgk_7, fgk_8, fgk_9, fgk_10, fgk_11, fgk_12, fgk_13, fsk_0, fsk_1, fsk_2, fsk_3, fsk_4, fsk_5, fsk_6, fsk_7, fsk_8, fsk_9, fsk_10, fsk_11, fsk_12, fsk_13, ca_i, ca_r, ca_n, Nat.reduceLT, true_or, or_true, if_true, false_or, or_false, and_true, true_and, List.mem_singleton, eq_self, hI', hX, n10_, hX2, x3]
      rw [up_co (h := hB1) (a := y) (c := ms[k]) (by omega)]
      all_goals rfl
    · have e1 : l0_ k r = r := by
        funext j
        unfold l0_
        by_cases cj : j = 8 + 5 * k + 3
        · rw [cj, upd_s, c, hmb.2.2 c]
        · exact upd_n cj
      obtain ⟨g', hB', k1, k2, k3, k4⟩ := ih (k + 1) (nI k) none none none g hB1 r (by omega) hN1 hY hI1 hB1y
      rw [e1]
      refine ⟨g', hB', ?_, k2, k3, k4⟩
      rw [← k1]
      conv => lhs; rw [b308_1]
      rw [c] at x3
      simp (disch := omega) only [K308_1, b308_2, K308_2, R_cons, go_nx, go_jp, go_rt, go_th, go_ca, go_no, go_ite, rr_v, rr_n, rr_x, hx_n, hx_p, hx_b, I_push, I_pushl, I_fc0, I_fc1, I_dc0, I_null, I_mask, I_iload, I_lload, I_dload, I_fload, I_aload, I_istore, I_lstore, I_dstore, I_fstore, I_astore, I_iinc, I_iadd, I_isub, I_imul, I_iand, I_ior, I_ixor, I_ishl, I_ishr, I_iushr, I_ineg, I_ladd, I_lsub, I_lmul, I_lxor, I_i2l, I_l2i, I_i2b, I_i2c, I_i2f, I_i2d, I_lcmp, I_fdiv, I_ddiv, I_f2d, I_dcmp, I_dup, I_pop, I_dup_x1, I_dup2, I_icne, I_iceq, I_iclt, I_icge, I_icgt, I_icle, I_ifnull, I_ifnonnull, I_ane, I_aeq, I_goto, I_lsw, I_iret, I_lret, I_fret, I_dret, I_vret, I_nret, I_aret, I_iald, I_bald, I_lald, I_aald, I_iast, I_bast, I_last, I_aast, I_alen, I_new, I_val, I_cast, I_inst, I_obj, I_throw, I_mkx, I_getf, I_putf, I_call, I_calli, I_callv, I_clone, I_getc, i_ifeq, i_ifne, i_iflt, i_ifge, i_ifgt, i_ifle, i_idiv, i_irem, i_newa, i_newo, i_abs, i_max, i_min, i_ldiv, en_, es_i, es_r, es_0, es_n, es_l, List.length_cons, List.length_nil, List.cons_append, List.nil_append, Nat.reduceAdd, Nat.reduceSub, List.replicate, lg_, st1_, st2_, cn_, nl_, mk_, pk_, kd_, sl_, la_, ft_a, ft_i, ft_l, ft_o, ft_n, ft_b0, ft_b1, ft_bI, nr_0, nr_1, nr_bI, ro_, no_, if_true, if_false, ite_true, ite_false, reduceIte, Nat.reduceMod, Nat.reduceEqDiff, Nat.zero_add, Nat.add_zero, lk_, lit_, nI_add, nI_mul, ix_nI, fgk_0, fgk_1, fgk_2, fgk_3, fgk_4, fgk_5, fgk_6, fgk_7, fgk_8, fgk_9, fgk_10, fgk_11, fgk_12, fgk_13, fsk_0, fsk_1, fsk_2, fsk_3, fsk_4, fsk_5, fsk_6, fsk_7, fsk_8, fsk_9, fsk_10, fsk_11, fsk_12, fsk_13, ca_i, ca_r, ca_n, Nat.reduceLT, true_or, or_true, if_true, false_or, or_false, and_true, true_and, List.mem_singleton, eq_self, hI', hX, n10_, hX2, x3]
end CLB
