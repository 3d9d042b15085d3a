section SCV
variable {E : En_} {σ : As_} {p w n s b bb q : Nat} {r : Nat → Int32} {ms ss : List Nat} {fs gs : List Value} {h0 : Nat → Option Ac_} {N : Nat → Nat → Int32}
/-- how often a mark is met in a list, from an entry on -/
def occ_ (f : Nat → Int32) (a : Int32) : Nat → Nat → Nat → Nat
  | 0, _, c => c
  | d + 1, i, c => occ_ f a d (i + 1) (if f i = a then c + 1 else c)
theorem occ_no {f : Nat → Int32} {a : Int32} : ∀ (d i c : Nat), (∀ j, i ≤ j → j < i + d → f j ≠ a) → occ_ f a d i c = c := by
  intro d
  induction d with
  | zero => intro i c _; rfl
  | succ d ih =>
    intro i c h
    rw [occ_, if_neg (h i (Nat.le_refl _) (by omega))]
    exact ih (i + 1) c (fun j h1 h2 => h j (by omega) (by omega))
theorem occ_one {f : Nat → Int32} {a : Int32} : ∀ (d i c k : Nat), i ≤ k → k < i + d → f k = a → (∀ j, i ≤ j → j < i + d → f j = a → j = k) → occ_ f a d i c = c + 1 := by
  intro d
  induction d with
  | zero => intro i c k h1 h2; omega
  | succ d ih =>
    intro i c k h1 h2 h3 h4
    rw [occ_]
    by_cases e : f i = a
    · obtain rfl := h4 i (Nat.le_refl _) (by omega) e
      rw [if_pos e]
      exact occ_no d (i + 1) (c + 1) (fun j h5 h6 q => absurd (h4 j (by omega) (by omega) q) (by omega))
    · rw [if_neg e]
      exact ih (i + 1) c k (by
        rcases Nat.lt_or_ge i k with q | q
        · omega
        · obtain rfl : i = k := by omega
          exact absurd h3 e) (by omega) h3 (fun j h5 h6 => h4 j (by omega) (by omega))
/-- the marks of a loop, each once -/
theorem occ_lp {f : Nat → Int32} {l k0 : List Nat} {c a x0 : Nat} (hd : l.Nodup) (h0 : 0 < l.length) (hlast : l.getLast? = some x0) (hz : ∀ z ∈ l, z < 12) (ha : a < 12) (hf : ∀ j z, (x0 :: l)[j]? = some z → f (j % l.length) = nI z) : occ_ f (nI a) l.length 0 c = if a ∈ l then c + 1 else c := by
  have hx0 : x0 ∈ l := List.mem_of_getLast? hlast
  have hl0 : l[l.length - 1]? = some x0 := by rw [← List.getLast?_eq_getElem?]; exact hlast
  have f0 : f 0 = nI x0 := by
    have := hf 0 _ rfl
    rwa [Nat.zero_mod] at this
  have fj : ∀ j (hj : j < l.length), j + 1 < l.length → f (j + 1) = nI l[j] := fun j hj hj1 => by
    have := hf (j + 1) l[j] (by rw [List.getElem?_cons_succ]; exact List.getElem?_eq_getElem hj)
    rwa [Nat.mod_eq_of_lt hj1] at this
  have hidx : ∀ j (hj : j < l.length) i (hi : i < l.length), l[j] = l[i] → j = i := fun j hj i hi e => by
    rcases Nat.lt_trichotomy j i with q | q | q
    · exact absurd e (List.pairwise_iff_getElem.1 hd j i hj hi q)
    · exact q
    · exact absurd e.symm (List.pairwise_iff_getElem.1 hd i j hi hj q)
  have ex0 : l[l.length - 1]'(by omega) = x0 := by
    have := List.getElem?_eq_getElem (show l.length - 1 < l.length by omega)
    rw [hl0] at this
    exact (Option.some.inj this).symm
  by_cases e : a ∈ l
  · rw [if_pos e]
    obtain ⟨j, hj, ej⟩ := List.getElem_of_mem e
    by_cases e0 : a = x0
    · subst e0
      refine occ_one _ 0 c 0 (Nat.le_refl _) (by omega) f0 (fun i _ hi q => ?_)
      cases i with
      | zero => rfl
      | succ i =>
        exfalso
        rw [fj i (by omega) (by omega)] at q
        have h1 := hz _ (List.getElem_mem (show i < l.length by omega))
        have h2 : l[i] = a := (nI_eq (by omega) (by omega)).1 q
        have := hidx i (by omega) (l.length - 1) (by omega) (by rw [h2, ex0])
        omega
    · have hj1 : j + 1 < l.length := by
        rcases Nat.lt_or_ge (j + 1) l.length with q | q
        · exact q
        · obtain rfl : j = l.length - 1 := by omega
          exact absurd (ej.symm.trans ex0) e0
      refine occ_one _ 0 c (j + 1) (Nat.zero_le _) (by omega) (by rw [fj j hj hj1, ej]) (fun i _ hi q => ?_)
      cases i with
      | zero =>
        exfalso
        rw [f0] at q
        have h1 := hz _ hx0
        exact e0 ((nI_eq (by omega) (by omega)).1 q).symm
      | succ i =>
        rw [fj i (by omega) (by omega)] at q
        have h1 := hz _ (List.getElem_mem (show i < l.length by omega))
        have h2 : l[i] = a := (nI_eq (by omega) (by omega)).1 q
        have := hidx i (by omega) j hj (by rw [h2, ej])
        omega
  · rw [if_neg e]
    refine occ_no _ 0 c (fun i _ hi q => ?_)
    cases i with
    | zero =>
      rw [f0] at q
      have h1 := hz _ hx0
      exact e ((nI_eq (by omega) (by omega)).1 q ▸ hx0)
    | succ i =>
      rw [fj i (by omega) (by omega)] at q
      have h3 := List.getElem_mem (show i < l.length by omega)
      have h1 := hz _ h3
      exact e ((nI_eq (by omega) (by omega)).1 q ▸ h3)
theorem lo1_lp {x a L it : Nat} {f : Nat → Int32} (hx : σ.2.2 x = some (tI_ 0 L f)) (hL : L ≤ 12) : ∀ (d i c : Nat) (u0 u4 u8 : Option Value), i + d = L →
    R_ E 382 (B_ E 382 2) [u0, some (.int (nI a)), some (.int (nI c)), some (.ref it), u4, some (.ref x), some (.int (nI L)), some (.int (nI i)), u8] [] σ = R_ E 382 (B_ E 382 1) [none, some (.int (nI a)), some (.int (nI (occ_ f (nI a) d i c))), some (.ref it), none, none, none, none, none] [] σ := by
  have hb1 := S_bit (E := E) (σ := σ) (x := nI 1) (Or.inr rfl)
  have hb0 := S_bit (E := E) (σ := σ) (x := nI 0) (Or.inl rfl)
  intro d
  induction d with
  | zero =>
    intro i c u0 u4 u8 hi
    have c1 : nI L ≤ nI i := (nI_leI (by omega) (by omega)).2 (by omega)
    conv => lhs; rw [b382_2]
    simp (disch := omega) only [K382_2, b382_5, K382_5, R_cons, go_nx, go_jp, go_rt, go_th, go_ca, go_no, go_ite, rr_v, rr_n, rr_x, hx_n, hx_p, hx_b, I_push, I_pushl, I_fc0, I_fc1, I_dc0, I_null, I_mask, I_iload, I_lload, I_dload, I_fload, I_aload, I_istore, I_lstore, I_dstore, I_fstore, I_astore, I_iinc, I_iadd, I_isub, I_imul, I_iand, I_ior, I_ixor, I_ishl, I_ishr, I_iushr, I_ineg, I_ladd, I_lsub, I_lmul, I_lxor, I_i2l, I_l2i, I_i2b, I_i2c, I_i2f, I_i2d, I_lcmp, I_fdiv, I_ddiv, I_f2d, I_dcmp, I_dup, I_pop, I_dup_x1, I_dup2, I_icne, I_iceq, I_iclt, I_icge, I_icgt, I_icle, I_ifnull, I_ifnonnull, I_ane, I_aeq, I_goto, I_lsw, I_iret, I_lret, I_fret, I_dret, I_vret, I_nret, I_aret, I_iald, I_bald, I_lald, I_aald, I_iast, I_bast, I_last, I_aast, I_alen, I_new, I_val, I_cast, I_inst, I_obj, I_throw, I_mkx, I_getf, I_putf, I_call, I_calli, I_callv, I_clone, I_getc, i_ifeq, i_ifne, i_iflt, i_ifge, i_ifgt, i_ifle, i_idiv, i_irem, i_newa, i_newo, i_abs, i_max, i_min, i_ldiv, en_, es_i, es_r, es_0, es_n, es_l, List.length_cons, List.length_nil, List.cons_append, List.nil_append, Nat.reduceAdd, Nat.reduceSub, List.replicate, lg_, st1_, st2_, cn_, nl_, mk_, pk_, kd_, sl_, la_, ft_a, ft_i, ft_l, ft_o, ft_n, ft_b0, ft_b1, ft_bI, nr_0, nr_1, nr_bI, ro_, no_, if_true, if_false, ite_true, ite_false, reduceIte, Nat.reduceMod, Nat.reduceEqDiff, Nat.zero_add, Nat.add_zero, lk_, lit_, nI_add, nI_mul, ix_nI, fgk_0, fgk_1, fgk_2, fgk_3, fgk_4, fgk_5, fgk_6, fgk_7, fgk_8, fgk_9, fgk_10, fgk_11, fgk_12, fgk_13, fsk_0, fsk_1, fsk_2, fsk_3, fsk_4, fsk_5, fsk_6, fsk_7, fsk_8, fsk_9, fsk_10, fsk_11, fsk_12, fsk_13, ca_i, ca_r, ca_n, Nat.reduceLT, true_or, or_true, if_true, false_or, or_false, and_true, true_and, List.mem_singleton, eq_self, c1, occ_]
  | succ d ih =>
    intro i c u0 u4 u8 hi
    have c1 : ¬ nI L ≤ nI i := fun q => absurd ((nI_leI (by omega) (by omega)).1 q) (by omega)
    rw [occ_]
    by_cases e : f i = nI a
    · rw [if_pos e, ← ih (i + 1) (c + 1) none none none (by omega)]
      conv => lhs; rw [b382_2]
      simp (disch := omega) only [K382_2, b382_3, K382_3, b382_4, K382_4, R_cons, go_nx, go_jp, go_rt, go_th, go_ca, go_no, go_ite, rr_v, rr_n, rr_x, hx_n, hx_p, hx_b, I_push, I_pushl, I_fc0, I_fc1, I_dc0, I_null, I_mask, I_iload, I_lload, I_dload, I_fload, I_aload, I_istore, I_lstore, I_dstore, I_fstore, I_astore, I_iinc, I_iadd, I_isub, I_imul, I_iand, I_ior, I_ixor, I_ishl, I_ishr, I_iushr, I_ineg, I_ladd, I_lsub, I_lmul, I_lxor, I_i2l, I_l2i, I_i2b, I_i2c, I_i2f, I_i2d, I_lcmp, I_fdiv, I_ddiv, I_f2d, I_dcmp, I_dup, I_pop, I_dup_x1, I_dup2, I_icne, I_iceq, I_iclt, I_icge, I_icgt, I_icle, I_ifnull, I_ifnonnull, I_ane, I_aeq, I_goto, I_lsw, I_iret, I_lret, I_fret, I_dret, I_vret, I_nret, I_aret, I_iald, I_bald, I_lald, I_aald, I_iast, I_bast, I_last, I_aast, I_alen, I_new, I_val, I_cast, I_inst, I_obj, I_throw, I_mkx, I_getf, I_putf, I_call, I_calli, I_callv, I_clone, I_getc, i_ifeq, i_ifne, i_iflt, i_ifge, i_ifgt, i_ifle, i_idiv, i_irem, i_newa, i_newo, i_abs, i_max, i_min, i_ldiv, en_, es_i, es_r, es_0, es_n, es_l, List.length_cons, List.length_nil, List.cons_append, List.nil_append, Nat.reduceAdd, Nat.reduceSub, List.replicate, lg_, st1_, st2_, cn_, nl_, mk_, pk_, kd_, sl_, la_, ft_a, ft_i, ft_l, ft_o, ft_n, ft_b0, ft_b1, ft_bI, nr_0, nr_1, nr_bI, ro_, no_, if_true, if_false, ite_true, ite_false, reduceIte, Nat.reduceMod, Nat.reduceEqDiff, Nat.zero_add, Nat.add_zero, lk_, lit_, nI_add, nI_mul, ix_nI, fgk_0, fgk_1, fgk_2, fgk_3, fgk_4, fgk_5, fgk_6, fgk_7, fgk_8, fgk_9, fgk_10, fgk_11, fgk_12, fgk_13, fsk_0, fsk_1, fsk_2, fsk_3, fsk_4, fsk_5, fsk_6, fsk_7, fsk_8, fsk_9, fsk_10, fsk_11, fsk_12, fsk_13, ca_i, ca_r, ca_n, Nat.reduceLT, true_or, or_true, if_true, false_or, or_false, and_true, true_and, List.mem_singleton, eq_self, c1, hx, ix_nI, e, hb1, nI_1]
    · rw [if_neg e, ← ih (i + 1) c none none none (by omega)]
      conv => lhs; rw [b382_2]
      simp (disch := omega) only [K382_2, b382_3, K382_3, b382_4, K382_4, R_cons, go_nx, go_jp, go_rt, go_th, go_ca, go_no, go_ite, rr_v, rr_n, rr_x, hx_n, hx_p, hx_b, I_push, I_pushl, I_fc0, I_fc1, I_dc0, I_null, I_mask, I_iload, I_lload, I_dload, I_fload, I_aload, I_istore, I_lstore, I_dstore, I_fstore, I_astore, I_iinc, I_iadd, I_isub, I_imul, I_iand, I_ior, I_ixor, I_ishl, I_ishr, I_iushr, I_ineg, I_ladd, I_lsub, I_lmul, I_lxor, I_i2l, I_l2i, I_i2b, I_i2c, I_i2f, I_i2d, I_lcmp, I_fdiv, I_ddiv, I_f2d, I_dcmp, I_dup, I_pop, I_dup_x1, I_dup2, I_icne, I_iceq, I_iclt, I_icge, I_icgt, I_icle, I_ifnull, I_ifnonnull, I_ane, I_aeq, I_goto, I_lsw, I_iret, I_lret, I_fret, I_dret, I_vret, I_nret, I_aret, I_iald, I_bald, I_lald, I_aald, I_iast, I_bast, I_last, I_aast, I_alen, I_new, I_val, I_cast, I_inst, I_obj, I_throw, I_mkx, I_getf, I_putf, I_call, I_calli, I_callv, I_clone, I_getc, i_ifeq, i_ifne, i_iflt, i_ifge, i_ifgt, i_ifle, i_idiv, i_irem, i_newa, i_newo, i_abs, i_max, i_min, i_ldiv, en_, es_i, es_r, es_0, es_n, es_l, List.length_cons, List.length_nil, List.cons_append, List.nil_append, Nat.reduceAdd, Nat.reduceSub, List.replicate, lg_, st1_, st2_, cn_, nl_, mk_, pk_, kd_, sl_, la_, ft_a, ft_i, ft_l, ft_o, ft_n, ft_b0, ft_b1, ft_bI, nr_0, nr_1, nr_bI, ro_, no_, if_true, if_false, ite_true, ite_false, reduceIte, Nat.reduceMod, Nat.reduceEqDiff, Nat.zero_add, Nat.add_zero, lk_, lit_, nI_add, nI_mul, ix_nI, fgk_0, fgk_1, fgk_2, fgk_3, fgk_4, fgk_5, fgk_6, fgk_7, fgk_8, fgk_9, fgk_10, fgk_11, fgk_12, fgk_13, fsk_0, fsk_1, fsk_2, fsk_3, fsk_4, fsk_5, fsk_6, fsk_7, fsk_8, fsk_9, fsk_10, fsk_11, fsk_12, fsk_13, ca_i, ca_r, ca_n, Nat.reduceLT, true_or, or_true, if_true, false_or, or_false, and_true, true_and, List.mem_singleton, eq_self, c1, hx, ix_nI, e, hb0, nI_1, Nat.add_zero]
theorem lo2_lp {a : Nat} {mc : Int32} {e : Nat} {xs : List Nat} (hN : Nx_ E h0 σ b bb q w N r n s ms ss) (ha : a < n) (hw : Hw_ σ) (hL : Ls_ E σ.2.2 (bb + 7) mc e xs) (hx : xs.length = (lps_ r n s).length) (hxs : ∀ i x, xs[i]? = some x → LpO_ (q + 2) σ.2.2 x (lpe_ r n s i / 12) (lpw_ r n s i) (mis_ r n s i) (wal_ r n s i)) : ∀ (d k c : Nat) (lr : Int32) (u0 u4 u5 u6 u7 u8 : Option Value), k + d = (lps_ r n s).length →
    ∃ c', R_ E 382 (B_ E 382 1) [u0, some (.int (nI a)), some (.int (nI c)), some (.ref σ.1), u4, u5, u6, u7, u8] [] (its_ σ (nI k) lr mc (bb + 7)) = some (.inl (some (.int (nI (cnt_ (fun i => decide (a ∈ lpw_ r n s i)) d k c)))), (σ.1 + 1, σ.2.1 + 4, up_ σ.2.2 σ.1 c')) := by
  have hW := hN.2.2.2.2.2.2.1
  have h12 := wr_n12 hW
  have hle := lps_le (r := r) (s := s) h12
  intro d
  induction d with
  | zero =>
    intro k c lr u0 u4 u5 u6 u7 u8 hk
    have hL' := Ls_mono (its_le (k := nI k) (lr := lr) (mc := mc) (a := bb + 7) hw) hL
    have hn := J_hasNext (E := E) (it := σ.1) (k := k) (lr := lr) (m := mc) hL' (up_s _ _ _) (by omega)
    rw [bI_f (by omega)] at hn
    refine ⟨.inr (12, [.int (nI k), .int lr, .int mc, .ref (bb + 7)]), ?_⟩
    rw [b382_1]
    simp (disch := omega) only [K382_1, b382_6, K382_6, R_cons, go_nx, go_jp, go_rt, go_th, go_ca, go_no, go_ite, rr_v, rr_n, rr_x, hx_n, hx_p, hx_b, I_push, I_pushl, I_fc0, I_fc1, I_dc0, I_null, I_mask, I_iload, I_lload, I_dload, I_fload, I_aload, I_istore, I_lstore, I_dstore, I_fstore, I_astore, I_iinc, I_iadd, I_isub, I_imul, I_iand, I_ior, I_ixor, I_ishl, I_ishr, I_iushr, I_ineg, I_ladd, I_lsub, I_lmul, I_lxor, I_i2l, I_l2i, I_i2b, I_i2c, I_i2f, I_i2d, I_lcmp, I_fdiv, I_ddiv, I_f2d, I_dcmp, I_dup, I_pop, I_dup_x1, I_dup2, I_icne, I_iceq, I_iclt, I_icge, I_icgt, I_icle, I_ifnull, I_ifnonnull, I_ane, I_aeq, I_goto, I_lsw, I_iret, I_lret, I_fret, I_dret, I_vret, I_nret, I_aret, I_iald, I_bald, I_lald, I_aald, I_iast, I_bast, I_last, I_aast, I_alen, I_new, I_val, I_cast, I_inst, I_obj, I_throw, I_mkx, I_getf, I_putf, I_call, I_calli, I_callv, I_clone, I_getc, i_ifeq, i_ifne, i_iflt, i_ifge, i_ifgt, i_ifle, i_idiv, i_irem, i_newa, i_newo, i_abs, i_max, i_min, i_ldiv, en_, es_i, es_r, es_0, es_n, es_l, List.length_cons, List.length_nil, List.cons_append, List.nil_append, Nat.reduceAdd, Nat.reduceSub, List.replicate, lg_, st1_, st2_, cn_, nl_, mk_, pk_, kd_, sl_, la_, ft_a, ft_i, ft_l, ft_o, ft_n, ft_b0, ft_b1, ft_bI, nr_0, nr_1, nr_bI, ro_, no_, if_true, if_false, ite_true, ite_false, reduceIte, Nat.reduceMod, Nat.reduceEqDiff, Nat.zero_add, Nat.add_zero, lk_, lit_, nI_add, nI_mul, ix_nI, fgk_0, fgk_1, fgk_2, fgk_3, fgk_4, fgk_5, fgk_6, fgk_7, fgk_8, fgk_9, fgk_10, fgk_11, fgk_12, fgk_13, fsk_0, fsk_1, fsk_2, fsk_3, fsk_4, fsk_5, fsk_6, fsk_7, fsk_8, fsk_9, fsk_10, fsk_11, fsk_12, fsk_13, ca_i, ca_r, ca_n, Nat.reduceLT, true_or, or_true, if_true, false_or, or_false, and_true, true_and, List.mem_singleton, eq_self, up_s, hn]
    all_goals rfl
  | succ d ih =>
    intro k c lr u0 u4 u5 u6 u7 u8 hk
    have hL' := Ls_mono (its_le (k := nI k) (lr := lr) (mc := mc) (a := bb + 7) hw) hL
    have hn := J_hasNext (E := E) (it := σ.1) (k := k) (lr := lr) (m := mc) hL' (up_s _ _ _) (by omega)
    rw [bI_t (by omega)] at hn
    have hX := J_next (E := E) (it := σ.1) (k := k) (lr := lr) hL' (up_s _ _ _) (by omega)
    dsimp only at hX
    rw [up_up] at hX
    have hkl : k < xs.length := by omega
    have hk2 : k < (lps_ r n s).length := by omega
    obtain ⟨q1, q2, q3, ⟨q4, q5, q6⟩, q7, q8, q9, _⟩ := lpw_spec hW hk2
    obtain ⟨y, f, m1, m2, m3, _⟩ := LpO_mono (its_le (k := nI (k + 1)) (lr := nI k) (mc := mc) (a := bb + 7) hw) (hxs k _ (List.getElem?_eq_getElem hkl))
    dsimp only at m1 m2
    have hnd := wk_lt (kr_all (r := r) (s := s) h12).2.1 _ q4 (fun z hz => by have := q7 z hz; omega)
    have ho := occ_lp (f := f) (c := c) (a := a) (k0 := []) hnd q8 q6 (fun z hz => by have := q7 z hz; omega) (by omega) m3
    obtain ⟨c', g⟩ := ih (k + 1) (if decide (a ∈ lpw_ r n s k) = true then c + 1 else c) (nI k) none none none none none none (by omega)
    refine ⟨c', ?_⟩
    have hi := lo1_lp (E := E) (a := a) (it := σ.1) (σ := its_ σ (nI (k + 1)) (nI k) mc (bb + 7)) m2 q9 (lpw_ r n s k).length 0 c none (some (.ref xs[k])) none (by omega)
    rw [ho] at hi
    have e : cnt_ (fun i => decide (a ∈ lpw_ r n s i)) (d + 1) k c = cnt_ (fun i => decide (a ∈ lpw_ r n s i)) d (k + 1) (if decide (a ∈ lpw_ r n s k) = true then c + 1 else c) := rfl
    simp only [decide_eq_true_eq] at g e
    rw [e, ← g, ← hi]
    conv => lhs; rw [b382_1]
    simp (disch := omega) only [K382_1, R_cons, go_nx, go_jp, go_rt, go_th, go_ca, go_no, go_ite, rr_v, rr_n, rr_x, hx_n, hx_p, hx_b, I_push, I_pushl, I_fc0, I_fc1, I_dc0, I_null, I_mask, I_iload, I_lload, I_dload, I_fload, I_aload, I_istore, I_lstore, I_dstore, I_fstore, I_astore, I_iinc, I_iadd, I_isub, I_imul, I_iand, I_ior, I_ixor, I_ishl, I_ishr, I_iushr, I_ineg, I_ladd, I_lsub, I_lmul, I_lxor, I_i2l, I_l2i, I_i2b, I_i2c, I_i2f, I_i2d, I_lcmp, I_fdiv, I_ddiv, I_f2d, I_dcmp, I_dup, I_pop, I_dup_x1, I_dup2, I_icne, I_iceq, I_iclt, I_icge, I_icgt, I_icle, I_ifnull, I_ifnonnull, I_ane, I_aeq, I_goto, I_lsw, I_iret, I_lret, I_fret, I_dret, I_vret, I_nret, I_aret, I_iald, I_bald, I_lald, I_aald, I_iast, I_bast, I_last, I_aast, I_alen, I_new, I_val, I_cast, I_inst, I_obj, I_throw, I_mkx, I_getf, I_putf, I_call, I_calli, I_callv, I_clone, I_getc, i_ifeq, i_ifne, i_iflt, i_ifge, i_ifgt, i_ifle, i_idiv, i_irem, i_newa, i_newo, i_abs, i_max, i_min, i_ldiv, en_, es_i, es_r, es_0, es_n, es_l, List.length_cons, List.length_nil, List.cons_append, List.nil_append, Nat.reduceAdd, Nat.reduceSub, List.replicate, lg_, st1_, st2_, cn_, nl_, mk_, pk_, kd_, sl_, la_, ft_a, ft_i, ft_l, ft_o, ft_n, ft_b0, ft_b1, ft_bI, nr_0, nr_1, nr_bI, ro_, no_, if_true, if_false, ite_true, ite_false, reduceIte, Nat.reduceMod, Nat.reduceEqDiff, Nat.zero_add, Nat.add_zero, lk_, lit_, nI_add, nI_mul, ix_nI, fgk_0, fgk_1, fgk_2, fgk_3, fgk_4, fgk_5, fgk_6, fgk_7, fgk_8, fgk_9, fgk_10, fgk_11, fgk_12, fgk_13, fsk_0, fsk_1, fsk_2, fsk_3, fsk_4, fsk_5, fsk_6, fsk_7, fsk_8, fsk_9, fsk_10, fsk_11, fsk_12, fsk_13, ca_i, ca_r, ca_n, Nat.reduceLT, true_or, or_true, if_true, false_or, or_false, and_true, true_and, List.mem_singleton, eq_self, up_s, hn, n10_, hX, m1, m2]
theorem S_loopsOf {x : Int32} (h : Sq_ E σ p w fs r n s ms ss) : ∃ σ' a, D_ E 382 [.ref p, .int x] σ = some (an1_ (inN_ x n) (.int (lofq_ r n s x.toNatClampNeg)) a, σ') ∧ Fr_ 5500 σ σ' := by
  have hp := h.1
  have hW := Sq_W h
  have h12 := wr_n12 hW
  unfold an1_
  by_cases c : inN_ x n
  · have k0 := S_ckM1 h c
    obtain ⟨a, ha, rfl⟩ := inN_nI c
    obtain ⟨σ1, b, bb, q, N, g1, g2, g3, g4, gs, g5⟩ := S_netq h
    have hb := NX_7 g2
    obtain ⟨mc, e, xs, l1, _, l2, l3⟩ := id g2.2.2.1
    obtain ⟨cap, f, tt, l4, _⟩ := id l1
    obtain ⟨c', g⟩ := lo2_lp (E := E) g2 ha (Sq_hw g4) l1 l2 (fun i x hx => (l3 i x hx).2) (lps_ r n s).length 0 0 (-nI 1) (some (.ref p)) none none none none none (by omega)
    have hI := J_iter (E := E) l1 (Sq_hw g4)
    refine ⟨_, 0, ?_, Fr_le (Fr_trans g3 (Fr_new (k := 4) (c := c') (Sq_hw g4))) (by decide)⟩
    rw [if_pos c, nI_clamp (by omega)]
    unfold lofq_
    rw [← g, D_run]
    simp (disch := omega) only [b382_0, K382_0, l382, R_cons, go_nx, go_jp, go_rt, go_th, go_ca, go_no, go_ite, rr_v, rr_n, rr_x, hx_n, hx_p, hx_b, I_push, I_pushl, I_fc0, I_fc1, I_dc0, I_null, I_mask, I_iload, I_lload, I_dload, I_fload, I_aload, I_istore, I_lstore, I_dstore, I_fstore, I_astore, I_iinc, I_iadd, I_isub, I_imul, I_iand, I_ior, I_ixor, I_ishl, I_ishr, I_iushr, I_ineg, I_ladd, I_lsub, I_lmul, I_lxor, I_i2l, I_l2i, I_i2b, I_i2c, I_i2f, I_i2d, I_lcmp, I_fdiv, I_ddiv, I_f2d, I_dcmp, I_dup, I_pop, I_dup_x1, I_dup2, I_icne, I_iceq, I_iclt, I_icge, I_icgt, I_icle, I_ifnull, I_ifnonnull, I_ane, I_aeq, I_goto, I_lsw, I_iret, I_lret, I_fret, I_dret, I_vret, I_nret, I_aret, I_iald, I_bald, I_lald, I_aald, I_iast, I_bast, I_last, I_aast, I_alen, I_new, I_val, I_cast, I_inst, I_obj, I_throw, I_mkx, I_getf, I_putf, I_call, I_calli, I_callv, I_clone, I_getc, i_ifeq, i_ifne, i_iflt, i_ifge, i_ifgt, i_ifle, i_idiv, i_irem, i_newa, i_newo, i_abs, i_max, i_min, i_ldiv, en_, es_i, es_r, es_0, es_n, es_l, List.length_cons, List.length_nil, List.cons_append, List.nil_append, Nat.reduceAdd, Nat.reduceSub, List.replicate, lg_, st1_, st2_, cn_, nl_, mk_, pk_, kd_, sl_, la_, ft_a, ft_i, ft_l, ft_o, ft_n, ft_b0, ft_b1, ft_bI, nr_0, nr_1, nr_bI, ro_, no_, if_true, if_false, ite_true, ite_false, reduceIte, Nat.reduceMod, Nat.reduceEqDiff, Nat.zero_add, Nat.add_zero, lk_, lit_, nI_add, nI_mul, ix_nI, fgk_0, fgk_1, fgk_2, fgk_3, fgk_4, fgk_5, fgk_6, fgk_7, fgk_8, fgk_9, fgk_10, fgk_11, fgk_12, fgk_13, fsk_0, fsk_1, fsk_2, fsk_3, fsk_4, fsk_5, fsk_6, fsk_7, fsk_8, fsk_9, fsk_10, fsk_11, fsk_12, fsk_13, ca_i, ca_r, ca_n, Nat.reduceLT, true_or, or_true, if_true, false_or, or_false, and_true, true_and, List.mem_singleton, eq_self, hp, k0, g1, hb, fg_nf6, l4, hI]
  · refine ⟨thr_ σ 19, σ.1, ?_, Fr_le (Fr_thr (Sq_hw h)) (by decide)⟩
    have k1 := S_ckM0 h c
    rw [if_neg c, D_run]
    simp (disch := omega) only [b382_0, K382_0, l382, R_cons, go_nx, go_jp, go_rt, go_th, go_ca, go_no, go_ite, rr_v, rr_n, rr_x, hx_n, hx_p, hx_b, I_push, I_pushl, I_fc0, I_fc1, I_dc0, I_null, I_mask, I_iload, I_lload, I_dload, I_fload, I_aload, I_istore, I_lstore, I_dstore, I_fstore, I_astore, I_iinc, I_iadd, I_isub, I_imul, I_iand, I_ior, I_ixor, I_ishl, I_ishr, I_iushr, I_ineg, I_ladd, I_lsub, I_lmul, I_lxor, I_i2l, I_l2i, I_i2b, I_i2c, I_i2f, I_i2d, I_lcmp, I_fdiv, I_ddiv, I_f2d, I_dcmp, I_dup, I_pop, I_dup_x1, I_dup2, I_icne, I_iceq, I_iclt, I_icge, I_icgt, I_icle, I_ifnull, I_ifnonnull, I_ane, I_aeq, I_goto, I_lsw, I_iret, I_lret, I_fret, I_dret, I_vret, I_nret, I_aret, I_iald, I_bald, I_lald, I_aald, I_iast, I_bast, I_last, I_aast, I_alen, I_new, I_val, I_cast, I_inst, I_obj, I_throw, I_mkx, I_getf, I_putf, I_call, I_calli, I_callv, I_clone, I_getc, i_ifeq, i_ifne, i_iflt, i_ifge, i_ifgt, i_ifle, i_idiv, i_irem, i_newa, i_newo, i_abs, i_max, i_min, i_ldiv, en_, es_i, es_r, es_0, es_n, es_l, List.length_cons, List.length_nil, List.cons_append, List.nil_append, Nat.reduceAdd, Nat.reduceSub, List.replicate, lg_, st1_, st2_, cn_, nl_, mk_, pk_, kd_, sl_, la_, ft_a, ft_i, ft_l, ft_o, ft_n, ft_b0, ft_b1, ft_bI, nr_0, nr_1, nr_bI, ro_, no_, if_true, if_false, ite_true, ite_false, reduceIte, Nat.reduceMod, Nat.reduceEqDiff, Nat.zero_add, Nat.add_zero, lk_, lit_, nI_add, nI_mul, ix_nI, fgk_0, fgk_1, fgk_2, fgk_3, fgk_4, fgk_5, fgk_6, fgk_7, fgk_8, fgk_9, fgk_10, fgk_11, fgk_12, fgk_13, fsk_0, fsk_1, fsk_2, fsk_3, fsk_4, fsk_5, fsk_6, fsk_7, fsk_8, fsk_9, fsk_10, fsk_11, fsk_12, fsk_13, ca_i, ca_r, ca_n, Nat.reduceLT, true_or, or_true, if_true, false_or, or_false, and_true, true_and, List.mem_singleton, eq_self, hp, k1]
/-- outlier -/
theorem ou2_lp (h : Sq_ E σ p w fs r n s ms ss) (hN : Nx_ E h0 σ b bb q w N r n s ms ss) : ∀ (d k : Nat) (x : Int32 × Int32) (u5 : Option Value), k + d = s →
    R_ E 346 (B_ E 346 1) [some (.ref p), some (.ref b), some (.int x.1), some (.int x.2), some (.int (nI k)), u5] [] σ = some (.inl (some (.int (fo_ (ou1_ r (err_ r n s) s) d k x).1)), σ) := by
  have hp := h.1
  have hW := Sq_W h
  have h40 := wr_s40 hW
  have hb := NX_7 hN
  obtain ⟨lc, hV⟩ := hN.1
  obtain ⟨_, c1, _⟩ := hV.1
  obtain ⟨am, as, st, fm, fa, g, z1, z2, z3, z4, z5, z6, _, _, _, _, zm, zs⟩ := Sq_w h
  intro d
  induction d with
  | zero =>
    intro k x u5 hk
    have c : nI s ≤ nI k := (nI_leI (by omega) (by omega)).2 (by omega)
    rw [b346_1]
    simp (disch := omega) only [K346_1, b346_4, K346_4, R_cons, go_nx, go_jp, go_rt, go_th, go_ca, go_no, go_ite, rr_v, rr_n, rr_x, hx_n, hx_p, hx_b, I_push, I_pushl, I_fc0, I_fc1, I_dc0, I_null, I_mask, I_iload, I_lload, I_dload, I_fload, I_aload, I_istore, I_lstore, I_dstore, I_fstore, I_astore, I_iinc, I_iadd, I_isub, I_imul, I_iand, I_ior, I_ixor, I_ishl, I_ishr, I_iushr, I_ineg, I_ladd, I_lsub, I_lmul, I_lxor, I_i2l, I_l2i, I_i2b, I_i2c, I_i2f, I_i2d, I_lcmp, I_fdiv, I_ddiv, I_f2d, I_dcmp, I_dup, I_pop, I_dup_x1, I_dup2, I_icne, I_iceq, I_iclt, I_icge, I_icgt, I_icle, I_ifnull, I_ifnonnull, I_ane, I_aeq, I_goto, I_lsw, I_iret, I_lret, I_fret, I_dret, I_vret, I_nret, I_aret, I_iald, I_bald, I_lald, I_aald, I_iast, I_bast, I_last, I_aast, I_alen, I_new, I_val, I_cast, I_inst, I_obj, I_throw, I_mkx, I_getf, I_putf, I_call, I_calli, I_callv, I_clone, I_getc, i_ifeq, i_ifne, i_iflt, i_ifge, i_ifgt, i_ifle, i_idiv, i_irem, i_newa, i_newo, i_abs, i_max, i_min, i_ldiv, en_, es_i, es_r, es_0, es_n, es_l, List.length_cons, List.length_nil, List.cons_append, List.nil_append, Nat.reduceAdd, Nat.reduceSub, List.replicate, lg_, st1_, st2_, cn_, nl_, mk_, pk_, kd_, sl_, la_, ft_a, ft_i, ft_l, ft_o, ft_n, ft_b0, ft_b1, ft_bI, nr_0, nr_1, nr_bI, ro_, no_, if_true, if_false, ite_true, ite_false, reduceIte, Nat.reduceMod, Nat.reduceEqDiff, Nat.zero_add, Nat.add_zero, lk_, lit_, nI_add, nI_mul, ix_nI, fgk_0, fgk_1, fgk_2, fgk_3, fgk_4, fgk_5, fgk_6, fgk_7, fgk_8, fgk_9, fgk_10, fgk_11, fgk_12, fgk_13, fsk_0, fsk_1, fsk_2, fsk_3, fsk_4, fsk_5, fsk_6, fsk_7, fsk_8, fsk_9, fsk_10, fsk_11, fsk_12, fsk_13, ca_i, ca_r, ca_n, Nat.reduceLT, true_or, or_true, if_true, false_or, or_false, and_true, true_and, List.mem_singleton, eq_self, hp, z1, z3, z5, c]
    all_goals rfl
  | succ d ih =>
    intro k x u5 hk
    have hks : k < s := by omega
    have c : ¬ nI s ≤ nI k := fun q => absurd ((nI_leI (by omega) (by omega)).1 q) (by omega)
    obtain ⟨y, y1, y2⟩ := zs k hks
    have y3 := sg_ft hW hks y2
    have hkey := G_key (E := E) hW hks y2
    have hoff := N_off (E := E) hN hks y2
    have hpl : pas_ r k < 144 := pa_lt (by have := (wr_fr hW hks).2; have := wr_n12 hW; omega) (by have := (wr_to hW hks).2; have := wr_n12 hW; omega)
    have hct := hN.2.1.2.1.1 (pas_ r k) hpl
    rw [fo_]
    by_cases e0 : r (68 + 6 * k + 5) = nI 0
    · by_cases e3 : nI 3 ≤ nI (ct_ r s (pas_ r k))
      · have e3' : ¬ nI (ct_ r s (pas_ r k)) < nI 3 := by rw [Int32.lt_iff_toInt_lt]; rw [Int32.le_iff_toInt_le] at e3; omega
        by_cases e4 : x.2 < off_ r (err_ r n s) s k
        · have e4' : ¬ off_ r (err_ r n s) s k ≤ x.2 := by rw [Int32.le_iff_toInt_le]; rw [Int32.lt_iff_toInt_lt] at e4; omega
          have e1 : ou1_ r (err_ r n s) s k x = (nI k, off_ r (err_ r n s) s k) := by unfold ou1_; rw [if_pos e0, if_pos e3, if_pos e4]
          rw [e1, ← ih (k + 1) _ none (by omega)]
          conv => lhs; rw [b346_1]
          simp (disch := omega) only [K346_1, b346_2, K346_2, b346_3, K346_3, R_cons, go_nx, go_jp, go_rt, go_th, go_ca, go_no, go_ite, rr_v, rr_n, rr_x, hx_n, hx_p, hx_b, I_push, I_pushl, I_fc0, I_fc1, I_dc0, I_null, I_mask, I_iload, I_lload, I_dload, I_fload, I_aload, I_istore, I_lstore, I_dstore, I_fstore, I_astore, I_iinc, I_iadd, I_isub, I_imul, I_iand, I_ior, I_ixor, I_ishl, I_ishr, I_iushr, I_ineg, I_ladd, I_lsub, I_lmul, I_lxor, I_i2l, I_l2i, I_i2b, I_i2c, I_i2f, I_i2d, I_lcmp, I_fdiv, I_ddiv, I_f2d, I_dcmp, I_dup, I_pop, I_dup_x1, I_dup2, I_icne, I_iceq, I_iclt, I_icge, I_icgt, I_icle, I_ifnull, I_ifnonnull, I_ane, I_aeq, I_goto, I_lsw, I_iret, I_lret, I_fret, I_dret, I_vret, I_nret, I_aret, I_iald, I_bald, I_lald, I_aald, I_iast, I_bast, I_last, I_aast, I_alen, I_new, I_val, I_cast, I_inst, I_obj, I_throw, I_mkx, I_getf, I_putf, I_call, I_calli, I_callv, I_clone, I_getc, i_ifeq, i_ifne, i_iflt, i_ifge, i_ifgt, i_ifle, i_idiv, i_irem, i_newa, i_newo, i_abs, i_max, i_min, i_ldiv, en_, es_i, es_r, es_0, es_n, es_l, List.length_cons, List.length_nil, List.cons_append, List.nil_append, Nat.reduceAdd, Nat.reduceSub, List.replicate, lg_, st1_, st2_, cn_, nl_, mk_, pk_, kd_, sl_, la_, ft_a, ft_i, ft_l, ft_o, ft_n, ft_b0, ft_b1, ft_bI, nr_0, nr_1, nr_bI, ro_, no_, if_true, if_false, ite_true, ite_false, reduceIte, Nat.reduceMod, Nat.reduceEqDiff, Nat.zero_add, Nat.add_zero, lk_, lit_, nI_add, nI_mul, ix_nI, fgk_0, fgk_1, fgk_2, fgk_3, fgk_4, fgk_5, fgk_6, fgk_7, fgk_8, fgk_9, fgk_10, fgk_11, fgk_12, fgk_13, fsk_0, fsk_1, fsk_2, fsk_3, fsk_4, fsk_5, fsk_6, fsk_7, fsk_8, fsk_9, fsk_10, fsk_11, fsk_12, fsk_13, ca_i, ca_r, ca_n, Nat.reduceLT, true_or, or_true, if_true, false_or, or_false, and_true, true_and, List.mem_singleton, eq_self, hp, z1, z3, z5, c, y1, y3, e0, hb, fg_nf0, c1, hkey, ix_nI, hct, e3', hoff, e4, nI_1]
        · have e4' : off_ r (err_ r n s) s k ≤ x.2 := by rw [Int32.le_iff_toInt_le]; rw [Int32.lt_iff_toInt_lt] at e4; omega
          have e1 : ou1_ r (err_ r n s) s k x = x := by unfold ou1_; rw [if_pos e0, if_pos e3, if_neg e4]
          rw [e1, ← ih (k + 1) x none (by omega)]
          conv => lhs; rw [b346_1]
          simp (disch := omega) only [K346_1, b346_3, K346_3, R_cons, go_nx, go_jp, go_rt, go_th, go_ca, go_no, go_ite, rr_v, rr_n, rr_x, hx_n, hx_p, hx_b, I_push, I_pushl, I_fc0, I_fc1, I_dc0, I_null, I_mask, I_iload, I_lload, I_dload, I_fload, I_aload, I_istore, I_lstore, I_dstore, I_fstore, I_astore, I_iinc, I_iadd, I_isub, I_imul, I_iand, I_ior, I_ixor, I_ishl, I_ishr, I_iushr, I_ineg, I_ladd, I_lsub, I_lmul, I_lxor, I_i2l, I_l2i, I_i2b, I_i2c, I_i2f, I_i2d, I_lcmp, I_fdiv, I_ddiv, I_f2d, I_dcmp, I_dup, I_pop, I_dup_x1, I_dup2, I_icne, I_iceq, I_iclt, I_icge, I_icgt, I_icle, I_ifnull, I_ifnonnull, I_ane, I_aeq, I_goto, I_lsw, I_iret, I_lret, I_fret, I_dret, I_vret, I_nret, I_aret, I_iald, I_bald, I_lald, I_aald, I_iast, I_bast, I_last, I_aast, I_alen, I_new, I_val, I_cast, I_inst, I_obj, I_throw, I_mkx, I_getf, I_putf, I_call, I_calli, I_callv, I_clone, I_getc, i_ifeq, i_ifne, i_iflt, i_ifge, i_ifgt, i_ifle, i_idiv, i_irem, i_newa, i_newo, i_abs, i_max, i_min, i_ldiv, en_, es_i, es_r, es_0, es_n, es_l, List.length_cons, List.length_nil, List.cons_append, List.nil_append, Nat.reduceAdd, Nat.reduceSub, List.replicate, lg_, st1_, st2_, cn_, nl_, mk_, pk_, kd_, sl_, la_, ft_a, ft_i, ft_l, ft_o, ft_n, ft_b0, ft_b1, ft_bI, nr_0, nr_1, nr_bI, ro_, no_, if_true, if_false, ite_true, ite_false, reduceIte, Nat.reduceMod, Nat.reduceEqDiff, Nat.zero_add, Nat.add_zero, lk_, lit_, nI_add, nI_mul, ix_nI, fgk_0, fgk_1, fgk_2, fgk_3, fgk_4, fgk_5, fgk_6, fgk_7, fgk_8, fgk_9, fgk_10, fgk_11, fgk_12, fgk_13, fsk_0, fsk_1, fsk_2, fsk_3, fsk_4, fsk_5, fsk_6, fsk_7, fsk_8, fsk_9, fsk_10, fsk_11, fsk_12, fsk_13, ca_i, ca_r, ca_n, Nat.reduceLT, true_or, or_true, if_true, false_or, or_false, and_true, true_and, List.mem_singleton, eq_self, hp, z1, z3, z5, c, y1, y3, e0, hb, fg_nf0, c1, hkey, ix_nI, hct, e3', hoff, e4, nI_1]
      · have e3' : nI (ct_ r s (pas_ r k)) < nI 3 := by rw [Int32.lt_iff_toInt_lt]; rw [Int32.le_iff_toInt_le] at e3; omega
        have e1 : ou1_ r (err_ r n s) s k x = x := by unfold ou1_; rw [if_pos e0, if_neg e3]
        rw [e1, ← ih (k + 1) x none (by omega)]
        conv => lhs; rw [b346_1]
        simp (disch := omega) only [K346_1, b346_3, K346_3, R_cons, go_nx, go_jp, go_rt, go_th, go_ca, go_no, go_ite, rr_v, rr_n, rr_x, hx_n, hx_p, hx_b, I_push, I_pushl, I_fc0, I_fc1, I_dc0, I_null, I_mask, I_iload, I_lload, I_dload, I_fload, I_aload, I_istore, I_lstore, I_dstore, I_fstore, I_astore, I_iinc, I_iadd, I_isub, I_imul, I_iand, I_ior, I_ixor, I_ishl, I_ishr, I_iushr, I_ineg, I_ladd, I_lsub, I_lmul, I_lxor, I_i2l, I_l2i, I_i2b, I_i2c, I_i2f, I_i2d, I_lcmp, I_fdiv, I_ddiv, I_f2d, I_dcmp, I_dup, I_pop, I_dup_x1, I_dup2, I_icne, I_iceq, I_iclt, I_icge, I_icgt, I_icle, I_ifnull, I_ifnonnull, I_ane, I_aeq, I_goto, I_lsw, I_iret, I_lret, I_fret, I_dret, I_vret, I_nret, I_aret, I_iald, I_bald, I_lald, I_aald, I_iast, I_bast, I_last, I_aast, I_alen, I_new, I_val, I_cast, I_inst, I_obj, I_throw, I_mkx, I_getf, I_putf, I_call, I_calli, I_callv, I_clone, I_getc, i_ifeq, i_ifne, i_iflt, i_ifge, i_ifgt, i_ifle, i_idiv, i_irem, i_newa, i_newo, i_abs, i_max, i_min, i_ldiv, en_, es_i, es_r, es_0, es_n, es_l, List.length_cons, List.length_nil, List.cons_append, List.nil_append, Nat.reduceAdd, Nat.reduceSub, List.replicate, lg_, st1_, st2_, cn_, nl_, mk_, pk_, kd_, sl_, la_, ft_a, ft_i, ft_l, ft_o, ft_n, ft_b0, ft_b1, ft_bI, nr_0, nr_1, nr_bI, ro_, no_, if_true, if_false, ite_true, ite_false, reduceIte, Nat.reduceMod, Nat.reduceEqDiff, Nat.zero_add, Nat.add_zero, lk_, lit_, nI_add, nI_mul, ix_nI, fgk_0, fgk_1, fgk_2, fgk_3, fgk_4, fgk_5, fgk_6, fgk_7, fgk_8, fgk_9, fgk_10, fgk_11, fgk_12, fgk_13, fsk_0, fsk_1, fsk_2, fsk_3, fsk_4, fsk_5, fsk_6, fsk_7, fsk_8, fsk_9, fsk_10, fsk_11, fsk_12, fsk_13, ca_i, ca_r, ca_n, Nat.reduceLT, true_or, or_true, if_true, false_or, or_false, and_true, true_and, List.mem_singleton, eq_self, hp, z1, z3, z5, c, y1, y3, e0, hb, fg_nf0, c1, hkey, ix_nI, hct, e3', nI_1]
    · have e1 : ou1_ r (err_ r n s) s k x = x := if_neg e0
      rw [e1, ← ih (k + 1) x none (by omega)]
      conv => lhs; rw [b346_1]
      simp (disch := omega) only [K346_1, b346_3, K346_3, R_cons, go_nx, go_jp, go_rt, go_th, go_ca, go_no, go_ite, rr_v, rr_n, rr_x, hx_n, hx_p, hx_b, I_push, I_pushl, I_fc0, I_fc1, I_dc0, I_null, I_mask, I_iload, I_lload, I_dload, I_fload, I_aload, I_istore, I_lstore, I_dstore, I_fstore, I_astore, I_iinc, I_iadd, I_isub, I_imul, I_iand, I_ior, I_ixor, I_ishl, I_ishr, I_iushr, I_ineg, I_ladd, I_lsub, I_lmul, I_lxor, I_i2l, I_l2i, I_i2b, I_i2c, I_i2f, I_i2d, I_lcmp, I_fdiv, I_ddiv, I_f2d, I_dcmp, I_dup, I_pop, I_dup_x1, I_dup2, I_icne, I_iceq, I_iclt, I_icge, I_icgt, I_icle, I_ifnull, I_ifnonnull, I_ane, I_aeq, I_goto, I_lsw, I_iret, I_lret, I_fret, I_dret, I_vret, I_nret, I_aret, I_iald, I_bald, I_lald, I_aald, I_iast, I_bast, I_last, I_aast, I_alen, I_new, I_val, I_cast, I_inst, I_obj, I_throw, I_mkx, I_getf, I_putf, I_call, I_calli, I_callv, I_clone, I_getc, i_ifeq, i_ifne, i_iflt, i_ifge, i_ifgt, i_ifle, i_idiv, i_irem, i_newa, i_newo, i_abs, i_max, i_min, i_ldiv, en_, es_i, es_r, es_0, es_n, es_l, List.length_cons, List.length_nil, List.cons_append, List.nil_append, Nat.reduceAdd, Nat.reduceSub, List.replicate, lg_, st1_, st2_, cn_, nl_, mk_, pk_, kd_, sl_, la_, ft_a, ft_i, ft_l, ft_o, ft_n, ft_b0, ft_b1, ft_bI, nr_0, nr_1, nr_bI, ro_, no_, if_true, if_false, ite_true, ite_false, reduceIte, Nat.reduceMod, Nat.reduceEqDiff, Nat.zero_add, Nat.add_zero, lk_, lit_, nI_add, nI_mul, ix_nI, fgk_0, fgk_1, fgk_2, fgk_3, fgk_4, fgk_5, fgk_6, fgk_7, fgk_8, fgk_9, fgk_10, fgk_11, fgk_12, fgk_13, fsk_0, fsk_1, fsk_2, fsk_3, fsk_4, fsk_5, fsk_6, fsk_7, fsk_8, fsk_9, fsk_10, fsk_11, fsk_12, fsk_13, ca_i, ca_r, ca_n, Nat.reduceLT, true_or, or_true, if_true, false_or, or_false, and_true, true_and, List.mem_singleton, eq_self, hp, z1, z3, z5, c, y1, y3, e0, nI_1]
theorem S_outlier (h : Sq_ E σ p w fs r n s ms ss) : ∃ σ', D_ E 346 [.ref p] σ = some (.inl (some (.int (outq_ r n s))), σ') ∧ Fr_ 5500 σ σ' := by
  have hp := h.1
  obtain ⟨σ1, b, bb, q, N, g1, g2, g3, g4, gs, g5⟩ := S_netq h
  have hl := ou2_lp (E := E) g4 g2 s 0 (NOO, NOO) none (by omega)
  refine ⟨σ1, ?_, Fr_le g3 (by decide)⟩
  unfold outq_
  rw [← hl, D_run]
  simp (disch := omega) only [b346_0, K346_0, l346, R_cons, go_nx, go_jp, go_rt, go_th, go_ca, go_no, go_ite, rr_v, rr_n, rr_x, hx_n, hx_p, hx_b, I_push, I_pushl, I_fc0, I_fc1, I_dc0, I_null, I_mask, I_iload, I_lload, I_dload, I_fload, I_aload, I_istore, I_lstore, I_dstore, I_fstore, I_astore, I_iinc, I_iadd, I_isub, I_imul, I_iand, I_ior, I_ixor, I_ishl, I_ishr, I_iushr, I_ineg, I_ladd, I_lsub, I_lmul, I_lxor, I_i2l, I_l2i, I_i2b, I_i2c, I_i2f, I_i2d, I_lcmp, I_fdiv, I_ddiv, I_f2d, I_dcmp, I_dup, I_pop, I_dup_x1, I_dup2, I_icne, I_iceq, I_iclt, I_icge, I_icgt, I_icle, I_ifnull, I_ifnonnull, I_ane, I_aeq, I_goto, I_lsw, I_iret, I_lret, I_fret, I_dret, I_vret, I_nret, I_aret, I_iald, I_bald, I_lald, I_aald, I_iast, I_bast, I_last, I_aast, I_alen, I_new, I_val, I_cast, I_inst, I_obj, I_throw, I_mkx, I_getf, I_putf, I_call, I_calli, I_callv, I_clone, I_getc, i_ifeq, i_ifne, i_iflt, i_ifge, i_ifgt, i_ifle, i_idiv, i_irem, i_newa, i_newo, i_abs, i_max, i_min, i_ldiv, en_, es_i, es_r, es_0, es_n, es_l, List.length_cons, List.length_nil, List.cons_append, List.nil_append, Nat.reduceAdd, Nat.reduceSub, List.replicate, lg_, st1_, st2_, cn_, nl_, mk_, pk_, kd_, sl_, la_, ft_a, ft_i, ft_l, ft_o, ft_n, ft_b0, ft_b1, ft_bI, nr_0, nr_1, nr_bI, ro_, no_, if_true, if_false, ite_true, ite_false, reduceIte, Nat.reduceMod, Nat.reduceEqDiff, Nat.zero_add, Nat.add_zero, lk_, lit_, nI_add, nI_mul, ix_nI, fgk_0, fgk_1, fgk_2, fgk_3, fgk_4, fgk_5, fgk_6, fgk_7, fgk_8, fgk_9, fgk_10, fgk_11, fgk_12, fgk_13, fsk_0, fsk_1, fsk_2, fsk_3, fsk_4, fsk_5, fsk_6, fsk_7, fsk_8, fsk_9, fsk_10, fsk_11, fsk_12, fsk_13, ca_i, ca_r, ca_n, Nat.reduceLT, true_or, or_true, if_true, false_or, or_false, and_true, true_and, List.mem_singleton, eq_self, hp, g1]
  all_goals rfl
end SCV
