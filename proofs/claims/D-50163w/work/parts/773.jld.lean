/-- v put in at k -/
def inA_ (xs : List Nat) (k v : Nat) : List Nat := xs.take k ++ v :: xs.drop k
theorem inA_len {xs : List Nat} {k v : Nat} (h : k ≤ xs.length) : (inA_ xs k v).length = xs.length + 1 := by
  unfold inA_
  rw [List.length_append, List.length_cons, List.length_take, List.length_drop]
  omega
theorem inA_get {xs : List Nat} {k v : Nat} {f : Nat → Option Nat} (hk : k ≤ xs.length) (h5 : ∀ j x, xs[j]? = some x → f j = some x) {j x : Nat} (hj : (inA_ xs k v)[j]? = some x) : va_up (va_cpy f f k (k + 1) (xs.length - k)) k (some v) j = some x := by
  unfold va_up
  have ht : (xs.take k).length = k := by rw [List.length_take]; omega
  unfold inA_ at hj
  by_cases c : j < k
  · rw [List.getElem?_append_left (by omega), List.getElem?_take, if_pos c] at hj
    rw [if_neg (by omega)]
    unfold va_cpy
    rw [if_neg (by omega)]
    exact h5 j x hj
  · rw [List.getElem?_append_right (by omega), ht] at hj
    by_cases c2 : j = k
    · subst c2
      rw [Nat.sub_self] at hj
      cases hj
      exact if_pos rfl
    · obtain ⟨m, hm⟩ : ∃ m, j - k = m + 1 := ⟨j - k - 1, by omega⟩
      rw [hm, List.getElem?_cons_succ, List.getElem?_drop] at hj
      rw [if_neg c2]
      have hlt : k + m < xs.length := (List.getElem?_eq_some_iff.mp hj).1
      unfold va_cpy
      rw [if_pos (by omega)]
      have e : k + (j - (k + 1)) = k + m := by omega
      rw [e]
      exact h5 _ _ hj
theorem inA_mem {xs : List Nat} {k v x : Nat} (h : x ∈ inA_ xs k v) : x = v ∨ x ∈ xs := by
  unfold inA_ at h
  rcases List.mem_append.mp h with q | q
  · exact Or.inr (List.mem_of_mem_take q)
  · rcases List.mem_cons.mp q with q | q
    · exact Or.inl q
    · exact Or.inr (List.mem_of_mem_drop q)
section JLD
variable {E : En_} {σ : As_} {a e : Nat} {mc : Int32} {xs : List Nat}
theorem J_newL {c0 c1 : Value} (hd : E7_ E σ.2.2) (hw : Hw_ σ) (h : σ.2.2 a = some (.inr (11, [c0, c1, .int (nI 0)]))) : ∃ d, E.2.2.2.1 7 = .ref d ∧ D_ E 25 [.ref a] σ = some (.inl none, (σ.1, σ.2.1, up_ σ.2.2 a (.inr (11, [.int (nI 0), .ref d, .int (nI 0)])))) ∧ Ls_ E (up_ σ.2.2 a (.inr (11, [.int (nI 0), .ref d, .int (nI 0)]))) a (nI 0) d [] := by
  obtain ⟨d, d1, d2⟩ := hd
  have hda : d ≠ a := fun q => by rw [q, h] at d2; cases d2
  refine ⟨d, d1, ?_, 0, fun _ => none, 104, up_s _ _ _, ?_, Nat.le_refl _, by decide, fun j x hj => by simp at hj, fun _ _ => rfl, fun x hx => by simp at hx, Or.inr ⟨rfl, rfl, d1⟩⟩
  · have h0 : ∀ σ, D_ E 0 [.ref a] σ = some (.inl none, σ) := fun σ => by
      rw [D_run]
      simp (disch := omega) only [l0, b0_0, K0_0, R_cons, go_nx, go_jp, go_rt, go_th, go_ca, go_no, go_ite, rr_v, rr_n, rr_x, hx_n, hx_p, hx_b, I_push, I_pushl, I_fc0, I_fc1, I_dc0, I_null, I_mask, I_iload, I_lload, I_dload, I_fload, I_aload, I_istore, I_lstore, I_dstore, I_fstore, I_astore, I_iinc, I_iadd, I_isub, I_imul, I_iand, I_ior, I_ixor, I_ishl, I_ishr, I_iushr, I_ineg, I_ladd, I_lsub, I_lmul, I_lxor, I_i2l, I_l2i, I_i2b, I_i2c, I_i2f, I_i2d, I_lcmp, I_fdiv, I_ddiv, I_f2d, I_dcmp, I_dup, I_pop, I_dup_x1, I_dup2, I_icne, I_iceq, I_iclt, I_icge, I_icgt, I_icle, I_ifnull, I_ifnonnull, I_ane, I_aeq, I_goto, I_lsw, I_iret, I_lret, I_fret, I_dret, I_vret, I_nret, I_aret, I_iald, I_bald, I_lald, I_aald, I_iast, I_bast, I_last, I_aast, I_alen, I_new, I_val, I_cast, I_inst, I_obj, I_throw, I_mkx, I_getf, I_putf, I_call, I_calli, I_callv, I_clone, I_getc, i_ifeq, i_ifne, i_iflt, i_ifge, i_ifgt, i_ifle, i_idiv, i_irem, i_newa, i_newo, i_abs, i_max, i_min, i_ldiv, en_, es_i, es_r, es_0, es_n, es_l, List.length_cons, List.length_nil, List.cons_append, List.nil_append, Nat.reduceAdd, Nat.reduceSub, List.replicate, lg_, st1_, st2_, cn_, nl_, mk_, pk_, kd_, sl_, la_, ft_a, ft_i, ft_l, ft_o, ft_n, ft_b0, ft_b1, ft_bI, nr_0, nr_1, nr_bI, ro_, no_, if_true, if_false, ite_true, ite_false, reduceIte, Nat.reduceMod, Nat.reduceEqDiff, Nat.zero_add, Nat.add_zero, lk_, lit_, nI_add, nI_mul, ix_nI, fgk_0, fgk_1, fgk_2, fgk_3, fgk_4, fgk_5, fgk_6, fgk_7, fgk_8, fgk_9, fgk_10, fgk_11, fgk_12, fgk_13, fsk_0, fsk_1, fsk_2, fsk_3, fsk_4, fsk_5, fsk_6, fsk_7, fsk_8, fsk_9, fsk_10, fsk_11, fsk_12, fsk_13, ca_i, ca_r, ca_n, Nat.reduceLT, true_or, or_true, if_true, false_or, or_false, and_true, true_and, List.mem_singleton, eq_self]
    have h2 : D_ E 2 [.ref a] σ = some (.inl none, (σ.1, σ.2.1, up_ σ.2.2 a (.inr (11, [.int (nI 0), c1, .int (nI 0)])))) := by
      rw [D_run]
      simp (disch := first | assumption | omega) only [l2, b2_0, K2_0, R_cons, go_nx, go_jp, go_rt, go_th, go_ca, go_no, go_ite, rr_v, rr_n, rr_x, hx_n, hx_p, hx_b, I_push, I_pushl, I_fc0, I_fc1, I_dc0, I_null, I_mask, I_iload, I_lload, I_dload, I_fload, I_aload, I_istore, I_lstore, I_dstore, I_fstore, I_astore, I_iinc, I_iadd, I_isub, I_imul, I_iand, I_ior, I_ixor, I_ishl, I_ishr, I_iushr, I_ineg, I_ladd, I_lsub, I_lmul, I_lxor, I_i2l, I_l2i, I_i2b, I_i2c, I_i2f, I_i2d, I_lcmp, I_fdiv, I_ddiv, I_f2d, I_dcmp, I_dup, I_pop, I_dup_x1, I_dup2, I_icne, I_iceq, I_iclt, I_icge, I_icgt, I_icle, I_ifnull, I_ifnonnull, I_ane, I_aeq, I_goto, I_lsw, I_iret, I_lret, I_fret, I_dret, I_vret, I_nret, I_aret, I_iald, I_bald, I_lald, I_aald, I_iast, I_bast, I_last, I_aast, I_alen, I_new, I_val, I_cast, I_inst, I_obj, I_throw, I_mkx, I_getf, I_putf, I_call, I_calli, I_callv, I_clone, I_getc, i_ifeq, i_ifne, i_iflt, i_ifge, i_ifgt, i_ifle, i_idiv, i_irem, i_newa, i_newo, i_abs, i_max, i_min, i_ldiv, en_, es_i, es_r, es_0, es_n, es_l, List.length_cons, List.length_nil, List.cons_append, List.nil_append, Nat.reduceAdd, Nat.reduceSub, List.replicate, lg_, st1_, st2_, cn_, nl_, mk_, pk_, kd_, sl_, la_, ft_a, ft_i, ft_l, ft_o, ft_n, ft_b0, ft_b1, ft_bI, nr_0, nr_1, nr_bI, ro_, no_, if_true, if_false, ite_true, ite_false, reduceIte, Nat.reduceMod, Nat.reduceEqDiff, Nat.zero_add, Nat.add_zero, lk_, lit_, nI_add, nI_mul, ix_nI, fgk_0, fgk_1, fgk_2, fgk_3, fgk_4, fgk_5, fgk_6, fgk_7, fgk_8, fgk_9, fgk_10, fgk_11, fgk_12, fgk_13, fsk_0, fsk_1, fsk_2, fsk_3, fsk_4, fsk_5, fsk_6, fsk_7, fsk_8, fsk_9, fsk_10, fsk_11, fsk_12, fsk_13, ca_i, ca_r, ca_n, Nat.reduceLT, true_or, or_true, if_true, false_or, or_false, and_true, true_and, List.mem_singleton, eq_self, h0, h]
    rw [D_run]
    simp (disch := first | assumption | omega) only [l25, b25_0, K25_0, R_cons, go_nx, go_jp, go_rt, go_th, go_ca, go_no, go_ite, rr_v, rr_n, rr_x, hx_n, hx_p, hx_b, I_push, I_pushl, I_fc0, I_fc1, I_dc0, I_null, I_mask, I_iload, I_lload, I_dload, I_fload, I_aload, I_istore, I_lstore, I_dstore, I_fstore, I_astore, I_iinc, I_iadd, I_isub, I_imul, I_iand, I_ior, I_ixor, I_ishl, I_ishr, I_iushr, I_ineg, I_ladd, I_lsub, I_lmul, I_lxor, I_i2l, I_l2i, I_i2b, I_i2c, I_i2f, I_i2d, I_lcmp, I_fdiv, I_ddiv, I_f2d, I_dcmp, I_dup, I_pop, I_dup_x1, I_dup2, I_icne, I_iceq, I_iclt, I_icge, I_icgt, I_icle, I_ifnull, I_ifnonnull, I_ane, I_aeq, I_goto, I_lsw, I_iret, I_lret, I_fret, I_dret, I_vret, I_nret, I_aret, I_iald, I_bald, I_lald, I_aald, I_iast, I_bast, I_last, I_aast, I_alen, I_new, I_val, I_cast, I_inst, I_obj, I_throw, I_mkx, I_getf, I_putf, I_call, I_calli, I_callv, I_clone, I_getc, i_ifeq, i_ifne, i_iflt, i_ifge, i_ifgt, i_ifle, i_idiv, i_irem, i_newa, i_newo, i_abs, i_max, i_min, i_ldiv, en_, es_i, es_r, es_0, es_n, es_l, List.length_cons, List.length_nil, List.cons_append, List.nil_append, Nat.reduceAdd, Nat.reduceSub, List.replicate, lg_, st1_, st2_, cn_, nl_, mk_, pk_, kd_, sl_, la_, ft_a, ft_i, ft_l, ft_o, ft_n, ft_b0, ft_b1, ft_bI, nr_0, nr_1, nr_bI, ro_, no_, if_true, if_false, ite_true, ite_false, reduceIte, Nat.reduceMod, Nat.reduceEqDiff, Nat.zero_add, Nat.add_zero, lk_, lit_, nI_add, nI_mul, ix_nI, fgk_0, fgk_1, fgk_2, fgk_3, fgk_4, fgk_5, fgk_6, fgk_7, fgk_8, fgk_9, fgk_10, fgk_11, fgk_12, fgk_13, fsk_0, fsk_1, fsk_2, fsk_3, fsk_4, fsk_5, fsk_6, fsk_7, fsk_8, fsk_9, fsk_10, fsk_11, fsk_12, fsk_13, ca_i, ca_r, ca_n, Nat.reduceLT, true_or, or_true, if_true, false_or, or_false, and_true, true_and, List.mem_singleton, eq_self, h2, up_s, up_up, d1]
  · rw [up_n hda]
    exact d2
theorem J_rcheck {k : Nat} (h : Ls_ E σ.2.2 a mc e xs) (hk : k ≤ xs.length) : D_ E 30 [.ref a, .int (nI k)] σ = some (.inl none, σ) := by
  obtain ⟨cap, f, tt, h1, h2, h3, h4, _⟩ := h
  have l1 : ¬ nI xs.length < nI k := by rw [nIltI (by omega) (by omega)]; omega
  have l2 : nI 0 ≤ nI k := by rw [nI_leI (by omega) (by omega)]; omega
  rw [D_run]
  simp (disch := first | assumption | omega) only [b30_0, K30_0, b30_2, K30_2, l30, R_cons, go_nx, go_jp, go_rt, go_th, go_ca, go_no, go_ite, rr_v, rr_n, rr_x, hx_n, hx_p, hx_b, I_push, I_pushl, I_fc0, I_fc1, I_dc0, I_null, I_mask, I_iload, I_lload, I_dload, I_fload, I_aload, I_istore, I_lstore, I_dstore, I_fstore, I_astore, I_iinc, I_iadd, I_isub, I_imul, I_iand, I_ior, I_ixor, I_ishl, I_ishr, I_iushr, I_ineg, I_ladd, I_lsub, I_lmul, I_lxor, I_i2l, I_l2i, I_i2b, I_i2c, I_i2f, I_i2d, I_lcmp, I_fdiv, I_ddiv, I_f2d, I_dcmp, I_dup, I_pop, I_dup_x1, I_dup2, I_icne, I_iceq, I_iclt, I_icge, I_icgt, I_icle, I_ifnull, I_ifnonnull, I_ane, I_aeq, I_goto, I_lsw, I_iret, I_lret, I_fret, I_dret, I_vret, I_nret, I_aret, I_iald, I_bald, I_lald, I_aald, I_iast, I_bast, I_last, I_aast, I_alen, I_new, I_val, I_cast, I_inst, I_obj, I_throw, I_mkx, I_getf, I_putf, I_call, I_calli, I_callv, I_clone, I_getc, i_ifeq, i_ifne, i_iflt, i_ifge, i_ifgt, i_ifle, i_idiv, i_irem, i_newa, i_newo, i_abs, i_max, i_min, i_ldiv, en_, es_i, es_r, es_0, es_n, es_l, List.length_cons, List.length_nil, List.cons_append, List.nil_append, Nat.reduceAdd, Nat.reduceSub, List.replicate, lg_, st1_, st2_, cn_, nl_, mk_, pk_, kd_, sl_, la_, ft_a, ft_i, ft_l, ft_o, ft_n, ft_b0, ft_b1, ft_bI, nr_0, nr_1, nr_bI, ro_, no_, if_true, if_false, ite_true, ite_false, reduceIte, Nat.reduceMod, Nat.reduceEqDiff, Nat.zero_add, Nat.add_zero, lk_, lit_, nI_add, nI_mul, ix_nI, fgk_0, fgk_1, fgk_2, fgk_3, fgk_4, fgk_5, fgk_6, fgk_7, fgk_8, fgk_9, fgk_10, fgk_11, fgk_12, fgk_13, fsk_0, fsk_1, fsk_2, fsk_3, fsk_4, fsk_5, fsk_6, fsk_7, fsk_8, fsk_9, fsk_10, fsk_11, fsk_12, fsk_13, ca_i, ca_r, ca_n, Nat.reduceLT, true_or, or_true, if_true, false_or, or_false, and_true, true_and, List.mem_singleton, eq_self, h1, l1, l2]
theorem J_addAt {k v : Nat} (hd : E7_ E σ.2.2) (h : Ls_ E σ.2.2 a mc e xs) (hw : Hw_ σ) (hx : xs.length < 400) (hk : k ≤ xs.length) (hv : Ob_ σ.2.2 v) (hva : v ≠ a) (hxa : ∀ x ∈ xs, x ≠ a) : ∃ σ' e', D_ E 35 [.ref a, .int (nI k), .ref v] σ = some (.inl none, σ') ∧ Ls_ E σ'.2.2 a (mc + nI 1) e' (inA_ xs k v) ∧ Ax_ E σ σ' a e e' ∧ 4 * σ'.1 + σ'.2.1 + tot_ xs.length ≤ 4 * σ.1 + σ.2.1 + tot_ (xs.length + 1) ∧ σ.2.1 ≤ σ'.2.1 := by
  have hr := J_rcheck (k := k) h hk
  obtain ⟨cap, f, tt, h1, h2, h3, h4, h5, h6, h7, h8⟩ := h
  obtain ⟨vc, vf, v1, v2⟩ := hv
  obtain ⟨d7, d1, d2⟩ := hd
  have hd7 := Hw_lt hw d2
  have hae : a ≠ e := fun q => by rw [q, h2] at h1; cases h1
  have hea : e ≠ a := fun q => hae q.symm
  have hve : v ≠ e := fun q => by rw [q, h2] at v1; cases v1
  have hxe : ∀ x ∈ xs, x ≠ e := fun x hx q => by
    obtain ⟨c, fs, e1, _⟩ := h7 x hx
    rw [q, h2] at e1
    cases e1
  have ha1 := Hw_lt hw h1
  have he1 := Hw_lt hw h2
  have hv1 := Hw_lt hw v1
  have hx1 : ∀ x ∈ xs, x < σ.1 := fun x hx => by
    obtain ⟨c, fs, e1, _⟩ := h7 x hx
    exact Hw_lt hw e1
  have hsub : nI xs.length - nI k = nI (xs.length - k) := nI_sub hk
  have hal : a < σ.1 := ha1
  have hmc : Hw_ (σ.1, σ.2.1, up_ σ.2.2 a (.inr (11, [.int (mc + nI 1), .ref e, .int (nI xs.length)]))) := Hw_put hw h1
  have hob : ∀ x ∈ xs, ∀ b c, x ≠ b → Ob_ (up_ σ.2.2 b c) x := fun x hx b c hb => Ob_up (h7 x hx) hb
  by_cases c : xs.length = cap
  · have hG := J_grow (E := E) (σ := (σ.1, σ.2.1, up_ σ.2.2 a (.inr (11, [.int (mc + nI 1), .ref e, .int (nI xs.length)])))) (a := a) (e := e) (mc := mc + nI 1) (cap := cap) (f := f) (tt := tt) (len := xs.length) hmc (up_s _ _ _) (by dsimp only; rw [up_n hea]; exact h2) c hx (fun j hj => h6 j (by omega)) (fun i hi => ok_Ob (fun x hfx => by
      have hO := ls_fob h5 h6 h7 hfx
      by_cases q : x = a
      · subst q
        exact ⟨11, _, up_s _ _ _, by decide⟩
      · exact Ob_up hO q)) h8
    obtain ⟨nc, f', g1, g2, g3, g4, g5⟩ := hG
    have hff : f' = f := funext g4
    have hcq : nc = cpf_ (inA_ xs k v).length := by
      rw [inA_len hk, cpf_, if_neg (by omega), g5, ← h4.2, c]
    have htt2 : tot_ (xs.length + 1) = tot_ xs.length + 4 + nc := by
      rw [tot_, if_neg (by omega), g5, ← h4.2, c]
    subst hff
    dsimp only at g1
    rw [up_c3 (by omega)] at g1
    have cnI : nI xs.length = nI cap := by rw [c]
    have htt : tt % 100 < 6 := by rcases h8 with ⟨rfl, _⟩ | ⟨rfl, _⟩ <;> decide
    have hne : ¬ σ.1 = a := by omega
    have hcp := i_acR (σ := (σ.1 + 1, σ.2.1 + nc, up_ (up_ σ.2.2 σ.1 (tR_ 4 nc f')) a (.inr (11, [.int (mc + nI 1), .ref σ.1, .int (nI xs.length)])))) (cs := cO_) (l := [some (.ref a), some (.int (nI k)), some (.ref v), some (.int (nI xs.length)), some (.ref σ.1)]) (r := []) (n := xs.length - k) (dp := k + 1) (sp := k) (b := σ.1) (c := σ.1) (n0 := nc) (n1 := nc) (f := f') (g := f') (by dsimp only; rw [up_n hne, up_s]) (by dsimp only; rw [up_n hne, up_s]) (by omega) (by omega) (by omega) (by omega) rfl (fun i hi => ok_Ob (fun x hfx => by
      have hO := ls_fob h5 h6 h7 hfx
      dsimp only
      have hxl : x < σ.1 := by
        obtain ⟨c, fs, e1, _⟩ := hO
        exact Hw_lt hw e1
      by_cases q : x = a
      · subst q
        exact ⟨11, _, up_s _ _ _, by decide⟩
      · exact Ob_up (Ob_up hO (by omega)) q))
    refine ⟨(σ.1 + 1, σ.2.1 + nc, up_ (up_ σ.2.2 σ.1 (tR_ 4 nc (va_up (va_cpy f' f' k (k + 1) (xs.length - k)) k (some v)))) a (.inr (11, [.int (mc + nI 1), .ref σ.1, .int (nI (xs.length + 1))]))), σ.1, ?_, ⟨nc, va_up (va_cpy f' f' k (k + 1) (xs.length - k)) k (some v), 4, ?_, ?_, ?_, ⟨by omega, hcq⟩, ?_, ?_, ?_, Or.inl ⟨rfl, by omega, by rw [d1]; exact fun q => absurd (show d7 = σ.1 from by injection q) (Nat.ne_of_lt hd7)⟩⟩, ⟨?_, ?_, Or.inr ⟨Nat.le_refl _, Nat.lt_succ_self _⟩, ?_⟩, ?_, ?_⟩
    · rw [D_run]
      simp (disch := first | assumption | omega) only [b35_0, K35_0, l35, R_cons, go_nx, go_jp, go_rt, go_th, go_ca, go_no, go_ite, rr_v, rr_n, rr_x, hx_n, hx_p, hx_b, I_push, I_pushl, I_fc0, I_fc1, I_dc0, I_null, I_mask, I_iload, I_lload, I_dload, I_fload, I_aload, I_istore, I_lstore, I_dstore, I_fstore, I_astore, I_iinc, I_iadd, I_isub, I_imul, I_iand, I_ior, I_ixor, I_ishl, I_ishr, I_iushr, I_ineg, I_ladd, I_lsub, I_lmul, I_lxor, I_i2l, I_l2i, I_i2b, I_i2c, I_i2f, I_i2d, I_lcmp, I_fdiv, I_ddiv, I_f2d, I_dcmp, I_dup, I_pop, I_dup_x1, I_dup2, I_icne, I_iceq, I_iclt, I_icge, I_icgt, I_icle, I_ifnull, I_ifnonnull, I_ane, I_aeq, I_goto, I_lsw, I_iret, I_lret, I_fret, I_dret, I_vret, I_nret, I_aret, I_iald, I_bald, I_lald, I_aald, I_iast, I_bast, I_last, I_aast, I_alen, I_new, I_val, I_cast, I_inst, I_obj, I_throw, I_mkx, I_getf, I_putf, I_call, I_calli, I_callv, I_clone, I_getc, i_ifeq, i_ifne, i_iflt, i_ifge, i_ifgt, i_ifle, i_idiv, i_irem, i_newa, i_newo, i_abs, i_max, i_min, i_ldiv, en_, es_i, es_r, es_0, es_n, es_l, List.length_cons, List.length_nil, List.cons_append, List.nil_append, Nat.reduceAdd, Nat.reduceSub, List.replicate, lg_, st1_, st2_, cn_, nl_, mk_, pk_, kd_, sl_, la_, ft_a, ft_i, ft_l, ft_o, ft_n, ft_b0, ft_b1, ft_bI, nr_0, nr_1, nr_bI, ro_, no_, if_true, if_false, ite_true, ite_false, reduceIte, Nat.reduceMod, Nat.reduceEqDiff, Nat.zero_add, Nat.add_zero, lk_, lit_, nI_add, nI_mul, ix_nI, fgk_0, fgk_1, fgk_2, fgk_3, fgk_4, fgk_5, fgk_6, fgk_7, fgk_8, fgk_9, fgk_10, fgk_11, fgk_12, fgk_13, fsk_0, fsk_1, fsk_2, fsk_3, fsk_4, fsk_5, fsk_6, fsk_7, fsk_8, fsk_9, fsk_10, fsk_11, fsk_12, fsk_13, ca_i, ca_r, ca_n, Nat.reduceLT, true_or, or_true, if_true, false_or, or_false, and_true, true_and, List.mem_singleton, eq_self, hr, up_s, up_n, h1, h2, htt, ← cnI, g1]
      simp (disch := first | assumption | omega) only [b35_1, K35_1, R_cons, go_nx, go_jp, go_rt, go_th, go_ca, go_no, go_ite, rr_v, rr_n, rr_x, hx_n, hx_p, hx_b, I_push, I_pushl, I_fc0, I_fc1, I_dc0, I_null, I_mask, I_iload, I_lload, I_dload, I_fload, I_aload, I_istore, I_lstore, I_dstore, I_fstore, I_astore, I_iinc, I_iadd, I_isub, I_imul, I_iand, I_ior, I_ixor, I_ishl, I_ishr, I_iushr, I_ineg, I_ladd, I_lsub, I_lmul, I_lxor, I_i2l, I_l2i, I_i2b, I_i2c, I_i2f, I_i2d, I_lcmp, I_fdiv, I_ddiv, I_f2d, I_dcmp, I_dup, I_pop, I_dup_x1, I_dup2, I_icne, I_iceq, I_iclt, I_icge, I_icgt, I_icle, I_ifnull, I_ifnonnull, I_ane, I_aeq, I_goto, I_lsw, I_iret, I_lret, I_fret, I_dret, I_vret, I_nret, I_aret, I_iald, I_bald, I_lald, I_aald, I_iast, I_bast, I_last, I_aast, I_alen, I_new, I_val, I_cast, I_inst, I_obj, I_throw, I_mkx, I_getf, I_putf, I_call, I_calli, I_callv, I_clone, I_getc, i_ifeq, i_ifne, i_iflt, i_ifge, i_ifgt, i_ifle, i_idiv, i_irem, i_newa, i_newo, i_abs, i_max, i_min, i_ldiv, en_, es_i, es_r, es_0, es_n, es_l, List.length_cons, List.length_nil, List.cons_append, List.nil_append, Nat.reduceAdd, Nat.reduceSub, List.replicate, lg_, st1_, st2_, cn_, nl_, mk_, pk_, kd_, sl_, la_, ft_a, ft_i, ft_l, ft_o, ft_n, ft_b0, ft_b1, ft_bI, nr_0, nr_1, nr_bI, ro_, no_, if_true, if_false, ite_true, ite_false, reduceIte, Nat.reduceMod, Nat.reduceEqDiff, Nat.zero_add, Nat.add_zero, lk_, lit_, nI_add, nI_mul, ix_nI, fgk_0, fgk_1, fgk_2, fgk_3, fgk_4, fgk_5, fgk_6, fgk_7, fgk_8, fgk_9, fgk_10, fgk_11, fgk_12, fgk_13, fsk_0, fsk_1, fsk_2, fsk_3, fsk_4, fsk_5, fsk_6, fsk_7, fsk_8, fsk_9, fsk_10, fsk_11, fsk_12, fsk_13, ca_i, ca_r, ca_n, Nat.reduceLT, true_or, or_true, if_true, false_or, or_false, and_true, true_and, List.mem_singleton, eq_self, up_s, up_n, hsub, hcp, v1, v2, ix_nI, up_up, up_c3]
    · dsimp only
      rw [up_s, inA_len hk]
    · dsimp only
      rw [up_n (by omega), up_s]
    · rw [inA_len hk]
      omega
    · intro j x hj
      exact inA_get hk h5 hj
    · intro j hj
      rw [inA_len hk] at hj
      unfold va_up va_cpy
      rw [if_neg (by omega), if_neg (by omega)]
      exact h6 j (by omega)
    · intro x hx2
      dsimp only
      rcases inA_mem hx2 with hq | hq
      · subst hq
        exact Ob_up (Ob_up ⟨vc, vf, v1, v2⟩ (by omega)) hva
      · exact Ob_up (Ob_up (h7 x hq) (by have := hx1 x hq; omega)) (hxa x hq)
    · exact fun b hb => by
        dsimp only at hb ⊢
        rw [up_n (by omega), up_n (by omega)]
        exact hw b (by omega)
    · exact Nat.le_succ _
    · intro b d hb hba hbe
      have := Hw_lt hw hb
      dsimp only
      rw [up_n hba, up_n (by omega)]
      exact hb
    · dsimp only
      omega
    · exact Nat.le_add_right _ _
  · have hlt : xs.length < cap := by omega
    obtain ⟨h4', h4n⟩ : tt = 4 ∧ ¬ E.2.2.2.1 7 = .ref e := by
      rcases h8 with ⟨q, _, q2⟩ | ⟨_, q, _⟩
      · exact ⟨q, q2⟩
      · omega
    subst h4'
    have hcq : cap = cpf_ (inA_ xs k v).length := by
      rw [inA_len hk, cpf_, if_pos (by omega)]
      exact h4.2
    have htt2 : tot_ (xs.length + 1) = tot_ xs.length := by rw [tot_, if_pos (by omega)]
    have cnI : ¬ nI xs.length = nI cap := by rw [nI_eq (by omega) (by omega)]; exact c
    have hcp := i_acR (σ := (σ.1, σ.2.1, up_ σ.2.2 a (.inr (11, [.int (mc + nI 1), .ref e, .int (nI xs.length)])))) (cs := cO_) (l := [some (.ref a), some (.int (nI k)), some (.ref v), some (.int (nI xs.length)), some (.ref e)]) (r := []) (n := xs.length - k) (dp := k + 1) (sp := k) (b := e) (c := e) (n0 := cap) (n1 := cap) (f := f) (g := f) (by dsimp only; rw [up_n hea]; exact h2) (by dsimp only; rw [up_n hea]; exact h2) (by omega) (by omega) (by omega) (by omega) rfl (fun i hi => ok_Ob (fun x hfx => by
      have hO := ls_fob h5 h6 h7 hfx
      dsimp only
      by_cases q : x = a
      · subst q
        exact ⟨11, _, up_s _ _ _, by decide⟩
      · exact Ob_up hO q))
    refine ⟨(σ.1, σ.2.1, up_ (up_ σ.2.2 e (tR_ 4 cap (va_up (va_cpy f f k (k + 1) (xs.length - k)) k (some v)))) a (.inr (11, [.int (mc + nI 1), .ref e, .int (nI (xs.length + 1))]))), e, ?_, ⟨cap, va_up (va_cpy f f k (k + 1) (xs.length - k)) k (some v), 4, ?_, ?_, ?_, ⟨by omega, hcq⟩, ?_, ?_, ?_, Or.inl ⟨rfl, by omega, h4n⟩⟩, ⟨?_, Nat.le_refl _, Or.inl rfl, ?_⟩, ?_, Nat.le_refl _⟩
    · rw [D_run]
      simp (disch := first | assumption | omega) only [b35_0, K35_0, b35_1, K35_1, l35, R_cons, go_nx, go_jp, go_rt, go_th, go_ca, go_no, go_ite, rr_v, rr_n, rr_x, hx_n, hx_p, hx_b, I_push, I_pushl, I_fc0, I_fc1, I_dc0, I_null, I_mask, I_iload, I_lload, I_dload, I_fload, I_aload, I_istore, I_lstore, I_dstore, I_fstore, I_astore, I_iinc, I_iadd, I_isub, I_imul, I_iand, I_ior, I_ixor, I_ishl, I_ishr, I_iushr, I_ineg, I_ladd, I_lsub, I_lmul, I_lxor, I_i2l, I_l2i, I_i2b, I_i2c, I_i2f, I_i2d, I_lcmp, I_fdiv, I_ddiv, I_f2d, I_dcmp, I_dup, I_pop, I_dup_x1, I_dup2, I_icne, I_iceq, I_iclt, I_icge, I_icgt, I_icle, I_ifnull, I_ifnonnull, I_ane, I_aeq, I_goto, I_lsw, I_iret, I_lret, I_fret, I_dret, I_vret, I_nret, I_aret, I_iald, I_bald, I_lald, I_aald, I_iast, I_bast, I_last, I_aast, I_alen, I_new, I_val, I_cast, I_inst, I_obj, I_throw, I_mkx, I_getf, I_putf, I_call, I_calli, I_callv, I_clone, I_getc, i_ifeq, i_ifne, i_iflt, i_ifge, i_ifgt, i_ifle, i_idiv, i_irem, i_newa, i_newo, i_abs, i_max, i_min, i_ldiv, en_, es_i, es_r, es_0, es_n, es_l, List.length_cons, List.length_nil, List.cons_append, List.nil_append, Nat.reduceAdd, Nat.reduceSub, List.replicate, lg_, st1_, st2_, cn_, nl_, mk_, pk_, kd_, sl_, la_, ft_a, ft_i, ft_l, ft_o, ft_n, ft_b0, ft_b1, ft_bI, nr_0, nr_1, nr_bI, ro_, no_, if_true, if_false, ite_true, ite_false, reduceIte, Nat.reduceMod, Nat.reduceEqDiff, Nat.zero_add, Nat.add_zero, lk_, lit_, nI_add, nI_mul, ix_nI, fgk_0, fgk_1, fgk_2, fgk_3, fgk_4, fgk_5, fgk_6, fgk_7, fgk_8, fgk_9, fgk_10, fgk_11, fgk_12, fgk_13, fsk_0, fsk_1, fsk_2, fsk_3, fsk_4, fsk_5, fsk_6, fsk_7, fsk_8, fsk_9, fsk_10, fsk_11, fsk_12, fsk_13, ca_i, ca_r, ca_n, Nat.reduceLT, true_or, or_true, if_true, false_or, or_false, and_true, true_and, List.mem_singleton, eq_self, hr, up_s, up_n, h1, h2, cnI, hsub, hcp, v1, v2, ix_nI, up_up, up_c3]
    · dsimp only
      rw [up_s, inA_len hk]
    · dsimp only
      rw [up_n hea, up_s]
    · rw [inA_len hk]
      omega
    · intro j x hj
      exact inA_get hk h5 hj
    · intro j hj
      rw [inA_len hk] at hj
      unfold va_up va_cpy
      rw [if_neg (by omega), if_neg (by omega)]
      exact h6 j (by omega)
    · intro x hx2
      dsimp only
      rcases inA_mem hx2 with hq | hq
      · subst hq
        exact Ob_up (Ob_up ⟨vc, vf, v1, v2⟩ hve) hva
      · exact Ob_up (Ob_up (h7 x hq) (hxe x hq)) (hxa x hq)
    · exact fun b hb => by
        dsimp only at hb ⊢
        rw [up_n (by omega), up_n (by omega)]
        exact hw b hb
    · intro b d hb hba hbe
      dsimp only
      rcases hbe with q | q
      · rw [up_n hba, up_n q]
        exact hb
      · exact absurd q h4n
    · dsimp only
      omega
end JLD
