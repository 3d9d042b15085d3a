theorem up_c3 {h : Nat → Option Ac_} {a b : Nat} {c1 c2 x : Ac_} (hab : b ≠ a) : up_ (up_ (up_ h a c1) b x) a c2 = up_ (up_ h b x) a c2 := by
  funext y
  unfold up_
  by_cases h1 : y = a <;> by_cases h2 : y = b <;> simp only [h1, h2, if_true, if_false]
theorem Hw_put {σ : As_} {a : Nat} {c d : Ac_} (hw : Hw_ σ) (h : σ.2.2 a = some d) : Hw_ (σ.1, σ.2.1, up_ σ.2.2 a c) := fun b hb => by
  have := Hw_lt hw h
  dsimp only at hb ⊢
  rw [up_n (by omega)]
  exact hw b hb
theorem Hw_new {σ : As_} {k : Nat} {c : Ac_} (hw : Hw_ σ) : Hw_ (σ.1 + 1, σ.2.1 + k, up_ σ.2.2 σ.1 c) := fun b hb => by
  dsimp only at hb ⊢
  rw [up_n (by omega)]
  exact hw b (by omega)
theorem app_get {xs : List Nat} {v : Nat} {f : Nat → Option Nat} (h5 : ∀ j x, xs[j]? = some x → f j = some x) {j x : Nat} (hj : (xs ++ [v])[j]? = some x) : va_up f xs.length (some v) j = some x := by
  unfold va_up
  by_cases c : j < xs.length
  · rw [List.getElem?_append_left c] at hj
    rw [if_neg (by omega)]
    exact h5 j x hj
  · rw [List.getElem?_append_right (by omega)] at hj
    have e2 : j = xs.length := by
      by_cases e3 : j - xs.length = 0
      · omega
      · obtain ⟨m, hm⟩ : ∃ m, j - xs.length = m + 1 := ⟨j - xs.length - 1, by omega⟩
        rw [hm] at hj
        simp at hj
    subst e2
    rw [Nat.sub_self] at hj
    cases hj
    exact if_pos rfl
section JLC
variable {E : En_} {σ : As_} {a e : Nat} {mc : Int32} {xs : List Nat}
theorem Ob_up {h : Nat → Option Ac_} {b x : Nat} {c : Ac_} (hO : Ob_ h x) (hx : x ≠ b) : Ob_ (up_ h b c) x := by
  obtain ⟨k, fs, e1, e2⟩ := hO
  exact ⟨k, fs, by rw [up_n hx]; exact e1, e2⟩
theorem J_add {v : Nat} (hd : E7_ E σ.2.2) (h : Ls_ E σ.2.2 a mc e xs) (hw : Hw_ σ) (hx : xs.length < 400) (hv : Ob_ σ.2.2 v) (hva : v ≠ a) (hxa : ∀ x ∈ xs, x ≠ a) : ∃ σ' e', D_ E 31 [.ref a, .ref v] σ = some (.inl (some (.int (nI 1))), σ') ∧ Ls_ E σ'.2.2 a (mc + nI 1) e' (xs ++ [v]) ∧ Ax_ E σ σ' a e e' ∧ 4 * σ'.1 + σ'.2.1 + tot_ xs.length ≤ 4 * σ.1 + σ.2.1 + tot_ (xs.length + 1) ∧ σ.2.1 ≤ σ'.2.1 := by
  obtain ⟨cap, f, tt, h1, h2, h3, h4, h5, h6, h7, h8⟩ := h
  obtain ⟨vc, vf, v1, v2⟩ := hv
  obtain ⟨d7, d1, d2⟩ := hd
  have hd7 := Hw_lt hw d2
  have hae : a ≠ e := fun q => by rw [q, h2] at h1; cases h1
  have hea : e ≠ a := fun q => hae q.symm
  have hve : v ≠ e := fun q => by rw [q, h2] at v1; cases v1
  have hxe : ∀ x ∈ xs, x ≠ e := fun x hx q => by
    obtain ⟨c, fs, e1, _⟩ := h7 x hx
    rw [q, h2] at e1
    cases e1
  have ha1 := Hw_lt hw h1
  have he1 := Hw_lt hw h2
  have hv1 := Hw_lt hw v1
  have hx1 : ∀ x ∈ xs, x < σ.1 := fun x hx => by
    obtain ⟨c, fs, e1, _⟩ := h7 x hx
    exact Hw_lt hw e1
  by_cases c : xs.length = cap
  · -- it grows
    have hG := J_grow (E := E) (σ := (σ.1, σ.2.1, up_ σ.2.2 a (.inr (11, [.int (mc + nI 1), .ref e, .int (nI xs.length)])))) (a := a) (e := e) (mc := mc + nI 1) (cap := cap) (f := f) (tt := tt) (len := xs.length) (Hw_put hw h1) (up_s _ _ _) (by dsimp only; rw [up_n hea]; exact h2) c hx (fun j hj => h6 j (by omega)) (fun i hi => ok_Ob (fun x hfx => by
      have hO := ls_fob h5 h6 h7 hfx
      by_cases q : x = a
      · subst q
        exact ⟨11, _, up_s _ _ _, by decide⟩
      · exact Ob_up hO q)) h8
    obtain ⟨nc, f', g1, g2, g3, g4, g5⟩ := hG
    have hcp : nc = cpf_ (xs ++ [v]).length := by
      rw [List.length_append]
      show nc = cpf_ (xs.length + 1)
      rw [cpf_, if_neg (by omega), g5, ← h4.2, c]
    have htt2 : tot_ (xs.length + 1) = tot_ xs.length + 4 + nc := by
      rw [tot_, if_neg (by omega), g5, ← h4.2, c]
    dsimp only at g1
    rw [up_c3 (by omega)] at g1
    have cnI : nI xs.length = nI cap := by rw [c]
    have htt : tt % 100 < 6 := by rcases h8 with ⟨rfl, _⟩ | ⟨rfl, _⟩ <;> decide
    refine ⟨(σ.1 + 1, σ.2.1 + nc, up_ (up_ σ.2.2 σ.1 (tR_ 4 nc (va_up f' xs.length (some v)))) a (.inr (11, [.int (mc + nI 1), .ref σ.1, .int (nI (xs.length + 1))]))), σ.1, ?_, ⟨nc, va_up f' xs.length (some v), 4, ?_, ?_, ?_, ⟨by omega, hcp⟩, ?_, ?_, ?_, Or.inl ⟨rfl, by omega, by rw [d1]; exact fun q => absurd (show d7 = σ.1 from by injection q) (Nat.ne_of_lt hd7)⟩⟩, ⟨?_, ?_, Or.inr ⟨Nat.le_refl _, Nat.lt_succ_self _⟩, ?_⟩, ?_, ?_⟩
    · have hA2 : D_ E 32 [.ref a, .ref v, .ref e, .int (nI xs.length)] (σ.1, σ.2.1, up_ σ.2.2 a (.inr (11, [.int (mc + nI 1), .ref e, .int (nI xs.length)]))) = some (.inl none, (σ.1 + 1, σ.2.1 + nc, up_ (up_ σ.2.2 σ.1 (tR_ 4 nc (va_up f' xs.length (some v)))) a (.inr (11, [.int (mc + nI 1), .ref σ.1, .int (nI (xs.length + 1))])))) := by
        rw [D_run]
        simp (disch := first | assumption | omega) only [b32_0, K32_0, l32, R_cons, go_nx, go_jp, go_rt, go_th, go_ca, go_no, go_ite, rr_v, rr_n, rr_x, hx_n, hx_p, hx_b, I_push, I_pushl, I_fc0, I_fc1, I_dc0, I_null, I_mask, I_iload, I_lload, I_dload, I_fload, I_aload, I_istore, I_lstore, I_dstore, I_fstore, I_astore, I_iinc, I_iadd, I_isub, I_imul, I_iand, I_ior, I_ixor, I_ishl, I_ishr, I_iushr, I_ineg, I_ladd, I_lsub, I_lmul, I_lxor, I_i2l, I_l2i, I_i2b, I_i2c, I_i2f, I_i2d, I_lcmp, I_fdiv, I_ddiv, I_f2d, I_dcmp, I_dup, I_pop, I_dup_x1, I_dup2, I_icne, I_iceq, I_iclt, I_icge, I_icgt, I_icle, I_ifnull, I_ifnonnull, I_ane, I_aeq, I_goto, I_lsw, I_iret, I_lret, I_fret, I_dret, I_vret, I_nret, I_aret, I_iald, I_bald, I_lald, I_aald, I_iast, I_bast, I_last, I_aast, I_alen, I_new, I_val, I_cast, I_inst, I_obj, I_throw, I_mkx, I_getf, I_putf, I_call, I_calli, I_callv, I_clone, I_getc, i_ifeq, i_ifne, i_iflt, i_ifge, i_ifgt, i_ifle, i_idiv, i_irem, i_newa, i_newo, i_abs, i_max, i_min, i_ldiv, en_, es_i, es_r, es_0, es_n, es_l, List.length_cons, List.length_nil, List.cons_append, List.nil_append, Nat.reduceAdd, Nat.reduceSub, List.replicate, lg_, st1_, st2_, cn_, nl_, mk_, pk_, kd_, sl_, la_, ft_a, ft_i, ft_l, ft_o, ft_n, ft_b0, ft_b1, ft_bI, nr_0, nr_1, nr_bI, ro_, no_, if_true, if_false, ite_true, ite_false, reduceIte, Nat.reduceMod, Nat.reduceEqDiff, Nat.zero_add, Nat.add_zero, lk_, lit_, nI_add, nI_mul, ix_nI, fgk_0, fgk_1, fgk_2, fgk_3, fgk_4, fgk_5, fgk_6, fgk_7, fgk_8, fgk_9, fgk_10, fgk_11, fgk_12, fgk_13, fsk_0, fsk_1, fsk_2, fsk_3, fsk_4, fsk_5, fsk_6, fsk_7, fsk_8, fsk_9, fsk_10, fsk_11, fsk_12, fsk_13, ca_i, ca_r, ca_n, Nat.reduceLT, true_or, or_true, if_true, false_or, or_false, and_true, true_and, List.mem_singleton, eq_self, up_s, up_n, h1, h2, htt, ← cnI, g1]
        simp (disch := first | assumption | omega) only [b32_1, K32_1, R_cons, go_nx, go_jp, go_rt, go_th, go_ca, go_no, go_ite, rr_v, rr_n, rr_x, hx_n, hx_p, hx_b, I_push, I_pushl, I_fc0, I_fc1, I_dc0, I_null, I_mask, I_iload, I_lload, I_dload, I_fload, I_aload, I_istore, I_lstore, I_dstore, I_fstore, I_astore, I_iinc, I_iadd, I_isub, I_imul, I_iand, I_ior, I_ixor, I_ishl, I_ishr, I_iushr, I_ineg, I_ladd, I_lsub, I_lmul, I_lxor, I_i2l, I_l2i, I_i2b, I_i2c, I_i2f, I_i2d, I_lcmp, I_fdiv, I_ddiv, I_f2d, I_dcmp, I_dup, I_pop, I_dup_x1, I_dup2, I_icne, I_iceq, I_iclt, I_icge, I_icgt, I_icle, I_ifnull, I_ifnonnull, I_ane, I_aeq, I_goto, I_lsw, I_iret, I_lret, I_fret, I_dret, I_vret, I_nret, I_aret, I_iald, I_bald, I_lald, I_aald, I_iast, I_bast, I_last, I_aast, I_alen, I_new, I_val, I_cast, I_inst, I_obj, I_throw, I_mkx, I_getf, I_putf, I_call, I_calli, I_callv, I_clone, I_getc, i_ifeq, i_ifne, i_iflt, i_ifge, i_ifgt, i_ifle, i_idiv, i_irem, i_newa, i_newo, i_abs, i_max, i_min, i_ldiv, en_, es_i, es_r, es_0, es_n, es_l, List.length_cons, List.length_nil, List.cons_append, List.nil_append, Nat.reduceAdd, Nat.reduceSub, List.replicate, lg_, st1_, st2_, cn_, nl_, mk_, pk_, kd_, sl_, la_, ft_a, ft_i, ft_l, ft_o, ft_n, ft_b0, ft_b1, ft_bI, nr_0, nr_1, nr_bI, ro_, no_, if_true, if_false, ite_true, ite_false, reduceIte, Nat.reduceMod, Nat.reduceEqDiff, Nat.zero_add, Nat.add_zero, lk_, lit_, nI_add, nI_mul, ix_nI, fgk_0, fgk_1, fgk_2, fgk_3, fgk_4, fgk_5, fgk_6, fgk_7, fgk_8, fgk_9, fgk_10, fgk_11, fgk_12, fgk_13, fsk_0, fsk_1, fsk_2, fsk_3, fsk_4, fsk_5, fsk_6, fsk_7, fsk_8, fsk_9, fsk_10, fsk_11, fsk_12, fsk_13, ca_i, ca_r, ca_n, Nat.reduceLT, true_or, or_true, if_true, false_or, or_false, and_true, true_and, List.mem_singleton, eq_self, up_s, up_n, v1, v2, ix_nI, up_up, up_c3]
      rw [D_run]
      simp (disch := first | assumption | omega) only [l31, b31_0, K31_0, R_cons, go_nx, go_jp, go_rt, go_th, go_ca, go_no, go_ite, rr_v, rr_n, rr_x, hx_n, hx_p, hx_b, I_push, I_pushl, I_fc0, I_fc1, I_dc0, I_null, I_mask, I_iload, I_lload, I_dload, I_fload, I_aload, I_istore, I_lstore, I_dstore, I_fstore, I_astore, I_iinc, I_iadd, I_isub, I_imul, I_iand, I_ior, I_ixor, I_ishl, I_ishr, I_iushr, I_ineg, I_ladd, I_lsub, I_lmul, I_lxor, I_i2l, I_l2i, I_i2b, I_i2c, I_i2f, I_i2d, I_lcmp, I_fdiv, I_ddiv, I_f2d, I_dcmp, I_dup, I_pop, I_dup_x1, I_dup2, I_icne, I_iceq, I_iclt, I_icge, I_icgt, I_icle, I_ifnull, I_ifnonnull, I_ane, I_aeq, I_goto, I_lsw, I_iret, I_lret, I_fret, I_dret, I_vret, I_nret, I_aret, I_iald, I_bald, I_lald, I_aald, I_iast, I_bast, I_last, I_aast, I_alen, I_new, I_val, I_cast, I_inst, I_obj, I_throw, I_mkx, I_getf, I_putf, I_call, I_calli, I_callv, I_clone, I_getc, i_ifeq, i_ifne, i_iflt, i_ifge, i_ifgt, i_ifle, i_idiv, i_irem, i_newa, i_newo, i_abs, i_max, i_min, i_ldiv, en_, es_i, es_r, es_0, es_n, es_l, List.length_cons, List.length_nil, List.cons_append, List.nil_append, Nat.reduceAdd, Nat.reduceSub, List.replicate, lg_, st1_, st2_, cn_, nl_, mk_, pk_, kd_, sl_, la_, ft_a, ft_i, ft_l, ft_o, ft_n, ft_b0, ft_b1, ft_bI, nr_0, nr_1, nr_bI, ro_, no_, if_true, if_false, ite_true, ite_false, reduceIte, Nat.reduceMod, Nat.reduceEqDiff, Nat.zero_add, Nat.add_zero, lk_, lit_, nI_add, nI_mul, ix_nI, fgk_0, fgk_1, fgk_2, fgk_3, fgk_4, fgk_5, fgk_6, fgk_7, fgk_8, fgk_9, fgk_10, fgk_11, fgk_12, fgk_13, fsk_0, fsk_1, fsk_2, fsk_3, fsk_4, fsk_5, fsk_6, fsk_7, fsk_8, fsk_9, fsk_10, fsk_11, fsk_12, fsk_13, ca_i, ca_r, ca_n, Nat.reduceLT, true_or, or_true, if_true, false_or, or_false, and_true, true_and, List.mem_singleton, eq_self, up_s, up_n, h1, hA2]
    · dsimp only
      rw [up_s, List.length_append]
      rfl
    · dsimp only
      rw [up_n (by omega), up_s]
    · rw [List.length_append]
      show xs.length + 1 ≤ nc
      omega
    · intro j x hj
      exact app_get (fun j x hj => by rw [g4]; exact h5 j x hj) hj
    · intro j hj
      rw [List.length_append] at hj
      have hj' : xs.length + 1 ≤ j := hj
      show va_up f' xs.length (some v) j = none
      unfold va_up
      rw [if_neg (by omega), g4]
      exact h6 j (by omega)
    · intro x hx2
      dsimp only
      rcases List.mem_append.mp hx2 with hq | hq
      · exact Ob_up (Ob_up (h7 x hq) (by have := hx1 x hq; omega)) (hxa x hq)
      · rw [List.mem_singleton] at hq
        subst hq
        exact Ob_up (Ob_up ⟨vc, vf, v1, v2⟩ (by omega)) hva
    · exact fun b hb => by
        dsimp only at hb ⊢
        rw [up_n (by omega), up_n (by omega)]
        exact hw b (by omega)
    · exact Nat.le_succ _
    · intro b d hb hba hbe
      have := Hw_lt hw hb
      dsimp only
      rw [up_n hba, up_n (by omega)]
      exact hb
    · dsimp only
      omega
    · exact Nat.le_add_right _ _
  · -- there is room
    have hlt : xs.length < cap := by omega
    obtain ⟨h4', h4n⟩ : tt = 4 ∧ ¬ E.2.2.2.1 7 = .ref e := by
      rcases h8 with ⟨q, _, q2⟩ | ⟨_, q, _⟩
      · exact ⟨q, q2⟩
      · omega
    subst h4'
    have hcp : cap = cpf_ (xs ++ [v]).length := by
      rw [List.length_append]
      show cap = cpf_ (xs.length + 1)
      rw [cpf_, if_pos (by omega)]
      exact h4.2
    have htt2 : tot_ (xs.length + 1) = tot_ xs.length := by rw [tot_, if_pos (by omega)]
    have cnI : ¬ nI xs.length = nI cap := by rw [nI_eq (by omega) (by omega)]; exact c
    refine ⟨(σ.1, σ.2.1, up_ (up_ σ.2.2 e (tR_ 4 cap (va_up f xs.length (some v)))) a (.inr (11, [.int (mc + nI 1), .ref e, .int (nI (xs.length + 1))]))), e, ?_, ⟨cap, va_up f xs.length (some v), 4, ?_, ?_, ?_, ⟨by omega, hcp⟩, ?_, ?_, ?_, Or.inl ⟨rfl, by omega, h4n⟩⟩, ⟨?_, Nat.le_refl _, Or.inl rfl, ?_⟩, ?_, Nat.le_refl _⟩
    · have hA2 : D_ E 32 [.ref a, .ref v, .ref e, .int (nI xs.length)] (σ.1, σ.2.1, up_ σ.2.2 a (.inr (11, [.int (mc + nI 1), .ref e, .int (nI xs.length)]))) = some (.inl none, (σ.1, σ.2.1, up_ (up_ σ.2.2 e (tR_ 4 cap (va_up f xs.length (some v)))) a (.inr (11, [.int (mc + nI 1), .ref e, .int (nI (xs.length + 1))])))) := by
        rw [D_run]
        simp (disch := first | assumption | omega) only [b32_0, K32_0, b32_1, K32_1, l32, R_cons, go_nx, go_jp, go_rt, go_th, go_ca, go_no, go_ite, rr_v, rr_n, rr_x, hx_n, hx_p, hx_b, I_push, I_pushl, I_fc0, I_fc1, I_dc0, I_null, I_mask, I_iload, I_lload, I_dload, I_fload, I_aload, I_istore, I_lstore, I_dstore, I_fstore, I_astore, I_iinc, I_iadd, I_isub, I_imul, I_iand, I_ior, I_ixor, I_ishl, I_ishr, I_iushr, I_ineg, I_ladd, I_lsub, I_lmul, I_lxor, I_i2l, I_l2i, I_i2b, I_i2c, I_i2f, I_i2d, I_lcmp, I_fdiv, I_ddiv, I_f2d, I_dcmp, I_dup, I_pop, I_dup_x1, I_dup2, I_icne, I_iceq, I_iclt, I_icge, I_icgt, I_icle, I_ifnull, I_ifnonnull, I_ane, I_aeq, I_goto, I_lsw, I_iret, I_lret, I_fret, I_dret, I_vret, I_nret, I_aret, I_iald, I_bald, I_lald, I_aald, I_iast, I_bast, I_last, I_aast, I_alen, I_new, I_val, I_cast, I_inst, I_obj, I_throw, I_mkx, I_getf, I_putf, I_call, I_calli, I_callv, I_clone, I_getc, i_ifeq, i_ifne, i_iflt, i_ifge, i_ifgt, i_ifle, i_idiv, i_irem, i_newa, i_newo, i_abs, i_max, i_min, i_ldiv, en_, es_i, es_r, es_0, es_n, es_l, List.length_cons, List.length_nil, List.cons_append, List.nil_append, Nat.reduceAdd, Nat.reduceSub, List.replicate, lg_, st1_, st2_, cn_, nl_, mk_, pk_, kd_, sl_, la_, ft_a, ft_i, ft_l, ft_o, ft_n, ft_b0, ft_b1, ft_bI, nr_0, nr_1, nr_bI, ro_, no_, if_true, if_false, ite_true, ite_false, reduceIte, Nat.reduceMod, Nat.reduceEqDiff, Nat.zero_add, Nat.add_zero, lk_, lit_, nI_add, nI_mul, ix_nI, fgk_0, fgk_1, fgk_2, fgk_3, fgk_4, fgk_5, fgk_6, fgk_7, fgk_8, fgk_9, fgk_10, fgk_11, fgk_12, fgk_13, fsk_0, fsk_1, fsk_2, fsk_3, fsk_4, fsk_5, fsk_6, fsk_7, fsk_8, fsk_9, fsk_10, fsk_11, fsk_12, fsk_13, ca_i, ca_r, ca_n, Nat.reduceLT, true_or, or_true, if_true, false_or, or_false, and_true, true_and, List.mem_singleton, eq_self, up_s, up_n, h1, h2, cnI, v1, v2, ix_nI, up_up, up_c3]
      rw [D_run]
      simp (disch := first | assumption | omega) only [l31, b31_0, K31_0, R_cons, go_nx, go_jp, go_rt, go_th, go_ca, go_no, go_ite, rr_v, rr_n, rr_x, hx_n, hx_p, hx_b, I_push, I_pushl, I_fc0, I_fc1, I_dc0, I_null, I_mask, I_iload, I_lload, I_dload, I_fload, I_aload, I_istore, I_lstore, I_dstore, I_fstore, I_astore, I_iinc, I_iadd, I_isub, I_imul, I_iand, I_ior, I_ixor, I_ishl, I_ishr, I_iushr, I_ineg, I_ladd, I_lsub, I_lmul, I_lxor, I_i2l, I_l2i, I_i2b, I_i2c, I_i2f, I_i2d, I_lcmp, I_fdiv, I_ddiv, I_f2d, I_dcmp, I_dup, I_pop, I_dup_x1, I_dup2, I_icne, I_iceq, I_iclt, I_icge, I_icgt, I_icle, I_ifnull, I_ifnonnull, I_ane, I_aeq, I_goto, I_lsw, I_iret, I_lret, I_fret, I_dret, I_vret, I_nret, I_aret, I_iald, I_bald, I_lald, I_aald, I_iast, I_bast, I_last, I_aast, I_alen, I_new, I_val, I_cast, I_inst, I_obj, I_throw, I_mkx, I_getf, I_putf, I_call, I_calli, I_callv, I_clone, I_getc, i_ifeq, i_ifne, i_iflt, i_ifge, i_ifgt, i_ifle, i_idiv, i_irem, i_newa, i_newo, i_abs, i_max, i_min, i_ldiv, en_, es_i, es_r, es_0, es_n, es_l, List.length_cons, List.length_nil, List.cons_append, List.nil_append, Nat.reduceAdd, Nat.reduceSub, List.replicate, lg_, st1_, st2_, cn_, nl_, mk_, pk_, kd_, sl_, la_, ft_a, ft_i, ft_l, ft_o, ft_n, ft_b0, ft_b1, ft_bI, nr_0, nr_1, nr_bI, ro_, no_, if_true, if_false, ite_true, ite_false, reduceIte, Nat.reduceMod, Nat.reduceEqDiff, Nat.zero_add, Nat.add_zero, lk_, lit_, nI_add, nI_mul, ix_nI, fgk_0, fgk_1, fgk_2, fgk_3, fgk_4, fgk_5, fgk_6, fgk_7, fgk_8, fgk_9, fgk_10, fgk_11, fgk_12, fgk_13, fsk_0, fsk_1, fsk_2, fsk_3, fsk_4, fsk_5, fsk_6, fsk_7, fsk_8, fsk_9, fsk_10, fsk_11, fsk_12, fsk_13, ca_i, ca_r, ca_n, Nat.reduceLT, true_or, or_true, if_true, false_or, or_false, and_true, true_and, List.mem_singleton, eq_self, up_s, up_n, h1, hA2]
    · dsimp only
      rw [up_s, List.length_append]
      rfl
    · dsimp only
      rw [up_n hea, up_s]
    · rw [List.length_append]
      show xs.length + 1 ≤ cap
      omega
    · intro j x hj
      exact app_get h5 hj
    · intro j hj
      rw [List.length_append] at hj
      have hj' : xs.length + 1 ≤ j := hj
      show va_up f xs.length (some v) j = none
      unfold va_up
      rw [if_neg (by omega)]
      exact h6 j (by omega)
    · intro x hx2
      dsimp only
      rcases List.mem_append.mp hx2 with hq | hq
      · exact Ob_up (Ob_up (h7 x hq) (hxe x hq)) (hxa x hq)
      · rw [List.mem_singleton] at hq
        subst hq
        exact Ob_up (Ob_up ⟨vc, vf, v1, v2⟩ hve) hva
    · exact fun b hb => by
        dsimp only at hb ⊢
        rw [up_n (by omega), up_n (by omega)]
        exact hw b hb
    · intro b d hb hba hbe
      dsimp only
      rcases hbe with q | q
      · rw [up_n hba, up_n q]
        exact hb
      · exact absurd q h4n
    · dsimp only
      omega
end JLC
