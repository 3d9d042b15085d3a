theorem wk_suf {tk : Nat → Bool} : ∀ (w1 w2 : List Nat), w2 ≠ [] → wk_ tk (w1 ++ w2) → wk_ tk w2 := by
  intro w1
  induction w1 with
  | nil => intro w2 _ h; exact h
  | cons x r ih =>
    intro w2 h2 h
    cases hr : r ++ w2 with
    | nil =>
      have := (List.append_eq_nil_iff.mp hr).2
      exact absurd this h2
    | cons y q =>
      rw [List.cons_append, hr] at h
      exact ih w2 h2 (by rw [hr]; exact h.2.2)
theorem wk_snoc {tk : Nat → Bool} {m o : Nat} (ha : adj_ tk m o) : ∀ (st : List Nat), wk_ tk (st ++ [m]) → st.getLast? ≠ some o → wk_ tk (st ++ [m, o]) := by
  intro st
  induction st with
  | nil => intro _ _; exact ⟨ha, by simp, trivial⟩
  | cons x r ih =>
    intro h hl
    cases r with
    | nil =>
      refine ⟨h.1, ?_, ha, by simp, trivial⟩
      intro e
      simp at e hl
      exact hl e.symm
    | cons y q =>
      refine ⟨h.1, ?_, ih h.2.2 (by simpa using hl)⟩
      intro e
      apply h.2.1
      cases q with
      | nil => simpa using e
      | cons z q => simpa using e
/-- the array f begins with the marks of l -/
def Rw_ (f : Nat → Int32) (l : List Nat) : Prop := ∀ i z, l[i]? = some z → f i = nI z
theorem Rw_snoc {f : Nat → Int32} {l : List Nat} {m : Nat} (h : Rw_ f l) : Rw_ (upd f l.length (nI m)) (l ++ [m]) := by
  intro i z hz
  unfold upd
  by_cases c : i < l.length
  · rw [List.getElem?_append_left c] at hz
    rw [if_neg (by omega)]
    exact h i z hz
  · rw [List.getElem?_append_right (by omega)] at hz
    have : i - l.length = 0 := by
      by_cases c2 : i - l.length = 0
      · exact c2
      · rw [List.getElem?_eq_none (by simp; omega)] at hz; cases hz
    rw [if_pos (by omega)]
    rw [this] at hz
    simp at hz
    rw [hz]
theorem Rw_pre {f : Nat → Int32} {l q : List Nat} (h : Rw_ f (l ++ q)) : Rw_ f l := by
  intro i z hz
  have hi : i < l.length := by
    by_cases c : i < l.length
    · exact c
    · rw [List.getElem?_eq_none (by omega)] at hz; cases hz
  exact h i z (by rw [List.getElem?_append_left hi]; exact hz)
section TWI
variable {E : En_} {σ : As_} {t : Nat} {M : Nat → Nat → Int32}
/-- a walk goes on from the stack st to b by the mark o -/
def gon_ (tk : Nat → Bool) (n : Nat) (st : List Nat) (o b : Nat) : Prop := ∃ w, wab_ tk o b w ∧ wk_ tk (st ++ w) ∧ ∀ z ∈ w, z < n
/-- the loop over the next marks -/
noncomputable def wkR_ (E : En_) (σ : As_) (t : Nat) (M : Nat → Nat → Int32) (j mark to : Nat) (l : Option Nat) (wy : Nat → Int32) (o : Nat) : Option (Rs_ × As_) :=
  R_ E (1000 + j) (B_ E (1000 + j) 2) [some (.ref t), some (.int (nI mark)), some (.int (nI to)), some (.int (oI_ l)), some (.int (nI o))] [] (tw σ t (um (um M 16 wy) 17 (fun _ => nI (j + 1))))
theorem walks_lp {n s to j mark : Nat} {tk : Nat → Bool} {st : List Nat} (hW : Wr_ (M 1) n s) (h14 : ∀ k, k < 144 → M 14 k = bI (tk k = true)) (hto : to < n) (hj : j < 12) (hst : st.length = j) (hwk : wk_ tk (st ++ [mark])) (hz : ∀ z ∈ st ++ [mark], z < n)
    (ih : ∀ (o : Nat) (wy : Nat → Int32), wk_ tk ((st ++ [mark]) ++ [o]) → (∀ z ∈ (st ++ [mark]) ++ [o], z < n) → Rw_ wy (st ++ [mark]) → ∃ wy' c ok, D_ E (1000 + j + 1) [.ref t, .int (nI o), .int (nI to), .int (nI mark)] (tw σ t (um (um M 16 wy) 17 (fun _ => nI (j + 1)))) = some (.inl (some (.int (bI (ok = true)))), tw σ t (um (um M 16 wy') 17 (fun _ => nI c))) ∧
      (ok = true → ∃ w, wab_ tk o to w ∧ wk_ tk ((st ++ [mark]) ++ w) ∧ (∀ z ∈ w, z < n) ∧ c = j + 1 + w.length ∧ Rw_ wy' ((st ++ [mark]) ++ w)) ∧ (ok = false → ¬ gon_ tk n (st ++ [mark]) o to ∧ c = j + 1 ∧ Rw_ wy' (st ++ [mark]))) :
    ∀ (d o : Nat) (wy : Nat → Int32), o + d = n → (∀ k, k < o → ¬ gon_ tk n (st ++ [mark]) k to) → Rw_ wy (st ++ [mark]) → ∃ wy' c ok, wkR_ E σ t M j mark to st.getLast? wy o = some (.inl (some (.int (bI (ok = true)))), tw σ t (um (um M 16 wy') 17 (fun _ => nI c))) ∧
      (ok = true → ∃ o w, wab_ tk o to w ∧ wk_ tk ((st ++ [mark]) ++ w) ∧ (∀ z ∈ w, z < n) ∧ c = j + 1 + w.length ∧ Rw_ wy' ((st ++ [mark]) ++ w)) ∧ (ok = false → (∀ k, k < n → ¬ gon_ tk n (st ++ [mark]) k to) ∧ c = j ∧ Rw_ wy' (st ++ [mark])) := by
  have h12 := wr_n12 hW
  have hn := wr_n hW
  have hm : mark < n := hz mark (by simp)
  intro d
  induction d with
  | zero =>
    intro o wy ho hno hwy
    obtain rfl : o = n := by omega
    refine ⟨wy, j, false, ?_, fun h => absurd h (by simp), fun _ => ⟨hno, rfl, hwy⟩⟩
    unfold wkR_
    rw [b1000_2 E j (by omega)]
    simp (disch := omega) only [K1000_2, b1000_4 E j (show j < 100 by omega), K1000_4, R_cons, go_nx, go_jp, go_rt, go_th, go_ca, go_no, go_ite, rr_v, rr_n, rr_x, hx_n, hx_p, hx_b, I_push, I_pushl, I_fc0, I_fc1, I_dc0, I_null, I_mask, I_iload, I_lload, I_dload, I_fload, I_aload, I_istore, I_lstore, I_dstore, I_fstore, I_astore, I_iinc, I_iadd, I_isub, I_imul, I_iand, I_ior, I_ixor, I_ishl, I_ishr, I_iushr, I_ineg, I_ladd, I_lsub, I_lmul, I_lxor, I_i2l, I_l2i, I_i2b, I_i2c, I_i2f, I_i2d, I_lcmp, I_fdiv, I_ddiv, I_f2d, I_dcmp, I_dup, I_pop, I_dup_x1, I_dup2, I_icne, I_iceq, I_iclt, I_icge, I_icgt, I_icle, I_ifnull, I_ifnonnull, I_ane, I_aeq, I_goto, I_tsw, I_lsw, I_iret, I_lret, I_fret, I_dret, I_vret, I_nret, I_aret, I_iald, I_bald, I_lald, I_aald, I_iast, I_bast, I_last, I_aast, I_alen, I_new, I_val, I_cast, I_inst, I_obj, I_throw, I_mkx, I_getf, I_putf, I_call, I_calli, I_callv, I_acopy, I_clone, I_getc, i_ifeq, i_ifne, i_iflt, i_ifge, i_ifgt, i_ifle, i_idiv, i_irem, i_newa, i_newo, i_abs, i_max, i_min, i_ldiv, en_, es_i, es_r, es_0, es_n, es_l, List.length_cons, List.length_nil, List.cons_append, List.nil_append, Nat.reduceAdd, Nat.reduceSub, List.replicate, lg_, st1_, st2_, cn_, nl_, mk_, pk_, kd_, sl_, la_, ft_a, ft_i, ft_l, ft_o, ft_n, ft_b0, ft_b1, ft_bI, nr_0, nr_1, nr_bI, ro_, no_, if_true, if_false, ite_true, ite_false, reduceIte, Nat.reduceMod, Nat.reduceEqDiff, Nat.zero_add, Nat.add_zero, lk_, tw_t, tw_1, tw_2, tw_3, tw_4, tw_5, tw_6, tw_9, tw_11, tw_12, tw_13, tw_14, tw_15, tw_16, tw_18, tw_19, tw_30, tg_0, tg_1, tg_2, tg_3, tg_4, tg_5, tg_6, tg_7, tg_8, tg_9, tg_10, tg_11, tg_12, tg_13, tg_14, tg_15, tg_16, tg_17, tg_18, tg_19, tg_20, tg_21, tg_22, tg_23, tg_24, tg_25, tg_26, tg_27, tg_28, tg_29, tg_30, tg_31, ts_0, ts_1, ts_2, ts_3, ts_4, ts_5, ts_6, ts_7, ts_8, ts_9, ts_10, ts_11, ts_12, ts_13, ts_14, ts_15, ts_16, ts_17, ts_18, ts_19, ts_20, ts_21, ts_22, ts_23, ts_24, ts_25, ts_26, ts_27, ts_28, ts_29, ts_30, ts_31, um_s, um_n, um_um, um_co, um_id, id_eq, lit_, nI_add, nI_mul, ix_nI, T_marks, hn, nI_leI, Nat.le_refl, nI_sub, Nat.add_sub_cancel]
    rfl
  | succ d ihd =>
    intro o wy ho hno hwy
    have hlt : ¬ n ≤ o := by omega
    have ho' : o < n := by omega
    have hp : pa_ mark o < 144 := pa_lt (by omega) (by omega)
    have h14' := h14 (pa_ mark o) hp
    have nxt : ¬ gon_ tk n (st ++ [mark]) o to → ∀ k, k < o + 1 → ¬ gon_ tk n (st ++ [mark]) k to := fun hg k hk => by
      by_cases e : k = o
      · rw [e]; exact hg
      · exact hno k (by omega)
    -- a walk that goes on by o
    have hgo : ∀ w, wab_ tk o to w → wk_ tk ((st ++ [mark]) ++ w) → adj_ tk mark o ∧ st.getLast? ≠ some o := by
      intro w hw hk
      cases w with
      | nil => exact absurd hw.1 id
      | cons x r =>
        have hx : x = o := by simpa using hw.2.1
        subst hx
        have h1 : wk_ tk (mark :: x :: r) := wk_suf st _ (by simp) (by rw [List.append_assoc] at hk; exact hk)
        refine ⟨h1.1, fun hl => ?_⟩
        obtain ⟨ys, hys⟩ := List.getLast?_eq_some_iff.mp hl
        have h2 : wk_ tk (x :: mark :: x :: r) := wk_suf ys _ (by simp) (by
          rw [hys] at hk
          rw [show ys ++ x :: mark :: x :: r = ys ++ [x] ++ [mark] ++ (x :: r) by simp]
          exact hk)
        exact h2.2.1 rfl
    have hng : ¬ (adj_ tk mark o ∧ st.getLast? ≠ some o) → ¬ gon_ tk n (st ++ [mark]) o to := fun h ⟨w, h1, h2, _⟩ => h (hgo w h1 h2)
    by_cases c1 : st.getLast? = some o
    · have he : wkR_ E σ t M j mark to st.getLast? wy o = wkR_ E σ t M j mark to st.getLast? wy (o + 1) := by
        unfold wkR_
        rw [c1]
        conv => lhs; rw [b1000_2 E j (by omega)]
        simp (disch := omega) only [K1000_2, b1000_3 E j (show j < 100 by omega), K1000_3, R_cons, go_nx, go_jp, go_rt, go_th, go_ca, go_no, go_ite, rr_v, rr_n, rr_x, hx_n, hx_p, hx_b, I_push, I_pushl, I_fc0, I_fc1, I_dc0, I_null, I_mask, I_iload, I_lload, I_dload, I_fload, I_aload, I_istore, I_lstore, I_dstore, I_fstore, I_astore, I_iinc, I_iadd, I_isub, I_imul, I_iand, I_ior, I_ixor, I_ishl, I_ishr, I_iushr, I_ineg, I_ladd, I_lsub, I_lmul, I_lxor, I_i2l, I_l2i, I_i2b, I_i2c, I_i2f, I_i2d, I_lcmp, I_fdiv, I_ddiv, I_f2d, I_dcmp, I_dup, I_pop, I_dup_x1, I_dup2, I_icne, I_iceq, I_iclt, I_icge, I_icgt, I_icle, I_ifnull, I_ifnonnull, I_ane, I_aeq, I_goto, I_tsw, I_lsw, I_iret, I_lret, I_fret, I_dret, I_vret, I_nret, I_aret, I_iald, I_bald, I_lald, I_aald, I_iast, I_bast, I_last, I_aast, I_alen, I_new, I_val, I_cast, I_inst, I_obj, I_throw, I_mkx, I_getf, I_putf, I_call, I_calli, I_callv, I_acopy, I_clone, I_getc, i_ifeq, i_ifne, i_iflt, i_ifge, i_ifgt, i_ifle, i_idiv, i_irem, i_newa, i_newo, i_abs, i_max, i_min, i_ldiv, en_, es_i, es_r, es_0, es_n, es_l, List.length_cons, List.length_nil, List.cons_append, List.nil_append, Nat.reduceAdd, Nat.reduceSub, List.replicate, lg_, st1_, st2_, cn_, nl_, mk_, pk_, kd_, sl_, la_, ft_a, ft_i, ft_l, ft_o, ft_n, ft_b0, ft_b1, ft_bI, nr_0, nr_1, nr_bI, ro_, no_, if_true, if_false, ite_true, ite_false, reduceIte, Nat.reduceMod, Nat.reduceEqDiff, Nat.zero_add, Nat.add_zero, lk_, tw_t, tw_1, tw_2, tw_3, tw_4, tw_5, tw_6, tw_9, tw_11, tw_12, tw_13, tw_14, tw_15, tw_16, tw_18, tw_19, tw_30, tg_0, tg_1, tg_2, tg_3, tg_4, tg_5, tg_6, tg_7, tg_8, tg_9, tg_10, tg_11, tg_12, tg_13, tg_14, tg_15, tg_16, tg_17, tg_18, tg_19, tg_20, tg_21, tg_22, tg_23, tg_24, tg_25, tg_26, tg_27, tg_28, tg_29, tg_30, tg_31, ts_0, ts_1, ts_2, ts_3, ts_4, ts_5, ts_6, ts_7, ts_8, ts_9, ts_10, ts_11, ts_12, ts_13, ts_14, ts_15, ts_16, ts_17, ts_18, ts_19, ts_20, ts_21, ts_22, ts_23, ts_24, ts_25, ts_26, ts_27, ts_28, ts_29, ts_30, ts_31, um_s, um_n, um_um, um_co, um_id, id_eq, lit_, nI_add, nI_mul, ix_nI, T_marks, hn, nI_leI, hlt, oI_, nI_1]
      rw [he]
      exact ihd (o + 1) wy (by omega) (nxt (hng fun h => h.2 c1)) hwy
    · have c1' : (nI o = oI_ st.getLast?) = False := by
        refine eq_false fun e => c1 ?_
        rcases hl : st.getLast? with _ | z
        · rw [hl] at e
          exact ((nI_m1 (show o < 2 ^ 31 by omega)).mp e).elim
        · rw [hl] at e
          have hz1 : z ∈ st := List.mem_of_getLast? hl
          have := hz z (List.mem_append_left _ hz1)
          rw [(nI_eq (show o < 2 ^ 31 by omega) (show z < 2 ^ 31 by omega)).mp e]
      by_cases c2 : o = mark
      · have he : wkR_ E σ t M j mark to st.getLast? wy o = wkR_ E σ t M j mark to st.getLast? wy (o + 1) := by
          have c2' : (nI o = nI mark) = True := eq_true (by rw [c2])
          unfold wkR_
          conv => lhs; rw [b1000_2 E j (by omega)]
          simp (disch := omega) only [K1000_2, b1000_3 E j (show j < 100 by omega), K1000_3, R_cons, go_nx, go_jp, go_rt, go_th, go_ca, go_no, go_ite, rr_v, rr_n, rr_x, hx_n, hx_p, hx_b, I_push, I_pushl, I_fc0, I_fc1, I_dc0, I_null, I_mask, I_iload, I_lload, I_dload, I_fload, I_aload, I_istore, I_lstore, I_dstore, I_fstore, I_astore, I_iinc, I_iadd, I_isub, I_imul, I_iand, I_ior, I_ixor, I_ishl, I_ishr, I_iushr, I_ineg, I_ladd, I_lsub, I_lmul, I_lxor, I_i2l, I_l2i, I_i2b, I_i2c, I_i2f, I_i2d, I_lcmp, I_fdiv, I_ddiv, I_f2d, I_dcmp, I_dup, I_pop, I_dup_x1, I_dup2, I_icne, I_iceq, I_iclt, I_icge, I_icgt, I_icle, I_ifnull, I_ifnonnull, I_ane, I_aeq, I_goto, I_tsw, I_lsw, I_iret, I_lret, I_fret, I_dret, I_vret, I_nret, I_aret, I_iald, I_bald, I_lald, I_aald, I_iast, I_bast, I_last, I_aast, I_alen, I_new, I_val, I_cast, I_inst, I_obj, I_throw, I_mkx, I_getf, I_putf, I_call, I_calli, I_callv, I_acopy, I_clone, I_getc, i_ifeq, i_ifne, i_iflt, i_ifge, i_ifgt, i_ifle, i_idiv, i_irem, i_newa, i_newo, i_abs, i_max, i_min, i_ldiv, en_, es_i, es_r, es_0, es_n, es_l, List.length_cons, List.length_nil, List.cons_append, List.nil_append, Nat.reduceAdd, Nat.reduceSub, List.replicate, lg_, st1_, st2_, cn_, nl_, mk_, pk_, kd_, sl_, la_, ft_a, ft_i, ft_l, ft_o, ft_n, ft_b0, ft_b1, ft_bI, nr_0, nr_1, nr_bI, ro_, no_, if_true, if_false, ite_true, ite_false, reduceIte, Nat.reduceMod, Nat.reduceEqDiff, Nat.zero_add, Nat.add_zero, lk_, tw_t, tw_1, tw_2, tw_3, tw_4, tw_5, tw_6, tw_9, tw_11, tw_12, tw_13, tw_14, tw_15, tw_16, tw_18, tw_19, tw_30, tg_0, tg_1, tg_2, tg_3, tg_4, tg_5, tg_6, tg_7, tg_8, tg_9, tg_10, tg_11, tg_12, tg_13, tg_14, tg_15, tg_16, tg_17, tg_18, tg_19, tg_20, tg_21, tg_22, tg_23, tg_24, tg_25, tg_26, tg_27, tg_28, tg_29, tg_30, tg_31, ts_0, ts_1, ts_2, ts_3, ts_4, ts_5, ts_6, ts_7, ts_8, ts_9, ts_10, ts_11, ts_12, ts_13, ts_14, ts_15, ts_16, ts_17, ts_18, ts_19, ts_20, ts_21, ts_22, ts_23, ts_24, ts_25, ts_26, ts_27, ts_28, ts_29, ts_30, ts_31, um_s, um_n, um_um, um_co, um_id, id_eq, lit_, nI_add, nI_mul, ix_nI, T_marks, hn, nI_leI, hlt, nI_1, c1', c2']
        rw [he]
        exact ihd (o + 1) wy (by omega) (nxt (hng fun h => h.1.1 c2.symm)) hwy
      · by_cases c3 : tk (pa_ mark o) = true
        · have hadj : adj_ tk mark o := ⟨fun e => c2 e.symm, c3⟩
          have hwk2 : wk_ tk ((st ++ [mark]) ++ [o]) := by
            rw [List.append_assoc]; exact wk_snoc hadj st hwk c1
          obtain ⟨wy', c, ok, h1, h2, h3⟩ := ih o wy hwk2 (fun z hz' => by
            rcases List.mem_append.mp hz' with q | q
            · exact hz z q
            · rw [List.mem_singleton.mp q]; exact ho') hwy
          cases ok with
          | true =>
            obtain ⟨w, g1, g2, g3, g4, g5⟩ := h2 rfl
            refine ⟨wy', c, true, ?_, fun _ => ⟨o, w, g1, g2, g3, g4, g5⟩, fun h => absurd h (by simp)⟩
            unfold wkR_
            conv => lhs; rw [b1000_2 E j (by omega)]
            simp (disch := omega) only [K1000_2, R_cons, go_nx, go_jp, go_rt, go_th, go_ca, go_no, go_ite, rr_v, rr_n, rr_x, hx_n, hx_p, hx_b, I_push, I_pushl, I_fc0, I_fc1, I_dc0, I_null, I_mask, I_iload, I_lload, I_dload, I_fload, I_aload, I_istore, I_lstore, I_dstore, I_fstore, I_astore, I_iinc, I_iadd, I_isub, I_imul, I_iand, I_ior, I_ixor, I_ishl, I_ishr, I_iushr, I_ineg, I_ladd, I_lsub, I_lmul, I_lxor, I_i2l, I_l2i, I_i2b, I_i2c, I_i2f, I_i2d, I_lcmp, I_fdiv, I_ddiv, I_f2d, I_dcmp, I_dup, I_pop, I_dup_x1, I_dup2, I_icne, I_iceq, I_iclt, I_icge, I_icgt, I_icle, I_ifnull, I_ifnonnull, I_ane, I_aeq, I_goto, I_tsw, I_lsw, I_iret, I_lret, I_fret, I_dret, I_vret, I_nret, I_aret, I_iald, I_bald, I_lald, I_aald, I_iast, I_bast, I_last, I_aast, I_alen, I_new, I_val, I_cast, I_inst, I_obj, I_throw, I_mkx, I_getf, I_putf, I_call, I_calli, I_callv, I_acopy, I_clone, I_getc, i_ifeq, i_ifne, i_iflt, i_ifge, i_ifgt, i_ifle, i_idiv, i_irem, i_newa, i_newo, i_abs, i_max, i_min, i_ldiv, en_, es_i, es_r, es_0, es_n, es_l, List.length_cons, List.length_nil, List.cons_append, List.nil_append, Nat.reduceAdd, Nat.reduceSub, List.replicate, lg_, st1_, st2_, cn_, nl_, mk_, pk_, kd_, sl_, la_, ft_a, ft_i, ft_l, ft_o, ft_n, ft_b0, ft_b1, ft_bI, nr_0, nr_1, nr_bI, ro_, no_, if_true, if_false, ite_true, ite_false, reduceIte, Nat.reduceMod, Nat.reduceEqDiff, Nat.zero_add, Nat.add_zero, lk_, tw_t, tw_1, tw_2, tw_3, tw_4, tw_5, tw_6, tw_9, tw_11, tw_12, tw_13, tw_14, tw_15, tw_16, tw_18, tw_19, tw_30, tg_0, tg_1, tg_2, tg_3, tg_4, tg_5, tg_6, tg_7, tg_8, tg_9, tg_10, tg_11, tg_12, tg_13, tg_14, tg_15, tg_16, tg_17, tg_18, tg_19, tg_20, tg_21, tg_22, tg_23, tg_24, tg_25, tg_26, tg_27, tg_28, tg_29, tg_30, tg_31, ts_0, ts_1, ts_2, ts_3, ts_4, ts_5, ts_6, ts_7, ts_8, ts_9, ts_10, ts_11, ts_12, ts_13, ts_14, ts_15, ts_16, ts_17, ts_18, ts_19, ts_20, ts_21, ts_22, ts_23, ts_24, ts_25, ts_26, ts_27, ts_28, ts_29, ts_30, ts_31, um_s, um_n, um_um, um_co, um_id, id_eq, lit_, nI_add, nI_mul, ix_nI, bI_0, bI_1, ite_b1, ite_b2, T_marks, hn, nI_leI, hlt, nI_1, c1', c2, nI_eq, T_pairOf, h14', c3, hj, h1, if_true, if_false, not_true_eq_false, not_false_eq_true, Bool.false_eq_true, and_true, true_and, and_false, false_and, or_true, true_or, or_false, false_or, eq_self_iff_true, iff_true, iff_false, true_iff, false_iff, Classical.not_not, reduceIte]
            rfl
          | false =>
            obtain ⟨g1, g2, g3⟩ := h3 rfl
            rw [g2] at h1
            have hstep : wkR_ E σ t M j mark to st.getLast? wy o = wkR_ E σ t M j mark to st.getLast? wy' (o + 1) := by
              unfold wkR_
              conv => lhs; rw [b1000_2 E j (by omega)]
              simp (disch := omega) only [K1000_2, b1000_3 E j (show j < 100 by omega), K1000_3, R_cons, go_nx, go_jp, go_rt, go_th, go_ca, go_no, go_ite, rr_v, rr_n, rr_x, hx_n, hx_p, hx_b, I_push, I_pushl, I_fc0, I_fc1, I_dc0, I_null, I_mask, I_iload, I_lload, I_dload, I_fload, I_aload, I_istore, I_lstore, I_dstore, I_fstore, I_astore, I_iinc, I_iadd, I_isub, I_imul, I_iand, I_ior, I_ixor, I_ishl, I_ishr, I_iushr, I_ineg, I_ladd, I_lsub, I_lmul, I_lxor, I_i2l, I_l2i, I_i2b, I_i2c, I_i2f, I_i2d, I_lcmp, I_fdiv, I_ddiv, I_f2d, I_dcmp, I_dup, I_pop, I_dup_x1, I_dup2, I_icne, I_iceq, I_iclt, I_icge, I_icgt, I_icle, I_ifnull, I_ifnonnull, I_ane, I_aeq, I_goto, I_tsw, I_lsw, I_iret, I_lret, I_fret, I_dret, I_vret, I_nret, I_aret, I_iald, I_bald, I_lald, I_aald, I_iast, I_bast, I_last, I_aast, I_alen, I_new, I_val, I_cast, I_inst, I_obj, I_throw, I_mkx, I_getf, I_putf, I_call, I_calli, I_callv, I_acopy, I_clone, I_getc, i_ifeq, i_ifne, i_iflt, i_ifge, i_ifgt, i_ifle, i_idiv, i_irem, i_newa, i_newo, i_abs, i_max, i_min, i_ldiv, en_, es_i, es_r, es_0, es_n, es_l, List.length_cons, List.length_nil, List.cons_append, List.nil_append, Nat.reduceAdd, Nat.reduceSub, List.replicate, lg_, st1_, st2_, cn_, nl_, mk_, pk_, kd_, sl_, la_, ft_a, ft_i, ft_l, ft_o, ft_n, ft_b0, ft_b1, ft_bI, nr_0, nr_1, nr_bI, ro_, no_, if_true, if_false, ite_true, ite_false, reduceIte, Nat.reduceMod, Nat.reduceEqDiff, Nat.zero_add, Nat.add_zero, lk_, tw_t, tw_1, tw_2, tw_3, tw_4, tw_5, tw_6, tw_9, tw_11, tw_12, tw_13, tw_14, tw_15, tw_16, tw_18, tw_19, tw_30, tg_0, tg_1, tg_2, tg_3, tg_4, tg_5, tg_6, tg_7, tg_8, tg_9, tg_10, tg_11, tg_12, tg_13, tg_14, tg_15, tg_16, tg_17, tg_18, tg_19, tg_20, tg_21, tg_22, tg_23, tg_24, tg_25, tg_26, tg_27, tg_28, tg_29, tg_30, tg_31, ts_0, ts_1, ts_2, ts_3, ts_4, ts_5, ts_6, ts_7, ts_8, ts_9, ts_10, ts_11, ts_12, ts_13, ts_14, ts_15, ts_16, ts_17, ts_18, ts_19, ts_20, ts_21, ts_22, ts_23, ts_24, ts_25, ts_26, ts_27, ts_28, ts_29, ts_30, ts_31, um_s, um_n, um_um, um_co, um_id, id_eq, lit_, nI_add, nI_mul, ix_nI, bI_0, bI_1, ite_b1, ite_b2, T_marks, hn, nI_leI, hlt, nI_1, c1', c2, nI_eq, T_pairOf, h14', c3, hj, h1, if_true, if_false, not_true_eq_false, not_false_eq_true, Bool.false_eq_true, and_true, true_and, and_false, false_and, or_true, true_or, or_false, false_or, eq_self_iff_true, iff_true, iff_false, true_iff, false_iff, Classical.not_not, reduceIte]
            rw [hstep]
            exact ihd (o + 1) wy' (by omega) (fun k hk => by
              by_cases e : k = o
              · rw [e]; exact g1
              · exact hno k (by omega)) g3
        · have he : wkR_ E σ t M j mark to st.getLast? wy o = wkR_ E σ t M j mark to st.getLast? wy (o + 1) := by
            unfold wkR_
            conv => lhs; rw [b1000_2 E j (by omega)]
            simp (disch := omega) only [K1000_2, b1000_3 E j (show j < 100 by omega), K1000_3, R_cons, go_nx, go_jp, go_rt, go_th, go_ca, go_no, go_ite, rr_v, rr_n, rr_x, hx_n, hx_p, hx_b, I_push, I_pushl, I_fc0, I_fc1, I_dc0, I_null, I_mask, I_iload, I_lload, I_dload, I_fload, I_aload, I_istore, I_lstore, I_dstore, I_fstore, I_astore, I_iinc, I_iadd, I_isub, I_imul, I_iand, I_ior, I_ixor, I_ishl, I_ishr, I_iushr, I_ineg, I_ladd, I_lsub, I_lmul, I_lxor, I_i2l, I_l2i, I_i2b, I_i2c, I_i2f, I_i2d, I_lcmp, I_fdiv, I_ddiv, I_f2d, I_dcmp, I_dup, I_pop, I_dup_x1, I_dup2, I_icne, I_iceq, I_iclt, I_icge, I_icgt, I_icle, I_ifnull, I_ifnonnull, I_ane, I_aeq, I_goto, I_tsw, I_lsw, I_iret, I_lret, I_fret, I_dret, I_vret, I_nret, I_aret, I_iald, I_bald, I_lald, I_aald, I_iast, I_bast, I_last, I_aast, I_alen, I_new, I_val, I_cast, I_inst, I_obj, I_throw, I_mkx, I_getf, I_putf, I_call, I_calli, I_callv, I_acopy, I_clone, I_getc, i_ifeq, i_ifne, i_iflt, i_ifge, i_ifgt, i_ifle, i_idiv, i_irem, i_newa, i_newo, i_abs, i_max, i_min, i_ldiv, en_, es_i, es_r, es_0, es_n, es_l, List.length_cons, List.length_nil, List.cons_append, List.nil_append, Nat.reduceAdd, Nat.reduceSub, List.replicate, lg_, st1_, st2_, cn_, nl_, mk_, pk_, kd_, sl_, la_, ft_a, ft_i, ft_l, ft_o, ft_n, ft_b0, ft_b1, ft_bI, nr_0, nr_1, nr_bI, ro_, no_, if_true, if_false, ite_true, ite_false, reduceIte, Nat.reduceMod, Nat.reduceEqDiff, Nat.zero_add, Nat.add_zero, lk_, tw_t, tw_1, tw_2, tw_3, tw_4, tw_5, tw_6, tw_9, tw_11, tw_12, tw_13, tw_14, tw_15, tw_16, tw_18, tw_19, tw_30, tg_0, tg_1, tg_2, tg_3, tg_4, tg_5, tg_6, tg_7, tg_8, tg_9, tg_10, tg_11, tg_12, tg_13, tg_14, tg_15, tg_16, tg_17, tg_18, tg_19, tg_20, tg_21, tg_22, tg_23, tg_24, tg_25, tg_26, tg_27, tg_28, tg_29, tg_30, tg_31, ts_0, ts_1, ts_2, ts_3, ts_4, ts_5, ts_6, ts_7, ts_8, ts_9, ts_10, ts_11, ts_12, ts_13, ts_14, ts_15, ts_16, ts_17, ts_18, ts_19, ts_20, ts_21, ts_22, ts_23, ts_24, ts_25, ts_26, ts_27, ts_28, ts_29, ts_30, ts_31, um_s, um_n, um_um, um_co, um_id, id_eq, lit_, nI_add, nI_mul, ix_nI, bI_0, bI_1, ite_b1, ite_b2, T_marks, hn, nI_leI, hlt, nI_1, c1', c2, nI_eq, T_pairOf, h14', c3, if_true, if_false, not_true_eq_false, not_false_eq_true, Bool.false_eq_true, and_true, true_and, and_false, false_and, or_true, true_or, or_false, false_or, eq_self_iff_true, iff_true, iff_false, true_iff, false_iff, Classical.not_not, reduceIte]
          rw [he]
          exact ihd (o + 1) wy (by omega) (nxt (hng fun h => c3 h.1.2)) hwy
theorem T_walks {n s to : Nat} {tk : Nat → Bool} {pt : Nat → Nat} (hW : Wr_ (M 1) n s) (h14 : ∀ k, k < 144 → M 14 k = bI (tk k = true)) (hF : For_ n pt tk) (hto : to < n) : ∀ (d j : Nat) (st : List Nat) (mark : Nat) (wy : Nat → Int32), j + d = 12 → st.length = j → wk_ tk (st ++ [mark]) → (∀ z ∈ st ++ [mark], z < n) → Rw_ wy st →
    ∃ wy' c ok, D_ E (1000 + j) [.ref t, .int (nI mark), .int (nI to), .int (oI_ st.getLast?)] (tw σ t (um (um M 16 wy) 17 (fun _ => nI j))) = some (.inl (some (.int (bI (ok = true)))), tw σ t (um (um M 16 wy') 17 (fun _ => nI c))) ∧
      (ok = true → ∃ w, wab_ tk mark to w ∧ wk_ tk (st ++ w) ∧ (∀ z ∈ w, z < n) ∧ c = j + w.length ∧ Rw_ wy' (st ++ w)) ∧ (ok = false → ¬ gon_ tk n st mark to ∧ c = j ∧ Rw_ wy' st) := by
  have h12 := wr_n12 hW
  intro d
  induction d with
  | zero =>
    intro j st mark wy hj hst hwk hz _
    exfalso
    have := wk_len h12 hF hwk hz
    simp at this
    omega
  | succ d ih =>
    intro j st mark wy hj hst hwk hz hwy
    have hm : mark < n := hz mark (by simp)
    have hj12 : j < 12 := by omega
    have hwy1 : Rw_ (upd wy j (nI mark)) (st ++ [mark]) := by rw [← hst]; exact Rw_snoc hwy
    by_cases c : mark = to
    · subst c
      refine ⟨upd wy j (nI mark), j + 1, true, ?_, fun _ => ⟨[mark], ⟨trivial, rfl, rfl⟩, hwk, fun z hz' => by rw [List.mem_singleton.mp hz']; exact hm, rfl, hwy1⟩, fun h => absurd h (by simp)⟩
      rw [D_run, b1000_0 E j (by omega), l1000 j (by omega)]
      simp (disch := omega) only [K1000_0, R_cons, go_nx, go_jp, go_rt, go_th, go_ca, go_no, go_ite, rr_v, rr_n, rr_x, hx_n, hx_p, hx_b, I_push, I_pushl, I_fc0, I_fc1, I_dc0, I_null, I_mask, I_iload, I_lload, I_dload, I_fload, I_aload, I_istore, I_lstore, I_dstore, I_fstore, I_astore, I_iinc, I_iadd, I_isub, I_imul, I_iand, I_ior, I_ixor, I_ishl, I_ishr, I_iushr, I_ineg, I_ladd, I_lsub, I_lmul, I_lxor, I_i2l, I_l2i, I_i2b, I_i2c, I_i2f, I_i2d, I_lcmp, I_fdiv, I_ddiv, I_f2d, I_dcmp, I_dup, I_pop, I_dup_x1, I_dup2, I_icne, I_iceq, I_iclt, I_icge, I_icgt, I_icle, I_ifnull, I_ifnonnull, I_ane, I_aeq, I_goto, I_tsw, I_lsw, I_iret, I_lret, I_fret, I_dret, I_vret, I_nret, I_aret, I_iald, I_bald, I_lald, I_aald, I_iast, I_bast, I_last, I_aast, I_alen, I_new, I_val, I_cast, I_inst, I_obj, I_throw, I_mkx, I_getf, I_putf, I_call, I_calli, I_callv, I_acopy, I_clone, I_getc, i_ifeq, i_ifne, i_iflt, i_ifge, i_ifgt, i_ifle, i_idiv, i_irem, i_newa, i_newo, i_abs, i_max, i_min, i_ldiv, en_, es_i, es_r, es_0, es_n, es_l, List.length_cons, List.length_nil, List.cons_append, List.nil_append, Nat.reduceAdd, Nat.reduceSub, List.replicate, lg_, st1_, st2_, cn_, nl_, mk_, pk_, kd_, sl_, la_, ft_a, ft_i, ft_l, ft_o, ft_n, ft_b0, ft_b1, ft_bI, nr_0, nr_1, nr_bI, ro_, no_, if_true, if_false, ite_true, ite_false, reduceIte, Nat.reduceMod, Nat.reduceEqDiff, Nat.zero_add, Nat.add_zero, lk_, tw_t, tw_1, tw_2, tw_3, tw_4, tw_5, tw_6, tw_9, tw_11, tw_12, tw_13, tw_14, tw_15, tw_16, tw_18, tw_19, tw_30, tg_0, tg_1, tg_2, tg_3, tg_4, tg_5, tg_6, tg_7, tg_8, tg_9, tg_10, tg_11, tg_12, tg_13, tg_14, tg_15, tg_16, tg_17, tg_18, tg_19, tg_20, tg_21, tg_22, tg_23, tg_24, tg_25, tg_26, tg_27, tg_28, tg_29, tg_30, tg_31, ts_0, ts_1, ts_2, ts_3, ts_4, ts_5, ts_6, ts_7, ts_8, ts_9, ts_10, ts_11, ts_12, ts_13, ts_14, ts_15, ts_16, ts_17, ts_18, ts_19, ts_20, ts_21, ts_22, ts_23, ts_24, ts_25, ts_26, ts_27, ts_28, ts_29, ts_30, ts_31, um_s, um_n, um_um, um_co, um_id, id_eq, lit_, nI_add, nI_mul, ix_nI]
      rfl
    · obtain ⟨wy', c', ok, h1, h2, h3⟩ := walks_lp (E := E) (σ := σ) (t := t) (M := M) hW h14 hto hj12 hst hwk hz (fun o wy k1 k2 k3 => by
        obtain ⟨wy', c', ok, g1, g2, g3⟩ := ih (j + 1) (st ++ [mark]) o wy (by omega) (by simp [hst]) k1 k2 k3
        refine ⟨wy', c', ok, ?_, g2, g3⟩
        rw [List.getLast?_append] at g1
        exact g1) n 0 (upd wy j (nI mark)) (by omega) (fun k hk => absurd hk (by omega)) hwy1
      have hstart : D_ E (1000 + j) [.ref t, .int (nI mark), .int (nI to), .int (oI_ st.getLast?)] (tw σ t (um (um M 16 wy) 17 (fun _ => nI j))) = wkR_ E σ t M j mark to st.getLast? (upd wy j (nI mark)) 0 := by
        unfold wkR_
        rw [D_run, b1000_0 E j (by omega), l1000 j (by omega)]
        simp (disch := omega) only [K1000_0, b1000_1 E j (show j < 100 by omega), K1000_1, R_cons, go_nx, go_jp, go_rt, go_th, go_ca, go_no, go_ite, rr_v, rr_n, rr_x, hx_n, hx_p, hx_b, I_push, I_pushl, I_fc0, I_fc1, I_dc0, I_null, I_mask, I_iload, I_lload, I_dload, I_fload, I_aload, I_istore, I_lstore, I_dstore, I_fstore, I_astore, I_iinc, I_iadd, I_isub, I_imul, I_iand, I_ior, I_ixor, I_ishl, I_ishr, I_iushr, I_ineg, I_ladd, I_lsub, I_lmul, I_lxor, I_i2l, I_l2i, I_i2b, I_i2c, I_i2f, I_i2d, I_lcmp, I_fdiv, I_ddiv, I_f2d, I_dcmp, I_dup, I_pop, I_dup_x1, I_dup2, I_icne, I_iceq, I_iclt, I_icge, I_icgt, I_icle, I_ifnull, I_ifnonnull, I_ane, I_aeq, I_goto, I_tsw, I_lsw, I_iret, I_lret, I_fret, I_dret, I_vret, I_nret, I_aret, I_iald, I_bald, I_lald, I_aald, I_iast, I_bast, I_last, I_aast, I_alen, I_new, I_val, I_cast, I_inst, I_obj, I_throw, I_mkx, I_getf, I_putf, I_call, I_calli, I_callv, I_acopy, I_clone, I_getc, i_ifeq, i_ifne, i_iflt, i_ifge, i_ifgt, i_ifle, i_idiv, i_irem, i_newa, i_newo, i_abs, i_max, i_min, i_ldiv, en_, es_i, es_r, es_0, es_n, es_l, List.length_cons, List.length_nil, List.cons_append, List.nil_append, Nat.reduceAdd, Nat.reduceSub, List.replicate, lg_, st1_, st2_, cn_, nl_, mk_, pk_, kd_, sl_, la_, ft_a, ft_i, ft_l, ft_o, ft_n, ft_b0, ft_b1, ft_bI, nr_0, nr_1, nr_bI, ro_, no_, if_true, if_false, ite_true, ite_false, reduceIte, Nat.reduceMod, Nat.reduceEqDiff, Nat.zero_add, Nat.add_zero, lk_, tw_t, tw_1, tw_2, tw_3, tw_4, tw_5, tw_6, tw_9, tw_11, tw_12, tw_13, tw_14, tw_15, tw_16, tw_18, tw_19, tw_30, tg_0, tg_1, tg_2, tg_3, tg_4, tg_5, tg_6, tg_7, tg_8, tg_9, tg_10, tg_11, tg_12, tg_13, tg_14, tg_15, tg_16, tg_17, tg_18, tg_19, tg_20, tg_21, tg_22, tg_23, tg_24, tg_25, tg_26, tg_27, tg_28, tg_29, tg_30, tg_31, ts_0, ts_1, ts_2, ts_3, ts_4, ts_5, ts_6, ts_7, ts_8, ts_9, ts_10, ts_11, ts_12, ts_13, ts_14, ts_15, ts_16, ts_17, ts_18, ts_19, ts_20, ts_21, ts_22, ts_23, ts_24, ts_25, ts_26, ts_27, ts_28, ts_29, ts_30, ts_31, um_s, um_n, um_um, um_co, um_id, id_eq, lit_, nI_add, nI_mul, ix_nI, nI_eq, c]
      rw [hstart, h1]
      refine ⟨wy', c', ok, rfl, fun ho => ?_, fun ho => ?_⟩
      · obtain ⟨o, w, k1, k2, k3, k4, k5⟩ := h2 ho
        have e : st ++ [mark] ++ w = st ++ (mark :: w) := by simp
        rw [e] at k2 k5
        have hk : wk_ tk (mark :: w) := wk_suf st _ (by simp) k2
        refine ⟨mark :: w, ⟨hk, rfl, ?_⟩, k2, ?_, by rw [k4, List.length_cons]; omega, k5⟩
        · rw [← k1.2.2]
          cases w with
          | nil => exact absurd k1.1 id
          | cons x r => simp
        · intro z hz'
          rcases List.mem_cons.mp hz' with q | q
          · rw [q]; exact hm
          · exact k3 z q
      · obtain ⟨g1, g2, g3⟩ := h3 ho
        refine ⟨?_, g2, Rw_pre g3⟩
        rintro ⟨w, k1, k2, k3⟩
        cases w with
        | nil => exact absurd k1.1 id
        | cons x r =>
          have hx : x = mark := by simpa using k1.2.1
          subst hx
          cases r with
          | nil =>
            have := k1.2.2
            simp at this
            exact c this
          | cons y q =>
            apply g1 y (k3 y (by simp))
            refine ⟨y :: q, ⟨k1.1.2.2, rfl, by have := k1.2.2; simpa using this⟩, by rw [List.append_assoc]; exact k2, fun z hz' => k3 z (List.mem_cons_of_mem _ hz')⟩
end TWI
