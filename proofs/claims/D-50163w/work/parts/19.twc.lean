/-! the error found: the estimates in order, the one in the middle -/
def ins_ (x : Int32) : List Int32 → List Int32
  | [] => [x]
  | y :: r => if x ≤ y then x :: y :: r else y :: ins_ x r
def srt_ : List Int32 → Prop
  | [] => True
  | y :: r => (∀ z ∈ r, y ≤ z) ∧ srt_ r
theorem ins_mem {x z : Int32} : ∀ {l : List Int32}, z ∈ ins_ x l ↔ z = x ∨ z ∈ l := by
  intro l
  induction l with
  | nil => simp [ins_]
  | cons y r ih =>
    unfold ins_
    split
    · simp
    · simp only [List.mem_cons, ih]
      constructor
      · rintro (h | h | h)
        · exact Or.inr (Or.inl h)
        · exact Or.inl h
        · exact Or.inr (Or.inr h)
      · rintro (h | h | h)
        · exact Or.inr (Or.inl h)
        · exact Or.inl h
        · exact Or.inr (Or.inr h)
theorem ins_srt {x : Int32} : ∀ {l : List Int32}, srt_ l → srt_ (ins_ x l) := by
  intro l
  induction l with
  | nil => intro _; exact ⟨fun z h => (by simp at h), trivial⟩
  | cons y r ih =>
    intro h
    unfold ins_
    split
    · next hxy =>
      refine ⟨fun z hz => ?_, h⟩
      rcases List.mem_cons.mp hz with e | e
      · rw [e]; exact hxy
      · exact Int32.le_trans hxy (h.1 z e)
    · next hxy =>
      refine ⟨fun z hz => ?_, ih h.2⟩
      rcases ins_mem.mp hz with e | e
      · rw [e]; exact Int32.le_of_lt (Int32.not_le.mp hxy)
      · exact h.1 z e
theorem ins_len {x : Int32} : ∀ {l : List Int32}, (ins_ x l).length = l.length + 1 := by
  intro l
  induction l with
  | nil => rfl
  | cons y r ih =>
    unfold ins_
    split
    · rfl
    · simp [ih]
theorem ins_hd {x : Int32} {r : List Int32} (h : ∀ z ∈ r, x ≤ z) : ins_ x r = x :: r := by
  cases r with
  | nil => rfl
  | cons y r => unfold ins_; rw [if_pos (h y (List.mem_cons_self))]
theorem ins_eq {x : Int32} : ∀ {l : List Int32} (k : Nat), srt_ l → k ≤ l.length → (∀ j, j < k → ∀ z, l[j]? = some z → z ≤ x) → (∀ j, k ≤ j → ∀ z, l[j]? = some z → x < z) → ins_ x l = l.take k ++ x :: l.drop k := by
  intro l
  induction l with
  | nil => intro k _ hk _ _; obtain rfl : k = 0 := by simpa using hk
           rfl
  | cons y r ih =>
    intro k hs hk h1 h2
    cases k with
    | zero =>
      have : x < y := h2 0 (Nat.le_refl _) y rfl
      unfold ins_
      rw [if_pos (Int32.le_of_lt this)]
      rfl
    | succ k =>
      have hy : y ≤ x := h1 0 (Nat.succ_pos _) y rfl
      have e := ih k hs.2 (by simpa using hk) (fun j hj z hz => h1 (j + 1) (by omega) z hz) (fun j hj z hz => h2 (j + 1) (by omega) z hz)
      unfold ins_
      split
      · next hxy =>
        obtain rfl : x = y := Int32.le_antisymm hxy hy
        rw [List.take_succ_cons, List.drop_succ_cons, List.cons_append, ← e, ins_hd hs.1]
      · rw [e]; rfl
theorem srt_get {y z : Int32} : ∀ {l : List Int32} {i j : Nat}, srt_ l → i < j → l[i]? = some y → l[j]? = some z → y ≤ z := by
  intro l
  induction l with
  | nil => intro i j _ _ h; simp at h
  | cons w r ih =>
    intro i j h hij h1 h2
    obtain ⟨j', rfl⟩ : ∃ j', j = j' + 1 := ⟨j - 1, by omega⟩
    rw [List.getElem?_cons_succ] at h2
    cases i with
    | zero =>
      simp at h1
      rw [← h1]
      exact h.1 z (List.mem_of_getElem? h2)
    | succ i =>
      rw [List.getElem?_cons_succ] at h1
      exact ih h.2 (by omega) h1 h2
theorem nm1_ {k : Nat} : nI (k + 1) + -nI 1 = nI k := by
  rw [← Int32.sub_eq_add_neg, nI_sub (by omega), Nat.add_sub_cancel]
/-- the array f begins with the list l -/
def Rl_ (f : Nat → Int32) (l : List Int32) : Prop := ∀ j z, l[j]? = some z → f j = z
section TWC
variable {E : En_} {σ : As_} {t : Nat} {M : Nat → Nat → Int32}
theorem found_ins {l : List Int32} {x : Int32} {a b : Nat} (hs : srt_ l) (hl : l.length < 66) : ∀ (k : Nat) (f : Nat → Int32), k ≤ l.length → (∀ j, j < k → ∀ z, l[j]? = some z → f j = z) → (∀ j, k ≤ j → ∀ z, l[j]? = some z → f (j + 1) = z ∧ x < z) →
    ∃ f', Rl_ f' (ins_ x l) ∧ R_ E 105 (B_ E 105 4) [some (.ref t), some (.int (nI l.length)), some (.int (nI a)), some (.int (nI b)), some (.int x), some (.int (nI k))] [] (tw σ t (um M 9 f)) = R_ E 105 (B_ E 105 2) [some (.ref t), some (.int (nI (l.length + 1))), some (.int (nI a)), some (.int (nI (b + 1))), none, none] [] (tw σ t (um M 9 f')) := by
  intro k
  induction k with
  | zero =>
    intro f hk h1 h2
    refine ⟨upd f 0 x, ?_, ?_⟩
    · rw [ins_eq 0 hs hk (fun j hj => absurd hj (by omega)) (fun j hj z hz => (h2 j hj z hz).2)]
      intro j z hz
      cases j with
      | zero => simp at hz; rw [← hz]; rfl
      | succ j =>
        have hz : l[j]? = some z := by simpa using hz
        rw [← (h2 j (Nat.zero_le _) z hz).1]
        rfl
    · conv => lhs; rw [b105_4]
      simp (disch := omega) only [K105_4, b105_5, K105_5, b105_6, K105_6, R_cons, go_nx, go_jp, go_rt, go_th, go_ca, go_no, go_ite, rr_v, rr_n, rr_x, hx_n, hx_p, hx_b, I_push, I_pushl, I_fc0, I_fc1, I_dc0, I_null, I_mask, I_iload, I_lload, I_dload, I_fload, I_aload, I_istore, I_lstore, I_dstore, I_fstore, I_astore, I_iinc, I_iadd, I_isub, I_imul, I_iand, I_ior, I_ixor, I_ishl, I_ishr, I_iushr, I_ineg, I_ladd, I_lsub, I_lmul, I_lxor, I_i2l, I_l2i, I_i2b, I_i2c, I_i2f, I_i2d, I_lcmp, I_fdiv, I_ddiv, I_f2d, I_dcmp, I_dup, I_pop, I_dup_x1, I_dup2, I_icne, I_iceq, I_iclt, I_icge, I_icgt, I_icle, I_ifnull, I_ifnonnull, I_ane, I_aeq, I_goto, I_tsw, I_lsw, I_iret, I_lret, I_fret, I_dret, I_vret, I_nret, I_aret, I_iald, I_bald, I_lald, I_aald, I_iast, I_bast, I_last, I_aast, I_alen, I_new, I_val, I_cast, I_inst, I_obj, I_throw, I_mkx, I_getf, I_putf, I_call, I_calli, I_callv, I_acopy, I_clone, I_getc, i_ifeq, i_ifne, i_iflt, i_ifge, i_ifgt, i_ifle, i_idiv, i_irem, i_newa, i_newo, i_abs, i_max, i_min, i_ldiv, en_, es_i, es_r, es_0, es_n, es_l, List.length_cons, List.length_nil, List.cons_append, List.nil_append, Nat.reduceAdd, Nat.reduceSub, List.replicate, lg_, st1_, st2_, cn_, nl_, mk_, pk_, kd_, sl_, la_, ft_a, ft_i, ft_l, ft_o, ft_n, ft_b0, ft_b1, ft_bI, nr_0, nr_1, nr_bI, ro_, no_, if_true, if_false, ite_true, ite_false, reduceIte, Nat.reduceMod, Nat.reduceEqDiff, Nat.zero_add, Nat.add_zero, lk_, tw_t, tw_1, tw_2, tw_3, tw_4, tw_5, tw_6, tw_9, tw_11, tw_12, tw_13, tw_14, tw_15, tw_16, tw_18, tw_19, tw_30, tg_0, tg_1, tg_2, tg_3, tg_4, tg_5, tg_6, tg_7, tg_8, tg_9, tg_10, tg_11, tg_12, tg_13, tg_14, tg_15, tg_16, tg_17, tg_18, tg_19, tg_20, tg_21, tg_22, tg_23, tg_24, tg_25, tg_26, tg_27, tg_28, tg_29, tg_30, tg_31, ts_0, ts_1, ts_2, ts_3, ts_4, ts_5, ts_6, ts_7, ts_8, ts_9, ts_10, ts_11, ts_12, ts_13, ts_14, ts_15, ts_16, ts_17, ts_18, ts_19, ts_20, ts_21, ts_22, ts_23, ts_24, ts_25, ts_26, ts_27, ts_28, ts_29, ts_30, ts_31, um_s, um_n, um_um, um_co, um_id, id_eq, lit_, nI_add, nI_mul, ix_nI, nI_leI, Nat.le_refl, nI_1]
  | succ k ih =>
    intro f hk h1 h2
    have hpos : ¬ k + 1 ≤ 0 := by omega
    obtain ⟨z, hz⟩ : ∃ z, l[k]? = some z := ⟨l[k], List.getElem?_eq_getElem hk⟩
    have hfk : f k = z := h1 k (Nat.lt_succ_self k) z hz
    by_cases hle : z ≤ x
    · refine ⟨upd f (k + 1) x, ?_, ?_⟩
      · rw [ins_eq (k + 1) hs hk (fun j hj z' hz' => ?_) (fun j hj z hz => (h2 j hj z hz).2)]
        · intro j z' hz'
          by_cases e1 : j < k + 1
          · have : l[j]? = some z' := by
              rw [List.getElem?_append_left (by simp; omega), List.getElem?_take_of_lt e1] at hz'
              exact hz'
            rw [← h1 j e1 z' this]
            exact if_neg (by omega)
          · rw [List.getElem?_append_right (by simp; omega)] at hz'
            have e0 : (List.take (k + 1) l).length = k + 1 := by simp; omega
            rw [e0] at hz'
            by_cases e2 : j = k + 1
            · rw [e2] at hz' ⊢
              rw [Nat.sub_self] at hz'
              simp at hz'
              rw [← hz']
              exact if_pos rfl
            · obtain ⟨j', rfl⟩ : ∃ j', j = j' + 1 := ⟨j - 1, by omega⟩
              rw [show j' + 1 - (k + 1) = (j' - (k + 1)) + 1 by omega, List.getElem?_cons_succ, List.getElem?_drop, show k + 1 + (j' - (k + 1)) = j' by omega] at hz'
              rw [← (h2 j' (by omega) z' hz').1]
              exact if_neg (by omega)
        · have e3 : j = k ∨ j < k := by omega
          rcases e3 with e3 | e3
          · rw [e3, hz] at hz'; cases hz'; exact hle
          · exact Int32.le_trans (srt_get hs e3 hz' hz) hle
      · conv => lhs; rw [b105_4]
        simp (disch := omega) only [K105_4, b105_5, K105_5, b105_6, K105_6, R_cons, go_nx, go_jp, go_rt, go_th, go_ca, go_no, go_ite, rr_v, rr_n, rr_x, hx_n, hx_p, hx_b, I_push, I_pushl, I_fc0, I_fc1, I_dc0, I_null, I_mask, I_iload, I_lload, I_dload, I_fload, I_aload, I_istore, I_lstore, I_dstore, I_fstore, I_astore, I_iinc, I_iadd, I_isub, I_imul, I_iand, I_ior, I_ixor, I_ishl, I_ishr, I_iushr, I_ineg, I_ladd, I_lsub, I_lmul, I_lxor, I_i2l, I_l2i, I_i2b, I_i2c, I_i2f, I_i2d, I_lcmp, I_fdiv, I_ddiv, I_f2d, I_dcmp, I_dup, I_pop, I_dup_x1, I_dup2, I_icne, I_iceq, I_iclt, I_icge, I_icgt, I_icle, I_ifnull, I_ifnonnull, I_ane, I_aeq, I_goto, I_tsw, I_lsw, I_iret, I_lret, I_fret, I_dret, I_vret, I_nret, I_aret, I_iald, I_bald, I_lald, I_aald, I_iast, I_bast, I_last, I_aast, I_alen, I_new, I_val, I_cast, I_inst, I_obj, I_throw, I_mkx, I_getf, I_putf, I_call, I_calli, I_callv, I_acopy, I_clone, I_getc, i_ifeq, i_ifne, i_iflt, i_ifge, i_ifgt, i_ifle, i_idiv, i_irem, i_newa, i_newo, i_abs, i_max, i_min, i_ldiv, en_, es_i, es_r, es_0, es_n, es_l, List.length_cons, List.length_nil, List.cons_append, List.nil_append, Nat.reduceAdd, Nat.reduceSub, List.replicate, lg_, st1_, st2_, cn_, nl_, mk_, pk_, kd_, sl_, la_, ft_a, ft_i, ft_l, ft_o, ft_n, ft_b0, ft_b1, ft_bI, nr_0, nr_1, nr_bI, ro_, no_, if_true, if_false, ite_true, ite_false, reduceIte, Nat.reduceMod, Nat.reduceEqDiff, Nat.zero_add, Nat.add_zero, lk_, tw_t, tw_1, tw_2, tw_3, tw_4, tw_5, tw_6, tw_9, tw_11, tw_12, tw_13, tw_14, tw_15, tw_16, tw_18, tw_19, tw_30, tg_0, tg_1, tg_2, tg_3, tg_4, tg_5, tg_6, tg_7, tg_8, tg_9, tg_10, tg_11, tg_12, tg_13, tg_14, tg_15, tg_16, tg_17, tg_18, tg_19, tg_20, tg_21, tg_22, tg_23, tg_24, tg_25, tg_26, tg_27, tg_28, tg_29, tg_30, tg_31, ts_0, ts_1, ts_2, ts_3, ts_4, ts_5, ts_6, ts_7, ts_8, ts_9, ts_10, ts_11, ts_12, ts_13, ts_14, ts_15, ts_16, ts_17, ts_18, ts_19, ts_20, ts_21, ts_22, ts_23, ts_24, ts_25, ts_26, ts_27, ts_28, ts_29, ts_30, ts_31, um_s, um_n, um_um, um_co, um_id, id_eq, lit_, nI_add, nI_mul, ix_nI, nI_leI, hpos, nI_sub, Nat.add_sub_cancel, hfk, hle, nI_1, if_true, if_false, not_true_eq_false, not_false_eq_true, Bool.false_eq_true, and_true, true_and, and_false, false_and, or_true, true_or, or_false, false_or, eq_self_iff_true, iff_true, iff_false, true_iff, false_iff, Classical.not_not, reduceIte]
    · obtain ⟨f', h3, h4⟩ := ih (upd f (k + 1) (f k)) (by omega) (fun j hj z' hz' => by
        rw [← h1 j (by omega) z' hz']; exact if_neg (by omega)) (fun j hj z' hz' => by
        by_cases e1 : j = k
        · rw [e1, hz] at hz'
          cases hz'
          rw [e1]
          exact ⟨(if_pos rfl).trans hfk, Int32.not_le.mp hle⟩
        · have := h2 j (by omega) z' hz'
          refine ⟨?_, this.2⟩
          rw [← this.1]
          exact if_neg (by omega))
      refine ⟨f', h3, ?_⟩
      rw [← h4]
      conv => lhs; rw [b105_4]
      simp (disch := omega) only [K105_4, R_cons, go_nx, go_jp, go_rt, go_th, go_ca, go_no, go_ite, rr_v, rr_n, rr_x, hx_n, hx_p, hx_b, I_push, I_pushl, I_fc0, I_fc1, I_dc0, I_null, I_mask, I_iload, I_lload, I_dload, I_fload, I_aload, I_istore, I_lstore, I_dstore, I_fstore, I_astore, I_iinc, I_iadd, I_isub, I_imul, I_iand, I_ior, I_ixor, I_ishl, I_ishr, I_iushr, I_ineg, I_ladd, I_lsub, I_lmul, I_lxor, I_i2l, I_l2i, I_i2b, I_i2c, I_i2f, I_i2d, I_lcmp, I_fdiv, I_ddiv, I_f2d, I_dcmp, I_dup, I_pop, I_dup_x1, I_dup2, I_icne, I_iceq, I_iclt, I_icge, I_icgt, I_icle, I_ifnull, I_ifnonnull, I_ane, I_aeq, I_goto, I_tsw, I_lsw, I_iret, I_lret, I_fret, I_dret, I_vret, I_nret, I_aret, I_iald, I_bald, I_lald, I_aald, I_iast, I_bast, I_last, I_aast, I_alen, I_new, I_val, I_cast, I_inst, I_obj, I_throw, I_mkx, I_getf, I_putf, I_call, I_calli, I_callv, I_acopy, I_clone, I_getc, i_ifeq, i_ifne, i_iflt, i_ifge, i_ifgt, i_ifle, i_idiv, i_irem, i_newa, i_newo, i_abs, i_max, i_min, i_ldiv, en_, es_i, es_r, es_0, es_n, es_l, List.length_cons, List.length_nil, List.cons_append, List.nil_append, Nat.reduceAdd, Nat.reduceSub, List.replicate, lg_, st1_, st2_, cn_, nl_, mk_, pk_, kd_, sl_, la_, ft_a, ft_i, ft_l, ft_o, ft_n, ft_b0, ft_b1, ft_bI, nr_0, nr_1, nr_bI, ro_, no_, if_true, if_false, ite_true, ite_false, reduceIte, Nat.reduceMod, Nat.reduceEqDiff, Nat.zero_add, Nat.add_zero, lk_, tw_t, tw_1, tw_2, tw_3, tw_4, tw_5, tw_6, tw_9, tw_11, tw_12, tw_13, tw_14, tw_15, tw_16, tw_18, tw_19, tw_30, tg_0, tg_1, tg_2, tg_3, tg_4, tg_5, tg_6, tg_7, tg_8, tg_9, tg_10, tg_11, tg_12, tg_13, tg_14, tg_15, tg_16, tg_17, tg_18, tg_19, tg_20, tg_21, tg_22, tg_23, tg_24, tg_25, tg_26, tg_27, tg_28, tg_29, tg_30, tg_31, ts_0, ts_1, ts_2, ts_3, ts_4, ts_5, ts_6, ts_7, ts_8, ts_9, ts_10, ts_11, ts_12, ts_13, ts_14, ts_15, ts_16, ts_17, ts_18, ts_19, ts_20, ts_21, ts_22, ts_23, ts_24, ts_25, ts_26, ts_27, ts_28, ts_29, ts_30, ts_31, um_s, um_n, um_um, um_co, um_id, id_eq, lit_, nI_add, nI_mul, ix_nI, nI_leI, hpos, nI_sub, Nat.add_sub_cancel, hfk, hle, nI_1, nm1_, if_true, if_false, not_true_eq_false, not_false_eq_true, Bool.false_eq_true, and_true, true_and, and_false, false_and, or_true, true_or, or_false, false_or, eq_self_iff_true, iff_true, iff_false, true_iff, false_iff, Classical.not_not, reduceIte]
/-- one pair; one row of pairs; all pairs -/
def fdb_ (r : Nat → Int32) (s a b : Nat) (l : List Int32) : List Int32 := if est_ r s a b = NOH then l else ins_ (est_ r s a b) l
def fda_ (r : Nat → Int32) (s n a : Nat) (l : List Int32) : List Int32 := fo_ (fdb_ r s a) (n - (a + 1)) (a + 1) l
def fdl_ (r : Nat → Int32) (n s : Nat) : List Int32 := fo_ (fda_ r s n) n 0 []
/-- the error found -/
def fnd_ (r : Nat → Int32) (n s : Nat) : Int32 := (fdl_ r n s).getD (((fdl_ r n s).length - 1) / 2) (nI 0)
def tri_ : Nat → Nat
  | 0 => 0
  | d + 1 => d + tri_ d
theorem tri_12 {n : Nat} (h : n ≤ 12) : tri_ n ≤ 66 := by
  have : ∀ n, n < 13 → tri_ n ≤ 66 := by decide
  exact this n (by omega)
theorem found_b {n s a : Nat} (hW : Wr_ (M 1) n s) (ha : a < n) (m : Nat) : ∀ (d b : Nat) (l : List Int32) (f : Nat → Int32), b + d = n → srt_ l → Rl_ f l → l.length + d + m ≤ 66 →
    ∃ f', Rl_ f' (fo_ (fdb_ (M 1) s a) d b l) ∧ srt_ (fo_ (fdb_ (M 1) s a) d b l) ∧ (fo_ (fdb_ (M 1) s a) d b l).length + m ≤ 66 ∧
    R_ E 105 (B_ E 105 2) [some (.ref t), some (.int (nI l.length)), some (.int (nI a)), some (.int (nI b)), none, none] [] (tw σ t (um M 9 f))
    = R_ E 105 (B_ E 105 1) [some (.ref t), some (.int (nI (fo_ (fdb_ (M 1) s a) d b l).length)), some (.int (nI (a + 1))), none, none, none] [] (tw σ t (um M 9 f')) := by
  have h12 := wr_n12 hW
  have hn := wr_n hW
  intro d
  induction d with
  | zero =>
    intro b l f hb hs hf hm
    refine ⟨f, hf, hs, by simpa [fo_] using hm, ?_⟩
    obtain rfl : b = n := by omega
    conv => lhs; rw [b105_2]
    simp (disch := omega) only [K105_2, b105_7, K105_7, R_cons, go_nx, go_jp, go_rt, go_th, go_ca, go_no, go_ite, rr_v, rr_n, rr_x, hx_n, hx_p, hx_b, I_push, I_pushl, I_fc0, I_fc1, I_dc0, I_null, I_mask, I_iload, I_lload, I_dload, I_fload, I_aload, I_istore, I_lstore, I_dstore, I_fstore, I_astore, I_iinc, I_iadd, I_isub, I_imul, I_iand, I_ior, I_ixor, I_ishl, I_ishr, I_iushr, I_ineg, I_ladd, I_lsub, I_lmul, I_lxor, I_i2l, I_l2i, I_i2b, I_i2c, I_i2f, I_i2d, I_lcmp, I_fdiv, I_ddiv, I_f2d, I_dcmp, I_dup, I_pop, I_dup_x1, I_dup2, I_icne, I_iceq, I_iclt, I_icge, I_icgt, I_icle, I_ifnull, I_ifnonnull, I_ane, I_aeq, I_goto, I_tsw, I_lsw, I_iret, I_lret, I_fret, I_dret, I_vret, I_nret, I_aret, I_iald, I_bald, I_lald, I_aald, I_iast, I_bast, I_last, I_aast, I_alen, I_new, I_val, I_cast, I_inst, I_obj, I_throw, I_mkx, I_getf, I_putf, I_call, I_calli, I_callv, I_acopy, I_clone, I_getc, i_ifeq, i_ifne, i_iflt, i_ifge, i_ifgt, i_ifle, i_idiv, i_irem, i_newa, i_newo, i_abs, i_max, i_min, i_ldiv, en_, es_i, es_r, es_0, es_n, es_l, List.length_cons, List.length_nil, List.cons_append, List.nil_append, Nat.reduceAdd, Nat.reduceSub, List.replicate, lg_, st1_, st2_, cn_, nl_, mk_, pk_, kd_, sl_, la_, ft_a, ft_i, ft_l, ft_o, ft_n, ft_b0, ft_b1, ft_bI, nr_0, nr_1, nr_bI, ro_, no_, if_true, if_false, ite_true, ite_false, reduceIte, Nat.reduceMod, Nat.reduceEqDiff, Nat.zero_add, Nat.add_zero, lk_, tw_t, tw_1, tw_2, tw_3, tw_4, tw_5, tw_6, tw_9, tw_11, tw_12, tw_13, tw_14, tw_15, tw_16, tw_18, tw_19, tw_30, tg_0, tg_1, tg_2, tg_3, tg_4, tg_5, tg_6, tg_7, tg_8, tg_9, tg_10, tg_11, tg_12, tg_13, tg_14, tg_15, tg_16, tg_17, tg_18, tg_19, tg_20, tg_21, tg_22, tg_23, tg_24, tg_25, tg_26, tg_27, tg_28, tg_29, tg_30, tg_31, ts_0, ts_1, ts_2, ts_3, ts_4, ts_5, ts_6, ts_7, ts_8, ts_9, ts_10, ts_11, ts_12, ts_13, ts_14, ts_15, ts_16, ts_17, ts_18, ts_19, ts_20, ts_21, ts_22, ts_23, ts_24, ts_25, ts_26, ts_27, ts_28, ts_29, ts_30, ts_31, um_s, um_n, um_um, um_co, um_id, id_eq, lit_, nI_add, nI_mul, ix_nI, T_marks, hn, nI_leI, Nat.le_refl, nI_1, fo_]
  | succ d ih =>
    intro b l f hb hs hf hm
    have hlt : ¬ n ≤ b := by omega
    have hE := T_estimateOf (E := E) (σ := σ) (t := t) (M := um M 9 f) (n := n) (s := s) (a := a) (b := b) hW (by omega) (by omega)
    by_cases c1 : est_ (M 1) s a b = NOH
    · have e1 : fdb_ (M 1) s a b l = l := if_pos c1
      obtain ⟨f', h1, h2, h3, h4⟩ := ih (b + 1) l f (by omega) hs hf (by omega)
      refine ⟨f', by rw [fo_, e1]; exact h1, by rw [fo_, e1]; exact h2, by rw [fo_, e1]; exact h3, ?_⟩
      rw [fo_, e1, ← h4]
      conv => lhs; rw [b105_2]
      simp (disch := omega) only [K105_2, b105_6, K105_6, R_cons, go_nx, go_jp, go_rt, go_th, go_ca, go_no, go_ite, rr_v, rr_n, rr_x, hx_n, hx_p, hx_b, I_push, I_pushl, I_fc0, I_fc1, I_dc0, I_null, I_mask, I_iload, I_lload, I_dload, I_fload, I_aload, I_istore, I_lstore, I_dstore, I_fstore, I_astore, I_iinc, I_iadd, I_isub, I_imul, I_iand, I_ior, I_ixor, I_ishl, I_ishr, I_iushr, I_ineg, I_ladd, I_lsub, I_lmul, I_lxor, I_i2l, I_l2i, I_i2b, I_i2c, I_i2f, I_i2d, I_lcmp, I_fdiv, I_ddiv, I_f2d, I_dcmp, I_dup, I_pop, I_dup_x1, I_dup2, I_icne, I_iceq, I_iclt, I_icge, I_icgt, I_icle, I_ifnull, I_ifnonnull, I_ane, I_aeq, I_goto, I_tsw, I_lsw, I_iret, I_lret, I_fret, I_dret, I_vret, I_nret, I_aret, I_iald, I_bald, I_lald, I_aald, I_iast, I_bast, I_last, I_aast, I_alen, I_new, I_val, I_cast, I_inst, I_obj, I_throw, I_mkx, I_getf, I_putf, I_call, I_calli, I_callv, I_acopy, I_clone, I_getc, i_ifeq, i_ifne, i_iflt, i_ifge, i_ifgt, i_ifle, i_idiv, i_irem, i_newa, i_newo, i_abs, i_max, i_min, i_ldiv, en_, es_i, es_r, es_0, es_n, es_l, List.length_cons, List.length_nil, List.cons_append, List.nil_append, Nat.reduceAdd, Nat.reduceSub, List.replicate, lg_, st1_, st2_, cn_, nl_, mk_, pk_, kd_, sl_, la_, ft_a, ft_i, ft_l, ft_o, ft_n, ft_b0, ft_b1, ft_bI, nr_0, nr_1, nr_bI, ro_, no_, if_true, if_false, ite_true, ite_false, reduceIte, Nat.reduceMod, Nat.reduceEqDiff, Nat.zero_add, Nat.add_zero, lk_, tw_t, tw_1, tw_2, tw_3, tw_4, tw_5, tw_6, tw_9, tw_11, tw_12, tw_13, tw_14, tw_15, tw_16, tw_18, tw_19, tw_30, tg_0, tg_1, tg_2, tg_3, tg_4, tg_5, tg_6, tg_7, tg_8, tg_9, tg_10, tg_11, tg_12, tg_13, tg_14, tg_15, tg_16, tg_17, tg_18, tg_19, tg_20, tg_21, tg_22, tg_23, tg_24, tg_25, tg_26, tg_27, tg_28, tg_29, tg_30, tg_31, ts_0, ts_1, ts_2, ts_3, ts_4, ts_5, ts_6, ts_7, ts_8, ts_9, ts_10, ts_11, ts_12, ts_13, ts_14, ts_15, ts_16, ts_17, ts_18, ts_19, ts_20, ts_21, ts_22, ts_23, ts_24, ts_25, ts_26, ts_27, ts_28, ts_29, ts_30, ts_31, um_s, um_n, um_um, um_co, um_id, id_eq, lit_, nI_add, nI_mul, ix_nI, T_marks, hn, nI_leI, hlt, hE, c1, nI_1, fo_, if_true, if_false, not_true_eq_false, not_false_eq_true, Bool.false_eq_true, and_true, true_and, and_false, false_and, or_true, true_or, or_false, false_or, eq_self_iff_true, iff_true, iff_false, true_iff, false_iff, Classical.not_not, reduceIte]
    · have e1 : fdb_ (M 1) s a b l = ins_ (est_ (M 1) s a b) l := if_neg c1
      obtain ⟨f1, g1, g2⟩ := found_ins (E := E) (σ := σ) (t := t) (M := M) (x := est_ (M 1) s a b) (a := a) (b := b) hs (by omega) l.length f (Nat.le_refl _) (fun j _ z hz => hf j z hz) (fun j hj z hz => by rw [List.getElem?_eq_none hj] at hz; cases hz)
      obtain ⟨f', h1, h2, h3, h4⟩ := ih (b + 1) (ins_ (est_ (M 1) s a b) l) f1 (by omega) (ins_srt hs) g1 (by rw [ins_len]; omega)
      refine ⟨f', by rw [fo_, e1]; exact h1, by rw [fo_, e1]; exact h2, by rw [fo_, e1]; exact h3, ?_⟩
      rw [fo_, e1, ← h4]
      rw [ins_len]
      rw [← g2]
      conv => lhs; rw [b105_2]
      simp (disch := omega) only [K105_2, b105_3, K105_3, b105_6, K105_6, R_cons, go_nx, go_jp, go_rt, go_th, go_ca, go_no, go_ite, rr_v, rr_n, rr_x, hx_n, hx_p, hx_b, I_push, I_pushl, I_fc0, I_fc1, I_dc0, I_null, I_mask, I_iload, I_lload, I_dload, I_fload, I_aload, I_istore, I_lstore, I_dstore, I_fstore, I_astore, I_iinc, I_iadd, I_isub, I_imul, I_iand, I_ior, I_ixor, I_ishl, I_ishr, I_iushr, I_ineg, I_ladd, I_lsub, I_lmul, I_lxor, I_i2l, I_l2i, I_i2b, I_i2c, I_i2f, I_i2d, I_lcmp, I_fdiv, I_ddiv, I_f2d, I_dcmp, I_dup, I_pop, I_dup_x1, I_dup2, I_icne, I_iceq, I_iclt, I_icge, I_icgt, I_icle, I_ifnull, I_ifnonnull, I_ane, I_aeq, I_goto, I_tsw, I_lsw, I_iret, I_lret, I_fret, I_dret, I_vret, I_nret, I_aret, I_iald, I_bald, I_lald, I_aald, I_iast, I_bast, I_last, I_aast, I_alen, I_new, I_val, I_cast, I_inst, I_obj, I_throw, I_mkx, I_getf, I_putf, I_call, I_calli, I_callv, I_acopy, I_clone, I_getc, i_ifeq, i_ifne, i_iflt, i_ifge, i_ifgt, i_ifle, i_idiv, i_irem, i_newa, i_newo, i_abs, i_max, i_min, i_ldiv, en_, es_i, es_r, es_0, es_n, es_l, List.length_cons, List.length_nil, List.cons_append, List.nil_append, Nat.reduceAdd, Nat.reduceSub, List.replicate, lg_, st1_, st2_, cn_, nl_, mk_, pk_, kd_, sl_, la_, ft_a, ft_i, ft_l, ft_o, ft_n, ft_b0, ft_b1, ft_bI, nr_0, nr_1, nr_bI, ro_, no_, if_true, if_false, ite_true, ite_false, reduceIte, Nat.reduceMod, Nat.reduceEqDiff, Nat.zero_add, Nat.add_zero, lk_, tw_t, tw_1, tw_2, tw_3, tw_4, tw_5, tw_6, tw_9, tw_11, tw_12, tw_13, tw_14, tw_15, tw_16, tw_18, tw_19, tw_30, tg_0, tg_1, tg_2, tg_3, tg_4, tg_5, tg_6, tg_7, tg_8, tg_9, tg_10, tg_11, tg_12, tg_13, tg_14, tg_15, tg_16, tg_17, tg_18, tg_19, tg_20, tg_21, tg_22, tg_23, tg_24, tg_25, tg_26, tg_27, tg_28, tg_29, tg_30, tg_31, ts_0, ts_1, ts_2, ts_3, ts_4, ts_5, ts_6, ts_7, ts_8, ts_9, ts_10, ts_11, ts_12, ts_13, ts_14, ts_15, ts_16, ts_17, ts_18, ts_19, ts_20, ts_21, ts_22, ts_23, ts_24, ts_25, ts_26, ts_27, ts_28, ts_29, ts_30, ts_31, um_s, um_n, um_um, um_co, um_id, id_eq, lit_, nI_add, nI_mul, ix_nI, T_marks, hn, nI_leI, hlt, hE, c1, nI_1, fo_, if_true, if_false, not_true_eq_false, not_false_eq_true, Bool.false_eq_true, and_true, true_and, and_false, false_and, or_true, true_or, or_false, false_or, eq_self_iff_true, iff_true, iff_false, true_iff, false_iff, Classical.not_not, reduceIte]
theorem found_a {n s : Nat} (hW : Wr_ (M 1) n s) : ∀ (d a : Nat) (l : List Int32) (f : Nat → Int32), a + d = n → srt_ l → Rl_ f l → l.length + tri_ d ≤ 66 →
    ∃ f', Rl_ f' (fo_ (fda_ (M 1) s n) d a l) ∧ srt_ (fo_ (fda_ (M 1) s n) d a l) ∧ (fo_ (fda_ (M 1) s n) d a l).length ≤ 66 ∧
    R_ E 105 (B_ E 105 1) [some (.ref t), some (.int (nI l.length)), some (.int (nI a)), none, none, none] [] (tw σ t (um M 9 f))
    = R_ E 105 (B_ E 105 8) [some (.ref t), some (.int (nI (fo_ (fda_ (M 1) s n) d a l).length)), some (.int (nI n)), none, none, none] [] (tw σ t (um M 9 f')) := by
  have h12 := wr_n12 hW
  have hn := wr_n hW
  intro d
  induction d with
  | zero =>
    intro a l f ha hs hf hm
    refine ⟨f, hf, hs, by simpa [fo_, tri_] using hm, ?_⟩
    obtain rfl : a = n := by omega
    conv => lhs; rw [b105_1]
    simp (disch := omega) only [K105_1, R_cons, go_nx, go_jp, go_rt, go_th, go_ca, go_no, go_ite, rr_v, rr_n, rr_x, hx_n, hx_p, hx_b, I_push, I_pushl, I_fc0, I_fc1, I_dc0, I_null, I_mask, I_iload, I_lload, I_dload, I_fload, I_aload, I_istore, I_lstore, I_dstore, I_fstore, I_astore, I_iinc, I_iadd, I_isub, I_imul, I_iand, I_ior, I_ixor, I_ishl, I_ishr, I_iushr, I_ineg, I_ladd, I_lsub, I_lmul, I_lxor, I_i2l, I_l2i, I_i2b, I_i2c, I_i2f, I_i2d, I_lcmp, I_fdiv, I_ddiv, I_f2d, I_dcmp, I_dup, I_pop, I_dup_x1, I_dup2, I_icne, I_iceq, I_iclt, I_icge, I_icgt, I_icle, I_ifnull, I_ifnonnull, I_ane, I_aeq, I_goto, I_tsw, I_lsw, I_iret, I_lret, I_fret, I_dret, I_vret, I_nret, I_aret, I_iald, I_bald, I_lald, I_aald, I_iast, I_bast, I_last, I_aast, I_alen, I_new, I_val, I_cast, I_inst, I_obj, I_throw, I_mkx, I_getf, I_putf, I_call, I_calli, I_callv, I_acopy, I_clone, I_getc, i_ifeq, i_ifne, i_iflt, i_ifge, i_ifgt, i_ifle, i_idiv, i_irem, i_newa, i_newo, i_abs, i_max, i_min, i_ldiv, en_, es_i, es_r, es_0, es_n, es_l, List.length_cons, List.length_nil, List.cons_append, List.nil_append, Nat.reduceAdd, Nat.reduceSub, List.replicate, lg_, st1_, st2_, cn_, nl_, mk_, pk_, kd_, sl_, la_, ft_a, ft_i, ft_l, ft_o, ft_n, ft_b0, ft_b1, ft_bI, nr_0, nr_1, nr_bI, ro_, no_, if_true, if_false, ite_true, ite_false, reduceIte, Nat.reduceMod, Nat.reduceEqDiff, Nat.zero_add, Nat.add_zero, lk_, tw_t, tw_1, tw_2, tw_3, tw_4, tw_5, tw_6, tw_9, tw_11, tw_12, tw_13, tw_14, tw_15, tw_16, tw_18, tw_19, tw_30, tg_0, tg_1, tg_2, tg_3, tg_4, tg_5, tg_6, tg_7, tg_8, tg_9, tg_10, tg_11, tg_12, tg_13, tg_14, tg_15, tg_16, tg_17, tg_18, tg_19, tg_20, tg_21, tg_22, tg_23, tg_24, tg_25, tg_26, tg_27, tg_28, tg_29, tg_30, tg_31, ts_0, ts_1, ts_2, ts_3, ts_4, ts_5, ts_6, ts_7, ts_8, ts_9, ts_10, ts_11, ts_12, ts_13, ts_14, ts_15, ts_16, ts_17, ts_18, ts_19, ts_20, ts_21, ts_22, ts_23, ts_24, ts_25, ts_26, ts_27, ts_28, ts_29, ts_30, ts_31, um_s, um_n, um_um, um_co, um_id, id_eq, lit_, nI_add, nI_mul, ix_nI, T_marks, hn, nI_leI, Nat.le_refl, nI_1, fo_]
  | succ d ih =>
    intro a l f ha hs hf hm
    have hlt : ¬ n ≤ a := by omega
    have ed : n - (a + 1) = d := by omega
    obtain ⟨f1, g1, g2, g3, g4⟩ := found_b (E := E) (σ := σ) (t := t) hW (a := a) (by omega) (tri_ d) d (a + 1) l f (by omega) hs hf (by unfold tri_ at hm; omega)
    have e1 : fda_ (M 1) s n a l = fo_ (fdb_ (M 1) s a) d (a + 1) l := by unfold fda_; rw [ed]
    rw [← e1] at g1 g2 g3 g4
    obtain ⟨f', h1, h2, h3, h4⟩ := ih (a + 1) _ f1 (by omega) g2 g1 g3
    refine ⟨f', h1, h2, h3, ?_⟩
    rw [fo_, ← h4, ← g4]
    conv => lhs; rw [b105_1]
    simp (disch := omega) only [K105_1, R_cons, go_nx, go_jp, go_rt, go_th, go_ca, go_no, go_ite, rr_v, rr_n, rr_x, hx_n, hx_p, hx_b, I_push, I_pushl, I_fc0, I_fc1, I_dc0, I_null, I_mask, I_iload, I_lload, I_dload, I_fload, I_aload, I_istore, I_lstore, I_dstore, I_fstore, I_astore, I_iinc, I_iadd, I_isub, I_imul, I_iand, I_ior, I_ixor, I_ishl, I_ishr, I_iushr, I_ineg, I_ladd, I_lsub, I_lmul, I_lxor, I_i2l, I_l2i, I_i2b, I_i2c, I_i2f, I_i2d, I_lcmp, I_fdiv, I_ddiv, I_f2d, I_dcmp, I_dup, I_pop, I_dup_x1, I_dup2, I_icne, I_iceq, I_iclt, I_icge, I_icgt, I_icle, I_ifnull, I_ifnonnull, I_ane, I_aeq, I_goto, I_tsw, I_lsw, I_iret, I_lret, I_fret, I_dret, I_vret, I_nret, I_aret, I_iald, I_bald, I_lald, I_aald, I_iast, I_bast, I_last, I_aast, I_alen, I_new, I_val, I_cast, I_inst, I_obj, I_throw, I_mkx, I_getf, I_putf, I_call, I_calli, I_callv, I_acopy, I_clone, I_getc, i_ifeq, i_ifne, i_iflt, i_ifge, i_ifgt, i_ifle, i_idiv, i_irem, i_newa, i_newo, i_abs, i_max, i_min, i_ldiv, en_, es_i, es_r, es_0, es_n, es_l, List.length_cons, List.length_nil, List.cons_append, List.nil_append, Nat.reduceAdd, Nat.reduceSub, List.replicate, lg_, st1_, st2_, cn_, nl_, mk_, pk_, kd_, sl_, la_, ft_a, ft_i, ft_l, ft_o, ft_n, ft_b0, ft_b1, ft_bI, nr_0, nr_1, nr_bI, ro_, no_, if_true, if_false, ite_true, ite_false, reduceIte, Nat.reduceMod, Nat.reduceEqDiff, Nat.zero_add, Nat.add_zero, lk_, tw_t, tw_1, tw_2, tw_3, tw_4, tw_5, tw_6, tw_9, tw_11, tw_12, tw_13, tw_14, tw_15, tw_16, tw_18, tw_19, tw_30, tg_0, tg_1, tg_2, tg_3, tg_4, tg_5, tg_6, tg_7, tg_8, tg_9, tg_10, tg_11, tg_12, tg_13, tg_14, tg_15, tg_16, tg_17, tg_18, tg_19, tg_20, tg_21, tg_22, tg_23, tg_24, tg_25, tg_26, tg_27, tg_28, tg_29, tg_30, tg_31, ts_0, ts_1, ts_2, ts_3, ts_4, ts_5, ts_6, ts_7, ts_8, ts_9, ts_10, ts_11, ts_12, ts_13, ts_14, ts_15, ts_16, ts_17, ts_18, ts_19, ts_20, ts_21, ts_22, ts_23, ts_24, ts_25, ts_26, ts_27, ts_28, ts_29, ts_30, ts_31, um_s, um_n, um_um, um_co, um_id, id_eq, lit_, nI_add, nI_mul, ix_nI, T_marks, hn, nI_leI, hlt, nI_1, if_true, if_false, not_true_eq_false, not_false_eq_true, Bool.false_eq_true, and_true, true_and, and_false, false_and, or_true, true_or, or_false, false_or, eq_self_iff_true, iff_true, iff_false, true_iff, false_iff, Classical.not_not, reduceIte]
theorem T_foundError {n s : Nat} (hW : Wr_ (M 1) n s) : ∃ f, D_ E 105 [.ref t] (tw σ t M) = some (.inl (some (.int (fnd_ (M 1) n s))), tw σ t (um M 9 f)) := by
  obtain ⟨f, h1, h2, h3, h4⟩ := found_a (E := E) (σ := σ) (t := t) hW n 0 [] (M 9) (by omega) trivial (fun j z h => by simp at h) (by rw [List.length_nil, Nat.zero_add]; exact tri_12 (wr_n12 hW))
  refine ⟨f, ?_⟩
  rw [D_run]
  have e : fo_ (fda_ (M 1) s n) n 0 [] = fdl_ (M 1) n s := rfl
  rw [e] at h1 h3 h4
  rw [um_id, List.length_nil] at h4
  unfold fnd_
  generalize fdl_ (M 1) n s = l at h1 h3 h4 ⊢
  by_cases c : l.length = 0
  · have : l = [] := List.eq_nil_of_length_eq_zero c
    subst this
    simp (disch := omega) only [b105_0, K105_0, b105_8, K105_8, b105_10, K105_10, l105, R_cons, go_nx, go_jp, go_rt, go_th, go_ca, go_no, go_ite, rr_v, rr_n, rr_x, hx_n, hx_p, hx_b, I_push, I_pushl, I_fc0, I_fc1, I_dc0, I_null, I_mask, I_iload, I_lload, I_dload, I_fload, I_aload, I_istore, I_lstore, I_dstore, I_fstore, I_astore, I_iinc, I_iadd, I_isub, I_imul, I_iand, I_ior, I_ixor, I_ishl, I_ishr, I_iushr, I_ineg, I_ladd, I_lsub, I_lmul, I_lxor, I_i2l, I_l2i, I_i2b, I_i2c, I_i2f, I_i2d, I_lcmp, I_fdiv, I_ddiv, I_f2d, I_dcmp, I_dup, I_pop, I_dup_x1, I_dup2, I_icne, I_iceq, I_iclt, I_icge, I_icgt, I_icle, I_ifnull, I_ifnonnull, I_ane, I_aeq, I_goto, I_tsw, I_lsw, I_iret, I_lret, I_fret, I_dret, I_vret, I_nret, I_aret, I_iald, I_bald, I_lald, I_aald, I_iast, I_bast, I_last, I_aast, I_alen, I_new, I_val, I_cast, I_inst, I_obj, I_throw, I_mkx, I_getf, I_putf, I_call, I_calli, I_callv, I_acopy, I_clone, I_getc, i_ifeq, i_ifne, i_iflt, i_ifge, i_ifgt, i_ifle, i_idiv, i_irem, i_newa, i_newo, i_abs, i_max, i_min, i_ldiv, en_, es_i, es_r, es_0, es_n, es_l, List.length_cons, List.length_nil, List.cons_append, List.nil_append, Nat.reduceAdd, Nat.reduceSub, List.replicate, lg_, st1_, st2_, cn_, nl_, mk_, pk_, kd_, sl_, la_, ft_a, ft_i, ft_l, ft_o, ft_n, ft_b0, ft_b1, ft_bI, nr_0, nr_1, nr_bI, ro_, no_, if_true, if_false, ite_true, ite_false, reduceIte, Nat.reduceMod, Nat.reduceEqDiff, Nat.zero_add, Nat.add_zero, lk_, tw_t, tw_1, tw_2, tw_3, tw_4, tw_5, tw_6, tw_9, tw_11, tw_12, tw_13, tw_14, tw_15, tw_16, tw_18, tw_19, tw_30, tg_0, tg_1, tg_2, tg_3, tg_4, tg_5, tg_6, tg_7, tg_8, tg_9, tg_10, tg_11, tg_12, tg_13, tg_14, tg_15, tg_16, tg_17, tg_18, tg_19, tg_20, tg_21, tg_22, tg_23, tg_24, tg_25, tg_26, tg_27, tg_28, tg_29, tg_30, tg_31, ts_0, ts_1, ts_2, ts_3, ts_4, ts_5, ts_6, ts_7, ts_8, ts_9, ts_10, ts_11, ts_12, ts_13, ts_14, ts_15, ts_16, ts_17, ts_18, ts_19, ts_20, ts_21, ts_22, ts_23, ts_24, ts_25, ts_26, ts_27, ts_28, ts_29, ts_30, ts_31, um_s, um_n, um_um, um_co, um_id, id_eq, lit_, nI_add, nI_mul, ix_nI, h4, List.length_nil, nI_eq, if_true, if_false, not_true_eq_false, not_false_eq_true, Bool.false_eq_true, and_true, true_and, and_false, false_and, or_true, true_or, or_false, false_or, eq_self_iff_true, iff_true, iff_false, true_iff, false_iff, Classical.not_not, reduceIte]
    rfl
  · simp (disch := first | omega | decide) only [b105_0, K105_0, b105_8, K105_8, b105_9, K105_9, b105_10, K105_10, l105, R_cons, go_nx, go_jp, go_rt, go_th, go_ca, go_no, go_ite, rr_v, rr_n, rr_x, hx_n, hx_p, hx_b, I_push, I_pushl, I_fc0, I_fc1, I_dc0, I_null, I_mask, I_iload, I_lload, I_dload, I_fload, I_aload, I_istore, I_lstore, I_dstore, I_fstore, I_astore, I_iinc, I_iadd, I_isub, I_imul, I_iand, I_ior, I_ixor, I_ishl, I_ishr, I_iushr, I_ineg, I_ladd, I_lsub, I_lmul, I_lxor, I_i2l, I_l2i, I_i2b, I_i2c, I_i2f, I_i2d, I_lcmp, I_fdiv, I_ddiv, I_f2d, I_dcmp, I_dup, I_pop, I_dup_x1, I_dup2, I_icne, I_iceq, I_iclt, I_icge, I_icgt, I_icle, I_ifnull, I_ifnonnull, I_ane, I_aeq, I_goto, I_tsw, I_lsw, I_iret, I_lret, I_fret, I_dret, I_vret, I_nret, I_aret, I_iald, I_bald, I_lald, I_aald, I_iast, I_bast, I_last, I_aast, I_alen, I_new, I_val, I_cast, I_inst, I_obj, I_throw, I_mkx, I_getf, I_putf, I_call, I_calli, I_callv, I_acopy, I_clone, I_getc, i_ifeq, i_ifne, i_iflt, i_ifge, i_ifgt, i_ifle, i_idiv, i_irem, i_newa, i_newo, i_abs, i_max, i_min, i_ldiv, en_, es_i, es_r, es_0, es_n, es_l, List.length_cons, List.length_nil, List.cons_append, List.nil_append, Nat.reduceAdd, Nat.reduceSub, List.replicate, lg_, st1_, st2_, cn_, nl_, mk_, pk_, kd_, sl_, la_, ft_a, ft_i, ft_l, ft_o, ft_n, ft_b0, ft_b1, ft_bI, nr_0, nr_1, nr_bI, ro_, no_, if_true, if_false, ite_true, ite_false, reduceIte, Nat.reduceMod, Nat.reduceEqDiff, Nat.zero_add, Nat.add_zero, lk_, tw_t, tw_1, tw_2, tw_3, tw_4, tw_5, tw_6, tw_9, tw_11, tw_12, tw_13, tw_14, tw_15, tw_16, tw_18, tw_19, tw_30, tg_0, tg_1, tg_2, tg_3, tg_4, tg_5, tg_6, tg_7, tg_8, tg_9, tg_10, tg_11, tg_12, tg_13, tg_14, tg_15, tg_16, tg_17, tg_18, tg_19, tg_20, tg_21, tg_22, tg_23, tg_24, tg_25, tg_26, tg_27, tg_28, tg_29, tg_30, tg_31, ts_0, ts_1, ts_2, ts_3, ts_4, ts_5, ts_6, ts_7, ts_8, ts_9, ts_10, ts_11, ts_12, ts_13, ts_14, ts_15, ts_16, ts_17, ts_18, ts_19, ts_20, ts_21, ts_22, ts_23, ts_24, ts_25, ts_26, ts_27, ts_28, ts_29, ts_30, ts_31, um_s, um_n, um_um, um_co, um_id, id_eq, lit_, nI_add, nI_mul, ix_nI, h4, List.length_nil, nI_eq, c, nI_sub, pk_div, if_true, if_false, not_true_eq_false, not_false_eq_true, Bool.false_eq_true, and_true, true_and, and_false, false_and, or_true, true_or, or_false, false_or, eq_self_iff_true, iff_true, iff_false, true_iff, false_iff, Classical.not_not, reduceIte]
    obtain ⟨z, hz⟩ : ∃ z, l[(l.length - 1) / 2]? = some z := ⟨l[(l.length - 1) / 2]'(by omega), List.getElem?_eq_getElem (by omega)⟩
    rw [h1 _ _ hz, List.getD_eq_getElem?_getD, hz]
    rfl
end TWC
