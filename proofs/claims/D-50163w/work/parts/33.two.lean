theorem fo_inv {α : Type} {P : α → Prop} {f : Nat → α → α} {hi : Nat} (h : ∀ i x, i < hi → P x → P (f i x)) : ∀ (d i : Nat) (x : α), i + d ≤ hi → P x → P (fo_ f d i x) := by
  intro d
  induction d with
  | zero => intro i x _ hx; exact hx
  | succ d ih => intro i x hi hx; exact ih (i + 1) _ (by omega) (h i x (by omega) hx)
theorem fo_cong {α : Type} {P : α → Prop} {f g : Nat → α → α} {hi : Nat} (h : ∀ i x, i < hi → P x → f i x = g i x ∧ P (f i x)) : ∀ (d i : Nat) (x : α), i + d ≤ hi → P x → fo_ f d i x = fo_ g d i x := by
  intro d
  induction d with
  | zero => intro i x _ hx; rfl
  | succ d ih =>
    intro i x hi hx
    rw [fo_, fo_, ← (h i x (by omega) hx).1]
    exact ih (i + 1) _ (by omega) (h i x (by omega) hx).2
/-- the next mark: it has no height, the other one has, they have an edge -/
def nhp_ (r : Nat → Int32) (n s : Nat) (k : Option Nat) : Prop := ∀ j, k = some j → j / 12 < n ∧ j % 12 < n ∧ ¬ r (8 + 5 * (j / 12) + 3) = nI 1 ∧ r (8 + 5 * (j % 12) + 3) = nI 1 ∧ edg_ r s (j % 12) (j / 12)
theorem nh1_p {r far : Nat → Int32} {n s a b : Nat} {k : Option Nat} (hn : n ≤ 12) (ha : a < n) (hb : b < n) (h : nhp_ r n s k) : nhp_ r n s (nh1_ r far s b a k) := by
  have e1 : (12 * b + a) / 12 = b := by omega
  have e2 : (12 * b + a) % 12 = a := by omega
  unfold nh1_
  by_cases c1 : r (8 + 5 * b + 3) = nI 1
  · rw [if_pos c1]; exact h
  · rw [if_neg c1]
    by_cases c2 : r (8 + 5 * a + 3) = nI 1
    · rw [if_pos c2]
      by_cases c3 : edg_ r s a b
      · rw [if_pos c3]
        have hk : nhp_ r n s (some (12 * b + a)) := fun j hj => by
          cases hj
          rw [e1, e2]
          exact ⟨hb, ha, c1, c2, c3⟩
        cases k with
        | none => exact hk
        | some j =>
          dsimp only
          split
          · exact hk
          · exact h
      · rw [if_neg c3]; exact h
    · rw [if_neg c2]; exact h
theorem nh_p {r far : Nat → Int32} {n s : Nat} (hn : n ≤ 12) : nhp_ r n s (nh_ r far n s) := by
  unfold nh_
  refine fo_inv (P := nhp_ r n s) (hi := n) (fun b k hb hk => ?_) n 0 none (by omega) (fun j hj => by cases hj)
  exact fo_inv (P := nhp_ r n s) (hi := n) (fun a k ha hk => nh1_p hn ha hb hk) n 0 k (by omega) hk
theorem nh_cong {r far far' : Nat → Int32} {n s : Nat} (hn : n ≤ 12) (h : ∀ k, k < n → far k = far' k) : nh_ r far n s = nh_ r far' n s := by
  unfold nh_
  refine fo_cong (P := nhp_ r n s) (hi := n) (fun b k hb hk => ⟨?_, ?_⟩) n 0 none (by omega) (fun j hj => by cases hj)
  · refine fo_cong (P := nhp_ r n s) (hi := n) (fun a k ha hk => ⟨?_, nh1_p hn ha hb hk⟩) n 0 k (by omega) hk
    unfold nh1_
    rw [h a ha]
    cases k with
    | none => rfl
    | some j => dsimp only; rw [h (j % 12) (hk j rfl).2.1]
  · exact fo_inv (P := nhp_ r n s) (hi := n) (fun a k ha hk => nh1_p hn ha hb hk) n 0 k (by omega) hk
theorem lv_cong {e : Int32} {n s : Nat} (hn : n ≤ 12) : ∀ (f : Nat) (r far far' : Nat → Int32), (∀ k, k < n → far k = far' k) → lv_ e n s f r far = lv_ e n s f r far' := by
  intro f
  induction f with
  | zero => intro r far far' _; rfl
  | succ f ih =>
    intro r far far' h
    unfold lv_
    rw [nh_cong hn h]
    rcases hj : nh_ r far' n s with _ | j
    · rfl
    · have hp := nh_p (r := r) (far := far') (s := s) hn j hj
      refine ih _ _ _ (fun k hk => ?_)
      unfold lvf_ upd
      rw [h _ hp.2.1, h k hk]
/-- marks without a height -/
def mh1_ (r : Nat → Int32) (a c : Nat) : Nat := if r (8 + 5 * a + 3) = nI 1 then c else c + 1
def mh_ (r : Nat → Int32) (n : Nat) : Nat := fo_ (mh1_ r) n 0 0
theorem mh_c {r : Nat → Int32} : ∀ (d i c : Nat), fo_ (mh1_ r) d i c = c + fo_ (mh1_ r) d i 0 := by
  intro d
  induction d with
  | zero => intro i c; rfl
  | succ d ih =>
    intro i c
    rw [fo_, fo_, ih (i + 1) (mh1_ r i c), ih (i + 1) (mh1_ r i 0)]
    unfold mh1_
    split <;> omega
theorem mh_le {r r' : Nat → Int32} (h : ∀ k, r (8 + 5 * k + 3) = nI 1 → r' (8 + 5 * k + 3) = nI 1) : ∀ (d i : Nat), fo_ (mh1_ r') d i 0 ≤ fo_ (mh1_ r) d i 0 := by
  intro d
  induction d with
  | zero => intro i; exact Nat.le_refl _
  | succ d ih =>
    intro i
    rw [fo_, fo_, mh_c d, mh_c d (i + 1) (mh1_ r i 0)]
    have h1 := ih (i + 1)
    have h2 : mh1_ r' i 0 ≤ mh1_ r i 0 := by
      unfold mh1_
      by_cases c : r (8 + 5 * i + 3) = nI 1
      · rw [if_pos c, if_pos (h i c)]; exact Nat.le_refl _
      · rw [if_neg c]; split <;> omega
    omega
theorem mh_lt {r r' : Nat → Int32} (h : ∀ k, r (8 + 5 * k + 3) = nI 1 → r' (8 + 5 * k + 3) = nI 1) {m : Nat} (h1 : ¬ r (8 + 5 * m + 3) = nI 1) (h2 : r' (8 + 5 * m + 3) = nI 1) : ∀ (d i : Nat), i ≤ m → m < i + d → fo_ (mh1_ r') d i 0 < fo_ (mh1_ r) d i 0 := by
  intro d
  induction d with
  | zero => intro i h3 h4; omega
  | succ d ih =>
    intro i h3 h4
    rw [fo_, fo_, mh_c d, mh_c d (i + 1) (mh1_ r i 0)]
    by_cases e : i = m
    · subst e
      have h5 := mh_le h d (i + 1)
      have h6 : mh1_ r' i 0 = 0 := if_pos h2
      have h7 : mh1_ r i 0 = 1 := if_neg h1
      omega
    · have h5 := ih (i + 1) (by omega) (by omega)
      have h6 : mh1_ r' i 0 ≤ mh1_ r i 0 := by
        unfold mh1_
        by_cases c : r (8 + 5 * i + 3) = nI 1
        · rw [if_pos c, if_pos (h i c)]; exact Nat.le_refl _
        · rw [if_neg c]; split <;> omega
      omega
theorem mh_0 {r : Nat → Int32} {m : Nat} (h1 : ¬ r (8 + 5 * m + 3) = nI 1) : ∀ (d i : Nat), i ≤ m → m < i + d → 0 < fo_ (mh1_ r) d i 0 := by
  intro d
  induction d with
  | zero => intro i h3 h4; omega
  | succ d ih =>
    intro i h3 h4
    rw [fo_, mh_c d]
    by_cases e : i = m
    · subst e
      have h7 : mh1_ r i 0 = 1 := if_neg h1
      omega
    · have h5 := ih (i + 1) (by omega) (by omega)
      omega
theorem lvr_hs {r : Nat → Int32} {e : Int32} {s a b : Nat} (hb : b < 12) : hs_ r (lvr_ r e s a b) := by
  intro i hi
  unfold lvr_ upd
  rw [if_neg (by omega), if_neg (by omega)]
theorem hs_trans {r r' r'' : Nat → Int32} (h : hs_ r r') (h2 : hs_ r' r'') : hs_ r r'' := fun i hi => (h2 i hi).trans (h i hi)
theorem lvr_Wr {r : Nat → Int32} {e : Int32} {n s a b : Nat} (hW : Wr_ r n s) (hb : b < n) : Wr_ (lvr_ r e s a b) n s := by
  have h12 := wr_n12 hW
  refine hs_Wr (lvr_hs (by omega)) hW (fun k hk => ?_)
  have hk' := hW.2.2.2.2.2.2.2.2.2.2.1 k hk
  unfold lvr_ upd
  by_cases c : k = b
  · subst c
    rw [if_neg (by omega), if_pos rfl]
    exact ⟨Or.inr rfl, fun _ => rfl⟩
  · rw [if_neg (by omega), if_neg (by omega), if_neg (by omega), if_neg (by omega)]
    exact ⟨hk'.2.2.2.1, hk'.2.2.2.2⟩
theorem upd_n {f : Nat → Int32} {k j : Nat} {x : Int32} (h : j ≠ k) : upd f k x j = f j := if_neg h
theorem upd_s {f : Nat → Int32} {k : Nat} {x : Int32} : upd f k x k = x := if_pos rfl
section TWO
variable {E : En_} {σ : As_} {t : Nat} {M : Nat → Nat → Int32}
/-- the state while heights are laid -/
theorem lev_lp {n s : Nat} {e : Int32} : ∀ (f : Nat) (M : Nat → Nat → Int32) (u v : Option Value), Wr_ (M 1) n s → Ed_ M n s e → mh_ (M 1) n ≤ f →
    ∃ g, R_ E 192 (B_ E 192 3) [some (.ref t), some (.int (oI_ (nh_ (M 1) (M 18) n s))), u, v] [] (tw σ t M) = some (.inl none, tw σ t (um (um M 1 (lv_ e n s f (M 1) (M 18))) 18 g)) ∧ hs_ (M 1) (lv_ e n s f (M 1) (M 18)) ∧ Wr_ (lv_ e n s f (M 1) (M 18)) n s := by
  intro f
  induction f with
  | zero =>
    intro M u v hW hE hm
    have h12 := wr_n12 hW
    have hno : nh_ (M 1) (M 18) n s = none := by
      rcases hj : nh_ (M 1) (M 18) n s with _ | j
      · rfl
      · exfalso
        have hp := nh_p (r := M 1) (far := M 18) (s := s) h12 j hj
        have := mh_0 (r := M 1) hp.2.2.1 n 0 (by omega) (by omega)
        unfold mh_ at hm
        omega
    refine ⟨M 18, ?_, fun i hi => rfl, hW⟩
    have e1 : um (um M 1 (lv_ e n s 0 (M 1) (M 18))) 18 (M 18) = M := by
      unfold lv_
      rw [um_id, um_id]
    rw [e1, hno, b192_3]
    simp (disch := omega) only [K192_3, b192_4, K192_4, R_cons, go_nx, go_jp, go_rt, go_th, go_ca, go_no, go_ite, rr_v, rr_n, rr_x, hx_n, hx_p, hx_b, I_push, I_pushl, I_fc0, I_fc1, I_dc0, I_null, I_mask, I_iload, I_lload, I_dload, I_fload, I_aload, I_istore, I_lstore, I_dstore, I_fstore, I_astore, I_iinc, I_iadd, I_isub, I_imul, I_iand, I_ior, I_ixor, I_ishl, I_ishr, I_iushr, I_ineg, I_ladd, I_lsub, I_lmul, I_lxor, I_i2l, I_l2i, I_i2b, I_i2c, I_i2f, I_i2d, I_lcmp, I_fdiv, I_ddiv, I_f2d, I_dcmp, I_dup, I_pop, I_dup_x1, I_dup2, I_icne, I_iceq, I_iclt, I_icge, I_icgt, I_icle, I_ifnull, I_ifnonnull, I_ane, I_aeq, I_goto, I_tsw, I_lsw, I_iret, I_lret, I_fret, I_dret, I_vret, I_nret, I_aret, I_iald, I_bald, I_lald, I_aald, I_iast, I_bast, I_last, I_aast, I_alen, I_new, I_val, I_cast, I_inst, I_obj, I_throw, I_mkx, I_getf, I_putf, I_call, I_calli, I_callv, I_acopy, I_clone, I_getc, i_ifeq, i_ifne, i_iflt, i_ifge, i_ifgt, i_ifle, i_idiv, i_irem, i_newa, i_newo, i_abs, i_max, i_min, i_ldiv, en_, es_i, es_r, es_0, es_n, es_l, List.length_cons, List.length_nil, List.cons_append, List.nil_append, Nat.reduceAdd, Nat.reduceSub, List.replicate, lg_, st1_, st2_, cn_, nl_, mk_, pk_, kd_, sl_, la_, ft_a, ft_i, ft_l, ft_o, ft_n, ft_b0, ft_b1, ft_bI, nr_0, nr_1, nr_bI, ro_, no_, if_true, if_false, ite_true, ite_false, reduceIte, Nat.reduceMod, Nat.reduceEqDiff, Nat.zero_add, Nat.add_zero, lk_, tw_t, tw_1, tw_2, tw_3, tw_4, tw_5, tw_6, tw_9, tw_11, tw_12, tw_13, tw_14, tw_15, tw_16, tw_18, tw_19, tw_30, tg_0, tg_1, tg_2, tg_3, tg_4, tg_5, tg_6, tg_7, tg_8, tg_9, tg_10, tg_11, tg_12, tg_13, tg_14, tg_15, tg_16, tg_17, tg_18, tg_19, tg_20, tg_21, tg_22, tg_23, tg_24, tg_25, tg_26, tg_27, tg_28, tg_29, tg_30, tg_31, ts_0, ts_1, ts_2, ts_3, ts_4, ts_5, ts_6, ts_7, ts_8, ts_9, ts_10, ts_11, ts_12, ts_13, ts_14, ts_15, ts_16, ts_17, ts_18, ts_19, ts_20, ts_21, ts_22, ts_23, ts_24, ts_25, ts_26, ts_27, ts_28, ts_29, ts_30, ts_31, um_s, um_n, um_um, um_co, um_id, id_eq, lit_, nI_add, nI_mul, ix_nI, oI_]
  | succ f ih =>
    intro M u v hW hE hm
    have h12 := wr_n12 hW
    have hN := T_nextHeight (E := E) (σ := σ) (t := t) hW hE
    rcases hj : nh_ (M 1) (M 18) n s with _ | j
    · refine ⟨M 18, ?_, ?_, ?_⟩
      · have e1 : um (um M 1 (lv_ e n s (f + 1) (M 1) (M 18))) 18 (M 18) = M := by
          unfold lv_
          rw [hj]
          rw [um_id, um_id]
        rw [e1, b192_3]
        simp (disch := omega) only [K192_3, b192_4, K192_4, R_cons, go_nx, go_jp, go_rt, go_th, go_ca, go_no, go_ite, rr_v, rr_n, rr_x, hx_n, hx_p, hx_b, I_push, I_pushl, I_fc0, I_fc1, I_dc0, I_null, I_mask, I_iload, I_lload, I_dload, I_fload, I_aload, I_istore, I_lstore, I_dstore, I_fstore, I_astore, I_iinc, I_iadd, I_isub, I_imul, I_iand, I_ior, I_ixor, I_ishl, I_ishr, I_iushr, I_ineg, I_ladd, I_lsub, I_lmul, I_lxor, I_i2l, I_l2i, I_i2b, I_i2c, I_i2f, I_i2d, I_lcmp, I_fdiv, I_ddiv, I_f2d, I_dcmp, I_dup, I_pop, I_dup_x1, I_dup2, I_icne, I_iceq, I_iclt, I_icge, I_icgt, I_icle, I_ifnull, I_ifnonnull, I_ane, I_aeq, I_goto, I_tsw, I_lsw, I_iret, I_lret, I_fret, I_dret, I_vret, I_nret, I_aret, I_iald, I_bald, I_lald, I_aald, I_iast, I_bast, I_last, I_aast, I_alen, I_new, I_val, I_cast, I_inst, I_obj, I_throw, I_mkx, I_getf, I_putf, I_call, I_calli, I_callv, I_acopy, I_clone, I_getc, i_ifeq, i_ifne, i_iflt, i_ifge, i_ifgt, i_ifle, i_idiv, i_irem, i_newa, i_newo, i_abs, i_max, i_min, i_ldiv, en_, es_i, es_r, es_0, es_n, es_l, List.length_cons, List.length_nil, List.cons_append, List.nil_append, Nat.reduceAdd, Nat.reduceSub, List.replicate, lg_, st1_, st2_, cn_, nl_, mk_, pk_, kd_, sl_, la_, ft_a, ft_i, ft_l, ft_o, ft_n, ft_b0, ft_b1, ft_bI, nr_0, nr_1, nr_bI, ro_, no_, if_true, if_false, ite_true, ite_false, reduceIte, Nat.reduceMod, Nat.reduceEqDiff, Nat.zero_add, Nat.add_zero, lk_, tw_t, tw_1, tw_2, tw_3, tw_4, tw_5, tw_6, tw_9, tw_11, tw_12, tw_13, tw_14, tw_15, tw_16, tw_18, tw_19, tw_30, tg_0, tg_1, tg_2, tg_3, tg_4, tg_5, tg_6, tg_7, tg_8, tg_9, tg_10, tg_11, tg_12, tg_13, tg_14, tg_15, tg_16, tg_17, tg_18, tg_19, tg_20, tg_21, tg_22, tg_23, tg_24, tg_25, tg_26, tg_27, tg_28, tg_29, tg_30, tg_31, ts_0, ts_1, ts_2, ts_3, ts_4, ts_5, ts_6, ts_7, ts_8, ts_9, ts_10, ts_11, ts_12, ts_13, ts_14, ts_15, ts_16, ts_17, ts_18, ts_19, ts_20, ts_21, ts_22, ts_23, ts_24, ts_25, ts_26, ts_27, ts_28, ts_29, ts_30, ts_31, um_s, um_n, um_um, um_co, um_id, id_eq, lit_, nI_add, nI_mul, ix_nI, oI_]
      · unfold lv_; rw [hj]; exact fun i hi => rfl
      · unfold lv_; rw [hj]; exact hW
    · have hp := nh_p (r := M 1) (far := M 18) (s := s) h12 j hj
      have ha := hp.2.1
      have hb := hp.1
      have hW1 : Wr_ (lvr_ (M 1) e s (j % 12) (j / 12)) n s := lvr_Wr hW hb
      have hh1 : hs_ (M 1) (lvr_ (M 1) e s (j % 12) (j / 12)) := lvr_hs (by omega)
      obtain ⟨M1, hM1⟩ : ∃ M1, M1 = um (um M 1 (lvr_ (M 1) e s (j % 12) (j / 12))) 18 (lvf_ (M 1) (M 18) (j % 12) (j / 12)) := ⟨_, rfl⟩
      have hE1 : Ed_ M1 n s e := by rw [hM1]; exact hs_Ed (M := M) (r' := lvr_ (M 1) e s (j % 12) (j / 12)) hh1 hE
      have m1 : M1 1 = lvr_ (M 1) e s (j % 12) (j / 12) := by rw [hM1]; rfl
      have m18 : M1 18 = lvf_ (M 1) (M 18) (j % 12) (j / 12) := by rw [hM1]; rfl
      have hlt := mh_lt (r := M 1) (r' := lvr_ (M 1) e s (j % 12) (j / 12)) (m := j / 12) (fun k hk => by
        unfold lvr_ upd
        by_cases c : k = j / 12
        · subst c; rw [if_neg (by omega), if_pos rfl]
        · rw [if_neg (by omega), if_neg (by omega)]; exact hk) hp.2.2.1 (by unfold lvr_ upd; rw [if_neg (by omega), if_pos rfl]) n 0 (by omega) (by omega)
      obtain ⟨g, h1, h2, h3⟩ := ih M1 (some (.int (nI (j / 12)))) (some (.int (nI (j % 12)))) (by rw [m1]; exact hW1) hE1 (by rw [m1]; unfold mh_ at hm ⊢; omega)
      have hN1 := T_nextHeight (E := E) (σ := σ) (t := t) (M := M1) (n := n) (s := s) (e := e) (by rw [m1]; exact hW1) hE1
      have hh0 : hs_ (M 1) (upd (M 1) (8 + 5 * (j / 12) + 3) (nI 1)) := fun i hi => upd_n (by omega)
      have hW0 : Wr_ (upd (M 1) (8 + 5 * (j / 12) + 3) (nI 1)) n s := hs_Wr hh0 hW (fun k hk => by
        have hk' := hW.2.2.2.2.2.2.2.2.2.2.1 k hk
        by_cases c : k = j / 12
        · subst c; rw [upd_s]; exact ⟨Or.inr rfl, fun _ => rfl⟩
        · rw [upd_n (by omega), upd_n (by omega)]; exact ⟨hk'.2.2.2.1, hk'.2.2.2.2⟩)
      have hR := T_riseFrom (E := E) (σ := σ) (t := t) (M := um M 1 (upd (M 1) (8 + 5 * (j / 12) + 3) (nI 1))) (n := n) (s := s) (e := e) (a := j % 12) (b := j / 12) hW0 (hs_Ed hh0 hE) ha hb
      rw [show rf_ (um M 1 (upd (M 1) (8 + 5 * (j / 12) + 3) (nI 1)) 1) = rf_ (M 1) from hs_rf hh0] at hR
      have hd : di_ (upd (upd (M 1) (8 + 5 * (j / 12) + 3) (nI 1)) (8 + 5 * (j / 12) + 4) (M 1 (8 + 5 * (j % 12) + 4) + rf_ (M 1) e s (j % 12) (j / 12))) = di_ (M 1) := hs_di hh1
      have hM1' : um (um M 1 (upd (upd (M 1) (8 + 5 * (j / 12) + 3) (nI 1)) (8 + 5 * (j / 12) + 4) (M 1 (8 + 5 * (j % 12) + 4) + rf_ (M 1) e s (j % 12) (j / 12)))) 18 (upd (M 18) (j / 12) (M 18 (j % 12) + di_ (M 1) (j % 12) (j / 12))) = M1 := hM1.symm
      have ho : oI_ (some j) = nI j := rfl
      have e2 : lv_ e n s (f + 1) (M 1) (M 18) = lv_ e n s f (M1 1) (M1 18) := by
        rw [m1, m18]
        conv => lhs; unfold lv_
        rw [hj]
      rw [e2]
      refine ⟨g, ?_, ?_, h3⟩
      · have e3 : um (um M 1 (lv_ e n s f (M1 1) (M1 18))) 18 g = um (um M1 1 (lv_ e n s f (M1 1) (M1 18))) 18 g := by
          generalize lv_ e n s f (M1 1) (M1 18) = q
          rw [hM1]
          simp (disch := omega) only [um_s, um_n, um_um, um_co, um_id, id_eq]
        rw [e3, ← h1]
        conv => lhs; rw [b192_3]
        simp (disch := first | omega | decide) only [K192_3, R_cons, go_nx, go_jp, go_rt, go_th, go_ca, go_no, go_ite, rr_v, rr_n, rr_x, hx_n, hx_p, hx_b, I_push, I_pushl, I_fc0, I_fc1, I_dc0, I_null, I_mask, I_iload, I_lload, I_dload, I_fload, I_aload, I_istore, I_lstore, I_dstore, I_fstore, I_astore, I_iinc, I_iadd, I_isub, I_imul, I_iand, I_ior, I_ixor, I_ishl, I_ishr, I_iushr, I_ineg, I_ladd, I_lsub, I_lmul, I_lxor, I_i2l, I_l2i, I_i2b, I_i2c, I_i2f, I_i2d, I_lcmp, I_fdiv, I_ddiv, I_f2d, I_dcmp, I_dup, I_pop, I_dup_x1, I_dup2, I_icne, I_iceq, I_iclt, I_icge, I_icgt, I_icle, I_ifnull, I_ifnonnull, I_ane, I_aeq, I_goto, I_tsw, I_lsw, I_iret, I_lret, I_fret, I_dret, I_vret, I_nret, I_aret, I_iald, I_bald, I_lald, I_aald, I_iast, I_bast, I_last, I_aast, I_alen, I_new, I_val, I_cast, I_inst, I_obj, I_throw, I_mkx, I_getf, I_putf, I_call, I_calli, I_callv, I_acopy, I_clone, I_getc, i_ifeq, i_ifne, i_iflt, i_ifge, i_ifgt, i_ifle, i_idiv, i_irem, i_newa, i_newo, i_abs, i_max, i_min, i_ldiv, en_, es_i, es_r, es_0, es_n, es_l, List.length_cons, List.length_nil, List.cons_append, List.nil_append, Nat.reduceAdd, Nat.reduceSub, List.replicate, lg_, st1_, st2_, cn_, nl_, mk_, pk_, kd_, sl_, la_, ft_a, ft_i, ft_l, ft_o, ft_n, ft_b0, ft_b1, ft_bI, nr_0, nr_1, nr_bI, ro_, no_, if_true, if_false, ite_true, ite_false, reduceIte, Nat.reduceMod, Nat.reduceEqDiff, Nat.zero_add, Nat.add_zero, lk_, tw_t, tw_1, tw_2, tw_3, tw_4, tw_5, tw_6, tw_9, tw_11, tw_12, tw_13, tw_14, tw_15, tw_16, tw_18, tw_19, tw_30, tg_0, tg_1, tg_2, tg_3, tg_4, tg_5, tg_6, tg_7, tg_8, tg_9, tg_10, tg_11, tg_12, tg_13, tg_14, tg_15, tg_16, tg_17, tg_18, tg_19, tg_20, tg_21, tg_22, tg_23, tg_24, tg_25, tg_26, tg_27, tg_28, tg_29, tg_30, tg_31, ts_0, ts_1, ts_2, ts_3, ts_4, ts_5, ts_6, ts_7, ts_8, ts_9, ts_10, ts_11, ts_12, ts_13, ts_14, ts_15, ts_16, ts_17, ts_18, ts_19, ts_20, ts_21, ts_22, ts_23, ts_24, ts_25, ts_26, ts_27, ts_28, ts_29, ts_30, ts_31, um_s, um_n, um_um, um_co, um_id, id_eq, lit_, nI_add, nI_mul, ix_nI, ho, nI_m1, pk_div, nI_rm, T_lays, T_of, hR, upd_n, T_distance, hd, hM1', hN1.2]
      · exact hs_trans (by rw [m1]; exact hh1) h2
end TWO
