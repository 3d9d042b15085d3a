section CNP
variable {E : En_} {σ : As_} {w n s b bb q : Nat} {r : Nat → Int32} {ms ss : List Nat} {h0 : Nat → Option Ac_} {lc : Ac_} {N : Nat → Nat → Int32} {hg dp : Nat → Nat}
theorem NV_Lst {σ' : As_} {lc' : Ac_} (h : NV_ h0 σ b bb q w lc N) (hA : Ay_ σ σ' (bb + 7)) (hle : le_ h0 σ'.2.2) (hw : Hw_ σ') (hc : σ'.2.2 (bb + 7) = some lc') : NV_ h0 σ' b bb q w lc' N := by
  obtain ⟨⟨c0, c1, c2, c3, c4, c5, c6, c8, c9, c10, cL⟩, g2, g3, g4, g5⟩ := h
  exact ⟨⟨hA _ _ c0 (by omega) (fun n q => (by intro q; cases q)), hA _ _ c1 (by omega) (fun n q => (by intro q; cases q)), hA _ _ c2 (by omega) (fun n q => (by intro q; cases q)), hA _ _ c3 (by omega) (fun n q => (by intro q; cases q)), hA _ _ c4 (by omega) (fun n q => (by intro q; cases q)), hA _ _ c5 (by omega) (fun n q => (by intro q; cases q)), hA _ _ c6 (by omega) (fun n q => (by intro q; cases q)), hA _ _ c8 (by omega) (fun n q => (by intro q; cases q)), hA _ _ c9 (by omega) (fun n q => (by intro q; cases q)), hA _ _ c10 (by omega) (fun n q => (by intro q; cases q)), hc⟩, hle, hw, g4, g5⟩
theorem NtK_um {f g : Nat → Int32} (h : NtK_ N r n s) : NtK_ (um (um N 10 f) 11 g) r n s := h
/-- edges that are none are no loops -/
theorem nxk_flt {c : Nat → Int32} {P : Nat → Bool} : ∀ (d k : Nat), (∀ j, j < k + d → c j = nI 0 → P j = false) → (List.range' k d).filter P = (List.range' (nxk_ c d k) (d + k - nxk_ c d k)).filter P := by
  intro d
  induction d with
  | zero =>
    intro k h
    rw [nxk_]
    have : 0 + k - k = 0 := by omega
    rw [this]
  | succ d ih =>
    intro k h
    rw [nxk_]
    by_cases c1 : c k = nI 0
    · rw [if_pos c1, List.range'_succ, List.filter_cons_of_neg (by rw [h k (by omega) c1]; decide), ih (k + 1) (fun j hj hc => h j (by omega) hc)]
      have e : d + (k + 1) - nxk_ c d (k + 1) = d + 1 + k - nxk_ c d (k + 1) := by omega
      rw [e]
    · rw [if_neg c1]
      have e : d + 1 + k - k = d + 1 := by omega
      rw [e]
def lpP_ (r : Nat → Int32) (n s k : Nat) : Bool := decide (¬ ct_ r s k = 0) && !(tkn_ r n s k)
/-- a list of loops is kept when cells but two are kept -/
theorem LpL_kp {σ' : As_} {k : Nat} (h : LpL_ E σ.2.2 (q + 2) (bb + 7) r n s k) (hbq : b ≤ bb ∧ bb + 8 ≤ q) (hk : ∀ x c, σ.2.2 x = some c → x ≠ b → x ≠ q + 2 → σ'.2.2 x = some c) (hb : ∃ fs, σ.2.2 b = some (.inr (6, fs))) (hq : ∃ f, σ.2.2 (q + 2) = some (tI_ 0 12 f)) : LpL_ E σ'.2.2 (q + 2) (bb + 7) r n s k := by
  obtain ⟨mc, e, xs, ⟨cap, f, tt, a1, a2, a3, a4, a5, a6, a7, a8⟩, he, h2, h3⟩ := h
  obtain ⟨fb, hb⟩ := hb
  obtain ⟨fq, hq⟩ := hq
  refine ⟨mc, e, xs, ⟨cap, f, tt, hk _ _ a1 (by omega) (by omega), hk _ _ a2 (fun q1 => by rw [q1, hb] at a2; cases a2) (fun q1 => by rw [q1, hq] at a2; cases a2), a3, a4, a5, a6, fun x hx => ?_, a8⟩, he, h2, fun i x hi => ?_⟩
  · obtain ⟨i, hi⟩ := List.getElem?_of_mem hx
    obtain ⟨c, fs, o1, o2⟩ := a7 x hx
    obtain ⟨_, _, _, _, _, _, o3, _⟩ := h3 i x hi
    exact ⟨c, fs, hk _ _ o1 (by omega) (by omega), o2⟩
  · obtain ⟨p1, a, g, p2, p3, p4, p5, p6⟩ := h3 i x hi
    exact ⟨p1, a, g, hk _ _ p2 (by omega) (by omega), hk _ _ p3 (by omega) (by omega), p4, p5, p6⟩
theorem LpL_mono {h h' : Nat → Option Ac_} {m a k : Nat} (hL : LpL_ E h m a r n s k) (hl : le_ h h') : LpL_ E h' m a r n s k := by
  obtain ⟨mc, e, xs, h1, he, h2, h3⟩ := hL
  exact ⟨mc, e, xs, Ls_mono hl h1, he, h2, fun i x hi => ⟨(h3 i x hi).1, LpO_mono hl (h3 i x hi).2⟩⟩
theorem LpL_up {h : Nat → Option Ac_} {m a k it z : Nat} {c : Ac_} (hL : LpL_ E h m a r n s k) (hI : NI_ h it z b) (ha : a ≠ it) : LpL_ E (up_ h it c) m a r n s k := by
  obtain ⟨mc, e, xs, ⟨cap, f, tt, a1, a2, a3, a4, a5, a6, a7, a8⟩, he, h2, h3⟩ := hL
  unfold NI_ at hI
  refine ⟨mc, e, xs, ⟨cap, f, tt, ?_, ?_, a3, a4, a5, a6, fun x hx => ?_, a8⟩, he, h2, fun i x hi => ?_⟩
  · rw [up_n ha]; exact a1
  · rw [up_n (fun q => by rw [q, hI] at a2; cases a2)]; exact a2
  · obtain ⟨i, hi⟩ := List.getElem?_of_mem hx
    obtain ⟨c, fs, o1, o2⟩ := a7 x hx
    obtain ⟨_, y, g, o3, _⟩ := h3 i x hi
    refine ⟨c, fs, ?_, o2⟩
    rw [up_n (fun q => by rw [q, hI] at o3; cases o3)]
    exact o1
  · obtain ⟨p1, y, g, p2, p3, p4⟩ := h3 i x hi
    refine ⟨p1, y, g, ?_, ?_, p4⟩
    · rw [up_n (fun q => by rw [q, hI] at p2; cases p2)]; exact p2
    · rw [up_n (fun q => by rw [q, hI] at p3; cases p3)]; exact p3
theorem LpL_add {k x : Nat} (hd : E7_ E h0) (h : NV_ h0 σ b bb q w lc N) (hL : LpL_ E σ.2.2 (q + 2) (bb + 7) r n s k) (hk : k < 400) (hx : LpO_ (q + 2) σ.2.2 x (lpe_ r n s k / 12) (lpw_ r n s k) (mis_ r n s k) (wal_ r n s k)) (hO : Ob_ σ.2.2 x) :
    ∃ σ' lc', D_ E 31 [.ref (bb + 7), .ref x] σ = some (.inl (some (.int (nI 1))), σ') ∧ NV_ h0 σ' b bb q w lc' N ∧ LpL_ E σ'.2.2 (q + 2) (bb + 7) r n s (k + 1) ∧ Ay_ σ σ' (bb + 7) ∧ Szt_ 0 k (k + 1) σ σ' := by
  obtain ⟨mc, e, xs, h1, he, h2, h3⟩ := hL
  have hbq := h.2.2.2.2
  have hq := NV_lt h
  have hxm : q + 2 < x := by obtain ⟨a, g, _, _, _, p, _⟩ := hx; exact p
  obtain ⟨σ', e', g1, g2, g3, g4, g5⟩ := J_add (E := E) (v := x) (E7_mono h.2.1 hd) h1 h.2.2.1 (by omega) hO (by omega) (fun y hy => by
    obtain ⟨i, hi⟩ := List.getElem?_of_mem hy
    exact (h3 i y hi).1)
  have hAy := Ax_Ay (E := E) (σ := σ) (mc := mc) (xs := xs) h1 g3
  have h0e : h0 e = none ∨ E.2.2.2.1 7 = .ref e := by
    rcases he with q1 | q1
    · exact Or.inl (h.2.2.2.1 _ (by omega))
    · exact Or.inr q1
  have hle := Ax_le g3 h.2.1 (h.2.2.2.1 _ (by omega)) h0e
  obtain ⟨cap, f, tt, l1, _⟩ := id g2
  have hLO : ∀ {y k0 v mi wa}, LpO_ (q + 2) σ.2.2 y k0 v mi wa → LpO_ (q + 2) σ'.2.2 y k0 v mi wa := fun {y k0 v mi wa} hy => by
    obtain ⟨a, g, p2, p3, p4, p5, p6⟩ := hy
    exact ⟨a, g, hAy _ _ p2 (by omega) (fun n q => by intro q; cases q), hAy _ _ p3 (by omega) (fun n q => by intro q; cases q), p4, p5, p6⟩
  refine ⟨σ', _, g1, NV_Lst h hAy hle g3.1 l1, ⟨mc + nI 1, e', xs ++ [x], g2, ?_, by rw [List.length_append, h2]; rfl, fun i y hi => ?_⟩, hAy, ⟨g3.2.1, by rw [← h2]; exact g4, g5⟩⟩
  · rcases g3.2.2.1 with q1 | ⟨q1, _⟩
    · rw [q1]; exact he
    · left; omega
  · by_cases c : i < xs.length
    · rw [List.getElem?_append_left c] at hi
      obtain ⟨p1, p2⟩ := h3 i y hi
      exact ⟨p1, hLO p2⟩
    · have hlen := (List.getElem?_eq_some_iff.mp hi).1
      rw [List.length_append] at hlen
      simp only [List.length_cons, List.length_nil] at hlen
      have ei : i = xs.length := by omega
      subst ei
      rw [List.getElem?_append_right (Nat.le_refl _), Nat.sub_self] at hi
      cases hi
      rw [h2]
      exact ⟨by omega, hLO hx⟩
theorem ni_lp (hd : E7_ E h0) (h4 : E45_ E h0) (hwl : Wl_ E h0 w r ms ss) (hm : ms.length = n) (hW : Wr_ r n s) {it : Nat} (hit : q + 2 < it) {u1 : Value} : ∀ (m k c : Nat) (lc : Ac_) (N : Nat → Nat → Int32) (σ : As_) (u2 u3 : Option Value), 144 - k ≤ m → k ≤ 144 → (k < 144 → ¬ N 0 k = nI 0) → NV_ h0 σ b bb q w lc N → NtK_ N r n s → NI_ σ.2.2 it k b → LpL_ E σ.2.2 (q + 2) (bb + 7) r n s c → c ≤ (lps_ r n s).length → (lps_ r n s).drop c = (List.range' k (144 - k)).filter (lpP_ r n s) →
    ∃ σ' lc' N', R_ E 288 (B_ E 288 1) [some (.ref b), u2, some (.ref it), u3] [] σ = some (.inl none, σ') ∧ NV_ h0 σ' b bb q w lc' N' ∧ NtK_ N' r n s ∧ LpL_ E σ'.2.2 (q + 2) (bb + 7) r n s (lps_ r n s).length ∧ Szt_ (5 * m + 23 * ((lps_ r n s).length - c)) c (lps_ r n s).length σ σ' := by
  have hn := wr_n12 hW
  have hle144 := lps_le (r := r) (s := s) hn
  have hz0 : ∀ (k c : Nat) (lc : Ac_) (N : Nat → Nat → Int32) (σ : As_) (u2 u3 : Option Value) (m : Nat), k = 144 → NV_ h0 σ b bb q w lc N → NtK_ N r n s → NI_ σ.2.2 it k b → LpL_ E σ.2.2 (q + 2) (bb + 7) r n s c → c ≤ (lps_ r n s).length → (lps_ r n s).drop c = (List.range' k (144 - k)).filter (lpP_ r n s) → ∃ σ' lc' N', R_ E 288 (B_ E 288 1) [some (.ref b), u2, some (.ref it), u3] [] σ = some (.inl none, σ') ∧ NV_ h0 σ' b bb q w lc' N' ∧ NtK_ N' r n s ∧ LpL_ E σ'.2.2 (q + 2) (bb + 7) r n s (lps_ r n s).length ∧ Szt_ (5 * m + 23 * ((lps_ r n s).length - c)) c (lps_ r n s).length σ σ' := by
    intro k c lc N σ u2 u3 m hk h hK hI hL hcle hdr
    subst hk
    have hH := I_hasNextN (E := E) h hI (by omega)
    rw [bI_f (by omega)] at hH
    have hcl : (lps_ r n s).length ≤ c := List.drop_eq_nil_iff.mp hdr
    unfold NI_ at hI
    refine ⟨σ, lc, N, ?_, h, hK, ?_, by rw [show c = (lps_ r n s).length by omega]; exact Szt_rfl⟩
    · rw [b288_1]
      simp (disch := omega) only [K288_1, b288_3, K288_3, R_cons, go_nx, go_jp, go_rt, go_th, go_ca, go_no, go_ite, rr_v, rr_n, rr_x, hx_n, hx_p, hx_b, I_push, I_pushl, I_fc0, I_fc1, I_dc0, I_null, I_mask, I_iload, I_lload, I_dload, I_fload, I_aload, I_istore, I_lstore, I_dstore, I_fstore, I_astore, I_iinc, I_iadd, I_isub, I_imul, I_iand, I_ior, I_ixor, I_ishl, I_ishr, I_iushr, I_ineg, I_ladd, I_lsub, I_lmul, I_lxor, I_i2l, I_l2i, I_i2b, I_i2c, I_i2f, I_i2d, I_lcmp, I_fdiv, I_ddiv, I_f2d, I_dcmp, I_dup, I_pop, I_dup_x1, I_dup2, I_icne, I_iceq, I_iclt, I_icge, I_icgt, I_icle, I_ifnull, I_ifnonnull, I_ane, I_aeq, I_goto, I_lsw, I_iret, I_lret, I_fret, I_dret, I_vret, I_nret, I_aret, I_iald, I_bald, I_lald, I_aald, I_iast, I_bast, I_last, I_aast, I_alen, I_new, I_val, I_cast, I_inst, I_obj, I_throw, I_mkx, I_getf, I_putf, I_call, I_calli, I_callv, I_clone, I_getc, i_ifeq, i_ifne, i_iflt, i_ifge, i_ifgt, i_ifle, i_idiv, i_irem, i_newa, i_newo, i_abs, i_max, i_min, i_ldiv, en_, es_i, es_r, es_0, es_n, es_l, List.length_cons, List.length_nil, List.cons_append, List.nil_append, Nat.reduceAdd, Nat.reduceSub, List.replicate, lg_, st1_, st2_, cn_, nl_, mk_, pk_, kd_, sl_, la_, ft_a, ft_i, ft_l, ft_o, ft_n, ft_b0, ft_b1, ft_bI, nr_0, nr_1, nr_bI, ro_, no_, if_true, if_false, ite_true, ite_false, reduceIte, Nat.reduceMod, Nat.reduceEqDiff, Nat.zero_add, Nat.add_zero, lk_, lit_, nI_add, nI_mul, ix_nI, fgk_0, fgk_1, fgk_2, fgk_3, fgk_4, fgk_5, fgk_6, fgk_7, fgk_8, fgk_9, fgk_10, fgk_11, fgk_12, fgk_13, fsk_0, fsk_1, fsk_2, fsk_3, fsk_4, fsk_5, fsk_6, fsk_7, fsk_8, fsk_9, fsk_10, fsk_11, fsk_12, fsk_13, ca_i, ca_r, ca_n, Nat.reduceLT, true_or, or_true, if_true, false_or, or_false, and_true, true_and, List.mem_singleton, eq_self, hI, hH]
    · have : c = (lps_ r n s).length := by omega
      rw [← this]
      exact hL
  intro m
  induction m with
  | zero => intro k c lc N σ u2 u3 hm1 hk hz h hK hI hL hc hdr; exact hz0 k c lc N σ u2 u3 0 (by omega) h hK hI hL hc hdr
  | succ m ih =>
    intro k c lc N σ u2 u3 hm1 hk hz h hK hI hL hc hdr
    by_cases c1 : k < 144
    · have hH := I_hasNextN (E := E) h hI (by omega)
      rw [bI_t c1] at hH
      have hbq := h.2.2.2.2
      obtain ⟨σ1, x, g1, g2, g3, g4, g5⟩ := I_nextN (E := E) h4 h hI c1 (by omega) (Or.inr hit)
      have hv := J_intValue (E := E) g4
      have hnk := nxk_le (c := N 0) (144 - (k + 1)) (k + 1)
      have hN0 := hK.2.1.1
      have hcz : ¬ ct_ r s k = 0 := fun q => hz c1 (by rw [hN0 k c1, q])
      have hcp := ct_pair hW hcz
      have hL1 : LpL_ E σ1.2.2 (q + 2) (bb + 7) r n s c := LpL_mono (LpL_up hL hI (by omega)) g5.1
      have hed : (List.range' k (144 - k)) = k :: List.range' (k + 1) (144 - (k + 1)) := by
        have : 144 - k = (144 - (k + 1)) + 1 := by omega
        rw [this, List.range'_succ]
      have hfl := nxk_flt (c := N 0) (P := lpP_ r n s) (144 - (k + 1)) (k + 1) (fun j hj hj0 => by
        have h40 := ct_40 hW j
        rw [hN0 j (by omega), nI_eq (by omega) (by decide)] at hj0
        unfold lpP_
        rw [decide_eq_false (fun q => q hj0)]
        rfl)
      have e8 : 144 - (k + 1) + (k + 1) - nxk_ (N 0) (144 - (k + 1)) (k + 1) = 144 - nxk_ (N 0) (144 - (k + 1)) (k + 1) := by omega
      rw [e8] at hfl
      have h5 := hK.2.2.2.1 k c1
      obtain ⟨ci, i1, i2⟩ := g4
      by_cases ct : tkn_ r n s k = true
      · rw [bI_t ct] at h5
        have hP : lpP_ r n s k = false := by unfold lpP_; rw [ct]; simp
        rw [hed, List.filter_cons_of_neg (by rw [hP]; decide), hfl] at hdr
        obtain ⟨σ', lc', N', m1, m2, m3, m4, m5⟩ := ih (nxk_ (N 0) (144 - (k + 1)) (k + 1)) c lc N σ1 none none (by omega) (by omega) (fun q => nxk_nz (c := N 0) _ _ (by omega)) g2 hK g3 hL1 hc hdr
        refine ⟨σ', lc', N', ?_, m2, m3, m4, ?_⟩
        · rw [← m1]
          obtain ⟨⟨c0, x1, x2, x3, x4, x5, x6, _⟩, _⟩ := g2
          unfold NI_ at hI
          conv => lhs; rw [b288_1]
          simp (disch := first | assumption | omega) only [K288_1, b288_2, K288_2, R_cons, go_nx, go_jp, go_rt, go_th, go_ca, go_no, go_ite, rr_v, rr_n, rr_x, hx_n, hx_p, hx_b, I_push, I_pushl, I_fc0, I_fc1, I_dc0, I_null, I_mask, I_iload, I_lload, I_dload, I_fload, I_aload, I_istore, I_lstore, I_dstore, I_fstore, I_astore, I_iinc, I_iadd, I_isub, I_imul, I_iand, I_ior, I_ixor, I_ishl, I_ishr, I_iushr, I_ineg, I_ladd, I_lsub, I_lmul, I_lxor, I_i2l, I_l2i, I_i2b, I_i2c, I_i2f, I_i2d, I_lcmp, I_fdiv, I_ddiv, I_f2d, I_dcmp, I_dup, I_pop, I_dup_x1, I_dup2, I_icne, I_iceq, I_iclt, I_icge, I_icgt, I_icle, I_ifnull, I_ifnonnull, I_ane, I_aeq, I_goto, I_lsw, I_iret, I_lret, I_fret, I_dret, I_vret, I_nret, I_aret, I_iald, I_bald, I_lald, I_aald, I_iast, I_bast, I_last, I_aast, I_alen, I_new, I_val, I_cast, I_inst, I_obj, I_throw, I_mkx, I_getf, I_putf, I_call, I_calli, I_callv, I_clone, I_getc, i_ifeq, i_ifne, i_iflt, i_ifge, i_ifgt, i_ifle, i_idiv, i_irem, i_newa, i_newo, i_abs, i_max, i_min, i_ldiv, en_, es_i, es_r, es_0, es_n, es_l, List.length_cons, List.length_nil, List.cons_append, List.nil_append, Nat.reduceAdd, Nat.reduceSub, List.replicate, lg_, st1_, st2_, cn_, nl_, mk_, pk_, kd_, sl_, la_, ft_a, ft_i, ft_l, ft_o, ft_n, ft_b0, ft_b1, ft_bI, nr_0, nr_1, nr_bI, ro_, no_, if_true, if_false, ite_true, ite_false, reduceIte, Nat.reduceMod, Nat.reduceEqDiff, Nat.zero_add, Nat.add_zero, lk_, lit_, nI_add, nI_mul, ix_nI, fgk_0, fgk_1, fgk_2, fgk_3, fgk_4, fgk_5, fgk_6, fgk_7, fgk_8, fgk_9, fgk_10, fgk_11, fgk_12, fgk_13, fsk_0, fsk_1, fsk_2, fsk_3, fsk_4, fsk_5, fsk_6, fsk_7, fsk_8, fsk_9, fsk_10, fsk_11, fsk_12, fsk_13, ca_i, ca_r, ca_n, Nat.reduceLT, true_or, or_true, if_true, false_or, or_false, and_true, true_and, List.mem_singleton, eq_self, hI, hH, n10_, g1, i1, i2, hv, c0, x6, nf_5, ix_nI, h5]
        · have hs := Fr_Sz g5
          obtain ⟨s1, s2, s3⟩ := hs
          obtain ⟨v1, v2, v3⟩ := m5
          dsimp only at s1 s2 s3
          exact ⟨by omega, by omega, by omega⟩
      · rw [bI_f ct] at h5
        have hP : lpP_ r n s k = true := by
          unfold lpP_
          rw [decide_eq_true hcz]
          simpa using ct
        rw [hed, List.filter_cons_of_pos hP, hfl] at hdr
        have hcl : c < (lps_ r n s).length := by
          by_cases q : c < (lps_ r n s).length
          · exact q
          · rw [List.drop_eq_nil_iff.mpr (by omega)] at hdr
            cases hdr
        have hlc : lpe_ r n s c = k := by
          rw [lpe_get hcl]
          rw [List.drop_eq_getElem_cons hcl] at hdr
          injection hdr
        have hdr1 : (lps_ r n s).drop (c + 1) = (List.range' (nxk_ (N 0) (144 - (k + 1)) (k + 1)) (144 - nxk_ (N 0) (144 - (k + 1)) (k + 1))).filter (lpP_ r n s) := by
          rw [List.drop_eq_getElem_cons hcl] at hdr
          injection hdr
        obtain ⟨hD1, hD2, hD3⟩ := Dn_of hn hK.2.2.2.2
        have hpe := prt_edge hW hcz
        obtain ⟨σ2, y, f, k1, k2, k3, k4, k5, k6, k7, k8⟩ := N_loopOf (E := E) (e := err_ r n s) (p := k) hwl hm hW hD1 hD3 hD2 hK.2.1.2.1 hcp.1 hcp.2 hpe.symm g2
        have hL2 := LpL_kp (b := b) hL1 hbq k8 ⟨_, g2.1.1⟩ ⟨_, g2.1.2.2.2.2.2.2.2.2.2.1⟩
        have hLO : LpO_ (q + 2) σ2.2.2 y (lpe_ r n s c / 12) (lpw_ r n s c) (mis_ r n s c) (wal_ r n s c) := by
          unfold lpw_ mis_ wal_ lpw_
          rw [hlc]
          exact k3
        obtain ⟨σ3, lc3, o1, o2, o3, o4, o5⟩ := LpL_add (E := E) hd k2 hL2 (by omega) hLO k5
        have hI3 : NI_ σ3.2.2 it (nxk_ (N 0) (144 - (k + 1)) (k + 1)) b := o4 _ _ (k8 _ _ g3 (by omega) (by omega)) (by omega) (fun n q => by intro q; cases q)
        obtain ⟨σ', lc', N', m1, m2, m3, m4, m5⟩ := ih (nxk_ (N 0) (144 - (k + 1)) (k + 1)) (c + 1) lc3 (um (um N 10 f) 11 (fun _ => nI (pth_ r n s (k % 12) (k / 12)).length)) σ3 none none (by omega) (by omega) (fun q => nxk_nz (c := N 0) _ _ (by omega)) o2 (NtK_um hK) hI3 o3 (by omega) hdr1
        refine ⟨σ', lc', N', ?_, m2, m3, m4, ?_⟩
        · rw [← m1]
          obtain ⟨⟨c0, x1, x2, x3, x4, x5, x6, x8, x9, x10, xL⟩, _⟩ := g2
          have hb2 := k2.1.1
          obtain ⟨mc2, e2, xs2, ⟨cap2, f2, tt2, l2, _⟩, _⟩ := hL2
          unfold NI_ at hI
          conv => lhs; rw [b288_1]
          simp (disch := first | assumption | omega) only [K288_1, b288_2, K288_2, R_cons, go_nx, go_jp, go_rt, go_th, go_ca, go_no, go_ite, rr_v, rr_n, rr_x, hx_n, hx_p, hx_b, I_push, I_pushl, I_fc0, I_fc1, I_dc0, I_null, I_mask, I_iload, I_lload, I_dload, I_fload, I_aload, I_istore, I_lstore, I_dstore, I_fstore, I_astore, I_iinc, I_iadd, I_isub, I_imul, I_iand, I_ior, I_ixor, I_ishl, I_ishr, I_iushr, I_ineg, I_ladd, I_lsub, I_lmul, I_lxor, I_i2l, I_l2i, I_i2b, I_i2c, I_i2f, I_i2d, I_lcmp, I_fdiv, I_ddiv, I_f2d, I_dcmp, I_dup, I_pop, I_dup_x1, I_dup2, I_icne, I_iceq, I_iclt, I_icge, I_icgt, I_icle, I_ifnull, I_ifnonnull, I_ane, I_aeq, I_goto, I_lsw, I_iret, I_lret, I_fret, I_dret, I_vret, I_nret, I_aret, I_iald, I_bald, I_lald, I_aald, I_iast, I_bast, I_last, I_aast, I_alen, I_new, I_val, I_cast, I_inst, I_obj, I_throw, I_mkx, I_getf, I_putf, I_call, I_calli, I_callv, I_clone, I_getc, i_ifeq, i_ifne, i_iflt, i_ifge, i_ifgt, i_ifle, i_idiv, i_irem, i_newa, i_newo, i_abs, i_max, i_min, i_ldiv, en_, es_i, es_r, es_0, es_n, es_l, List.length_cons, List.length_nil, List.cons_append, List.nil_append, Nat.reduceAdd, Nat.reduceSub, List.replicate, lg_, st1_, st2_, cn_, nl_, mk_, pk_, kd_, sl_, la_, ft_a, ft_i, ft_l, ft_o, ft_n, ft_b0, ft_b1, ft_bI, nr_0, nr_1, nr_bI, ro_, no_, if_true, if_false, ite_true, ite_false, reduceIte, Nat.reduceMod, Nat.reduceEqDiff, Nat.zero_add, Nat.add_zero, lk_, lit_, nI_add, nI_mul, ix_nI, fgk_0, fgk_1, fgk_2, fgk_3, fgk_4, fgk_5, fgk_6, fgk_7, fgk_8, fgk_9, fgk_10, fgk_11, fgk_12, fgk_13, fsk_0, fsk_1, fsk_2, fsk_3, fsk_4, fsk_5, fsk_6, fsk_7, fsk_8, fsk_9, fsk_10, fsk_11, fsk_12, fsk_13, ca_i, ca_r, ca_n, Nat.reduceLT, true_or, or_true, if_true, false_or, or_false, and_true, true_and, List.mem_singleton, eq_self, hI, hH, n10_, g1, i1, i2, hv, c0, x6, nf_5, nf_6, ix_nI, h5, k1, l2, o1]
        · have hs := Fr_Sz g5
          obtain ⟨s1, s2, s3⟩ := hs
          obtain ⟨t1, t2, t3⟩ := k6
          obtain ⟨w1, w2, w3⟩ := o5
          obtain ⟨v1, v2, v3⟩ := m5
          dsimp only at s1 s2 s3
          exact ⟨by omega, by omega, by omega⟩
    · exact hz0 k c lc N σ u2 u3 _ (by omega) h hK hI hL hc hdr
/-- a net is made -/
theorem N_make (hd : E7_ E h0) (h4 : E45_ E h0) (hh : σ.2.2 = up_ h0 b n0_) (hb : σ.1 = bb + 1) (hbb : b ≤ bb) (hw0 : ∀ x, (x = b ∨ bb < x) → h0 x = none) (hwl : Wl_ E h0 w r ms ss) (hm : ms.length = n) (hss : ss.length = s) (hW : Wr_ r n s) :
    ∃ σ' q lc N, D_ E 288 [.ref b, .ref w] σ = some (.inl none, σ') ∧ NV_ h0 σ' b bb q w lc N ∧ NtK_ N r n s ∧ LpL_ E σ'.2.2 (q + 2) (bb + 7) r n s (lps_ r n s).length ∧ Sz_ 4600 σ σ' := by
  obtain ⟨dd, hE7, _⟩ := id hd
  obtain ⟨σ1, q, N, it, g1, g2, g3, g4, g5, g6, g7⟩ := N_init1 (E := E) (σ := σ) (b := b) (h0 := h0) hE7 hd h4 hh hb hbb hw0 hwl hm hss hW
  have hnk := nxk_le (c := N 0) 144 0
  have hbq := g2.2.2.2.2
  have hfl := nxk_flt (c := N 0) (P := lpP_ r n s) 144 0 (fun j hj hj0 => by
    have h40 := ct_40 hW j
    rw [g3.2.1.1 j (by omega), nI_eq (by omega) (by decide)] at hj0
    unfold lpP_
    rw [decide_eq_false (fun q => q hj0)]
    rfl)
  have e8 : 144 + 0 - nxk_ (N 0) 144 0 = 144 - nxk_ (N 0) 144 0 := by omega
  rw [e8] at hfl
  obtain ⟨σ', lc', N', m1, m2, m3, m4, m5⟩ := ni_lp (E := E) hd h4 hwl hm hW g6 (u1 := .null) 144 (nxk_ (N 0) 144 0) 0 _ N σ1 (some (.ref w)) none (by omega) (by omega) (fun q => nxk_nz (c := N 0) _ _ (by omega)) g2 g3 g5 ⟨nI 0, dd, [], g4, Or.inr hE7, rfl, fun i x hi => by simp at hi⟩ (Nat.zero_le _) hfl
  refine ⟨σ', q, lc', N', by rw [g1, m1], m2, m3, m4, ?_⟩
  obtain ⟨s1, s2, s3⟩ := g7
  obtain ⟨v1, v2, v3⟩ := m5
  have hs40 := wr_s40 hW
  have hls := lps_s (r := r) (s := s) (wr_n12 hW)
  have htt : tot_ (lps_ r n s).length ≤ 149 := Nat.le_trans (tot_mono (by omega)) tot_40
  have ht0 : tot_ 0 = 0 := rfl
  exact ⟨by omega, by omega, by omega⟩
theorem S_net (hd : E7_ E σ.2.2) (h4 : E45_ E σ.2.2) (hw : Hw_ σ) (hwl : Wl_ E σ.2.2 w r ms ss) (hm : ms.length = n) (hss : ss.length = s) (hW : Wr_ r n s) :
    ∃ σ' q lc N, D_ E 288 [.ref σ.1, .ref w] (σ.1 + 1, σ.2.1 + 13, up_ σ.2.2 σ.1 n0_) = some (.inl none, σ') ∧ NV_ σ.2.2 σ' σ.1 σ.1 q w lc N ∧ NtK_ N r n s ∧ LpL_ E σ'.2.2 (q + 2) (σ.1 + 7) r n s (lps_ r n s).length ∧ Sz_ 4620 σ σ' := by
  obtain ⟨σ', q, lc, N, g1, g2, g3, g4, g5⟩ := N_make (E := E) (σ := (σ.1 + 1, σ.2.1 + 13, up_ σ.2.2 σ.1 n0_)) (b := σ.1) (bb := σ.1) hd h4 rfl rfl (Nat.le_refl _) (fun x hx => hw x (by omega)) hwl hm hss hW
  obtain ⟨s1, s2, s3⟩ := g5
  dsimp only at s1 s2 s3
  exact ⟨σ', q, lc, N, g1, g2, g3, g4, by omega, by omega, by omega⟩
end CNP
