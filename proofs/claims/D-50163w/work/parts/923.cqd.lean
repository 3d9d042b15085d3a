/-! heights are laid in the parts that have a bench -/
section CQD
variable {n s : Nat} {r : Nat → Int32}
theorem prt_e {a b : Nat} (hW : Wr_ r n s) (ha : a < n) (hb : b < n) (h : edg_ r s a b) : prt_ r n s a = prt_ r n s b := by
  have h12 := wr_n12 hW
  have he := prt_edge hW h.2
  unfold pa_ at he
  by_cases c : a < b
  · rw [if_pos c, show (12 * a + b) / 12 = a by omega, show (12 * a + b) % 12 = b by omega] at he
    exact he
  · rw [if_neg c, show (12 * b + a) / 12 = b by omega, show (12 * b + a) % 12 = a by omega] at he
    exact he.symm
theorem nh1_so {far : Nat → Int32} {b a j : Nat} : ∃ j', nh1_ r far s b a (some j) = some j' := by
  unfold nh1_
  split
  · exact ⟨_, rfl⟩
  · split
    · split
      · dsimp only
        split
        · exact ⟨_, rfl⟩
        · exact ⟨_, rfl⟩
      · exact ⟨_, rfl⟩
    · exact ⟨_, rfl⟩
theorem fo_so {f : Nat → Option Nat → Option Nat} (h : ∀ i j, ∃ j', f i (some j) = some j') : ∀ (d i j : Nat), ∃ j', fo_ f d i (some j) = some j' := by
  intro d
  induction d with
  | zero => intro i j; exact ⟨j, rfl⟩
  | succ d ih =>
    intro i j
    obtain ⟨j', e⟩ := h i j
    rw [fo_, e]
    exact ih (i + 1) j'
theorem fo_no {f : Nat → Option Nat → Option Nat} (h : ∀ i j, ∃ j', f i (some j) = some j') : ∀ (d i : Nat) (x : Option Nat), fo_ f d i x = none → x = none ∧ ∀ k, i ≤ k → k < i + d → f k none = none := by
  intro d
  induction d with
  | zero => intro i x hx; exact ⟨hx, fun k h1 h2 => by omega⟩
  | succ d ih =>
    intro i x hx
    rw [fo_] at hx
    obtain ⟨i1, i2⟩ := ih (i + 1) _ hx
    have hxn : x = none := by
      cases x with
      | none => rfl
      | some j => obtain ⟨j', e⟩ := h i j; rw [e] at i1; cases i1
    refine ⟨hxn, fun k h1 h2 => ?_⟩
    by_cases e : k = i
    · rw [hxn] at i1
      rw [e]; exact i1
    · exact i2 k (by omega) (by omega)
theorem nh_no {far : Nat → Int32} (h : nh_ r far n s = none) {a b : Nat} (ha : a < n) (hb : b < n) (hfa : r (8 + 5 * a + 3) = nI 1) (he : edg_ r s a b) : r (8 + 5 * b + 3) = nI 1 := by
  have h1 := (fo_no (f := fun b => fo_ (nh1_ r far s b) n 0) (fun i j => fo_so (fun i' j' => nh1_so) n 0 j) n 0 none h).2 b (Nat.zero_le _) (by omega)
  have h2 := (fo_no (f := nh1_ r far s b) (fun i j => nh1_so) n 0 none h1).2 a (Nat.zero_le _) (by omega)
  unfold nh1_ at h2
  by_cases c : r (8 + 5 * b + 3) = nI 1
  · exact c
  · rw [if_neg c, if_pos hfa, if_pos he] at h2
    cases h2
/-- when the heights are laid -/
theorem lv_end (e : Int32) : ∀ (f : Nat) (r' far : Nat → Int32), hs_ r r' → Wr_ r n s → mh_ r' n ≤ f → (∀ k, k < n → r' (8 + 5 * k + 3) = nI 1 → ∃ j, j < n ∧ r (8 + 5 * j + 2) = nI 1 ∧ prt_ r n s j = prt_ r n s k) → (∀ k, k < n → r (8 + 5 * k + 2) = nI 1 → r' (8 + 5 * k + 3) = nI 1) →
    (∀ k, k < n → lv_ e n s f r' far (8 + 5 * k + 3) = nI 1 → ∃ j, j < n ∧ r (8 + 5 * j + 2) = nI 1 ∧ prt_ r n s j = prt_ r n s k) ∧ (∀ k, k < n → r (8 + 5 * k + 2) = nI 1 → lv_ e n s f r' far (8 + 5 * k + 3) = nI 1) ∧
    (∀ a b, a < n → b < n → edg_ r s a b → lv_ e n s f r' far (8 + 5 * a + 3) = nI 1 → lv_ e n s f r' far (8 + 5 * b + 3) = nI 1) := by
  intro f
  induction f with
  | zero =>
    intro r' far hs hW hm hA hB
    have h12 := wr_n12 hW
    have hno : nh_ r' far n s = none := by
      rcases hj : nh_ r' far n s with _ | j
      · rfl
      · exfalso
        have hp := nh_p (r := r') (far := far) (s := s) h12 j hj
        have := mh_0 (r := r') hp.2.2.1 n 0 (by omega) (by omega)
        unfold mh_ at hm
        omega
    exact ⟨hA, hB, fun a b ha hb he hf => nh_no hno ha hb hf (by unfold edg_ at he ⊢; rw [hs_ct hs]; exact he)⟩
  | succ f ih =>
    intro r' far hs hW hm hA hB
    have h12 := wr_n12 hW
    unfold lv_
    rcases hj : nh_ r' far n s with _ | j
    · exact ⟨hA, hB, fun a b ha hb he hf => nh_no hj ha hb hf (by unfold edg_ at he ⊢; rw [hs_ct hs]; exact he)⟩
    · have hp := nh_p (r := r') (far := far) (s := s) h12 j hj
      have ha := hp.2.1
      have hb := hp.1
      have hlt := mh_lt (r := r') (r' := lvr_ r' e s (j % 12) (j / 12)) (m := j / 12) (fun k hk => by
        unfold lvr_ upd
        by_cases c : k = j / 12
        · subst c; rw [if_neg (by omega), if_pos rfl]
        · rw [if_neg (by omega), if_neg (by omega)]; exact hk) hp.2.2.1 (by unfold lvr_ upd; rw [if_neg (by omega), if_pos rfl]) n 0 (by omega) (by omega)
      have hed : edg_ r s (j % 12) (j / 12) := by
        have := hp.2.2.2.2
        unfold edg_ at this ⊢
        rw [hs_ct hs] at this
        exact this
      refine ih _ _ (hs_trans hs (lvr_hs (by omega))) hW (by unfold mh_ at hm ⊢; omega) (fun k hk hf => ?_) (fun k hk hf => ?_)
      · by_cases c : k = j / 12
        · subst c
          obtain ⟨i, i1, i2, i3⟩ := hA _ ha hp.2.2.2.1
          exact ⟨i, i1, i2, i3.trans (prt_e hW ha hb hed)⟩
        · refine hA k hk ?_
          unfold lvr_ at hf
          rw [upd_n (by omega), upd_n (by omega)] at hf
          exact hf
      · by_cases c : k = j / 12
        · subst c
          unfold lvr_
          rw [upd_n (by omega), upd_s]
        · unfold lvr_
          rw [upd_n (by omega), upd_n (by omega)]
          exact hB k hk hf
theorem wlk_f {F : Nat → Prop} (hT : ∀ k, tkn_ r n s k = true → ¬ ct_ r s k = 0 ∧ k / 12 < k % 12 ∧ k % 12 < n) (hF : ∀ a b, a < n → b < n → edg_ r s a b → F a → F b) : ∀ (w : List Nat) (a b : Nat), wab_ (tkn_ r n s) a b w → (∀ z ∈ w, z < n) → F a → F b := by
  intro w
  induction w with
  | nil => intro a b h; exact absurd h.1 id
  | cons x l ih =>
    intro a b h hz hf
    obtain ⟨h1, h2, h3⟩ := h
    have hxa : x = a := by simpa using h2
    subst hxa
    cases l with
    | nil =>
      have : x = b := by simpa using h3
      rw [← this]; exact hf
    | cons y l =>
      have hadj := h1.1
      have hed : edg_ r s x y := ⟨hadj.1, (hT _ hadj.2).1⟩
      have hfy := hF x y (hz x (by simp)) (hz y (by simp)) hed hf
      exact ih y b ⟨h1.2.2, rfl, by simpa using h3⟩ (fun z hz' => hz z (List.mem_cons_of_mem _ hz')) hfy
theorem wnb_iff {pt : Nat → Nat} {a : Nat} : ∀ (d k : Nat), wnb_ r pt a d k = true ↔ ∃ j, k ≤ j ∧ j < k + d ∧ r (8 + 5 * j + 2) = nI 1 ∧ pt j = pt a := by
  intro d
  induction d with
  | zero => intro k; exact ⟨(fun h => by unfold wnb_ at h; cases h), fun ⟨j, h1, h2, _⟩ => absurd h2 (by omega)⟩
  | succ d ih =>
    intro k
    unfold wnb_
    by_cases c : r (8 + 5 * k + 2) = nI 1
    · rw [if_pos c]
      by_cases c2 : pt k = pt a
      · rw [if_pos c2]
        exact ⟨fun _ => ⟨k, Nat.le_refl _, by omega, c, c2⟩, fun _ => rfl⟩
      · rw [if_neg c2, ih]
        exact ⟨fun ⟨j, h1, h2, h3⟩ => ⟨j, by omega, by omega, h3⟩, fun ⟨j, h1, h2, h3, h4⟩ => by
          by_cases e : j = k
          · exact absurd (e ▸ h4) c2
          · exact ⟨j, by omega, by omega, h3, h4⟩⟩
    · rw [if_neg c, ih]
      exact ⟨fun ⟨j, h1, h2, h3⟩ => ⟨j, by omega, by omega, h3⟩, fun ⟨j, h1, h2, h3, h4⟩ => by
        by_cases e : j = k
        · exact absurd (e ▸ h3) c
        · exact ⟨j, by omega, by omega, h3, h4⟩⟩
/-- a mark gets a height iff its part has a bench -/
theorem lev_wnb {a : Nat} (hW : Wr_ r n s) (ha : a < n) : lev_ r n s (8 + 5 * a + 3) = nI 1 ↔ wnb_ r (prt_ r n s) a n 0 = true := by
  have h12 := wr_n12 hW
  have hl := fun k => l0_at n 0 k r
  obtain ⟨e1, e2, e3⟩ := lv_end (r := r) (n := n) (s := s) (err_ r n s) n (fo_ l0_ n 0 r) (fun _ => nI 0) (l0_hs n 0 (by omega)) hW (mh_n n 0) (fun k hk hf => ⟨k, hk, by rw [(hl k).2.2.1 (Nat.zero_le _) (by omega)] at hf; exact hf, rfl⟩) (fun k hk hf => by rw [(hl k).2.2.1 (Nat.zero_le _) (by omega)]; exact hf)
  obtain ⟨hP, hF, _, hT⟩ := kr_all (r := r) (n := n) (s := s) h12
  rw [wnb_iff]
  constructor
  · intro h
    obtain ⟨j, j1, j2, j3⟩ := e1 a ha h
    exact ⟨j, Nat.zero_le _, by omega, j2, j3⟩
  · intro ⟨j, _, j1, j2, j3⟩
    obtain ⟨wk, w1, w2⟩ := hF.2.2 j a (by omega) ha j3
    exact wlk_f (F := fun k => lev_ r n s (8 + 5 * k + 3) = nI 1) hT (fun x y hx hy he hf => e3 x y hx hy he hf) wk j a w1 w2 (e2 j (by omega) j2)
/-- why none -/
theorem why_cnt {a : Nat} : ∀ (d i w c1 c2 : Nat), (w = 1 ↔ c1 = 0) → (w = 3 ↔ ¬ c2 = 0) → (c1 = 0 → c2 = 0) → 1 ≤ w → w ≤ 3 →
    (fo_ (why1_ r a) d i w = 1 ↔ cnt_ (sgo_ r a true) d i c1 = 0) ∧ (fo_ (why1_ r a) d i w = 3 ↔ ¬ cnt_ (sgo_ r a false) d i c2 = 0) ∧ 1 ≤ fo_ (why1_ r a) d i w ∧ fo_ (why1_ r a) d i w ≤ 3 := by
  intro d
  induction d with
  | zero => intro i w c1 c2 h1 h2 _ h3 h4; exact ⟨h1, h2, h3, h4⟩
  | succ d ih =>
    intro i w c1 c2 h1 h2 h0 h3 h4
    rw [fo_, cnt_, cnt_]
    by_cases cs : sof_ r i a
    · have s1 : sgo_ r a true i = true := by simp [sgo_, cs]
      rw [if_pos s1]
      by_cases cr : r (68 + 6 * i + 5) = nI 0
      · have s2 : sgo_ r a false i = true := by simp [sgo_, cs, cr]
        have ew : why1_ r a i w = 3 := by
          unfold why1_
          rw [if_pos cs, if_pos cr]
          split <;> rfl
        rw [if_pos s2, ew]
        exact ih (i + 1) 3 _ _ (by omega) (by omega) (by omega) (by omega) (by omega)
      · have s2 : ¬ sgo_ r a false i = true := by simp [sgo_, cr]
        rw [if_neg s2]
        by_cases cw : w = 3
        · have ew : why1_ r a i w = 3 := by
            unfold why1_
            rw [if_pos cs, if_pos cw]
          rw [ew]
          exact ih (i + 1) 3 _ _ (by omega) (by omega) (by omega) (by omega) (by omega)
        · have ew : why1_ r a i w = 2 := by
            unfold why1_
            rw [if_pos cs, if_neg cw, if_neg cr]
          rw [ew]
          exact ih (i + 1) 2 _ _ (by omega) (by omega) (by omega) (by omega) (by omega)
    · have s1 : ¬ sgo_ r a true i = true := by simp [sgo_, cs]
      have s2 : ¬ sgo_ r a false i = true := by simp [sgo_, cs]
      have ew : why1_ r a i w = w := by
        unfold why1_
        rw [if_neg cs]
      rw [if_neg s1, if_neg s2, ew]
      exact ih (i + 1) w _ _ h1 h2 h0 h3 h4
end CQD
section CQE
variable {E : En_} {σ : As_} {p w n s : Nat} {r : Nat → Int32} {ms ss : List Nat} {fs : List Value}
theorem lev_Bh (hW : Wr_ r n s) : ∀ (f B : Nat) (r' far : Nat → Int32), hs_ r r' → Wr_ r' n s → Bh_ r' n B → B + 52001 * f < 1000000000 → Bh_ (lv_ (err_ r n s) n s f r' far) n (B + 52001 * f) ∧ Wr_ (lv_ (err_ r n s) n s f r' far) n s ∧ hs_ r (lv_ (err_ r n s) n s f r' far) := by
  have h12 := wr_n12 hW
  intro f
  induction f with
  | zero => intro B r' far hs hW' h _; exact ⟨h, hW', hs⟩
  | succ f ih =>
    intro B r' far hs hW' h hb
    unfold lv_
    rcases hj : nh_ r' far n s with _ | j
    · exact ⟨fun k hk hf => by have := h k hk hf; dsimp only; omega, hW', hs⟩
    · have hp := nh_p (r := r') (far := far) (s := s) h12 j hj
      have h1 := Bh_lvr (c := j / 12) (e := err_ r n s) h hW' (er_in hW) hp.2.1 hp.2.2.2.1 (by omega)
      obtain ⟨i1, i2, i3⟩ := ih (B + 52001) _ (lvf_ r' far (j % 12) (j / 12)) (hs_trans hs (lvr_hs (by omega))) (lvr_Wr hW' hp.1) h1 (by omega)
      exact ⟨fun k hk hf => by have := i1 k hk hf; dsimp only; omega, i2, i3⟩
theorem lev_all (hW : Wr_ r n s) (hB : Bn_ r n) : Bh_ (lev_ r n s) n 724011 ∧ Wr_ (lev_ r n s) n s ∧ hs_ r (lev_ r n s) := by
  have h12 := wr_n12 hW
  obtain ⟨i1, i2, i3⟩ := lev_Bh hW n 99999 (fo_ l0_ n 0 r) (fun _ => nI 0) (l0_hs n 0 (by omega)) (l0_bt hW) (Bn_Bh hB) (by omega)
  exact ⟨fun k hk hf => by have := i1 k hk hf; unfold lev_; omega, i2, i3⟩
theorem S_whyNone {x : Int32} (h : Sq_ E σ p w fs r n s ms ss) (hB : Bn_ r n) : ∃ σ' a, D_ E 369 [.ref p, .int x] σ = some (an1_ (inN_ x n) (.int (whq_ r n s x.toNatClampNeg)) a, σ') ∧ Fr_ 6800 σ σ' := by
  have hp := h.1
  have hW := Sq_W h
  have h12 := wr_n12 hW
  unfold an1_
  by_cases c : inN_ x n
  · have k0 := S_ckM1 h c
    obtain ⟨σ1, t, g1, g2⟩ := S_heightIf (x := x) h hB
    unfold an1_ at g1
    rw [if_pos c] at g1
    obtain ⟨a, ha, rfl⟩ := inN_nI c
    rw [nI_clamp (by omega)] at g1
    have h1 := Sq_fr h g2
    have hp1 := h1.1
    obtain ⟨σ2, u1, u2⟩ := S_sightsOf (wi := true) h1 ha
    have h2 := Sq_fr h1 u2
    have hp2 := h2.1
    obtain ⟨σ3, v1, v2⟩ := S_sightsOf (wi := false) h2 ha
    rw [bI_t (show true = true from rfl)] at u1
    rw [bI_f (show ¬ false = true by decide)] at v1
    obtain ⟨l1, l2, l3⟩ := lev_all hW hB
    have hno := hgt_no (Bh_ok l1 (by decide)) l2 ha
    obtain ⟨q1, q2, q3, q4⟩ := why_cnt (r := r) (a := a) s 0 1 0 0 (by omega) (by omega) (by omega) (by omega) (by omega)
    have hle1 := cnt_le (p := sgo_ r a true) s 0 0
    have hle2 := cnt_le (p := sgo_ r a false) s 0 0
    have h40 := wr_s40 hW
    simp only [if_pos c]
    rw [nI_clamp (by omega)]
    unfold whq_
    by_cases cw : wnb_ r (prt_ r n s) a n 0 = true
    · have ch : ¬ hgt_ (lev_ r n s) a = NOH := by
        rw [hno]
        exact fun q => q ((lev_wnb hW ha).2 cw)
      have ch' : ¬ hgt_ (lev_ r n s) a = -nI 10000000 := ch
      refine ⟨σ1, 0, ?_, Fr_le g2 (by decide)⟩
      rw [if_pos cw, D_run]
      simp (disch := omega) only [l369, b369_0, K369_0, b369_1, K369_1, b369_2, K369_2, b369_3, K369_3, b369_4, K369_4, R_cons, go_nx, go_jp, go_rt, go_th, go_ca, go_no, go_ite, rr_v, rr_n, rr_x, hx_n, hx_p, hx_b, I_push, I_pushl, I_fc0, I_fc1, I_dc0, I_null, I_mask, I_iload, I_lload, I_dload, I_fload, I_aload, I_istore, I_lstore, I_dstore, I_fstore, I_astore, I_iinc, I_iadd, I_isub, I_imul, I_iand, I_ior, I_ixor, I_ishl, I_ishr, I_iushr, I_ineg, I_ladd, I_lsub, I_lmul, I_lxor, I_i2l, I_l2i, I_i2b, I_i2c, I_i2f, I_i2d, I_lcmp, I_fdiv, I_ddiv, I_f2d, I_dcmp, I_dup, I_pop, I_dup_x1, I_dup2, I_icne, I_iceq, I_iclt, I_icge, I_icgt, I_icle, I_ifnull, I_ifnonnull, I_ane, I_aeq, I_goto, I_lsw, I_iret, I_lret, I_fret, I_dret, I_vret, I_nret, I_aret, I_iald, I_bald, I_lald, I_aald, I_iast, I_bast, I_last, I_aast, I_alen, I_new, I_val, I_cast, I_inst, I_obj, I_throw, I_mkx, I_getf, I_putf, I_call, I_calli, I_callv, I_clone, I_getc, i_ifeq, i_ifne, i_iflt, i_ifge, i_ifgt, i_ifle, i_idiv, i_irem, i_newa, i_newo, i_abs, i_max, i_min, i_ldiv, en_, es_i, es_r, es_0, es_n, es_l, List.length_cons, List.length_nil, List.cons_append, List.nil_append, Nat.reduceAdd, Nat.reduceSub, List.replicate, lg_, st1_, st2_, cn_, nl_, mk_, pk_, kd_, sl_, la_, ft_a, ft_i, ft_l, ft_o, ft_n, ft_b0, ft_b1, ft_bI, nr_0, nr_1, nr_bI, ro_, no_, if_true, if_false, ite_true, ite_false, reduceIte, Nat.reduceMod, Nat.reduceEqDiff, Nat.zero_add, Nat.add_zero, lk_, lit_, nI_add, nI_mul, ix_nI, fgk_0, fgk_1, fgk_2, fgk_3, fgk_4, fgk_5, fgk_6, fgk_7, fgk_8, fgk_9, fgk_10, fgk_11, fgk_12, fgk_13, fsk_0, fsk_1, fsk_2, fsk_3, fsk_4, fsk_5, fsk_6, fsk_7, fsk_8, fsk_9, fsk_10, fsk_11, fsk_12, fsk_13, ca_i, ca_r, ca_n, Nat.reduceLT, true_or, or_true, if_true, false_or, or_false, and_true, true_and, List.mem_singleton, eq_self, hp, k0, g1, ch']
    · have ch : hgt_ (lev_ r n s) a = -nI 10000000 := by
        show _ = NOH
        rw [hno]
        exact fun q => cw ((lev_wnb hW ha).1 q)
      rw [if_neg cw]
      by_cases c1 : cnt_ (sgo_ r a true) s 0 0 = 0
      · refine ⟨σ2, 0, ?_, Fr_le (Fr_trans g2 u2) (by decide)⟩
        rw [c1] at u1
        rw [q1.2 c1, D_run]
        simp (disch := omega) only [l369, b369_0, K369_0, b369_1, K369_1, b369_2, K369_2, b369_3, K369_3, b369_4, K369_4, R_cons, go_nx, go_jp, go_rt, go_th, go_ca, go_no, go_ite, rr_v, rr_n, rr_x, hx_n, hx_p, hx_b, I_push, I_pushl, I_fc0, I_fc1, I_dc0, I_null, I_mask, I_iload, I_lload, I_dload, I_fload, I_aload, I_istore, I_lstore, I_dstore, I_fstore, I_astore, I_iinc, I_iadd, I_isub, I_imul, I_iand, I_ior, I_ixor, I_ishl, I_ishr, I_iushr, I_ineg, I_ladd, I_lsub, I_lmul, I_lxor, I_i2l, I_l2i, I_i2b, I_i2c, I_i2f, I_i2d, I_lcmp, I_fdiv, I_ddiv, I_f2d, I_dcmp, I_dup, I_pop, I_dup_x1, I_dup2, I_icne, I_iceq, I_iclt, I_icge, I_icgt, I_icle, I_ifnull, I_ifnonnull, I_ane, I_aeq, I_goto, I_lsw, I_iret, I_lret, I_fret, I_dret, I_vret, I_nret, I_aret, I_iald, I_bald, I_lald, I_aald, I_iast, I_bast, I_last, I_aast, I_alen, I_new, I_val, I_cast, I_inst, I_obj, I_throw, I_mkx, I_getf, I_putf, I_call, I_calli, I_callv, I_clone, I_getc, i_ifeq, i_ifne, i_iflt, i_ifge, i_ifgt, i_ifle, i_idiv, i_irem, i_newa, i_newo, i_abs, i_max, i_min, i_ldiv, en_, es_i, es_r, es_0, es_n, es_l, List.length_cons, List.length_nil, List.cons_append, List.nil_append, Nat.reduceAdd, Nat.reduceSub, List.replicate, lg_, st1_, st2_, cn_, nl_, mk_, pk_, kd_, sl_, la_, ft_a, ft_i, ft_l, ft_o, ft_n, ft_b0, ft_b1, ft_bI, nr_0, nr_1, nr_bI, ro_, no_, if_true, if_false, ite_true, ite_false, reduceIte, Nat.reduceMod, Nat.reduceEqDiff, Nat.zero_add, Nat.add_zero, lk_, lit_, nI_add, nI_mul, ix_nI, fgk_0, fgk_1, fgk_2, fgk_3, fgk_4, fgk_5, fgk_6, fgk_7, fgk_8, fgk_9, fgk_10, fgk_11, fgk_12, fgk_13, fsk_0, fsk_1, fsk_2, fsk_3, fsk_4, fsk_5, fsk_6, fsk_7, fsk_8, fsk_9, fsk_10, fsk_11, fsk_12, fsk_13, ca_i, ca_r, ca_n, Nat.reduceLT, true_or, or_true, if_true, false_or, or_false, and_true, true_and, List.mem_singleton, eq_self, hp, k0, g1, ch, hp1, u1]
      · have n1 : ¬ nI (cnt_ (sgo_ r a true) s 0 0) = nI 0 := fun q => c1 ((nI_eq (by omega) (by omega)).1 q)
        refine ⟨σ3, 0, ?_, Fr_le (Fr_trans (Fr_trans g2 u2) v2) (by decide)⟩
        by_cases c2 : cnt_ (sgo_ r a false) s 0 0 = 0
        · rw [c2] at v1
          have : fo_ (why1_ r a) s 0 1 = 2 := by
            have a1 := fun q => c1 (q1.1 q)
            have a2 := fun q => q2.1 q c2
            omega
          rw [this, D_run]
          simp (disch := omega) only [l369, b369_0, K369_0, b369_1, K369_1, b369_2, K369_2, b369_3, K369_3, b369_4, K369_4, R_cons, go_nx, go_jp, go_rt, go_th, go_ca, go_no, go_ite, rr_v, rr_n, rr_x, hx_n, hx_p, hx_b, I_push, I_pushl, I_fc0, I_fc1, I_dc0, I_null, I_mask, I_iload, I_lload, I_dload, I_fload, I_aload, I_istore, I_lstore, I_dstore, I_fstore, I_astore, I_iinc, I_iadd, I_isub, I_imul, I_iand, I_ior, I_ixor, I_ishl, I_ishr, I_iushr, I_ineg, I_ladd, I_lsub, I_lmul, I_lxor, I_i2l, I_l2i, I_i2b, I_i2c, I_i2f, I_i2d, I_lcmp, I_fdiv, I_ddiv, I_f2d, I_dcmp, I_dup, I_pop, I_dup_x1, I_dup2, I_icne, I_iceq, I_iclt, I_icge, I_icgt, I_icle, I_ifnull, I_ifnonnull, I_ane, I_aeq, I_goto, I_lsw, I_iret, I_lret, I_fret, I_dret, I_vret, I_nret, I_aret, I_iald, I_bald, I_lald, I_aald, I_iast, I_bast, I_last, I_aast, I_alen, I_new, I_val, I_cast, I_inst, I_obj, I_throw, I_mkx, I_getf, I_putf, I_call, I_calli, I_callv, I_clone, I_getc, i_ifeq, i_ifne, i_iflt, i_ifge, i_ifgt, i_ifle, i_idiv, i_irem, i_newa, i_newo, i_abs, i_max, i_min, i_ldiv, en_, es_i, es_r, es_0, es_n, es_l, List.length_cons, List.length_nil, List.cons_append, List.nil_append, Nat.reduceAdd, Nat.reduceSub, List.replicate, lg_, st1_, st2_, cn_, nl_, mk_, pk_, kd_, sl_, la_, ft_a, ft_i, ft_l, ft_o, ft_n, ft_b0, ft_b1, ft_bI, nr_0, nr_1, nr_bI, ro_, no_, if_true, if_false, ite_true, ite_false, reduceIte, Nat.reduceMod, Nat.reduceEqDiff, Nat.zero_add, Nat.add_zero, lk_, lit_, nI_add, nI_mul, ix_nI, fgk_0, fgk_1, fgk_2, fgk_3, fgk_4, fgk_5, fgk_6, fgk_7, fgk_8, fgk_9, fgk_10, fgk_11, fgk_12, fgk_13, fsk_0, fsk_1, fsk_2, fsk_3, fsk_4, fsk_5, fsk_6, fsk_7, fsk_8, fsk_9, fsk_10, fsk_11, fsk_12, fsk_13, ca_i, ca_r, ca_n, Nat.reduceLT, true_or, or_true, if_true, false_or, or_false, and_true, true_and, List.mem_singleton, eq_self, hp, k0, g1, ch, hp1, u1, n1, hp2, v1]
        · have n2 : ¬ nI (cnt_ (sgo_ r a false) s 0 0) = nI 0 := fun q => c2 ((nI_eq (by omega) (by omega)).1 q)
          rw [q2.2 c2, D_run]
          simp (disch := omega) only [l369, b369_0, K369_0, b369_1, K369_1, b369_2, K369_2, b369_3, K369_3, b369_4, K369_4, R_cons, go_nx, go_jp, go_rt, go_th, go_ca, go_no, go_ite, rr_v, rr_n, rr_x, hx_n, hx_p, hx_b, I_push, I_pushl, I_fc0, I_fc1, I_dc0, I_null, I_mask, I_iload, I_lload, I_dload, I_fload, I_aload, I_istore, I_lstore, I_dstore, I_fstore, I_astore, I_iinc, I_iadd, I_isub, I_imul, I_iand, I_ior, I_ixor, I_ishl, I_ishr, I_iushr, I_ineg, I_ladd, I_lsub, I_lmul, I_lxor, I_i2l, I_l2i, I_i2b, I_i2c, I_i2f, I_i2d, I_lcmp, I_fdiv, I_ddiv, I_f2d, I_dcmp, I_dup, I_pop, I_dup_x1, I_dup2, I_icne, I_iceq, I_iclt, I_icge, I_icgt, I_icle, I_ifnull, I_ifnonnull, I_ane, I_aeq, I_goto, I_lsw, I_iret, I_lret, I_fret, I_dret, I_vret, I_nret, I_aret, I_iald, I_bald, I_lald, I_aald, I_iast, I_bast, I_last, I_aast, I_alen, I_new, I_val, I_cast, I_inst, I_obj, I_throw, I_mkx, I_getf, I_putf, I_call, I_calli, I_callv, I_clone, I_getc, i_ifeq, i_ifne, i_iflt, i_ifge, i_ifgt, i_ifle, i_idiv, i_irem, i_newa, i_newo, i_abs, i_max, i_min, i_ldiv, en_, es_i, es_r, es_0, es_n, es_l, List.length_cons, List.length_nil, List.cons_append, List.nil_append, Nat.reduceAdd, Nat.reduceSub, List.replicate, lg_, st1_, st2_, cn_, nl_, mk_, pk_, kd_, sl_, la_, ft_a, ft_i, ft_l, ft_o, ft_n, ft_b0, ft_b1, ft_bI, nr_0, nr_1, nr_bI, ro_, no_, if_true, if_false, ite_true, ite_false, reduceIte, Nat.reduceMod, Nat.reduceEqDiff, Nat.zero_add, Nat.add_zero, lk_, lit_, nI_add, nI_mul, ix_nI, fgk_0, fgk_1, fgk_2, fgk_3, fgk_4, fgk_5, fgk_6, fgk_7, fgk_8, fgk_9, fgk_10, fgk_11, fgk_12, fgk_13, fsk_0, fsk_1, fsk_2, fsk_3, fsk_4, fsk_5, fsk_6, fsk_7, fsk_8, fsk_9, fsk_10, fsk_11, fsk_12, fsk_13, ca_i, ca_r, ca_n, Nat.reduceLT, true_or, or_true, if_true, false_or, or_false, and_true, true_and, List.mem_singleton, eq_self, hp, k0, g1, ch, hp1, u1, n1, hp2, v1, n2]
  · refine ⟨thr_ σ 19, σ.1, ?_, Fr_le (Fr_thr (Sq_hw h)) (by decide)⟩
    have k1 := S_ckM0 h c
    rw [if_neg c, D_run]
    simp (disch := omega) only [b369_0, K369_0, l369, R_cons, go_nx, go_jp, go_rt, go_th, go_ca, go_no, go_ite, rr_v, rr_n, rr_x, hx_n, hx_p, hx_b, I_push, I_pushl, I_fc0, I_fc1, I_dc0, I_null, I_mask, I_iload, I_lload, I_dload, I_fload, I_aload, I_istore, I_lstore, I_dstore, I_fstore, I_astore, I_iinc, I_iadd, I_isub, I_imul, I_iand, I_ior, I_ixor, I_ishl, I_ishr, I_iushr, I_ineg, I_ladd, I_lsub, I_lmul, I_lxor, I_i2l, I_l2i, I_i2b, I_i2c, I_i2f, I_i2d, I_lcmp, I_fdiv, I_ddiv, I_f2d, I_dcmp, I_dup, I_pop, I_dup_x1, I_dup2, I_icne, I_iceq, I_iclt, I_icge, I_icgt, I_icle, I_ifnull, I_ifnonnull, I_ane, I_aeq, I_goto, I_lsw, I_iret, I_lret, I_fret, I_dret, I_vret, I_nret, I_aret, I_iald, I_bald, I_lald, I_aald, I_iast, I_bast, I_last, I_aast, I_alen, I_new, I_val, I_cast, I_inst, I_obj, I_throw, I_mkx, I_getf, I_putf, I_call, I_calli, I_callv, I_clone, I_getc, i_ifeq, i_ifne, i_iflt, i_ifge, i_ifgt, i_ifle, i_idiv, i_irem, i_newa, i_newo, i_abs, i_max, i_min, i_ldiv, en_, es_i, es_r, es_0, es_n, es_l, List.length_cons, List.length_nil, List.cons_append, List.nil_append, Nat.reduceAdd, Nat.reduceSub, List.replicate, lg_, st1_, st2_, cn_, nl_, mk_, pk_, kd_, sl_, la_, ft_a, ft_i, ft_l, ft_o, ft_n, ft_b0, ft_b1, ft_bI, nr_0, nr_1, nr_bI, ro_, no_, if_true, if_false, ite_true, ite_false, reduceIte, Nat.reduceMod, Nat.reduceEqDiff, Nat.zero_add, Nat.add_zero, lk_, lit_, nI_add, nI_mul, ix_nI, fgk_0, fgk_1, fgk_2, fgk_3, fgk_4, fgk_5, fgk_6, fgk_7, fgk_8, fgk_9, fgk_10, fgk_11, fgk_12, fgk_13, fsk_0, fsk_1, fsk_2, fsk_3, fsk_4, fsk_5, fsk_6, fsk_7, fsk_8, fsk_9, fsk_10, fsk_11, fsk_12, fsk_13, ca_i, ca_r, ca_n, Nat.reduceLT, true_or, or_true, if_true, false_or, or_false, and_true, true_and, List.mem_singleton, eq_self, hp, k1]
end CQE
