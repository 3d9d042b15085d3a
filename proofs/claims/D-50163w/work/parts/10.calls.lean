/-! calls; System.arraycopy, clone, getClass -/
/-- arguments off the stack, by kind, the last first: 0 int, 1 reference, 2 long, 3 float, 4 double -/
def kd_ : Nat → Value → Bool
  | 0, .int _ => true
  | 1, .ref _ => true
  | 1, .null => true
  | 2, .long _ => true
  | 3, .float _ => true
  | 4, .double _ => true
  | _, _ => false
def pk_ : List Nat → List Value → List Value → Option (List Value × List Value)
  | [], st, acc => some (acc, st)
  | k :: ts, v :: st, acc => if kd_ k v = true then pk_ ts st (v :: acc) else none
  | _ :: _, [], _ => none
theorem kd_es {k : Nat} {v : Value} (h : kd_ k v = true) : (es_ [v]).length = (if k = 2 ∨ k = 4 then 2 else 1) := by
  unfold kd_ at h
  split at h <;> first | rfl | cases h
def kw_ : List Nat → Nat
  | [] => 0
  | k :: ts => (if k = 2 ∨ k = 4 then 2 else 1) + kw_ ts
theorem es_app (a b : List Value) : (es_ (a ++ b)).length = (es_ a).length + (es_ b).length := by
  rw [← es_sl, ← es_sl, ← es_sl]
  unfold lg_sl
  rw [List.flatMap_append, List.length_append]
theorem pk_spec : ∀ (ts : List Nat) (st acc as r : List Value), pk_ ts st acc = some (as, r) → ∃ ps : List Value, as = ps ++ acc ∧ st = ps.reverse ++ r ∧ ps.length = ts.length ∧ (es_ ps).length = kw_ ts := by
  intro ts
  induction ts with
  | nil =>
    intro st acc as r h
    cases h
    exact ⟨[], rfl, rfl, rfl, rfl⟩
  | cons k ts ih =>
    intro st acc as r h
    cases st with
    | nil => simp [pk_] at h
    | cons v st =>
      rw [pk_] at h
      split at h
      · next hk =>
        obtain ⟨ps, h1, h2, h3, h4⟩ := ih _ _ _ _ h
        refine ⟨ps ++ [v], by rw [h1]; simp, by rw [h2]; simp, by simp [h3], ?_⟩
        rw [es_app, h4, kd_es hk, kw_]
        omega
      · cases h
def I_call (k : Nat) (ts : List Nat) (hs : Hs_) : Ii_ := fun _ st _ => match pk_ ts st [] with
  | some (as, r) => if sl_ r = true then ca_ k as r hs else none
  | none => none
/-- by the receiver's class -/
def I_callv (tb : List (Nat × Nat)) (ts : List Nat) (hs : Hs_) : Ii_ := fun _ st σ => match pk_ ts st [] with
  | some (.ref a :: as, r) => match σ.2.2 a with
    | some (.inr o) => match la_ tb (o.1 % 100) with
      | some k => if sl_ r = true then ca_ k (.ref a :: as) r hs else none
      | none => none
    | _ => none
  | _ => none
theorem mn_call (k : Nat) (ts : List Nat) (hs : Hs_) : Mn_ (I_call k ts hs) := by
  intro lc st σ
  unfold I_call
  repeat' split
  all_goals exact True.intro
theorem mn_callv (tb : List (Nat × Nat)) (ts : List Nat) (hs : Hs_) : Mn_ (I_callv tb ts hs) := by
  intro lc st σ
  unfold I_callv
  repeat' split
  all_goals exact True.intro
section HC
variable {E : En_} {MT : Nat → Mi_} {M : Mi_} {bp : Nat → Nat} {pc : Nat}
theorem fb_ {as : List Value} {σ : As_} : FrameBlind (va_Pc as (Rg2_ E.1 cl_ E.2.1 E.2.2.1 (GF_ E) σ)) := by
  intro a U g mk h
  obtain ⟨h1, h2, h3⟩ := h
  exact ⟨h1, GF_move (U := U.calling g mk a) h2 (State.WarmedH.refl U) (fun _ _ _ => rfl), h3⟩
theorem pre_ {as : List Value} {σ : As_} {s : State} {H : Heap} {locs : List Loc} (hG : GF_ E s) (hR : Rp_ E.1 cl_ E.2.1 E.2.2.1 σ H) (hS : va_S (Ab_ E.2.2.1) s.heap H locs) : ∀ U : State, U.heap = H → s.WarmedH U.vm → va_Pc as (Rg2_ E.1 cl_ E.2.1 E.2.2.1 (GF_ E) σ) as.toArray U := by
  intro U hU hW
  exact ⟨rfl, GF_move hG hW (fun a h1 h2 => by rw [hU]; exact hS.2.1 a h1 h2), by rw [hU]; exact hR⟩
section DONE
variable {p : Program} {l : Launch} {e : Env} {R : Room} {s : State} {m : MethodId} {args : Array Value} {below : List Frame} {meth : Method} {c : Code} {H : Heap} {locs : List Loc} {cells slots mc ms : Nat} {ls : Array Slot} {st rest : List Value} {res : Rs_ × As_} {as : Array Value} {Q : State → Prop}
theorem done_ (hr : vx_Run p l e R s m args below meth c H locs cells slots mc ms (F0 m pc ls st) rest (Qr_ E.1 cl_ E.2.1 E.2.2.1 res as) (Qx_ E.1 cl_ E.2.1 E.2.2.1 cnm_ res) (Ab_ E.2.2.1)) (hS : va_S (Ab_ E.2.2.1) s.heap H locs)
    (hk : ∀ v, res.1 = .inl v → ∀ (H' : Heap) (locs' : List Loc), Rp_ E.1 cl_ E.2.1 E.2.2.1 res.2 H' → va_S (Ab_ E.2.2.1) s.heap H' locs' → W p l e R s m args below meth c H' locs' (cells + mc) (slots + ms) Q (F0 m (pc + 3) ls (v.toList ++ rest)))
    (hx : ∀ k2 a, res.1 = .inr (k2, a) → ∀ (H' : Heap) (locs' : List Loc) (ce : Cell), Rp_ E.1 cl_ E.2.1 E.2.2.1 res.2 H' → va_S (Ab_ E.2.2.1) s.heap H' locs' → H'[a]? = some ce → ce.vm = .none → s.vm.findClass (cnm_ k2) = some ce.cls → vx_W p l e R s m args below meth c H' locs' (cells + mc) (slots + ms) Q (F0 m pc ls rest) a) :
    W p l e R s m args below meth c H locs cells slots Q (F0 m pc ls st) := by
  intro T hT X
  rcases hr T hT X with ⟨v, st₀, t, T', L, h0, X', hL, e1, e2, ⟨v', hv', ho, hR', hF⟩, hst⟩ | ⟨q, st₀, t, T', L, E', ce, h0, X', hL, e1, e2, ⟨c', hc', hE', hR', hF⟩, hce, hcv, hcl, hst⟩
  · cases ho
    obtain ⟨k1, k2, k3⟩ := vx_keep h0 e1 hS (fun q _ h => h) (fun q h => h) hL hF
    obtain ⟨t2, a1, b1⟩ := hk v hv' T'.heap (locs ++ L) (by rw [e1]; exact hR') k3 T' rfl X'
    exact ⟨t2, hst t2 a1, b1⟩
  · obtain ⟨k1, k2, k3⟩ := vx_keep h0 e1 hS (fun q _ h => h) (fun q h => h) hL hF
    obtain ⟨t2, a1, b1⟩ := hx c' q hc' T'.heap (locs ++ L) ce (by rw [e1]; exact hR') k3 (by rw [e1]; exact hce) hcv (by rw [← hE']; exact hcl) T' rfl X'
    exact ⟨t2, hst.trans a1, b1⟩
theorem done5_ (hr : vx_Run5 p l e R s m args below meth c H locs cells slots mc ms (F0 m pc ls st) rest (Qr_ E.1 cl_ E.2.1 E.2.2.1 res as) (Qx_ E.1 cl_ E.2.1 E.2.2.1 cnm_ res) (Ab_ E.2.2.1)) (hS : va_S (Ab_ E.2.2.1) s.heap H locs)
    (hk : ∀ v, res.1 = .inl v → ∀ (H' : Heap) (locs' : List Loc), Rp_ E.1 cl_ E.2.1 E.2.2.1 res.2 H' → va_S (Ab_ E.2.2.1) s.heap H' locs' → W p l e R s m args below meth c H' locs' (cells + mc) (slots + ms) Q (F0 m (pc + 5) ls (v.toList ++ rest)))
    (hx : ∀ k2 a, res.1 = .inr (k2, a) → ∀ (H' : Heap) (locs' : List Loc) (ce : Cell), Rp_ E.1 cl_ E.2.1 E.2.2.1 res.2 H' → va_S (Ab_ E.2.2.1) s.heap H' locs' → H'[a]? = some ce → ce.vm = .none → s.vm.findClass (cnm_ k2) = some ce.cls → vx_W p l e R s m args below meth c H' locs' (cells + mc) (slots + ms) Q (F0 m pc ls rest) a) :
    W p l e R s m args below meth c H locs cells slots Q (F0 m pc ls st) := by
  intro T hT X
  rcases hr T hT X with ⟨v, st₀, t, T', L, h0, X', hL, e1, e2, ⟨v', hv', ho, hR', hF⟩, hst⟩ | ⟨q, st₀, t, T', L, E', ce, h0, X', hL, e1, e2, ⟨c', hc', hE', hR', hF⟩, hce, hcv, hcl, hst⟩
  · cases ho
    obtain ⟨k1, k2, k3⟩ := vx_keep h0 e1 hS (fun q _ h => h) (fun q h => h) hL hF
    obtain ⟨t2, a1, b1⟩ := hk v hv' T'.heap (locs ++ L) (by rw [e1]; exact hR') k3 T' rfl X'
    exact ⟨t2, hst t2 a1, b1⟩
  · obtain ⟨k1, k2, k3⟩ := vx_keep h0 e1 hS (fun q _ h => h) (fun q h => h) hL hF
    obtain ⟨t2, a1, b1⟩ := hx c' q hc' T'.heap (locs ++ L) ce (by rw [e1]; exact hR') k3 (by rw [e1]; exact hce) hcv (by rw [← hE']; exact hcl) T' rfl X'
    exact ⟨t2, hst.trans a1, b1⟩
end DONE
/-- what a callee must be: low enough, few locals, so many arguments -/
def cf_ (M M' : Mi_) (n : Nat) (ts : List Nat) : Prop := M'.2.2.2.2.2 < M.2.2.2.2.2 ∧ kw_ ts ≤ M'.2.2.1 ∧ M'.2.2.1 ≤ 45 ∧ (parseMethodDescriptor M'.1.desc).map (fun d => d.parameters.length) = some n ∧ M'.1.cls ≠ "java/lang/invoke/MethodHandle" ∧ M'.1.cls ≠ "java/lang/invoke/VarHandle"
theorem wsM_ne {M : Mi_} (h : M.2.2.2.2.1 ≠ []) : wsM_ M = wsW_ M.1 M.2.1 M.2.2.1 M.2.2.2.1 M.2.2.2.2.1 := by
  unfold wsM_
  split
  · next e => exact absurd e h
  · next e => rw [e]
theorem lw_U {own C owner : String} {idx L : Nat} {x y : MethodName} {b : ByteArray} {r : Option FieldType} (h1 : Cond.methodLink own idx x ∈ lw_all) (h2 : Cond.sameMethod x.cls owner x.name x.desc ∈ lw_all) (h3 : Cond.selects C x y ∈ lw_all) (h4 : Cond.instanceMethod y ∈ lw_all) (h5 : Cond.initialized y.cls ∈ lw_all) (h6 : Cond.code y b L r ∈ lw_all) : GoodIn lw_all (va_wsU own idx C owner x y (ws_ y b L r)) := by
  refine lw_app ?_ (lw_meth h6)
  intro w hw
  simp only [List.mem_cons, List.not_mem_nil, or_false] at hw
  rcases hw with e | e | e | e | e <;> rw [e] <;> assumption
theorem lw_O {own C owner : String} {idx L : Nat} {x y : MethodName} {b : ByteArray} {r : Option FieldType} (h1 : Cond.methodLink own idx x ∈ lw_all) (h2 : Cond.sameMethod x.cls owner x.name x.desc ∈ lw_all) (h7 : Cond.instanceMethod ⟨owner, x.name, x.desc⟩ ∈ lw_all) (h3 : Cond.selects C x y ∈ lw_all) (h4 : Cond.instanceMethod y ∈ lw_all) (h5 : Cond.initialized y.cls ∈ lw_all) (h6 : Cond.code y b L r ∈ lw_all) : GoodIn lw_all (va_wsO own idx C owner x y (ws_ y b L r)) := by
  refine lw_app ?_ (lw_meth h6)
  intro w hw
  simp only [List.mem_cons, List.not_mem_nil, or_false] at hw
  rcases hw with e | e | e | e | e | e <;> rw [e] <;> assumption
theorem lw_SU {own : String} {idx L : Nat} {y : MethodName} {b : ByteArray} {r : Option FieldType} (h1 : Cond.methodLink own idx y ∈ lw_all) (h2 : Cond.sameMethod y.cls y.cls y.name y.desc ∈ lw_all) (h3 : Cond.superclass own y.cls ∈ lw_all) (h4 : Cond.instanceMethod y ∈ lw_all) (h5 : Cond.initialized y.cls ∈ lw_all) (h6 : Cond.code y b L r ∈ lw_all) : GoodIn lw_all (va_wsSU own idx y (ws_ y b L r)) := by
  refine lw_app ?_ (lw_meth h6)
  intro w hw
  simp only [List.mem_cons, List.not_mem_nil, or_false] at hw
  rcases hw with e | e | e | e | e <;> rw [e] <;> assumption
theorem lw_F {own C : String} {idx L : Nat} {x y : MethodName} {b : ByteArray} {r : Option FieldType} (h1 : Cond.methodLink own idx x ∈ lw_all) (h3 : Cond.selects C x y ∈ lw_all) (h4 : Cond.instanceMethod y ∈ lw_all) (h5 : Cond.initialized y.cls ∈ lw_all) (h6 : Cond.code y b L r ∈ lw_all) : GoodIn lw_all (va_wsF own idx C x y (ws_ y b L r)) := by
  refine lw_app ?_ (lw_meth h6)
  intro w hw
  simp only [List.mem_cons, List.not_mem_nil, or_false] at hw
  rcases hw with e | e | e | e <;> rw [e] <;> assumption
/-- a constructor's call -/
def I_calli (k : Nat) (ts : List Nat) (hs : Hs_) : Ii_ := fun _ st _ => match pk_ ts st [] with
  | some (.ref a :: as, r) => if sl_ r = true then ca_ k (.ref a :: as) r hs else none
  | _ => none
theorem mn_calli (k : Nat) (ts : List Nat) (hs : Hs_) : Mn_ (I_calli k ts hs) := by
  intro lc st σ
  unfold I_calli
  repeat' split
  all_goals exact True.intro
/-- the receiver's class C runs M' where own's pool entry idx calls a method of a class above -/
def Oc_ (own : String) (idx : Nat) (C : String) (M' : Mi_) : Prop := ∃ (x : MethodName) (owner : String) (b0 : ByteArray) (m0 : Nat) (r0 : Option FieldType), x.desc = M'.1.desc ∧ owner ≠ "java/lang/invoke/MethodHandle" ∧ owner ≠ "java/lang/invoke/VarHandle" ∧ Cond.code ⟨owner, x.name, x.desc⟩ b0 m0 r0 ∈ lw_all ∧ Cond.methodLink own idx x ∈ lw_all ∧ Cond.sameMethod x.cls owner x.name x.desc ∈ lw_all ∧ Cond.instanceMethod ⟨owner, x.name, x.desc⟩ ∈ lw_all ∧ Cond.instanceMethod M'.1 ∈ lw_all ∧ Cond.selects C x M'.1 ∈ lw_all ∧ Cond.initialized M'.1.cls ∈ lw_all ∧ Cond.code M'.1 M'.2.1 M'.2.2.1 M'.2.2.2.1 ∈ lw_all ∧ M'.2.2.2.2.1 = []
/-- .. an abstract method of a class above -/
def Aa_ (own : String) (idx : Nat) (C : String) (M' : Mi_) : Prop := ∃ (x : MethodName) (owner : String), x.desc = M'.1.desc ∧ owner ≠ "java/lang/invoke/MethodHandle" ∧ owner ≠ "java/lang/invoke/VarHandle" ∧ Cond.declares ⟨owner, x.name, x.desc⟩ ∈ lw_tbl ∧ Cond.methodLink own idx x ∈ lw_all ∧ Cond.sameMethod x.cls owner x.name x.desc ∈ lw_all ∧ Cond.instanceMethod M'.1 ∈ lw_all ∧ Cond.selects C x M'.1 ∈ lw_all ∧ Cond.initialized M'.1.cls ∈ lw_all ∧ Cond.code M'.1 M'.2.1 M'.2.2.1 M'.2.2.2.1 ∈ lw_all ∧ M'.2.2.2.2.1 = []
theorem sel_to {args args2 : Array Value} {s : State} {C owner : String} {x y : MethodName} (h1 : (Cond.sameMethod x.cls owner x.name x.desc).before args s = true) (h2 : (Cond.interfaceMethod owner owner x.name x.desc).before args2 s = true) (h3 : (Cond.selects C ⟨owner, x.name, x.desc⟩ y).before args s = true) : (Cond.selects C x y).before args s = true := by
  obtain ⟨_, _, r, -, -, -, hf, hn⟩ := Cond.sameMethod_found h1
  obtain ⟨_, _, m, -, -, -, hf2, hn2⟩ := Cond.interfaceMethod_spec h2
  cases hn.symm.trans hn2
  have e : s.methodFound? x.cls x.name x.desc = s.methodFound? owner x.name x.desc := hf.trans hf2.symm
  simp only [Cond.before, Cond.holds, Cond.value] at h3 ⊢
  rw [e]
  exact h3
def Dd_ (own : String) (idx : Nat) (C : String) (M' : Mi_) : Prop := ∃ (x : MethodName) (owner : String), x.desc = M'.1.desc ∧ owner ≠ "java/lang/invoke/MethodHandle" ∧ owner ≠ "java/lang/invoke/VarHandle" ∧ Cond.declares ⟨owner, x.name, x.desc⟩ ∈ lw_tbl ∧ Cond.methodLink own idx x ∈ defaultWords_1 ∧ Cond.sameMethod x.cls owner x.name x.desc ∈ defaultWords_1 ∧ (C, ⟨owner, x.name, x.desc⟩, M'.1) ∈ ifl_ ∧ Cond.instanceMethod M'.1 ∈ lw_all ∧ Cond.selects C ⟨owner, x.name, x.desc⟩ M'.1 ∈ lw_all ∧ Cond.initialized M'.1.cls ∈ lw_all ∧ Cond.code M'.1 M'.2.1 M'.2.2.1 M'.2.2.2.1 ∈ lw_all ∧ M'.2.2.2.2.1 = []
theorem dw_0 : Cond.methodLink "java/util/ImmutableCollections$AbstractImmutableList" 107 ⟨"java/util/ImmutableCollections$AbstractImmutableList", "indexOf", "(Ljava/lang/Object;)I"⟩ ∈ defaultWords_1 := List.mem_cons_self
theorem dw_1 : Cond.sameMethod "java/util/ImmutableCollections$AbstractImmutableList" "java/util/List" "indexOf" "(Ljava/lang/Object;)I" ∈ defaultWords_1 := List.mem_cons_of_mem _ List.mem_cons_self
/-- the class C runs M' for the interface's method x -/
def Fc_ (C : String) (x : MethodName) (M' : Mi_) : Prop := x.desc = M'.1.desc ∧ (C, x, M'.1) ∈ ifl_ ∧ Cond.selects C x M'.1 ∈ lw_all ∧ Cond.instanceMethod M'.1 ∈ lw_all ∧ Cond.initialized M'.1.cls ∈ lw_all ∧ Cond.code M'.1 M'.2.1 M'.2.2.1 M'.2.2.2.1 ∈ lw_all ∧ M'.2.2.2.2.1 = []
theorem so_callS {k idx n npc : Nat} {ts : List Nat} {hs : Hs_} (h1w : Cond.methodLink M.1.cls idx (MT k).1 ∈ lw_all) (h2w : Cond.static (MT k).1 ∈ lw_all) (h3w : Cond.initialized (MT k).1.cls ∈ lw_all) (h4w : Cond.code (MT k).1 (MT k).2.1 (MT k).2.2.1 (MT k).2.2.2.1 ∈ lw_all) (hhh : (MT k).2.2.2.2.1 = []) (hd : decode M.2.1 pc = .ok (.invokestatic idx, 3)) (hcf : cf_ M (MT k) n ts) (hn : ts.length = n) (hho : Ho_ E.2.2.1 (GF_ E) cnm_ M bp pc hs) (hnp : npc = pc + 3) : SoE_ E MT M bp pc npc (I_call k ts hs) := by
  subst hnp
  intro p l e R s m args below meth c hC lc st σ ls H locs cells slots hl hR hS
  unfold I_call
  have hG := hC.2.2.2.2.2.2.2.2.2.2.1
  have hts := hC.2.2.2.2.2.2.1
  have hf := hC.2.2.2.2.2.2.2.2.2.2.2.1
  have hlo := hC.2.2.2.2.2.2.2.2.2.2.2.2.1
  obtain ⟨q1, q2, q3, q4, q5, q6⟩ := hcf
  split
  · next as r hpk =>
    split
    · next hsl =>
      have hsl := sl_le hsl
      obtain ⟨ps, e1, e2, e3, e4⟩ := pk_spec _ _ _ _ _ hpk
      rw [List.append_nil] at e1
      subst e1
      refine ⟨q1, by rw [e4]; exact q2, hho, fun res g1 g2 hM Q h1 h2 hk hx => ?_⟩
      have hM := hM l hC.2.2.2.2.2.2.2.1
      subst e2
      exact done_ (as := as.toArray) (vx_runS (As := as) (rest := r) ⟨hC.1, hC.2.1, hC.2.2.2.2.1, hC.2.2.2.2.2.1, hts⟩ hM (va_cwS n hts (by unfold wsM_; rw [hhh]; exact lw_S h1w h2w h3w h4w) (by unfold wsM_; rw [hhh]) rfl rfl ⟨q5, q6, q4⟩ ⟨by show (MT k).2.2.2.2.2 + 1 ≤ R.frames; omega, by show 8 + ((MT k).2.2.1 + 11) + 64 * (MT k).2.2.2.2.2 ≤ R.locals; omega⟩) ⟨fb_, pre_ hG hR hS⟩ rfl (e3.trans hn) hl.1 rfl (lv_room hsl) hd ⟨h1, h2⟩) hS hk hx
    · exact True.intro
  · exact True.intro
theorem so_callSX {k idx n npc : Nat} {ts : List Nat} {hs : Hs_} (h1w : Cond.methodLink M.1.cls idx (MT k).1 ∈ lw_all) (h2w : Cond.static (MT k).1 ∈ lw_all) (h3w : Cond.initialized (MT k).1.cls ∈ lw_all) (h4w : Cond.codeWith (MT k).1 (MT k).2.1 (MT k).2.2.1 (MT k).2.2.2.1 (MT k).2.2.2.2.1 ∈ lw_all) (hhh : (MT k).2.2.2.2.1 ≠ []) (hd : decode M.2.1 pc = .ok (.invokestatic idx, 3)) (hcf : cf_ M (MT k) n ts) (hn : ts.length = n) (hho : Ho_ E.2.2.1 (GF_ E) cnm_ M bp pc hs) (hnp : npc = pc + 3) : SoE_ E MT M bp pc npc (I_call k ts hs) := by
  subst hnp
  intro p l e R s m args below meth c hC lc st σ ls H locs cells slots hl hR hS
  unfold I_call
  have hG := hC.2.2.2.2.2.2.2.2.2.2.1
  have hts := hC.2.2.2.2.2.2.1
  have hf := hC.2.2.2.2.2.2.2.2.2.2.2.1
  have hlo := hC.2.2.2.2.2.2.2.2.2.2.2.2.1
  obtain ⟨q1, q2, q3, q4, q5, q6⟩ := hcf
  split
  · next as r hpk =>
    split
    · next hsl =>
      have hsl := sl_le hsl
      obtain ⟨ps, e1, e2, e3, e4⟩ := pk_spec _ _ _ _ _ hpk
      rw [List.append_nil] at e1
      subst e1
      refine ⟨q1, by rw [e4]; exact q2, hho, fun res g1 g2 hM Q h1 h2 hk hx => ?_⟩
      have hM := hM l hC.2.2.2.2.2.2.2.1
      subst e2
      exact done_ (as := as.toArray) (vx_runSX (As := as) (rest := r) ⟨hC.1, hC.2.1, hC.2.2.2.2.1, hC.2.2.2.2.2.1, hts⟩ hM (vx_cwSW n hts (by rw [wsM_ne hhh]; exact lw_SW h1w h2w h3w h4w) (wsM_ne hhh) rfl rfl ⟨q5, q6, q4⟩ ⟨by show (MT k).2.2.2.2.2 + 1 ≤ R.frames; omega, by show 8 + ((MT k).2.2.1 + 11) + 64 * (MT k).2.2.2.2.2 ≤ R.locals; omega⟩) ⟨fb_, pre_ hG hR hS⟩ rfl (e3.trans hn) hl.1 rfl (lv_room hsl) hd ⟨h1, h2⟩) hS hk hx
    · exact True.intro
  · exact True.intro
theorem so_callSN {k idx n npc : Nat} {ts : List Nat} {hs : Hs_} {host : String} (h1w : Cond.methodLinkNest M.1.cls idx (MT k).1 host ∈ lw_tbl) (h2w : Cond.static (MT k).1 ∈ lw_all) (h3w : Cond.initialized (MT k).1.cls ∈ lw_all) (h4w : Cond.code (MT k).1 (MT k).2.1 (MT k).2.2.1 (MT k).2.2.2.1 ∈ lw_all) (hhh : (MT k).2.2.2.2.1 = []) (hd : decode M.2.1 pc = .ok (.invokestatic idx, 3)) (hcf : cf_ M (MT k) n ts) (hn : ts.length = n) (hho : Ho_ E.2.2.1 (GF_ E) cnm_ M bp pc hs) (hnp : npc = pc + 3) : SoE_ E MT M bp pc npc (I_call k ts hs) := by
  subst hnp
  intro p l e R s m args below meth c hC lc st σ ls H locs cells slots hl hR hS
  unfold I_call
  have hG := hC.2.2.2.2.2.2.2.2.2.2.1
  have hts := hC.2.2.2.2.2.2.1
  have hf := hC.2.2.2.2.2.2.2.2.2.2.2.1
  have hlo := hC.2.2.2.2.2.2.2.2.2.2.2.2.1
  obtain ⟨q1, q2, q3, q4, q5, q6⟩ := hcf
  split
  · next as r hpk =>
    split
    · next hsl =>
      have hsl := sl_le hsl
      obtain ⟨ps, e1, e2, e3, e4⟩ := pk_spec _ _ _ _ _ hpk
      rw [List.append_nil] at e1
      subst e1
      refine ⟨q1, by rw [e4]; exact q2, hho, fun res g1 g2 hM Q h1 h2 hk hx => ?_⟩
      have hM := hM l hC.2.2.2.2.2.2.2.1
      subst e2
      exact done_ (as := as.toArray) (vx_runSN (As := as) (rest := r) ⟨hC.1, hC.2.1, hC.2.2.2.2.1, hC.2.2.2.2.2.1, hts⟩ hM (⟨va_cnB (host := host) n hts (by unfold wsM_; rw [hhh]; exact lw_meth h4w) (by unfold wsM_; rw [hhh]) rfl rfl (hG.2.2.1 _ h1w rfl) (hts _ h3w) ⟨q5, q6, q4⟩ ⟨by show (MT k).2.2.2.2.2 + 1 ≤ R.frames; omega, by show 8 + ((MT k).2.2.1 + 11) + 64 * (MT k).2.2.2.2.2 ≤ R.locals; omega⟩, hts _ h2w, trivial⟩) ⟨fb_, pre_ hG hR hS⟩ rfl (e3.trans hn) hl.1 rfl (lv_room hsl) hd ⟨h1, h2⟩) hS hk hx
    · exact True.intro
  · exact True.intro
theorem so_callI {k idx n npc : Nat} {ts : List Nat} {hs : Hs_} (h1w : Cond.methodLink M.1.cls idx (MT k).1 ∈ lw_all) (h2w : Cond.instanceMethod (MT k).1 ∈ lw_all) (h3w : Cond.initialized (MT k).1.cls ∈ lw_all) (h4w : Cond.code (MT k).1 (MT k).2.1 (MT k).2.2.1 (MT k).2.2.2.1 ∈ lw_all) (hr0 : (MT k).2.2.2.1 = none) (hnm : (MT k).1.name = "<init>") (hhh : (MT k).2.2.2.2.1 = []) (hd : decode M.2.1 pc = .ok (.invokespecial idx, 3)) (hcf : cf_ M (MT k) n ts) (hn : ts.length = n + 1) (hho : Ho_ E.2.2.1 (GF_ E) cnm_ M bp pc hs) (hnp : npc = pc + 3) : SoE_ E MT M bp pc npc (I_calli k ts hs) := by
  subst hnp
  intro p l e R s m args below meth c hC lc st σ ls H locs cells slots hl hR hS
  unfold I_calli
  have hG := hC.2.2.2.2.2.2.2.2.2.2.1
  have hts := hC.2.2.2.2.2.2.1
  have hf := hC.2.2.2.2.2.2.2.2.2.2.2.1
  have hlo := hC.2.2.2.2.2.2.2.2.2.2.2.2.1
  obtain ⟨q1, q2, q3, q4, q5, q6⟩ := hcf
  split
  · next b as r hpk =>
    split
    · next hsl =>
      have hsl := sl_le hsl
      obtain ⟨ps, e1, e2, e3, e4⟩ := pk_spec _ _ _ _ _ hpk
      rw [List.append_nil] at e1
      subst e1
      refine ⟨q1, by rw [e4]; exact q2, hho, fun res g1 g2 hM Q h1 h2 hk hx => ?_⟩
      have hM := hM l hC.2.2.2.2.2.2.2.1
      have e2 : st = as.reverse ++ .ref b :: r := by rw [e2]; simp
      subst e2
      have e3 : as.length = n := by rw [hn] at e3; simpa using e3
      exact done_ (as := (Value.ref b :: as).toArray) (vx_runI (As := as) (rest := r) ⟨hC.1, hC.2.1, hC.2.2.2.2.1, hC.2.2.2.2.2.1, hts⟩ hM (cwI n hts (by unfold wsM_; rw [hhh]; exact lw_meth h4w) (by unfold wsM_; rw [hhh]; dsimp only; rw [hr0]) rfl rfl (hts _ h3w) (hts _ h1w) (hts _ h2w) hnm ⟨q5, q6, q4⟩ ⟨by show (MT k).2.2.2.2.2 + 1 ≤ R.frames; omega, by show 8 + ((MT k).2.2.1 + 11) + 64 * (MT k).2.2.2.2.2 ≤ R.locals; omega⟩) ⟨fb_, pre_ hG hR hS⟩ rfl (e3) hl.1 rfl (lv_room hsl) hd ⟨h1, h2⟩) hS hk hx
    · exact True.intro
  · exact True.intro
theorem so_callIN {k idx n npc : Nat} {ts : List Nat} {hs : Hs_} {host : String} (h1w : Cond.methodLinkNest M.1.cls idx (MT k).1 host ∈ lw_tbl) (h2w : Cond.instanceMethod (MT k).1 ∈ lw_all) (h3w : Cond.initialized (MT k).1.cls ∈ lw_all) (h4w : Cond.code (MT k).1 (MT k).2.1 (MT k).2.2.1 (MT k).2.2.2.1 ∈ lw_all) (hr0 : (MT k).2.2.2.1 = none) (hnm : (MT k).1.name = "<init>") (hhh : (MT k).2.2.2.2.1 = []) (hd : decode M.2.1 pc = .ok (.invokespecial idx, 3)) (hcf : cf_ M (MT k) n ts) (hn : ts.length = n + 1) (hho : Ho_ E.2.2.1 (GF_ E) cnm_ M bp pc hs) (hnp : npc = pc + 3) : SoE_ E MT M bp pc npc (I_calli k ts hs) := by
  subst hnp
  intro p l e R s m args below meth c hC lc st σ ls H locs cells slots hl hR hS
  unfold I_calli
  have hG := hC.2.2.2.2.2.2.2.2.2.2.1
  have hts := hC.2.2.2.2.2.2.1
  have hf := hC.2.2.2.2.2.2.2.2.2.2.2.1
  have hlo := hC.2.2.2.2.2.2.2.2.2.2.2.2.1
  obtain ⟨q1, q2, q3, q4, q5, q6⟩ := hcf
  split
  · next b as r hpk =>
    split
    · next hsl =>
      have hsl := sl_le hsl
      obtain ⟨ps, e1, e2, e3, e4⟩ := pk_spec _ _ _ _ _ hpk
      rw [List.append_nil] at e1
      subst e1
      refine ⟨q1, by rw [e4]; exact q2, hho, fun res g1 g2 hM Q h1 h2 hk hx => ?_⟩
      have hM := hM l hC.2.2.2.2.2.2.2.1
      have e2 : st = as.reverse ++ .ref b :: r := by rw [e2]; simp
      subst e2
      have e3 : as.length = n := by rw [hn] at e3; simpa using e3
      exact done_ (as := (Value.ref b :: as).toArray) (vx_runIN (As := as) (rest := r) ⟨hC.1, hC.2.1, hC.2.2.2.2.1, hC.2.2.2.2.2.1, hts⟩ hM (⟨va_cnB (host := host) n hts (by unfold wsM_; rw [hhh]; exact lw_meth h4w) (by unfold wsM_; rw [hhh]; dsimp only; rw [hr0]) rfl rfl (hG.2.2.1 _ h1w rfl) (hts _ h3w) ⟨q5, q6, q4⟩ ⟨by show (MT k).2.2.2.2.2 + 1 ≤ R.frames; omega, by show 8 + ((MT k).2.2.1 + 11) + 64 * (MT k).2.2.2.2.2 ≤ R.locals; omega⟩, hnm, hts _ h2w⟩) ⟨fb_, pre_ hG hR hS⟩ rfl (e3) hl.1 rfl (lv_room hsl) hd ⟨h1, h2⟩) hS hk hx
    · exact True.intro
  · exact True.intro
theorem so_callV {idx n npc : Nat} {tb : List (Nat × Nat)} {ts : List Nat} {hs : Hs_} {q : vw_C} {ci k0 : Nat} (htb : tb = [(ci, k0)]) (hq0 : cl_[ci]? = some q) (hcf : cf_ M (MT k0) n ts) (hcls : (MT k0).1.cls = q.1) (h1w : Cond.methodLink M.1.cls idx (MT k0).1 ∈ lw_all) (h2w : Cond.instanceMethod (MT k0).1 ∈ lw_all) (h3w : Cond.selects q.1 (MT k0).1 (MT k0).1 ∈ lw_all) (h5w : Cond.initialized q.1 ∈ lw_all) (h4w : Cond.code (MT k0).1 (MT k0).2.1 (MT k0).2.2.1 (MT k0).2.2.2.1 ∈ lw_all) (hhh : (MT k0).2.2.2.2.1 = []) (hd : decode M.2.1 pc = .ok (.invokevirtual idx, 3)) (hn : ts.length = n + 1) (hho : Ho_ E.2.2.1 (GF_ E) cnm_ M bp pc hs) (hnp : npc = pc + 3) : SoE_ E MT M bp pc npc (I_callv tb ts hs) := by
  subst hnp
  intro p l e R s m args below meth c hC lc st σ ls H locs cells slots hl hR hS
  unfold I_callv
  have hG := hC.2.2.2.2.2.2.2.2.2.2.1
  have hts := hC.2.2.2.2.2.2.1
  have hf := hC.2.2.2.2.2.2.2.2.2.2.2.1
  have hlo := hC.2.2.2.2.2.2.2.2.2.2.2.2.1
  split
  · next b as r hpk =>
    split
    · next o ho =>
      split
      · next k hk =>
        split
        · next hsl =>
          have hsl := sl_le hsl
          subst htb
          obtain ⟨rfl, rfl⟩ : o.1 % 100 = ci ∧ k = k0 := by
            rw [la_, la_] at hk
            split at hk
            · next e => cases hk; exact ⟨e, rfl⟩
            · cases hk
          have hq := hq0
          obtain ⟨q1, q2, q3, q4, q5, q6⟩ := hcf
          obtain ⟨cellB, b1, b2, b3⟩ := recv_ hG hR ho hq
          obtain ⟨ps, e1, e2, e3, e4⟩ := pk_spec _ _ _ _ _ hpk
          rw [List.append_nil] at e1
          subst e1
          refine ⟨q1, by rw [e4]; exact q2, hho, fun res g1 g2 hM Q h1 h2 hk hx => ?_⟩
          have hM := hM l hC.2.2.2.2.2.2.2.1
          have e2 : st = as.reverse ++ .ref b :: r := by rw [e2]; simp
          subst e2
          have e3 : as.length = n := by rw [hn] at e3; simpa using e3
          have hPV : PreV s H q.1 b (va_Pc (.ref b :: as) (Rg2_ E.1 cl_ E.2.1 E.2.2.1 (GF_ E) σ)) as := ⟨fb_, ⟨cellB, b1, by rw [b2]; rfl, b3⟩, pre_ hG hR hS⟩
          exact done_ (as := (Value.ref b :: as).toArray) (vx_runV (As := as) (rest := r) ⟨hC.1, hC.2.1, hC.2.2.2.2.1, hC.2.2.2.2.2.1, hts⟩ hM (cwV n hts (by unfold wsM_; rw [hhh]; exact lw_V h1w h2w h3w h5w h4w) (by unfold wsM_; rw [hhh]) rfl rfl ⟨hcls, q5, q6, q4⟩ ⟨by show (MT k).2.2.2.2.2 + 1 ≤ R.frames; omega, by show 8 + ((MT k).2.2.1 + 11) + 64 * (MT k).2.2.2.2.2 ≤ R.locals; omega⟩) hPV rfl (e3) hl.1 rfl (lv_room hsl) hd ⟨h1, h2⟩) hS hk hx
        · exact True.intro
      · exact True.intro
    · exact True.intro
  · exact True.intro
theorem so_callVX {idx n npc : Nat} {tb : List (Nat × Nat)} {ts : List Nat} {hs : Hs_} {q : vw_C} {ci k0 : Nat} (htb : tb = [(ci, k0)]) (hq0 : cl_[ci]? = some q) (hcf : cf_ M (MT k0) n ts) (hcls : (MT k0).1.cls = q.1) (h1w : Cond.methodLink M.1.cls idx (MT k0).1 ∈ lw_all) (h2w : Cond.instanceMethod (MT k0).1 ∈ lw_all) (h3w : Cond.selects q.1 (MT k0).1 (MT k0).1 ∈ lw_all) (h5w : Cond.initialized q.1 ∈ lw_all) (h4w : Cond.codeWith (MT k0).1 (MT k0).2.1 (MT k0).2.2.1 (MT k0).2.2.2.1 (MT k0).2.2.2.2.1 ∈ lw_all) (hhh : (MT k0).2.2.2.2.1 ≠ []) (hd : decode M.2.1 pc = .ok (.invokevirtual idx, 3)) (hn : ts.length = n + 1) (hho : Ho_ E.2.2.1 (GF_ E) cnm_ M bp pc hs) (hnp : npc = pc + 3) : SoE_ E MT M bp pc npc (I_callv tb ts hs) := by
  subst hnp
  intro p l e R s m args below meth c hC lc st σ ls H locs cells slots hl hR hS
  unfold I_callv
  have hG := hC.2.2.2.2.2.2.2.2.2.2.1
  have hts := hC.2.2.2.2.2.2.1
  have hf := hC.2.2.2.2.2.2.2.2.2.2.2.1
  have hlo := hC.2.2.2.2.2.2.2.2.2.2.2.2.1
  split
  · next b as r hpk =>
    split
    · next o ho =>
      split
      · next k hk =>
        split
        · next hsl =>
          have hsl := sl_le hsl
          subst htb
          obtain ⟨rfl, rfl⟩ : o.1 % 100 = ci ∧ k = k0 := by
            rw [la_, la_] at hk
            split at hk
            · next e => cases hk; exact ⟨e, rfl⟩
            · cases hk
          have hq := hq0
          obtain ⟨q1, q2, q3, q4, q5, q6⟩ := hcf
          obtain ⟨cellB, b1, b2, b3⟩ := recv_ hG hR ho hq
          obtain ⟨ps, e1, e2, e3, e4⟩ := pk_spec _ _ _ _ _ hpk
          rw [List.append_nil] at e1
          subst e1
          refine ⟨q1, by rw [e4]; exact q2, hho, fun res g1 g2 hM Q h1 h2 hk hx => ?_⟩
          have hM := hM l hC.2.2.2.2.2.2.2.1
          have e2 : st = as.reverse ++ .ref b :: r := by rw [e2]; simp
          subst e2
          have e3 : as.length = n := by rw [hn] at e3; simpa using e3
          have hPV : PreV s H q.1 b (va_Pc (.ref b :: as) (Rg2_ E.1 cl_ E.2.1 E.2.2.1 (GF_ E) σ)) as := ⟨fb_, ⟨cellB, b1, by rw [b2]; rfl, b3⟩, pre_ hG hR hS⟩
          exact done_ (as := (Value.ref b :: as).toArray) (vx_runVX (As := as) (rest := r) ⟨hC.1, hC.2.1, hC.2.2.2.2.1, hC.2.2.2.2.2.1, hts⟩ hM (vx_cwVW n hts (by rw [wsM_ne hhh]; exact lw_VW h1w h2w h3w h5w h4w) (wsM_ne hhh) rfl rfl ⟨hcls, q5, q6, q4⟩ ⟨by show (MT k).2.2.2.2.2 + 1 ≤ R.frames; omega, by show 8 + ((MT k).2.2.1 + 11) + 64 * (MT k).2.2.2.2.2 ≤ R.locals; omega⟩) hPV rfl (e3) hl.1 rfl (lv_room hsl) hd ⟨h1, h2⟩) hS hk hx
        · exact True.intro
      · exact True.intro
    · exact True.intro
  · exact True.intro
theorem so_callU {idx n npc : Nat} {tb : List (Nat × Nat)} {ts : List Nat} {hs : Hs_} {q : vw_C} {ci k0 : Nat} (htb : tb = [(ci, k0)]) (hq0 : cl_[ci]? = some q) (hcf : cf_ M (MT k0) n ts) {x : MethodName} {owner : String} (hyx : (MT k0).1 = ⟨owner, x.name, x.desc⟩) (h1w : Cond.methodLink M.1.cls idx x ∈ lw_all) (h6w : Cond.sameMethod x.cls owner x.name x.desc ∈ lw_all) (h2w : Cond.instanceMethod (MT k0).1 ∈ lw_all) (h3w : Cond.selects q.1 x (MT k0).1 ∈ lw_all) (h5w : Cond.initialized (MT k0).1.cls ∈ lw_all) (h4w : Cond.code (MT k0).1 (MT k0).2.1 (MT k0).2.2.1 (MT k0).2.2.2.1 ∈ lw_all) (hhh : (MT k0).2.2.2.2.1 = []) (hd : decode M.2.1 pc = .ok (.invokevirtual idx, 3)) (hn : ts.length = n + 1) (hho : Ho_ E.2.2.1 (GF_ E) cnm_ M bp pc hs) (hnp : npc = pc + 3) : SoE_ E MT M bp pc npc (I_callv tb ts hs) := by
  subst hnp
  intro p l e R s m args below meth c hC lc st σ ls H locs cells slots hl hR hS
  unfold I_callv
  have hG := hC.2.2.2.2.2.2.2.2.2.2.1
  have hts := hC.2.2.2.2.2.2.1
  have hf := hC.2.2.2.2.2.2.2.2.2.2.2.1
  have hlo := hC.2.2.2.2.2.2.2.2.2.2.2.2.1
  split
  · next b as r hpk =>
    split
    · next o ho =>
      split
      · next k hk =>
        split
        · next hsl =>
          have hsl := sl_le hsl
          subst htb
          obtain ⟨rfl, rfl⟩ : o.1 % 100 = ci ∧ k = k0 := by
            rw [la_, la_] at hk
            split at hk
            · next e => cases hk; exact ⟨e, rfl⟩
            · cases hk
          have hq := hq0
          obtain ⟨q1, q2, q3, q4, q5, q6⟩ := hcf
          obtain ⟨cellB, b1, b2, b3⟩ := recv_ hG hR ho hq
          obtain ⟨ps, e1, e2, e3, e4⟩ := pk_spec _ _ _ _ _ hpk
          rw [List.append_nil] at e1
          subst e1
          refine ⟨q1, by rw [e4]; exact q2, hho, fun res g1 g2 hM Q h1 h2 hk hx => ?_⟩
          have hM := hM l hC.2.2.2.2.2.2.2.1
          have e2 : st = as.reverse ++ .ref b :: r := by rw [e2]; simp
          subst e2
          have e3 : as.length = n := by rw [hn] at e3; simpa using e3
          have hPV : PreV s H q.1 b (va_Pc (.ref b :: as) (Rg2_ E.1 cl_ E.2.1 E.2.2.1 (GF_ E) σ)) as := ⟨fb_, ⟨cellB, b1, by rw [b2]; rfl, b3⟩, pre_ hG hR hS⟩
          exact done_ (as := (Value.ref b :: as).toArray) (vx_runU (As := as) (rest := r) ⟨hC.1, hC.2.1, hC.2.2.2.2.1, hC.2.2.2.2.2.1, hts⟩ hM (va_cwU (owner := owner) (x := x) n hts (by unfold wsM_; rw [hhh]; exact lw_U h1w h6w h3w h2w h5w h4w) (by unfold wsM_; rw [hhh]) rfl rfl hyx (by rw [hyx] at q4 q5 q6; exact ⟨q5, q6, q4⟩) ⟨by show (MT k).2.2.2.2.2 + 1 ≤ R.frames; omega, by show 8 + ((MT k).2.2.1 + 11) + 64 * (MT k).2.2.2.2.2 ≤ R.locals; omega⟩) hPV rfl (e3) hl.1 rfl (lv_room hsl) hd ⟨h1, h2⟩) hS hk hx
        · exact True.intro
      · exact True.intro
    · exact True.intro
  · exact True.intro
theorem so_callO {idx n npc : Nat} {tb : List (Nat × Nat)} {ts : List Nat} {hs : Hs_} (hrow : ∀ ci k, la_ tb ci = some k → ∃ q, cl_[ci]? = some q ∧ cf_ M (MT k) n ts ∧ Oc_ M.1.cls idx q.1 (MT k)) (hd : decode M.2.1 pc = .ok (.invokevirtual idx, 3)) (hn : ts.length = n + 1) (hho : Ho_ E.2.2.1 (GF_ E) cnm_ M bp pc hs) (hnp : npc = pc + 3) : SoE_ E MT M bp pc npc (I_callv tb ts hs) := by
  subst hnp
  intro p l e R s m args below meth c hC lc st σ ls H locs cells slots hl hR hS
  unfold I_callv
  have hG := hC.2.2.2.2.2.2.2.2.2.2.1
  have hts := hC.2.2.2.2.2.2.1
  have hf := hC.2.2.2.2.2.2.2.2.2.2.2.1
  have hlo := hC.2.2.2.2.2.2.2.2.2.2.2.2.1
  split
  · next b as r hpk =>
    split
    · next o ho =>
      split
      · next k hk =>
        split
        · next hsl =>
          have hsl := sl_le hsl
          obtain ⟨q, hq, hcf, hoc⟩ := hrow _ _ hk
          obtain ⟨x, owner, b0, m0, r0, hdesc, ho1, ho2, h0w, h1w, h6w, h7w, h2w, h3w, h5w, h4w, hhh⟩ := hoc
          obtain ⟨q1, q2, q3, q4, q5, q6⟩ := hcf
          obtain ⟨cellB, b1, b2, b3⟩ := recv_ hG hR ho hq
          obtain ⟨ps, e1, e2, e3, e4⟩ := pk_spec _ _ _ _ _ hpk
          rw [List.append_nil] at e1
          subst e1
          refine ⟨q1, by rw [e4]; exact q2, hho, fun res g1 g2 hM Q h1 h2 hk hx => ?_⟩
          have hM := hM l hC.2.2.2.2.2.2.2.1
          have e2 : st = as.reverse ++ .ref b :: r := by rw [e2]; simp
          subst e2
          have e3 : as.length = n := by rw [hn] at e3; simpa using e3
          have hPV : PreV s H q.1 b (va_Pc (.ref b :: as) (Rg2_ E.1 cl_ E.2.1 E.2.2.1 (GF_ E) σ)) as := ⟨fb_, ⟨cellB, b1, by rw [b2]; rfl, b3⟩, pre_ hG hR hS⟩
          exact done_ (as := (Value.ref b :: as).toArray) (vx_runU (As := as) (rest := r) ⟨hC.1, hC.2.1, hC.2.2.2.2.1, hC.2.2.2.2.2.1, hts⟩ hM (va_cwO (owner := owner) (x := x) n hts (by unfold wsM_; rw [hhh]; exact lw_O h1w h6w h7w h3w h2w h5w h4w) (by unfold wsM_; rw [hhh]) rfl rfl h0w (by rw [hdesc]; exact ⟨ho1, ho2, q4⟩) ⟨by show (MT k).2.2.2.2.2 + 1 ≤ R.frames; omega, by show 8 + ((MT k).2.2.1 + 11) + 64 * (MT k).2.2.2.2.2 ≤ R.locals; omega⟩) hPV rfl (e3) hl.1 rfl (lv_room hsl) hd ⟨h1, h2⟩) hS hk hx
        · exact True.intro
      · exact True.intro
    · exact True.intro
  · exact True.intro
theorem so_callA {idx n npc : Nat} {tb : List (Nat × Nat)} {ts : List Nat} {hs : Hs_} (hrow : ∀ ci k, la_ tb ci = some k → ∃ q, cl_[ci]? = some q ∧ cf_ M (MT k) n ts ∧ Aa_ M.1.cls idx q.1 (MT k)) (hd : decode M.2.1 pc = .ok (.invokevirtual idx, 3)) (hn : ts.length = n + 1) (hho : Ho_ E.2.2.1 (GF_ E) cnm_ M bp pc hs) (hnp : npc = pc + 3) : SoE_ E MT M bp pc npc (I_callv tb ts hs) := by
  subst hnp
  intro p l e R s m args below meth c hC lc st σ ls H locs cells slots hl hR hS
  unfold I_callv
  have hG := hC.2.2.2.2.2.2.2.2.2.2.1
  have hts := hC.2.2.2.2.2.2.1
  have hf := hC.2.2.2.2.2.2.2.2.2.2.2.1
  have hlo := hC.2.2.2.2.2.2.2.2.2.2.2.2.1
  split
  · next b as r hpk =>
    split
    · next o ho =>
      split
      · next k hk =>
        split
        · next hsl =>
          have hsl := sl_le hsl
          obtain ⟨q, hq, hcf, hoc⟩ := hrow _ _ hk
          obtain ⟨x, owner, hdesc, ho1, ho2, hzw, h1w, h6w, h2w, h3w, h5w, h4w, hhh⟩ := hoc
          obtain ⟨q1, q2, q3, q4, q5, q6⟩ := hcf
          obtain ⟨cellB, b1, b2, b3⟩ := recv_ hG hR ho hq
          obtain ⟨ps, e1, e2, e3, e4⟩ := pk_spec _ _ _ _ _ hpk
          rw [List.append_nil] at e1
          subst e1
          refine ⟨q1, by rw [e4]; exact q2, hho, fun res g1 g2 hM Q h1 h2 hk hx => ?_⟩
          have hM := hM l hC.2.2.2.2.2.2.2.1
          have e2 : st = as.reverse ++ .ref b :: r := by rw [e2]; simp
          subst e2
          have e3 : as.length = n := by rw [hn] at e3; simpa using e3
          have hPV : PreV s H q.1 b (va_Pc (.ref b :: as) (Rg2_ E.1 cl_ E.2.1 E.2.2.1 (GF_ E) σ)) as := ⟨fb_, ⟨cellB, b1, by rw [b2]; rfl, b3⟩, pre_ hG hR hS⟩
          exact done_ (as := (Value.ref b :: as).toArray) (vx_runU (As := as) (rest := r) ⟨hC.1, hC.2.1, hC.2.2.2.2.1, hC.2.2.2.2.2.1, hts⟩ hM (va_cwA (owner := owner) (x := x) n hts (by unfold wsM_; rw [hhh]; exact lw_U h1w h6w h3w h2w h5w h4w) (by unfold wsM_; rw [hhh]) rfl rfl (hG.2.2.1 _ hzw rfl) (by rw [hdesc]; exact ⟨ho1, ho2, q4⟩) ⟨by show (MT k).2.2.2.2.2 + 1 ≤ R.frames; omega, by show 8 + ((MT k).2.2.1 + 11) + 64 * (MT k).2.2.2.2.2 ≤ R.locals; omega⟩) hPV rfl (e3) hl.1 rfl (lv_room hsl) hd ⟨h1, h2⟩) hS hk hx
        · exact True.intro
      · exact True.intro
    · exact True.intro
  · exact True.intro
theorem so_callD {idx n npc : Nat} {tb : List (Nat × Nat)} {ts : List Nat} {hs : Hs_} (hrow : ∀ ci k, la_ tb ci = some k → ∃ q, cl_[ci]? = some q ∧ cf_ M (MT k) n ts ∧ Dd_ M.1.cls idx q.1 (MT k)) (hd : decode M.2.1 pc = .ok (.invokevirtual idx, 3)) (hn : ts.length = n + 1) (hho : Ho_ E.2.2.1 (GF_ E) cnm_ M bp pc hs) (hnp : npc = pc + 3) : SoE_ E MT M bp pc npc (I_callv tb ts hs) := by
  subst hnp
  intro p l e R s m args below meth c hC lc st σ ls H locs cells slots hl hR hS
  unfold I_callv
  have hG := hC.2.2.2.2.2.2.2.2.2.2.1
  have hts := hC.2.2.2.2.2.2.1
  have hf := hC.2.2.2.2.2.2.2.2.2.2.2.1
  have hlo := hC.2.2.2.2.2.2.2.2.2.2.2.2.1
  split
  · next b as r hpk =>
    split
    · next o ho =>
      split
      · next k hk =>
        split
        · next hsl =>
          have hsl := sl_le hsl
          obtain ⟨q, hq, hcf, hoc⟩ := hrow _ _ hk
          obtain ⟨x, owner, hdesc, ho1, ho2, hzw, h1w, h6w, h7w, h2w, h3w, h5w, h4w, hhh⟩ := hoc
          have hex : ∀ w ∈ defaultWords_1, w.before args s = true := fun w h => word_at (State.WarmedH.refl s) (good_of_word (dw_good w h)) (hG.2.2.2.2.2.2.2.2.2.2.2.2 w h)
          have hgi := lw_meth h4w
          have hcode : Cond.code (MT k).1 (MT k).2.1 (MT k).2.2.1 (MT k).2.2.2.1 ∈ wsM_ (MT k) := by unfold wsM_; rw [hhh]; exact List.mem_cons_self
          have hgw : GoodIn lw_all (wsM_ (MT k)) := by unfold wsM_; rw [hhh]; exact hgi
          have hsel : (Cond.selects q.1 x (MT k).1).before args s = true := sel_to (hex _ h6w) (hG.2.2.2.1 _ h7w).2.1 (hts _ h3w)
          obtain ⟨q1, q2, q3, q4, q5, q6⟩ := hcf
          obtain ⟨cellB, b1, b2, b3⟩ := recv_ hG hR ho hq
          obtain ⟨ps, e1, e2, e3, e4⟩ := pk_spec _ _ _ _ _ hpk
          rw [List.append_nil] at e1
          subst e1
          refine ⟨q1, by rw [e4]; exact q2, hho, fun res g1 g2 hM Q h1 h2 hk hx => ?_⟩
          have hM := hM l hC.2.2.2.2.2.2.2.1
          have e2 : st = as.reverse ++ .ref b :: r := by rw [e2]; simp
          subst e2
          have e3 : as.length = n := by rw [hn] at e3; simpa using e3
          have hPV : PreV s H q.1 b (va_Pc (.ref b :: as) (Rg2_ E.1 cl_ E.2.1 E.2.2.1 (GF_ E) σ)) as := ⟨fb_, ⟨cellB, b1, by rw [b2]; rfl, b3⟩, pre_ hG hR hS⟩
          exact done_ (as := (Value.ref b :: as).toArray) (vx_runU (As := as) (rest := r) ⟨hC.1, hC.2.1, hC.2.2.2.2.1, hC.2.2.2.2.2.1, hts⟩ hM ((show va_CU R s args M.1.cls q.1 owner idx x (MT k).1 (MT k).2.1 (MT k).2.2.1 (MT k).2.2.2.1 (wsM_ (MT k)) _ _ _ n from ⟨⟨rfl, rfl, by show (MT k).2.2.2.2.2 + 1 ≤ R.frames; omega, by show 8 + ((MT k).2.2.1 + 11) + 64 * (MT k).2.2.2.2.2 ≤ R.locals; omega, pay_in hts hgw, hcode⟩, hts _ h4w, hts _ h5w, ⟨ho1, ho2⟩, (fun sig h => by rw [hdesc] at h; rw [h] at q4; exact (Option.some.inj q4).symm), hex _ h1w, hex _ h6w, va_Decl.abs (hG.2.2.1 _ hzw rfl), hsel, hts _ h2w⟩)) hPV rfl (e3) hl.1 rfl (lv_room hsl) hd ⟨h1, h2⟩) hS hk hx
        · exact True.intro
      · exact True.intro
    · exact True.intro
  · exact True.intro
theorem so_callSU {idx n npc : Nat} {tb : List (Nat × Nat)} {ts : List Nat} {hs : Hs_} {q : vw_C} {ci k0 : Nat} (htb : tb = [(ci, k0)]) (hq0 : cl_[ci]? = some q) (hcf : cf_ M (MT k0) n ts) (hcls : q.1 = M.1.cls) (hnm : (MT k0).1.name ≠ "<init>") (h1w : Cond.methodLink M.1.cls idx (MT k0).1 ∈ lw_all) (h6w : Cond.sameMethod (MT k0).1.cls (MT k0).1.cls (MT k0).1.name (MT k0).1.desc ∈ lw_all) (h7w : Cond.superclass M.1.cls (MT k0).1.cls ∈ lw_all) (h2w : Cond.instanceMethod (MT k0).1 ∈ lw_all) (h5w : Cond.initialized (MT k0).1.cls ∈ lw_all) (h4w : Cond.code (MT k0).1 (MT k0).2.1 (MT k0).2.2.1 (MT k0).2.2.2.1 ∈ lw_all) (hhh : (MT k0).2.2.2.2.1 = []) (hd : decode M.2.1 pc = .ok (.invokespecial idx, 3)) (hn : ts.length = n + 1) (hho : Ho_ E.2.2.1 (GF_ E) cnm_ M bp pc hs) (hnp : npc = pc + 3) : SoE_ E MT M bp pc npc (I_callv tb ts hs) := by
  subst hnp
  intro p l e R s m args below meth c hC lc st σ ls H locs cells slots hl hR hS
  unfold I_callv
  have hG := hC.2.2.2.2.2.2.2.2.2.2.1
  have hts := hC.2.2.2.2.2.2.1
  have hf := hC.2.2.2.2.2.2.2.2.2.2.2.1
  have hlo := hC.2.2.2.2.2.2.2.2.2.2.2.2.1
  split
  · next b as r hpk =>
    split
    · next o ho =>
      split
      · next k hk =>
        split
        · next hsl =>
          have hsl := sl_le hsl
          subst htb
          obtain ⟨rfl, rfl⟩ : o.1 % 100 = ci ∧ k = k0 := by
            rw [la_, la_] at hk
            split at hk
            · next e => cases hk; exact ⟨e, rfl⟩
            · cases hk
          have hq := hq0
          obtain ⟨q1, q2, q3, q4, q5, q6⟩ := hcf
          obtain ⟨cellB, b1, b2, b3⟩ := recv_ hG hR ho hq
          obtain ⟨ps, e1, e2, e3, e4⟩ := pk_spec _ _ _ _ _ hpk
          rw [List.append_nil] at e1
          subst e1
          refine ⟨q1, by rw [e4]; exact q2, hho, fun res g1 g2 hM Q h1 h2 hk hx => ?_⟩
          have hM := hM l hC.2.2.2.2.2.2.2.1
          have e2 : st = as.reverse ++ .ref b :: r := by rw [e2]; simp
          subst e2
          have e3 : as.length = n := by rw [hn] at e3; simpa using e3
          have hPV : PreV s H q.1 b (va_Pc (.ref b :: as) (Rg2_ E.1 cl_ E.2.1 E.2.2.1 (GF_ E) σ)) as := ⟨fb_, ⟨cellB, b1, by rw [b2]; rfl, b3⟩, pre_ hG hR hS⟩
          exact done_ (as := (Value.ref b :: as).toArray) (vx_runSU (As := as) (rest := r) (hG.1 _ _ hq).2 ⟨hC.1, hC.2.1, hC.2.2.2.2.1, hC.2.2.2.2.2.1, hts⟩ hM (va_cwSU n hts (by unfold wsM_; rw [hhh]; exact lw_SU h1w h6w h7w h2w h5w h4w) (by unfold wsM_; rw [hhh]) rfl rfl ⟨hnm, q4⟩ ⟨by show (MT k).2.2.2.2.2 + 1 ≤ R.frames; omega, by show 8 + ((MT k).2.2.1 + 11) + 64 * (MT k).2.2.2.2.2 ≤ R.locals; omega⟩) hPV rfl (e3) hl.1 rfl (lv_room hsl) hd ⟨h1, h2⟩) hS hk hx
        · exact True.intro
      · exact True.intro
    · exact True.intro
  · exact True.intro
theorem so_callF {idx n npc : Nat} {tb : List (Nat × Nat)} {ts : List Nat} {hs : Hs_} {cnt : Nat} {x : MethodName} (hx1 : x.cls ≠ "java/lang/invoke/MethodHandle" ∧ x.cls ≠ "java/lang/invoke/VarHandle") (h1w : Cond.methodLink M.1.cls idx x ∈ lw_all) (hrow : ∀ ci k, la_ tb ci = some k → ∃ q, cl_[ci]? = some q ∧ cf_ M (MT k) n ts ∧ Fc_ q.1 x (MT k)) (hd : decode M.2.1 pc = .ok (.invokeinterface idx cnt, 5)) (hn : ts.length = n + 1) (hho : Ho_ E.2.2.1 (GF_ E) cnm_ M bp pc hs) (hnp : npc = pc + 5) : SoE_ E MT M bp pc npc (I_callv tb ts hs) := by
  subst hnp
  intro p l e R s m args below meth c hC lc st σ ls H locs cells slots hl hR hS
  unfold I_callv
  have hG := hC.2.2.2.2.2.2.2.2.2.2.1
  have hts := hC.2.2.2.2.2.2.1
  have hf := hC.2.2.2.2.2.2.2.2.2.2.2.1
  have hlo := hC.2.2.2.2.2.2.2.2.2.2.2.2.1
  split
  · next b as r hpk =>
    split
    · next o ho =>
      split
      · next k hk =>
        split
        · next hsl =>
          have hsl := sl_le hsl
          obtain ⟨q, hq, hcf, hoc⟩ := hrow _ _ hk
          obtain ⟨hdesc, hifl, h3w, h2w, h5w, h4w, hhh⟩ := hoc
          obtain ⟨q1, q2, q3, q4, q5, q6⟩ := hcf
          obtain ⟨cellB, b1, b2, b3⟩ := recv_ hG hR ho hq
          obtain ⟨ps, e1, e2, e3, e4⟩ := pk_spec _ _ _ _ _ hpk
          rw [List.append_nil] at e1
          subst e1
          refine ⟨q1, by rw [e4]; exact q2, hho, fun res g1 g2 hM Q h1 h2 hk hx => ?_⟩
          have hM := hM l hC.2.2.2.2.2.2.2.1
          have e2 : st = as.reverse ++ .ref b :: r := by rw [e2]; simp
          subst e2
          have e3 : as.length = n := by rw [hn] at e3; simpa using e3
          have hPV : PreV s H q.1 b (va_Pc (.ref b :: as) (Rg2_ E.1 cl_ E.2.1 E.2.2.1 (GF_ E) σ)) as := ⟨fb_, ⟨cellB, b1, by rw [b2]; rfl, b3⟩, pre_ hG hR hS⟩
          exact done5_ (as := (Value.ref b :: as).toArray) (vx_runF (As := as) (rest := r) (hG.1 _ _ hq).2 ⟨hC.1, hC.2.1, hC.2.2.2.2.1, hC.2.2.2.2.2.1, hts⟩ hM (va_cwF n hts (by unfold wsM_; rw [hhh]; exact lw_F h1w h3w h2w h5w h4w) (by unfold wsM_; rw [hhh]) rfl rfl (hG.2.2.2.1 _ hifl) (by rw [hdesc]; exact ⟨hx1.1, hx1.2, q4⟩) ⟨by show (MT k).2.2.2.2.2 + 1 ≤ R.frames; omega, by show 8 + ((MT k).2.2.1 + 11) + 64 * (MT k).2.2.2.2.2 ≤ R.locals; omega⟩) hPV rfl (e3) hl.1 rfl (lv_room hsl) hd ⟨h1, h2⟩) hS hk hx
        · exact True.intro
      · exact True.intro
    · exact True.intro
  · exact True.intro
end HC
