/-! THE TWIN: its object and its rows as an overlay on the heap -/
def um (M : Nat → Nat → Int32) (k : Nat) (f : Nat → Int32) : Nat → Nat → Int32 := fun j => if j = k then f else M j
def tf (t : Nat) (M : Nat → Nat → Int32) : List Value := [.int (M 0 0), .ref (t + 1), .ref (t + 2), .ref (t + 3), .ref (t + 4), .ref (t + 5), .ref (t + 6), .int (M 7 0), .int (M 8 0), .ref (t + 7), .int (M 10 0), .ref (t + 8), .ref (t + 9), .ref (t + 10), .ref (t + 11), .ref (t + 12), .ref (t + 13), .int (M 17 0), .ref (t + 14), .ref (t + 15), .int (M 20 0), .int (M 21 0), .int (M 22 0), .int (M 23 0), .int (M 24 0), .int (M 25 0), .int (M 26 0), .int (M 27 0), .int (M 28 0), .int (M 29 0), .ref (t + 16), .int (M 31 0)]
def th (h : Nat → Option Ac_) (t : Nat) (M : Nat → Nat → Int32) : Nat → Option Ac_ := fun b =>
  if b = t then some (ob_ 10 (tf t M)) else
  if b = t + 1 then some (tI_ 0 308 (M 1)) else
  if b = t + 2 then some (tI_ 0 308 (M 2)) else
  if b = t + 3 then some (tI_ 0 308 (M 3)) else
  if b = t + 4 then some (tI_ 0 308 (M 4)) else
  if b = t + 5 then some (tI_ 0 308 (M 5)) else
  if b = t + 6 then some (tI_ 0 3080 (M 6)) else
  if b = t + 7 then some (tI_ 0 66 (M 9)) else
  if b = t + 8 then some (tI_ 0 144 (M 11)) else
  if b = t + 9 then some (tI_ 0 144 (M 12)) else
  if b = t + 10 then some (tI_ 0 144 (M 13)) else
  if b = t + 11 then some (tI_ 2 144 (M 14)) else
  if b = t + 12 then some (tI_ 0 12 (M 15)) else
  if b = t + 13 then some (tI_ 0 12 (M 16)) else
  if b = t + 14 then some (tI_ 0 12 (M 18)) else
  if b = t + 15 then some (tI_ 1 900 (M 19)) else
  if b = t + 16 then some (tI_ 1 400 (M 30)) else h b
def tw (σ : As_) (t : Nat) (M : Nat → Nat → Int32) : As_ := (σ.1, σ.2.1, th σ.2.2 t M)
section TWL
variable {σ : As_} {t : Nat} {M : Nat → Nat → Int32}
theorem tw_t : (tw σ t M).2.2 t = some (ob_ 10 (tf t M)) := by show th _ _ _ _ = _; unfold th; rw [if_pos rfl]
theorem tw_1 : (tw σ t M).2.2 (t + 1) = some (tI_ 0 308 (M 1)) := by
  show th _ _ _ _ = _
  unfold th
  rw [if_neg (by omega), if_pos rfl]
theorem tw_2 : (tw σ t M).2.2 (t + 2) = some (tI_ 0 308 (M 2)) := by
  show th _ _ _ _ = _
  unfold th
  rw [if_neg (by omega), if_neg (by omega), if_pos rfl]
theorem tw_3 : (tw σ t M).2.2 (t + 3) = some (tI_ 0 308 (M 3)) := by
  show th _ _ _ _ = _
  unfold th
  rw [if_neg (by omega), if_neg (by omega), if_neg (by omega), if_pos rfl]
theorem tw_4 : (tw σ t M).2.2 (t + 4) = some (tI_ 0 308 (M 4)) := by
  show th _ _ _ _ = _
  unfold th
  rw [if_neg (by omega), if_neg (by omega), if_neg (by omega), if_neg (by omega), if_pos rfl]
theorem tw_5 : (tw σ t M).2.2 (t + 5) = some (tI_ 0 308 (M 5)) := by
  show th _ _ _ _ = _
  unfold th
  rw [if_neg (by omega), if_neg (by omega), if_neg (by omega), if_neg (by omega), if_neg (by omega), if_pos rfl]
theorem tw_6 : (tw σ t M).2.2 (t + 6) = some (tI_ 0 3080 (M 6)) := by
  show th _ _ _ _ = _
  unfold th
  rw [if_neg (by omega), if_neg (by omega), if_neg (by omega), if_neg (by omega), if_neg (by omega), if_neg (by omega), if_pos rfl]
theorem tw_9 : (tw σ t M).2.2 (t + 7) = some (tI_ 0 66 (M 9)) := by
  show th _ _ _ _ = _
  unfold th
  rw [if_neg (by omega), if_neg (by omega), if_neg (by omega), if_neg (by omega), if_neg (by omega), if_neg (by omega), if_neg (by omega), if_pos rfl]
theorem tw_11 : (tw σ t M).2.2 (t + 8) = some (tI_ 0 144 (M 11)) := by
  show th _ _ _ _ = _
  unfold th
  rw [if_neg (by omega), if_neg (by omega), if_neg (by omega), if_neg (by omega), if_neg (by omega), if_neg (by omega), if_neg (by omega), if_neg (by omega), if_pos rfl]
theorem tw_12 : (tw σ t M).2.2 (t + 9) = some (tI_ 0 144 (M 12)) := by
  show th _ _ _ _ = _
  unfold th
  rw [if_neg (by omega), if_neg (by omega), if_neg (by omega), if_neg (by omega), if_neg (by omega), if_neg (by omega), if_neg (by omega), if_neg (by omega), if_neg (by omega), if_pos rfl]
theorem tw_13 : (tw σ t M).2.2 (t + 10) = some (tI_ 0 144 (M 13)) := by
  show th _ _ _ _ = _
  unfold th
  rw [if_neg (by omega), if_neg (by omega), if_neg (by omega), if_neg (by omega), if_neg (by omega), if_neg (by omega), if_neg (by omega), if_neg (by omega), if_neg (by omega), if_neg (by omega), if_pos rfl]
theorem tw_14 : (tw σ t M).2.2 (t + 11) = some (tI_ 2 144 (M 14)) := by
  show th _ _ _ _ = _
  unfold th
  rw [if_neg (by omega), if_neg (by omega), if_neg (by omega), if_neg (by omega), if_neg (by omega), if_neg (by omega), if_neg (by omega), if_neg (by omega), if_neg (by omega), if_neg (by omega), if_neg (by omega), if_pos rfl]
theorem tw_15 : (tw σ t M).2.2 (t + 12) = some (tI_ 0 12 (M 15)) := by
  show th _ _ _ _ = _
  unfold th
  rw [if_neg (by omega), if_neg (by omega), if_neg (by omega), if_neg (by omega), if_neg (by omega), if_neg (by omega), if_neg (by omega), if_neg (by omega), if_neg (by omega), if_neg (by omega), if_neg (by omega), if_neg (by omega), if_pos rfl]
theorem tw_16 : (tw σ t M).2.2 (t + 13) = some (tI_ 0 12 (M 16)) := by
  show th _ _ _ _ = _
  unfold th
  rw [if_neg (by omega), if_neg (by omega), if_neg (by omega), if_neg (by omega), if_neg (by omega), if_neg (by omega), if_neg (by omega), if_neg (by omega), if_neg (by omega), if_neg (by omega), if_neg (by omega), if_neg (by omega), if_neg (by omega), if_pos rfl]
theorem tw_18 : (tw σ t M).2.2 (t + 14) = some (tI_ 0 12 (M 18)) := by
  show th _ _ _ _ = _
  unfold th
  rw [if_neg (by omega), if_neg (by omega), if_neg (by omega), if_neg (by omega), if_neg (by omega), if_neg (by omega), if_neg (by omega), if_neg (by omega), if_neg (by omega), if_neg (by omega), if_neg (by omega), if_neg (by omega), if_neg (by omega), if_neg (by omega), if_pos rfl]
theorem tw_19 : (tw σ t M).2.2 (t + 15) = some (tI_ 1 900 (M 19)) := by
  show th _ _ _ _ = _
  unfold th
  rw [if_neg (by omega), if_neg (by omega), if_neg (by omega), if_neg (by omega), if_neg (by omega), if_neg (by omega), if_neg (by omega), if_neg (by omega), if_neg (by omega), if_neg (by omega), if_neg (by omega), if_neg (by omega), if_neg (by omega), if_neg (by omega), if_neg (by omega), if_pos rfl]
theorem tw_30 : (tw σ t M).2.2 (t + 16) = some (tI_ 1 400 (M 30)) := by
  show th _ _ _ _ = _
  unfold th
  rw [if_neg (by omega), if_neg (by omega), if_neg (by omega), if_neg (by omega), if_neg (by omega), if_neg (by omega), if_neg (by omega), if_neg (by omega), if_neg (by omega), if_neg (by omega), if_neg (by omega), if_neg (by omega), if_neg (by omega), if_neg (by omega), if_neg (by omega), if_neg (by omega), if_pos rfl]
theorem tg_0 : fg_ (tf t M) 0 = .int (M 0 0) := rfl
theorem tg_1 : fg_ (tf t M) 1 = .ref (t + 1) := rfl
theorem tg_2 : fg_ (tf t M) 2 = .ref (t + 2) := rfl
theorem tg_3 : fg_ (tf t M) 3 = .ref (t + 3) := rfl
theorem tg_4 : fg_ (tf t M) 4 = .ref (t + 4) := rfl
theorem tg_5 : fg_ (tf t M) 5 = .ref (t + 5) := rfl
theorem tg_6 : fg_ (tf t M) 6 = .ref (t + 6) := rfl
theorem tg_7 : fg_ (tf t M) 7 = .int (M 7 0) := rfl
theorem tg_8 : fg_ (tf t M) 8 = .int (M 8 0) := rfl
theorem tg_9 : fg_ (tf t M) 9 = .ref (t + 7) := rfl
theorem tg_10 : fg_ (tf t M) 10 = .int (M 10 0) := rfl
theorem tg_11 : fg_ (tf t M) 11 = .ref (t + 8) := rfl
theorem tg_12 : fg_ (tf t M) 12 = .ref (t + 9) := rfl
theorem tg_13 : fg_ (tf t M) 13 = .ref (t + 10) := rfl
theorem tg_14 : fg_ (tf t M) 14 = .ref (t + 11) := rfl
theorem tg_15 : fg_ (tf t M) 15 = .ref (t + 12) := rfl
theorem tg_16 : fg_ (tf t M) 16 = .ref (t + 13) := rfl
theorem tg_17 : fg_ (tf t M) 17 = .int (M 17 0) := rfl
theorem tg_18 : fg_ (tf t M) 18 = .ref (t + 14) := rfl
theorem tg_19 : fg_ (tf t M) 19 = .ref (t + 15) := rfl
theorem tg_20 : fg_ (tf t M) 20 = .int (M 20 0) := rfl
theorem tg_21 : fg_ (tf t M) 21 = .int (M 21 0) := rfl
theorem tg_22 : fg_ (tf t M) 22 = .int (M 22 0) := rfl
theorem tg_23 : fg_ (tf t M) 23 = .int (M 23 0) := rfl
theorem tg_24 : fg_ (tf t M) 24 = .int (M 24 0) := rfl
theorem tg_25 : fg_ (tf t M) 25 = .int (M 25 0) := rfl
theorem tg_26 : fg_ (tf t M) 26 = .int (M 26 0) := rfl
theorem tg_27 : fg_ (tf t M) 27 = .int (M 27 0) := rfl
theorem tg_28 : fg_ (tf t M) 28 = .int (M 28 0) := rfl
theorem tg_29 : fg_ (tf t M) 29 = .int (M 29 0) := rfl
theorem tg_30 : fg_ (tf t M) 30 = .ref (t + 16) := rfl
theorem tg_31 : fg_ (tf t M) 31 = .int (M 31 0) := rfl
theorem ts_1 {f : Nat → Int32} : ((tw σ t M).1, (tw σ t M).2.1, up_ (tw σ t M).2.2 (t + 1) (tI_ 0 308 f)) = tw σ t (um M 1 f) := by
  show _ = (_, _, _)
  refine congrArg (fun z => (σ.1, σ.2.1, z)) ?_
  funext b
  by_cases e : b = t + 1
  · subst e
    show (if t + 1 = t + 1 then _ else _) = _
    rw [if_pos rfl]
    exact (tw_1 (σ := σ) (t := t) (M := um M 1 f)).symm
  · show (if b = t + 1 then _ else th σ.2.2 t M b) = _
    rw [if_neg e]
    unfold th
    simp only [if_neg e]
    rfl
theorem ts_2 {f : Nat → Int32} : ((tw σ t M).1, (tw σ t M).2.1, up_ (tw σ t M).2.2 (t + 2) (tI_ 0 308 f)) = tw σ t (um M 2 f) := by
  show _ = (_, _, _)
  refine congrArg (fun z => (σ.1, σ.2.1, z)) ?_
  funext b
  by_cases e : b = t + 2
  · subst e
    show (if t + 2 = t + 2 then _ else _) = _
    rw [if_pos rfl]
    exact (tw_2 (σ := σ) (t := t) (M := um M 2 f)).symm
  · show (if b = t + 2 then _ else th σ.2.2 t M b) = _
    rw [if_neg e]
    unfold th
    simp only [if_neg e]
    rfl
theorem ts_3 {f : Nat → Int32} : ((tw σ t M).1, (tw σ t M).2.1, up_ (tw σ t M).2.2 (t + 3) (tI_ 0 308 f)) = tw σ t (um M 3 f) := by
  show _ = (_, _, _)
  refine congrArg (fun z => (σ.1, σ.2.1, z)) ?_
  funext b
  by_cases e : b = t + 3
  · subst e
    show (if t + 3 = t + 3 then _ else _) = _
    rw [if_pos rfl]
    exact (tw_3 (σ := σ) (t := t) (M := um M 3 f)).symm
  · show (if b = t + 3 then _ else th σ.2.2 t M b) = _
    rw [if_neg e]
    unfold th
    simp only [if_neg e]
    rfl
theorem ts_4 {f : Nat → Int32} : ((tw σ t M).1, (tw σ t M).2.1, up_ (tw σ t M).2.2 (t + 4) (tI_ 0 308 f)) = tw σ t (um M 4 f) := by
  show _ = (_, _, _)
  refine congrArg (fun z => (σ.1, σ.2.1, z)) ?_
  funext b
  by_cases e : b = t + 4
  · subst e
    show (if t + 4 = t + 4 then _ else _) = _
    rw [if_pos rfl]
    exact (tw_4 (σ := σ) (t := t) (M := um M 4 f)).symm
  · show (if b = t + 4 then _ else th σ.2.2 t M b) = _
    rw [if_neg e]
    unfold th
    simp only [if_neg e]
    rfl
theorem ts_5 {f : Nat → Int32} : ((tw σ t M).1, (tw σ t M).2.1, up_ (tw σ t M).2.2 (t + 5) (tI_ 0 308 f)) = tw σ t (um M 5 f) := by
  show _ = (_, _, _)
  refine congrArg (fun z => (σ.1, σ.2.1, z)) ?_
  funext b
  by_cases e : b = t + 5
  · subst e
    show (if t + 5 = t + 5 then _ else _) = _
    rw [if_pos rfl]
    exact (tw_5 (σ := σ) (t := t) (M := um M 5 f)).symm
  · show (if b = t + 5 then _ else th σ.2.2 t M b) = _
    rw [if_neg e]
    unfold th
    simp only [if_neg e]
    rfl
theorem ts_6 {f : Nat → Int32} : ((tw σ t M).1, (tw σ t M).2.1, up_ (tw σ t M).2.2 (t + 6) (tI_ 0 3080 f)) = tw σ t (um M 6 f) := by
  show _ = (_, _, _)
  refine congrArg (fun z => (σ.1, σ.2.1, z)) ?_
  funext b
  by_cases e : b = t + 6
  · subst e
    show (if t + 6 = t + 6 then _ else _) = _
    rw [if_pos rfl]
    exact (tw_6 (σ := σ) (t := t) (M := um M 6 f)).symm
  · show (if b = t + 6 then _ else th σ.2.2 t M b) = _
    rw [if_neg e]
    unfold th
    simp only [if_neg e]
    rfl
theorem ts_9 {f : Nat → Int32} : ((tw σ t M).1, (tw σ t M).2.1, up_ (tw σ t M).2.2 (t + 7) (tI_ 0 66 f)) = tw σ t (um M 9 f) := by
  show _ = (_, _, _)
  refine congrArg (fun z => (σ.1, σ.2.1, z)) ?_
  funext b
  by_cases e : b = t + 7
  · subst e
    show (if t + 7 = t + 7 then _ else _) = _
    rw [if_pos rfl]
    exact (tw_9 (σ := σ) (t := t) (M := um M 9 f)).symm
  · show (if b = t + 7 then _ else th σ.2.2 t M b) = _
    rw [if_neg e]
    unfold th
    simp only [if_neg e]
    rfl
theorem ts_11 {f : Nat → Int32} : ((tw σ t M).1, (tw σ t M).2.1, up_ (tw σ t M).2.2 (t + 8) (tI_ 0 144 f)) = tw σ t (um M 11 f) := by
  show _ = (_, _, _)
  refine congrArg (fun z => (σ.1, σ.2.1, z)) ?_
  funext b
  by_cases e : b = t + 8
  · subst e
    show (if t + 8 = t + 8 then _ else _) = _
    rw [if_pos rfl]
    exact (tw_11 (σ := σ) (t := t) (M := um M 11 f)).symm
  · show (if b = t + 8 then _ else th σ.2.2 t M b) = _
    rw [if_neg e]
    unfold th
    simp only [if_neg e]
    rfl
theorem ts_12 {f : Nat → Int32} : ((tw σ t M).1, (tw σ t M).2.1, up_ (tw σ t M).2.2 (t + 9) (tI_ 0 144 f)) = tw σ t (um M 12 f) := by
  show _ = (_, _, _)
  refine congrArg (fun z => (σ.1, σ.2.1, z)) ?_
  funext b
  by_cases e : b = t + 9
  · subst e
    show (if t + 9 = t + 9 then _ else _) = _
    rw [if_pos rfl]
    exact (tw_12 (σ := σ) (t := t) (M := um M 12 f)).symm
  · show (if b = t + 9 then _ else th σ.2.2 t M b) = _
    rw [if_neg e]
    unfold th
    simp only [if_neg e]
    rfl
theorem ts_13 {f : Nat → Int32} : ((tw σ t M).1, (tw σ t M).2.1, up_ (tw σ t M).2.2 (t + 10) (tI_ 0 144 f)) = tw σ t (um M 13 f) := by
  show _ = (_, _, _)
  refine congrArg (fun z => (σ.1, σ.2.1, z)) ?_
  funext b
  by_cases e : b = t + 10
  · subst e
    show (if t + 10 = t + 10 then _ else _) = _
    rw [if_pos rfl]
    exact (tw_13 (σ := σ) (t := t) (M := um M 13 f)).symm
  · show (if b = t + 10 then _ else th σ.2.2 t M b) = _
    rw [if_neg e]
    unfold th
    simp only [if_neg e]
    rfl
theorem ts_14 {f : Nat → Int32} : ((tw σ t M).1, (tw σ t M).2.1, up_ (tw σ t M).2.2 (t + 11) (tI_ 2 144 f)) = tw σ t (um M 14 f) := by
  show _ = (_, _, _)
  refine congrArg (fun z => (σ.1, σ.2.1, z)) ?_
  funext b
  by_cases e : b = t + 11
  · subst e
    show (if t + 11 = t + 11 then _ else _) = _
    rw [if_pos rfl]
    exact (tw_14 (σ := σ) (t := t) (M := um M 14 f)).symm
  · show (if b = t + 11 then _ else th σ.2.2 t M b) = _
    rw [if_neg e]
    unfold th
    simp only [if_neg e]
    rfl
theorem ts_15 {f : Nat → Int32} : ((tw σ t M).1, (tw σ t M).2.1, up_ (tw σ t M).2.2 (t + 12) (tI_ 0 12 f)) = tw σ t (um M 15 f) := by
  show _ = (_, _, _)
  refine congrArg (fun z => (σ.1, σ.2.1, z)) ?_
  funext b
  by_cases e : b = t + 12
  · subst e
    show (if t + 12 = t + 12 then _ else _) = _
    rw [if_pos rfl]
    exact (tw_15 (σ := σ) (t := t) (M := um M 15 f)).symm
  · show (if b = t + 12 then _ else th σ.2.2 t M b) = _
    rw [if_neg e]
    unfold th
    simp only [if_neg e]
    rfl
theorem ts_16 {f : Nat → Int32} : ((tw σ t M).1, (tw σ t M).2.1, up_ (tw σ t M).2.2 (t + 13) (tI_ 0 12 f)) = tw σ t (um M 16 f) := by
  show _ = (_, _, _)
  refine congrArg (fun z => (σ.1, σ.2.1, z)) ?_
  funext b
  by_cases e : b = t + 13
  · subst e
    show (if t + 13 = t + 13 then _ else _) = _
    rw [if_pos rfl]
    exact (tw_16 (σ := σ) (t := t) (M := um M 16 f)).symm
  · show (if b = t + 13 then _ else th σ.2.2 t M b) = _
    rw [if_neg e]
    unfold th
    simp only [if_neg e]
    rfl
theorem ts_18 {f : Nat → Int32} : ((tw σ t M).1, (tw σ t M).2.1, up_ (tw σ t M).2.2 (t + 14) (tI_ 0 12 f)) = tw σ t (um M 18 f) := by
  show _ = (_, _, _)
  refine congrArg (fun z => (σ.1, σ.2.1, z)) ?_
  funext b
  by_cases e : b = t + 14
  · subst e
    show (if t + 14 = t + 14 then _ else _) = _
    rw [if_pos rfl]
    exact (tw_18 (σ := σ) (t := t) (M := um M 18 f)).symm
  · show (if b = t + 14 then _ else th σ.2.2 t M b) = _
    rw [if_neg e]
    unfold th
    simp only [if_neg e]
    rfl
theorem ts_19 {f : Nat → Int32} : ((tw σ t M).1, (tw σ t M).2.1, up_ (tw σ t M).2.2 (t + 15) (tI_ 1 900 f)) = tw σ t (um M 19 f) := by
  show _ = (_, _, _)
  refine congrArg (fun z => (σ.1, σ.2.1, z)) ?_
  funext b
  by_cases e : b = t + 15
  · subst e
    show (if t + 15 = t + 15 then _ else _) = _
    rw [if_pos rfl]
    exact (tw_19 (σ := σ) (t := t) (M := um M 19 f)).symm
  · show (if b = t + 15 then _ else th σ.2.2 t M b) = _
    rw [if_neg e]
    unfold th
    simp only [if_neg e]
    rfl
theorem ts_30 {f : Nat → Int32} : ((tw σ t M).1, (tw σ t M).2.1, up_ (tw σ t M).2.2 (t + 16) (tI_ 1 400 f)) = tw σ t (um M 30 f) := by
  show _ = (_, _, _)
  refine congrArg (fun z => (σ.1, σ.2.1, z)) ?_
  funext b
  by_cases e : b = t + 16
  · subst e
    show (if t + 16 = t + 16 then _ else _) = _
    rw [if_pos rfl]
    exact (tw_30 (σ := σ) (t := t) (M := um M 30 f)).symm
  · show (if b = t + 16 then _ else th σ.2.2 t M b) = _
    rw [if_neg e]
    unfold th
    simp only [if_neg e]
    rfl
theorem ts_0 {x : Int32} : ((tw σ t M).1, (tw σ t M).2.1, up_ (tw σ t M).2.2 t (ob_ 10 ((tf t M).set 0 (.int x)))) = tw σ t (um M 0 (fun _ => x)) := by
  show _ = (_, _, _)
  refine congrArg (fun z => (σ.1, σ.2.1, z)) ?_
  funext b
  show up_ (th _ _ _) _ _ b = th _ _ _ b
  unfold up_ th
  by_cases h : b = t
  · rw [if_pos h, if_pos h]; rfl
  · rw [if_neg h, if_neg h, if_neg h]; rfl
theorem ts_7 {x : Int32} : ((tw σ t M).1, (tw σ t M).2.1, up_ (tw σ t M).2.2 t (ob_ 10 ((tf t M).set 7 (.int x)))) = tw σ t (um M 7 (fun _ => x)) := by
  show _ = (_, _, _)
  refine congrArg (fun z => (σ.1, σ.2.1, z)) ?_
  funext b
  show up_ (th _ _ _) _ _ b = th _ _ _ b
  unfold up_ th
  by_cases h : b = t
  · rw [if_pos h, if_pos h]; rfl
  · rw [if_neg h, if_neg h, if_neg h]; rfl
theorem ts_8 {x : Int32} : ((tw σ t M).1, (tw σ t M).2.1, up_ (tw σ t M).2.2 t (ob_ 10 ((tf t M).set 8 (.int x)))) = tw σ t (um M 8 (fun _ => x)) := by
  show _ = (_, _, _)
  refine congrArg (fun z => (σ.1, σ.2.1, z)) ?_
  funext b
  show up_ (th _ _ _) _ _ b = th _ _ _ b
  unfold up_ th
  by_cases h : b = t
  · rw [if_pos h, if_pos h]; rfl
  · rw [if_neg h, if_neg h, if_neg h]; rfl
theorem ts_10 {x : Int32} : ((tw σ t M).1, (tw σ t M).2.1, up_ (tw σ t M).2.2 t (ob_ 10 ((tf t M).set 10 (.int x)))) = tw σ t (um M 10 (fun _ => x)) := by
  show _ = (_, _, _)
  refine congrArg (fun z => (σ.1, σ.2.1, z)) ?_
  funext b
  show up_ (th _ _ _) _ _ b = th _ _ _ b
  unfold up_ th
  by_cases h : b = t
  · rw [if_pos h, if_pos h]; rfl
  · rw [if_neg h, if_neg h, if_neg h]; rfl
theorem ts_17 {x : Int32} : ((tw σ t M).1, (tw σ t M).2.1, up_ (tw σ t M).2.2 t (ob_ 10 ((tf t M).set 17 (.int x)))) = tw σ t (um M 17 (fun _ => x)) := by
  show _ = (_, _, _)
  refine congrArg (fun z => (σ.1, σ.2.1, z)) ?_
  funext b
  show up_ (th _ _ _) _ _ b = th _ _ _ b
  unfold up_ th
  by_cases h : b = t
  · rw [if_pos h, if_pos h]; rfl
  · rw [if_neg h, if_neg h, if_neg h]; rfl
theorem ts_20 {x : Int32} : ((tw σ t M).1, (tw σ t M).2.1, up_ (tw σ t M).2.2 t (ob_ 10 ((tf t M).set 20 (.int x)))) = tw σ t (um M 20 (fun _ => x)) := by
  show _ = (_, _, _)
  refine congrArg (fun z => (σ.1, σ.2.1, z)) ?_
  funext b
  show up_ (th _ _ _) _ _ b = th _ _ _ b
  unfold up_ th
  by_cases h : b = t
  · rw [if_pos h, if_pos h]; rfl
  · rw [if_neg h, if_neg h, if_neg h]; rfl
theorem ts_21 {x : Int32} : ((tw σ t M).1, (tw σ t M).2.1, up_ (tw σ t M).2.2 t (ob_ 10 ((tf t M).set 21 (.int x)))) = tw σ t (um M 21 (fun _ => x)) := by
  show _ = (_, _, _)
  refine congrArg (fun z => (σ.1, σ.2.1, z)) ?_
  funext b
  show up_ (th _ _ _) _ _ b = th _ _ _ b
  unfold up_ th
  by_cases h : b = t
  · rw [if_pos h, if_pos h]; rfl
  · rw [if_neg h, if_neg h, if_neg h]; rfl
theorem ts_22 {x : Int32} : ((tw σ t M).1, (tw σ t M).2.1, up_ (tw σ t M).2.2 t (ob_ 10 ((tf t M).set 22 (.int x)))) = tw σ t (um M 22 (fun _ => x)) := by
  show _ = (_, _, _)
  refine congrArg (fun z => (σ.1, σ.2.1, z)) ?_
  funext b
  show up_ (th _ _ _) _ _ b = th _ _ _ b
  unfold up_ th
  by_cases h : b = t
  · rw [if_pos h, if_pos h]; rfl
  · rw [if_neg h, if_neg h, if_neg h]; rfl
theorem ts_23 {x : Int32} : ((tw σ t M).1, (tw σ t M).2.1, up_ (tw σ t M).2.2 t (ob_ 10 ((tf t M).set 23 (.int x)))) = tw σ t (um M 23 (fun _ => x)) := by
  show _ = (_, _, _)
  refine congrArg (fun z => (σ.1, σ.2.1, z)) ?_
  funext b
  show up_ (th _ _ _) _ _ b = th _ _ _ b
  unfold up_ th
  by_cases h : b = t
  · rw [if_pos h, if_pos h]; rfl
  · rw [if_neg h, if_neg h, if_neg h]; rfl
theorem ts_24 {x : Int32} : ((tw σ t M).1, (tw σ t M).2.1, up_ (tw σ t M).2.2 t (ob_ 10 ((tf t M).set 24 (.int x)))) = tw σ t (um M 24 (fun _ => x)) := by
  show _ = (_, _, _)
  refine congrArg (fun z => (σ.1, σ.2.1, z)) ?_
  funext b
  show up_ (th _ _ _) _ _ b = th _ _ _ b
  unfold up_ th
  by_cases h : b = t
  · rw [if_pos h, if_pos h]; rfl
  · rw [if_neg h, if_neg h, if_neg h]; rfl
theorem ts_25 {x : Int32} : ((tw σ t M).1, (tw σ t M).2.1, up_ (tw σ t M).2.2 t (ob_ 10 ((tf t M).set 25 (.int x)))) = tw σ t (um M 25 (fun _ => x)) := by
  show _ = (_, _, _)
  refine congrArg (fun z => (σ.1, σ.2.1, z)) ?_
  funext b
  show up_ (th _ _ _) _ _ b = th _ _ _ b
  unfold up_ th
  by_cases h : b = t
  · rw [if_pos h, if_pos h]; rfl
  · rw [if_neg h, if_neg h, if_neg h]; rfl
theorem ts_26 {x : Int32} : ((tw σ t M).1, (tw σ t M).2.1, up_ (tw σ t M).2.2 t (ob_ 10 ((tf t M).set 26 (.int x)))) = tw σ t (um M 26 (fun _ => x)) := by
  show _ = (_, _, _)
  refine congrArg (fun z => (σ.1, σ.2.1, z)) ?_
  funext b
  show up_ (th _ _ _) _ _ b = th _ _ _ b
  unfold up_ th
  by_cases h : b = t
  · rw [if_pos h, if_pos h]; rfl
  · rw [if_neg h, if_neg h, if_neg h]; rfl
theorem ts_27 {x : Int32} : ((tw σ t M).1, (tw σ t M).2.1, up_ (tw σ t M).2.2 t (ob_ 10 ((tf t M).set 27 (.int x)))) = tw σ t (um M 27 (fun _ => x)) := by
  show _ = (_, _, _)
  refine congrArg (fun z => (σ.1, σ.2.1, z)) ?_
  funext b
  show up_ (th _ _ _) _ _ b = th _ _ _ b
  unfold up_ th
  by_cases h : b = t
  · rw [if_pos h, if_pos h]; rfl
  · rw [if_neg h, if_neg h, if_neg h]; rfl
theorem ts_28 {x : Int32} : ((tw σ t M).1, (tw σ t M).2.1, up_ (tw σ t M).2.2 t (ob_ 10 ((tf t M).set 28 (.int x)))) = tw σ t (um M 28 (fun _ => x)) := by
  show _ = (_, _, _)
  refine congrArg (fun z => (σ.1, σ.2.1, z)) ?_
  funext b
  show up_ (th _ _ _) _ _ b = th _ _ _ b
  unfold up_ th
  by_cases h : b = t
  · rw [if_pos h, if_pos h]; rfl
  · rw [if_neg h, if_neg h, if_neg h]; rfl
theorem ts_29 {x : Int32} : ((tw σ t M).1, (tw σ t M).2.1, up_ (tw σ t M).2.2 t (ob_ 10 ((tf t M).set 29 (.int x)))) = tw σ t (um M 29 (fun _ => x)) := by
  show _ = (_, _, _)
  refine congrArg (fun z => (σ.1, σ.2.1, z)) ?_
  funext b
  show up_ (th _ _ _) _ _ b = th _ _ _ b
  unfold up_ th
  by_cases h : b = t
  · rw [if_pos h, if_pos h]; rfl
  · rw [if_neg h, if_neg h, if_neg h]; rfl
theorem ts_31 {x : Int32} : ((tw σ t M).1, (tw σ t M).2.1, up_ (tw σ t M).2.2 t (ob_ 10 ((tf t M).set 31 (.int x)))) = tw σ t (um M 31 (fun _ => x)) := by
  show _ = (_, _, _)
  refine congrArg (fun z => (σ.1, σ.2.1, z)) ?_
  funext b
  show up_ (th _ _ _) _ _ b = th _ _ _ b
  unfold up_ th
  by_cases h : b = t
  · rw [if_pos h, if_pos h]; rfl
  · rw [if_neg h, if_neg h, if_neg h]; rfl
theorem um_s {k : Nat} {f : Nat → Int32} : um M k f k = f := if_pos rfl
theorem um_n {k j : Nat} {f : Nat → Int32} (h : j ≠ k) : um M k f j = M j := if_neg h
theorem um_um {k : Nat} {f g : Nat → Int32} : um (um M k f) k g = um M k g := by
  funext j
  unfold um
  split <;> rfl
theorem um_co {k j : Nat} {f g : Nat → Int32} (h : j < k) : um (um M k f) j g = um (um M j (id g)) k f := by
  show um (um M k f) j g = um (um M j g) k f
  funext i
  unfold um
  by_cases h1 : i = j
  · rw [if_pos h1, if_neg (by omega), if_pos h1]
  · rw [if_neg h1]
    by_cases h2 : i = k
    · rw [if_pos h2, if_pos h2]
    · rw [if_neg h2, if_neg h2, if_neg h1]
theorem um_id {k : Nat} : um M k (M k) = M := by
  funext i
  unfold um
  split
  · next h => rw [h]
  · rfl
end TWL
