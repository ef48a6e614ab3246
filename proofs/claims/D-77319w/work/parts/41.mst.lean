/-! the model on the abstract heap: cells 70 to 83 (printed by gen_mst.py) -/
def mo_o (I : Nat → Int32) : am_C := .inr (.inr (5, [.ref 71, .ref 72, .int (I 2), .ref 73, .ref 74, .int (I 5), .ref 75, .int (I 7), .ref 76, .int (I 9), .int (I 10), .ref 77, .int (I 12), .ref 78, .int (I 14), .ref 79, .ref 80, .ref 81, .int (I 18), .int (I 19), .ref 82, .ref 83, .int (I 22)]))
def mo_c (I : Nat → Int32) (A : Nat → Nat → Int32) (i : Nat) (c : am_C) : am_C := match i with
  | 70 => mo_o I
  | 71 => .inl (0, 186, A 0)
  | 72 => .inl (0, 744, A 1)
  | 73 => .inl (0, 4, A 3)
  | 74 => .inl (0, 120, A 4)
  | 75 => .inl (0, 30, A 6)
  | 76 => .inl (0, 30, A 8)
  | 77 => .inl (0, 30, A 11)
  | 78 => .inl (0, 31, A 13)
  | 79 => .inl (0, 30, A 15)
  | 80 => .inl (0, 30, A 16)
  | 81 => .inl (0, 30, A 17)
  | 82 => .inl (0, 30, A 20)
  | 83 => .inl (0, 200, A 21)
  | _ => c
/-- the heap h with the model as I (its ints) and A (its arrays) -/
def mst (h : am_H) (I : Nat → Int32) (A : Nat → Nat → Int32) : am_H := h.mapIdx (mo_c I A)
def upm (A : Nat → Nat → Int32) (k i : Nat) (x : Int32) : Nat → Nat → Int32 := fun j => if j = k then upd (A k) i x else A j
theorem upm_s {A : Nat → Nat → Int32} {k i : Nat} {x : Int32} : upm A k i x k = upd (A k) i x := by simp [upm]
theorem upm_n {A : Nat → Nat → Int32} {k j i : Nat} {x : Int32} (h : j ≠ k) : upm A k i x j = A j := by simp [upm, h]
theorem mst_len {h : am_H} {I : Nat → Int32} {A : Nat → Nat → Int32} : (mst h I A).length = h.length := List.length_mapIdx
theorem mst_get {h : am_H} {I : Nat → Int32} {A : Nat → Nat → Int32} {a : Nat} : (mst h I A)[a]? = h[a]?.map (mo_c I A a) := List.getElem?_mapIdx
theorem mo_c_out {I : Nat → Int32} {A : Nat → Nat → Int32} {a : Nat} {c : am_C} (ha : a < 70 ∨ 83 < a) : mo_c I A a c = c := by
  unfold mo_c
  split <;> first | rfl | omega
theorem mst_out {h : am_H} {I : Nat → Int32} {A : Nat → Nat → Int32} {a : Nat} (ha : a < 70 ∨ 83 < a) : (mst h I A)[a]? = h[a]? := by
  rw [mst_get]
  cases h[a]? with
  | none => rfl
  | some c => exact congrArg some (mo_c_out ha)
theorem mst_at {h : am_H} {I : Nat → Int32} {A : Nat → Nat → Int32} (hl : 84 ≤ h.length) {a : Nat} {c : am_C} (ha : a < 84) (hc : ∀ c', mo_c I A a c' = c) : (mst h I A)[a]? = some c := by
  rw [mst_get, List.getElem?_eq_getElem (by omega : a < h.length)]
  exact congrArg some (hc _)
theorem mst_ext {h h' : am_H} {I : Nat → Int32} {A : Nat → Nat → Int32} (hl : h'.length = h.length) (hq : ∀ a c c', h[a]? = some c → h'[a]? = some c' → c' = mo_c I A a c) : h' = mst h I A := by
  refine List.ext_getElem? (fun a => ?_)
  rw [mst_get]
  by_cases ha : a < h.length
  · rw [List.getElem?_eq_getElem ha, List.getElem?_eq_getElem (by omega : a < h'.length)]
    exact congrArg some (hq a _ _ (List.getElem?_eq_getElem ha) (List.getElem?_eq_getElem (by omega : a < h'.length)))
  · rw [List.getElem?_eq_none (by omega : h.length ≤ a), List.getElem?_eq_none (by omega : h'.length ≤ a)]
    rfl
theorem mst_set {h : am_H} {I I' : Nat → Int32} {A A' : Nat → Nat → Int32} {a : Nat} {c : am_C} (h1 : ∀ c', mo_c I' A' a c' = c) (h2 : ∀ b c', b ≠ a → mo_c I' A' b c' = mo_c I A b c') : (mst h I A).set a c = mst h I' A' := by
  refine mst_ext (by rw [List.length_set, mst_len]) (fun b c0 c1 hb hb' => ?_)
  rw [List.getElem?_set] at hb'
  split at hb'
  next e =>
    subst e
    split at hb'
    next => cases hb'; exact (h1 _).symm
    next => cases hb'
  next e =>
    rw [mst_get, hb] at hb'
    cases hb'
    exact (h2 b c0 (fun q => e q.symm)).symm
section MSTR
variable {h : am_H} {I : Nat → Int32} {A : Nat → Nat → Int32} {K : Value → Prop} {KH : am_H → Prop} {KI : Int32 → Prop} {x y : Int32} {mid : Nat}
theorem mg_0 (hl : 84 ≤ h.length) : am_gfK (mst h I A) 70 5 0 K = K (.ref 71) := by simp only [am_gfK, mst_at (a := 70) hl (by decide) (fun _ => rfl), mo_o]; rfl
theorem ml_0 (hl : 84 ≤ h.length) : am_iaK (mst h I A) 71 x KI = (am_in x 186 = true ∧ KI (A 0 x.toNatClampNeg)) := by simp only [am_iaK, mst_at (a := 71) (c := .inl (0, 186, A 0)) hl (by decide) (fun _ => rfl), true_and]
theorem ms_0 (hl : 84 ≤ h.length) : am_isK (mst h I A) 71 x y KH = (am_in x 186 = true ∧ KH (mst h I (upm A 0 x.toNatClampNeg y))) := by
  have e : (mst h I A).set 71 (.inl (0, 186, upd (A 0) x.toNatClampNeg y)) = mst h I (upm A 0 x.toNatClampNeg y) := mst_set (fun _ => rfl) (fun b c q => by unfold mo_c; split <;> first | rfl | exact (q rfl).elim)
  rw [← e]
  simp only [am_isK, mst_at (a := 71) (c := .inl (0, 186, A 0)) hl (by decide) (fun _ => rfl), true_and]
theorem mg_1 (hl : 84 ≤ h.length) : am_gfK (mst h I A) 70 5 1 K = K (.ref 72) := by simp only [am_gfK, mst_at (a := 70) hl (by decide) (fun _ => rfl), mo_o]; rfl
theorem ml_1 (hl : 84 ≤ h.length) : am_iaK (mst h I A) 72 x KI = (am_in x 744 = true ∧ KI (A 1 x.toNatClampNeg)) := by simp only [am_iaK, mst_at (a := 72) (c := .inl (0, 744, A 1)) hl (by decide) (fun _ => rfl), true_and]
theorem ms_1 (hl : 84 ≤ h.length) : am_isK (mst h I A) 72 x y KH = (am_in x 744 = true ∧ KH (mst h I (upm A 1 x.toNatClampNeg y))) := by
  have e : (mst h I A).set 72 (.inl (0, 744, upd (A 1) x.toNatClampNeg y)) = mst h I (upm A 1 x.toNatClampNeg y) := mst_set (fun _ => rfl) (fun b c q => by unfold mo_c; split <;> first | rfl | exact (q rfl).elim)
  rw [← e]
  simp only [am_isK, mst_at (a := 72) (c := .inl (0, 744, A 1)) hl (by decide) (fun _ => rfl), true_and]
theorem mg_2 (hl : 84 ≤ h.length) : am_gfK (mst h I A) 70 5 2 K = K (.int (I 2)) := by simp only [am_gfK, mst_at (a := 70) hl (by decide) (fun _ => rfl), mo_o]; rfl
theorem mp_2 (hl : 84 ≤ h.length) : am_pfK mid (mst h I A) 70 5 2 false (.int x) KH = KH (mst h (upd I 2 x) A) := by
  have e : (mst h I A).set 70 (mo_o (upd I 2 x)) = mst h (upd I 2 x) A := mst_set (fun _ => rfl) (fun b c q => by unfold mo_c; split <;> first | rfl | exact (q rfl).elim)
  rw [← e]
  simp only [am_pfK, mst_at (a := 70) hl (by decide) (fun _ => rfl), mo_o]
  rfl
theorem mg_3 (hl : 84 ≤ h.length) : am_gfK (mst h I A) 70 5 3 K = K (.ref 73) := by simp only [am_gfK, mst_at (a := 70) hl (by decide) (fun _ => rfl), mo_o]; rfl
theorem ml_3 (hl : 84 ≤ h.length) : am_iaK (mst h I A) 73 x KI = (am_in x 4 = true ∧ KI (A 3 x.toNatClampNeg)) := by simp only [am_iaK, mst_at (a := 73) (c := .inl (0, 4, A 3)) hl (by decide) (fun _ => rfl), true_and]
theorem ms_3 (hl : 84 ≤ h.length) : am_isK (mst h I A) 73 x y KH = (am_in x 4 = true ∧ KH (mst h I (upm A 3 x.toNatClampNeg y))) := by
  have e : (mst h I A).set 73 (.inl (0, 4, upd (A 3) x.toNatClampNeg y)) = mst h I (upm A 3 x.toNatClampNeg y) := mst_set (fun _ => rfl) (fun b c q => by unfold mo_c; split <;> first | rfl | exact (q rfl).elim)
  rw [← e]
  simp only [am_isK, mst_at (a := 73) (c := .inl (0, 4, A 3)) hl (by decide) (fun _ => rfl), true_and]
theorem mg_4 (hl : 84 ≤ h.length) : am_gfK (mst h I A) 70 5 4 K = K (.ref 74) := by simp only [am_gfK, mst_at (a := 70) hl (by decide) (fun _ => rfl), mo_o]; rfl
theorem ml_4 (hl : 84 ≤ h.length) : am_iaK (mst h I A) 74 x KI = (am_in x 120 = true ∧ KI (A 4 x.toNatClampNeg)) := by simp only [am_iaK, mst_at (a := 74) (c := .inl (0, 120, A 4)) hl (by decide) (fun _ => rfl), true_and]
theorem ms_4 (hl : 84 ≤ h.length) : am_isK (mst h I A) 74 x y KH = (am_in x 120 = true ∧ KH (mst h I (upm A 4 x.toNatClampNeg y))) := by
  have e : (mst h I A).set 74 (.inl (0, 120, upd (A 4) x.toNatClampNeg y)) = mst h I (upm A 4 x.toNatClampNeg y) := mst_set (fun _ => rfl) (fun b c q => by unfold mo_c; split <;> first | rfl | exact (q rfl).elim)
  rw [← e]
  simp only [am_isK, mst_at (a := 74) (c := .inl (0, 120, A 4)) hl (by decide) (fun _ => rfl), true_and]
theorem mg_5 (hl : 84 ≤ h.length) : am_gfK (mst h I A) 70 5 5 K = K (.int (I 5)) := by simp only [am_gfK, mst_at (a := 70) hl (by decide) (fun _ => rfl), mo_o]; rfl
theorem mp_5 (hl : 84 ≤ h.length) : am_pfK mid (mst h I A) 70 5 5 false (.int x) KH = KH (mst h (upd I 5 x) A) := by
  have e : (mst h I A).set 70 (mo_o (upd I 5 x)) = mst h (upd I 5 x) A := mst_set (fun _ => rfl) (fun b c q => by unfold mo_c; split <;> first | rfl | exact (q rfl).elim)
  rw [← e]
  simp only [am_pfK, mst_at (a := 70) hl (by decide) (fun _ => rfl), mo_o]
  rfl
theorem mg_6 (hl : 84 ≤ h.length) : am_gfK (mst h I A) 70 5 6 K = K (.ref 75) := by simp only [am_gfK, mst_at (a := 70) hl (by decide) (fun _ => rfl), mo_o]; rfl
theorem ml_6 (hl : 84 ≤ h.length) : am_iaK (mst h I A) 75 x KI = (am_in x 30 = true ∧ KI (A 6 x.toNatClampNeg)) := by simp only [am_iaK, mst_at (a := 75) (c := .inl (0, 30, A 6)) hl (by decide) (fun _ => rfl), true_and]
theorem ms_6 (hl : 84 ≤ h.length) : am_isK (mst h I A) 75 x y KH = (am_in x 30 = true ∧ KH (mst h I (upm A 6 x.toNatClampNeg y))) := by
  have e : (mst h I A).set 75 (.inl (0, 30, upd (A 6) x.toNatClampNeg y)) = mst h I (upm A 6 x.toNatClampNeg y) := mst_set (fun _ => rfl) (fun b c q => by unfold mo_c; split <;> first | rfl | exact (q rfl).elim)
  rw [← e]
  simp only [am_isK, mst_at (a := 75) (c := .inl (0, 30, A 6)) hl (by decide) (fun _ => rfl), true_and]
theorem mg_7 (hl : 84 ≤ h.length) : am_gfK (mst h I A) 70 5 7 K = K (.int (I 7)) := by simp only [am_gfK, mst_at (a := 70) hl (by decide) (fun _ => rfl), mo_o]; rfl
theorem mp_7 (hl : 84 ≤ h.length) : am_pfK mid (mst h I A) 70 5 7 false (.int x) KH = KH (mst h (upd I 7 x) A) := by
  have e : (mst h I A).set 70 (mo_o (upd I 7 x)) = mst h (upd I 7 x) A := mst_set (fun _ => rfl) (fun b c q => by unfold mo_c; split <;> first | rfl | exact (q rfl).elim)
  rw [← e]
  simp only [am_pfK, mst_at (a := 70) hl (by decide) (fun _ => rfl), mo_o]
  rfl
theorem mg_8 (hl : 84 ≤ h.length) : am_gfK (mst h I A) 70 5 8 K = K (.ref 76) := by simp only [am_gfK, mst_at (a := 70) hl (by decide) (fun _ => rfl), mo_o]; rfl
theorem ml_8 (hl : 84 ≤ h.length) : am_iaK (mst h I A) 76 x KI = (am_in x 30 = true ∧ KI (A 8 x.toNatClampNeg)) := by simp only [am_iaK, mst_at (a := 76) (c := .inl (0, 30, A 8)) hl (by decide) (fun _ => rfl), true_and]
theorem ms_8 (hl : 84 ≤ h.length) : am_isK (mst h I A) 76 x y KH = (am_in x 30 = true ∧ KH (mst h I (upm A 8 x.toNatClampNeg y))) := by
  have e : (mst h I A).set 76 (.inl (0, 30, upd (A 8) x.toNatClampNeg y)) = mst h I (upm A 8 x.toNatClampNeg y) := mst_set (fun _ => rfl) (fun b c q => by unfold mo_c; split <;> first | rfl | exact (q rfl).elim)
  rw [← e]
  simp only [am_isK, mst_at (a := 76) (c := .inl (0, 30, A 8)) hl (by decide) (fun _ => rfl), true_and]
theorem mg_9 (hl : 84 ≤ h.length) : am_gfK (mst h I A) 70 5 9 K = K (.int (I 9)) := by simp only [am_gfK, mst_at (a := 70) hl (by decide) (fun _ => rfl), mo_o]; rfl
theorem mp_9 (hl : 84 ≤ h.length) : am_pfK mid (mst h I A) 70 5 9 false (.int x) KH = KH (mst h (upd I 9 x) A) := by
  have e : (mst h I A).set 70 (mo_o (upd I 9 x)) = mst h (upd I 9 x) A := mst_set (fun _ => rfl) (fun b c q => by unfold mo_c; split <;> first | rfl | exact (q rfl).elim)
  rw [← e]
  simp only [am_pfK, mst_at (a := 70) hl (by decide) (fun _ => rfl), mo_o]
  rfl
theorem mg_10 (hl : 84 ≤ h.length) : am_gfK (mst h I A) 70 5 10 K = K (.int (I 10)) := by simp only [am_gfK, mst_at (a := 70) hl (by decide) (fun _ => rfl), mo_o]; rfl
theorem mp_10 (hl : 84 ≤ h.length) : am_pfK mid (mst h I A) 70 5 10 false (.int x) KH = KH (mst h (upd I 10 x) A) := by
  have e : (mst h I A).set 70 (mo_o (upd I 10 x)) = mst h (upd I 10 x) A := mst_set (fun _ => rfl) (fun b c q => by unfold mo_c; split <;> first | rfl | exact (q rfl).elim)
  rw [← e]
  simp only [am_pfK, mst_at (a := 70) hl (by decide) (fun _ => rfl), mo_o]
  rfl
theorem mg_11 (hl : 84 ≤ h.length) : am_gfK (mst h I A) 70 5 11 K = K (.ref 77) := by simp only [am_gfK, mst_at (a := 70) hl (by decide) (fun _ => rfl), mo_o]; rfl
theorem ml_11 (hl : 84 ≤ h.length) : am_iaK (mst h I A) 77 x KI = (am_in x 30 = true ∧ KI (A 11 x.toNatClampNeg)) := by simp only [am_iaK, mst_at (a := 77) (c := .inl (0, 30, A 11)) hl (by decide) (fun _ => rfl), true_and]
theorem ms_11 (hl : 84 ≤ h.length) : am_isK (mst h I A) 77 x y KH = (am_in x 30 = true ∧ KH (mst h I (upm A 11 x.toNatClampNeg y))) := by
  have e : (mst h I A).set 77 (.inl (0, 30, upd (A 11) x.toNatClampNeg y)) = mst h I (upm A 11 x.toNatClampNeg y) := mst_set (fun _ => rfl) (fun b c q => by unfold mo_c; split <;> first | rfl | exact (q rfl).elim)
  rw [← e]
  simp only [am_isK, mst_at (a := 77) (c := .inl (0, 30, A 11)) hl (by decide) (fun _ => rfl), true_and]
theorem mg_12 (hl : 84 ≤ h.length) : am_gfK (mst h I A) 70 5 12 K = K (.int (I 12)) := by simp only [am_gfK, mst_at (a := 70) hl (by decide) (fun _ => rfl), mo_o]; rfl
theorem mp_12 (hl : 84 ≤ h.length) : am_pfK mid (mst h I A) 70 5 12 false (.int x) KH = KH (mst h (upd I 12 x) A) := by
  have e : (mst h I A).set 70 (mo_o (upd I 12 x)) = mst h (upd I 12 x) A := mst_set (fun _ => rfl) (fun b c q => by unfold mo_c; split <;> first | rfl | exact (q rfl).elim)
  rw [← e]
  simp only [am_pfK, mst_at (a := 70) hl (by decide) (fun _ => rfl), mo_o]
  rfl
theorem mg_13 (hl : 84 ≤ h.length) : am_gfK (mst h I A) 70 5 13 K = K (.ref 78) := by simp only [am_gfK, mst_at (a := 70) hl (by decide) (fun _ => rfl), mo_o]; rfl
theorem ml_13 (hl : 84 ≤ h.length) : am_iaK (mst h I A) 78 x KI = (am_in x 31 = true ∧ KI (A 13 x.toNatClampNeg)) := by simp only [am_iaK, mst_at (a := 78) (c := .inl (0, 31, A 13)) hl (by decide) (fun _ => rfl), true_and]
theorem ms_13 (hl : 84 ≤ h.length) : am_isK (mst h I A) 78 x y KH = (am_in x 31 = true ∧ KH (mst h I (upm A 13 x.toNatClampNeg y))) := by
  have e : (mst h I A).set 78 (.inl (0, 31, upd (A 13) x.toNatClampNeg y)) = mst h I (upm A 13 x.toNatClampNeg y) := mst_set (fun _ => rfl) (fun b c q => by unfold mo_c; split <;> first | rfl | exact (q rfl).elim)
  rw [← e]
  simp only [am_isK, mst_at (a := 78) (c := .inl (0, 31, A 13)) hl (by decide) (fun _ => rfl), true_and]
theorem mg_14 (hl : 84 ≤ h.length) : am_gfK (mst h I A) 70 5 14 K = K (.int (I 14)) := by simp only [am_gfK, mst_at (a := 70) hl (by decide) (fun _ => rfl), mo_o]; rfl
theorem mp_14 (hl : 84 ≤ h.length) : am_pfK mid (mst h I A) 70 5 14 false (.int x) KH = KH (mst h (upd I 14 x) A) := by
  have e : (mst h I A).set 70 (mo_o (upd I 14 x)) = mst h (upd I 14 x) A := mst_set (fun _ => rfl) (fun b c q => by unfold mo_c; split <;> first | rfl | exact (q rfl).elim)
  rw [← e]
  simp only [am_pfK, mst_at (a := 70) hl (by decide) (fun _ => rfl), mo_o]
  rfl
theorem mg_15 (hl : 84 ≤ h.length) : am_gfK (mst h I A) 70 5 15 K = K (.ref 79) := by simp only [am_gfK, mst_at (a := 70) hl (by decide) (fun _ => rfl), mo_o]; rfl
theorem ml_15 (hl : 84 ≤ h.length) : am_iaK (mst h I A) 79 x KI = (am_in x 30 = true ∧ KI (A 15 x.toNatClampNeg)) := by simp only [am_iaK, mst_at (a := 79) (c := .inl (0, 30, A 15)) hl (by decide) (fun _ => rfl), true_and]
theorem ms_15 (hl : 84 ≤ h.length) : am_isK (mst h I A) 79 x y KH = (am_in x 30 = true ∧ KH (mst h I (upm A 15 x.toNatClampNeg y))) := by
  have e : (mst h I A).set 79 (.inl (0, 30, upd (A 15) x.toNatClampNeg y)) = mst h I (upm A 15 x.toNatClampNeg y) := mst_set (fun _ => rfl) (fun b c q => by unfold mo_c; split <;> first | rfl | exact (q rfl).elim)
  rw [← e]
  simp only [am_isK, mst_at (a := 79) (c := .inl (0, 30, A 15)) hl (by decide) (fun _ => rfl), true_and]
theorem mg_16 (hl : 84 ≤ h.length) : am_gfK (mst h I A) 70 5 16 K = K (.ref 80) := by simp only [am_gfK, mst_at (a := 70) hl (by decide) (fun _ => rfl), mo_o]; rfl
theorem ml_16 (hl : 84 ≤ h.length) : am_iaK (mst h I A) 80 x KI = (am_in x 30 = true ∧ KI (A 16 x.toNatClampNeg)) := by simp only [am_iaK, mst_at (a := 80) (c := .inl (0, 30, A 16)) hl (by decide) (fun _ => rfl), true_and]
theorem ms_16 (hl : 84 ≤ h.length) : am_isK (mst h I A) 80 x y KH = (am_in x 30 = true ∧ KH (mst h I (upm A 16 x.toNatClampNeg y))) := by
  have e : (mst h I A).set 80 (.inl (0, 30, upd (A 16) x.toNatClampNeg y)) = mst h I (upm A 16 x.toNatClampNeg y) := mst_set (fun _ => rfl) (fun b c q => by unfold mo_c; split <;> first | rfl | exact (q rfl).elim)
  rw [← e]
  simp only [am_isK, mst_at (a := 80) (c := .inl (0, 30, A 16)) hl (by decide) (fun _ => rfl), true_and]
theorem mg_17 (hl : 84 ≤ h.length) : am_gfK (mst h I A) 70 5 17 K = K (.ref 81) := by simp only [am_gfK, mst_at (a := 70) hl (by decide) (fun _ => rfl), mo_o]; rfl
theorem ml_17 (hl : 84 ≤ h.length) : am_iaK (mst h I A) 81 x KI = (am_in x 30 = true ∧ KI (A 17 x.toNatClampNeg)) := by simp only [am_iaK, mst_at (a := 81) (c := .inl (0, 30, A 17)) hl (by decide) (fun _ => rfl), true_and]
theorem ms_17 (hl : 84 ≤ h.length) : am_isK (mst h I A) 81 x y KH = (am_in x 30 = true ∧ KH (mst h I (upm A 17 x.toNatClampNeg y))) := by
  have e : (mst h I A).set 81 (.inl (0, 30, upd (A 17) x.toNatClampNeg y)) = mst h I (upm A 17 x.toNatClampNeg y) := mst_set (fun _ => rfl) (fun b c q => by unfold mo_c; split <;> first | rfl | exact (q rfl).elim)
  rw [← e]
  simp only [am_isK, mst_at (a := 81) (c := .inl (0, 30, A 17)) hl (by decide) (fun _ => rfl), true_and]
theorem mg_18 (hl : 84 ≤ h.length) : am_gfK (mst h I A) 70 5 18 K = K (.int (I 18)) := by simp only [am_gfK, mst_at (a := 70) hl (by decide) (fun _ => rfl), mo_o]; rfl
theorem mp_18 (hl : 84 ≤ h.length) : am_pfK mid (mst h I A) 70 5 18 false (.int x) KH = KH (mst h (upd I 18 x) A) := by
  have e : (mst h I A).set 70 (mo_o (upd I 18 x)) = mst h (upd I 18 x) A := mst_set (fun _ => rfl) (fun b c q => by unfold mo_c; split <;> first | rfl | exact (q rfl).elim)
  rw [← e]
  simp only [am_pfK, mst_at (a := 70) hl (by decide) (fun _ => rfl), mo_o]
  rfl
theorem mg_19 (hl : 84 ≤ h.length) : am_gfK (mst h I A) 70 5 19 K = K (.int (I 19)) := by simp only [am_gfK, mst_at (a := 70) hl (by decide) (fun _ => rfl), mo_o]; rfl
theorem mp_19 (hl : 84 ≤ h.length) : am_pfK mid (mst h I A) 70 5 19 false (.int x) KH = KH (mst h (upd I 19 x) A) := by
  have e : (mst h I A).set 70 (mo_o (upd I 19 x)) = mst h (upd I 19 x) A := mst_set (fun _ => rfl) (fun b c q => by unfold mo_c; split <;> first | rfl | exact (q rfl).elim)
  rw [← e]
  simp only [am_pfK, mst_at (a := 70) hl (by decide) (fun _ => rfl), mo_o]
  rfl
theorem mg_20 (hl : 84 ≤ h.length) : am_gfK (mst h I A) 70 5 20 K = K (.ref 82) := by simp only [am_gfK, mst_at (a := 70) hl (by decide) (fun _ => rfl), mo_o]; rfl
theorem ml_20 (hl : 84 ≤ h.length) : am_iaK (mst h I A) 82 x KI = (am_in x 30 = true ∧ KI (A 20 x.toNatClampNeg)) := by simp only [am_iaK, mst_at (a := 82) (c := .inl (0, 30, A 20)) hl (by decide) (fun _ => rfl), true_and]
theorem ms_20 (hl : 84 ≤ h.length) : am_isK (mst h I A) 82 x y KH = (am_in x 30 = true ∧ KH (mst h I (upm A 20 x.toNatClampNeg y))) := by
  have e : (mst h I A).set 82 (.inl (0, 30, upd (A 20) x.toNatClampNeg y)) = mst h I (upm A 20 x.toNatClampNeg y) := mst_set (fun _ => rfl) (fun b c q => by unfold mo_c; split <;> first | rfl | exact (q rfl).elim)
  rw [← e]
  simp only [am_isK, mst_at (a := 82) (c := .inl (0, 30, A 20)) hl (by decide) (fun _ => rfl), true_and]
theorem mg_21 (hl : 84 ≤ h.length) : am_gfK (mst h I A) 70 5 21 K = K (.ref 83) := by simp only [am_gfK, mst_at (a := 70) hl (by decide) (fun _ => rfl), mo_o]; rfl
theorem ml_21 (hl : 84 ≤ h.length) : am_iaK (mst h I A) 83 x KI = (am_in x 200 = true ∧ KI (A 21 x.toNatClampNeg)) := by simp only [am_iaK, mst_at (a := 83) (c := .inl (0, 200, A 21)) hl (by decide) (fun _ => rfl), true_and]
theorem ms_21 (hl : 84 ≤ h.length) : am_isK (mst h I A) 83 x y KH = (am_in x 200 = true ∧ KH (mst h I (upm A 21 x.toNatClampNeg y))) := by
  have e : (mst h I A).set 83 (.inl (0, 200, upd (A 21) x.toNatClampNeg y)) = mst h I (upm A 21 x.toNatClampNeg y) := mst_set (fun _ => rfl) (fun b c q => by unfold mo_c; split <;> first | rfl | exact (q rfl).elim)
  rw [← e]
  simp only [am_isK, mst_at (a := 83) (c := .inl (0, 200, A 21)) hl (by decide) (fun _ => rfl), true_and]
theorem mg_22 (hl : 84 ≤ h.length) : am_gfK (mst h I A) 70 5 22 K = K (.int (I 22)) := by simp only [am_gfK, mst_at (a := 70) hl (by decide) (fun _ => rfl), mo_o]; rfl
theorem mp_22 (hl : 84 ≤ h.length) : am_pfK mid (mst h I A) 70 5 22 false (.int x) KH = KH (mst h (upd I 22 x) A) := by
  have e : (mst h I A).set 70 (mo_o (upd I 22 x)) = mst h (upd I 22 x) A := mst_set (fun _ => rfl) (fun b c q => by unfold mo_c; split <;> first | rfl | exact (q rfl).elim)
  rw [← e]
  simp only [am_pfK, mst_at (a := 70) hl (by decide) (fun _ => rfl), mo_o]
  rfl
theorem mrc {k cm : Nat} (hl : 84 ≤ h.length) (hk : k = 2 ∨ k = 7 ∨ k = 4 ∨ k = 5) (hc : (am_y cm).cls = "CallMigratorModel") : (am_rcv (mst h I A) k cm (.ref 70) = true) = True := by
  refine eq_true ?_
  unfold am_rcv
  simp only [mst_at (a := 70) hl (by decide) (fun _ => rfl), mo_o, hc]
  rcases hk with rfl | rfl | rfl | rfl <;> simp [am_CL, RX5]
theorem mr58_4 (hl : 84 ≤ h.length) : (am_rcv (mst h I A) 4 58 (.ref 70) = true) = True := mrc hl (by decide) rfl
theorem mr59_2 (hl : 84 ≤ h.length) : (am_rcv (mst h I A) 2 59 (.ref 70) = true) = True := mrc hl (by decide) rfl
theorem mr62_2 (hl : 84 ≤ h.length) : (am_rcv (mst h I A) 2 62 (.ref 70) = true) = True := mrc hl (by decide) rfl
theorem mr63_2 (hl : 84 ≤ h.length) : (am_rcv (mst h I A) 2 63 (.ref 70) = true) = True := mrc hl (by decide) rfl
theorem mr64_2 (hl : 84 ≤ h.length) : (am_rcv (mst h I A) 2 64 (.ref 70) = true) = True := mrc hl (by decide) rfl
theorem mr65_2 (hl : 84 ≤ h.length) : (am_rcv (mst h I A) 2 65 (.ref 70) = true) = True := mrc hl (by decide) rfl
theorem mr66_2 (hl : 84 ≤ h.length) : (am_rcv (mst h I A) 2 66 (.ref 70) = true) = True := mrc hl (by decide) rfl
theorem mr67_2 (hl : 84 ≤ h.length) : (am_rcv (mst h I A) 2 67 (.ref 70) = true) = True := mrc hl (by decide) rfl
theorem mr68_2 (hl : 84 ≤ h.length) : (am_rcv (mst h I A) 2 68 (.ref 70) = true) = True := mrc hl (by decide) rfl
theorem mr69_2 (hl : 84 ≤ h.length) : (am_rcv (mst h I A) 2 69 (.ref 70) = true) = True := mrc hl (by decide) rfl
theorem mr70_2 (hl : 84 ≤ h.length) : (am_rcv (mst h I A) 2 70 (.ref 70) = true) = True := mrc hl (by decide) rfl
theorem mr71_2 (hl : 84 ≤ h.length) : (am_rcv (mst h I A) 2 71 (.ref 70) = true) = True := mrc hl (by decide) rfl
theorem mr72_2 (hl : 84 ≤ h.length) : (am_rcv (mst h I A) 2 72 (.ref 70) = true) = True := mrc hl (by decide) rfl
theorem mr73_2 (hl : 84 ≤ h.length) : (am_rcv (mst h I A) 2 73 (.ref 70) = true) = True := mrc hl (by decide) rfl
theorem mr74_2 (hl : 84 ≤ h.length) : (am_rcv (mst h I A) 2 74 (.ref 70) = true) = True := mrc hl (by decide) rfl
theorem mr75_2 (hl : 84 ≤ h.length) : (am_rcv (mst h I A) 2 75 (.ref 70) = true) = True := mrc hl (by decide) rfl
theorem mr76_2 (hl : 84 ≤ h.length) : (am_rcv (mst h I A) 2 76 (.ref 70) = true) = True := mrc hl (by decide) rfl
theorem mr77_2 (hl : 84 ≤ h.length) : (am_rcv (mst h I A) 2 77 (.ref 70) = true) = True := mrc hl (by decide) rfl
theorem mr78_2 (hl : 84 ≤ h.length) : (am_rcv (mst h I A) 2 78 (.ref 70) = true) = True := mrc hl (by decide) rfl
theorem mr79_2 (hl : 84 ≤ h.length) : (am_rcv (mst h I A) 2 79 (.ref 70) = true) = True := mrc hl (by decide) rfl
theorem mr80_2 (hl : 84 ≤ h.length) : (am_rcv (mst h I A) 2 80 (.ref 70) = true) = True := mrc hl (by decide) rfl
theorem mr81_2 (hl : 84 ≤ h.length) : (am_rcv (mst h I A) 2 81 (.ref 70) = true) = True := mrc hl (by decide) rfl
theorem mr82_2 (hl : 84 ≤ h.length) : (am_rcv (mst h I A) 2 82 (.ref 70) = true) = True := mrc hl (by decide) rfl
theorem mr83_2 (hl : 84 ≤ h.length) : (am_rcv (mst h I A) 2 83 (.ref 70) = true) = True := mrc hl (by decide) rfl
theorem mr84_2 (hl : 84 ≤ h.length) : (am_rcv (mst h I A) 2 84 (.ref 70) = true) = True := mrc hl (by decide) rfl
theorem mr85_2 (hl : 84 ≤ h.length) : (am_rcv (mst h I A) 2 85 (.ref 70) = true) = True := mrc hl (by decide) rfl
theorem mr86_2 (hl : 84 ≤ h.length) : (am_rcv (mst h I A) 2 86 (.ref 70) = true) = True := mrc hl (by decide) rfl
theorem mr87_2 (hl : 84 ≤ h.length) : (am_rcv (mst h I A) 2 87 (.ref 70) = true) = True := mrc hl (by decide) rfl
theorem mr90_2 (hl : 84 ≤ h.length) : (am_rcv (mst h I A) 2 90 (.ref 70) = true) = True := mrc hl (by decide) rfl
theorem mr92_2 (hl : 84 ≤ h.length) : (am_rcv (mst h I A) 2 92 (.ref 70) = true) = True := mrc hl (by decide) rfl
theorem mr94_2 (hl : 84 ≤ h.length) : (am_rcv (mst h I A) 2 94 (.ref 70) = true) = True := mrc hl (by decide) rfl
theorem mr95_2 (hl : 84 ≤ h.length) : (am_rcv (mst h I A) 2 95 (.ref 70) = true) = True := mrc hl (by decide) rfl
theorem mr97_2 (hl : 84 ≤ h.length) : (am_rcv (mst h I A) 2 97 (.ref 70) = true) = True := mrc hl (by decide) rfl
theorem mr98_2 (hl : 84 ≤ h.length) : (am_rcv (mst h I A) 2 98 (.ref 70) = true) = True := mrc hl (by decide) rfl
theorem mr99_2 (hl : 84 ≤ h.length) : (am_rcv (mst h I A) 2 99 (.ref 70) = true) = True := mrc hl (by decide) rfl
theorem mr100_2 (hl : 84 ≤ h.length) : (am_rcv (mst h I A) 2 100 (.ref 70) = true) = True := mrc hl (by decide) rfl
theorem mr101_2 (hl : 84 ≤ h.length) : (am_rcv (mst h I A) 2 101 (.ref 70) = true) = True := mrc hl (by decide) rfl
theorem mr102_2 (hl : 84 ≤ h.length) : (am_rcv (mst h I A) 2 102 (.ref 70) = true) = True := mrc hl (by decide) rfl
theorem mr103_2 (hl : 84 ≤ h.length) : (am_rcv (mst h I A) 2 103 (.ref 70) = true) = True := mrc hl (by decide) rfl
theorem mr104_2 (hl : 84 ≤ h.length) : (am_rcv (mst h I A) 2 104 (.ref 70) = true) = True := mrc hl (by decide) rfl
theorem mr105_2 (hl : 84 ≤ h.length) : (am_rcv (mst h I A) 2 105 (.ref 70) = true) = True := mrc hl (by decide) rfl
theorem mr106_2 (hl : 84 ≤ h.length) : (am_rcv (mst h I A) 2 106 (.ref 70) = true) = True := mrc hl (by decide) rfl
theorem mr107_2 (hl : 84 ≤ h.length) : (am_rcv (mst h I A) 2 107 (.ref 70) = true) = True := mrc hl (by decide) rfl
theorem mr108_2 (hl : 84 ≤ h.length) : (am_rcv (mst h I A) 2 108 (.ref 70) = true) = True := mrc hl (by decide) rfl
theorem mr109_2 (hl : 84 ≤ h.length) : (am_rcv (mst h I A) 2 109 (.ref 70) = true) = True := mrc hl (by decide) rfl
theorem mr110_2 (hl : 84 ≤ h.length) : (am_rcv (mst h I A) 2 110 (.ref 70) = true) = True := mrc hl (by decide) rfl
theorem mr111_2 (hl : 84 ≤ h.length) : (am_rcv (mst h I A) 2 111 (.ref 70) = true) = True := mrc hl (by decide) rfl
theorem mr112_2 (hl : 84 ≤ h.length) : (am_rcv (mst h I A) 2 112 (.ref 70) = true) = True := mrc hl (by decide) rfl
theorem mr113_2 (hl : 84 ≤ h.length) : (am_rcv (mst h I A) 2 113 (.ref 70) = true) = True := mrc hl (by decide) rfl
theorem mr114_2 (hl : 84 ≤ h.length) : (am_rcv (mst h I A) 2 114 (.ref 70) = true) = True := mrc hl (by decide) rfl
theorem mr115_2 (hl : 84 ≤ h.length) : (am_rcv (mst h I A) 2 115 (.ref 70) = true) = True := mrc hl (by decide) rfl
theorem mr116_2 (hl : 84 ≤ h.length) : (am_rcv (mst h I A) 2 116 (.ref 70) = true) = True := mrc hl (by decide) rfl
theorem mr117_2 (hl : 84 ≤ h.length) : (am_rcv (mst h I A) 2 117 (.ref 70) = true) = True := mrc hl (by decide) rfl
theorem mr118_2 (hl : 84 ≤ h.length) : (am_rcv (mst h I A) 2 118 (.ref 70) = true) = True := mrc hl (by decide) rfl
theorem mr119_2 (hl : 84 ≤ h.length) : (am_rcv (mst h I A) 2 119 (.ref 70) = true) = True := mrc hl (by decide) rfl
theorem mr120_2 (hl : 84 ≤ h.length) : (am_rcv (mst h I A) 2 120 (.ref 70) = true) = True := mrc hl (by decide) rfl
theorem mr121_2 (hl : 84 ≤ h.length) : (am_rcv (mst h I A) 2 121 (.ref 70) = true) = True := mrc hl (by decide) rfl
end MSTR
