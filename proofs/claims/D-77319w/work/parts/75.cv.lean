/-! frames: what is kept, how much the heap grows -/
def wt (h : am_H) : Nat := am_slots h + h.length
theorem wt_app {h : am_H} {c : am_C} : wt (h ++ [c]) = wt h + am_csz c + 1 := by
  unfold wt; rw [am_slots_app, List.length_append, List.length_singleton]; omega
theorem wt_set {h : am_H} {a : Nat} {c0 c : am_C} (e : h[a]? = some c0) (hs : am_csz c = am_csz c0) : wt (h.set a c) = wt h := by
  unfold wt; rw [am_slots_set e hs, List.length_set]
def frC (h h' : am_H) (k : Nat) : Prop := ext h h' ∧ h.length ≤ h'.length ∧ wt h' ≤ wt h + k
theorem fr_rf {h : am_H} : frC h h 0 := ⟨ext_rf, Nat.le_refl _, Nat.le_refl _⟩
theorem fr_le {h h' : am_H} {k k' : Nat} (h1 : frC h h' k) (hk : k ≤ k') : frC h h' k' := ⟨h1.1, h1.2.1, by have := h1.2.2; omega⟩
theorem fr_tr {h h' h2 : am_H} {k k2 : Nat} (h1 : frC h h' k) (q : frC h' h2 k2) : frC h h2 (k + k2) := ⟨ext_tr h1.1 q.1, Nat.le_trans h1.2.1 q.2.1, by have := h1.2.2; have := q.2.2; omega⟩
theorem fr_app {h0 h : am_H} {k : Nat} {c : am_C} (h1 : frC h0 h k) : frC h0 (h ++ [c]) (k + am_csz c + 1) := ⟨fun a x i r => by rw [g_al (g_lt (h1.1 a x i r))]; exact h1.1 a x i r, by rw [List.length_append]; have := h1.2.1; omega, by rw [wt_app]; have := h1.2.2; omega⟩
theorem fr_set {h0 h : am_H} {a k : Nat} {c c' : am_C} (h1 : frC h0 h k) (hq : h[a]? = some c) (hc : am_csz c' = am_csz c) (hi : ¬ im2 a ∨ h0.length ≤ a) : frC h0 (h.set a c') k := by
  refine ⟨fun b x i r => ?_, by rw [List.length_set]; exact h1.2.1, by rw [wt_set hq hc]; exact h1.2.2⟩
  have hab : a ≠ b := fun q => by
    subst q
    rcases hi with hi | hi
    · exact hi i
    · have := g_lt r; omega
  rw [g_sn hab]; exact h1.1 b x i r
theorem ext_set {h : am_H} {a : Nat} {c : am_C} (ha : ¬ im2 a) : ext h (h.set a c) := fun b c' i r => by
  have hab : a ≠ b := fun q => ha (by rw [q]; exact i)
  rw [g_sn hab]; exact r
theorem ni2 {a : Nat} (h : a = 0 ∨ a = 1 ∨ a = 2 ∨ a = 3 ∨ a = 4 ∨ a = 5 ∨ a = 6 ∨ a = 9 ∨ a = 14 ∨ a = 15 ∨ a = 16 ∨ a = 69) : ¬ im2 a := by
  unfold im2 imL
  simp only [List.mem_cons, List.not_mem_nil, or_false]
  omega
/-- the bases of States -/
def isB (b : Nat) : Prop := b = 1 ∨ b = 17 ∨ b = 30 ∨ b = 43 ∨ b = 56
theorem ni_b {b : Nat} (hb : isB b) {a : Nat} (ha : a = b ∨ a = b + 1 ∨ a = b + 2 ∨ a = b + 3 ∨ a = b + 4 ∨ a = b + 5 ∨ a = b + 8) : ¬ im2 a := by
  unfold im2 imL
  unfold isB at hb
  simp only [List.mem_cons, List.not_mem_nil, or_false]
  omega
