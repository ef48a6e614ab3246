/-! migration in plain terms keeps what it needs -/
theorem tOk_mono {n n' t : Nat} (h : n ≤ n') (ht : tOk n t) : tOk n' t := by
  unfold tOk at *
  omega
theorem need_app : ∀ (x y : List Nat) (a b : Nat), need a x → need b y → need (a + b) (x ++ y) := by
  intro x
  induction x with
  | nil => intro y a b ha hb; cases a with
    | zero => rw [Nat.zero_add]; exact hb
    | succ a => exact ha.elim
  | cons t x ih =>
    intro y a b ha hb
    cases a with
    | zero => exact ha.elim
    | succ a =>
      have h1 : need (a + ta t + b) (x ++ y) := ih y _ b ha hb
      rw [Nat.add_right_comm a 1 b]
      show need (a + b + ta t) (x ++ y)
      rw [show a + b + ta t = a + ta t + b by omega]; exact h1
def okN (ps : List (List Nat)) : Prop := ∀ p, p ∈ ps → need 1 p
theorem okN_fl : ∀ ps, okN ps → need ps.length (fl ps) := by
  intro ps
  induction ps with
  | nil => intro _; trivial
  | cons p ps ih =>
    intro h
    exact need_app _ _ _ _ (ih (fun q hq => h q (List.mem_cons_of_mem _ hq))) (h p List.mem_cons_self)
theorem okN_len {ps : List (List Nat)} (h : okN ps) : ps.length ≤ (fl ps).length := need_le _ _ (okN_fl ps h)
theorem fl_mem {ps : List (List Nat)} {t : Nat} : t ∈ fl ps → ∃ p, p ∈ ps ∧ t ∈ p := by
  induction ps with
  | nil => intro h; cases h
  | cons p ps ih =>
    intro h
    rcases List.mem_append.mp h with h | h
    · obtain ⟨q, h1, h2⟩ := ih h; exact ⟨q, List.mem_cons_of_mem _ h1, h2⟩
    · exact ⟨p, List.mem_cons_self, h⟩
theorem fl_of {ps : List (List Nat)} {t : Nat} {p : List Nat} : p ∈ ps → t ∈ p → t ∈ fl ps := by
  induction ps with
  | nil => intro h; cases h
  | cons q ps ih =>
    intro h h2
    rcases List.mem_cons.mp h with rfl | h
    · exact List.mem_append_right _ h2
    · exact List.mem_append_left _ (ih h h2)
theorem fl_take {ps : List (List Nat)} {n t : Nat} (h : t ∈ fl (ps.take n)) : t ∈ fl ps := by
  rw [fl_drop ps n]; exact List.mem_append_right _ h
theorem fl_drp {ps : List (List Nat)} {n t : Nat} (h : t ∈ fl (ps.drop n)) : t ∈ fl ps := by
  rw [fl_drop ps n]; exact List.mem_append_left _ h
/-- parts are fine: nodes, words -/
def psOk (m : Nat) (ps : List (List Nat)) : Prop := (∀ t, t ∈ fl ps → tOk m t) ∧ okN ps
theorem put_ok {m t : Nat} {ps : List (List Nat)} (h : psOk m ps) (ht : tOk m t) (hle : ta t ≤ ps.length) : psOk m (putP t ps) ∧ (putP t ps).length = ps.length - ta t + 1 ∧ (fl (putP t ps)).length = (fl ps).length + 1 := by
  have hsp := fl_drop ps (ta t)
  refine ⟨⟨fun x hx => ?_, fun p hp => ?_⟩, ?_, ?_⟩
  · have hx : x ∈ fl (ps.drop (ta t)) ++ (t :: fl (ps.take (ta t))) := hx
    rcases List.mem_append.mp hx with hx | hx
    · exact h.1 x (fl_drp hx)
    · rcases List.mem_cons.mp hx with rfl | hx
      · exact ht
      · exact h.1 x (fl_take hx)
  · rcases List.mem_cons.mp hp with rfl | hp
    · have h1 := okN_fl (ps.take (ta t)) (fun q hq => h.2 q (List.mem_of_mem_take hq))
      rw [List.length_take, Nat.min_eq_left hle] at h1
      show need (0 + ta t) (fl (ps.take (ta t)))
      rw [Nat.zero_add]; exact h1
    · exact h.2 p (List.mem_of_mem_drop hp)
  · show ((t :: fl (ps.take (ta t))) :: ps.drop (ta t)).length = _
    rw [List.length_cons, List.length_drop]
  · show (fl (ps.drop (ta t)) ++ (t :: fl (ps.take (ta t)))).length = _
    rw [List.length_append, List.length_cons, ← Nat.add_assoc, ← List.length_append, ← hsp]
theorem arg_need {ps : List (List Nat)} {n j : Nat} (h : okN ps) (hn : n ≤ ps.length) (hj : j < n) : need 1 (arg n ps j) := by
  have hi : n - 1 - j < ps.length := by omega
  unfold arg
  rw [List.getD_eq_getElem?_getD, List.getElem?_eq_getElem hi]
  exact h _ (List.getElem_mem hi)
theorem bn_ok {M : Nat → Nat} {o n m : Nat} {ps : List (List Nat)} (h : psOk m ps) (hn : n ≤ ps.length) : ∀ k, (∀ i, i < k → (M (117 + 5 * o + 1 + i) < 100 → M (117 + 5 * o + 1 + i) < n) ∧ M (117 + 5 * o + 1 + i) ≤ 199) → need k (bn M o n ps k) ∧ ∀ t, t ∈ bn M o n ps k → tOk m t := by
  intro k
  induction k with
  | zero => intro _; exact ⟨trivial, fun t q => by cases q⟩
  | succ k ih =>
    intro hk
    have h1 := ih (fun i hi => hk i (by omega))
    have h2 := hk k (by omega)
    rw [bn]
    by_cases hc : M (117 + 5 * o + 1 + k) < 100
    · rw [if_pos hc]
      refine ⟨need_app _ _ _ _ h1.1 (arg_need h.2 hn (h2.1 hc)), fun t q => ?_⟩
      rcases List.mem_append.mp q with q | q
      · exact h1.2 t q
      · exact h.1 t (mem_getD q)
    · rw [if_neg hc]
      have ht : ta (10 * (M (117 + 5 * o + 1 + k) - 100)) = 0 := by unfold ta; omega
      refine ⟨need_app _ _ _ _ h1.1 ?_, fun t q => ?_⟩
      · show need (0 + ta (10 * (M (117 + 5 * o + 1 + k) - 100))) []
        rw [ht]; trivial
      · rcases List.mem_append.mp q with q | q
        · exact h1.2 t q
        · rcases List.mem_cons.mp q with rfl | q
          · unfold tOk tk tw ta; omega
          · cases q
theorem wf_rs {M : Nat → Nat} {T : Nat → Option Nat} {i v : Nat} (hw : wf M T) (hi : 179 ≤ i) : wf (va_up M i v) T := by
  obtain ⟨h1, h2, ⟨h3, h3b⟩, h4, h5, h6, h7, h8⟩ := hw
  have e : ∀ j, j < 179 → va_up M i v j = M j := fun j hj => va_up_ne _ _ (by omega)
  have ep : prog (va_up M i v) = prog M := by
    unfold prog
    rw [e 148 (by decide)]
    exact List.map_congr_left (fun k hk => e _ (by have := List.mem_range.mp hk; omega))
  have ef : ∀ n a, a + 7 < 179 → fOk M n a → fOk (va_up M i v) n a := by
    intro n a ha ⟨q1, q2, q3⟩
    exact ⟨by rw [e _ (by omega)]; exact q1, by rw [e _ (by omega)]; exact q2, fun j hj => by rw [e _ (by omega)]; exact q3 j hj⟩
  refine ⟨fun f hf => ef _ _ (by omega) (h1 f hf), fun f hf => ef _ _ (by omega) (h2 f hf), ⟨by rw [e 116 (by decide)]; exact h3, fun k hk => ?_⟩, fun o ho t ht => ⟨(h4 o ho t ht).1, fun p hp => by rw [e _ (by omega)]; exact (h4 o ho t ht).2 p hp⟩, by rw [e 147 (by decide)]; exact h5, by rw [e 148 (by decide)]; exact h6, by rw [ep]; exact h7, by rw [ep, e 116 (by decide)]; exact h8⟩
  rw [e 116 (by decide)] at hk
  have h9 := h3b k hk
  exact ⟨ef _ _ (by omega) h9.1, by rw [e _ (by omega)]; exact h9.2.1, fun j hj => by rw [e _ (by omega), e _ (by omega)]; exact h9.2.2 j hj⟩
theorem adp_none {M : Nat → Nat} {o : Nat} : ∀ n, adp M o n = none → ∀ k, k < n → M (84 + 8 * k + 7) ≠ o := by
  intro n
  induction n with
  | zero => intro _ k hk; omega
  | succ n ih =>
    intro h k hk
    unfold adp at h
    split at h
    · cases h
    next q =>
      by_cases e : k = n
      · subst e; exact q
      · exact ih h k (by omega)
theorem wf_adM {M : Nat → Nat} {T : Nat → Option Nat} {o : Nat} (hw : wf M T) (ho : o < 6) (hn : adp M o (M 116) = none) (h4 : M 116 < 4) : wf (adM M o) T ∧ adM M o 116 = M 116 + 1 ∧ (∀ j, j < 84 ∨ 117 ≤ j → adM M o j = M j) ∧ prog (adM M o) = prog M := by
  obtain ⟨h1, h2, ⟨h3, h3b⟩, h4', h5, h6, h7, h8⟩ := hw
  have e : ∀ j, j < 84 ∨ 117 ≤ j → adM M o j = M j := fun j hj => by unfold adM; rw [if_neg (by omega), if_neg (by omega), if_neg (by omega)]
  have e116 : adM M o 116 = M 116 + 1 := by unfold adM; rw [if_neg (by omega), if_neg (by omega), if_pos rfl]
  have ea : ∀ k j, k < M 116 → j < 8 → adM M o (84 + 8 * k + j) = M (84 + 8 * k + j) := fun k j hk hj => by unfold adM; rw [if_neg (by omega), if_neg (by omega), if_neg (by omega)]
  have en : ∀ j, j < 7 → adM M o (84 + 8 * M 116 + j) = M (7 * o + j) := fun j hj => by
    unfold adM; rw [if_pos (by omega)]; congr 1; omega
  have eo : adM M o (84 + 8 * M 116 + 7) = o := by unfold adM; rw [if_neg (by omega), if_pos rfl]
  have ep : prog (adM M o) = prog M := by
    unfold prog
    rw [e 148 (by decide)]
    exact List.map_congr_left (fun k hk => e _ (by omega))
  refine ⟨⟨fun f hf => ?_, fun f hf => ?_, ⟨by rw [e116]; omega, fun k hk => ?_⟩, fun p hp t ht => ⟨(h4' p hp t ht).1, fun q hq => by rw [e _ (by omega)]; exact (h4' p hp t ht).2 q hq⟩, by rw [e 147 (by decide)]; exact h5, by rw [e 148 (by decide)]; exact h6, by rw [ep]; exact h7, by rw [ep, e116]; exact fun t q => tOk_mono (by omega) (h8 t q)⟩, e116, e, ep⟩
  · obtain ⟨q1, q2, q3⟩ := h1 f hf
    exact ⟨by rw [e _ (by omega)]; exact q1, by rw [e _ (by omega)]; exact q2, fun j hj => by rw [e _ (by omega)]; exact q3 j hj⟩
  · obtain ⟨q1, q2, q3⟩ := h2 f hf
    exact ⟨by rw [e _ (by omega)]; exact q1, by rw [e _ (by omega)]; exact q2, fun j hj => by rw [e _ (by omega)]; exact q3 j hj⟩
  · rw [e116] at hk
    by_cases hc : k = M 116
    · subst hc
      obtain ⟨q1, q2, q3⟩ := h1 o ho
      have e0 := en 0 (by decide)
      have e1 := en 1 (by decide)
      rw [Nat.add_zero, Nat.add_zero] at e0
      refine ⟨⟨by rw [e0]; exact q1, by rw [e1]; exact q2, fun j hj => ?_⟩, by rw [eo]; exact ho, fun j hj => ?_⟩
      · have e2 := en (2 + j) (by omega)
        rw [← Nat.add_assoc, ← Nat.add_assoc] at e2
        rw [e2]; exact q3 j hj
      · rw [eo, ea j 7 hj (by decide)]; exact adp_none _ hn j hj
    · have hk2 : k < M 116 := by omega
      obtain ⟨⟨q1, q2, q3⟩, q4, q5⟩ := h3b k hk2
      have e0 := ea k 0 hk2 (by decide)
      rw [Nat.add_zero] at e0
      refine ⟨⟨by rw [e0]; exact q1, by rw [ea k 1 hk2 (by decide)]; exact q2, fun j hj => ?_⟩, by rw [ea k 7 hk2 (by decide)]; exact q4, fun j hj => ?_⟩
      · have e2 := ea k (2 + j) hk2 (by omega)
        rw [← Nat.add_assoc] at e2
        rw [e2]; exact q3 j hj
      · rw [ea k 7 hk2 (by decide), ea j 7 (by omega) (by decide)]; exact q5 j hj
