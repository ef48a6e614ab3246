/-! plain laws of expressions in preorder: what follows an expression -/
theorem need_spl : ∀ (p : List Nat) (a b : Nat), need (a + b) p → ∃ p1 p2, p = p1 ++ p2 ∧ need a p1 ∧ need b p2 := by
  intro p
  induction p with
  | nil =>
    intro a b h
    have h0 : a = 0 ∧ b = 0 := by
      cases a with
      | zero => cases b with
        | zero => exact ⟨rfl, rfl⟩
        | succ b => exact (by rw [Nat.zero_add] at h; exact h.elim)
      | succ a => exact (by rw [show a + 1 + b = (a + b) + 1 by omega] at h; exact h.elim)
    exact ⟨[], [], rfl, by rw [h0.1]; trivial, by rw [h0.2]; trivial⟩
  | cons t p ih =>
    intro a b h
    cases a with
    | zero => exact ⟨[], t :: p, rfl, trivial, by rw [Nat.zero_add] at h; exact h⟩
    | succ a =>
      rw [show a + 1 + b = (a + b) + 1 by omega] at h
      have h : need (a + b + ta t) p := h
      rw [show a + b + ta t = (a + ta t) + b by omega] at h
      obtain ⟨p1, p2, e, h1, h2⟩ := ih _ _ h
      exact ⟨t :: p1, p2, by rw [e]; rfl, h1, h2⟩
theorem need_nil {n : Nat} (h : need n []) : n = 0 := by
  cases n with
  | zero => rfl
  | succ n => exact h.elim
theorem need_0 {p : List Nat} (h : need 0 p) : p = [] := by
  cases p with
  | nil => rfl
  | cons t p => exact h.elim
theorem cnt_app : ∀ (p q : List Nat), cnt (p ++ q) = cnt p + cnt q := by
  intro p q
  induction p with
  | nil => simp [cnt]
  | cons t p ih => rw [List.cons_append, cnt, cnt, ih]; omega
theorem vs_app {M : Nat → Nat} {a : Nat} : ∀ (n j : Nat) (s r : List Nat), n ≤ s.length → vs M a j n (s ++ r) = vs M a j n s := by
  intro n
  induction n with
  | zero => intro j s r _; rfl
  | succ n ih =>
    intro j s r hs
    cases s with
    | nil => simp at hs
    | cons v s =>
      rw [List.cons_append, vs, vs]
      simp only [List.headD_cons, List.tail_cons]
      rw [ih (j + 1) s r (by simpa using hs)]
theorem vals_app {M : Nat → Nat} {x y : Nat} : ∀ (p r : List Nat) (n : Nat), need n p → vals M x y (p ++ r) = vals M x y p ++ vals M x y r := by
  intro p
  induction p with
  | nil => intro r n _; rfl
  | cons t p ih =>
    intro r n h
    cases n with
    | zero => exact h.elim
    | succ n =>
      have h : need (n + ta t) p := h
      have hl := vals_len (M := M) (x := x) (y := y) p _ h
      rw [List.cons_append, vals, vals, ih r _ h, List.drop_append_of_le_length (by omega), List.cons_append]
      congr 1
      unfold vOf
      rw [vs_app _ _ _ _ (by omega)]
theorem ends_1 {st : List Nat} : ends (1 :: st) = (41 :: (ends st).1, (ends st).2) := by
  rw [ends, if_pos rfl]
theorem ends_s {w : Nat} {st : List Nat} (h : 1 < w) : ends (w :: st) = ([44], (w - 1) :: st) := by
  rw [ends, if_neg (by omega)]
/-- the text behind an expression -/
theorem tx_bh : ∀ (n : Nat) (p : List Nat), p.length ≤ n → need 1 p → ∀ st r, tx st (p ++ r) = tx [] p ++ ((ends st).1 ++ tx (ends st).2 r) := by
  intro n
  induction n with
  | zero =>
    intro p hl hn
    have := need_le p 1 hn
    omega
  | succ n ih =>
    intro p hl hn st r
    cases p with
    | nil => exact hn.elim
    | cons t p =>
      have hn : need (0 + ta t) p := hn
      rw [Nat.zero_add] at hn
      have hl : p.length ≤ n := by simpa using hl
      by_cases h0 : 0 < ta t
      · have B : ∀ (k : Nat) (q : List Nat), q.length ≤ n → need k q → ∀ w st r, k ≤ w → 0 < w → tx (w :: st) (q ++ r) = tx [w] q ++ (if k = w then (ends st).1 ++ tx (ends st).2 r else tx ((w - k) :: st) r) := by
          intro k
          induction k with
          | zero =>
            intro q _ hq w st r _ h0
            rw [need_0 hq, if_neg (by omega)]
            rfl
          | succ k ihk =>
            intro q hql hq w st r hw h0
            rw [Nat.add_comm] at hq
            obtain ⟨q1, q2, rfl, h1, h2⟩ := need_spl q 1 k hq
            rw [List.length_append] at hql
            rw [List.append_assoc, ih q1 (by omega) h1 (w :: st) (q2 ++ r), ih q1 (by omega) h1 [w] q2]
            by_cases hw1 : w = 1
            · subst hw1
              have hk : k = 0 := by omega
              subst hk
              rw [need_0 h2, ends_1, ends_1, if_pos rfl]
              simp [ends, tx]
            · rw [ends_s (by omega), ends_s (by omega), ihk q2 (by omega) h2 (w - 1) st r (by omega) (by omega)]
              by_cases hk : k = w - 1
              · rw [if_pos hk, if_pos (by omega)]; simp
              · rw [if_neg hk, if_neg (by omega), show w - (k + 1) = w - 1 - k by omega]; simp
        rw [List.cons_append, tx, if_pos h0, tx, if_pos h0, B (ta t) p hl hn (ta t) st r (Nat.le_refl _) h0, if_pos rfl]
        simp
      · have e : ta t = 0 := by omega
        rw [e] at hn
        rw [need_0 hn, List.cons_append, tx, if_neg h0, tx, if_neg h0]
        simp [ends, tx]
theorem tx_one {p : List Nat} (h : need 1 p) (st r : List Nat) : tx st (p ++ r) = tx [] p ++ ((ends st).1 ++ tx (ends st).2 r) := tx_bh _ p (Nat.le_refl _) h st r
