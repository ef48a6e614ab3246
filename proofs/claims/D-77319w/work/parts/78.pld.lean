/-! plain laws of migration: the order of effects as the component asks for it -/
theorem an_iff {p : Nat → Bool} : ∀ n, an p n = true ↔ ∃ i, i < n ∧ p i = true := by
  intro n
  induction n with
  | zero => exact ⟨fun h => (by cases h), fun ⟨i, h, _⟩ => (by omega)⟩
  | succ n ih =>
    rw [an, Bool.or_eq_true, ih]
    constructor
    · rintro (⟨i, h1, h2⟩ | h)
      · exact ⟨i, by omega, h2⟩
      · exact ⟨n, by omega, h⟩
    · rintro ⟨i, h1, h2⟩
      by_cases q : i = n
      · subst q; exact Or.inr h2
      · exact Or.inl ⟨i, by omega, h2⟩
/-- entry i behind entry k has a smaller source with an effect -/
def lsB (M : Nat → Nat) (o n : Nat) (ps : List (List Nat)) (k i : Nat) : Bool := decide (k < i ∧ M (117 + 5 * o + 1 + i) < 100 ∧ M (117 + 5 * o + 1 + i) < M (117 + 5 * o + 1 + k)) && efl M (arg n ps (M (117 + 5 * o + 1 + i)))
def ls (M : Nat → Nat) (o n : Nat) (ps : List (List Nat)) (k : Nat) : Nat → Bool := an (lsB M o n ps k)
def rRe (M : Nat → Nat) (o u n : Nat) (ps : List (List Nat)) : Nat → Bool := an (fun j => efl M (arg n ps j) && an (fun k => decide (M (117 + 5 * o + 1 + k) = j) && ls M o n ps k u) u)
def rInv (M : Nat → Nat) (o n : Nat) (ps : List (List Nat)) (u : Nat) : Prop := ∃ k i, k < i ∧ i < u ∧ M (117 + 5 * o + 1 + i) < 100 ∧ M (117 + 5 * o + 1 + k) < 100 ∧ M (117 + 5 * o + 1 + i) < M (117 + 5 * o + 1 + k) ∧ efl M (arg n ps (M (117 + 5 * o + 1 + k))) = true ∧ efl M (arg n ps (M (117 + 5 * o + 1 + i))) = true
def rSpec (M : Nat → Nat) (o n : Nat) (ps : List (List Nat)) (u : Nat) (r : Option (Option Nat)) : Prop := match r with
  | none => rInv M o n ps u
  | some g => ¬ rInv M o n ps u ∧ (match g with
    | none => ∀ i, i < u → M (117 + 5 * o + 1 + i) < 100 → efl M (arg n ps (M (117 + 5 * o + 1 + i))) = false
    | some g => (∃ i, i < u ∧ M (117 + 5 * o + 1 + i) = g ∧ g < 100 ∧ efl M (arg n ps g) = true) ∧ ∀ i, i < u → M (117 + 5 * o + 1 + i) < 100 → efl M (arg n ps (M (117 + 5 * o + 1 + i))) = true → M (117 + 5 * o + 1 + i) ≤ g)
theorem rOr_spec {M : Nat → Nat} {o n : Nat} {ps : List (List Nat)} : ∀ u, rSpec M o n ps u (rOr M o n ps u) := by
  intro u
  induction u with
  | zero => exact ⟨fun ⟨k, i, h1, h2, _⟩ => by omega, fun i hi => by omega⟩
  | succ u ih =>
    rw [rOr]
    cases hc : rOr M o n ps u with
    | none =>
      rw [hc] at ih
      obtain ⟨k, i, h1, h2, h3⟩ := ih
      exact ⟨k, i, h1, by omega, h3⟩
    | some g =>
      rw [hc] at ih
      obtain ⟨i1, i2⟩ := ih
      by_cases q : M (117 + 5 * o + 1 + u) < 100 ∧ efl M (arg n ps (M (117 + 5 * o + 1 + u))) = true
      · simp only [if_pos q]
        cases g with
        | none =>
          have i2 : ∀ i, i < u → M (117 + 5 * o + 1 + i) < 100 → efl M (arg n ps (M (117 + 5 * o + 1 + i))) = false := i2
          refine ⟨fun ⟨k, i, h1, h2, h3, h4, h5, h6, h7⟩ => ?_, ⟨u, by omega, rfl, q.1, q.2⟩, fun i h1 h2 h3 => ?_⟩
          · rw [i2 k (by omega) h4] at h6; cases h6
          · by_cases e : i = u
            · subst e; exact Nat.le_refl _
            · rw [i2 i (by omega) h2] at h3; cases h3
        | some g =>
          obtain ⟨⟨k, k1, k2, k3, k4⟩, i3⟩ : (∃ i, i < u ∧ M (117 + 5 * o + 1 + i) = g ∧ g < 100 ∧ efl M (arg n ps g) = true) ∧ ∀ i, i < u → M (117 + 5 * o + 1 + i) < 100 → efl M (arg n ps (M (117 + 5 * o + 1 + i))) = true → M (117 + 5 * o + 1 + i) ≤ g := i2
          by_cases e : M (117 + 5 * o + 1 + u) < g
          · simp only [if_pos e]
            exact ⟨k, u, k1, by omega, q.1, by omega, by omega, by rw [k2]; exact k4, q.2⟩
          · simp only [if_neg e]
            refine ⟨fun ⟨k', i, h1, h2, h3, h4, h5, h6, h7⟩ => ?_, ⟨u, by omega, rfl, q.1, q.2⟩, fun i h1 h2 h3 => ?_⟩
            · by_cases e2 : i = u
              · subst e2
                have := i3 k' (by omega) h4 h6
                omega
              · exact i1 ⟨k', i, h1, by omega, h3, h4, h5, h6, h7⟩
            · by_cases e2 : i = u
              · subst e2; exact Nat.le_refl _
              · have := i3 i (by omega) h2 h3
                omega
      · simp only [if_neg q]
        refine ⟨fun ⟨k, i, h1, h2, h3, h4, h5, h6, h7⟩ => ?_, ?_⟩
        · by_cases e2 : i = u
          · subst e2; exact q ⟨h3, h7⟩
          · exact i1 ⟨k, i, h1, by omega, h3, h4, h5, h6, h7⟩
        · cases g with
          | none =>
            intro i h1 h2
            by_cases e2 : i = u
            · subst e2
              cases he : efl M (arg n ps (M (117 + 5 * o + 1 + i))) with
              | false => rfl
              | true => exact (q ⟨h2, he⟩).elim
            · exact i2 i (by omega) h2
          | some g =>
            obtain ⟨⟨k, k1, k2⟩, i3⟩ : (∃ i, i < u ∧ M (117 + 5 * o + 1 + i) = g ∧ g < 100 ∧ efl M (arg n ps g) = true) ∧ ∀ i, i < u → M (117 + 5 * o + 1 + i) < 100 → efl M (arg n ps (M (117 + 5 * o + 1 + i))) = true → M (117 + 5 * o + 1 + i) ≤ g := i2
            refine ⟨⟨k, by omega, k2⟩, fun i h1 h2 h3 => ?_⟩
            by_cases e2 : i = u
            · subst e2; exact (q ⟨h2, h3⟩).elim
            · exact i3 i (by omega) h2 h3
theorem rRe_iff {M : Nat → Nat} {o u n : Nat} {ps : List (List Nat)} (hn : n ≤ 100) (hk : ∀ k, k < u → M (117 + 5 * o + 1 + k) < 100 → M (117 + 5 * o + 1 + k) < n) : rRe M o u n ps n = true ↔ rInv M o n ps u := by
  unfold rRe
  rw [an_iff]
  constructor
  · rintro ⟨j, h1, h2⟩
    rw [Bool.and_eq_true, an_iff] at h2
    obtain ⟨h2, k, h3, h4⟩ := h2
    rw [Bool.and_eq_true] at h4
    unfold ls at h4
    rw [an_iff] at h4
    obtain ⟨h4, i, h5, h6⟩ := h4
    unfold lsB at h6
    rw [Bool.and_eq_true] at h6
    have h4 := of_decide_eq_true h4
    have h7 := of_decide_eq_true h6.1
    exact ⟨k, i, h7.1, h5, h7.2.1, by omega, h7.2.2, by rw [h4]; exact h2, h6.2⟩
  · rintro ⟨k, i, h1, h2, h3, h4, h5, h6, h7⟩
    refine ⟨M (117 + 5 * o + 1 + k), hk k (by omega) h4, ?_⟩
    rw [Bool.and_eq_true, an_iff]
    refine ⟨h6, k, by omega, ?_⟩
    rw [Bool.and_eq_true]
    refine ⟨decide_eq_true rfl, ?_⟩
    unfold ls
    rw [an_iff]
    refine ⟨i, h2, ?_⟩
    unfold lsB
    rw [Bool.and_eq_true]
    exact ⟨decide_eq_true ⟨h1, h3, h5⟩, h7⟩
/-- why effects forbid the new call, as the component asks -/
def rsC (M : Nat → Nat) (o u n : Nat) (ps : List (List Nat)) : Nat := if rTw M o u n ps n = true then 4 else if rLo M o u n ps n = true then 5 else if rRe M o u n ps n = true then 6 else 0
theorem rsn_C {M : Nat → Nat} {o u n total : Nat} {ps : List (List Nat)} (hn : n ≤ 100) (hk : ∀ k, k < u → M (117 + 5 * o + 1 + k) < 100 → M (117 + 5 * o + 1 + k) < n) : rsn M o u n total ps = if rsC M o u n ps = 0 then (if 30 < total - (fl (ps.take n)).length + szT M o n ps u then 7 else 0) else rsC M o u n ps := by
  unfold rsn rsC
  have hs := rOr_spec (M := M) (o := o) (n := n) (ps := ps) u
  by_cases h1 : rTw M o u n ps n = true
  · simp only [if_pos h1]; rfl
  · by_cases h2 : rLo M o u n ps n = true
    · simp only [if_neg h1, if_pos h2]; rfl
    · simp only [if_neg h1, if_neg h2]
      cases hc : rOr M o n ps u with
      | none =>
        rw [hc] at hs
        simp only [if_pos ((rRe_iff hn hk).mpr hs)]; rfl
      | some g =>
        rw [hc] at hs
        have h3 : ¬ rRe M o u n ps n = true := fun q => hs.1 ((rRe_iff hn hk).mp q)
        simp only [if_neg h3]; rfl
