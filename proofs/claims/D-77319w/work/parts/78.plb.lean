/-! plain laws of migration: what follows an expression -/
def mad (d : Nat) (μ : mg) : mg := (μ.1, μ.2.1, d + μ.2.2.1, μ.2.2.2)
/-- a node is treated; replacements are added up -/
def trM (T : Nat → Option Nat) (t : Nat) (μ : mg) : mg := ((trt T t μ.2.1 μ.1 μ.2.2.2).1, (trt T t μ.2.1 μ.1 μ.2.2.2).2.1, μ.2.2.1 + (trt T t μ.2.1 μ.1 μ.2.2.2).2.2.1, (trt T t μ.2.1 μ.1 μ.2.2.2).2.2.2)
theorem trM_mad {T : Nat → Option Nat} {t d : Nat} {μ : mg} : trM T t (mad d μ) = mad d (trM T t μ) := by
  simp only [trM, mad, Nat.add_assoc]
theorem opn_mad {T : Nat → Option Nat} {d : Nat} : ∀ (cs : List (Nat × Nat)) (μ : mg), opn T cs (mad d μ) = ((opn T cs μ).1, mad d (opn T cs μ).2) := by
  intro cs
  induction cs with
  | nil => intro μ; rfl
  | cons q cs ih =>
    intro μ
    obtain ⟨t, l⟩ := q
    have e : ∀ ν, opn T ((t, l) :: cs) ν = if l = 1 then opn T cs (trM T t ν) else ((t, l - 1) :: cs, ν) := fun _ => rfl
    rw [e, e]
    by_cases h : l = 1
    · rw [if_pos h, if_pos h, trM_mad, ih]
    · rw [if_neg h, if_neg h]
theorem mgr_leaf {T : Nat → Option Nat} {t : Nat} {p : List Nat} {cs : List (Nat × Nat)} {μ : mg} (h : ta t = 0) : mgr T (t :: p) cs μ = mgr T p (opn T cs (trM T t μ)).1 (opn T cs (trM T t μ)).2 := by
  rw [mgr, if_neg (by omega)]
  have e : trM T t μ = mad (μ.2.2.1 + (trt T t μ.2.1 μ.1 μ.2.2.2).2.2.1) ((trt T t μ.2.1 μ.1 μ.2.2.2).1, (trt T t μ.2.1 μ.1 μ.2.2.2).2.1, 0, (trt T t μ.2.1 μ.1 μ.2.2.2).2.2.2) := rfl
  rw [e, opn_mad]
  rfl
theorem mgr_node {T : Nat → Option Nat} {t : Nat} {p : List Nat} {cs : List (Nat × Nat)} {μ : mg} (h : 0 < ta t) : mgr T (t :: p) cs μ = mgr T p ((t, ta t) :: cs) μ := by
  rw [mgr, if_pos h]
theorem mgr_bh {T : Nat → Option Nat} : ∀ (n : Nat) (p : List Nat), p.length ≤ n → need 1 p → ∀ cs μ r, mgr T (p ++ r) cs μ = mgr T r (opn T cs (mgr T p [] μ)).1 (opn T cs (mgr T p [] μ)).2 := by
  intro n
  induction n with
  | zero =>
    intro p hl hn
    have := need_le p 1 hn
    omega
  | succ n ih =>
    intro p hl hn cs μ r
    cases p with
    | nil => exact hn.elim
    | cons t p =>
      have hn : need (0 + ta t) p := hn
      rw [Nat.zero_add] at hn
      have hl : p.length ≤ n := by simpa using hl
      by_cases h0 : 0 < ta t
      · have B : ∀ (k : Nat) (q : List Nat), q.length ≤ n → need k q → ∀ w cs μ r, k ≤ w → 0 < w → mgr T (q ++ r) ((t, w) :: cs) μ = (if k = w then mgr T r (opn T cs (trM T t (mgr T q [] μ))).1 (opn T cs (trM T t (mgr T q [] μ))).2 else mgr T r ((t, w - k) :: cs) (mgr T q [] μ)) := by
          intro k
          induction k with
          | zero =>
            intro q _ hq w cs μ r _ h0
            rw [need_0 hq, if_neg (by omega)]
            rfl
          | succ k ihk =>
            intro q hql hq w cs μ r hw h0
            rw [Nat.add_comm] at hq
            obtain ⟨q1, q2, rfl, h1, h2⟩ := need_spl q 1 k hq
            rw [List.length_append] at hql
            rw [List.append_assoc, ih q1 (by omega) h1 ((t, w) :: cs) μ (q2 ++ r), ih q1 (by omega) h1 [] μ q2]
            have e : ∀ ν cs, opn T ((t, w) :: cs) ν = if w = 1 then opn T cs (trM T t ν) else ((t, w - 1) :: cs, ν) := fun _ _ => rfl
            have e2 : ∀ ν, opn T [] ν = ([], ν) := fun _ => rfl
            rw [e, e2]
            by_cases hw1 : w = 1
            · have hk : k = 0 := by omega
              subst hk
              rw [if_pos hw1, need_0 h2, if_pos (by omega)]
              rfl
            · rw [if_neg hw1, ihk q2 (by omega) h2 (w - 1) cs _ r (by omega) (by omega)]
              by_cases hk : k = w - 1
              · rw [if_pos hk, if_pos (by omega)]
              · rw [if_neg hk, if_neg (by omega), show w - (k + 1) = w - 1 - k by omega]
        have B0 := B (ta t) p hl hn (ta t) [] μ [] (Nat.le_refl _) h0
        rw [List.append_nil, if_pos rfl] at B0
        rw [List.cons_append, mgr_node h0, mgr_node h0, B (ta t) p hl hn (ta t) cs μ r (Nat.le_refl _) h0, if_pos rfl, B0]
        rfl
      · have e : ta t = 0 := by omega
        rw [e] at hn
        rw [need_0 hn, List.cons_append, mgr_leaf e, mgr_leaf e]
        rfl
theorem mgr_c {T : Nat → Option Nat} {p r : List Nat} {μ : mg} (h : need 1 p) : mgr T (p ++ r) [] μ = mgr T r [] (mgr T p [] μ) := mgr_bh _ p (Nat.le_refl _) h [] μ r
theorem mgr_k {T : Nat → Option Nat} {t : Nat} : ∀ (k : Nat) (q : List Nat), need k q → ∀ w μ, k ≤ w → 0 < w → mgr T q [(t, w)] μ = if k = w then trM T t (mgr T q [] μ) else mgr T q [] μ := by
  intro k
  induction k with
  | zero =>
    intro q hq w μ _ h0
    rw [need_0 hq, if_neg (by omega)]
    rfl
  | succ k ihk =>
    intro q hq w μ hw h0
    rw [Nat.add_comm] at hq
    obtain ⟨q1, q2, rfl, h1, h2⟩ := need_spl q 1 k hq
    rw [mgr_bh _ q1 (Nat.le_refl _) h1, mgr_c h1]
    have e : ∀ ν cs, opn T ((t, w) :: cs) ν = if w = 1 then opn T cs (trM T t ν) else ((t, w - 1) :: cs, ν) := fun _ _ => rfl
    rw [e]
    by_cases hw1 : w = 1
    · have hk : k = 0 := by omega
      subst hk
      rw [if_pos hw1, need_0 h2, if_pos (by omega)]
      rfl
    · rw [if_neg hw1, ihk q2 h2 (w - 1) _ (by omega) (by omega)]
      by_cases hk : k = w - 1
      · rw [if_pos hk, if_pos (by omega)]
      · rw [if_neg hk, if_neg (by omega)]
theorem mgr_t {T : Nat → Option Nat} {t : Nat} {p : List Nat} {μ : mg} (h : need (ta t) p) : mgr T (t :: p) [] μ = trM T t (mgr T p [] μ) := by
  by_cases h0 : 0 < ta t
  · rw [mgr_node h0, mgr_k _ p h _ _ (Nat.le_refl _) h0, if_pos rfl]
  · have e : ta t = 0 := by omega
    rw [e] at h
    rw [need_0 h, mgr_leaf e]
    rfl
