/-! migration in plain terms: the whole walk; the model's treatsOpen and migrate -/
/-- what one treated call leaves (of M and ps; rest: nodes outside the parts) -/
def trG (T : Nat → Option Nat) (M : Nat → Nat) (k rest : Nat) (μ : mg) : Prop := wf μ.1 T ∧ psOk (μ.1 116) μ.2.2.2 ∧ M 116 ≤ μ.1 116 ∧ μ.2.2.2.length = k ∧ (fl μ.2.2.2).length + rest = μ.2.1 ∧ μ.2.1 ≤ 30 ∧ prog μ.1 = prog M ∧ μ.1 148 = M 148 ∧ μ.2.2.1 ≤ 1
section MO
variable {M : Nat → Nat} {T : Nat → Option Nat} {ps : List (List Nat)} {t total rest : Nat}
theorem lv_ok (hw : wf M T) (hp : psOk (M 116) ps) (ht : tOk (M 116) t) (hle : ta t ≤ ps.length) (htot : (fl ps).length + 1 + rest = total) (h30 : total ≤ 30) {why : Nat} (hy : 1 ≤ why) : trG T M (ps.length - ta t + 1) rest (lv why t total M ps) := by
  obtain ⟨h1, h2, h3⟩ := put_ok hp ht hle
  have e : ∀ j, j < 179 → va_up M (179 + why - 1) (M (179 + why - 1) + 1) j = M j := fun j hj => va_up_ne _ _ (by omega)
  have h148 := hw.2.2.2.2.2.1.2
  refine ⟨wf_rs hw (by omega), ?_, ?_, h2, ?_, h30, ?_, e 148 (by decide), Nat.zero_le _⟩
  · show psOk (va_up M (179 + why - 1) (M (179 + why - 1) + 1) 116) (putP t ps)
    rw [e 116 (by decide)]; exact h1
  · show M 116 ≤ va_up M (179 + why - 1) (M (179 + why - 1) + 1) 116
    rw [e 116 (by decide)]; exact Nat.le_refl _
  · show (fl (putP t ps)).length + rest = total
    omega
  · show prog (va_up M (179 + why - 1) (M (179 + why - 1) + 1)) = prog M
    unfold prog
    rw [e 148 (by decide)]
    exact List.map_congr_left (fun k hk => e _ (by have := List.mem_range.mp hk; omega))
theorem adT_ok (hw : wf M T) (hp : psOk (M 116) ps) (ht : tOk (M 116) t) (h3 : tk t = 3) (hle : ta t ≤ ps.length) (htot : (fl ps).length + 1 + rest = total) (h30 : total ≤ 30) {why : Nat} (hy : 1 ≤ why) : trG T M (ps.length - ta t + 1) rest (adT why t total M ps) := by
  have h33 : tw t < 6 ∧ ta t ≤ 3 := by unfold tOk at ht; omega
  have h4 := hw.2.2.1.1
  have hput : ∀ (k : Nat) (M' : Nat → Nat), wf M' T → M 116 ≤ M' 116 → k < M' 116 → prog M' = prog M → M' 148 = M 148 → trG T M (ps.length - ta t + 1) rest (M', total, 1, putP (50000 + 10 * k + ta t) ps) := by
    intro k M' hw' hle' hk hpr h148
    have h5 := hw'.2.2.1.1
    have e := ta_ad (k := k) (n := ta t) (by omega)
    have htk : tOk (M' 116) (50000 + 10 * k + ta t) := by
      have e1 : tk (50000 + 10 * k + ta t) = 5 := by unfold tk; omega
      have e2 : tw (50000 + 10 * k + ta t) = k := by unfold tw; omega
      unfold tOk
      rw [e, e1, e2]; omega
    obtain ⟨g1, g2, g3⟩ := put_ok (ps := ps) ⟨fun x hx => tOk_mono hle' (hp.1 x hx), hp.2⟩ htk (by rw [e]; exact hle)
    rw [e] at g2
    exact ⟨hw', g1, hle', g2, by show (fl (putP (50000 + 10 * k + ta t) ps)).length + rest = total; omega, h30, hpr, h148, Nat.le_refl _⟩
  unfold adT
  cases hc : adO M (tw t) with
  | none => exact lv_ok hw hp ht hle htot h30 hy
  | some q =>
    obtain ⟨k, M'⟩ := q
    unfold adO at hc
    split at hc
    · cases hc
    · split at hc
      next k' hk' =>
        cases hc
        have := adp_lt _ hk'
        exact hput k M hw (Nat.le_refl _) this.1 rfl rfl
      next hk' =>
        split at hc
        · cases hc
        next h6 =>
          cases hc
          obtain ⟨g1, g2, g3, g4⟩ := wf_adM hw h33.1 hk' (by omega)
          exact hput (M 116) _ g1 (by omega) (by omega) g4 (g3 148 (by decide))
theorem trt_ok (hw : wf M T) (hp : psOk (M 116) ps) (ht : tOk (M 116) t) (hle : ta t ≤ ps.length) (htot : (fl ps).length + 1 + rest = total) (h30 : total ≤ 30) : trG T M (ps.length - ta t + 1) rest (trt T t total M ps) := by
  unfold trt
  by_cases h3 : tk t = 3
  · rw [if_pos h3]
    by_cases h4 : ta t = M (7 * tw t)
    · rw [if_pos h4]
      have h33 : tw t < 6 ∧ ta t ≤ 3 := by unfold tOk at ht; omega
      cases hc : T (tw t) with
      | none => exact adT_ok hw hp ht h3 hle htot h30 (by decide)
      | some tt =>
        obtain ⟨htt, htr⟩ := wf_trq hw h33.1 hc
        show trG T M (ps.length - ta t + 1) rest (if fth M (tw t) tt = true then _ else _)
        by_cases hf : fth M (tw t) tt = true
        · rw [if_pos hf]
          by_cases hz : rsn M (tw t) (M (42 + 7 * tt)) (ta t) total ps = 0
          · rw [if_pos hz]
            have hlen : (fl ps).length = (fl (ps.drop (ta t))).length + (fl (ps.take (ta t))).length := by rw [← List.length_append, ← fl_drop ps (ta t)]
            have hb := bn_ok (M := M) (o := tw t) hp hle (M (42 + 7 * tt)) (fun i hi => ⟨fun q => by rw [h4]; exact fth_wf hf i hi q, htr.2.2.1 i (by have := htr.1; omega)⟩)
            have hu := htr.1
            have e1 : ta (40000 + 10 * tt + M (42 + 7 * tt)) = M (42 + 7 * tt) := by unfold ta; omega
            have e2 : tOk (M 116) (40000 + 10 * tt + M (42 + 7 * tt)) := by
              have e3 : tk (40000 + 10 * tt + M (42 + 7 * tt)) = 4 := by unfold tk; omega
              have e4 : tw (40000 + 10 * tt + M (42 + 7 * tt)) = tt := by unfold tw; omega
              unfold tOk
              rw [e1, e3, e4]; omega
            refine ⟨hw, ⟨fun x hx => ?_, fun p hpm => ?_⟩, Nat.le_refl _, ?_, ?_, rsn_0 hz, rfl, rfl, Nat.le_refl _⟩
            · have hx : x ∈ fl (ps.drop (ta t)) ++ nwP M (tw t) tt (ta t) ps := hx
              rcases List.mem_append.mp hx with hx | hx
              · exact hp.1 x (fl_drp hx)
              · rcases List.mem_cons.mp hx with rfl | hx
                · exact e2
                · exact hb.2 x hx
            · rcases List.mem_cons.mp hpm with rfl | hpm
              · show need (0 + ta (40000 + 10 * tt + M (42 + 7 * tt))) (bn M (tw t) (ta t) ps (M (42 + 7 * tt)))
                rw [Nat.zero_add, e1]; exact hb.1
              · exact hp.2 p (List.mem_of_mem_drop hpm)
            · show (nwP M (tw t) tt (ta t) ps :: ps.drop (ta t)).length = _
              rw [List.length_cons, List.length_drop]
            · show (fl (ps.drop (ta t)) ++ nwP M (tw t) tt (ta t) ps).length + rest = total - (fl (ps.take (ta t))).length + szT M (tw t) (ta t) ps (M (42 + 7 * tt))
              rw [List.length_append, nwP, List.length_cons, bn_len]; omega
          · rw [if_neg hz]
            exact lv_ok hw hp ht hle htot h30 (by omega)
        · rw [if_neg hf]
          exact adT_ok hw hp ht h3 hle htot h30 (by decide)
    · rw [if_neg h4]
      exact lv_ok hw hp ht hle htot h30 (by decide)
  · rw [if_neg h3]
    obtain ⟨g1, g2, g3⟩ := put_ok hp ht hle
    exact ⟨hw, g1, Nat.le_refl _, g2, by show (fl (putP t ps)).length + rest = total; omega, h30, rfl, rfl, Nat.zero_le _⟩
end MO
def opn (T : Nat → Option Nat) : List (Nat × Nat) → mg → List (Nat × Nat) × mg
  | [], μ => ([], μ)
  | (t, l) :: cs, μ => if l = 1 then opn T cs ((trt T t μ.2.1 μ.1 μ.2.2.2).1, (trt T t μ.2.1 μ.1 μ.2.2.2).2.1, μ.2.2.1 + (trt T t μ.2.1 μ.1 μ.2.2.2).2.2.1, (trt T t μ.2.1 μ.1 μ.2.2.2).2.2.2) else ((t, l - 1) :: cs, μ)
/-- a node without arguments, and what is closed behind it -/
def stp (T : Nat → Option Nat) (t : Nat) (cs : List (Nat × Nat)) (μ : mg) : List (Nat × Nat) × mg := opn T cs ((trt T t μ.2.1 μ.1 μ.2.2.2).1, (trt T t μ.2.1 μ.1 μ.2.2.2).2.1, 0, (trt T t μ.2.1 μ.1 μ.2.2.2).2.2.2)
def mgr (T : Nat → Option Nat) : List Nat → List (Nat × Nat) → mg → mg
  | [], _, μ => μ
  | t :: p, cs, μ => if 0 < ta t then mgr T p ((t, ta t) :: cs) μ else mgr T p (stp T t cs μ).1 ((stp T t cs μ).2.1, (stp T t cs μ).2.2.1, μ.2.2.1 + (trt T t μ.2.1 μ.1 μ.2.2.2).2.2.1 + (stp T t cs μ).2.2.2.1, (stp T t cs μ).2.2.2.2)
/-- parts that belong to open calls -/
def dn : List (Nat × Nat) → Nat
  | [] => 0
  | (t, l) :: cs => ta t - l + dn cs
def csOk (m : Nat) (cs : List (Nat × Nat)) : Prop := ∀ q, q ∈ cs → tOk m q.1 ∧ 1 ≤ q.2 ∧ q.2 ≤ ta q.1
/-- expressions that are still to come -/
def pnd : List (Nat × Nat) → Nat
  | [] => 0
  | (_, l) :: cs => l - 1 + pnd cs
