/-! the start of the law's loop -/
section FI
variable {S : am_S} {d : Nat} {h h' h1 : am_H} {Q : am_Out → Prop} {σ : sg} {a b k n r l : Nat}
def M0 : Nat → Nat := fun j => if j < 84 ∧ j % 7 = 0 then 1 else if j = 148 then 1 else 0
def T0 : Nat → Option Nat := fun _ => none
def σ0 : sg := ((M0, T0), [], fun _ => 0, [])
theorem M0_le {j : Nat} : M0 j ≤ 1 := by unfold M0; split; omega; split <;> omega
theorem M0_0 {j : Nat} (h : ¬ (j < 84 ∧ j % 7 = 0)) (h2 : j ≠ 148) : M0 j = 0 := by unfold M0; rw [if_neg h, if_neg h2]
theorem M0_1 {j : Nat} (h : j < 84 ∧ j % 7 = 0) : M0 j = 1 := by unfold M0; rw [if_pos h]
theorem prog0 : prog M0 = [0] := by decide
theorem wf0 : wf M0 T0 := by
  refine ⟨fun f hf => ⟨by have := M0_le (j := 7 * f); omega, M0_le, fun j hj => by have := M0_le (j := 7 * f + 2 + j); omega⟩, fun f hf => ⟨by have := M0_le (j := 42 + 7 * f); omega, M0_le, fun j hj => by have := M0_le (j := 42 + 7 * f + 2 + j); omega⟩, ⟨by decide, fun k hk => ?_⟩, fun o ho t ht => (by cases ht), by decide, by decide, by rw [prog0]; exact trivial, fun t ht => ?_⟩
  · rw [M0_0 (by decide) (by decide)] at hk; omega
  · rw [prog0] at ht
    rw [List.mem_singleton.mp ht]
    unfold tOk tk tw ta
    omega
theorem wfs0 : wfs σ0 := ⟨wf0, fun q hq => (by cases hq), fun c hc => (by cases hc)⟩
theorem MR0 {A : Nat → Nat → Int32} (h0 : ∀ j, A 0 j = mA0 0 j) (hk : ∀ k, k ≠ 0 → A k = fun _ => 0) : MR (fun _ => nI 0) A σ0 := by
  refine ⟨⟨fun i h1 h2 => ?_, fun o ho => ?_⟩, ⟨rfl, by decide⟩, fun i q hi => by simp [σ0] at hi, fun j hj => by rw [hk 3 (by decide)]; rfl, ⟨rfl, by decide⟩, fun i c hi => by simp [σ0] at hi⟩
  · rw [h0 i]
    show mA0 0 i = nI (M0 i)
    unfold mA0 M0
    rw [if_pos rfl]
    repeat' split
    all_goals first | rfl | (exfalso; omega)
  · rw [h0]
    show mA0 0 (117 + 5 * o) = -1
    unfold mA0
    rw [if_pos rfl]
    show (if 117 + 5 * o < 84 ∧ (117 + 5 * o) % 7 = 0 then nI 1 else if 117 ≤ 117 + 5 * o ∧ 117 + 5 * o < 147 ∧ (117 + 5 * o - 117) % 5 = 0 then -1 else if 117 + 5 * o = 148 then nI 1 else 0) = (-1 : Int32)
    rw [if_neg (by omega), if_pos (by omega)]
theorem z4_0 : ∀ j, j < 4 → z4 j = nI 0 := by
  intro j hj
  unfold z4
  simp only [upd_ap]
  repeat' split
  all_goals first | rfl | omega
theorem cm_l : cmH.length = 70 := rfl
theorem cm_at {c : am_C} (ha : a < 70) (hc : cmH[a]? = some c) : (cmH ++ moZ)[a]? = some c := by
  rw [List.getElem?_append_left (by rw [cm_l]; exact ha)]; exact hc
theorem SH0 {b : Nat} (hb : b = 1 ∨ b = 17 ∨ b = 30 ∨ b = 43 ∨ b = 56) : SH (cmH ++ moZ) b 0 0 (fun i => if 0 ≤ i ∧ i < 6 then some (b + 9) else none, fun i => if 0 ≤ i ∧ i < 6 then some (b + 11) else none, fun _ => none, fun i => if 0 ≤ i ∧ i < 6 then -1 else 0, fun _ => none, b + 6, fun _ => 0) := by
  rcases hb with rfl | rfl | rfl | rfl | rfl
  all_goals exact ⟨cm_at (by decide) rfl, cm_at (by decide) rfl, cm_at (by decide) rfl, cm_at (by decide) rfl, cm_at (by decide) rfl, cm_at (by decide) rfl, cm_at (by decide) rfl⟩
theorem imm_L {a : Nat} (h : a ∈ imL) : imm a := Or.inr h
theorem CR0 : CR imm (cmH ++ moZ) σ0 := by
  refine ⟨fun i => 17 + 13 * i, fun _ => 0, fun _ => 0, ⟨cm_at (by decide) rfl, ?_, cm_at (by decide) rfl, cm_at (by decide) rfl, ⟨nI 0, nI 0, cm_at (by decide) rfl⟩, by rw [List.length_append, cm_l]; decide, by decide, by decide⟩, ⟨fun i hi => by show 17 + 13 * i = 17 ∨ 17 + 13 * i = 30 ∨ 17 + 13 * i = 43 ∨ 17 + 13 * i = 56; omega, fun i j hi hj => by show 17 + 13 * i ≠ 17 + 13 * j; omega⟩, ⟨_, SH0 (Or.inl rfl), ?_⟩, fun i hi => ⟨0, 0, _, SH0 (b := 17 + 13 * i) (by omega)⟩, fun i q hi => by simp [σ0] at hi, fun i c hi => by simp [σ0] at hi, fun j hj => rfl⟩
  · have e : (cmH ++ moZ)[14]? = some (.inr (.inl (3, 4, va_up (va_up (va_up (va_up (fun _ => none) 0 (some 17)) 1 (some 30)) 2 (some 43)) 3 (some 56)))) := cm_at (by decide) rfl
    rw [e]
    have e2 : va_up (va_up (va_up (va_up (fun _ => none) 0 (some 17)) 1 (some 30)) 2 (some 43)) 3 (some 56) = fun i => if i < 4 then some (17 + 13 * i) else none := by
      funext i
      unfold va_up
      by_cases h3 : i = 3
      · subst h3; rfl
      · by_cases h2 : i = 2
        · subst h2; rfl
        · by_cases h1 : i = 1
          · subst h1; rfl
          · by_cases h0 : i = 0
            · subst h0; rfl
            · rw [if_neg h3, if_neg h2, if_neg h1, if_neg h0, if_neg (by omega)]
    rw [e2]
  · have f10 : (cmH ++ moZ)[10]? = some (.inr (.inr (3, [.int (nI 1), .int (nI 0), .int (nI 0), .ref 11]))) := cm_at (by decide) rfl
    have f11 : (cmH ++ moZ)[11]? = some (.inl (0, 4, z4)) := cm_at (by decide) rfl
    have f12 : (cmH ++ moZ)[12]? = some (.inr (.inr (3, [.int (nI 1), .int (nI 0), .int (nI 0), .ref 13]))) := cm_at (by decide) rfl
    have f13 : (cmH ++ moZ)[13]? = some (.inl (0, 4, z4)) := cm_at (by decide) rfl
    have f7 : (cmH ++ moZ)[7]? = some (.inr (.inr (2, [.int (nI 0), .int (nI 0), .ref 8, .int (nI 1)]))) := cm_at (by decide) rfl
    have f8 : (cmH ++ moZ)[8]? = some (.inr (.inl (2, 0, fun _ => none))) := cm_at (by decide) rfl
    refine ⟨fun f hf => ⟨10, if_pos (by omega), ⟨imm_L (by decide), 11, z4, imm_L (by decide), ?_, f11, fun j hj => ?_⟩⟩, fun f hf => ⟨12, if_pos (by omega), ⟨imm_L (by decide), 13, z4, imm_L (by decide), ?_, f13, fun j hj => ?_⟩⟩, fun k hk => ?_, fun f hf => ?_, fun f hf => ⟨fun _ => rfl, fun t ht => by cases ht⟩, ?_, fun k hk => ?_⟩
    · show _ = some (Sum.inr (Sum.inr (3, [Value.int (nI (M0 (7 * f))), .int (nI (M0 (7 * f + 1))), .int (nI (M0 (7 * f + 2))), .ref 11])))
      rw [M0_1 (by omega), M0_0 (by omega) (by omega), M0_0 (by omega) (by omega)]; exact f10
    · show z4 j = nI (M0 (7 * f + 2 + 1 + j))
      rw [z4_0 j hj, M0_0 (by omega) (by omega)]
    · show _ = some (Sum.inr (Sum.inr (3, [Value.int (nI (M0 (42 + 7 * f))), .int (nI (M0 (42 + 7 * f + 1))), .int (nI (M0 (42 + 7 * f + 2))), .ref 13])))
      rw [M0_1 (by omega), M0_0 (by omega) (by omega), M0_0 (by omega) (by omega)]; exact f12
    · show z4 j = nI (M0 (42 + 7 * f + 2 + 1 + j))
      rw [z4_0 j hj, M0_0 (by omega) (by omega)]
    · have hk : k < M0 116 := hk
      rw [M0_0 (by decide) (by decide)] at hk; omega
    · show (if 0 ≤ f ∧ f < 6 then (-1 : Int32) else 0) = tI (adp M0 f (M0 116))
      rw [if_pos (by omega), M0_0 (j := 116) (by decide) (by decide)]; rfl
    · show isT imm 31 _ 7 (prog M0)
      rw [prog0]
      exact ⟨0, 8, fun _ => none, [], imm_L (by decide), imm_L (by decide), rfl, rfl, f7, f8, fun i q hq => by simp at hq⟩
    · show (0 : Int32) = nI (M0 (179 + k))
      rw [M0_0 (by omega) (by omega)]; rfl
theorem wt0 : wt (cmH ++ moZ) ≤ 4000 := by decide
theorem LI0 {A : Nat → Nat → Int32} (h0 : ∀ j, A 0 j = mA0 0 j) (hk : ∀ k, k ≠ 0 → A k = fun _ => 0) : LI (cmH ++ moZ) (fun _ => nI 0) A σ0 4000 := by
  refine ⟨by rw [List.length_append, cm_l]; decide, CR_mst (I := fun _ => nI 0) (A := fun _ _ => 0) (by rw [mst_new cm_l]; exact CR0), MR0 h0 hk, wfs0, ?_⟩
  rw [wt_mst (I := fun _ => nI 0) (A := fun _ _ => 0), mst_new cm_l]
  exact wt0
theorem law_all (hS : S.1 ≤ 256) (hQ : ∀ h', wt h' ≤ 132000 → Q (.inl (some (.int (nI 1))), h')) : wp S (d + 100) 180 0 [some (.retAddr 0), none, none, none] [] [] Q := by
  simp (discharger := first | omega | (simp only [List.length_append, List.length_set, List.length_cons, List.length_nil]; done) | (simp only [List.length_append, List.length_set, List.length_cons, List.length_nil]; omega)) only [e180_0, e180_3, e180_3i, e180_4, eq_self, am_kr_s, am_kr_n, w8_nil, w8_c, w8_a, w8_0, ct_i, ct_r, ct_n, ct_k, ct_l, true_and, and_true, ↓reduceIte, Nat.reduceAdd, Nat.reduceMul, Nat.reduceSub, Nat.reduceLeDiff, Nat.reduceLT, Nat.reduceDiv, Nat.reduceMod, Nat.reduceEqDiff, ne_eq, not_false_eq_true, not_true_eq_false, reduceCtorEq, n_rem, d_le_t, d_le_f, d_lt_t, d_lt_f, d_eq_t, d_eq_f, d_eq0_t, d_eq0_f, d_gt0_t, d_gt0_f, d_le0_t, d_le0_f, i_lt0, i_ge0, i_ne1, am_in_t, i_div, i_rem, nI_add, nI_mul, nI_sub, nI_m1, nI_clamp, fk0_0_0r, fk0_0_0n, fk0_0_0k, fk0_0_1r, fk0_0_1n, fk0_0_1k, fk0_0_3r, fk0_0_3n, fk0_0_3k, fk0_0_5r, fk0_0_5n, fk0_0_5k, fk0_0_6r, fk0_0_6n, fk0_0_6k, fk6_0_2i, fk19_1_6i, fk21_0_4i, fk22_0_4i, fk23_1_7r, fk23_1_7n, fk23_1_7k, fk24_1_7r, fk24_1_7n, fk24_1_7k, fk31_0_2i, fk36_1_0r, fk36_1_0n, fk36_1_0k, fk36_1_1r, fk36_1_1n, fk36_1_1k, fk36_1_2r, fk36_1_2n, fk36_1_2k, fk36_1_4r, fk36_1_4n, fk36_1_4k, fk36_1_5r, fk36_1_5n, fk36_1_5k, fk36_1_7r, fk36_1_7n, fk36_1_7k, fk36_1_8r, fk36_1_8n, fk36_1_8k, fk37_1_3i, fk37_1_6i, fk37_1_7r, fk37_1_7n, fk37_1_7k, fk42_2_0i, fk42_2_1i, fk42_2_2r, fk42_2_2n, fk42_2_2k, fk42_2_3i, fk46_3_0i, fk46_3_1i, fk46_3_2i, fk46_3_3r, fk46_3_3n, fk46_3_3k, fk50_4_2r, fk50_4_2n, fk50_4_2k, fk51_4_0i, fk51_4_1i, fk52_4_0i, fk52_4_1i, fk54_4_0i, fk56_4_0i, fk57_4_0i, fk58_5_0r, fk58_5_0n, fk58_5_0k, fk58_5_1r, fk58_5_1n, fk58_5_1k, fk58_5_3r, fk58_5_3n, fk58_5_3k, fk58_5_4r, fk58_5_4n, fk58_5_4k, fk58_5_6r, fk58_5_6n, fk58_5_6k, fk58_5_8r, fk58_5_8n, fk58_5_8k, fk58_5_11r, fk58_5_11n, fk58_5_11k, fk58_5_13r, fk58_5_13n, fk58_5_13k, fk58_5_15r, fk58_5_15n, fk58_5_15k, fk58_5_16r, fk58_5_16n, fk58_5_16k, fk58_5_17r, fk58_5_17n, fk58_5_17k, fk58_5_20r, fk58_5_20n, fk58_5_20k, fk58_5_21r, fk58_5_21n, fk58_5_21k, fk63_5_2i, fk83_5_5i, fk84_5_5i, fk85_5_7i, fk85_5_9i, fk85_5_10i, fk86_5_7i, fk86_5_9i, fk86_5_10i, fk94_5_9i, fk94_5_10i, fk95_5_12i, fk95_5_14i, fk95_5_18i, fk95_5_19i, fk99_5_12i, fk99_5_14i, fk107_5_12i, fk107_5_14i, fk107_5_19i, fk108_5_18i, fk115_5_9i, fk115_5_22i, fk117_5_22i, fk118_5_9i, fk119_5_2i, fk123_6_0i, fk123_6_1r, fk123_6_1n, fk123_6_1k, fk129_7_6i, fk130_8_0i, fk130_8_2r, fk130_8_2n, fk130_8_2k, fk132_8_0i, fk132_8_1i, fk134_1_3i, fk134_8_1i, fk140_7_0r, fk140_7_0n, fk140_7_0k, fk140_7_1r, fk140_7_1n, fk140_7_1k, fk140_7_2r, fk140_7_2n, fk140_7_2k, fk141_7_0r, fk141_7_0n, fk141_7_0k, fk141_7_1r, fk141_7_1n, fk141_7_1k, fk141_7_2r, fk141_7_2n, fk141_7_2k, fk141_7_3r, fk141_7_3n, fk141_7_3k, fk143_9_0r, fk143_9_0n, fk143_9_0k, fk143_9_1b, fk143_9_1c, fk144_9_3i, fk145_9_0r, fk145_9_0n, fk145_9_0k, fk148_9_3i, fk149_9_0r, fk149_9_0n, fk149_9_0k, fk149_9_1b, fk149_9_1c, fk150_9_3i, fk151_9_3i, am_clK, am_ccK, am_gfK, am_pfK, am_iaK, am_isK, am_aaK, am_asK, am_alK, am_isC, am_rf, am_rc, decide_eq_true_eq, decide_true, List.getElem?_cons_zero, List.getElem?_cons_succ, List.length_cons, List.length_nil, List.length_set, List.length_append, List.set_cons_zero, List.set_cons_succ, g_sn, g_se, g_al, g_an, g_aq, s_al, s_an, s_aq, s_s, rv0_4, rv1_2, rv2_2, rv5_2, rv6_2, rv7_2, rv8_2, rv9_2, rv10_2, rv11_2, rv12_2, rv13_2, rv14_2, rv15_2, rv17_2, rv18_2, rv19_2, rv20_2, rv21_2, rv22_2, rv23_7, rv24_2, rv25_2, rv26_2, rv27_2, rv28_2, rv29_2, rv30_2, rv31_2, rv32_2, rv33_2, rv36_5, rv37_2, rv38_2, rv39_2, rv40_2, rv41_2, rv42_4, rv43_2, rv44_2, rv45_4, rv46_4, rv47_2, rv48_2, rv49_2, rv50_5, rv51_2, rv52_2, rv53_2, rv54_2, rv55_2, rv56_2, rv57_2, rv122_4, rv123_4, rv124_2, rv125_2, rv126_2, rv127_2, rv128_2, rv129_4, rv130_5, rv131_2, rv132_2, rv133_2, rv134_2, rv135_2, rv136_2, dft0, dft5, dft1, dft2, dft3, dft4, dft6, dft7, dft8, dft9, c0_i]
  have l70 : ∀ c : am_C, (cmH ++ [c])[70]? = some c := fun c => g_aq cm_l.symm
  simp (discharger := first | omega | (simp only [List.length_append, List.length_set, List.length_cons, List.length_nil]; done) | (simp only [List.length_append, List.length_set, List.length_cons, List.length_nil]; omega)) only [e180_7, e180_8, e180_11, e180_11i, e180_12, eq_self, am_kr_s, am_kr_n, w8_nil, w8_c, w8_a, w8_0, ct_i, ct_r, ct_n, ct_k, ct_l, true_and, and_true, ↓reduceIte, Nat.reduceAdd, Nat.reduceMul, Nat.reduceSub, Nat.reduceLeDiff, Nat.reduceLT, Nat.reduceDiv, Nat.reduceMod, Nat.reduceEqDiff, ne_eq, not_false_eq_true, not_true_eq_false, reduceCtorEq, n_rem, d_le_t, d_le_f, d_lt_t, d_lt_f, d_eq_t, d_eq_f, d_eq0_t, d_eq0_f, d_gt0_t, d_gt0_f, d_le0_t, d_le0_f, i_lt0, i_ge0, i_ne1, am_in_t, i_div, i_rem, nI_add, nI_mul, nI_sub, nI_m1, nI_clamp, fk0_0_0r, fk0_0_0n, fk0_0_0k, fk0_0_1r, fk0_0_1n, fk0_0_1k, fk0_0_3r, fk0_0_3n, fk0_0_3k, fk0_0_5r, fk0_0_5n, fk0_0_5k, fk0_0_6r, fk0_0_6n, fk0_0_6k, fk6_0_2i, fk19_1_6i, fk21_0_4i, fk22_0_4i, fk23_1_7r, fk23_1_7n, fk23_1_7k, fk24_1_7r, fk24_1_7n, fk24_1_7k, fk31_0_2i, fk36_1_0r, fk36_1_0n, fk36_1_0k, fk36_1_1r, fk36_1_1n, fk36_1_1k, fk36_1_2r, fk36_1_2n, fk36_1_2k, fk36_1_4r, fk36_1_4n, fk36_1_4k, fk36_1_5r, fk36_1_5n, fk36_1_5k, fk36_1_7r, fk36_1_7n, fk36_1_7k, fk36_1_8r, fk36_1_8n, fk36_1_8k, fk37_1_3i, fk37_1_6i, fk37_1_7r, fk37_1_7n, fk37_1_7k, fk42_2_0i, fk42_2_1i, fk42_2_2r, fk42_2_2n, fk42_2_2k, fk42_2_3i, fk46_3_0i, fk46_3_1i, fk46_3_2i, fk46_3_3r, fk46_3_3n, fk46_3_3k, fk50_4_2r, fk50_4_2n, fk50_4_2k, fk51_4_0i, fk51_4_1i, fk52_4_0i, fk52_4_1i, fk54_4_0i, fk56_4_0i, fk57_4_0i, fk58_5_0r, fk58_5_0n, fk58_5_0k, fk58_5_1r, fk58_5_1n, fk58_5_1k, fk58_5_3r, fk58_5_3n, fk58_5_3k, fk58_5_4r, fk58_5_4n, fk58_5_4k, fk58_5_6r, fk58_5_6n, fk58_5_6k, fk58_5_8r, fk58_5_8n, fk58_5_8k, fk58_5_11r, fk58_5_11n, fk58_5_11k, fk58_5_13r, fk58_5_13n, fk58_5_13k, fk58_5_15r, fk58_5_15n, fk58_5_15k, fk58_5_16r, fk58_5_16n, fk58_5_16k, fk58_5_17r, fk58_5_17n, fk58_5_17k, fk58_5_20r, fk58_5_20n, fk58_5_20k, fk58_5_21r, fk58_5_21n, fk58_5_21k, fk63_5_2i, fk83_5_5i, fk84_5_5i, fk85_5_7i, fk85_5_9i, fk85_5_10i, fk86_5_7i, fk86_5_9i, fk86_5_10i, fk94_5_9i, fk94_5_10i, fk95_5_12i, fk95_5_14i, fk95_5_18i, fk95_5_19i, fk99_5_12i, fk99_5_14i, fk107_5_12i, fk107_5_14i, fk107_5_19i, fk108_5_18i, fk115_5_9i, fk115_5_22i, fk117_5_22i, fk118_5_9i, fk119_5_2i, fk123_6_0i, fk123_6_1r, fk123_6_1n, fk123_6_1k, fk129_7_6i, fk130_8_0i, fk130_8_2r, fk130_8_2n, fk130_8_2k, fk132_8_0i, fk132_8_1i, fk134_1_3i, fk134_8_1i, fk140_7_0r, fk140_7_0n, fk140_7_0k, fk140_7_1r, fk140_7_1n, fk140_7_1k, fk140_7_2r, fk140_7_2n, fk140_7_2k, fk141_7_0r, fk141_7_0n, fk141_7_0k, fk141_7_1r, fk141_7_1n, fk141_7_1k, fk141_7_2r, fk141_7_2n, fk141_7_2k, fk141_7_3r, fk141_7_3n, fk141_7_3k, fk143_9_0r, fk143_9_0n, fk143_9_0k, fk143_9_1b, fk143_9_1c, fk144_9_3i, fk145_9_0r, fk145_9_0n, fk145_9_0k, fk148_9_3i, fk149_9_0r, fk149_9_0n, fk149_9_0k, fk149_9_1b, fk149_9_1c, fk150_9_3i, fk151_9_3i, am_clK, am_ccK, am_gfK, am_pfK, am_iaK, am_isK, am_aaK, am_asK, am_alK, am_isC, am_rf, am_rc, decide_eq_true_eq, decide_true, List.getElem?_cons_zero, List.getElem?_cons_succ, List.length_cons, List.length_nil, List.length_set, List.length_append, List.set_cons_zero, List.set_cons_succ, g_sn, g_se, g_al, g_an, g_aq, s_al, s_an, s_aq, s_s, rv0_4, rv1_2, rv2_2, rv5_2, rv6_2, rv7_2, rv8_2, rv9_2, rv10_2, rv11_2, rv12_2, rv13_2, rv14_2, rv15_2, rv17_2, rv18_2, rv19_2, rv20_2, rv21_2, rv22_2, rv23_7, rv24_2, rv25_2, rv26_2, rv27_2, rv28_2, rv29_2, rv30_2, rv31_2, rv32_2, rv33_2, rv36_5, rv37_2, rv38_2, rv39_2, rv40_2, rv41_2, rv42_4, rv43_2, rv44_2, rv45_4, rv46_4, rv47_2, rv48_2, rv49_2, rv50_5, rv51_2, rv52_2, rv53_2, rv54_2, rv55_2, rv56_2, rv57_2, rv122_4, rv123_4, rv124_2, rv125_2, rv126_2, rv127_2, rv128_2, rv129_4, rv130_5, rv131_2, rv132_2, rv133_2, rv134_2, rv135_2, rv136_2, dft0, dft5, dft1, dft2, dft3, dft4, dft6, dft7, dft8, dft9, rv58_4, am_kr_n, cm_l]
  refine m58 cm_l (fun A hA0 hAk => ?_)
  simp (discharger := first | omega | (simp only [List.length_append, List.length_set, List.length_cons, List.length_nil]; done) | (simp only [List.length_append, List.length_set, List.length_cons, List.length_nil]; omega)) only [e180_15, e180_16, e180_17, eq_self, am_kr_s, am_kr_n, w8_nil, w8_c, w8_a, w8_0, ct_i, ct_r, ct_n, ct_k, ct_l, true_and, and_true, ↓reduceIte, Nat.reduceAdd, Nat.reduceMul, Nat.reduceSub, Nat.reduceLeDiff, Nat.reduceLT, Nat.reduceDiv, Nat.reduceMod, Nat.reduceEqDiff, ne_eq, not_false_eq_true, not_true_eq_false, reduceCtorEq, n_rem, d_le_t, d_le_f, d_lt_t, d_lt_f, d_eq_t, d_eq_f, d_eq0_t, d_eq0_f, d_gt0_t, d_gt0_f, d_le0_t, d_le0_f, i_lt0, i_ge0, i_ne1, am_in_t, i_div, i_rem, nI_add, nI_mul, nI_sub, nI_m1, nI_clamp, fk0_0_0r, fk0_0_0n, fk0_0_0k, fk0_0_1r, fk0_0_1n, fk0_0_1k, fk0_0_3r, fk0_0_3n, fk0_0_3k, fk0_0_5r, fk0_0_5n, fk0_0_5k, fk0_0_6r, fk0_0_6n, fk0_0_6k, fk6_0_2i, fk19_1_6i, fk21_0_4i, fk22_0_4i, fk23_1_7r, fk23_1_7n, fk23_1_7k, fk24_1_7r, fk24_1_7n, fk24_1_7k, fk31_0_2i, fk36_1_0r, fk36_1_0n, fk36_1_0k, fk36_1_1r, fk36_1_1n, fk36_1_1k, fk36_1_2r, fk36_1_2n, fk36_1_2k, fk36_1_4r, fk36_1_4n, fk36_1_4k, fk36_1_5r, fk36_1_5n, fk36_1_5k, fk36_1_7r, fk36_1_7n, fk36_1_7k, fk36_1_8r, fk36_1_8n, fk36_1_8k, fk37_1_3i, fk37_1_6i, fk37_1_7r, fk37_1_7n, fk37_1_7k, fk42_2_0i, fk42_2_1i, fk42_2_2r, fk42_2_2n, fk42_2_2k, fk42_2_3i, fk46_3_0i, fk46_3_1i, fk46_3_2i, fk46_3_3r, fk46_3_3n, fk46_3_3k, fk50_4_2r, fk50_4_2n, fk50_4_2k, fk51_4_0i, fk51_4_1i, fk52_4_0i, fk52_4_1i, fk54_4_0i, fk56_4_0i, fk57_4_0i, fk58_5_0r, fk58_5_0n, fk58_5_0k, fk58_5_1r, fk58_5_1n, fk58_5_1k, fk58_5_3r, fk58_5_3n, fk58_5_3k, fk58_5_4r, fk58_5_4n, fk58_5_4k, fk58_5_6r, fk58_5_6n, fk58_5_6k, fk58_5_8r, fk58_5_8n, fk58_5_8k, fk58_5_11r, fk58_5_11n, fk58_5_11k, fk58_5_13r, fk58_5_13n, fk58_5_13k, fk58_5_15r, fk58_5_15n, fk58_5_15k, fk58_5_16r, fk58_5_16n, fk58_5_16k, fk58_5_17r, fk58_5_17n, fk58_5_17k, fk58_5_20r, fk58_5_20n, fk58_5_20k, fk58_5_21r, fk58_5_21n, fk58_5_21k, fk63_5_2i, fk83_5_5i, fk84_5_5i, fk85_5_7i, fk85_5_9i, fk85_5_10i, fk86_5_7i, fk86_5_9i, fk86_5_10i, fk94_5_9i, fk94_5_10i, fk95_5_12i, fk95_5_14i, fk95_5_18i, fk95_5_19i, fk99_5_12i, fk99_5_14i, fk107_5_12i, fk107_5_14i, fk107_5_19i, fk108_5_18i, fk115_5_9i, fk115_5_22i, fk117_5_22i, fk118_5_9i, fk119_5_2i, fk123_6_0i, fk123_6_1r, fk123_6_1n, fk123_6_1k, fk129_7_6i, fk130_8_0i, fk130_8_2r, fk130_8_2n, fk130_8_2k, fk132_8_0i, fk132_8_1i, fk134_1_3i, fk134_8_1i, fk140_7_0r, fk140_7_0n, fk140_7_0k, fk140_7_1r, fk140_7_1n, fk140_7_1k, fk140_7_2r, fk140_7_2n, fk140_7_2k, fk141_7_0r, fk141_7_0n, fk141_7_0k, fk141_7_1r, fk141_7_1n, fk141_7_1k, fk141_7_2r, fk141_7_2n, fk141_7_2k, fk141_7_3r, fk141_7_3n, fk141_7_3k, fk143_9_0r, fk143_9_0n, fk143_9_0k, fk143_9_1b, fk143_9_1c, fk144_9_3i, fk145_9_0r, fk145_9_0n, fk145_9_0k, fk148_9_3i, fk149_9_0r, fk149_9_0n, fk149_9_0k, fk149_9_1b, fk149_9_1c, fk150_9_3i, fk151_9_3i, am_clK, am_ccK, am_gfK, am_pfK, am_iaK, am_isK, am_aaK, am_asK, am_alK, am_isC, am_rf, am_rc, decide_eq_true_eq, decide_true, List.getElem?_cons_zero, List.getElem?_cons_succ, List.length_cons, List.length_nil, List.length_set, List.length_append, List.set_cons_zero, List.set_cons_succ, g_sn, g_se, g_al, g_an, g_aq, s_al, s_an, s_aq, s_s, rv0_4, rv1_2, rv2_2, rv5_2, rv6_2, rv7_2, rv8_2, rv9_2, rv10_2, rv11_2, rv12_2, rv13_2, rv14_2, rv15_2, rv17_2, rv18_2, rv19_2, rv20_2, rv21_2, rv22_2, rv23_7, rv24_2, rv25_2, rv26_2, rv27_2, rv28_2, rv29_2, rv30_2, rv31_2, rv32_2, rv33_2, rv36_5, rv37_2, rv38_2, rv39_2, rv40_2, rv41_2, rv42_4, rv43_2, rv44_2, rv45_4, rv46_4, rv47_2, rv48_2, rv49_2, rv50_5, rv51_2, rv52_2, rv53_2, rv54_2, rv55_2, rv56_2, rv57_2, rv122_4, rv123_4, rv124_2, rv125_2, rv126_2, rv127_2, rv128_2, rv129_4, rv130_5, rv131_2, rv132_2, rv133_2, rv134_2, rv135_2, rv136_2, dft0, dft5, dft1, dft2, dft3, dft4, dft6, dft7, dft8, dft9, am_kr_n]
  exact law_loop hS 64 0 (cmH ++ moZ) (fun _ => nI 0) A σ0 4000 (by omega) (by decide) (LI0 hA0 hAk) (fun h' hw => hQ h' (by omega))
end FI
