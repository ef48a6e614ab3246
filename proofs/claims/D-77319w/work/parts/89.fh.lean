/-! the model is made -/
section FH
variable {S : am_S} {d : Nat} {h h' h1 : am_H} {Q : am_Out → Prop} {σ : sg} {a b k n r l : Nat}
/-- the new model's cells, ahead of what its constructor writes -/
def moZ : List am_C := [mo_o (fun _ => nI 0), .inl (0, 186, fun _ => 0), .inl (0, 744, fun _ => 0), .inl (0, 4, fun _ => 0), .inl (0, 120, fun _ => 0), .inl (0, 30, fun _ => 0), .inl (0, 30, fun _ => 0), .inl (0, 30, fun _ => 0), .inl (0, 31, fun _ => 0), .inl (0, 30, fun _ => 0), .inl (0, 30, fun _ => 0), .inl (0, 30, fun _ => 0), .inl (0, 30, fun _ => 0), .inl (0, 200, fun _ => 0)]
theorem mst_new (hl : h.length = 70) : mst (h ++ moZ) (fun _ => nI 0) (fun _ _ => 0) = h ++ moZ := by
  refine (mst_ext rfl (fun a c c' hc hc' => ?_)).symm
  rw [hc] at hc'
  cases hc'
  by_cases ha : 70 ≤ a ∧ a ≤ 83
  · rw [List.getElem?_append_right (by omega), hl] at hc
    have h14 : a = 70 ∨ a = 71 ∨ a = 72 ∨ a = 73 ∨ a = 74 ∨ a = 75 ∨ a = 76 ∨ a = 77 ∨ a = 78 ∨ a = 79 ∨ a = 80 ∨ a = 81 ∨ a = 82 ∨ a = 83 := by omega
    rcases h14 with rfl | rfl | rfl | rfl | rfl | rfl | rfl | rfl | rfl | rfl | rfl | rfl | rfl | rfl <;> (cases hc; rfl)
  · rw [mo_c_out (by omega)]
/-- the model's array at first -/
def mA0 : Nat → Nat → Int32 := fun k => if k = 0 then (fun j => if j < 84 ∧ j % 7 = 0 then nI 1 else if 117 ≤ j ∧ j < 147 ∧ (j - 117) % 5 = 0 then -1 else if j = 148 then nI 1 else 0) else fun _ => 0
theorem m58_a (hl : 84 ≤ h.length) {I : Nat → Int32} : ∀ n k A, k + n = 12 → wp S d 58 112 [some (.ref 70), some (.int (nI k))] [] (mst h I A) Q = wp S d 58 134 [some (.ref 70), some (.int (nI 12))] [] (mst h I (seA A 0 (fun j => if 7 * k ≤ j ∧ j < 84 ∧ j % 7 = 0 then nI 1 else A 0 j))) Q := by
  intro n
  induction n with
  | zero =>
    intro k A hk
    have hk : k = 12 := by omega
    subst hk
    rw [seA_id (fun i => if_neg (by omega))]
    simp (discharger := omega) only [e58_112, e58_113, e58_115, mg_0, mg_1, mg_2, mg_3, mg_4, mg_5, mg_6, mg_7, mg_8, mg_9, mg_10, mg_11, mg_12, mg_13, mg_14, mg_15, mg_16, mg_17, mg_18, mg_19, mg_20, mg_21, mg_22, mp_2, mp_5, mp_7, mp_9, mp_10, mp_12, mp_14, mp_18, mp_19, mp_22, ml_0, ml_1, ml_3, ml_4, ml_6, ml_8, ml_11, ml_13, ml_15, ml_16, ml_17, ml_20, ml_21, ms_0, ms_1, ms_3, ms_4, ms_6, ms_8, ms_11, ms_13, ms_15, ms_16, ms_17, ms_20, ms_21, upm_s, upm_n, pk_us, pk_un, upd_up, seA_s, seA_n, svA_n, svI_n, n_rem, d_le_t, d_le_f, d_lt_t, d_lt_f, d_eq_t, d_eq_f, d_eq0_t, d_eq0_f, d_gt0_t, d_gt0_f, d_le0_t, d_le0_f, i_lt0, i_ge0, i_ne1, am_in_t, i_div, i_rem, nI_add, nI_mul, nI_sub, nI_m1, nI_clamp, eq_self, am_kr_s, am_kr_n, w8_nil, w8_c, w8_a, w8_0, ct_i, ct_r, ct_n, ct_k, ct_l, true_and, and_true, ↓reduceIte, Nat.reduceAdd, Nat.reduceMul, Nat.reduceSub, Nat.reduceLeDiff, Nat.reduceLT, Nat.reduceDiv, Nat.reduceMod, Nat.reduceEqDiff, ne_eq, not_false_eq_true, not_true_eq_false, reduceCtorEq]
  | succ n ih =>
    intro k A hk
    rw [e58_112]
    simp (discharger := omega) only [e58_113, e58_115, e58_118, e58_119, e58_122, e58_124, e58_125, e58_126, e58_127, e58_128, e58_131, mg_0, mg_1, mg_2, mg_3, mg_4, mg_5, mg_6, mg_7, mg_8, mg_9, mg_10, mg_11, mg_12, mg_13, mg_14, mg_15, mg_16, mg_17, mg_18, mg_19, mg_20, mg_21, mg_22, mp_2, mp_5, mp_7, mp_9, mp_10, mp_12, mp_14, mp_18, mp_19, mp_22, ml_0, ml_1, ml_3, ml_4, ml_6, ml_8, ml_11, ml_13, ml_15, ml_16, ml_17, ml_20, ml_21, ms_0, ms_1, ms_3, ms_4, ms_6, ms_8, ms_11, ms_13, ms_15, ms_16, ms_17, ms_20, ms_21, upm_s, upm_n, pk_us, pk_un, upd_up, seA_s, seA_n, svA_n, svI_n, n_rem, d_le_t, d_le_f, d_lt_t, d_lt_f, d_eq_t, d_eq_f, d_eq0_t, d_eq0_f, d_gt0_t, d_gt0_f, d_le0_t, d_le0_f, i_lt0, i_ge0, i_ne1, am_in_t, i_div, i_rem, nI_add, nI_mul, nI_sub, nI_m1, nI_clamp, eq_self, am_kr_s, am_kr_n, w8_nil, w8_c, w8_a, w8_0, ct_i, ct_r, ct_n, ct_k, ct_l, true_and, and_true, ↓reduceIte, Nat.reduceAdd, Nat.reduceMul, Nat.reduceSub, Nat.reduceLeDiff, Nat.reduceLT, Nat.reduceDiv, Nat.reduceMod, Nat.reduceEqDiff, ne_eq, not_false_eq_true, not_true_eq_false, reduceCtorEq]
    rw [ih (k + 1) _ (by omega)]
    rw [seA_up (f := fun j => if 7 * k ≤ j ∧ j < 84 ∧ j % 7 = 0 then nI 1 else A 0 j) (fun j => ?_)]
    rw [upm_s, upd_ap]
    by_cases q : j = 7 * k
    · rw [if_neg (by omega), if_pos q, if_pos (by omega)]
    · by_cases q2 : 7 * (k + 1) ≤ j ∧ j < 84 ∧ j % 7 = 0
      · rw [if_pos q2, if_pos (by omega)]
      · rw [if_neg q2, if_neg q, if_neg (by omega)]
theorem m58_b (hl : 84 ≤ h.length) {I : Nat → Int32} : ∀ n k A, k + n = 6 → wp S d 58 136 [some (.ref 70), some (.int (nI k))] [] (mst h I A) Q = wp S d 58 160 [some (.ref 70), some (.int (nI 6))] [] (mst h I (seA A 0 (fun j => if 117 + 5 * k ≤ j ∧ j < 147 ∧ (j - 117) % 5 = 0 then -1 else A 0 j))) Q := by
  intro n
  induction n with
  | zero =>
    intro k A hk
    have hk : k = 6 := by omega
    subst hk
    rw [seA_id (fun i => if_neg (by omega))]
    simp (discharger := omega) only [e58_136, e58_137, e58_139, mg_0, mg_1, mg_2, mg_3, mg_4, mg_5, mg_6, mg_7, mg_8, mg_9, mg_10, mg_11, mg_12, mg_13, mg_14, mg_15, mg_16, mg_17, mg_18, mg_19, mg_20, mg_21, mg_22, mp_2, mp_5, mp_7, mp_9, mp_10, mp_12, mp_14, mp_18, mp_19, mp_22, ml_0, ml_1, ml_3, ml_4, ml_6, ml_8, ml_11, ml_13, ml_15, ml_16, ml_17, ml_20, ml_21, ms_0, ms_1, ms_3, ms_4, ms_6, ms_8, ms_11, ms_13, ms_15, ms_16, ms_17, ms_20, ms_21, upm_s, upm_n, pk_us, pk_un, upd_up, seA_s, seA_n, svA_n, svI_n, n_rem, d_le_t, d_le_f, d_lt_t, d_lt_f, d_eq_t, d_eq_f, d_eq0_t, d_eq0_f, d_gt0_t, d_gt0_f, d_le0_t, d_le0_f, i_lt0, i_ge0, i_ne1, am_in_t, i_div, i_rem, nI_add, nI_mul, nI_sub, nI_m1, nI_clamp, eq_self, am_kr_s, am_kr_n, w8_nil, w8_c, w8_a, w8_0, ct_i, ct_r, ct_n, ct_k, ct_l, true_and, and_true, ↓reduceIte, Nat.reduceAdd, Nat.reduceMul, Nat.reduceSub, Nat.reduceLeDiff, Nat.reduceLT, Nat.reduceDiv, Nat.reduceMod, Nat.reduceEqDiff, ne_eq, not_false_eq_true, not_true_eq_false, reduceCtorEq]
  | succ n ih =>
    intro k A hk
    rw [e58_136]
    simp (discharger := omega) only [e58_137, e58_139, e58_142, e58_143, e58_146, e58_148, e58_149, e58_150, e58_151, e58_152, e58_153, e58_154, e58_157, mg_0, mg_1, mg_2, mg_3, mg_4, mg_5, mg_6, mg_7, mg_8, mg_9, mg_10, mg_11, mg_12, mg_13, mg_14, mg_15, mg_16, mg_17, mg_18, mg_19, mg_20, mg_21, mg_22, mp_2, mp_5, mp_7, mp_9, mp_10, mp_12, mp_14, mp_18, mp_19, mp_22, ml_0, ml_1, ml_3, ml_4, ml_6, ml_8, ml_11, ml_13, ml_15, ml_16, ml_17, ml_20, ml_21, ms_0, ms_1, ms_3, ms_4, ms_6, ms_8, ms_11, ms_13, ms_15, ms_16, ms_17, ms_20, ms_21, upm_s, upm_n, pk_us, pk_un, upd_up, seA_s, seA_n, svA_n, svI_n, n_rem, d_le_t, d_le_f, d_lt_t, d_lt_f, d_eq_t, d_eq_f, d_eq0_t, d_eq0_f, d_gt0_t, d_gt0_f, d_le0_t, d_le0_f, i_lt0, i_ge0, i_ne1, am_in_t, i_div, i_rem, nI_add, nI_mul, nI_sub, nI_m1, nI_clamp, eq_self, am_kr_s, am_kr_n, w8_nil, w8_c, w8_a, w8_0, ct_i, ct_r, ct_n, ct_k, ct_l, true_and, and_true, ↓reduceIte, Nat.reduceAdd, Nat.reduceMul, Nat.reduceSub, Nat.reduceLeDiff, Nat.reduceLT, Nat.reduceDiv, Nat.reduceMod, Nat.reduceEqDiff, ne_eq, not_false_eq_true, not_true_eq_false, reduceCtorEq]
    rw [ih (k + 1) _ (by omega)]
    rw [seA_up (f := fun j => if 117 + 5 * k ≤ j ∧ j < 147 ∧ (j - 117) % 5 = 0 then -1 else A 0 j) (fun j => ?_)]
    rw [upm_s, upd_ap]
    by_cases q : j = 117 + 5 * k
    · rw [if_neg (by omega), if_pos q, if_pos (by omega)]
    · by_cases q2 : 117 + 5 * (k + 1) ≤ j ∧ j < 147 ∧ (j - 117) % 5 = 0
      · rw [if_pos q2, if_pos (by omega)]
      · rw [if_neg q2, if_neg q, if_neg (by omega)]
theorem m58 (hl : h.length = 70) (hQ : ∀ A, (∀ j, A 0 j = mA0 0 j) → (∀ k, k ≠ 0 → A k = fun _ => 0) → Q (.inl none, mst (h ++ moZ) (fun _ => nI 0) A)) : wp S (d + 1) 58 0 [some (.ref 70), none] [] (h ++ [.inr (.inr (5, [.null, .null, .int (nI 0), .null, .null, .int (nI 0), .null, .int (nI 0), .null, .int (nI 0), .int (nI 0), .null, .int (nI 0), .null, .int (nI 0), .null, .null, .null, .int (nI 0), .int (nI 0), .null, .null, .int (nI 0)]))]) Q := by
  have l84 : 84 ≤ (h ++ moZ).length := by rw [List.length_append, hl]; exact Nat.le_refl _
  simp (discharger := first | omega | (simp only [List.length_append, List.length_set, List.length_cons, List.length_nil]; done) | (simp only [List.length_append, List.length_set, List.length_cons, List.length_nil]; omega)) only [e58_0, e58_1, e58_4, e58_5, e58_8, e58_10, e58_13, e58_14, e58_17, e58_19, e58_22, e58_23, e58_24, e58_26, e58_29, e58_30, e58_32, e58_34, e58_37, e58_38, e58_40, e58_42, e58_45, e58_46, e58_48, e58_50, e58_53, e58_54, e58_56, e58_58, e58_61, e58_62, e58_64, e58_66, e58_69, e58_70, e58_72, e58_74, e58_77, e58_78, e58_80, e58_82, e58_85, e58_86, e58_88, e58_90, e58_93, e58_94, e58_96, e58_98, e58_101, e58_102, e58_105, e58_107, e58_110, e58_111, eq_self, am_kr_s, am_kr_n, w8_nil, w8_c, w8_a, w8_0, ct_i, ct_r, ct_n, ct_k, ct_l, true_and, and_true, ↓reduceIte, Nat.reduceAdd, Nat.reduceMul, Nat.reduceSub, Nat.reduceLeDiff, Nat.reduceLT, Nat.reduceDiv, Nat.reduceMod, Nat.reduceEqDiff, ne_eq, not_false_eq_true, not_true_eq_false, reduceCtorEq, n_rem, d_le_t, d_le_f, d_lt_t, d_lt_f, d_eq_t, d_eq_f, d_eq0_t, d_eq0_f, d_gt0_t, d_gt0_f, d_le0_t, d_le0_f, i_lt0, i_ge0, i_ne1, am_in_t, i_div, i_rem, nI_add, nI_mul, nI_sub, nI_m1, nI_clamp, fk0_0_0r, fk0_0_0n, fk0_0_0k, fk0_0_1r, fk0_0_1n, fk0_0_1k, fk0_0_3r, fk0_0_3n, fk0_0_3k, fk0_0_5r, fk0_0_5n, fk0_0_5k, fk0_0_6r, fk0_0_6n, fk0_0_6k, fk6_0_2i, fk19_1_6i, fk21_0_4i, fk22_0_4i, fk23_1_7r, fk23_1_7n, fk23_1_7k, fk24_1_7r, fk24_1_7n, fk24_1_7k, fk31_0_2i, fk36_1_0r, fk36_1_0n, fk36_1_0k, fk36_1_1r, fk36_1_1n, fk36_1_1k, fk36_1_2r, fk36_1_2n, fk36_1_2k, fk36_1_4r, fk36_1_4n, fk36_1_4k, fk36_1_5r, fk36_1_5n, fk36_1_5k, fk36_1_7r, fk36_1_7n, fk36_1_7k, fk36_1_8r, fk36_1_8n, fk36_1_8k, fk37_1_3i, fk37_1_6i, fk37_1_7r, fk37_1_7n, fk37_1_7k, fk42_2_0i, fk42_2_1i, fk42_2_2r, fk42_2_2n, fk42_2_2k, fk42_2_3i, fk46_3_0i, fk46_3_1i, fk46_3_2i, fk46_3_3r, fk46_3_3n, fk46_3_3k, fk50_4_2r, fk50_4_2n, fk50_4_2k, fk51_4_0i, fk51_4_1i, fk52_4_0i, fk52_4_1i, fk54_4_0i, fk56_4_0i, fk57_4_0i, fk58_5_0r, fk58_5_0n, fk58_5_0k, fk58_5_1r, fk58_5_1n, fk58_5_1k, fk58_5_3r, fk58_5_3n, fk58_5_3k, fk58_5_4r, fk58_5_4n, fk58_5_4k, fk58_5_6r, fk58_5_6n, fk58_5_6k, fk58_5_8r, fk58_5_8n, fk58_5_8k, fk58_5_11r, fk58_5_11n, fk58_5_11k, fk58_5_13r, fk58_5_13n, fk58_5_13k, fk58_5_15r, fk58_5_15n, fk58_5_15k, fk58_5_16r, fk58_5_16n, fk58_5_16k, fk58_5_17r, fk58_5_17n, fk58_5_17k, fk58_5_20r, fk58_5_20n, fk58_5_20k, fk58_5_21r, fk58_5_21n, fk58_5_21k, fk63_5_2i, fk83_5_5i, fk84_5_5i, fk85_5_7i, fk85_5_9i, fk85_5_10i, fk86_5_7i, fk86_5_9i, fk86_5_10i, fk94_5_9i, fk94_5_10i, fk95_5_12i, fk95_5_14i, fk95_5_18i, fk95_5_19i, fk99_5_12i, fk99_5_14i, fk107_5_12i, fk107_5_14i, fk107_5_19i, fk108_5_18i, fk115_5_9i, fk115_5_22i, fk117_5_22i, fk118_5_9i, fk119_5_2i, fk123_6_0i, fk123_6_1r, fk123_6_1n, fk123_6_1k, fk129_7_6i, fk130_8_0i, fk130_8_2r, fk130_8_2n, fk130_8_2k, fk132_8_0i, fk132_8_1i, fk134_1_3i, fk134_8_1i, fk140_7_0r, fk140_7_0n, fk140_7_0k, fk140_7_1r, fk140_7_1n, fk140_7_1k, fk140_7_2r, fk140_7_2n, fk140_7_2k, fk141_7_0r, fk141_7_0n, fk141_7_0k, fk141_7_1r, fk141_7_1n, fk141_7_1k, fk141_7_2r, fk141_7_2n, fk141_7_2k, fk141_7_3r, fk141_7_3n, fk141_7_3k, fk143_9_0r, fk143_9_0n, fk143_9_0k, fk143_9_1b, fk143_9_1c, fk144_9_3i, fk145_9_0r, fk145_9_0n, fk145_9_0k, fk148_9_3i, fk149_9_0r, fk149_9_0n, fk149_9_0k, fk149_9_1b, fk149_9_1c, fk150_9_3i, fk151_9_3i, am_clK, am_ccK, am_gfK, am_pfK, am_iaK, am_isK, am_aaK, am_asK, am_alK, am_isC, am_rf, am_rc, decide_eq_true_eq, decide_true, List.getElem?_cons_zero, List.getElem?_cons_succ, List.length_cons, List.length_nil, List.length_set, List.length_append, List.set_cons_zero, List.set_cons_succ, g_sn, g_se, g_al, g_an, g_aq, s_al, s_an, s_aq, s_s, rv0_4, rv1_2, rv2_2, rv5_2, rv6_2, rv7_2, rv8_2, rv9_2, rv10_2, rv11_2, rv12_2, rv13_2, rv14_2, rv15_2, rv17_2, rv18_2, rv19_2, rv20_2, rv21_2, rv22_2, rv23_7, rv24_2, rv25_2, rv26_2, rv27_2, rv28_2, rv29_2, rv30_2, rv31_2, rv32_2, rv33_2, rv36_5, rv37_2, rv38_2, rv39_2, rv40_2, rv41_2, rv42_4, rv43_2, rv44_2, rv45_4, rv46_4, rv47_2, rv48_2, rv49_2, rv50_5, rv51_2, rv52_2, rv53_2, rv54_2, rv55_2, rv56_2, rv57_2, rv122_4, rv123_4, rv124_2, rv125_2, rv126_2, rv127_2, rv128_2, rv129_4, rv130_5, rv131_2, rv132_2, rv133_2, rv134_2, rv135_2, rv136_2, dft0, dft5, dft1, dft2, dft3, dft4, dft6, dft7, dft8, dft9, hl]
  have e : ∀ H : am_H, H = h ++ moZ → wp S (d + 1) 58 112 [some (.ref 70), some (.int (nI 0))] [] H Q := by
    intro H eH
    rw [eH, ← mst_new hl, m58_a l84 12 0 _ (by decide)]
    simp (discharger := omega) only [e58_134, e58_135, mg_0, mg_1, mg_2, mg_3, mg_4, mg_5, mg_6, mg_7, mg_8, mg_9, mg_10, mg_11, mg_12, mg_13, mg_14, mg_15, mg_16, mg_17, mg_18, mg_19, mg_20, mg_21, mg_22, mp_2, mp_5, mp_7, mp_9, mp_10, mp_12, mp_14, mp_18, mp_19, mp_22, ml_0, ml_1, ml_3, ml_4, ml_6, ml_8, ml_11, ml_13, ml_15, ml_16, ml_17, ml_20, ml_21, ms_0, ms_1, ms_3, ms_4, ms_6, ms_8, ms_11, ms_13, ms_15, ms_16, ms_17, ms_20, ms_21, upm_s, upm_n, pk_us, pk_un, upd_up, seA_s, seA_n, svA_n, svI_n, n_rem, d_le_t, d_le_f, d_lt_t, d_lt_f, d_eq_t, d_eq_f, d_eq0_t, d_eq0_f, d_gt0_t, d_gt0_f, d_le0_t, d_le0_f, i_lt0, i_ge0, i_ne1, am_in_t, i_div, i_rem, nI_add, nI_mul, nI_sub, nI_m1, nI_clamp, eq_self, am_kr_s, am_kr_n, w8_nil, w8_c, w8_a, w8_0, ct_i, ct_r, ct_n, ct_k, ct_l, true_and, and_true, ↓reduceIte, Nat.reduceAdd, Nat.reduceMul, Nat.reduceSub, Nat.reduceLeDiff, Nat.reduceLT, Nat.reduceDiv, Nat.reduceMod, Nat.reduceEqDiff, ne_eq, not_false_eq_true, not_true_eq_false, reduceCtorEq]
    rw [m58_b l84 6 0 _ (by decide)]
    simp (discharger := omega) only [e58_160, e58_161, e58_164, e58_167, e58_168, e58_169, e58_170, e58_173, e58_176, e58_177, e58_178, mg_0, mg_1, mg_2, mg_3, mg_4, mg_5, mg_6, mg_7, mg_8, mg_9, mg_10, mg_11, mg_12, mg_13, mg_14, mg_15, mg_16, mg_17, mg_18, mg_19, mg_20, mg_21, mg_22, mp_2, mp_5, mp_7, mp_9, mp_10, mp_12, mp_14, mp_18, mp_19, mp_22, ml_0, ml_1, ml_3, ml_4, ml_6, ml_8, ml_11, ml_13, ml_15, ml_16, ml_17, ml_20, ml_21, ms_0, ms_1, ms_3, ms_4, ms_6, ms_8, ms_11, ms_13, ms_15, ms_16, ms_17, ms_20, ms_21, upm_s, upm_n, pk_us, pk_un, upd_up, seA_s, seA_n, svA_n, svI_n, n_rem, d_le_t, d_le_f, d_lt_t, d_lt_f, d_eq_t, d_eq_f, d_eq0_t, d_eq0_f, d_gt0_t, d_gt0_f, d_le0_t, d_le0_f, i_lt0, i_ge0, i_ne1, am_in_t, i_div, i_rem, nI_add, nI_mul, nI_sub, nI_m1, nI_clamp, eq_self, am_kr_s, am_kr_n, w8_nil, w8_c, w8_a, w8_0, ct_i, ct_r, ct_n, ct_k, ct_l, true_and, and_true, ↓reduceIte, Nat.reduceAdd, Nat.reduceMul, Nat.reduceSub, Nat.reduceLeDiff, Nat.reduceLT, Nat.reduceDiv, Nat.reduceMod, Nat.reduceEqDiff, ne_eq, not_false_eq_true, not_true_eq_false, reduceCtorEq]
    refine hQ _ (fun j => ?_) (fun k hk => ?_)
    · simp only [upm_s, upd_ap, seA_s]
      unfold mA0
      rw [if_pos rfl]
      repeat' split
      all_goals first | rfl | (exfalso; omega)
    · rw [upm_n hk, upm_n hk, seA_n hk, seA_n hk]
  refine e _ ?_
  simp only [List.append_assoc, List.cons_append, List.nil_append]
  rfl
end FH
