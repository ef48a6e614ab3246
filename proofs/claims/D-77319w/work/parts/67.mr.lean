/-! the model's migrate, whole -/
theorem wf_hi {M M' : Nat → Nat} {T : Nat → Option Nat} (hw : wf M T) (e : ∀ j, j < 179 → M' j = M j) : wf M' T ∧ prog M' = prog M := by
  obtain ⟨h1, h2, ⟨h3, h3b⟩, h4, h5, h6, h7, h8⟩ := hw
  have ep : prog M' = prog M := by
    unfold prog
    rw [e 148 (by decide)]
    exact List.map_congr_left (fun k hk => e _ (by have := List.mem_range.mp hk; omega))
  have ef : ∀ n a, a + 7 < 179 → fOk M n a → fOk M' n a := by
    intro n a ha ⟨q1, q2, q3⟩
    exact ⟨by rw [e _ (by omega)]; exact q1, by rw [e _ (by omega)]; exact q2, fun j hj => by rw [e _ (by omega)]; exact q3 j hj⟩
  refine ⟨⟨fun f hf => ef _ _ (by omega) (h1 f hf), fun f hf => ef _ _ (by omega) (h2 f hf), ⟨by rw [e 116 (by decide)]; exact h3, fun k hk => ?_⟩, fun o ho t ht => ⟨(h4 o ho t ht).1, fun p hp => by rw [e _ (by omega)]; exact (h4 o ho t ht).2 p hp⟩, by rw [e 147 (by decide)]; exact h5, by rw [e 148 (by decide)]; exact h6, by rw [ep]; exact h7, by rw [ep, e 116 (by decide)]; exact h8⟩, ep⟩
  rw [e 116 (by decide)] at hk
  have h9 := h3b k hk
  exact ⟨ef _ _ (by omega) h9.1, by rw [e _ (by omega)]; exact h9.2.1, fun j hj => by rw [e _ (by omega), e _ (by omega)]; exact h9.2.2 j hj⟩
theorem rz_lo {M : Nat → Nat} {j : Nat} (h : j < 179) : rz M j = M j := by unfold rz; rw [if_neg (by omega)]
section MR2
variable {S : am_S} {d : Nat} {h : am_H} {Q : am_Out → Prop} {I : Nat → Int32} {A : Nat → Nat → Int32} {σ : sg}
theorem m95_z (hl : 84 ≤ h.length) {a2 a3 : Option Value} : ∀ r k A, k + r = 7 → wp S d 95 6 [some (.ref 70), some (.int (nI k)), a2, a3] [] (mst h I A) Q = wp S d 95 29 [some (.ref 70), some (.int (nI 7)), a2, a3] [] (mst h I (seA A 0 (fun j => if 179 + k ≤ j ∧ j < 186 then nI 0 else A 0 j))) Q := by
  intro r
  induction r with
  | zero =>
    intro k A hk
    have hk : k = 7 := by omega
    subst hk
    rw [seA_id (fun i => if_neg (by omega))]
    simp (discharger := omega) only [e95_6, e95_7, e95_9, mg_0, mg_1, mg_2, mg_3, mg_4, mg_5, mg_6, mg_7, mg_8, mg_9, mg_10, mg_11, mg_12, mg_13, mg_14, mg_15, mg_16, mg_17, mg_18, mg_19, mg_20, mg_21, mg_22, mp_2, mp_5, mp_7, mp_9, mp_10, mp_12, mp_14, mp_18, mp_19, mp_22, ml_0, ml_1, ml_3, ml_4, ml_6, ml_8, ml_11, ml_13, ml_15, ml_16, ml_17, ml_20, ml_21, ms_0, ms_1, ms_3, ms_4, ms_6, ms_8, ms_11, ms_13, ms_15, ms_16, ms_17, ms_20, ms_21, upm_s, upm_n, pk_us, pk_un, upd_up, seA_s, seA_n, svA_n, svI_n, n_rem, d_le_t, d_le_f, d_lt_t, d_lt_f, d_eq_t, d_eq_f, d_eq0_t, d_eq0_f, d_gt0_t, d_gt0_f, d_le0_t, d_le0_f, i_lt0, i_ge0, i_ne1, am_in_t, i_div, i_rem, nI_add, nI_mul, nI_sub, nI_m1, nI_clamp, eq_self, am_kr_s, am_kr_n, w8_nil, w8_c, w8_a, w8_0, ct_i, ct_r, ct_n, ct_k, ct_l, true_and, and_true, ↓reduceIte, Nat.reduceAdd, Nat.reduceMul, Nat.reduceSub, Nat.reduceLeDiff, Nat.reduceLT, Nat.reduceDiv, Nat.reduceMod, Nat.reduceEqDiff, ne_eq, not_false_eq_true, not_true_eq_false, reduceCtorEq]
  | succ r ih =>
    intro k A hk
    rw [e95_6]
    simp (discharger := omega) only [e95_7, e95_9, e95_12, e95_13, e95_16, e95_19, e95_20, e95_21, e95_22, e95_23, e95_26, mg_0, mg_1, mg_2, mg_3, mg_4, mg_5, mg_6, mg_7, mg_8, mg_9, mg_10, mg_11, mg_12, mg_13, mg_14, mg_15, mg_16, mg_17, mg_18, mg_19, mg_20, mg_21, mg_22, mp_2, mp_5, mp_7, mp_9, mp_10, mp_12, mp_14, mp_18, mp_19, mp_22, ml_0, ml_1, ml_3, ml_4, ml_6, ml_8, ml_11, ml_13, ml_15, ml_16, ml_17, ml_20, ml_21, ms_0, ms_1, ms_3, ms_4, ms_6, ms_8, ms_11, ms_13, ms_15, ms_16, ms_17, ms_20, ms_21, upm_s, upm_n, pk_us, pk_un, upd_up, seA_s, seA_n, svA_n, svI_n, n_rem, d_le_t, d_le_f, d_lt_t, d_lt_f, d_eq_t, d_eq_f, d_eq0_t, d_eq0_f, d_gt0_t, d_gt0_f, d_le0_t, d_le0_f, i_lt0, i_ge0, i_ne1, am_in_t, i_div, i_rem, nI_add, nI_mul, nI_sub, nI_m1, nI_clamp, eq_self, am_kr_s, am_kr_n, w8_nil, w8_c, w8_a, w8_0, ct_i, ct_r, ct_n, ct_k, ct_l, true_and, and_true, ↓reduceIte, Nat.reduceAdd, Nat.reduceMul, Nat.reduceSub, Nat.reduceLeDiff, Nat.reduceLT, Nat.reduceDiv, Nat.reduceMod, Nat.reduceEqDiff, ne_eq, not_false_eq_true, not_true_eq_false, reduceCtorEq]
    rw [ih _ _ (by omega), seA_up]
    intro j
    simp only [upd_ap, upm_s]
    by_cases q1 : j = 179 + k
    · rw [if_neg (by omega), if_pos q1, if_pos (by omega)]
    · by_cases q2 : 179 + (k + 1) ≤ j ∧ j < 186
      · rw [if_pos q2, if_pos (by omega)]
      · rw [if_neg q2, if_neg q1, if_neg (by omega)]
theorem m95_k (hl : 84 ≤ h.length) {n : Nat} {a1 a3 : Option Value} (hI : I 12 = nI n) (hn : n ≤ 30) : ∀ r k A, k + r = n → wp S d 95 156 [some (.ref 70), a1, some (.int (nI k)), a3] [] (mst h I A) Q = wp S d 95 186 [some (.ref 70), a1, some (.int (nI n)), a3] [] (mst h I (seA A 0 (fun j => if 149 + k ≤ j ∧ j < 149 + n then A 11 (j - 149) else A 0 j))) Q := by
  intro r
  induction r with
  | zero =>
    intro k A hk
    have hk : k = n := by omega
    subst hk
    rw [seA_id (fun i => if_neg (by omega))]
    simp (discharger := omega) only [e95_156, e95_157, e95_158, e95_161, mg_0, mg_1, mg_2, mg_3, mg_4, mg_5, mg_6, mg_7, mg_8, mg_9, mg_10, mg_11, mg_12, mg_13, mg_14, mg_15, mg_16, mg_17, mg_18, mg_19, mg_20, mg_21, mg_22, mp_2, mp_5, mp_7, mp_9, mp_10, mp_12, mp_14, mp_18, mp_19, mp_22, ml_0, ml_1, ml_3, ml_4, ml_6, ml_8, ml_11, ml_13, ml_15, ml_16, ml_17, ml_20, ml_21, ms_0, ms_1, ms_3, ms_4, ms_6, ms_8, ms_11, ms_13, ms_15, ms_16, ms_17, ms_20, ms_21, upm_s, upm_n, pk_us, pk_un, upd_up, seA_s, seA_n, svA_n, svI_n, n_rem, d_le_t, d_le_f, d_lt_t, d_lt_f, d_eq_t, d_eq_f, d_eq0_t, d_eq0_f, d_gt0_t, d_gt0_f, d_le0_t, d_le0_f, i_lt0, i_ge0, i_ne1, am_in_t, i_div, i_rem, nI_add, nI_mul, nI_sub, nI_m1, nI_clamp, eq_self, am_kr_s, am_kr_n, w8_nil, w8_c, w8_a, w8_0, ct_i, ct_r, ct_n, ct_k, ct_l, true_and, and_true, ↓reduceIte, Nat.reduceAdd, Nat.reduceMul, Nat.reduceSub, Nat.reduceLeDiff, Nat.reduceLT, Nat.reduceDiv, Nat.reduceMod, Nat.reduceEqDiff, ne_eq, not_false_eq_true, not_true_eq_false, reduceCtorEq, hI]
  | succ r ih =>
    intro k A hk
    rw [e95_156]
    simp (discharger := omega) only [e95_157, e95_158, e95_161, e95_164, e95_165, e95_168, e95_171, e95_172, e95_173, e95_174, e95_177, e95_178, e95_179, e95_180, e95_183, mg_0, mg_1, mg_2, mg_3, mg_4, mg_5, mg_6, mg_7, mg_8, mg_9, mg_10, mg_11, mg_12, mg_13, mg_14, mg_15, mg_16, mg_17, mg_18, mg_19, mg_20, mg_21, mg_22, mp_2, mp_5, mp_7, mp_9, mp_10, mp_12, mp_14, mp_18, mp_19, mp_22, ml_0, ml_1, ml_3, ml_4, ml_6, ml_8, ml_11, ml_13, ml_15, ml_16, ml_17, ml_20, ml_21, ms_0, ms_1, ms_3, ms_4, ms_6, ms_8, ms_11, ms_13, ms_15, ms_16, ms_17, ms_20, ms_21, upm_s, upm_n, pk_us, pk_un, upd_up, seA_s, seA_n, svA_n, svI_n, n_rem, d_le_t, d_le_f, d_lt_t, d_lt_f, d_eq_t, d_eq_f, d_eq0_t, d_eq0_f, d_gt0_t, d_gt0_f, d_le0_t, d_le0_f, i_lt0, i_ge0, i_ne1, am_in_t, i_div, i_rem, nI_add, nI_mul, nI_sub, nI_m1, nI_clamp, eq_self, am_kr_s, am_kr_n, w8_nil, w8_c, w8_a, w8_0, ct_i, ct_r, ct_n, ct_k, ct_l, true_and, and_true, ↓reduceIte, Nat.reduceAdd, Nat.reduceMul, Nat.reduceSub, Nat.reduceLeDiff, Nat.reduceLT, Nat.reduceDiv, Nat.reduceMod, Nat.reduceEqDiff, ne_eq, not_false_eq_true, not_true_eq_false, reduceCtorEq, hI]
    rw [ih _ _ (by omega), seA_up]
    intro j
    simp only [upd_ap, upm_s, upm_n (show (11 : Nat) ≠ 0 by decide)]
    by_cases q1 : j = 149 + k
    · rw [if_neg (by omega), if_pos q1, if_pos (by omega), show j - 149 = k by omega]
    · by_cases q2 : 149 + (k + 1) ≤ j ∧ j < 149 + n
      · rw [if_pos q2, if_pos (by omega)]
      · rw [if_neg q2, if_neg q1, if_neg (by omega)]
theorem M_mig (hl : 84 ≤ h.length) (hm : MR I A σ) (hw : wfs σ) (hQ : mQ h Q (sp_mig σ)) : wp S (d + 7) 95 0 [some (.ref 70), none, none, none] [] (mst h I A) Q := by
  have h30 := hw.1.2.2.2.2.2.1
  have hm1 := MR_sv hm
  obtain ⟨hwz, hpz⟩ := wf_hi (M' := rz σ.1.1) hw.1 (fun j hj => rz_lo hj)
  simp (discharger := omega) only [e95_0, e95_1, e95_4, e95_5, mg_0, mg_1, mg_2, mg_3, mg_4, mg_5, mg_6, mg_7, mg_8, mg_9, mg_10, mg_11, mg_12, mg_13, mg_14, mg_15, mg_16, mg_17, mg_18, mg_19, mg_20, mg_21, mg_22, mp_2, mp_5, mp_7, mp_9, mp_10, mp_12, mp_14, mp_18, mp_19, mp_22, ml_0, ml_1, ml_3, ml_4, ml_6, ml_8, ml_11, ml_13, ml_15, ml_16, ml_17, ml_20, ml_21, ms_0, ms_1, ms_3, ms_4, ms_6, ms_8, ms_11, ms_13, ms_15, ms_16, ms_17, ms_20, ms_21, upm_s, upm_n, pk_us, pk_un, upd_up, seA_s, seA_n, svA_n, svI_n, n_rem, d_le_t, d_le_f, d_lt_t, d_lt_f, d_eq_t, d_eq_f, d_eq0_t, d_eq0_f, d_gt0_t, d_gt0_f, d_le0_t, d_le0_f, i_lt0, i_ge0, i_ne1, am_in_t, i_div, i_rem, nI_add, nI_mul, nI_sub, nI_m1, nI_clamp, eq_self, am_kr_s, am_kr_n, w8_nil, w8_c, w8_a, w8_0, ct_i, ct_r, ct_n, ct_k, ct_l, true_and, and_true, ↓reduceIte, Nat.reduceAdd, Nat.reduceMul, Nat.reduceSub, Nat.reduceLeDiff, Nat.reduceLT, Nat.reduceDiv, Nat.reduceMod, Nat.reduceEqDiff, ne_eq, not_false_eq_true, not_true_eq_false, reduceCtorEq, mr58_4, mr59_2, mr62_2, mr63_2, mr64_2, mr65_2, mr66_2, mr67_2, mr68_2, mr69_2, mr70_2, mr71_2, mr72_2, mr73_2, mr74_2, mr75_2, mr76_2, mr77_2, mr78_2, mr79_2, mr80_2, mr81_2, mr82_2, mr83_2, mr84_2, mr85_2, mr86_2, mr87_2, mr90_2, mr92_2, mr94_2, mr95_2, mr97_2, mr98_2, mr99_2, mr100_2, mr101_2, mr102_2, mr103_2, mr104_2, mr105_2, mr106_2, mr107_2, mr108_2, mr109_2, mr110_2, mr111_2, mr112_2, mr113_2, mr114_2, mr115_2, mr116_2, mr117_2, mr118_2, mr119_2, mr120_2, mr121_2, m63 hl hm.2.1.2 hm.2.1.1]
  rw [m95_z hl 7 0 _ (by omega)]
  have hA1 : mEnc (seA (svA A σ.2.1.length) 0 (fun j => if 179 + 0 ≤ j ∧ j < 186 then nI 0 else svA A σ.2.1.length 0 j) 0) (rz σ.1.1) σ.1.2 := by
    rw [seA_s]
    refine ⟨fun i i1 i2 => ?_, fun o ho => ?_⟩
    · show (if 179 + 0 ≤ i ∧ i < 186 then nI 0 else svA A σ.2.1.length 0 i) = nI (rz σ.1.1 i)
      unfold rz
      by_cases q : 179 ≤ i ∧ i < 186
      · rw [if_pos q, if_pos (by omega)]
      · rw [if_neg q, if_neg (by omega)]; exact hm1.1.1 i i1 i2
    · show (if 179 + 0 ≤ 117 + 5 * o ∧ 117 + 5 * o < 186 then nI 0 else svA A σ.2.1.length 0 (117 + 5 * o)) = _
      rw [if_neg (by omega)]; exact hm1.1.2 o ho
  generalize hA1e : seA (svA A σ.2.1.length) 0 (fun j => if 179 + 0 ≤ j ∧ j < 186 then nI 0 else svA A σ.2.1.length 0 j) = A1 at hA1 ⊢
  have hA1f : ∀ j, j ≠ 0 → A1 j = svA A σ.2.1.length j := fun j hj => by rw [← hA1e, seA_n hj]
  have e148 : A1 0 148 = nI (σ.1.1 148) := by rw [hA1.M (by decide) (by decide), rz_lo (by decide)]
  simp (discharger := omega) only [e95_29, e95_30, e95_31, e95_34, e95_37, e95_38, e95_41, e95_42, e95_43, e95_46, e95_47, e95_48, e95_51, e95_52, e95_55, e95_56, e95_57, e95_58, e95_59, e95_60, e95_63, e95_64, e95_65, e95_66, mg_0, mg_1, mg_2, mg_3, mg_4, mg_5, mg_6, mg_7, mg_8, mg_9, mg_10, mg_11, mg_12, mg_13, mg_14, mg_15, mg_16, mg_17, mg_18, mg_19, mg_20, mg_21, mg_22, mp_2, mp_5, mp_7, mp_9, mp_10, mp_12, mp_14, mp_18, mp_19, mp_22, ml_0, ml_1, ml_3, ml_4, ml_6, ml_8, ml_11, ml_13, ml_15, ml_16, ml_17, ml_20, ml_21, ms_0, ms_1, ms_3, ms_4, ms_6, ms_8, ms_11, ms_13, ms_15, ms_16, ms_17, ms_20, ms_21, upm_s, upm_n, pk_us, pk_un, upd_up, seA_s, seA_n, svA_n, svI_n, n_rem, d_le_t, d_le_f, d_lt_t, d_lt_f, d_eq_t, d_eq_f, d_eq0_t, d_eq0_f, d_gt0_t, d_gt0_f, d_le0_t, d_le0_f, i_lt0, i_ge0, i_ne1, am_in_t, i_div, i_rem, nI_add, nI_mul, nI_sub, nI_m1, nI_clamp, eq_self, am_kr_s, am_kr_n, w8_nil, w8_c, w8_a, w8_0, ct_i, ct_r, ct_n, ct_k, ct_l, true_and, and_true, ↓reduceIte, Nat.reduceAdd, Nat.reduceMul, Nat.reduceSub, Nat.reduceLeDiff, Nat.reduceLT, Nat.reduceDiv, Nat.reduceMod, Nat.reduceEqDiff, ne_eq, not_false_eq_true, not_true_eq_false, reduceCtorEq, mr58_4, mr59_2, mr62_2, mr63_2, mr64_2, mr65_2, mr66_2, mr67_2, mr68_2, mr69_2, mr70_2, mr71_2, mr72_2, mr73_2, mr74_2, mr75_2, mr76_2, mr77_2, mr78_2, mr79_2, mr80_2, mr81_2, mr82_2, mr83_2, mr84_2, mr85_2, mr86_2, mr87_2, mr90_2, mr92_2, mr94_2, mr95_2, mr97_2, mr98_2, mr99_2, mr100_2, mr101_2, mr102_2, mr103_2, mr104_2, mr105_2, mr106_2, mr107_2, mr108_2, mr109_2, mr110_2, mr111_2, mr112_2, mr113_2, mr114_2, mr115_2, mr116_2, mr117_2, mr118_2, mr119_2, mr120_2, mr121_2, e148]
  refine m95_l (M0 := σ.1.1) (T := σ.1.2) hl (prog σ.1.1) 0 [] (rz σ.1.1, σ.1.1 148, 0, []) _ _ _ (List.drop_zero) (by rw [prog_len, Nat.zero_add]) ⟨hwz, ⟨fun t q => (by cases q), fun p q => (by cases q)⟩, fun q hq => (by cases hq), ?_, h30.2, hpz, rz_lo (j := 148) (by decide)⟩ ⟨⟨pk_us, trivial, trivial⟩, ?_, ⟨?_, ?_, ?_, fun i c hi => by simp [fl] at hi⟩, ?_⟩ (Or.inl ⟨hw.1.2.2.2.2.2.2.1, rfl⟩) (fun I' A' a2 a3 f1 f2 hk hr h1 => ?_)
  · show 0 + 0 + (prog σ.1.1).length = σ.1.1 148
    rw [prog_len]; omega
  · rw [upm_n (by decide)]; exact hA1
  · rw [pk_un (by decide), pk_us]; rfl
  · rw [pk_un (by decide), pk_un (by decide), pk_us]; rfl
  · show upm A1 13 0 (nI 0) 13 0 = nI 0
    rw [upm_s]; exact pk_us
  · rw [pk_un (by decide), pk_un (by decide), pk_un (by decide)]; exact pk_us
  · unfold mQ sp_mig at hQ
    have hmg : mgS σ = mgr σ.1.2 (prog σ.1.1) [] (rz σ.1.1, σ.1.1 148, 0, []) := rfl
    rw [← hmg] at hk hr h1 ⊢
    generalize mgS σ = μ at *
    obtain ⟨M', total, done, ps⟩ := μ
    obtain ⟨k1, k2, k3, k4, k5, k6, k7⟩ := hk
    obtain ⟨-, hM', hb', h19'⟩ := hr
    have k4 : (fl ps).length + 0 + 0 = total := k4
    have k5 : total ≤ 30 := k5
    have hM' : mEnc (A' 0) M' σ.1.2 := hM'
    have hb' : BR I' A' ps := hb'
    simp (discharger := omega) only [e95_154, e95_155, mg_0, mg_1, mg_2, mg_3, mg_4, mg_5, mg_6, mg_7, mg_8, mg_9, mg_10, mg_11, mg_12, mg_13, mg_14, mg_15, mg_16, mg_17, mg_18, mg_19, mg_20, mg_21, mg_22, mp_2, mp_5, mp_7, mp_9, mp_10, mp_12, mp_14, mp_18, mp_19, mp_22, ml_0, ml_1, ml_3, ml_4, ml_6, ml_8, ml_11, ml_13, ml_15, ml_16, ml_17, ml_20, ml_21, ms_0, ms_1, ms_3, ms_4, ms_6, ms_8, ms_11, ms_13, ms_15, ms_16, ms_17, ms_20, ms_21, upm_s, upm_n, pk_us, pk_un, upd_up, seA_s, seA_n, svA_n, svI_n, n_rem, d_le_t, d_le_f, d_lt_t, d_lt_f, d_eq_t, d_eq_f, d_eq0_t, d_eq0_f, d_gt0_t, d_gt0_f, d_le0_t, d_le0_f, i_lt0, i_ge0, i_ne1, am_in_t, i_div, i_rem, nI_add, nI_mul, nI_sub, nI_m1, nI_clamp, eq_self, am_kr_s, am_kr_n, w8_nil, w8_c, w8_a, w8_0, ct_i, ct_r, ct_n, ct_k, ct_l, true_and, and_true, ↓reduceIte, Nat.reduceAdd, Nat.reduceMul, Nat.reduceSub, Nat.reduceLeDiff, Nat.reduceLT, Nat.reduceDiv, Nat.reduceMod, Nat.reduceEqDiff, ne_eq, not_false_eq_true, not_true_eq_false, reduceCtorEq, mr58_4, mr59_2, mr62_2, mr63_2, mr64_2, mr65_2, mr66_2, mr67_2, mr68_2, mr69_2, mr70_2, mr71_2, mr72_2, mr73_2, mr74_2, mr75_2, mr76_2, mr77_2, mr78_2, mr79_2, mr80_2, mr81_2, mr82_2, mr83_2, mr84_2, mr85_2, mr86_2, mr87_2, mr90_2, mr92_2, mr94_2, mr95_2, mr97_2, mr98_2, mr99_2, mr100_2, mr101_2, mr102_2, mr103_2, mr104_2, mr105_2, mr106_2, mr107_2, mr108_2, mr109_2, mr110_2, mr111_2, mr112_2, mr113_2, mr114_2, mr115_2, mr116_2, mr117_2, mr118_2, mr119_2, mr120_2, mr121_2]
    rw [m95_k hl (n := (fl ps).length) hb'.2.1 (by omega) (fl ps).length 0 A' (by omega)]
    simp (discharger := omega) only [e95_186, e95_187, e95_190, e95_193, e95_194, e95_197, e95_198, e95_199, mg_0, mg_1, mg_2, mg_3, mg_4, mg_5, mg_6, mg_7, mg_8, mg_9, mg_10, mg_11, mg_12, mg_13, mg_14, mg_15, mg_16, mg_17, mg_18, mg_19, mg_20, mg_21, mg_22, mp_2, mp_5, mp_7, mp_9, mp_10, mp_12, mp_14, mp_18, mp_19, mp_22, ml_0, ml_1, ml_3, ml_4, ml_6, ml_8, ml_11, ml_13, ml_15, ml_16, ml_17, ml_20, ml_21, ms_0, ms_1, ms_3, ms_4, ms_6, ms_8, ms_11, ms_13, ms_15, ms_16, ms_17, ms_20, ms_21, upm_s, upm_n, pk_us, pk_un, upd_up, seA_s, seA_n, svA_n, svI_n, n_rem, d_le_t, d_le_f, d_lt_t, d_lt_f, d_eq_t, d_eq_f, d_eq0_t, d_eq0_f, d_gt0_t, d_gt0_f, d_le0_t, d_le0_f, i_lt0, i_ge0, i_ne1, am_in_t, i_div, i_rem, nI_add, nI_mul, nI_sub, nI_m1, nI_clamp, eq_self, am_kr_s, am_kr_n, w8_nil, w8_c, w8_a, w8_0, ct_i, ct_r, ct_n, ct_k, ct_l, true_and, and_true, ↓reduceIte, Nat.reduceAdd, Nat.reduceMul, Nat.reduceSub, Nat.reduceLeDiff, Nat.reduceLT, Nat.reduceDiv, Nat.reduceMod, Nat.reduceEqDiff, ne_eq, not_false_eq_true, not_true_eq_false, reduceCtorEq, mr58_4, mr59_2, mr62_2, mr63_2, mr64_2, mr65_2, mr66_2, mr67_2, mr68_2, mr69_2, mr70_2, mr71_2, mr72_2, mr73_2, mr74_2, mr75_2, mr76_2, mr77_2, mr78_2, mr79_2, mr80_2, mr81_2, mr82_2, mr83_2, mr84_2, mr85_2, mr86_2, mr87_2, mr90_2, mr92_2, mr94_2, mr95_2, mr97_2, mr98_2, mr99_2, mr100_2, mr101_2, mr102_2, mr103_2, mr104_2, mr105_2, mr106_2, mr107_2, mr108_2, mr109_2, mr110_2, mr111_2, mr112_2, mr113_2, mr114_2, mr115_2, mr116_2, mr117_2, mr118_2, mr119_2, mr120_2, mr121_2, hb'.2.1]
    have fI : ∀ j, j = 2 ∨ j = 5 → I' j = svI I σ.2.1.length j := fun j hj => by rw [f1 j (by omega) (by omega) (by omega) (by omega), pk_un (by omega), pk_un (by omega), pk_un (by omega), pk_un (by omega)]
    have fA : ∀ j, j = 1 ∨ j = 3 ∨ j = 4 → A' j = svA A σ.2.1.length j := fun j hj => by rw [f2 j (by omega) (by omega) (by omega) (by omega) (by omega) (by omega), upm_n (by omega), hA1f j (by omega)]
    refine hQ _ _ ?_
    obtain ⟨g1, g2, g3, g4, g5, g6⟩ := hm1
    refine ⟨⟨fun i i1 i2 => ?_, fun o ho => ?_⟩, ?_, ?_, ?_, ?_, ?_⟩
    · show upm _ 0 148 _ 0 i = nI (stP M' (fl ps) i)
      rw [upm_s, upd_ap]
      unfold stP
      by_cases q1 : i = 148
      · rw [if_pos q1, if_neg (by omega), if_pos q1]
      · rw [if_neg q1, seA_s]
        by_cases q2 : 149 ≤ i ∧ i < 149 + (fl ps).length
        · rw [if_pos (by omega), if_pos q2]
          have hi : i - 149 < (fl ps).length := by omega
          rw [hb'.2.2.2 (i - 149) _ (List.getElem?_eq_getElem hi), List.getD_eq_getElem?_getD, List.getElem?_eq_getElem hi]
          rfl
        · rw [if_neg (by omega), if_neg q2, if_neg q1]
          exact hM'.1 i i1 i2
    · show upm _ 0 148 _ 0 (117 + 5 * o) = _
      rw [upm_s, pk_un (by omega), seA_s, if_neg (by omega)]
      exact hM'.2 o ho
    · rw [fI 2 (by omega)]; exact g2
    · rw [upm_n (by decide), seA_n (by decide), fA 1 (by omega)]; exact g3
    · rw [upm_n (by decide), seA_n (by decide), fA 3 (by omega)]; exact g4
    · rw [fI 5 (by omega)]; exact g5
    · rw [upm_n (by decide), seA_n (by decide), fA 4 (by omega)]; exact g6
end MR2
