/-! the component: save -/
section CY
variable {S : am_S} {d : Nat} {h : am_H} {Q : am_Out → Prop} {σ : sg}
theorem sv_rot {sb : Nat → Nat} : va_up (va_cpy (fun i => if i < 4 then some (sb i) else none) (fun i => if i < 4 then some (sb i) else none) 1 0 3) 3 (some (sb 0)) = fun i => if i < 4 then some ((fun i => if i = 3 then sb 0 else sb (i + 1)) i) else none := by
  funext i
  unfold va_up va_cpy
  by_cases h3 : i = 3
  · subst h3; rfl
  · simp only [if_neg h3]
    by_cases h4 : i < 3
    · rw [if_pos (by omega), if_pos (by omega), if_pos (by omega), show 1 + (i - 0) = i + 1 by omega]
    · rw [if_neg (by omega), if_neg (by omega), if_neg (by omega)]
theorem c6 (hc : CR imm h σ) (hw : σ.1.1 116 ≤ 4) (hQ : ∀ h', frC h h' 0 → CR imm h' (sg_sv σ) → Q (.inl none, h')) : wp S (d + 2) 6 0 [some (.ref 0), none] [] h Q := by
  have hc' := hc
  obtain ⟨sb, tb, er, ⟨e0, e14, e15, e16, e69, e84, e4, e120⟩, h2, h3, h5, h6, h7, h8⟩ := hc
  by_cases h4 : σ.2.1.length = 4
  · have h4' : nI σ.2.1.length = nI 4 := by rw [h4]
    have hsb := h2.1 0 (by decide)
    obtain ⟨n, l, s, hs⟩ := h5 0 (by decide)
    have hsc := hs.1
    simp (discharger := first | omega | (simp only [List.length_set]; omega)) only [e6_0, e6_1, e6_4, e6_5, e6_8, e6_9, e6_12, e6_13, e6_14, e6_15, e6_16, e6_19, e6_20, e6_21, e6_24, e6_25, e6_26, e6_29, e6_30, e6_33, e6_34, e6_35, e6_36, e6_37, e6_37i, e6_38, e6_41, e6_42, e6_43, eq_self, am_kr_s, am_kr_n, w8_nil, w8_c, w8_a, w8_0, ct_i, ct_r, ct_n, ct_k, ct_l, true_and, and_true, ↓reduceIte, Nat.reduceAdd, Nat.reduceMul, Nat.reduceSub, Nat.reduceLeDiff, Nat.reduceLT, Nat.reduceDiv, Nat.reduceMod, Nat.reduceEqDiff, ne_eq, not_false_eq_true, not_true_eq_false, reduceCtorEq, n_rem, d_le_t, d_le_f, d_lt_t, d_lt_f, d_eq_t, d_eq_f, d_eq0_t, d_eq0_f, d_gt0_t, d_gt0_f, d_le0_t, d_le0_f, i_lt0, i_ge0, i_ne1, am_in_t, i_div, i_rem, nI_add, nI_mul, nI_sub, nI_m1, nI_clamp, fk0_0_0r, fk0_0_0n, fk0_0_0k, fk0_0_1r, fk0_0_1n, fk0_0_1k, fk0_0_3r, fk0_0_3n, fk0_0_3k, fk0_0_5r, fk0_0_5n, fk0_0_5k, fk0_0_6r, fk0_0_6n, fk0_0_6k, fk6_0_2i, fk19_1_6i, fk21_0_4i, fk22_0_4i, fk23_1_7r, fk23_1_7n, fk23_1_7k, fk24_1_7r, fk24_1_7n, fk24_1_7k, fk31_0_2i, fk36_1_0r, fk36_1_0n, fk36_1_0k, fk36_1_1r, fk36_1_1n, fk36_1_1k, fk36_1_2r, fk36_1_2n, fk36_1_2k, fk36_1_4r, fk36_1_4n, fk36_1_4k, fk36_1_5r, fk36_1_5n, fk36_1_5k, fk36_1_7r, fk36_1_7n, fk36_1_7k, fk36_1_8r, fk36_1_8n, fk36_1_8k, fk37_1_3i, fk37_1_6i, fk37_1_7r, fk37_1_7n, fk37_1_7k, fk42_2_0i, fk42_2_1i, fk42_2_2r, fk42_2_2n, fk42_2_2k, fk42_2_3i, fk46_3_0i, fk46_3_1i, fk46_3_2i, fk46_3_3r, fk46_3_3n, fk46_3_3k, fk50_4_2r, fk50_4_2n, fk50_4_2k, fk51_4_0i, fk51_4_1i, fk52_4_0i, fk52_4_1i, fk54_4_0i, fk56_4_0i, fk57_4_0i, fk58_5_0r, fk58_5_0n, fk58_5_0k, fk58_5_1r, fk58_5_1n, fk58_5_1k, fk58_5_3r, fk58_5_3n, fk58_5_3k, fk58_5_4r, fk58_5_4n, fk58_5_4k, fk58_5_6r, fk58_5_6n, fk58_5_6k, fk58_5_8r, fk58_5_8n, fk58_5_8k, fk58_5_11r, fk58_5_11n, fk58_5_11k, fk58_5_13r, fk58_5_13n, fk58_5_13k, fk58_5_15r, fk58_5_15n, fk58_5_15k, fk58_5_16r, fk58_5_16n, fk58_5_16k, fk58_5_17r, fk58_5_17n, fk58_5_17k, fk58_5_20r, fk58_5_20n, fk58_5_20k, fk58_5_21r, fk58_5_21n, fk58_5_21k, fk63_5_2i, fk83_5_5i, fk84_5_5i, fk85_5_7i, fk85_5_9i, fk85_5_10i, fk86_5_7i, fk86_5_9i, fk86_5_10i, fk94_5_9i, fk94_5_10i, fk95_5_12i, fk95_5_14i, fk95_5_18i, fk95_5_19i, fk99_5_12i, fk99_5_14i, fk107_5_12i, fk107_5_14i, fk107_5_19i, fk108_5_18i, fk115_5_9i, fk115_5_22i, fk117_5_22i, fk118_5_9i, fk119_5_2i, fk123_6_0i, fk123_6_1r, fk123_6_1n, fk123_6_1k, fk129_7_6i, fk130_8_0i, fk130_8_2r, fk130_8_2n, fk130_8_2k, fk132_8_0i, fk132_8_1i, fk134_1_3i, fk134_8_1i, fk140_7_0r, fk140_7_0n, fk140_7_0k, fk140_7_1r, fk140_7_1n, fk140_7_1k, fk140_7_2r, fk140_7_2n, fk140_7_2k, fk141_7_0r, fk141_7_0n, fk141_7_0k, fk141_7_1r, fk141_7_1n, fk141_7_1k, fk141_7_2r, fk141_7_2n, fk141_7_2k, fk141_7_3r, fk141_7_3n, fk141_7_3k, fk143_9_0r, fk143_9_0n, fk143_9_0k, fk143_9_1b, fk143_9_1c, fk144_9_3i, fk145_9_0r, fk145_9_0n, fk145_9_0k, fk148_9_3i, fk149_9_0r, fk149_9_0n, fk149_9_0k, fk149_9_1b, fk149_9_1c, fk150_9_3i, fk151_9_3i, am_clK, am_ccK, am_gfK, am_pfK, am_iaK, am_isK, am_aaK, am_asK, am_alK, am_isC, am_rf, am_rc, decide_eq_true_eq, decide_true, List.getElem?_cons_zero, List.getElem?_cons_succ, List.length_cons, List.length_nil, List.length_set, List.length_append, List.set_cons_zero, List.set_cons_succ, g_sn, g_se, g_al, g_an, g_aq, s_al, s_an, s_aq, s_s, rv0_4, rv1_2, rv2_2, rv5_2, rv6_2, rv7_2, rv8_2, rv9_2, rv10_2, rv11_2, rv12_2, rv13_2, rv14_2, rv15_2, rv17_2, rv18_2, rv19_2, rv20_2, rv21_2, rv22_2, rv23_7, rv24_2, rv25_2, rv26_2, rv27_2, rv28_2, rv29_2, rv30_2, rv31_2, rv32_2, rv33_2, rv36_5, rv37_2, rv38_2, rv39_2, rv40_2, rv41_2, rv42_4, rv43_2, rv44_2, rv45_4, rv46_4, rv47_2, rv48_2, rv49_2, rv50_5, rv51_2, rv52_2, rv53_2, rv54_2, rv55_2, rv56_2, rv57_2, rv122_4, rv123_4, rv124_2, rv125_2, rv126_2, rv127_2, rv128_2, rv129_4, rv130_5, rv131_2, rv132_2, rv133_2, rv134_2, rv135_2, rv136_2, dft0, dft5, dft1, dft2, dft3, dft4, dft6, dft7, dft8, dft9, am_cpK, am_hK, am_copy, cpk3, e0, e14, hsc, h4']
    have e14l : 14 < h.length := by omega
    rw [sv_rot]
    refine c6_b (σ := (σ.1, σ.2.1.tail, σ.2.2)) ?_ (by show σ.2.1.tail.length < 4; rw [List.length_tail]; omega) hw (fun h' hf hr => hQ h' ?_ ?_)
    · have kp : ∀ a, a ≠ 0 → a ≠ 14 → ((h.set 14 (.inr (.inl (3, 4, fun i => if i < 4 then some ((fun i => if i = 3 then sb 0 else sb (i + 1)) i) else none)))).set 0 (.inr (.inr (0, [.ref 1, .ref 14, .int (nI 3), .ref 15, .int (nI σ.2.2.2.length), .ref 16, .ref 69]))))[a]? = h[a]? := fun a q0 q1 => by
        rw [g_sn (fun q => q0 q.symm), g_sn (fun q => q1 q.symm)]
      have he : ext h ((h.set 14 (.inr (.inl (3, 4, fun i => if i < 4 then some ((fun i => if i = 3 then sb 0 else sb (i + 1)) i) else none)))).set 0 (.inr (.inr (0, [.ref 1, .ref 14, .int (nI 3), .ref 15, .int (nI σ.2.2.2.length), .ref 16, .ref 69])))) := ext_tr (ext_set (ni2 (by omega))) (ext_set (ni2 (by omega)))
      have hsb' : ∀ i, i < 4 → (if i = 3 then sb 0 else sb (i + 1)) = 17 ∨ (if i = 3 then sb 0 else sb (i + 1)) = 30 ∨ (if i = 3 then sb 0 else sb (i + 1)) = 43 ∨ (if i = 3 then sb 0 else sb (i + 1)) = 56 := fun i hi => by
        by_cases q : i = 3
        · rw [if_pos q]; exact hsb
        · rw [if_neg q]; exact h2.1 _ (by omega)
      refine ⟨(fun i => if i = 3 then sb 0 else sb (i + 1)), tb, er, ⟨?_, ?_, ?_, ?_, ?_, by rw [List.length_set, List.length_set]; exact e84, ?_, e120⟩, ⟨hsb', fun i j hi hj => ?_⟩, ?_, fun i hi => ?_, fun i q hi => ?_, h7, h8⟩
      · have e : σ.2.1.tail.length = 3 := by rw [List.length_tail, h4]
        rw [g_se (by rw [List.length_set]; omega)]
        show _ = some (Sum.inr (Sum.inr (0, [Value.ref 1, .ref 14, .int (nI σ.2.1.tail.length), .ref 15, .int (nI σ.2.2.2.length), .ref 16, .ref 69])))
        rw [e]
      · rw [g_sn (by omega), g_se e14l]
      · rw [kp 15 (by omega) (by omega)]; exact e15
      · rw [kp 16 (by omega) (by omega)]; exact e16
      · rw [kp 69 (by omega) (by omega)]; exact e69
      · show σ.2.1.tail.length ≤ 4
        rw [List.length_tail]; omega
      · show (if i = 3 then sb 0 else sb (i + 1)) ≠ (if j = 3 then sb 0 else sb (j + 1))
        rw [if_neg (show ¬ j = 3 by omega)]
        by_cases q : i = 3
        · rw [if_pos q]; exact fun q2 => h2.2 (j + 1) 0 (by omega) (by omega) q2.symm
        · rw [if_neg q]; exact h2.2 (i + 1) (j + 1) (by omega) (by omega)
      · exact RS_fr (fun a q => q) h3 he (fun a _ _ => kp a (by omega) (by omega))
      · show ∃ n l s, SH _ (if i = 3 then sb 0 else sb (i + 1)) n l s
        have := hsb' i hi
        by_cases q : i = 3
        · rw [if_pos q] at this ⊢
          exact ⟨n, l, s, SH_fr hs (fun a ha => kp a (by omega) (by omega))⟩
        · rw [if_neg q] at this ⊢
          obtain ⟨n, l, s, hs⟩ := h5 (i + 1) (by omega)
          exact ⟨n, l, s, SH_fr hs (fun a ha => kp a (by omega) (by omega))⟩
      · have hi : σ.2.1.tail[i]? = some q := hi
        have hi2 := g_ln hi
        rw [List.length_tail] at hi2
        rw [List.getElem?_tail] at hi
        show RS imm _ (if i = 3 then sb 0 else sb (i + 1)) q
        have := hsb' i (by omega)
        rw [if_neg (by omega)] at this ⊢
        exact RS_fr (fun a q => q) (h6 (i + 1) q hi) he (fun a _ _ => kp a (by omega) (by omega))
    · refine fr_le (fr_tr (fr_set (fr_set fr_rf e14 (by rfl) (Or.inl (ni2 (by omega)))) ((g_sn (by omega)).trans e0) (by rfl) (Or.inl (ni2 (by omega)))) hf) (Nat.le_refl _)
    · have e : sg_sv σ = (σ.1, σ.2.1.tail ++ [σ.1], σ.2.2) := by unfold sg_sv; rw [if_pos h4]
      rw [e]; exact hr
  · simp (discharger := omega) only [e6_0, e6_1, e6_4, e6_5, eq_self, am_kr_s, am_kr_n, w8_nil, w8_c, w8_a, w8_0, ct_i, ct_r, ct_n, ct_k, ct_l, true_and, and_true, ↓reduceIte, Nat.reduceAdd, Nat.reduceMul, Nat.reduceSub, Nat.reduceLeDiff, Nat.reduceLT, Nat.reduceDiv, Nat.reduceMod, Nat.reduceEqDiff, ne_eq, not_false_eq_true, not_true_eq_false, reduceCtorEq, n_rem, d_le_t, d_le_f, d_lt_t, d_lt_f, d_eq_t, d_eq_f, d_eq0_t, d_eq0_f, d_gt0_t, d_gt0_f, d_le0_t, d_le0_f, i_lt0, i_ge0, i_ne1, am_in_t, i_div, i_rem, nI_add, nI_mul, nI_sub, nI_m1, nI_clamp, fk0_0_0r, fk0_0_0n, fk0_0_0k, fk0_0_1r, fk0_0_1n, fk0_0_1k, fk0_0_3r, fk0_0_3n, fk0_0_3k, fk0_0_5r, fk0_0_5n, fk0_0_5k, fk0_0_6r, fk0_0_6n, fk0_0_6k, fk6_0_2i, fk19_1_6i, fk21_0_4i, fk22_0_4i, fk23_1_7r, fk23_1_7n, fk23_1_7k, fk24_1_7r, fk24_1_7n, fk24_1_7k, fk31_0_2i, fk36_1_0r, fk36_1_0n, fk36_1_0k, fk36_1_1r, fk36_1_1n, fk36_1_1k, fk36_1_2r, fk36_1_2n, fk36_1_2k, fk36_1_4r, fk36_1_4n, fk36_1_4k, fk36_1_5r, fk36_1_5n, fk36_1_5k, fk36_1_7r, fk36_1_7n, fk36_1_7k, fk36_1_8r, fk36_1_8n, fk36_1_8k, fk37_1_3i, fk37_1_6i, fk37_1_7r, fk37_1_7n, fk37_1_7k, fk42_2_0i, fk42_2_1i, fk42_2_2r, fk42_2_2n, fk42_2_2k, fk42_2_3i, fk46_3_0i, fk46_3_1i, fk46_3_2i, fk46_3_3r, fk46_3_3n, fk46_3_3k, fk50_4_2r, fk50_4_2n, fk50_4_2k, fk51_4_0i, fk51_4_1i, fk52_4_0i, fk52_4_1i, fk54_4_0i, fk56_4_0i, fk57_4_0i, fk58_5_0r, fk58_5_0n, fk58_5_0k, fk58_5_1r, fk58_5_1n, fk58_5_1k, fk58_5_3r, fk58_5_3n, fk58_5_3k, fk58_5_4r, fk58_5_4n, fk58_5_4k, fk58_5_6r, fk58_5_6n, fk58_5_6k, fk58_5_8r, fk58_5_8n, fk58_5_8k, fk58_5_11r, fk58_5_11n, fk58_5_11k, fk58_5_13r, fk58_5_13n, fk58_5_13k, fk58_5_15r, fk58_5_15n, fk58_5_15k, fk58_5_16r, fk58_5_16n, fk58_5_16k, fk58_5_17r, fk58_5_17n, fk58_5_17k, fk58_5_20r, fk58_5_20n, fk58_5_20k, fk58_5_21r, fk58_5_21n, fk58_5_21k, fk63_5_2i, fk83_5_5i, fk84_5_5i, fk85_5_7i, fk85_5_9i, fk85_5_10i, fk86_5_7i, fk86_5_9i, fk86_5_10i, fk94_5_9i, fk94_5_10i, fk95_5_12i, fk95_5_14i, fk95_5_18i, fk95_5_19i, fk99_5_12i, fk99_5_14i, fk107_5_12i, fk107_5_14i, fk107_5_19i, fk108_5_18i, fk115_5_9i, fk115_5_22i, fk117_5_22i, fk118_5_9i, fk119_5_2i, fk123_6_0i, fk123_6_1r, fk123_6_1n, fk123_6_1k, fk129_7_6i, fk130_8_0i, fk130_8_2r, fk130_8_2n, fk130_8_2k, fk132_8_0i, fk132_8_1i, fk134_1_3i, fk134_8_1i, fk140_7_0r, fk140_7_0n, fk140_7_0k, fk140_7_1r, fk140_7_1n, fk140_7_1k, fk140_7_2r, fk140_7_2n, fk140_7_2k, fk141_7_0r, fk141_7_0n, fk141_7_0k, fk141_7_1r, fk141_7_1n, fk141_7_1k, fk141_7_2r, fk141_7_2n, fk141_7_2k, fk141_7_3r, fk141_7_3n, fk141_7_3k, fk143_9_0r, fk143_9_0n, fk143_9_0k, fk143_9_1b, fk143_9_1c, fk144_9_3i, fk145_9_0r, fk145_9_0n, fk145_9_0k, fk148_9_3i, fk149_9_0r, fk149_9_0n, fk149_9_0k, fk149_9_1b, fk149_9_1c, fk150_9_3i, fk151_9_3i, am_clK, am_ccK, am_gfK, am_pfK, am_iaK, am_isK, am_aaK, am_asK, am_alK, am_isC, am_rf, am_rc, decide_eq_true_eq, decide_true, List.getElem?_cons_zero, List.getElem?_cons_succ, List.length_cons, List.length_nil, List.length_set, List.length_append, List.set_cons_zero, List.set_cons_succ, g_sn, g_se, g_al, g_an, g_aq, s_al, s_an, s_aq, s_s, rv0_4, rv1_2, rv2_2, rv5_2, rv6_2, rv7_2, rv8_2, rv9_2, rv10_2, rv11_2, rv12_2, rv13_2, rv14_2, rv15_2, rv17_2, rv18_2, rv19_2, rv20_2, rv21_2, rv22_2, rv23_7, rv24_2, rv25_2, rv26_2, rv27_2, rv28_2, rv29_2, rv30_2, rv31_2, rv32_2, rv33_2, rv36_5, rv37_2, rv38_2, rv39_2, rv40_2, rv41_2, rv42_4, rv43_2, rv44_2, rv45_4, rv46_4, rv47_2, rv48_2, rv49_2, rv50_5, rv51_2, rv52_2, rv53_2, rv54_2, rv55_2, rv56_2, rv57_2, rv122_4, rv123_4, rv124_2, rv125_2, rv126_2, rv127_2, rv128_2, rv129_4, rv130_5, rv131_2, rv132_2, rv133_2, rv134_2, rv135_2, rv136_2, dft0, dft5, dft1, dft2, dft3, dft4, dft6, dft7, dft8, dft9, e0]
    refine c6_b hc' (by omega) hw (fun h' hf hr => hQ h' hf ?_)
    have e : sg_sv σ = (σ.1, σ.2.1 ++ [σ.1], σ.2.2) := by unfold sg_sv; rw [if_neg h4]
    rw [e]; exact hr
end CY
