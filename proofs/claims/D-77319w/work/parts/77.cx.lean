/-! the component: copyFrom as a frame; save -/
section CX
variable {S : am_S} {d : Nat} {h : am_H} {Q : am_Out → Prop} {σ : sg}
theorem SV_cp {P : Nat → Prop} {h : am_H} {M : Nat → Nat} {T : Nat → Option Nat} {s s2 : sr} (hw : M 116 ≤ 4) (hv : SV P h M T s2) : SV P h M T (cpS s s2) := by
  obtain ⟨h1, h2, h3, h4, h5, h6, h7⟩ := hv
  have e : ∀ {α : Type} (f g : Nat → α) (n k : Nat), k < n → va_cpy f g 0 0 n k = f k := fun f g n k hk => by
    unfold va_cpy; rw [if_pos (by omega), Nat.zero_add, Nat.sub_zero]
  refine ⟨fun f hf => ?_, fun f hf => ?_, fun k hk => ?_, fun f hf => ?_, fun f hf => ?_, h6, fun k hk => ?_⟩
  · show ∃ a, va_cpy s2.1 s.1 0 0 6 f = some a ∧ _
    rw [e _ _ _ _ hf]; exact h1 f hf
  · show ∃ a, va_cpy s2.2.1 s.2.1 0 0 6 f = some a ∧ _
    rw [e _ _ _ _ hf]; exact h2 f hf
  · show ∃ a, va_cpy s2.2.2.1 s.2.2.1 0 0 4 k = some a ∧ _
    rw [e _ _ _ _ (by omega)]; exact h3 k hk
  · show va_cpy s2.2.2.2.1 s.2.2.2.1 0 0 6 f = _
    rw [e _ _ _ _ hf]; exact h4 f hf
  · show (T f = none → va_cpy s2.2.2.2.2.1 s.2.2.2.2.1 0 0 6 f = none) ∧ ∀ t, T f = some t → ∃ a, va_cpy s2.2.2.2.2.1 s.2.2.2.2.1 0 0 6 f = some a ∧ _
    rw [e _ _ _ _ hf]; exact h5 f hf
  · show va_cpy s2.2.2.2.2.2.2 s.2.2.2.2.2.2 0 0 8 (k + 1) = _
    rw [e _ _ _ _ (by omega)]; exact h7 k hk
theorem isC_at {h : am_H} {a c : Nat} {fs : List Value} (hq : h[a]? = some (.inr (.inr (c, fs)))) : am_isC h a c = true := by
  unfold am_isC; rw [hq]; exact decide_eq_true rfl
theorem slots_eq : ∀ (h h' : am_H), h'.length = h.length → (∀ (a : Nat) c c', h[a]? = some c → h'[a]? = some c' → am_csz c' = am_csz c) → am_slots h' = am_slots h := by
  intro h
  induction h with
  | nil => intro h' hl _; rw [List.eq_nil_of_length_eq_zero hl]
  | cons c h ih =>
    intro h' hl hq
    cases h' with
    | nil => cases hl
    | cons c' h' =>
      have h1 := ih h' (by simpa using hl) (fun a x x' q r => hq (a + 1) x x' q r)
      have h2 := hq 0 c c' rfl rfl
      unfold am_slots at h1 ⊢
      rw [List.map_cons, List.map_cons, List.sum_cons, List.sum_cons, h1, h2]
/-- copyFrom as a frame: the State at b then holds what the one at b2 holds -/
theorem c37f {P : Nat → Prop} {b b2 n l : Nat} {s : sr} {q : sg_S} (hP : ∀ a, P a → imm a) (hib : isB b) (h1 : SH h b n l s) (h2 : RS P h b2 q) (hb : b2 + 13 ≤ b ∨ b + 13 ≤ b2) (hw : q.1 116 ≤ 4) (hQ : ∀ h', frC h h' 0 → h'.length = h.length → (∀ a, a ≠ b → a ≠ b + 1 → a ≠ b + 2 → a ≠ b + 3 → a ≠ b + 4 → a ≠ b + 5 → a ≠ b + 8 → h'[a]? = h[a]?) → RS P h' b q → Q (.inl none, h')) : wp S (d + 1) 37 0 [some (.ref b), some (.ref b2)] [] h Q := by
  obtain ⟨s2, h2, hv⟩ := h2
  refine c37 h1 h2 hb (fun h' hl hf hs => ?_)
  have he : ext h h' := fun a c hi hq => by
    rw [hf a (fun q => ni_b hib (by omega) hi) (fun q => ni_b hib (a := a) (by omega) hi) (fun q => ni_b hib (a := a) (by omega) hi) (fun q => ni_b hib (a := a) (by omega) hi) (fun q => ni_b hib (a := a) (by omega) hi) (fun q => ni_b hib (a := a) (by omega) hi) (fun q => ni_b hib (a := a) (by omega) hi)]; exact hq
  refine hQ h' ⟨he, by omega, ?_⟩ hl hf ⟨_, hs, SV_mn (mn_ext hP he) (SV_cp hw hv)⟩
  unfold wt
  rw [hl, slots_eq h h' hl (fun a c c' q r => ?_)]
  · exact Nat.le_refl _
  · obtain ⟨a0, a1, a2, a3, a4, a5, a8⟩ := h1
    obtain ⟨e0, e1, e2, e3, e4, e5, e8⟩ := hs
    by_cases q0 : a = b
    · subst q0; rw [a0] at q; rw [e0] at r; cases q; cases r; rfl
    · by_cases q1 : a = b + 1
      · subst q1; rw [a1] at q; rw [e1] at r; cases q; cases r; rfl
      · by_cases q2 : a = b + 2
        · subst q2; rw [a2] at q; rw [e2] at r; cases q; cases r; rfl
        · by_cases q3 : a = b + 3
          · subst q3; rw [a3] at q; rw [e3] at r; cases q; cases r; rfl
          · by_cases q4 : a = b + 4
            · subst q4; rw [a4] at q; rw [e4] at r; cases q; cases r; rfl
            · by_cases q5 : a = b + 5
              · subst q5; rw [a5] at q; rw [e5] at r; cases q; cases r; rfl
              · by_cases q8 : a = b + 8
                · subst q8; rw [a8] at q; rw [e8] at r; cases q; cases r; rfl
                · rw [hf a q0 q1 q2 q3 q4 q5 q8, q] at r
                  cases r; rfl
theorem RS_fr {P : Nat → Prop} {h h' : am_H} {b : Nat} {q : sg_S} (hP : ∀ a, P a → imm a) (hr : RS P h b q) (he : ext h h') (hq : ∀ a, b ≤ a → a < b + 9 → h'[a]? = h[a]?) : RS P h' b q := by
  obtain ⟨s, s1, s2⟩ := hr
  exact ⟨s, SH_fr s1 (fun a ha => hq a (by omega) (by omega)), SV_mn (mn_ext hP he) s2⟩
theorem c6_b (hc : CR imm h σ) (h4 : σ.2.1.length < 4) (hw : σ.1.1 116 ≤ 4) {a1 : Option Value} (hQ : ∀ h', frC h h' 0 → CR imm h' (σ.1, σ.2.1 ++ [σ.1], σ.2.2) → Q (.inl none, h')) : wp S (d + 2) 6 46 [some (.ref 0), a1] [] h Q := by
  obtain ⟨sb, tb, er, ⟨e0, e14, e15, e16, e69, e84, -, e120⟩, h2, h3, h5, h6, h7, h8⟩ := hc
  obtain ⟨n, l, s, hs⟩ := h5 _ h4
  have hsb := h2.1 _ h4
  have hsc := hs.1
  simp (discharger := omega) only [e6_46, e6_47, e6_50, e6_51, e6_54, e6_55, e6_56, e6_59, eq_self, am_kr_s, am_kr_n, w8_nil, w8_c, w8_a, w8_0, ct_i, ct_r, ct_n, ct_k, ct_l, true_and, and_true, ↓reduceIte, Nat.reduceAdd, Nat.reduceMul, Nat.reduceSub, Nat.reduceLeDiff, Nat.reduceLT, Nat.reduceDiv, Nat.reduceMod, Nat.reduceEqDiff, ne_eq, not_false_eq_true, not_true_eq_false, reduceCtorEq, n_rem, d_le_t, d_le_f, d_lt_t, d_lt_f, d_eq_t, d_eq_f, d_eq0_t, d_eq0_f, d_gt0_t, d_gt0_f, d_le0_t, d_le0_f, i_lt0, i_ge0, i_ne1, am_in_t, i_div, i_rem, nI_add, nI_mul, nI_sub, nI_m1, nI_clamp, fk0_0_0r, fk0_0_0n, fk0_0_0k, fk0_0_1r, fk0_0_1n, fk0_0_1k, fk0_0_3r, fk0_0_3n, fk0_0_3k, fk0_0_5r, fk0_0_5n, fk0_0_5k, fk0_0_6r, fk0_0_6n, fk0_0_6k, fk6_0_2i, fk19_1_6i, fk21_0_4i, fk22_0_4i, fk23_1_7r, fk23_1_7n, fk23_1_7k, fk24_1_7r, fk24_1_7n, fk24_1_7k, fk31_0_2i, fk36_1_0r, fk36_1_0n, fk36_1_0k, fk36_1_1r, fk36_1_1n, fk36_1_1k, fk36_1_2r, fk36_1_2n, fk36_1_2k, fk36_1_4r, fk36_1_4n, fk36_1_4k, fk36_1_5r, fk36_1_5n, fk36_1_5k, fk36_1_7r, fk36_1_7n, fk36_1_7k, fk36_1_8r, fk36_1_8n, fk36_1_8k, fk37_1_3i, fk37_1_6i, fk37_1_7r, fk37_1_7n, fk37_1_7k, fk42_2_0i, fk42_2_1i, fk42_2_2r, fk42_2_2n, fk42_2_2k, fk42_2_3i, fk46_3_0i, fk46_3_1i, fk46_3_2i, fk46_3_3r, fk46_3_3n, fk46_3_3k, fk50_4_2r, fk50_4_2n, fk50_4_2k, fk51_4_0i, fk51_4_1i, fk52_4_0i, fk52_4_1i, fk54_4_0i, fk56_4_0i, fk57_4_0i, fk58_5_0r, fk58_5_0n, fk58_5_0k, fk58_5_1r, fk58_5_1n, fk58_5_1k, fk58_5_3r, fk58_5_3n, fk58_5_3k, fk58_5_4r, fk58_5_4n, fk58_5_4k, fk58_5_6r, fk58_5_6n, fk58_5_6k, fk58_5_8r, fk58_5_8n, fk58_5_8k, fk58_5_11r, fk58_5_11n, fk58_5_11k, fk58_5_13r, fk58_5_13n, fk58_5_13k, fk58_5_15r, fk58_5_15n, fk58_5_15k, fk58_5_16r, fk58_5_16n, fk58_5_16k, fk58_5_17r, fk58_5_17n, fk58_5_17k, fk58_5_20r, fk58_5_20n, fk58_5_20k, fk58_5_21r, fk58_5_21n, fk58_5_21k, fk63_5_2i, fk83_5_5i, fk84_5_5i, fk85_5_7i, fk85_5_9i, fk85_5_10i, fk86_5_7i, fk86_5_9i, fk86_5_10i, fk94_5_9i, fk94_5_10i, fk95_5_12i, fk95_5_14i, fk95_5_18i, fk95_5_19i, fk99_5_12i, fk99_5_14i, fk107_5_12i, fk107_5_14i, fk107_5_19i, fk108_5_18i, fk115_5_9i, fk115_5_22i, fk117_5_22i, fk118_5_9i, fk119_5_2i, fk123_6_0i, fk123_6_1r, fk123_6_1n, fk123_6_1k, fk129_7_6i, fk130_8_0i, fk130_8_2r, fk130_8_2n, fk130_8_2k, fk132_8_0i, fk132_8_1i, fk134_1_3i, fk134_8_1i, fk140_7_0r, fk140_7_0n, fk140_7_0k, fk140_7_1r, fk140_7_1n, fk140_7_1k, fk140_7_2r, fk140_7_2n, fk140_7_2k, fk141_7_0r, fk141_7_0n, fk141_7_0k, fk141_7_1r, fk141_7_1n, fk141_7_1k, fk141_7_2r, fk141_7_2n, fk141_7_2k, fk141_7_3r, fk141_7_3n, fk141_7_3k, fk143_9_0r, fk143_9_0n, fk143_9_0k, fk143_9_1b, fk143_9_1c, fk144_9_3i, fk145_9_0r, fk145_9_0n, fk145_9_0k, fk148_9_3i, fk149_9_0r, fk149_9_0n, fk149_9_0k, fk149_9_1b, fk149_9_1c, fk150_9_3i, fk151_9_3i, am_clK, am_ccK, am_gfK, am_pfK, am_iaK, am_isK, am_aaK, am_asK, am_alK, am_isC, am_rf, am_rc, decide_eq_true_eq, decide_true, List.getElem?_cons_zero, List.getElem?_cons_succ, List.length_cons, List.length_nil, List.length_set, List.length_append, List.set_cons_zero, List.set_cons_succ, g_sn, g_se, g_al, g_an, g_aq, s_al, s_an, s_aq, s_s, rv0_4, rv1_2, rv2_2, rv5_2, rv6_2, rv7_2, rv8_2, rv9_2, rv10_2, rv11_2, rv12_2, rv13_2, rv14_2, rv15_2, rv17_2, rv18_2, rv19_2, rv20_2, rv21_2, rv22_2, rv23_7, rv24_2, rv25_2, rv26_2, rv27_2, rv28_2, rv29_2, rv30_2, rv31_2, rv32_2, rv33_2, rv36_5, rv37_2, rv38_2, rv39_2, rv40_2, rv41_2, rv42_4, rv43_2, rv44_2, rv45_4, rv46_4, rv47_2, rv48_2, rv49_2, rv50_5, rv51_2, rv52_2, rv53_2, rv54_2, rv55_2, rv56_2, rv57_2, rv122_4, rv123_4, rv124_2, rv125_2, rv126_2, rv127_2, rv128_2, rv129_4, rv130_5, rv131_2, rv132_2, rv133_2, rv134_2, rv135_2, rv136_2, dft0, dft5, dft1, dft2, dft3, dft4, dft6, dft7, dft8, dft9, e0, e14, hsc, am_kr_n, h4]
  refine c37f (fun a q => q) (by unfold isB; omega) hs h3 (by omega) hw (fun h' hf hl hk hr => ?_)
  have e0' : h'[0]? = _ := (hk 0 (by omega) (by omega) (by omega) (by omega) (by omega) (by omega) (by omega)).trans e0
  simp (discharger := omega) only [e6_62, e6_63, e6_63i, e6_64, e6_67, e6_68, e6_69, e6_72, eq_self, am_kr_s, am_kr_n, w8_nil, w8_c, w8_a, w8_0, ct_i, ct_r, ct_n, ct_k, ct_l, true_and, and_true, ↓reduceIte, Nat.reduceAdd, Nat.reduceMul, Nat.reduceSub, Nat.reduceLeDiff, Nat.reduceLT, Nat.reduceDiv, Nat.reduceMod, Nat.reduceEqDiff, ne_eq, not_false_eq_true, not_true_eq_false, reduceCtorEq, n_rem, d_le_t, d_le_f, d_lt_t, d_lt_f, d_eq_t, d_eq_f, d_eq0_t, d_eq0_f, d_gt0_t, d_gt0_f, d_le0_t, d_le0_f, i_lt0, i_ge0, i_ne1, am_in_t, i_div, i_rem, nI_add, nI_mul, nI_sub, nI_m1, nI_clamp, fk0_0_0r, fk0_0_0n, fk0_0_0k, fk0_0_1r, fk0_0_1n, fk0_0_1k, fk0_0_3r, fk0_0_3n, fk0_0_3k, fk0_0_5r, fk0_0_5n, fk0_0_5k, fk0_0_6r, fk0_0_6n, fk0_0_6k, fk6_0_2i, fk19_1_6i, fk21_0_4i, fk22_0_4i, fk23_1_7r, fk23_1_7n, fk23_1_7k, fk24_1_7r, fk24_1_7n, fk24_1_7k, fk31_0_2i, fk36_1_0r, fk36_1_0n, fk36_1_0k, fk36_1_1r, fk36_1_1n, fk36_1_1k, fk36_1_2r, fk36_1_2n, fk36_1_2k, fk36_1_4r, fk36_1_4n, fk36_1_4k, fk36_1_5r, fk36_1_5n, fk36_1_5k, fk36_1_7r, fk36_1_7n, fk36_1_7k, fk36_1_8r, fk36_1_8n, fk36_1_8k, fk37_1_3i, fk37_1_6i, fk37_1_7r, fk37_1_7n, fk37_1_7k, fk42_2_0i, fk42_2_1i, fk42_2_2r, fk42_2_2n, fk42_2_2k, fk42_2_3i, fk46_3_0i, fk46_3_1i, fk46_3_2i, fk46_3_3r, fk46_3_3n, fk46_3_3k, fk50_4_2r, fk50_4_2n, fk50_4_2k, fk51_4_0i, fk51_4_1i, fk52_4_0i, fk52_4_1i, fk54_4_0i, fk56_4_0i, fk57_4_0i, fk58_5_0r, fk58_5_0n, fk58_5_0k, fk58_5_1r, fk58_5_1n, fk58_5_1k, fk58_5_3r, fk58_5_3n, fk58_5_3k, fk58_5_4r, fk58_5_4n, fk58_5_4k, fk58_5_6r, fk58_5_6n, fk58_5_6k, fk58_5_8r, fk58_5_8n, fk58_5_8k, fk58_5_11r, fk58_5_11n, fk58_5_11k, fk58_5_13r, fk58_5_13n, fk58_5_13k, fk58_5_15r, fk58_5_15n, fk58_5_15k, fk58_5_16r, fk58_5_16n, fk58_5_16k, fk58_5_17r, fk58_5_17n, fk58_5_17k, fk58_5_20r, fk58_5_20n, fk58_5_20k, fk58_5_21r, fk58_5_21n, fk58_5_21k, fk63_5_2i, fk83_5_5i, fk84_5_5i, fk85_5_7i, fk85_5_9i, fk85_5_10i, fk86_5_7i, fk86_5_9i, fk86_5_10i, fk94_5_9i, fk94_5_10i, fk95_5_12i, fk95_5_14i, fk95_5_18i, fk95_5_19i, fk99_5_12i, fk99_5_14i, fk107_5_12i, fk107_5_14i, fk107_5_19i, fk108_5_18i, fk115_5_9i, fk115_5_22i, fk117_5_22i, fk118_5_9i, fk119_5_2i, fk123_6_0i, fk123_6_1r, fk123_6_1n, fk123_6_1k, fk129_7_6i, fk130_8_0i, fk130_8_2r, fk130_8_2n, fk130_8_2k, fk132_8_0i, fk132_8_1i, fk134_1_3i, fk134_8_1i, fk140_7_0r, fk140_7_0n, fk140_7_0k, fk140_7_1r, fk140_7_1n, fk140_7_1k, fk140_7_2r, fk140_7_2n, fk140_7_2k, fk141_7_0r, fk141_7_0n, fk141_7_0k, fk141_7_1r, fk141_7_1n, fk141_7_1k, fk141_7_2r, fk141_7_2n, fk141_7_2k, fk141_7_3r, fk141_7_3n, fk141_7_3k, fk143_9_0r, fk143_9_0n, fk143_9_0k, fk143_9_1b, fk143_9_1c, fk144_9_3i, fk145_9_0r, fk145_9_0n, fk145_9_0k, fk148_9_3i, fk149_9_0r, fk149_9_0n, fk149_9_0k, fk149_9_1b, fk149_9_1c, fk150_9_3i, fk151_9_3i, am_clK, am_ccK, am_gfK, am_pfK, am_iaK, am_isK, am_aaK, am_asK, am_alK, am_isC, am_rf, am_rc, decide_eq_true_eq, decide_true, List.getElem?_cons_zero, List.getElem?_cons_succ, List.length_cons, List.length_nil, List.length_set, List.length_append, List.set_cons_zero, List.set_cons_succ, g_sn, g_se, g_al, g_an, g_aq, s_al, s_an, s_aq, s_s, rv0_4, rv1_2, rv2_2, rv5_2, rv6_2, rv7_2, rv8_2, rv9_2, rv10_2, rv11_2, rv12_2, rv13_2, rv14_2, rv15_2, rv17_2, rv18_2, rv19_2, rv20_2, rv21_2, rv22_2, rv23_7, rv24_2, rv25_2, rv26_2, rv27_2, rv28_2, rv29_2, rv30_2, rv31_2, rv32_2, rv33_2, rv36_5, rv37_2, rv38_2, rv39_2, rv40_2, rv41_2, rv42_4, rv43_2, rv44_2, rv45_4, rv46_4, rv47_2, rv48_2, rv49_2, rv50_5, rv51_2, rv52_2, rv53_2, rv54_2, rv55_2, rv56_2, rv57_2, rv122_4, rv123_4, rv124_2, rv125_2, rv126_2, rv127_2, rv128_2, rv129_4, rv130_5, rv131_2, rv132_2, rv133_2, rv134_2, rv135_2, rv136_2, dft0, dft5, dft1, dft2, dft3, dft4, dft6, dft7, dft8, dft9, e0', am_kr_n]
  refine hQ _ (fr_set hf e0' rfl (Or.inl (ni2 (by omega)))) ?_
  have kp : ∀ a, a ≠ 0 → (∀ b, b = sb σ.2.1.length → a < b ∨ b + 9 ≤ a) → (h'.set 0 (.inr (.inr (0, [.ref 1, .ref 14, .int (nI (σ.2.1.length + 1)), .ref 15, .int (nI σ.2.2.2.length), .ref 16, .ref 69]))))[a]? = h[a]? := fun a q0 q1 => by
    have := q1 _ rfl
    rw [g_sn (fun q => q0 q.symm)]
    exact hk a (by omega) (by omega) (by omega) (by omega) (by omega) (by omega) (by omega)
  have he : ext h' (h'.set 0 (.inr (.inr (0, [.ref 1, .ref 14, .int (nI (σ.2.1.length + 1)), .ref 15, .int (nI σ.2.2.2.length), .ref 16, .ref 69])))) := ext_set (ni2 (by omega))
  refine ⟨sb, tb, er, ⟨?_, ?_, ?_, ?_, ?_, by rw [List.length_set, hl]; exact e84, ?_, e120⟩, h2, ?_, fun i hi => ?_, fun i q hi => ?_, h7, h8⟩
  · rw [g_se (by omega), List.length_append, List.length_singleton]
  · rw [kp 14 (by omega) (fun b hb => by omega)]; exact e14
  · rw [kp 15 (by omega) (fun b hb => by omega)]; exact e15
  · rw [kp 16 (by omega) (fun b hb => by omega)]; exact e16
  · rw [kp 69 (by omega) (fun b hb => by omega)]; exact e69
  · rw [List.length_append, List.length_singleton]; omega
  · refine RS_fr (fun a q => q) h3 (ext_tr hf.1 he) (fun a _ _ => kp a (by omega) (fun b hb => by omega))
  · by_cases q : i = σ.2.1.length
    · subst q
      obtain ⟨s2, s3, -⟩ := hr
      exact ⟨_, _, s2, SH_fr s3 (fun a ha => g_sn (by omega))⟩
    · obtain ⟨n, l, s, hs⟩ := h5 i hi
      refine ⟨n, l, s, SH_fr hs (fun a ha => kp a (by have := h2.1 i hi; omega) (fun b hb => ?_))⟩
      have := h2.1 i hi
      have := h2.2 i σ.2.1.length hi
      have := h2.2 σ.2.1.length i h4
      omega
  · by_cases q1 : i = σ.2.1.length
    · subst q1
      rw [List.getElem?_append_right (Nat.le_refl _), Nat.sub_self] at hi
      cases hi
      exact RS_fr (fun a q => q) hr he (fun a _ _ => g_sn (by omega))
    · have hi2 := g_ln hi
      rw [List.length_append, List.length_singleton] at hi2
      rw [List.getElem?_append_left (by omega)] at hi
      have hi4 : i < 4 := by omega
      refine RS_fr (fun a q => q) (h6 i q hi) (ext_tr hf.1 he) (fun a _ _ => kp a (by have := h2.1 i hi4; omega) (fun b hb => ?_))
      have := h2.1 i hi4
      have := h2.2 i σ.2.1.length hi4
      have := h2.2 σ.2.1.length i h4
      omega
end CX
