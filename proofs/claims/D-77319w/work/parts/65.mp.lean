/-! the model's treatsOpen -/
def CS (I : Nat → Int32) (A : Nat → Nat → Int32) (cs : List (Nat × Nat)) : Prop := I 18 = nI cs.length ∧ stk (A 16) (cs.map (fun q => q.1)) ∧ stk (A 17) (cs.map (fun q => q.2))
def frO (I : Nat → Int32) (A : Nat → Nat → Int32) (I' : Nat → Int32) (A' : Nat → Nat → Int32) : Prop := (∀ j, j ≠ 12 → j ≠ 14 → j ≠ 18 → j ≠ 19 → I' j = I j) ∧ ∀ j, j ≠ 0 → j ≠ 11 → j ≠ 13 → j ≠ 15 → j ≠ 17 → A' j = A j
/-- the walk's state is fine: cs the open calls, rest the nodes that are not read -/
def wk (T : Nat → Option Nat) (M0 : Nat → Nat) (cs : List (Nat × Nat)) (rest : Nat) (μ : mg) : Prop := wf μ.1 T ∧ psOk (μ.1 116) μ.2.2.2 ∧ csOk (μ.1 116) cs ∧ (fl μ.2.2.2).length + cs.length + rest = μ.2.1 ∧ μ.2.1 ≤ 30 ∧ prog μ.1 = prog M0 ∧ μ.1 148 = M0 148
/-- the model holds the walk's state -/
def wkR (I : Nat → Int32) (A : Nat → Nat → Int32) (T : Nat → Option Nat) (cs : List (Nat × Nat)) (μ : mg) : Prop := CS I A cs ∧ mEnc (A 0) μ.1 T ∧ BR I A μ.2.2.2 ∧ I 19 = nI μ.2.1
theorem csOk_mono {m m' : Nat} {cs : List (Nat × Nat)} (h : m ≤ m') (hc : csOk m cs) : csOk m' cs := fun q hq => ⟨tOk_mono h (hc q hq).1, (hc q hq).2⟩
section MPO
variable {S : am_S} {d : Nat} {h : am_H} {Q : am_Out → Prop} {T : Nat → Option Nat} {M0 : Nat → Nat}
theorem m108_l (hl : 84 ≤ h.length) {rest : Nat} : ∀ (cs : List (Nat × Nat)) (μ : mg) (I : Nat → Int32) (A : Nat → Nat → Int32), wk T M0 cs rest μ → wkR I A T cs μ → μ.2.2.2.length = dn cs + 1 → (∀ I' A', frO I A I' A' → wkR I' A' T (opn T cs μ).1 (opn T cs μ).2 → Q (.inl (some (.int (nI (opn T cs μ).2.2.2.1))), mst h I' A')) → wp S (d + 5) 108 15 [some (.ref 70), some (.int (nI μ.2.2.1)), some (.int (nI (if cs = [] then 0 else 1)))] [] (mst h I A) Q := by
  intro cs
  induction cs with
  | nil =>
    intro μ I A hk hr hd hQ
    rw [if_pos rfl]
    simp (discharger := omega) only [e108_15, e108_16, e108_100, e108_101, mg_0, mg_1, mg_2, mg_3, mg_4, mg_5, mg_6, mg_7, mg_8, mg_9, mg_10, mg_11, mg_12, mg_13, mg_14, mg_15, mg_16, mg_17, mg_18, mg_19, mg_20, mg_21, mg_22, mp_2, mp_5, mp_7, mp_9, mp_10, mp_12, mp_14, mp_18, mp_19, mp_22, ml_0, ml_1, ml_3, ml_4, ml_6, ml_8, ml_11, ml_13, ml_15, ml_16, ml_17, ml_20, ml_21, ms_0, ms_1, ms_3, ms_4, ms_6, ms_8, ms_11, ms_13, ms_15, ms_16, ms_17, ms_20, ms_21, upm_s, upm_n, pk_us, pk_un, upd_up, seA_s, seA_n, svA_n, svI_n, n_rem, d_le_t, d_le_f, d_lt_t, d_lt_f, d_eq_t, d_eq_f, d_eq0_t, d_eq0_f, d_gt0_t, d_gt0_f, d_le0_t, d_le0_f, i_lt0, i_ge0, i_ne1, am_in_t, i_div, i_rem, nI_add, nI_mul, nI_sub, nI_m1, nI_clamp, eq_self, am_kr_s, am_kr_n, w8_nil, w8_c, w8_a, w8_0, ct_i, ct_r, ct_n, ct_k, ct_l, true_and, and_true, ↓reduceIte, Nat.reduceAdd, Nat.reduceMul, Nat.reduceSub, Nat.reduceLeDiff, Nat.reduceLT, Nat.reduceDiv, Nat.reduceMod, Nat.reduceEqDiff, ne_eq, not_false_eq_true, not_true_eq_false, reduceCtorEq, mr58_4, mr59_2, mr62_2, mr63_2, mr64_2, mr65_2, mr66_2, mr67_2, mr68_2, mr69_2, mr70_2, mr71_2, mr72_2, mr73_2, mr74_2, mr75_2, mr76_2, mr77_2, mr78_2, mr79_2, mr80_2, mr81_2, mr82_2, mr83_2, mr84_2, mr85_2, mr86_2, mr87_2, mr90_2, mr92_2, mr94_2, mr95_2, mr97_2, mr98_2, mr99_2, mr100_2, mr101_2, mr102_2, mr103_2, mr104_2, mr105_2, mr106_2, mr107_2, mr108_2, mr109_2, mr110_2, mr111_2, mr112_2, mr113_2, mr114_2, mr115_2, mr116_2, mr117_2, mr118_2, mr119_2, mr120_2, mr121_2]
    exact hQ I A ⟨fun _ _ _ _ _ => rfl, fun _ _ _ _ _ _ => rfl⟩ hr
  | cons q cs ih =>
    obtain ⟨t, l⟩ := q
    intro μ I A hk hr hd hQ
    obtain ⟨M, total, done, ps⟩ := μ
    obtain ⟨h1, h2, h3, h4, h5, h6, h7⟩ := hk
    obtain ⟨⟨c1, c2, c3⟩, hM, hb, h19⟩ := hr
    have h1 : wf M T := h1
    have h2 : psOk (M 116) ps := h2
    have h4 : (fl ps).length + ((t, l) :: cs).length + rest = total := h4
    have h5 : total ≤ 30 := h5
    have hM : mEnc (A 0) M T := hM
    have hb : BR I A ps := hb
    have h19 : I 19 = nI total := h19
    have hd : ps.length = ta t - l + dn cs + 1 := hd
    have hcs := h3 (t, l) List.mem_cons_self
    have hcs2 : csOk (M 116) cs := fun q hq => h3 q (List.mem_cons_of_mem _ hq)
    have htk : tOk (M 116) t := hcs.1
    have hll : 1 ≤ l ∧ l ≤ ta t := hcs.2
    have hta : ta t ≤ 9 := by unfold ta; omega
    rw [List.length_cons] at h4 c1
    have c3a : A 17 cs.length = nI l := by have := c3.1; rw [List.length_map] at this; exact this
    have c2a : A 16 cs.length = nI t := by have := c2.1; rw [List.length_map] at this; exact this
    have c3b : stk (A 17) (cs.map (fun q => q.2)) := c3.2
    have c2b : stk (A 16) (cs.map (fun q => q.1)) := c2.2
    rw [if_neg (by simp)]
    rw [e108_15]
    by_cases hl1 : l = 1
    · subst hl1
      have e : opn T ((t, 1) :: cs) (M, total, done, ps) = opn T cs ((trt T t total M ps).1, (trt T t total M ps).2.1, done + (trt T t total M ps).2.2.1, (trt T t total M ps).2.2.2) := by rw [opn, if_pos rfl]
      rw [e] at hQ
      have hto := trt_ok (rest := cs.length + rest) h1 h2 htk (by omega) (by omega) h5
      have hbx : BR (upd I 18 (nI cs.length)) (upm A 17 cs.length (nI 0)) ps := ⟨by rw [pk_un (by decide)]; exact hb.1, by rw [pk_un (by decide)]; exact hb.2.1, by rw [upm_n (by decide)]; exact hb.2.2.1, by rw [upm_n (by decide)]; exact hb.2.2.2⟩
      simp (discharger := omega) only [e108_16, e108_19, e108_20, e108_23, e108_24, e108_27, e108_28, e108_29, e108_30, e108_31, e108_32, e108_33, e108_34, e108_35, e108_38, e108_39, e108_42, e108_43, e108_44, e108_45, e108_48, e108_49, e108_52, e108_53, e108_54, e108_55, e108_58, e108_59, e108_59i, e108_60, e108_63, e108_64, e108_65, e108_68, e108_69, e108_70, e108_71, e108_74, e108_75, e108_78, e108_79, mg_0, mg_1, mg_2, mg_3, mg_4, mg_5, mg_6, mg_7, mg_8, mg_9, mg_10, mg_11, mg_12, mg_13, mg_14, mg_15, mg_16, mg_17, mg_18, mg_19, mg_20, mg_21, mg_22, mp_2, mp_5, mp_7, mp_9, mp_10, mp_12, mp_14, mp_18, mp_19, mp_22, ml_0, ml_1, ml_3, ml_4, ml_6, ml_8, ml_11, ml_13, ml_15, ml_16, ml_17, ml_20, ml_21, ms_0, ms_1, ms_3, ms_4, ms_6, ms_8, ms_11, ms_13, ms_15, ms_16, ms_17, ms_20, ms_21, upm_s, upm_n, pk_us, pk_un, upd_up, seA_s, seA_n, svA_n, svI_n, n_rem, d_le_t, d_le_f, d_lt_t, d_lt_f, d_eq_t, d_eq_f, d_eq0_t, d_eq0_f, d_gt0_t, d_gt0_f, d_le0_t, d_le0_f, i_lt0, i_ge0, i_ne1, am_in_t, i_div, i_rem, nI_add, nI_mul, nI_sub, nI_m1, nI_clamp, eq_self, am_kr_s, am_kr_n, w8_nil, w8_c, w8_a, w8_0, ct_i, ct_r, ct_n, ct_k, ct_l, true_and, and_true, ↓reduceIte, Nat.reduceAdd, Nat.reduceMul, Nat.reduceSub, Nat.reduceLeDiff, Nat.reduceLT, Nat.reduceDiv, Nat.reduceMod, Nat.reduceEqDiff, ne_eq, not_false_eq_true, not_true_eq_false, reduceCtorEq, mr58_4, mr59_2, mr62_2, mr63_2, mr64_2, mr65_2, mr66_2, mr67_2, mr68_2, mr69_2, mr70_2, mr71_2, mr72_2, mr73_2, mr74_2, mr75_2, mr76_2, mr77_2, mr78_2, mr79_2, mr80_2, mr81_2, mr82_2, mr83_2, mr84_2, mr85_2, mr86_2, mr87_2, mr90_2, mr92_2, mr94_2, mr95_2, mr97_2, mr98_2, mr99_2, mr100_2, mr101_2, mr102_2, mr103_2, mr104_2, mr105_2, mr106_2, mr107_2, mr108_2, mr109_2, mr110_2, mr111_2, mr112_2, mr113_2, mr114_2, mr115_2, mr116_2, mr117_2, mr118_2, mr119_2, mr120_2, mr121_2, c1, Nat.add_sub_cancel, c3a, c2a]
      refine m98 hl h1 (by rw [upm_n (by decide)]; exact hM) hbx h2.1 (by rw [pk_un (by decide)]; exact h19) htk (by omega) (okN_len h2.2) (by omega) h5 ?_
      generalize trt T t total M ps = ν at *
      obtain ⟨M', total', r, ps'⟩ := ν
      obtain ⟨g1, g2, g3, g4, g5, g6, g7, g8, g9⟩ := hto
      intro I' A' hf hM' hb' h19'
      have g1 : wf M' T := g1
      have g2 : psOk (M' 116) ps' := g2
      have g4 : ps'.length = ps.length - ta t + 1 := g4
      have g5 : (fl ps').length + (cs.length + rest) = total' := g5
      have g9 : r ≤ 1 := g9
      have i18 : I' 18 = nI cs.length := by rw [hf.1 18 (by decide) (by decide) (by decide)]; exact pk_us
      have hfo : frO I A I' A' := ⟨fun j q1 q2 q3 q4 => by rw [hf.1 j q1 q2 q4, pk_un q3], fun j q1 q2 q3 q4 q5 => by rw [hf.2 j q2 q3 q4 q1, upm_n q5]⟩
      have hwk : wk T M0 cs rest (M', total', done + r, ps') := ⟨g1, g2, csOk_mono g3 hcs2, by show (fl ps').length + cs.length + rest = total'; omega, g6, g7.trans h6, g8.trans h7⟩
      have hwr : wkR I' A' T cs (M', total', done + r, ps') := by
        refine ⟨⟨i18, ?_, ?_⟩, hM', hb', h19'⟩
        · rw [hf.2 16 (by decide) (by decide) (by decide) (by decide), upm_n (by decide)]; exact c2b
        · rw [hf.2 17 (by decide) (by decide) (by decide) (by decide), upm_s]; exact stk_up c3b (by rw [List.length_map]; exact Nat.le_refl _)
      have hnext := ih (M', total', done + r, ps') I' A' hwk hwr (by show ps'.length = dn cs + 1; omega) (fun I2 A2 hf2 hr2 => hQ I2 A2 ⟨fun j q1 q2 q3 q4 => by rw [hf2.1 j q1 q2 q3 q4, hfo.1 j q1 q2 q3 q4], fun j q1 q2 q3 q4 q5 => by rw [hf2.2 j q1 q2 q3 q4 q5, hfo.2 j q1 q2 q3 q4 q5]⟩ hr2)
      have hnext : wp S (d + 5) 108 15 [some (.ref 70), some (.int (nI (done + r))), some (.int (nI (if cs = [] then 0 else 1)))] [] (mst h I' A') Q := hnext
      show am_kr S _ _ _ _ _ _ Q (Sum.inl (some (.int (nI r))), mst h I' A')
      by_cases hc0 : cs = []
      · rw [if_pos hc0] at hnext
        have hc1 : cs.length = 0 := by rw [hc0]; rfl
        rw [hc1] at i18
        simp (discharger := omega) only [am_kr_s, e108_82, e108_83, e108_84, e108_85, e108_88, e108_91, e108_92, e108_95, e108_96, e108_97, mg_0, mg_1, mg_2, mg_3, mg_4, mg_5, mg_6, mg_7, mg_8, mg_9, mg_10, mg_11, mg_12, mg_13, mg_14, mg_15, mg_16, mg_17, mg_18, mg_19, mg_20, mg_21, mg_22, mp_2, mp_5, mp_7, mp_9, mp_10, mp_12, mp_14, mp_18, mp_19, mp_22, ml_0, ml_1, ml_3, ml_4, ml_6, ml_8, ml_11, ml_13, ml_15, ml_16, ml_17, ml_20, ml_21, ms_0, ms_1, ms_3, ms_4, ms_6, ms_8, ms_11, ms_13, ms_15, ms_16, ms_17, ms_20, ms_21, upm_s, upm_n, pk_us, pk_un, upd_up, seA_s, seA_n, svA_n, svI_n, n_rem, d_le_t, d_le_f, d_lt_t, d_lt_f, d_eq_t, d_eq_f, d_eq0_t, d_eq0_f, d_gt0_t, d_gt0_f, d_le0_t, d_le0_f, i_lt0, i_ge0, i_ne1, am_in_t, i_div, i_rem, nI_add, nI_mul, nI_sub, nI_m1, nI_clamp, eq_self, am_kr_s, am_kr_n, w8_nil, w8_c, w8_a, w8_0, ct_i, ct_r, ct_n, ct_k, ct_l, true_and, and_true, ↓reduceIte, Nat.reduceAdd, Nat.reduceMul, Nat.reduceSub, Nat.reduceLeDiff, Nat.reduceLT, Nat.reduceDiv, Nat.reduceMod, Nat.reduceEqDiff, ne_eq, not_false_eq_true, not_true_eq_false, reduceCtorEq, mr58_4, mr59_2, mr62_2, mr63_2, mr64_2, mr65_2, mr66_2, mr67_2, mr68_2, mr69_2, mr70_2, mr71_2, mr72_2, mr73_2, mr74_2, mr75_2, mr76_2, mr77_2, mr78_2, mr79_2, mr80_2, mr81_2, mr82_2, mr83_2, mr84_2, mr85_2, mr86_2, mr87_2, mr90_2, mr92_2, mr94_2, mr95_2, mr97_2, mr98_2, mr99_2, mr100_2, mr101_2, mr102_2, mr103_2, mr104_2, mr105_2, mr106_2, mr107_2, mr108_2, mr109_2, mr110_2, mr111_2, mr112_2, mr113_2, mr114_2, mr115_2, mr116_2, mr117_2, mr118_2, mr119_2, mr120_2, mr121_2, i18]
        exact hnext
      · rw [if_neg hc0] at hnext
        have hc1 : 0 < cs.length := List.length_pos_iff.mpr hc0
        simp (discharger := omega) only [am_kr_s, e108_82, e108_83, e108_84, e108_85, e108_88, e108_91, e108_92, e108_95, e108_96, e108_97, mg_0, mg_1, mg_2, mg_3, mg_4, mg_5, mg_6, mg_7, mg_8, mg_9, mg_10, mg_11, mg_12, mg_13, mg_14, mg_15, mg_16, mg_17, mg_18, mg_19, mg_20, mg_21, mg_22, mp_2, mp_5, mp_7, mp_9, mp_10, mp_12, mp_14, mp_18, mp_19, mp_22, ml_0, ml_1, ml_3, ml_4, ml_6, ml_8, ml_11, ml_13, ml_15, ml_16, ml_17, ml_20, ml_21, ms_0, ms_1, ms_3, ms_4, ms_6, ms_8, ms_11, ms_13, ms_15, ms_16, ms_17, ms_20, ms_21, upm_s, upm_n, pk_us, pk_un, upd_up, seA_s, seA_n, svA_n, svI_n, n_rem, d_le_t, d_le_f, d_lt_t, d_lt_f, d_eq_t, d_eq_f, d_eq0_t, d_eq0_f, d_gt0_t, d_gt0_f, d_le0_t, d_le0_f, i_lt0, i_ge0, i_ne1, am_in_t, i_div, i_rem, nI_add, nI_mul, nI_sub, nI_m1, nI_clamp, eq_self, am_kr_s, am_kr_n, w8_nil, w8_c, w8_a, w8_0, ct_i, ct_r, ct_n, ct_k, ct_l, true_and, and_true, ↓reduceIte, Nat.reduceAdd, Nat.reduceMul, Nat.reduceSub, Nat.reduceLeDiff, Nat.reduceLT, Nat.reduceDiv, Nat.reduceMod, Nat.reduceEqDiff, ne_eq, not_false_eq_true, not_true_eq_false, reduceCtorEq, mr58_4, mr59_2, mr62_2, mr63_2, mr64_2, mr65_2, mr66_2, mr67_2, mr68_2, mr69_2, mr70_2, mr71_2, mr72_2, mr73_2, mr74_2, mr75_2, mr76_2, mr77_2, mr78_2, mr79_2, mr80_2, mr81_2, mr82_2, mr83_2, mr84_2, mr85_2, mr86_2, mr87_2, mr90_2, mr92_2, mr94_2, mr95_2, mr97_2, mr98_2, mr99_2, mr100_2, mr101_2, mr102_2, mr103_2, mr104_2, mr105_2, mr106_2, mr107_2, mr108_2, mr109_2, mr110_2, mr111_2, mr112_2, mr113_2, mr114_2, mr115_2, mr116_2, mr117_2, mr118_2, mr119_2, mr120_2, mr121_2, i18]
        exact hnext
    · have e : opn T ((t, l) :: cs) (M, total, done, ps) = ((t, l - 1) :: cs, (M, total, done, ps)) := by rw [opn, if_neg hl1]
      rw [e] at hQ
      simp (discharger := omega) only [e108_16, e108_19, e108_20, e108_23, e108_24, e108_27, e108_28, e108_29, e108_30, e108_31, e108_32, e108_33, e108_34, e108_35, e108_38, e108_39, e108_42, e108_43, e108_44, e108_45, e108_48, e108_49, e108_52, e108_53, e108_54, e108_55, mg_0, mg_1, mg_2, mg_3, mg_4, mg_5, mg_6, mg_7, mg_8, mg_9, mg_10, mg_11, mg_12, mg_13, mg_14, mg_15, mg_16, mg_17, mg_18, mg_19, mg_20, mg_21, mg_22, mp_2, mp_5, mp_7, mp_9, mp_10, mp_12, mp_14, mp_18, mp_19, mp_22, ml_0, ml_1, ml_3, ml_4, ml_6, ml_8, ml_11, ml_13, ml_15, ml_16, ml_17, ml_20, ml_21, ms_0, ms_1, ms_3, ms_4, ms_6, ms_8, ms_11, ms_13, ms_15, ms_16, ms_17, ms_20, ms_21, upm_s, upm_n, pk_us, pk_un, upd_up, seA_s, seA_n, svA_n, svI_n, n_rem, d_le_t, d_le_f, d_lt_t, d_lt_f, d_eq_t, d_eq_f, d_eq0_t, d_eq0_f, d_gt0_t, d_gt0_f, d_le0_t, d_le0_f, i_lt0, i_ge0, i_ne1, am_in_t, i_div, i_rem, nI_add, nI_mul, nI_sub, nI_m1, nI_clamp, eq_self, am_kr_s, am_kr_n, w8_nil, w8_c, w8_a, w8_0, ct_i, ct_r, ct_n, ct_k, ct_l, true_and, and_true, ↓reduceIte, Nat.reduceAdd, Nat.reduceMul, Nat.reduceSub, Nat.reduceLeDiff, Nat.reduceLT, Nat.reduceDiv, Nat.reduceMod, Nat.reduceEqDiff, ne_eq, not_false_eq_true, not_true_eq_false, reduceCtorEq, mr58_4, mr59_2, mr62_2, mr63_2, mr64_2, mr65_2, mr66_2, mr67_2, mr68_2, mr69_2, mr70_2, mr71_2, mr72_2, mr73_2, mr74_2, mr75_2, mr76_2, mr77_2, mr78_2, mr79_2, mr80_2, mr81_2, mr82_2, mr83_2, mr84_2, mr85_2, mr86_2, mr87_2, mr90_2, mr92_2, mr94_2, mr95_2, mr97_2, mr98_2, mr99_2, mr100_2, mr101_2, mr102_2, mr103_2, mr104_2, mr105_2, mr106_2, mr107_2, mr108_2, mr109_2, mr110_2, mr111_2, mr112_2, mr113_2, mr114_2, mr115_2, mr116_2, mr117_2, mr118_2, mr119_2, mr120_2, mr121_2, c1, Nat.add_sub_cancel, c3a, c2a]
      rw [e108_15]
      simp (discharger := omega) only [e108_16, e108_100, e108_101, mg_0, mg_1, mg_2, mg_3, mg_4, mg_5, mg_6, mg_7, mg_8, mg_9, mg_10, mg_11, mg_12, mg_13, mg_14, mg_15, mg_16, mg_17, mg_18, mg_19, mg_20, mg_21, mg_22, mp_2, mp_5, mp_7, mp_9, mp_10, mp_12, mp_14, mp_18, mp_19, mp_22, ml_0, ml_1, ml_3, ml_4, ml_6, ml_8, ml_11, ml_13, ml_15, ml_16, ml_17, ml_20, ml_21, ms_0, ms_1, ms_3, ms_4, ms_6, ms_8, ms_11, ms_13, ms_15, ms_16, ms_17, ms_20, ms_21, upm_s, upm_n, pk_us, pk_un, upd_up, seA_s, seA_n, svA_n, svI_n, n_rem, d_le_t, d_le_f, d_lt_t, d_lt_f, d_eq_t, d_eq_f, d_eq0_t, d_eq0_f, d_gt0_t, d_gt0_f, d_le0_t, d_le0_f, i_lt0, i_ge0, i_ne1, am_in_t, i_div, i_rem, nI_add, nI_mul, nI_sub, nI_m1, nI_clamp, eq_self, am_kr_s, am_kr_n, w8_nil, w8_c, w8_a, w8_0, ct_i, ct_r, ct_n, ct_k, ct_l, true_and, and_true, ↓reduceIte, Nat.reduceAdd, Nat.reduceMul, Nat.reduceSub, Nat.reduceLeDiff, Nat.reduceLT, Nat.reduceDiv, Nat.reduceMod, Nat.reduceEqDiff, ne_eq, not_false_eq_true, not_true_eq_false, reduceCtorEq, mr58_4, mr59_2, mr62_2, mr63_2, mr64_2, mr65_2, mr66_2, mr67_2, mr68_2, mr69_2, mr70_2, mr71_2, mr72_2, mr73_2, mr74_2, mr75_2, mr76_2, mr77_2, mr78_2, mr79_2, mr80_2, mr81_2, mr82_2, mr83_2, mr84_2, mr85_2, mr86_2, mr87_2, mr90_2, mr92_2, mr94_2, mr95_2, mr97_2, mr98_2, mr99_2, mr100_2, mr101_2, mr102_2, mr103_2, mr104_2, mr105_2, mr106_2, mr107_2, mr108_2, mr109_2, mr110_2, mr111_2, mr112_2, mr113_2, mr114_2, mr115_2, mr116_2, mr117_2, mr118_2, mr119_2, mr120_2, mr121_2]
      refine hQ _ _ ⟨fun _ _ _ _ _ => rfl, fun j q1 q2 q3 q4 q5 => upm_n q5⟩ ⟨⟨?_, ?_, ?_, ?_⟩, ?_, ?_, h19⟩
      · rw [List.length_cons]; exact c1
      · rw [upm_n (by decide)]; exact c2
      · show upm A 17 cs.length (nI (l - 1)) 17 (cs.map (fun q => q.2)).length = nI (l - 1)
        rw [upm_s, List.length_map]; exact pk_us
      · rw [upm_s]; exact stk_up c3b (by rw [List.length_map]; exact Nat.le_refl _)
      · rw [upm_n (by decide)]; exact hM
      · exact ⟨hb.1, hb.2.1, by rw [upm_n (by decide)]; exact hb.2.2.1, by rw [upm_n (by decide)]; exact hb.2.2.2⟩
theorem m108 (hl : 84 ≤ h.length) {rest : Nat} {cs : List (Nat × Nat)} {μ : mg} {I : Nat → Int32} {A : Nat → Nat → Int32} (h0 : μ.2.2.1 = 0) (hk : wk T M0 cs rest μ) (hr : wkR I A T cs μ) (hd : μ.2.2.2.length = dn cs + 1) (hQ : ∀ I' A', frO I A I' A' → wkR I' A' T (opn T cs μ).1 (opn T cs μ).2 → Q (.inl (some (.int (nI (opn T cs μ).2.2.2.1))), mst h I' A')) : wp S (d + 5) 108 0 [some (.ref 70), none, none] [] (mst h I A) Q := by
  have h1 := m108_l (S := S) (d := d) (Q := Q) hl cs μ I A hk hr hd hQ
  have c1 := hr.1.1
  have h30 := hk.2.2.2.1
  have h31 := hk.2.2.2.2.1
  rw [h0] at h1
  by_cases hc0 : cs = []
  · rw [if_pos hc0] at h1
    have hc1 : cs.length = 0 := by rw [hc0]; rfl
    rw [hc1] at c1
    simp (discharger := omega) only [e108_0, e108_1, e108_2, e108_3, e108_6, e108_9, e108_10, e108_13, e108_14, mg_0, mg_1, mg_2, mg_3, mg_4, mg_5, mg_6, mg_7, mg_8, mg_9, mg_10, mg_11, mg_12, mg_13, mg_14, mg_15, mg_16, mg_17, mg_18, mg_19, mg_20, mg_21, mg_22, mp_2, mp_5, mp_7, mp_9, mp_10, mp_12, mp_14, mp_18, mp_19, mp_22, ml_0, ml_1, ml_3, ml_4, ml_6, ml_8, ml_11, ml_13, ml_15, ml_16, ml_17, ml_20, ml_21, ms_0, ms_1, ms_3, ms_4, ms_6, ms_8, ms_11, ms_13, ms_15, ms_16, ms_17, ms_20, ms_21, upm_s, upm_n, pk_us, pk_un, upd_up, seA_s, seA_n, svA_n, svI_n, n_rem, d_le_t, d_le_f, d_lt_t, d_lt_f, d_eq_t, d_eq_f, d_eq0_t, d_eq0_f, d_gt0_t, d_gt0_f, d_le0_t, d_le0_f, i_lt0, i_ge0, i_ne1, am_in_t, i_div, i_rem, nI_add, nI_mul, nI_sub, nI_m1, nI_clamp, eq_self, am_kr_s, am_kr_n, w8_nil, w8_c, w8_a, w8_0, ct_i, ct_r, ct_n, ct_k, ct_l, true_and, and_true, ↓reduceIte, Nat.reduceAdd, Nat.reduceMul, Nat.reduceSub, Nat.reduceLeDiff, Nat.reduceLT, Nat.reduceDiv, Nat.reduceMod, Nat.reduceEqDiff, ne_eq, not_false_eq_true, not_true_eq_false, reduceCtorEq, mr58_4, mr59_2, mr62_2, mr63_2, mr64_2, mr65_2, mr66_2, mr67_2, mr68_2, mr69_2, mr70_2, mr71_2, mr72_2, mr73_2, mr74_2, mr75_2, mr76_2, mr77_2, mr78_2, mr79_2, mr80_2, mr81_2, mr82_2, mr83_2, mr84_2, mr85_2, mr86_2, mr87_2, mr90_2, mr92_2, mr94_2, mr95_2, mr97_2, mr98_2, mr99_2, mr100_2, mr101_2, mr102_2, mr103_2, mr104_2, mr105_2, mr106_2, mr107_2, mr108_2, mr109_2, mr110_2, mr111_2, mr112_2, mr113_2, mr114_2, mr115_2, mr116_2, mr117_2, mr118_2, mr119_2, mr120_2, mr121_2, c1]
    exact h1
  · rw [if_neg hc0] at h1
    have hc1 : 0 < cs.length := List.length_pos_iff.mpr hc0
    simp (discharger := omega) only [e108_0, e108_1, e108_2, e108_3, e108_6, e108_9, e108_10, e108_13, e108_14, mg_0, mg_1, mg_2, mg_3, mg_4, mg_5, mg_6, mg_7, mg_8, mg_9, mg_10, mg_11, mg_12, mg_13, mg_14, mg_15, mg_16, mg_17, mg_18, mg_19, mg_20, mg_21, mg_22, mp_2, mp_5, mp_7, mp_9, mp_10, mp_12, mp_14, mp_18, mp_19, mp_22, ml_0, ml_1, ml_3, ml_4, ml_6, ml_8, ml_11, ml_13, ml_15, ml_16, ml_17, ml_20, ml_21, ms_0, ms_1, ms_3, ms_4, ms_6, ms_8, ms_11, ms_13, ms_15, ms_16, ms_17, ms_20, ms_21, upm_s, upm_n, pk_us, pk_un, upd_up, seA_s, seA_n, svA_n, svI_n, n_rem, d_le_t, d_le_f, d_lt_t, d_lt_f, d_eq_t, d_eq_f, d_eq0_t, d_eq0_f, d_gt0_t, d_gt0_f, d_le0_t, d_le0_f, i_lt0, i_ge0, i_ne1, am_in_t, i_div, i_rem, nI_add, nI_mul, nI_sub, nI_m1, nI_clamp, eq_self, am_kr_s, am_kr_n, w8_nil, w8_c, w8_a, w8_0, ct_i, ct_r, ct_n, ct_k, ct_l, true_and, and_true, ↓reduceIte, Nat.reduceAdd, Nat.reduceMul, Nat.reduceSub, Nat.reduceLeDiff, Nat.reduceLT, Nat.reduceDiv, Nat.reduceMod, Nat.reduceEqDiff, ne_eq, not_false_eq_true, not_true_eq_false, reduceCtorEq, mr58_4, mr59_2, mr62_2, mr63_2, mr64_2, mr65_2, mr66_2, mr67_2, mr68_2, mr69_2, mr70_2, mr71_2, mr72_2, mr73_2, mr74_2, mr75_2, mr76_2, mr77_2, mr78_2, mr79_2, mr80_2, mr81_2, mr82_2, mr83_2, mr84_2, mr85_2, mr86_2, mr87_2, mr90_2, mr92_2, mr94_2, mr95_2, mr97_2, mr98_2, mr99_2, mr100_2, mr101_2, mr102_2, mr103_2, mr104_2, mr105_2, mr106_2, mr107_2, mr108_2, mr109_2, mr110_2, mr111_2, mr112_2, mr113_2, mr114_2, mr115_2, mr116_2, mr117_2, mr118_2, mr119_2, mr120_2, mr121_2, c1]
    exact h1
end MPO
