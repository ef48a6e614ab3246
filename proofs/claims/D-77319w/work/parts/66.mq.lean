/-! the model's migrate -/
def rz (M : Nat → Nat) : Nat → Nat := fun i => if 179 ≤ i ∧ i < 186 then 0 else M i
def mgS (σ : sg) : mg := mgr σ.1.2 (prog σ.1.1) [] (rz σ.1.1, σ.1.1 148, 0, [])
def sp_mig (σ : sg) : Int32 × sg := (nI (mgS σ).2.2.1, sg_M (sg_sv σ) (stP (mgS σ).1 (fl (mgS σ).2.2.2)))
theorem opn_ok {T : Nat → Option Nat} {M0 : Nat → Nat} {p : List Nat} : ∀ (cs : List (Nat × Nat)) (μ : mg), wk T M0 cs p.length μ → μ.2.2.2.length = dn cs + 1 → need (pnd cs) p → wk T M0 (opn T cs μ).1 p.length (opn T cs μ).2 ∧ ((need (1 + pnd (opn T cs μ).1) p ∧ (opn T cs μ).2.2.2.2.length = dn (opn T cs μ).1) ∨ ((opn T cs μ).1 = [] ∧ p = [] ∧ (opn T cs μ).2.2.2.2.length = 1)) := by
  intro cs
  induction cs with
  | nil =>
    intro μ hk hd hn
    refine ⟨hk, Or.inr ⟨rfl, ?_, hd⟩⟩
    cases p with
    | nil => rfl
    | cons t p => exact hn.elim
  | cons q cs ih =>
    obtain ⟨t, l⟩ := q
    intro μ hk hd hn
    obtain ⟨M, total, done, ps⟩ := μ
    obtain ⟨h1, h2, h3, h4, h5, h6, h7⟩ := hk
    have h1 : wf M T := h1
    have h2 : psOk (M 116) ps := h2
    have h4 : (fl ps).length + ((t, l) :: cs).length + p.length = total := h4
    have h5 : total ≤ 30 := h5
    have hd : ps.length = ta t - l + dn cs + 1 := hd
    have hcs := h3 (t, l) List.mem_cons_self
    have hcs2 : csOk (M 116) cs := fun q hq => h3 q (List.mem_cons_of_mem _ hq)
    have htk : tOk (M 116) t := hcs.1
    have hll : 1 ≤ l ∧ l ≤ ta t := hcs.2
    have hn : need (l - 1 + pnd cs) p := hn
    rw [List.length_cons] at h4
    by_cases hl1 : l = 1
    · subst hl1
      have e : opn T ((t, 1) :: cs) (M, total, done, ps) = opn T cs ((trt T t total M ps).1, (trt T t total M ps).2.1, done + (trt T t total M ps).2.2.1, (trt T t total M ps).2.2.2) := by rw [opn, if_pos rfl]
      rw [e]
      have hto := trt_ok (rest := cs.length + p.length) h1 h2 htk (by omega) (by omega) h5
      generalize trt T t total M ps = ν at *
      obtain ⟨M', total', r, ps'⟩ := ν
      obtain ⟨g1, g2, g3, g4, g5, g6, g7, g8, g9⟩ := hto
      have g4 : ps'.length = ps.length - ta t + 1 := g4
      have g5 : (fl ps').length + (cs.length + p.length) = total' := g5
      refine ih (M', total', done + r, ps') ⟨g1, g2, csOk_mono g3 hcs2, by show (fl ps').length + cs.length + p.length = total'; omega, g6, g7.trans h6, g8.trans h7⟩ (by show ps'.length = dn cs + 1; omega) ?_
      rw [show (1 : Nat) - 1 + pnd cs = pnd cs by omega] at hn
      exact hn
    · have e : opn T ((t, l) :: cs) (M, total, done, ps) = ((t, l - 1) :: cs, (M, total, done, ps)) := by rw [opn, if_neg hl1]
      rw [e]
      refine ⟨⟨h1, h2, fun q hq => ?_, ?_, h5, h6, h7⟩, Or.inl ⟨?_, ?_⟩⟩
      · rcases List.mem_cons.mp hq with rfl | hq
        · exact ⟨htk, by show 1 ≤ l - 1; omega, by show l - 1 ≤ ta t; omega⟩
        · exact hcs2 q hq
      · show (fl ps).length + ((t, l - 1) :: cs).length + p.length = total
        rw [List.length_cons]; exact h4
      · show need (1 + (l - 1 - 1 + pnd cs)) p
        rw [show 1 + (l - 1 - 1 + pnd cs) = l - 1 + pnd cs by omega]; exact hn
      · show ps.length = ta t - (l - 1) + dn cs
        omega
section MQ2
variable {S : am_S} {d : Nat} {h : am_H} {Q : am_Out → Prop} {T : Nat → Option Nat} {M0 : Nat → Nat}
theorem m95_l (hl : 84 ≤ h.length) : ∀ (p : List Nat) (k : Nat) (cs : List (Nat × Nat)) (μ : mg) (I : Nat → Int32) (A : Nat → Nat → Int32) (a3 : Option Value), (prog M0).drop k = p → k + p.length = M0 148 → wk T M0 cs p.length μ → wkR I A T cs μ → ((need (1 + pnd cs) p ∧ μ.2.2.2.length = dn cs) ∨ (cs = [] ∧ p = [] ∧ μ.2.2.2.length = 1)) → (∀ I' A' a2 a3, (∀ j, j ≠ 12 → j ≠ 14 → j ≠ 18 → j ≠ 19 → I' j = I j) → (∀ j, j ≠ 0 → j ≠ 11 → j ≠ 13 → j ≠ 15 → j ≠ 16 → j ≠ 17 → A' j = A j) → wk T M0 [] 0 (mgr T p cs μ) → wkR I' A' T [] (mgr T p cs μ) → (mgr T p cs μ).2.2.2.length = 1 → wp S (d + 7) 95 154 [some (.ref 70), some (.int (nI (mgr T p cs μ).2.2.1)), a2, a3] [] (mst h I' A') Q) → wp S (d + 7) 95 67 [some (.ref 70), some (.int (nI μ.2.2.1)), some (.int (nI k)), a3] [] (mst h I A) Q := by
  intro p
  induction p with
  | nil =>
    intro k cs μ I A a3 hp hk hwk hr hn hQ
    have h148 := hwk.1.2.2.2.2.2.1
    have hk : k = μ.1 148 := by rw [hwk.2.2.2.2.2.2]; simpa using hk
    have hfin : cs = [] ∧ μ.2.2.2.length = 1 := by
      rcases hn with ⟨h1, h2⟩ | ⟨h1, -, h3⟩
      · rw [Nat.add_comm] at h1; exact h1.elim
      · exact ⟨h1, h3⟩
    obtain ⟨rfl, h1⟩ := hfin
    rw [e95_67]
    simp (discharger := omega) only [e95_68, e95_69, e95_72, e95_75, e95_76, mg_0, mg_1, mg_2, mg_3, mg_4, mg_5, mg_6, mg_7, mg_8, mg_9, mg_10, mg_11, mg_12, mg_13, mg_14, mg_15, mg_16, mg_17, mg_18, mg_19, mg_20, mg_21, mg_22, mp_2, mp_5, mp_7, mp_9, mp_10, mp_12, mp_14, mp_18, mp_19, mp_22, ml_0, ml_1, ml_3, ml_4, ml_6, ml_8, ml_11, ml_13, ml_15, ml_16, ml_17, ml_20, ml_21, ms_0, ms_1, ms_3, ms_4, ms_6, ms_8, ms_11, ms_13, ms_15, ms_16, ms_17, ms_20, ms_21, upm_s, upm_n, pk_us, pk_un, upd_up, seA_s, seA_n, svA_n, svI_n, n_rem, d_le_t, d_le_f, d_lt_t, d_lt_f, d_eq_t, d_eq_f, d_eq0_t, d_eq0_f, d_gt0_t, d_gt0_f, d_le0_t, d_le0_f, i_lt0, i_ge0, i_ne1, am_in_t, i_div, i_rem, nI_add, nI_mul, nI_sub, nI_m1, nI_clamp, eq_self, am_kr_s, am_kr_n, w8_nil, w8_c, w8_a, w8_0, ct_i, ct_r, ct_n, ct_k, ct_l, true_and, and_true, ↓reduceIte, Nat.reduceAdd, Nat.reduceMul, Nat.reduceSub, Nat.reduceLeDiff, Nat.reduceLT, Nat.reduceDiv, Nat.reduceMod, Nat.reduceEqDiff, ne_eq, not_false_eq_true, not_true_eq_false, reduceCtorEq, mr58_4, mr59_2, mr62_2, mr63_2, mr64_2, mr65_2, mr66_2, mr67_2, mr68_2, mr69_2, mr70_2, mr71_2, mr72_2, mr73_2, mr74_2, mr75_2, mr76_2, mr77_2, mr78_2, mr79_2, mr80_2, mr81_2, mr82_2, mr83_2, mr84_2, mr85_2, mr86_2, mr87_2, mr90_2, mr92_2, mr94_2, mr95_2, mr97_2, mr98_2, mr99_2, mr100_2, mr101_2, mr102_2, mr103_2, mr104_2, mr105_2, mr106_2, mr107_2, mr108_2, mr109_2, mr110_2, mr111_2, mr112_2, mr113_2, mr114_2, mr115_2, mr116_2, mr117_2, mr118_2, mr119_2, mr120_2, mr121_2, hr.2.1.M]
    exact hQ I A _ _ (fun _ _ _ _ _ => rfl) (fun _ _ _ _ _ _ _ => rfl) hwk hr h1
  | cons t p ih =>
    intro k cs μ I A a3 hp hk hwk hr hn hQ
    rw [List.length_cons] at hk hwk
    have h148 := hwk.1.2.2.2.2.2.1
    have e148 := hwk.2.2.2.2.2.2
    have hkl : k < μ.1 148 := by omega
    have hpa := prog_at hkl
    rw [hwk.2.2.2.2.2.1, hp] at hpa
    have ht : μ.1 (149 + k) = t := by cases hpa; rfl
    have hp2 : (prog M0).drop (k + 1) = p := by cases hpa; rfl
    have htk : tOk (μ.1 116) t := by rw [← ht]; exact hwk.1.2.2.2.2.2.2.2 _ (prog_mem hkl)
    have ht6 := tOk_lt htk
    have hta : ta t ≤ 9 := by unfold ta; omega
    obtain ⟨hn1, hn2⟩ : need (1 + pnd cs) (t :: p) ∧ μ.2.2.2.length = dn cs := by
      rcases hn with hn | ⟨-, h2, -⟩
      · exact hn
      · cases h2
    have hn1 : need (pnd cs + ta t) p := by rw [Nat.add_comm] at hn1; exact hn1
    rw [e95_67]
    obtain ⟨M, total, done, ps⟩ := μ
    obtain ⟨h1, h2, h3, h4, h5, h6, h7⟩ := hwk
    obtain ⟨⟨c1, c2, c3⟩, hM, hb, h19⟩ := hr
    have h1 : wf M T := h1
    have h2 : psOk (M 116) ps := h2
    have h3 : csOk (M 116) cs := h3
    have h4 : (fl ps).length + cs.length + (p.length + 1) = total := h4
    have h5 : total ≤ 30 := h5
    have hM : mEnc (A 0) M T := hM
    have hb : BR I A ps := hb
    have h19 : I 19 = nI total := h19
    have hn2 : ps.length = dn cs := hn2
    have ht : M (149 + k) = t := ht
    have htk : tOk (M 116) t := htk
    have hkl : k < M 148 := hkl
    have h148 : 1 ≤ M 148 ∧ M 148 ≤ 30 := h148
    by_cases ha : 0 < ta t
    · have em : mgr T (t :: p) cs (M, total, done, ps) = mgr T p ((t, ta t) :: cs) (M, total, done, ps) := by rw [mgr, if_pos ha]
      rw [em] at hQ
      simp (discharger := omega) only [e95_68, e95_69, e95_72, e95_75, e95_76, e95_79, e95_80, e95_83, e95_86, e95_87, e95_88, e95_89, e95_90, e95_91, e95_94, e95_97, e95_98, e95_101, e95_102, e95_105, e95_106, e95_107, e95_108, e95_111, e95_112, e95_115, e95_116, e95_119, e95_120, e95_121, e95_121i, e95_122, e95_125, e95_126, e95_127, e95_130, e95_133, e95_134, e95_135, e95_136, e95_139, e95_140, e95_141, e95_142, e95_143, e95_146, e95_147, e95_148, e95_151, mg_0, mg_1, mg_2, mg_3, mg_4, mg_5, mg_6, mg_7, mg_8, mg_9, mg_10, mg_11, mg_12, mg_13, mg_14, mg_15, mg_16, mg_17, mg_18, mg_19, mg_20, mg_21, mg_22, mp_2, mp_5, mp_7, mp_9, mp_10, mp_12, mp_14, mp_18, mp_19, mp_22, ml_0, ml_1, ml_3, ml_4, ml_6, ml_8, ml_11, ml_13, ml_15, ml_16, ml_17, ml_20, ml_21, ms_0, ms_1, ms_3, ms_4, ms_6, ms_8, ms_11, ms_13, ms_15, ms_16, ms_17, ms_20, ms_21, upm_s, upm_n, pk_us, pk_un, upd_up, seA_s, seA_n, svA_n, svI_n, n_rem, d_le_t, d_le_f, d_lt_t, d_lt_f, d_eq_t, d_eq_f, d_eq0_t, d_eq0_f, d_gt0_t, d_gt0_f, d_le0_t, d_le0_f, i_lt0, i_ge0, i_ne1, am_in_t, i_div, i_rem, nI_add, nI_mul, nI_sub, nI_m1, nI_clamp, eq_self, am_kr_s, am_kr_n, w8_nil, w8_c, w8_a, w8_0, ct_i, ct_r, ct_n, ct_k, ct_l, true_and, and_true, ↓reduceIte, Nat.reduceAdd, Nat.reduceMul, Nat.reduceSub, Nat.reduceLeDiff, Nat.reduceLT, Nat.reduceDiv, Nat.reduceMod, Nat.reduceEqDiff, ne_eq, not_false_eq_true, not_true_eq_false, reduceCtorEq, mr58_4, mr59_2, mr62_2, mr63_2, mr64_2, mr65_2, mr66_2, mr67_2, mr68_2, mr69_2, mr70_2, mr71_2, mr72_2, mr73_2, mr74_2, mr75_2, mr76_2, mr77_2, mr78_2, mr79_2, mr80_2, mr81_2, mr82_2, mr83_2, mr84_2, mr85_2, mr86_2, mr87_2, mr90_2, mr92_2, mr94_2, mr95_2, mr97_2, mr98_2, mr99_2, mr100_2, mr101_2, mr102_2, mr103_2, mr104_2, mr105_2, mr106_2, mr107_2, mr108_2, mr109_2, mr110_2, mr111_2, mr112_2, mr113_2, mr114_2, mr115_2, mr116_2, mr117_2, mr118_2, mr119_2, mr120_2, mr121_2, hM.M, ht, m96, c1]
      refine ih (k + 1) ((t, ta t) :: cs) (M, total, done, ps) _ _ _ hp2 (by omega) ⟨h1, h2, fun q hq => ?_, ?_, h5, h6, h7⟩ ⟨⟨?_, ⟨?_, ?_⟩, ⟨?_, ?_⟩⟩, ?_, ⟨?_, ?_, ?_, ?_⟩, ?_⟩ (Or.inl ⟨?_, ?_⟩) (fun I' A' a2 a3 f1 f2 => hQ I' A' a2 a3 (fun j q1 q2 q3 q4 => by rw [f1 j q1 q2 q3 q4, pk_un q3]) (fun j q0 q1 q2 q3 q4 q5 => by rw [f2 j q0 q1 q2 q3 q4 q5, upm_n q5, upm_n q4]))
      · rcases List.mem_cons.mp hq with rfl | hq
        · exact ⟨htk, ha, Nat.le_refl _⟩
        · exact h3 q hq
      · show (fl ps).length + ((t, ta t) :: cs).length + p.length = total
        rw [List.length_cons]; omega
      · rw [pk_us, List.length_cons]
      · show upm _ 17 _ _ 16 (cs.map (fun q => q.1)).length = nI t
        rw [upm_n (by decide), upm_s, List.length_map]; exact pk_us
      · rw [upm_n (by decide), upm_s]; exact stk_up c2 (by rw [List.length_map]; exact Nat.le_refl _)
      · show upm _ 17 _ _ 17 (cs.map (fun q => q.2)).length = nI (ta t)
        rw [upm_s, List.length_map]; exact pk_us
      · rw [upm_s]; exact stk_up (by rw [upm_n (by decide)]; exact c3) (by rw [List.length_map]; exact Nat.le_refl _)
      · rw [upm_n (by decide), upm_n (by decide)]; exact hM
      · rw [pk_un (by decide)]; exact hb.1
      · rw [pk_un (by decide)]; exact hb.2.1
      · rw [upm_n (by decide), upm_n (by decide)]; exact hb.2.2.1
      · rw [upm_n (by decide), upm_n (by decide)]; exact hb.2.2.2
      · rw [pk_un (by decide)]; exact h19
      · show need (1 + (ta t - 1 + pnd cs)) p
        rw [show 1 + (ta t - 1 + pnd cs) = pnd cs + ta t by omega]; exact hn1
      · show ps.length = ta t - ta t + dn cs
        omega
    · have ha0 : ta t = 0 := by omega
      have em : mgr T (t :: p) cs (M, total, done, ps) = mgr T p (stp T t cs (M, total, done, ps)).1 ((stp T t cs (M, total, done, ps)).2.1, (stp T t cs (M, total, done, ps)).2.2.1, done + (trt T t total M ps).2.2.1 + (stp T t cs (M, total, done, ps)).2.2.2.1, (stp T t cs (M, total, done, ps)).2.2.2.2) := by rw [mgr, if_neg ha]
      have es : stp T t cs (M, total, done, ps) = opn T cs ((trt T t total M ps).1, (trt T t total M ps).2.1, 0, (trt T t total M ps).2.2.2) := rfl
      rw [es] at em
      rw [em] at hQ
      have hto := trt_ok (rest := cs.length + p.length) h1 h2 htk (by omega) (by omega) h5
      simp (discharger := omega) only [e95_68, e95_69, e95_72, e95_75, e95_76, e95_79, e95_80, e95_83, e95_86, e95_87, e95_88, e95_89, e95_90, e95_91, e95_94, e95_97, e95_98, e95_101, e95_102, e95_105, e95_106, e95_107, e95_108, e95_111, e95_112, e95_115, e95_116, e95_119, e95_120, e95_121, e95_121i, e95_122, e95_125, e95_126, e95_127, e95_130, e95_133, e95_134, e95_135, e95_136, e97_0, e97_1, e97_2, e97_5, mg_0, mg_1, mg_2, mg_3, mg_4, mg_5, mg_6, mg_7, mg_8, mg_9, mg_10, mg_11, mg_12, mg_13, mg_14, mg_15, mg_16, mg_17, mg_18, mg_19, mg_20, mg_21, mg_22, mp_2, mp_5, mp_7, mp_9, mp_10, mp_12, mp_14, mp_18, mp_19, mp_22, ml_0, ml_1, ml_3, ml_4, ml_6, ml_8, ml_11, ml_13, ml_15, ml_16, ml_17, ml_20, ml_21, ms_0, ms_1, ms_3, ms_4, ms_6, ms_8, ms_11, ms_13, ms_15, ms_16, ms_17, ms_20, ms_21, upm_s, upm_n, pk_us, pk_un, upd_up, seA_s, seA_n, svA_n, svI_n, n_rem, d_le_t, d_le_f, d_lt_t, d_lt_f, d_eq_t, d_eq_f, d_eq0_t, d_eq0_f, d_gt0_t, d_gt0_f, d_le0_t, d_le0_f, i_lt0, i_ge0, i_ne1, am_in_t, i_div, i_rem, nI_add, nI_mul, nI_sub, nI_m1, nI_clamp, eq_self, am_kr_s, am_kr_n, w8_nil, w8_c, w8_a, w8_0, ct_i, ct_r, ct_n, ct_k, ct_l, true_and, and_true, ↓reduceIte, Nat.reduceAdd, Nat.reduceMul, Nat.reduceSub, Nat.reduceLeDiff, Nat.reduceLT, Nat.reduceDiv, Nat.reduceMod, Nat.reduceEqDiff, ne_eq, not_false_eq_true, not_true_eq_false, reduceCtorEq, mr58_4, mr59_2, mr62_2, mr63_2, mr64_2, mr65_2, mr66_2, mr67_2, mr68_2, mr69_2, mr70_2, mr71_2, mr72_2, mr73_2, mr74_2, mr75_2, mr76_2, mr77_2, mr78_2, mr79_2, mr80_2, mr81_2, mr82_2, mr83_2, mr84_2, mr85_2, mr86_2, mr87_2, mr90_2, mr92_2, mr94_2, mr95_2, mr97_2, mr98_2, mr99_2, mr100_2, mr101_2, mr102_2, mr103_2, mr104_2, mr105_2, mr106_2, mr107_2, mr108_2, mr109_2, mr110_2, mr111_2, mr112_2, mr113_2, mr114_2, mr115_2, mr116_2, mr117_2, mr118_2, mr119_2, mr120_2, mr121_2, hM.M, ht, m96]
      refine m98 hl h1 hM hb h2.1 h19 htk (by omega) (okN_len h2.2) (by omega) h5 ?_
      generalize trt T t total M ps = ν at *
      obtain ⟨M', total', r, ps'⟩ := ν
      obtain ⟨g1, g2, g3, g4, g5, g6, g7, g8, g9⟩ := hto
      have g4 : ps'.length = ps.length - ta t + 1 := g4
      have g5 : (fl ps').length + (cs.length + p.length) = total' := g5
      intro I' A' hf hM' hb' h19'
      have hwk2 : wk T M0 cs p.length (M', total', 0, ps') := ⟨g1, g2, csOk_mono g3 h3, by show (fl ps').length + cs.length + p.length = total'; omega, g6, g7.trans h6, g8.trans h7⟩
      have hd2 : ps'.length = dn cs + 1 := by omega
      rw [ha0, Nat.add_zero] at hn1
      have hop := opn_ok cs (M', total', 0, ps') hwk2 hd2 hn1
      have hwr2 : wkR I' A' T cs (M', total', 0, ps') := ⟨⟨by rw [hf.1 18 (by decide) (by decide) (by decide)]; exact c1, by rw [hf.2 16 (by decide) (by decide) (by decide) (by decide)]; exact c2, by rw [hf.2 17 (by decide) (by decide) (by decide) (by decide)]; exact c3⟩, hM', hb', h19'⟩
      show am_kr S _ _ _ _ _ _ (am_kr S _ _ _ _ _ _ Q) (Sum.inl (some (.int (nI r))), mst h I' A')
      simp (discharger := omega) only [am_kr_s, e97_0, e97_1, e97_2, e97_5, e95_139, e95_140, e95_141, e95_142, e95_143, mg_0, mg_1, mg_2, mg_3, mg_4, mg_5, mg_6, mg_7, mg_8, mg_9, mg_10, mg_11, mg_12, mg_13, mg_14, mg_15, mg_16, mg_17, mg_18, mg_19, mg_20, mg_21, mg_22, mp_2, mp_5, mp_7, mp_9, mp_10, mp_12, mp_14, mp_18, mp_19, mp_22, ml_0, ml_1, ml_3, ml_4, ml_6, ml_8, ml_11, ml_13, ml_15, ml_16, ml_17, ml_20, ml_21, ms_0, ms_1, ms_3, ms_4, ms_6, ms_8, ms_11, ms_13, ms_15, ms_16, ms_17, ms_20, ms_21, upm_s, upm_n, pk_us, pk_un, upd_up, seA_s, seA_n, svA_n, svI_n, n_rem, d_le_t, d_le_f, d_lt_t, d_lt_f, d_eq_t, d_eq_f, d_eq0_t, d_eq0_f, d_gt0_t, d_gt0_f, d_le0_t, d_le0_f, i_lt0, i_ge0, i_ne1, am_in_t, i_div, i_rem, nI_add, nI_mul, nI_sub, nI_m1, nI_clamp, eq_self, am_kr_s, am_kr_n, w8_nil, w8_c, w8_a, w8_0, ct_i, ct_r, ct_n, ct_k, ct_l, true_and, and_true, ↓reduceIte, Nat.reduceAdd, Nat.reduceMul, Nat.reduceSub, Nat.reduceLeDiff, Nat.reduceLT, Nat.reduceDiv, Nat.reduceMod, Nat.reduceEqDiff, ne_eq, not_false_eq_true, not_true_eq_false, reduceCtorEq, mr58_4, mr59_2, mr62_2, mr63_2, mr64_2, mr65_2, mr66_2, mr67_2, mr68_2, mr69_2, mr70_2, mr71_2, mr72_2, mr73_2, mr74_2, mr75_2, mr76_2, mr77_2, mr78_2, mr79_2, mr80_2, mr81_2, mr82_2, mr83_2, mr84_2, mr85_2, mr86_2, mr87_2, mr90_2, mr92_2, mr94_2, mr95_2, mr97_2, mr98_2, mr99_2, mr100_2, mr101_2, mr102_2, mr103_2, mr104_2, mr105_2, mr106_2, mr107_2, mr108_2, mr109_2, mr110_2, mr111_2, mr112_2, mr113_2, mr114_2, mr115_2, mr116_2, mr117_2, mr118_2, mr119_2, mr120_2, mr121_2]
      refine m108 hl rfl hwk2 hwr2 hd2 (fun I2 A2 hf2 hr2 => ?_)
      generalize opn T cs (M', total', 0, ps') = w at *
      obtain ⟨cs2, M2, total2, r2, ps2⟩ := w
      show am_kr S _ _ _ _ _ _ Q (Sum.inl (some (.int (nI r2))), mst h I2 A2)
      simp (discharger := omega) only [am_kr_s, e95_146, e95_147, e95_148, e95_151, mg_0, mg_1, mg_2, mg_3, mg_4, mg_5, mg_6, mg_7, mg_8, mg_9, mg_10, mg_11, mg_12, mg_13, mg_14, mg_15, mg_16, mg_17, mg_18, mg_19, mg_20, mg_21, mg_22, mp_2, mp_5, mp_7, mp_9, mp_10, mp_12, mp_14, mp_18, mp_19, mp_22, ml_0, ml_1, ml_3, ml_4, ml_6, ml_8, ml_11, ml_13, ml_15, ml_16, ml_17, ml_20, ml_21, ms_0, ms_1, ms_3, ms_4, ms_6, ms_8, ms_11, ms_13, ms_15, ms_16, ms_17, ms_20, ms_21, upm_s, upm_n, pk_us, pk_un, upd_up, seA_s, seA_n, svA_n, svI_n, n_rem, d_le_t, d_le_f, d_lt_t, d_lt_f, d_eq_t, d_eq_f, d_eq0_t, d_eq0_f, d_gt0_t, d_gt0_f, d_le0_t, d_le0_f, i_lt0, i_ge0, i_ne1, am_in_t, i_div, i_rem, nI_add, nI_mul, nI_sub, nI_m1, nI_clamp, eq_self, am_kr_s, am_kr_n, w8_nil, w8_c, w8_a, w8_0, ct_i, ct_r, ct_n, ct_k, ct_l, true_and, and_true, ↓reduceIte, Nat.reduceAdd, Nat.reduceMul, Nat.reduceSub, Nat.reduceLeDiff, Nat.reduceLT, Nat.reduceDiv, Nat.reduceMod, Nat.reduceEqDiff, ne_eq, not_false_eq_true, not_true_eq_false, reduceCtorEq, mr58_4, mr59_2, mr62_2, mr63_2, mr64_2, mr65_2, mr66_2, mr67_2, mr68_2, mr69_2, mr70_2, mr71_2, mr72_2, mr73_2, mr74_2, mr75_2, mr76_2, mr77_2, mr78_2, mr79_2, mr80_2, mr81_2, mr82_2, mr83_2, mr84_2, mr85_2, mr86_2, mr87_2, mr90_2, mr92_2, mr94_2, mr95_2, mr97_2, mr98_2, mr99_2, mr100_2, mr101_2, mr102_2, mr103_2, mr104_2, mr105_2, mr106_2, mr107_2, mr108_2, mr109_2, mr110_2, mr111_2, mr112_2, mr113_2, mr114_2, mr115_2, mr116_2, mr117_2, mr118_2, mr119_2, mr120_2, mr121_2]
      refine ih (k + 1) cs2 (M2, total2, done + r + r2, ps2) I2 A2 _ hp2 (by omega) hop.1 hr2 hop.2 (fun I3 A3 a2 a3 f1 f2 => hQ I3 A3 a2 a3 (fun j q1 q2 q3 q4 => by rw [f1 j q1 q2 q3 q4, hf2.1 j q1 q2 q3 q4, hf.1 j q1 q2 q4]) (fun j q0 q1 q2 q3 q4 q5 => by rw [f2 j q0 q1 q2 q3 q4 q5, hf2.2 j q0 q1 q2 q3 q5, hf.2 j q1 q2 q3 q0]))
end MQ2
