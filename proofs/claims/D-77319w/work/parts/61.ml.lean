/-! migration: becomesNew -/
def bn (M : Nat → Nat) (o n : Nat) (ps : List (List Nat)) : Nat → List Nat
  | 0 => []
  | k + 1 => bn M o n ps k ++ (if M (117 + 5 * o + 1 + k) < 100 then arg n ps (M (117 + 5 * o + 1 + k)) else [10 * (M (117 + 5 * o + 1 + k) - 100)])
theorem bn_len {M : Nat → Nat} {o n : Nat} {ps : List (List Nat)} : ∀ k, (bn M o n ps k).length = szT M o n ps k := by
  intro k
  induction k with
  | zero => rfl
  | succ k ih =>
    have e : szT M o n ps (k + 1) = szT M o n ps k + if M (117 + 5 * o + 1 + k) < 100 then (arg n ps (M (117 + 5 * o + 1 + k))).length else 1 := rfl
    rw [bn, List.length_append, ih, e]
    split <;> rfl
theorem szT_mono {M : Nat → Nat} {o n : Nat} {ps : List (List Nat)} : ∀ m k, szT M o n ps k ≤ szT M o n ps (k + m) := by
  intro m
  induction m with
  | zero => intro k; exact Nat.le_refl _
  | succ m ih =>
    intro k
    have e : szT M o n ps (k + m + 1) = szT M o n ps (k + m) + if M (117 + 5 * o + 1 + (k + m)) < 100 then (arg n ps (M (117 + 5 * o + 1 + (k + m)))).length else 1 := rfl
    have := ih k
    rw [← Nat.add_assoc, e]; omega
def nwP (M : Nat → Nat) (o tt n : Nat) (ps : List (List Nat)) : List Nat := (40000 + 10 * tt + M (42 + 7 * tt)) :: bn M o n ps (M (42 + 7 * tt))
section ML
variable {S : am_S} {d : Nat} {h : am_H} {Q : am_Out → Prop} {I : Nat → Int32} {A : Nat → Nat → Int32} {M : Nat → Nat} {T : Nat → Option Nat} {ps : List (List Nat)} {o t tt n total : Nat}
theorem m107_i (hl : 84 ≤ h.length) {b hi : Nat} {a1 a2 a5 : Option Value} {fr e : Nat} (hb : b = fr + e + 1) (hb2 : b ≤ 30) (hh : hi ≤ 30) : ∀ (suf : List Nat) (j : Nat) (acc : List Nat) (A : Nat → Nat → Int32), j + suf.length = hi → A 13 b = nI hi → (∀ q x, suf[q]? = some x → A 11 (j + q) = nI x) → outR (A 15) acc → acc.length + suf.length ≤ 30 → (∀ A', (∀ i, i ≠ 15 → A' i = A i) → outR (A' 15) (acc ++ suf) → wp S d 107 165 [some (.ref 70), a1, a2, some (.int (nI fr)), some (.int (nI (acc ++ suf).length)), a5, some (.int (nI e)), some (.int (nI hi))] [] (mst h I A') Q) → wp S d 107 126 [some (.ref 70), a1, a2, some (.int (nI fr)), some (.int (nI acc.length)), a5, some (.int (nI e)), some (.int (nI j))] [] (mst h I A) Q := by
  intro suf
  subst hb
  induction suf with
  | nil =>
    intro j acc A hj h13 h11 hout hlen hq
    have hj : j = hi := by simpa using hj
    subst hj
    rw [List.append_nil] at hq
    simp (discharger := omega) only [e107_126, e107_128, e107_129, e107_132, e107_133, e107_135, e107_136, e107_137, e107_138, e107_139, mg_0, mg_1, mg_2, mg_3, mg_4, mg_5, mg_6, mg_7, mg_8, mg_9, mg_10, mg_11, mg_12, mg_13, mg_14, mg_15, mg_16, mg_17, mg_18, mg_19, mg_20, mg_21, mg_22, mp_2, mp_5, mp_7, mp_9, mp_10, mp_12, mp_14, mp_18, mp_19, mp_22, ml_0, ml_1, ml_3, ml_4, ml_6, ml_8, ml_11, ml_13, ml_15, ml_16, ml_17, ml_20, ml_21, ms_0, ms_1, ms_3, ms_4, ms_6, ms_8, ms_11, ms_13, ms_15, ms_16, ms_17, ms_20, ms_21, upm_s, upm_n, pk_us, pk_un, upd_up, seA_s, seA_n, svA_n, svI_n, n_rem, d_le_t, d_le_f, d_lt_t, d_lt_f, d_eq_t, d_eq_f, d_eq0_t, d_eq0_f, d_gt0_t, d_gt0_f, d_le0_t, d_le0_f, i_lt0, i_ge0, i_ne1, am_in_t, i_div, i_rem, nI_add, nI_mul, nI_sub, nI_m1, nI_clamp, eq_self, am_kr_s, am_kr_n, w8_nil, w8_c, w8_a, w8_0, ct_i, ct_r, ct_n, ct_k, ct_l, true_and, and_true, ↓reduceIte, Nat.reduceAdd, Nat.reduceMul, Nat.reduceSub, Nat.reduceLeDiff, Nat.reduceLT, Nat.reduceDiv, Nat.reduceMod, Nat.reduceEqDiff, ne_eq, not_false_eq_true, not_true_eq_false, reduceCtorEq, mr58_4, mr59_2, mr62_2, mr63_2, mr64_2, mr65_2, mr66_2, mr67_2, mr68_2, mr69_2, mr70_2, mr71_2, mr72_2, mr73_2, mr74_2, mr75_2, mr76_2, mr77_2, mr78_2, mr79_2, mr80_2, mr81_2, mr82_2, mr83_2, mr84_2, mr85_2, mr86_2, mr87_2, mr90_2, mr92_2, mr94_2, mr95_2, mr97_2, mr98_2, mr99_2, mr100_2, mr101_2, mr102_2, mr103_2, mr104_2, mr105_2, mr106_2, mr107_2, mr108_2, mr109_2, mr110_2, mr111_2, mr112_2, mr113_2, mr114_2, mr115_2, mr116_2, mr117_2, mr118_2, mr119_2, mr120_2, mr121_2, h13]
    exact hq A (fun _ _ => rfl) hout
  | cons x suf ih =>
    intro j acc A hj h13 h11 hout hlen hq
    rw [List.length_cons] at hj hlen
    have e0 : A 11 j = nI x := h11 0 x rfl
    rw [e107_126]
    simp (discharger := omega) only [e107_128, e107_129, e107_132, e107_133, e107_135, e107_136, e107_137, e107_138, e107_139, e107_142, e107_143, e107_146, e107_148, e107_149, e107_152, e107_154, e107_155, e107_156, e107_159, e107_162, mg_0, mg_1, mg_2, mg_3, mg_4, mg_5, mg_6, mg_7, mg_8, mg_9, mg_10, mg_11, mg_12, mg_13, mg_14, mg_15, mg_16, mg_17, mg_18, mg_19, mg_20, mg_21, mg_22, mp_2, mp_5, mp_7, mp_9, mp_10, mp_12, mp_14, mp_18, mp_19, mp_22, ml_0, ml_1, ml_3, ml_4, ml_6, ml_8, ml_11, ml_13, ml_15, ml_16, ml_17, ml_20, ml_21, ms_0, ms_1, ms_3, ms_4, ms_6, ms_8, ms_11, ms_13, ms_15, ms_16, ms_17, ms_20, ms_21, upm_s, upm_n, pk_us, pk_un, upd_up, seA_s, seA_n, svA_n, svI_n, n_rem, d_le_t, d_le_f, d_lt_t, d_lt_f, d_eq_t, d_eq_f, d_eq0_t, d_eq0_f, d_gt0_t, d_gt0_f, d_le0_t, d_le0_f, i_lt0, i_ge0, i_ne1, am_in_t, i_div, i_rem, nI_add, nI_mul, nI_sub, nI_m1, nI_clamp, eq_self, am_kr_s, am_kr_n, w8_nil, w8_c, w8_a, w8_0, ct_i, ct_r, ct_n, ct_k, ct_l, true_and, and_true, ↓reduceIte, Nat.reduceAdd, Nat.reduceMul, Nat.reduceSub, Nat.reduceLeDiff, Nat.reduceLT, Nat.reduceDiv, Nat.reduceMod, Nat.reduceEqDiff, ne_eq, not_false_eq_true, not_true_eq_false, reduceCtorEq, mr58_4, mr59_2, mr62_2, mr63_2, mr64_2, mr65_2, mr66_2, mr67_2, mr68_2, mr69_2, mr70_2, mr71_2, mr72_2, mr73_2, mr74_2, mr75_2, mr76_2, mr77_2, mr78_2, mr79_2, mr80_2, mr81_2, mr82_2, mr83_2, mr84_2, mr85_2, mr86_2, mr87_2, mr90_2, mr92_2, mr94_2, mr95_2, mr97_2, mr98_2, mr99_2, mr100_2, mr101_2, mr102_2, mr103_2, mr104_2, mr105_2, mr106_2, mr107_2, mr108_2, mr109_2, mr110_2, mr111_2, mr112_2, mr113_2, mr114_2, mr115_2, mr116_2, mr117_2, mr118_2, mr119_2, mr120_2, mr121_2, h13, e0]
    have h1 := ih (j + 1) (acc ++ [x]) (upm A 15 acc.length (nI x)) (by omega) (by rw [upm_n (by decide)]; exact h13) (fun q y hy => by rw [upm_n (by decide), Nat.add_assoc, Nat.add_comm 1 q]; exact h11 (q + 1) y hy) (by rw [upm_s]; exact outR_up hout) (by rw [List.length_append, List.length_singleton]; omega) (fun A' hA' ho' => by
      rw [List.append_assoc] at ho' ⊢
      exact hq A' (fun i hi => by rw [hA' i hi, upm_n hi]) ho')
    rw [List.length_append, List.length_singleton] at h1
    exact h1
theorem m107_k (hl : 84 ≤ h.length) {m st : Nat} {a1 a2 a3 a7 : Option Value} (hm : st + m ≤ 30) : ∀ r k A, k + r = m → wp S d 107 182 [some (.ref 70), a1, a2, a3, some (.int (nI m)), some (.int (nI st)), some (.int (nI k)), a7] [] (mst h I A) Q = wp S d 107 212 [some (.ref 70), a1, a2, a3, some (.int (nI m)), some (.int (nI st)), some (.int (nI m)), a7] [] (mst h I (seA A 11 (fun j => if st + k ≤ j ∧ j < st + m then A 15 (j - st) else A 11 j))) Q := by
  intro r
  induction r with
  | zero =>
    intro k A hk
    have hk : k = m := by omega
    subst hk
    rw [seA_id (fun i => if_neg (by omega))]
    simp (discharger := omega) only [e107_182, e107_184, e107_186, mg_0, mg_1, mg_2, mg_3, mg_4, mg_5, mg_6, mg_7, mg_8, mg_9, mg_10, mg_11, mg_12, mg_13, mg_14, mg_15, mg_16, mg_17, mg_18, mg_19, mg_20, mg_21, mg_22, mp_2, mp_5, mp_7, mp_9, mp_10, mp_12, mp_14, mp_18, mp_19, mp_22, ml_0, ml_1, ml_3, ml_4, ml_6, ml_8, ml_11, ml_13, ml_15, ml_16, ml_17, ml_20, ml_21, ms_0, ms_1, ms_3, ms_4, ms_6, ms_8, ms_11, ms_13, ms_15, ms_16, ms_17, ms_20, ms_21, upm_s, upm_n, pk_us, pk_un, upd_up, seA_s, seA_n, svA_n, svI_n, n_rem, d_le_t, d_le_f, d_lt_t, d_lt_f, d_eq_t, d_eq_f, d_eq0_t, d_eq0_f, d_gt0_t, d_gt0_f, d_le0_t, d_le0_f, i_lt0, i_ge0, i_ne1, am_in_t, i_div, i_rem, nI_add, nI_mul, nI_sub, nI_m1, nI_clamp, eq_self, am_kr_s, am_kr_n, w8_nil, w8_c, w8_a, w8_0, ct_i, ct_r, ct_n, ct_k, ct_l, true_and, and_true, ↓reduceIte, Nat.reduceAdd, Nat.reduceMul, Nat.reduceSub, Nat.reduceLeDiff, Nat.reduceLT, Nat.reduceDiv, Nat.reduceMod, Nat.reduceEqDiff, ne_eq, not_false_eq_true, not_true_eq_false, reduceCtorEq]
  | succ r ih =>
    intro k A hk
    rw [e107_182]
    simp (discharger := omega) only [e107_184, e107_186, e107_189, e107_190, e107_193, e107_195, e107_197, e107_198, e107_199, e107_202, e107_204, e107_205, e107_206, e107_209, mg_0, mg_1, mg_2, mg_3, mg_4, mg_5, mg_6, mg_7, mg_8, mg_9, mg_10, mg_11, mg_12, mg_13, mg_14, mg_15, mg_16, mg_17, mg_18, mg_19, mg_20, mg_21, mg_22, mp_2, mp_5, mp_7, mp_9, mp_10, mp_12, mp_14, mp_18, mp_19, mp_22, ml_0, ml_1, ml_3, ml_4, ml_6, ml_8, ml_11, ml_13, ml_15, ml_16, ml_17, ml_20, ml_21, ms_0, ms_1, ms_3, ms_4, ms_6, ms_8, ms_11, ms_13, ms_15, ms_16, ms_17, ms_20, ms_21, upm_s, upm_n, pk_us, pk_un, upd_up, seA_s, seA_n, svA_n, svI_n, n_rem, d_le_t, d_le_f, d_lt_t, d_lt_f, d_eq_t, d_eq_f, d_eq0_t, d_eq0_f, d_gt0_t, d_gt0_f, d_le0_t, d_le0_f, i_lt0, i_ge0, i_ne1, am_in_t, i_div, i_rem, nI_add, nI_mul, nI_sub, nI_m1, nI_clamp, eq_self, am_kr_s, am_kr_n, w8_nil, w8_c, w8_a, w8_0, ct_i, ct_r, ct_n, ct_k, ct_l, true_and, and_true, ↓reduceIte, Nat.reduceAdd, Nat.reduceMul, Nat.reduceSub, Nat.reduceLeDiff, Nat.reduceLT, Nat.reduceDiv, Nat.reduceMod, Nat.reduceEqDiff, ne_eq, not_false_eq_true, not_true_eq_false, reduceCtorEq]
    rw [ih _ _ (by omega), seA_up]
    intro j
    simp only [upd_ap, upm_s, upm_n (show (15 : Nat) ≠ 11 by decide)]
    by_cases q1 : j = st + k
    · rw [if_neg (by omega), if_pos q1, if_pos (by omega), show j - st = k by omega]
    · by_cases q2 : st + (k + 1) ≤ j ∧ j < st + m
      · rw [if_pos q2, if_pos (by omega)]
      · rw [if_neg q2, if_neg q1, if_neg (by omega)]
theorem m107_o (hl : 84 ≤ h.length) (hr : rsQ I A M T ps o t tt n total) {I2 : Nat → Int32} {a1 : Option Value} {nd : Nat} (hsz : 1 + szT M o n ps (M (42 + 7 * tt)) ≤ 30) : ∀ r k A2 a6 a7, k + r = M (42 + 7 * tt) → (∀ i, i ≠ 15 → A2 i = A i) → outR (A2 15) (nd :: bn M o n ps k) → (∀ A' a6 a7, (∀ i, i ≠ 15 → A' i = A i) → outR (A' 15) (nd :: bn M o n ps (M (42 + 7 * tt))) → wp S (d + 2) 107 171 [some (.ref 70), a1, some (.int (nI o)), some (.int (nI (ps.length - n))), some (.int (nI (1 + szT M o n ps (M (42 + 7 * tt))))), some (.int (nI (M (42 + 7 * tt)))), a6, a7] [] (mst h I2 A') Q) → wp S (d + 2) 107 66 [some (.ref 70), a1, some (.int (nI o)), some (.int (nI (ps.length - n))), some (.int (nI (1 + szT M o n ps k))), some (.int (nI k)), a6, a7] [] (mst h I2 A2) Q := by
  obtain ⟨h1, h2, hb, h4, ⟨h5, h5b⟩, ⟨ho, hT, ht, htr⟩, ⟨g1, g2, g3, g4, g5⟩, h7, h8, h9, h10⟩ := hr
  have hu := htr.1
  intro r
  induction r with
  | zero =>
    intro k A2 a6 a7 hk hA hout hq
    have hk : k = M (42 + 7 * tt) := by omega
    subst hk
    have hM2 : mEnc (A2 0) M T := by rw [hA 0 (by decide)]; exact h2
    simp (discharger := omega) only [e107_66, e107_68, e107_69, e107_70, e107_73, mg_0, mg_1, mg_2, mg_3, mg_4, mg_5, mg_6, mg_7, mg_8, mg_9, mg_10, mg_11, mg_12, mg_13, mg_14, mg_15, mg_16, mg_17, mg_18, mg_19, mg_20, mg_21, mg_22, mp_2, mp_5, mp_7, mp_9, mp_10, mp_12, mp_14, mp_18, mp_19, mp_22, ml_0, ml_1, ml_3, ml_4, ml_6, ml_8, ml_11, ml_13, ml_15, ml_16, ml_17, ml_20, ml_21, ms_0, ms_1, ms_3, ms_4, ms_6, ms_8, ms_11, ms_13, ms_15, ms_16, ms_17, ms_20, ms_21, upm_s, upm_n, pk_us, pk_un, upd_up, seA_s, seA_n, svA_n, svI_n, n_rem, d_le_t, d_le_f, d_lt_t, d_lt_f, d_eq_t, d_eq_f, d_eq0_t, d_eq0_f, d_gt0_t, d_gt0_f, d_le0_t, d_le0_f, i_lt0, i_ge0, i_ne1, am_in_t, i_div, i_rem, nI_add, nI_mul, nI_sub, nI_m1, nI_clamp, eq_self, am_kr_s, am_kr_n, w8_nil, w8_c, w8_a, w8_0, ct_i, ct_r, ct_n, ct_k, ct_l, true_and, and_true, ↓reduceIte, Nat.reduceAdd, Nat.reduceMul, Nat.reduceSub, Nat.reduceLeDiff, Nat.reduceLT, Nat.reduceDiv, Nat.reduceMod, Nat.reduceEqDiff, ne_eq, not_false_eq_true, not_true_eq_false, reduceCtorEq, mr58_4, mr59_2, mr62_2, mr63_2, mr64_2, mr65_2, mr66_2, mr67_2, mr68_2, mr69_2, mr70_2, mr71_2, mr72_2, mr73_2, mr74_2, mr75_2, mr76_2, mr77_2, mr78_2, mr79_2, mr80_2, mr81_2, mr82_2, mr83_2, mr84_2, mr85_2, mr86_2, mr87_2, mr90_2, mr92_2, mr94_2, mr95_2, mr97_2, mr98_2, mr99_2, mr100_2, mr101_2, mr102_2, mr103_2, mr104_2, mr105_2, mr106_2, mr107_2, mr108_2, mr109_2, mr110_2, mr111_2, mr112_2, mr113_2, mr114_2, mr115_2, mr116_2, mr117_2, mr118_2, mr119_2, mr120_2, mr121_2, m73 hl hM2 ho hT ht]
    exact hq A2 a6 a7 hA hout
  | succ r ih =>
    intro k A2 a6 a7 hk hA hout hq
    have hM2 : mEnc (A2 0) M T := by rw [hA 0 (by decide)]; exact h2
    have hE := htr.2.2.1 k (by omega)
    have hmono := szT_mono (M := M) (o := o) (n := n) (ps := ps) (M (42 + 7 * tt) - (k + 1)) (k + 1)
    rw [show k + 1 + (M (42 + 7 * tt) - (k + 1)) = M (42 + 7 * tt) by omega] at hmono
    have es : szT M o n ps (k + 1) = szT M o n ps k + if M (117 + 5 * o + 1 + k) < 100 then (arg n ps (M (117 + 5 * o + 1 + k))).length else 1 := rfl
    have eb : bn M o n ps (k + 1) = bn M o n ps k ++ (if M (117 + 5 * o + 1 + k) < 100 then arg n ps (M (117 + 5 * o + 1 + k)) else [10 * (M (117 + 5 * o + 1 + k) - 100)]) := rfl
    have hl1 : (nd :: bn M o n ps k).length = 1 + szT M o n ps k := by rw [List.length_cons, bn_len, Nat.add_comm]
    rw [e107_66]
    by_cases hc : M (117 + 5 * o + 1 + k) < 100
    · rw [if_pos hc] at es eb
      have hlt := h7 k (by omega) hc
      generalize hev : M (117 + 5 * o + 1 + k) = ev at *
      have hi : n - 1 - ev < ps.length := by omega
      have hf1 := fl_at hi
      have hf2 := fl_len_drop (ps := ps) (n - 1 - ev)
      have hp1 := ptR_at ps (n - ev) hb.2.2.1 (by omega)
      have hp2 := ptR_at ps (n - 1 - ev) hb.2.2.1 (by omega)
      rw [show ps.length - (n - ev) = ps.length - n + ev by omega] at hp1
      rw [show ps.length - (n - 1 - ev) = ps.length - n + ev + 1 by omega] at hp2
      have hfl : (fl (ps.drop (n - 1 - ev))).length = (fl (ps.drop (n - ev))).length + (arg n ps ev).length := by
        rw [hf1, List.length_append, show n - 1 - ev + 1 = n - ev by omega]; rfl
      rw [← hA 13 (by decide)] at hp1 hp2
      simp (discharger := omega) only [e107_68, e107_69, e107_70, e107_73, e107_76, e107_77, e107_78, e107_80, e107_83, e107_85, e107_87, e107_89, e107_92, e107_93, e107_96, e107_98, e107_99, e107_101, e107_103, e107_104, e107_105, e107_108, e107_109, e107_112, e107_115, e107_116, e107_119, e107_120, e107_122, e107_123, e107_124, mg_0, mg_1, mg_2, mg_3, mg_4, mg_5, mg_6, mg_7, mg_8, mg_9, mg_10, mg_11, mg_12, mg_13, mg_14, mg_15, mg_16, mg_17, mg_18, mg_19, mg_20, mg_21, mg_22, mp_2, mp_5, mp_7, mp_9, mp_10, mp_12, mp_14, mp_18, mp_19, mp_22, ml_0, ml_1, ml_3, ml_4, ml_6, ml_8, ml_11, ml_13, ml_15, ml_16, ml_17, ml_20, ml_21, ms_0, ms_1, ms_3, ms_4, ms_6, ms_8, ms_11, ms_13, ms_15, ms_16, ms_17, ms_20, ms_21, upm_s, upm_n, pk_us, pk_un, upd_up, seA_s, seA_n, svA_n, svI_n, n_rem, d_le_t, d_le_f, d_lt_t, d_lt_f, d_eq_t, d_eq_f, d_eq0_t, d_eq0_f, d_gt0_t, d_gt0_f, d_le0_t, d_le0_f, i_lt0, i_ge0, i_ne1, am_in_t, i_div, i_rem, nI_add, nI_mul, nI_sub, nI_m1, nI_clamp, eq_self, am_kr_s, am_kr_n, w8_nil, w8_c, w8_a, w8_0, ct_i, ct_r, ct_n, ct_k, ct_l, true_and, and_true, ↓reduceIte, Nat.reduceAdd, Nat.reduceMul, Nat.reduceSub, Nat.reduceLeDiff, Nat.reduceLT, Nat.reduceDiv, Nat.reduceMod, Nat.reduceEqDiff, ne_eq, not_false_eq_true, not_true_eq_false, reduceCtorEq, mr58_4, mr59_2, mr62_2, mr63_2, mr64_2, mr65_2, mr66_2, mr67_2, mr68_2, mr69_2, mr70_2, mr71_2, mr72_2, mr73_2, mr74_2, mr75_2, mr76_2, mr77_2, mr78_2, mr79_2, mr80_2, mr81_2, mr82_2, mr83_2, mr84_2, mr85_2, mr86_2, mr87_2, mr90_2, mr92_2, mr94_2, mr95_2, mr97_2, mr98_2, mr99_2, mr100_2, mr101_2, mr102_2, mr103_2, mr104_2, mr105_2, mr106_2, mr107_2, mr108_2, mr109_2, mr110_2, mr111_2, mr112_2, mr113_2, mr114_2, mr115_2, mr116_2, mr117_2, mr118_2, mr119_2, mr120_2, mr121_2, m73 hl hM2 ho hT ht, m74 hl hM2 ho, hev, hp1]
      have h13 := m107_i (S := S) (d := d + 2) (h := h) (Q := Q) (I := I2) hl (b := ps.length - n + ev + 1) (hi := (fl (ps.drop (n - 1 - ev))).length) (a1 := a1) (a2 := some (.int (nI o))) (a5 := some (.int (nI k))) (fr := ps.length - n) (e := ev) rfl (by omega) (by omega) (arg n ps ev) (fl (ps.drop (n - ev))).length (nd :: bn M o n ps k) A2 (by omega) hp2 (fun q x hx => by
          rw [hA 11 (by decide)]
          have := BR_arg hb hi (q := q) (t := x) hx
          rw [show n - 1 - ev + 1 = n - ev by omega] at this
          exact this) hout (by rw [hl1]; omega) (fun A' hA' ho' => by
          have hll : (nd :: bn M o n ps k ++ arg n ps ev).length = 1 + szT M o n ps (k + 1) := by rw [List.length_append, hl1, es, Nat.add_assoc]
          rw [hll]
          simp (discharger := omega) only [e107_165, e107_168, mg_0, mg_1, mg_2, mg_3, mg_4, mg_5, mg_6, mg_7, mg_8, mg_9, mg_10, mg_11, mg_12, mg_13, mg_14, mg_15, mg_16, mg_17, mg_18, mg_19, mg_20, mg_21, mg_22, mp_2, mp_5, mp_7, mp_9, mp_10, mp_12, mp_14, mp_18, mp_19, mp_22, ml_0, ml_1, ml_3, ml_4, ml_6, ml_8, ml_11, ml_13, ml_15, ml_16, ml_17, ml_20, ml_21, ms_0, ms_1, ms_3, ms_4, ms_6, ms_8, ms_11, ms_13, ms_15, ms_16, ms_17, ms_20, ms_21, upm_s, upm_n, pk_us, pk_un, upd_up, seA_s, seA_n, svA_n, svI_n, n_rem, d_le_t, d_le_f, d_lt_t, d_lt_f, d_eq_t, d_eq_f, d_eq0_t, d_eq0_f, d_gt0_t, d_gt0_f, d_le0_t, d_le0_f, i_lt0, i_ge0, i_ne1, am_in_t, i_div, i_rem, nI_add, nI_mul, nI_sub, nI_m1, nI_clamp, eq_self, am_kr_s, am_kr_n, w8_nil, w8_c, w8_a, w8_0, ct_i, ct_r, ct_n, ct_k, ct_l, true_and, and_true, ↓reduceIte, Nat.reduceAdd, Nat.reduceMul, Nat.reduceSub, Nat.reduceLeDiff, Nat.reduceLT, Nat.reduceDiv, Nat.reduceMod, Nat.reduceEqDiff, ne_eq, not_false_eq_true, not_true_eq_false, reduceCtorEq, mr58_4, mr59_2, mr62_2, mr63_2, mr64_2, mr65_2, mr66_2, mr67_2, mr68_2, mr69_2, mr70_2, mr71_2, mr72_2, mr73_2, mr74_2, mr75_2, mr76_2, mr77_2, mr78_2, mr79_2, mr80_2, mr81_2, mr82_2, mr83_2, mr84_2, mr85_2, mr86_2, mr87_2, mr90_2, mr92_2, mr94_2, mr95_2, mr97_2, mr98_2, mr99_2, mr100_2, mr101_2, mr102_2, mr103_2, mr104_2, mr105_2, mr106_2, mr107_2, mr108_2, mr109_2, mr110_2, mr111_2, mr112_2, mr113_2, mr114_2, mr115_2, mr116_2, mr117_2, mr118_2, mr119_2, mr120_2, mr121_2]
          refine ih (k + 1) A' _ _ (by omega) (fun i hi => by rw [hA' i hi, hA i hi]) ?_ hq
          rw [eb]
          exact ho')
      rw [hl1] at h13
      exact h13
    · rw [if_neg hc] at es eb
      simp (discharger := omega) only [e107_68, e107_69, e107_70, e107_73, e107_76, e107_77, e107_78, e107_80, e107_83, e107_85, e107_87, e107_89, e107_92, e107_93, e107_96, e107_98, e107_99, e107_101, e107_103, e107_104, e107_105, e107_108, e107_109, e107_112, e107_165, e107_168, mg_0, mg_1, mg_2, mg_3, mg_4, mg_5, mg_6, mg_7, mg_8, mg_9, mg_10, mg_11, mg_12, mg_13, mg_14, mg_15, mg_16, mg_17, mg_18, mg_19, mg_20, mg_21, mg_22, mp_2, mp_5, mp_7, mp_9, mp_10, mp_12, mp_14, mp_18, mp_19, mp_22, ml_0, ml_1, ml_3, ml_4, ml_6, ml_8, ml_11, ml_13, ml_15, ml_16, ml_17, ml_20, ml_21, ms_0, ms_1, ms_3, ms_4, ms_6, ms_8, ms_11, ms_13, ms_15, ms_16, ms_17, ms_20, ms_21, upm_s, upm_n, pk_us, pk_un, upd_up, seA_s, seA_n, svA_n, svI_n, n_rem, d_le_t, d_le_f, d_lt_t, d_lt_f, d_eq_t, d_eq_f, d_eq0_t, d_eq0_f, d_gt0_t, d_gt0_f, d_le0_t, d_le0_f, i_lt0, i_ge0, i_ne1, am_in_t, i_div, i_rem, nI_add, nI_mul, nI_sub, nI_m1, nI_clamp, eq_self, am_kr_s, am_kr_n, w8_nil, w8_c, w8_a, w8_0, ct_i, ct_r, ct_n, ct_k, ct_l, true_and, and_true, ↓reduceIte, Nat.reduceAdd, Nat.reduceMul, Nat.reduceSub, Nat.reduceLeDiff, Nat.reduceLT, Nat.reduceDiv, Nat.reduceMod, Nat.reduceEqDiff, ne_eq, not_false_eq_true, not_true_eq_false, reduceCtorEq, mr58_4, mr59_2, mr62_2, mr63_2, mr64_2, mr65_2, mr66_2, mr67_2, mr68_2, mr69_2, mr70_2, mr71_2, mr72_2, mr73_2, mr74_2, mr75_2, mr76_2, mr77_2, mr78_2, mr79_2, mr80_2, mr81_2, mr82_2, mr83_2, mr84_2, mr85_2, mr86_2, mr87_2, mr90_2, mr92_2, mr94_2, mr95_2, mr97_2, mr98_2, mr99_2, mr100_2, mr101_2, mr102_2, mr103_2, mr104_2, mr105_2, mr106_2, mr107_2, mr108_2, mr109_2, mr110_2, mr111_2, mr112_2, mr113_2, mr114_2, mr115_2, mr116_2, mr117_2, mr118_2, mr119_2, mr120_2, mr121_2, m73 hl hM2 ho hT ht, m74 hl hM2 ho, m89, Nat.mul_zero, Nat.zero_add, Nat.add_zero]
      rw [show 1 + szT M o n ps k + 1 = 1 + szT M o n ps (k + 1) by omega]
      refine ih (k + 1) _ _ _ (by omega) (fun i hi => by rw [upm_n hi, hA i hi]) ?_ hq
      rw [eb, upm_s, ← hl1]
      exact outR_up hout
theorem m107 (hl : 84 ≤ h.length) (hr : rsQ I A M T ps o t tt n total) (hps2 : ps.length < 30) (h1t : (fl ps).length + 1 ≤ total) (hsz : total - (fl (ps.take n)).length + szT M o n ps (M (42 + 7 * tt)) ≤ 30) (hQ : ∀ I' A', (∀ j, j ≠ 12 → j ≠ 14 → j ≠ 19 → I' j = I j) → (∀ j, j ≠ 11 → j ≠ 13 → j ≠ 15 → A' j = A j) → I' 19 = nI (total - (fl (ps.take n)).length + szT M o n ps (M (42 + 7 * tt))) → BR I' A' (nwP M o tt n ps :: ps.drop n) → Q (.inl none, mst h I' A')) : wp S (d + 3) 107 0 [some (.ref 70), some (.int (nI t)), none, none, none, none, none, none] [] (mst h I A) Q := by
  have hr0 := hr
  obtain ⟨h1, h2, hb, h4, ⟨h5, h5b⟩, ⟨ho, hT, ht, htr⟩, ⟨g1, g2, g3, g4, g5⟩, h7, h8, h9, h10⟩ := hr
  have hu := htr.1
  have hlen : (fl ps).length = (fl (ps.drop n)).length + (fl (ps.take n)).length := by rw [← List.length_append, ← fl_drop ps n]
  have hdl : (ps.drop n).length = ps.length - n := List.length_drop
  have hpt := ptR_at ps n hb.2.2.1 g4
  have hbx : BR I (upm A 15 0 (nI (40000 + 10 * tt + M (42 + 7 * tt)))) ps := ⟨hb.1, hb.2.1, by rw [upm_n (by decide)]; exact hb.2.2.1, by rw [upm_n (by decide)]; exact hb.2.2.2⟩
  have hMx : mEnc (upm A 15 0 (nI (40000 + 10 * tt + M (42 + 7 * tt))) 0) M T := by rw [upm_n (by decide)]; exact h2
  have hs1 := fun Q => m105 (S := S) (d := d + 2) (h := h) (Q := Q) hl hbx (i := n) (j := 0) g4 (Nat.zero_le _) h5 (a := ps.length - n) (b := ps.length) rfl rfl
  rw [List.drop_zero, show (fl ps).length - (fl (ps.drop n)).length = (fl (ps.take n)).length by omega] at hs1
  have hs2 := fun Q => m106 (S := S) (d := d) (h := h) (Q := Q) hl hMx ho hT ht htr hbx h5 g4 h7
  have e2 := nI_asub (a := total) (b := szT M o n ps (M (42 + 7 * tt))) (c := (fl (ps.take n)).length) (by omega)
  simp (discharger := omega) only [e107_0, e107_1, e107_4, e107_5, e107_6, e107_7, e107_10, e107_11, e107_12, e107_14, e107_15, e107_18, e107_20, e107_21, e107_22, e107_23, e107_26, e107_27, e107_28, e107_31, e107_34, e107_35, e107_38, e107_39, e107_39i, e107_40, e107_43, e107_44, e107_45, e107_46, e107_49, e107_50, e107_51, e107_52, e107_55, e107_58, e107_59, e107_60, e107_63, e107_64, mg_0, mg_1, mg_2, mg_3, mg_4, mg_5, mg_6, mg_7, mg_8, mg_9, mg_10, mg_11, mg_12, mg_13, mg_14, mg_15, mg_16, mg_17, mg_18, mg_19, mg_20, mg_21, mg_22, mp_2, mp_5, mp_7, mp_9, mp_10, mp_12, mp_14, mp_18, mp_19, mp_22, ml_0, ml_1, ml_3, ml_4, ml_6, ml_8, ml_11, ml_13, ml_15, ml_16, ml_17, ml_20, ml_21, ms_0, ms_1, ms_3, ms_4, ms_6, ms_8, ms_11, ms_13, ms_15, ms_16, ms_17, ms_20, ms_21, upm_s, upm_n, pk_us, pk_un, upd_up, seA_s, seA_n, svA_n, svI_n, n_rem, d_le_t, d_le_f, d_lt_t, d_lt_f, d_eq_t, d_eq_f, d_eq0_t, d_eq0_f, d_gt0_t, d_gt0_f, d_le0_t, d_le0_f, i_lt0, i_ge0, i_ne1, am_in_t, i_div, i_rem, nI_add, nI_mul, nI_sub, nI_m1, nI_clamp, eq_self, am_kr_s, am_kr_n, w8_nil, w8_c, w8_a, w8_0, ct_i, ct_r, ct_n, ct_k, ct_l, true_and, and_true, ↓reduceIte, Nat.reduceAdd, Nat.reduceMul, Nat.reduceSub, Nat.reduceLeDiff, Nat.reduceLT, Nat.reduceDiv, Nat.reduceMod, Nat.reduceEqDiff, ne_eq, not_false_eq_true, not_true_eq_false, reduceCtorEq, mr58_4, mr59_2, mr62_2, mr63_2, mr64_2, mr65_2, mr66_2, mr67_2, mr68_2, mr69_2, mr70_2, mr71_2, mr72_2, mr73_2, mr74_2, mr75_2, mr76_2, mr77_2, mr78_2, mr79_2, mr80_2, mr81_2, mr82_2, mr83_2, mr84_2, mr85_2, mr86_2, mr87_2, mr90_2, mr92_2, mr94_2, mr95_2, mr97_2, mr98_2, mr99_2, mr100_2, mr101_2, mr102_2, mr103_2, mr104_2, mr105_2, mr106_2, mr107_2, mr108_2, mr109_2, mr110_2, mr111_2, mr112_2, mr113_2, mr114_2, mr115_2, mr116_2, mr117_2, mr118_2, mr119_2, mr120_2, mr121_2, m93, g2, m102 hl hb g1 g3 g4, m72 hl ho, m73 hl h2 ho hT ht, h2.T ho, hT, tI_s, m89, hs1, hs2, h8, e2, hb.1]
  refine m107_o hl hr0 (nd := 40000 + 10 * tt + M (42 + 7 * tt)) (by omega) (M (42 + 7 * tt)) 0 _ none none (by omega) (fun i hi => upm_n hi) ?_ (fun A' a6 a7 hA' ho' => ?_)
  · intro i c hi
    have e : (40000 + 10 * tt + M (42 + 7 * tt)) :: bn M o n ps 0 = [40000 + 10 * tt + M (42 + 7 * tt)] := rfl
    rw [e] at hi
    cases i with
    | zero => cases hi; rw [upm_s]; exact pk_us
    | succ i => simp at hi
  · have hpt2 : A' 13 (ps.length - n) = nI (fl (ps.drop n)).length := by rw [hA' 13 (by decide)]; exact hpt
    simp (discharger := omega) only [e107_171, e107_172, e107_175, e107_176, e107_177, e107_179, e107_180, mg_0, mg_1, mg_2, mg_3, mg_4, mg_5, mg_6, mg_7, mg_8, mg_9, mg_10, mg_11, mg_12, mg_13, mg_14, mg_15, mg_16, mg_17, mg_18, mg_19, mg_20, mg_21, mg_22, mp_2, mp_5, mp_7, mp_9, mp_10, mp_12, mp_14, mp_18, mp_19, mp_22, ml_0, ml_1, ml_3, ml_4, ml_6, ml_8, ml_11, ml_13, ml_15, ml_16, ml_17, ml_20, ml_21, ms_0, ms_1, ms_3, ms_4, ms_6, ms_8, ms_11, ms_13, ms_15, ms_16, ms_17, ms_20, ms_21, upm_s, upm_n, pk_us, pk_un, upd_up, seA_s, seA_n, svA_n, svI_n, n_rem, d_le_t, d_le_f, d_lt_t, d_lt_f, d_eq_t, d_eq_f, d_eq0_t, d_eq0_f, d_gt0_t, d_gt0_f, d_le0_t, d_le0_f, i_lt0, i_ge0, i_ne1, am_in_t, i_div, i_rem, nI_add, nI_mul, nI_sub, nI_m1, nI_clamp, eq_self, am_kr_s, am_kr_n, w8_nil, w8_c, w8_a, w8_0, ct_i, ct_r, ct_n, ct_k, ct_l, true_and, and_true, ↓reduceIte, Nat.reduceAdd, Nat.reduceMul, Nat.reduceSub, Nat.reduceLeDiff, Nat.reduceLT, Nat.reduceDiv, Nat.reduceMod, Nat.reduceEqDiff, ne_eq, not_false_eq_true, not_true_eq_false, reduceCtorEq, mr58_4, mr59_2, mr62_2, mr63_2, mr64_2, mr65_2, mr66_2, mr67_2, mr68_2, mr69_2, mr70_2, mr71_2, mr72_2, mr73_2, mr74_2, mr75_2, mr76_2, mr77_2, mr78_2, mr79_2, mr80_2, mr81_2, mr82_2, mr83_2, mr84_2, mr85_2, mr86_2, mr87_2, mr90_2, mr92_2, mr94_2, mr95_2, mr97_2, mr98_2, mr99_2, mr100_2, mr101_2, mr102_2, mr103_2, mr104_2, mr105_2, mr106_2, mr107_2, mr108_2, mr109_2, mr110_2, mr111_2, mr112_2, mr113_2, mr114_2, mr115_2, mr116_2, mr117_2, mr118_2, mr119_2, mr120_2, mr121_2, hpt2]
    rw [m107_k hl (by omega) (1 + szT M o n ps (M (42 + 7 * tt))) 0 A' (by omega)]
    simp (discharger := omega) only [e107_212, e107_213, e107_215, e107_217, e107_218, e107_221, e107_222, e107_223, e107_224, e107_225, e107_228, e107_229, e107_232, e107_233, e107_236, e107_237, e107_240, e107_241, mg_0, mg_1, mg_2, mg_3, mg_4, mg_5, mg_6, mg_7, mg_8, mg_9, mg_10, mg_11, mg_12, mg_13, mg_14, mg_15, mg_16, mg_17, mg_18, mg_19, mg_20, mg_21, mg_22, mp_2, mp_5, mp_7, mp_9, mp_10, mp_12, mp_14, mp_18, mp_19, mp_22, ml_0, ml_1, ml_3, ml_4, ml_6, ml_8, ml_11, ml_13, ml_15, ml_16, ml_17, ml_20, ml_21, ms_0, ms_1, ms_3, ms_4, ms_6, ms_8, ms_11, ms_13, ms_15, ms_16, ms_17, ms_20, ms_21, upm_s, upm_n, pk_us, pk_un, upd_up, seA_s, seA_n, svA_n, svI_n, n_rem, d_le_t, d_le_f, d_lt_t, d_lt_f, d_eq_t, d_eq_f, d_eq0_t, d_eq0_f, d_gt0_t, d_gt0_f, d_le0_t, d_le0_f, i_lt0, i_ge0, i_ne1, am_in_t, i_div, i_rem, nI_add, nI_mul, nI_sub, nI_m1, nI_clamp, eq_self, am_kr_s, am_kr_n, w8_nil, w8_c, w8_a, w8_0, ct_i, ct_r, ct_n, ct_k, ct_l, true_and, and_true, ↓reduceIte, Nat.reduceAdd, Nat.reduceMul, Nat.reduceSub, Nat.reduceLeDiff, Nat.reduceLT, Nat.reduceDiv, Nat.reduceMod, Nat.reduceEqDiff, ne_eq, not_false_eq_true, not_true_eq_false, reduceCtorEq, mr58_4, mr59_2, mr62_2, mr63_2, mr64_2, mr65_2, mr66_2, mr67_2, mr68_2, mr69_2, mr70_2, mr71_2, mr72_2, mr73_2, mr74_2, mr75_2, mr76_2, mr77_2, mr78_2, mr79_2, mr80_2, mr81_2, mr82_2, mr83_2, mr84_2, mr85_2, mr86_2, mr87_2, mr90_2, mr92_2, mr94_2, mr95_2, mr97_2, mr98_2, mr99_2, mr100_2, mr101_2, mr102_2, mr103_2, mr104_2, mr105_2, mr106_2, mr107_2, mr108_2, mr109_2, mr110_2, mr111_2, mr112_2, mr113_2, mr114_2, mr115_2, mr116_2, mr117_2, mr118_2, mr119_2, mr120_2, mr121_2]
    have hnl : (nwP M o tt n ps).length = 1 + szT M o n ps (M (42 + 7 * tt)) := by rw [nwP, List.length_cons, bn_len, Nat.add_comm]
    have hfl2 : (fl (nwP M o tt n ps :: ps.drop n)).length = (fl (ps.drop n)).length + (1 + szT M o n ps (M (42 + 7 * tt))) := by rw [fl, List.length_append, hnl]
    refine hQ _ _ (fun j q1 q2 q3 => by rw [pk_un q2, pk_un q1, pk_un q3]) (fun j q1 q2 q3 => by rw [upm_n q2, seA_n q1, hA' j q3]) ?_ ⟨?_, ?_, ⟨?_, ?_⟩, ?_⟩
    · rw [pk_un (by decide), pk_un (by decide), pk_us]
    · rw [pk_us, List.length_cons, hdl]
    · rw [pk_un (by decide), pk_us, hfl2]
    · rw [upm_s, hdl, pk_us, hfl2]
    · rw [upm_s]
      exact ptR_up (ptR_drop (by rw [seA_n (by decide), hA' 13 (by decide)]; exact hb.2.2.1)) (by rw [hdl]; omega)
    · rw [upm_n (by decide), seA_s]
      intro i c hi
      have hi2 : (fl (ps.drop n) ++ nwP M o tt n ps)[i]? = some c := hi
      have hlt := (List.getElem?_eq_some_iff.mp hi2).1
      rw [List.length_append, hnl] at hlt
      by_cases q : i < (fl (ps.drop n)).length
      · show (if (fl (ps.drop n)).length + 0 ≤ i ∧ _ then _ else _) = _
        rw [if_neg (by omega), hA' 11 (by decide)]
        rw [List.getElem?_append_left q] at hi2
        have h20 := hb.2.2.2
        rw [fl_drop ps n] at h20
        exact outR_pre h20 i c hi2
      · show (if (fl (ps.drop n)).length + 0 ≤ i ∧ i < (fl (ps.drop n)).length + (1 + szT M o n ps (M (42 + 7 * tt))) then _ else _) = _
        rw [if_pos (by omega)]
        rw [List.getElem?_append_right (by omega)] at hi2
        exact ho' _ _ hi2
end ML
