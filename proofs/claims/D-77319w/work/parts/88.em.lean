/-! the component: the new call's arguments -/
section EM
variable {S : am_S} {d : Nat} {h h' h1 h2 h0 : am_H} {Q : am_Out → Prop} {σ : sg} {M M' : Nat → Nat} {T : Nat → Option Nat} {a b k n t w w2 z total done why o p0 sz am tt cm : Nat} {g : Nat → Option Nat} {ds : List (Nat × List Nat)} {ps ps0 : List (List Nat)} {gm : Nat → Int32}
theorem fl_rv : ∀ (l ps0 : List (List Nat)), fl (l.reverse ++ ps0) = fl ps0 ++ l.flatten := by
  intro l
  induction l with
  | nil => intro ps0; simp [fl]
  | cons x l ih =>
    intro ps0
    rw [List.reverse_cons, List.append_assoc, List.singleton_append, ih (x :: ps0), List.flatten_cons]
    show (fl ps0 ++ x) ++ l.flatten = _
    rw [List.append_assoc]
theorem ps_tk {l : List (List Nat)} : (l.reverse ++ ps0).take l.length = l.reverse := by
  have : l.length = l.reverse.length := by rw [List.length_reverse]
  rw [this, List.take_left]
theorem ps_dp {l : List (List Nat)} : (l.reverse ++ ps0).drop l.length = ps0 := by
  have : l.length = l.reverse.length := by rw [List.length_reverse]
  rw [this, List.drop_left]
theorem ps_arg {l : List (List Nat)} {j : Nat} (hj : j < l.length) : arg l.length (l.reverse ++ ps0) j = l.getD j [] := by
  unfold arg
  rw [List.getD_eq_getElem?_getD, List.getElem?_append_left (by rw [List.length_reverse]; omega), List.getElem?_reverse (by omega), List.getD_eq_getElem?_getD]
  congr 2
  omega
/-- the words of the arguments -/
abbrev wds (ds : List (Nat × List Nat)) : List (List Nat) := ds.map (fun q => q.2)
theorem wds_arg {j : Nat} {q : Nat × List Nat} (hl : ds.length = n) (hq : ds[j]? = some q) : arg n ((wds ds).reverse ++ ps0) j = q.2 := by
  have hl2 : (wds ds).length = n := by rw [List.length_map]; exact hl
  have hj := g_ln hq
  rw [← hl2, ps_arg (by rw [hl2]; omega), List.getD_eq_getElem?_getD, List.getElem?_map, hq]
  rfl
theorem fl_wds (hl : ds.length = n) : fl (((wds ds).reverse ++ ps0).take n) = fls ds := by
  have hl2 : (wds ds).length = n := by rw [List.length_map]; exact hl
  rw [← hl2, ps_tk]
  have := fl_rv (wds ds) []
  rw [List.append_nil] at this
  rw [this]
  rfl
theorem dp_wds (hl : ds.length = n) : ((wds ds).reverse ++ ps0).drop n = ps0 := by
  have hl2 : (wds ds).length = n := by rw [List.length_map]; exact hl
  rw [← hl2, ps_dp]
theorem GR_set {c c' : am_C} (hg : GR h0 h w) (hq : h[a]? = some c) (hc : am_csz c' = am_csz c) (ha : h0.length ≤ a) : GR h0 (h.set a c') w := ⟨by rw [List.length_set]; exact hg.1, fun b hb => by rw [g_sn (by omega)]; exact hg.2.1 b hb, by rw [wt_set hq hc]; exact hg.2.2⟩
theorem bn_s {o n k : Nat} : bn M o n ps (k + 1) = bn M o n ps k ++ (if M (117 + 5 * o + 1 + k) < 100 then arg n ps (M (117 + 5 * o + 1 + k)) else [10 * (M (117 + 5 * o + 1 + k) - 100)]) := rfl
/-- the arguments so far -/
def nwL (h h1 : am_H) (p0 k u : Nat) (M : Nat → Nat) (o n : Nat) (ps : List (List Nat)) (es : List (Nat × List Nat)) (g2 : Nat → Option Nat) : Prop := GR h h1 (5 + 6 * k) ∧ h.length < h1.length ∧ es.length = k ∧ fls es = bn M o n ps k ∧ h1[h.length]? = some (.inr (.inl (2, u, g2))) ∧ ∀ (i : Nat) (q : Nat × List Nat), es[i]? = some q → g2 i = some q.1 ∧ isT (fun y => p0 ≤ y ∧ y ≠ h.length) 30 h1 q.1 q.2
theorem nwL_s {x : Nat} {v : List Nat} {u : Nat} {es : List (Nat × List Nat)} {g2 : Nat → Option Nat} (hL : nwL h h1 p0 k u M o n ps es g2) (hG : GR h1 h2 6) (hT : isT (fun y => p0 ≤ y ∧ y ≠ h.length) 30 h2 x v) (hv : bn M o n ps (k + 1) = bn M o n ps k ++ v) : nwL h (h2.set h.length (.inr (.inl (2, u, va_up g2 k (some x))))) p0 (k + 1) u M o n ps (es ++ [(x, v)]) (va_up g2 k (some x)) := by
  obtain ⟨l1, l2, l3, l4, l5, l6⟩ := hL
  have hb := GR_a hG l5
  have hmn : mn (fun y => p0 ≤ y ∧ y ≠ h.length) (fun y => p0 ≤ y ∧ y ≠ h.length) h2 (h2.set h.length (.inr (.inl (2, u, va_up g2 k (some x))))) := mn_set (fun q => q.2 rfl)
  refine ⟨GR_le (GR_set (GR_tr l1 hG) hb (by rfl) (Nat.le_refl _)) (by omega), by rw [List.length_set]; have := hG.1; omega, by rw [List.length_append, List.length_singleton]; omega, by rw [fls_app, l4, hv], g_se (g_lt hb), fun i q hq => ?_⟩
  by_cases qi : i < es.length
  · rw [List.getElem?_append_left qi] at hq
    rw [vu_n (by omega)]
    exact ⟨(l6 i q hq).1, isT_mn hmn _ _ _ (isT_mn (fun y c p r => ⟨p, GR_a hG r⟩) _ _ _ (l6 i q hq).2)⟩
  · rw [List.getElem?_append_right (by omega)] at hq
    have := g_ln hq
    rw [List.length_singleton] at this
    have e0 : i = k := by omega
    subst e0
    rw [l3, Nat.sub_self] at hq
    cases hq
    exact ⟨vu_s, isT_mn hmn _ _ _ hT⟩
theorem c132_l (hA : rsA h z a b t p0 g ds M T am cm gm tt ps) (hp0 : p0 ≤ h.length) {a0 a5 : Option Value} : ∀ r k h1 es g2 a8, k + r = M (42 + 7 * tt) → nwL h h1 p0 k (M (42 + 7 * tt)) M (tw t) (ta t) ps es g2 → (∀ h2 es g2 a8, nwL h h2 p0 (M (42 + 7 * tt)) (M (42 + 7 * tt)) M (tw t) (ta t) ps es g2 → wp S (d + 2) 132 179 [a0, some (.ref a), some (.int (nI (tw t))), some (.ref am), some (.int (nI (M (42 + 7 * tt)))), a5, some (.ref h.length), some (.int (nI (M (42 + 7 * tt)))), a8] [] h2 Q) → wp S (d + 2) 132 121 [a0, some (.ref a), some (.int (nI (tw t))), some (.ref am), some (.int (nI (M (42 + 7 * tt)))), a5, some (.ref h.length), some (.int (nI k)), a8] [] h1 Q := by
  obtain ⟨hn, hw, ham, hcm, hgm, h199, hu4, hsf, hds⟩ := hA
  obtain ⟨n1, n2, n3, n4, n5, n6, n7, n8⟩ := hn
  intro r
  induction r with
  | zero =>
    intro k h1 es g2 a8 hk hL hQ
    have hk : k = M (42 + 7 * tt) := by omega
    subst hk
    simp (discharger := first | omega | (simp only [List.length_append, List.length_set, List.length_cons, List.length_nil]; done) | (simp only [List.length_append, List.length_set, List.length_cons, List.length_nil]; omega)) only [e132_121, e132_123, e132_125, eq_self, am_kr_s, am_kr_n, w8_nil, w8_c, w8_a, w8_0, ct_i, ct_r, ct_n, ct_k, ct_l, true_and, and_true, ↓reduceIte, Nat.reduceAdd, Nat.reduceMul, Nat.reduceSub, Nat.reduceLeDiff, Nat.reduceLT, Nat.reduceDiv, Nat.reduceMod, Nat.reduceEqDiff, ne_eq, not_false_eq_true, not_true_eq_false, reduceCtorEq, n_rem, d_le_t, d_le_f, d_lt_t, d_lt_f, d_eq_t, d_eq_f, d_eq0_t, d_eq0_f, d_gt0_t, d_gt0_f, d_le0_t, d_le0_f, i_lt0, i_ge0, i_ne1, am_in_t, i_div, i_rem, nI_add, nI_mul, nI_sub, nI_m1, nI_clamp, fk0_0_0r, fk0_0_0n, fk0_0_0k, fk0_0_1r, fk0_0_1n, fk0_0_1k, fk0_0_3r, fk0_0_3n, fk0_0_3k, fk0_0_5r, fk0_0_5n, fk0_0_5k, fk0_0_6r, fk0_0_6n, fk0_0_6k, fk6_0_2i, fk19_1_6i, fk21_0_4i, fk22_0_4i, fk23_1_7r, fk23_1_7n, fk23_1_7k, fk24_1_7r, fk24_1_7n, fk24_1_7k, fk31_0_2i, fk36_1_0r, fk36_1_0n, fk36_1_0k, fk36_1_1r, fk36_1_1n, fk36_1_1k, fk36_1_2r, fk36_1_2n, fk36_1_2k, fk36_1_4r, fk36_1_4n, fk36_1_4k, fk36_1_5r, fk36_1_5n, fk36_1_5k, fk36_1_7r, fk36_1_7n, fk36_1_7k, fk36_1_8r, fk36_1_8n, fk36_1_8k, fk37_1_3i, fk37_1_6i, fk37_1_7r, fk37_1_7n, fk37_1_7k, fk42_2_0i, fk42_2_1i, fk42_2_2r, fk42_2_2n, fk42_2_2k, fk42_2_3i, fk46_3_0i, fk46_3_1i, fk46_3_2i, fk46_3_3r, fk46_3_3n, fk46_3_3k, fk50_4_2r, fk50_4_2n, fk50_4_2k, fk51_4_0i, fk51_4_1i, fk52_4_0i, fk52_4_1i, fk54_4_0i, fk56_4_0i, fk57_4_0i, fk58_5_0r, fk58_5_0n, fk58_5_0k, fk58_5_1r, fk58_5_1n, fk58_5_1k, fk58_5_3r, fk58_5_3n, fk58_5_3k, fk58_5_4r, fk58_5_4n, fk58_5_4k, fk58_5_6r, fk58_5_6n, fk58_5_6k, fk58_5_8r, fk58_5_8n, fk58_5_8k, fk58_5_11r, fk58_5_11n, fk58_5_11k, fk58_5_13r, fk58_5_13n, fk58_5_13k, fk58_5_15r, fk58_5_15n, fk58_5_15k, fk58_5_16r, fk58_5_16n, fk58_5_16k, fk58_5_17r, fk58_5_17n, fk58_5_17k, fk58_5_20r, fk58_5_20n, fk58_5_20k, fk58_5_21r, fk58_5_21n, fk58_5_21k, fk63_5_2i, fk83_5_5i, fk84_5_5i, fk85_5_7i, fk85_5_9i, fk85_5_10i, fk86_5_7i, fk86_5_9i, fk86_5_10i, fk94_5_9i, fk94_5_10i, fk95_5_12i, fk95_5_14i, fk95_5_18i, fk95_5_19i, fk99_5_12i, fk99_5_14i, fk107_5_12i, fk107_5_14i, fk107_5_19i, fk108_5_18i, fk115_5_9i, fk115_5_22i, fk117_5_22i, fk118_5_9i, fk119_5_2i, fk123_6_0i, fk123_6_1r, fk123_6_1n, fk123_6_1k, fk129_7_6i, fk130_8_0i, fk130_8_2r, fk130_8_2n, fk130_8_2k, fk132_8_0i, fk132_8_1i, fk134_1_3i, fk134_8_1i, fk140_7_0r, fk140_7_0n, fk140_7_0k, fk140_7_1r, fk140_7_1n, fk140_7_1k, fk140_7_2r, fk140_7_2n, fk140_7_2k, fk141_7_0r, fk141_7_0n, fk141_7_0k, fk141_7_1r, fk141_7_1n, fk141_7_1k, fk141_7_2r, fk141_7_2n, fk141_7_2k, fk141_7_3r, fk141_7_3n, fk141_7_3k, fk143_9_0r, fk143_9_0n, fk143_9_0k, fk143_9_1b, fk143_9_1c, fk144_9_3i, fk145_9_0r, fk145_9_0n, fk145_9_0k, fk148_9_3i, fk149_9_0r, fk149_9_0n, fk149_9_0k, fk149_9_1b, fk149_9_1c, fk150_9_3i, fk151_9_3i, am_clK, am_ccK, am_gfK, am_pfK, am_iaK, am_isK, am_aaK, am_asK, am_alK, am_isC, am_rf, am_rc, decide_eq_true_eq, decide_true, List.getElem?_cons_zero, List.getElem?_cons_succ, List.length_cons, List.length_nil, List.length_set, List.length_append, List.set_cons_zero, List.set_cons_succ, g_sn, g_se, g_al, g_an, g_aq, s_al, s_an, s_aq, s_s, rv0_4, rv1_2, rv2_2, rv5_2, rv6_2, rv7_2, rv8_2, rv9_2, rv10_2, rv11_2, rv12_2, rv13_2, rv14_2, rv15_2, rv17_2, rv18_2, rv19_2, rv20_2, rv21_2, rv22_2, rv23_7, rv24_2, rv25_2, rv26_2, rv27_2, rv28_2, rv29_2, rv30_2, rv31_2, rv32_2, rv33_2, rv36_5, rv37_2, rv38_2, rv39_2, rv40_2, rv41_2, rv42_4, rv43_2, rv44_2, rv45_4, rv46_4, rv47_2, rv48_2, rv49_2, rv50_5, rv51_2, rv52_2, rv53_2, rv54_2, rv55_2, rv56_2, rv57_2, rv122_4, rv123_4, rv124_2, rv125_2, rv126_2, rv127_2, rv128_2, rv129_4, rv130_5, rv131_2, rv132_2, rv133_2, rv134_2, rv135_2, rv136_2, dft0, dft5, dft1, dft2, dft3, dft4, dft6, dft7, dft8, dft9]
    exact hQ h1 es g2 a8 hL
  | succ r ih =>
    intro k h1 es g2 a8 hk hL hQ
    have hk4 : k < 4 := by omega
    have e199 := h199 k hk4
    have egk := hgm k hk4
    obtain ⟨l1, l2, l3, l4, l5, l6⟩ := hL
    have ham1 := GR_a l1 ham
    have hcm1 := GR_a l1 hcm
    have n11 := GR_a l1 n1
    have n21 := GR_a l1 n2
    rw [e132_121]
    by_cases hc : M (117 + 5 * tw t + 1 + k) < 100
    · rw [eE_lt hc] at egk
      have hta := hsf k (by omega) hc
      have hq : ds[M (117 + 5 * tw t + 1 + k)]? = some ds[M (117 + 5 * tw t + 1 + k)] := List.getElem?_eq_getElem (by omega)
      obtain ⟨g1, g2'⟩ := n4 _ _ hq
      have hT1 : isT (fun y => p0 ≤ y ∧ y ≠ h.length) 30 h1 ds[M (117 + 5 * tw t + 1 + k)].1 ds[M (117 + 5 * tw t + 1 + k)].2 := isT_mn (fun y c p r => ⟨⟨p, by have := g_lt r; omega⟩, GR_a l1 r⟩) _ _ _ g2'
      obtain ⟨fs, hfs⟩ := isT_ob hT1
      simp (discharger := first | omega | (simp only [List.length_append, List.length_set, List.length_cons, List.length_nil]; done) | (simp only [List.length_append, List.length_set, List.length_cons, List.length_nil]; omega)) only [e132_123, e132_125, e132_128, e132_129, e132_132, e132_134, e132_135, e132_137, e132_139, e132_141, e132_143, e132_146, e132_149, e132_149i, e132_150, e132_151, e132_153, e132_154, e132_157, e132_160, e132_163, e132_164, e132_167, e132_168, e132_170, e132_171, e132_172, e132_173, e132_176, eq_self, am_kr_s, am_kr_n, w8_nil, w8_c, w8_a, w8_0, ct_i, ct_r, ct_n, ct_k, ct_l, true_and, and_true, ↓reduceIte, Nat.reduceAdd, Nat.reduceMul, Nat.reduceSub, Nat.reduceLeDiff, Nat.reduceLT, Nat.reduceDiv, Nat.reduceMod, Nat.reduceEqDiff, ne_eq, not_false_eq_true, not_true_eq_false, reduceCtorEq, n_rem, d_le_t, d_le_f, d_lt_t, d_lt_f, d_eq_t, d_eq_f, d_eq0_t, d_eq0_f, d_gt0_t, d_gt0_f, d_le0_t, d_le0_f, i_lt0, i_ge0, i_ne1, am_in_t, i_div, i_rem, nI_add, nI_mul, nI_sub, nI_m1, nI_clamp, fk0_0_0r, fk0_0_0n, fk0_0_0k, fk0_0_1r, fk0_0_1n, fk0_0_1k, fk0_0_3r, fk0_0_3n, fk0_0_3k, fk0_0_5r, fk0_0_5n, fk0_0_5k, fk0_0_6r, fk0_0_6n, fk0_0_6k, fk6_0_2i, fk19_1_6i, fk21_0_4i, fk22_0_4i, fk23_1_7r, fk23_1_7n, fk23_1_7k, fk24_1_7r, fk24_1_7n, fk24_1_7k, fk31_0_2i, fk36_1_0r, fk36_1_0n, fk36_1_0k, fk36_1_1r, fk36_1_1n, fk36_1_1k, fk36_1_2r, fk36_1_2n, fk36_1_2k, fk36_1_4r, fk36_1_4n, fk36_1_4k, fk36_1_5r, fk36_1_5n, fk36_1_5k, fk36_1_7r, fk36_1_7n, fk36_1_7k, fk36_1_8r, fk36_1_8n, fk36_1_8k, fk37_1_3i, fk37_1_6i, fk37_1_7r, fk37_1_7n, fk37_1_7k, fk42_2_0i, fk42_2_1i, fk42_2_2r, fk42_2_2n, fk42_2_2k, fk42_2_3i, fk46_3_0i, fk46_3_1i, fk46_3_2i, fk46_3_3r, fk46_3_3n, fk46_3_3k, fk50_4_2r, fk50_4_2n, fk50_4_2k, fk51_4_0i, fk51_4_1i, fk52_4_0i, fk52_4_1i, fk54_4_0i, fk56_4_0i, fk57_4_0i, fk58_5_0r, fk58_5_0n, fk58_5_0k, fk58_5_1r, fk58_5_1n, fk58_5_1k, fk58_5_3r, fk58_5_3n, fk58_5_3k, fk58_5_4r, fk58_5_4n, fk58_5_4k, fk58_5_6r, fk58_5_6n, fk58_5_6k, fk58_5_8r, fk58_5_8n, fk58_5_8k, fk58_5_11r, fk58_5_11n, fk58_5_11k, fk58_5_13r, fk58_5_13n, fk58_5_13k, fk58_5_15r, fk58_5_15n, fk58_5_15k, fk58_5_16r, fk58_5_16n, fk58_5_16k, fk58_5_17r, fk58_5_17n, fk58_5_17k, fk58_5_20r, fk58_5_20n, fk58_5_20k, fk58_5_21r, fk58_5_21n, fk58_5_21k, fk63_5_2i, fk83_5_5i, fk84_5_5i, fk85_5_7i, fk85_5_9i, fk85_5_10i, fk86_5_7i, fk86_5_9i, fk86_5_10i, fk94_5_9i, fk94_5_10i, fk95_5_12i, fk95_5_14i, fk95_5_18i, fk95_5_19i, fk99_5_12i, fk99_5_14i, fk107_5_12i, fk107_5_14i, fk107_5_19i, fk108_5_18i, fk115_5_9i, fk115_5_22i, fk117_5_22i, fk118_5_9i, fk119_5_2i, fk123_6_0i, fk123_6_1r, fk123_6_1n, fk123_6_1k, fk129_7_6i, fk130_8_0i, fk130_8_2r, fk130_8_2n, fk130_8_2k, fk132_8_0i, fk132_8_1i, fk134_1_3i, fk134_8_1i, fk140_7_0r, fk140_7_0n, fk140_7_0k, fk140_7_1r, fk140_7_1n, fk140_7_1k, fk140_7_2r, fk140_7_2n, fk140_7_2k, fk141_7_0r, fk141_7_0n, fk141_7_0k, fk141_7_1r, fk141_7_1n, fk141_7_1k, fk141_7_2r, fk141_7_2n, fk141_7_2k, fk141_7_3r, fk141_7_3n, fk141_7_3k, fk143_9_0r, fk143_9_0n, fk143_9_0k, fk143_9_1b, fk143_9_1c, fk144_9_3i, fk145_9_0r, fk145_9_0n, fk145_9_0k, fk148_9_3i, fk149_9_0r, fk149_9_0n, fk149_9_0k, fk149_9_1b, fk149_9_1c, fk150_9_3i, fk151_9_3i, am_clK, am_ccK, am_gfK, am_pfK, am_iaK, am_isK, am_aaK, am_asK, am_alK, am_isC, am_rf, am_rc, decide_eq_true_eq, decide_true, List.getElem?_cons_zero, List.getElem?_cons_succ, List.length_cons, List.length_nil, List.length_set, List.length_append, List.set_cons_zero, List.set_cons_succ, g_sn, g_se, g_al, g_an, g_aq, s_al, s_an, s_aq, s_s, rv0_4, rv1_2, rv2_2, rv5_2, rv6_2, rv7_2, rv8_2, rv9_2, rv10_2, rv11_2, rv12_2, rv13_2, rv14_2, rv15_2, rv17_2, rv18_2, rv19_2, rv20_2, rv21_2, rv22_2, rv23_7, rv24_2, rv25_2, rv26_2, rv27_2, rv28_2, rv29_2, rv30_2, rv31_2, rv32_2, rv33_2, rv36_5, rv37_2, rv38_2, rv39_2, rv40_2, rv41_2, rv42_4, rv43_2, rv44_2, rv45_4, rv46_4, rv47_2, rv48_2, rv49_2, rv50_5, rv51_2, rv52_2, rv53_2, rv54_2, rv55_2, rv56_2, rv57_2, rv122_4, rv123_4, rv124_2, rv125_2, rv126_2, rv127_2, rv128_2, rv129_4, rv130_5, rv131_2, rv132_2, rv133_2, rv134_2, rv135_2, rv136_2, dft0, dft5, dft1, dft2, dft3, dft4, dft6, dft7, dft8, dft9, ham1, hcm1, egk, eE_n, eE_b, n11, n21, g1, l5, hfs]
      refine ih (k + 1) _ _ _ _ (by omega) (nwL_s (h2 := h1) ⟨l1, l2, l3, l4, l5, l6⟩ (GR_le GR_rf (by decide)) hT1 ?_) hQ
      rw [bn_s, if_pos hc, (hds _ _ hq).1]
    · rw [eE_ge (by omega)] at egk
      have hv : M (117 + 5 * tw t + 1 + k) - 100 ≤ 99 := by omega
      obtain ⟨t1, t2, t3, t4, t5⟩ := tk_n hv
      have hT := isT_0 (P := fun y => p0 ≤ y ∧ y ≠ h.length) (h := h1) (t := 10 * (M (117 + 5 * tw t + 1 + k) - 100)) t3 ⟨by omega, by omega⟩ ⟨by omega, by omega⟩
      rw [t4, t5] at hT
      have l5' : ∀ c c', ((h1 ++ [c]) ++ [c'])[h.length]? = _ := fun c c' => (g_al (by rw [List.length_append]; omega)).trans ((g_al l2).trans l5)
      obtain ⟨fs, hfs⟩ := isT_ob hT
      simp (discharger := first | omega | (simp only [List.length_append, List.length_set, List.length_cons, List.length_nil]; done) | (simp only [List.length_append, List.length_set, List.length_cons, List.length_nil]; omega)) only [e132_123, e132_125, e132_128, e132_129, e132_132, e132_134, e132_135, e132_137, e132_139, e132_141, e132_143, e132_146, e132_149, e132_149i, e132_150, e132_151, e132_153, e132_154, e132_157, e132_160, e132_163, e132_164, e132_167, e132_168, e132_170, e132_171, e132_172, e132_173, e132_176, eq_self, am_kr_s, am_kr_n, w8_nil, w8_c, w8_a, w8_0, ct_i, ct_r, ct_n, ct_k, ct_l, true_and, and_true, ↓reduceIte, Nat.reduceAdd, Nat.reduceMul, Nat.reduceSub, Nat.reduceLeDiff, Nat.reduceLT, Nat.reduceDiv, Nat.reduceMod, Nat.reduceEqDiff, ne_eq, not_false_eq_true, not_true_eq_false, reduceCtorEq, n_rem, d_le_t, d_le_f, d_lt_t, d_lt_f, d_eq_t, d_eq_f, d_eq0_t, d_eq0_f, d_gt0_t, d_gt0_f, d_le0_t, d_le0_f, i_lt0, i_ge0, i_ne1, am_in_t, i_div, i_rem, nI_add, nI_mul, nI_sub, nI_m1, nI_clamp, fk0_0_0r, fk0_0_0n, fk0_0_0k, fk0_0_1r, fk0_0_1n, fk0_0_1k, fk0_0_3r, fk0_0_3n, fk0_0_3k, fk0_0_5r, fk0_0_5n, fk0_0_5k, fk0_0_6r, fk0_0_6n, fk0_0_6k, fk6_0_2i, fk19_1_6i, fk21_0_4i, fk22_0_4i, fk23_1_7r, fk23_1_7n, fk23_1_7k, fk24_1_7r, fk24_1_7n, fk24_1_7k, fk31_0_2i, fk36_1_0r, fk36_1_0n, fk36_1_0k, fk36_1_1r, fk36_1_1n, fk36_1_1k, fk36_1_2r, fk36_1_2n, fk36_1_2k, fk36_1_4r, fk36_1_4n, fk36_1_4k, fk36_1_5r, fk36_1_5n, fk36_1_5k, fk36_1_7r, fk36_1_7n, fk36_1_7k, fk36_1_8r, fk36_1_8n, fk36_1_8k, fk37_1_3i, fk37_1_6i, fk37_1_7r, fk37_1_7n, fk37_1_7k, fk42_2_0i, fk42_2_1i, fk42_2_2r, fk42_2_2n, fk42_2_2k, fk42_2_3i, fk46_3_0i, fk46_3_1i, fk46_3_2i, fk46_3_3r, fk46_3_3n, fk46_3_3k, fk50_4_2r, fk50_4_2n, fk50_4_2k, fk51_4_0i, fk51_4_1i, fk52_4_0i, fk52_4_1i, fk54_4_0i, fk56_4_0i, fk57_4_0i, fk58_5_0r, fk58_5_0n, fk58_5_0k, fk58_5_1r, fk58_5_1n, fk58_5_1k, fk58_5_3r, fk58_5_3n, fk58_5_3k, fk58_5_4r, fk58_5_4n, fk58_5_4k, fk58_5_6r, fk58_5_6n, fk58_5_6k, fk58_5_8r, fk58_5_8n, fk58_5_8k, fk58_5_11r, fk58_5_11n, fk58_5_11k, fk58_5_13r, fk58_5_13n, fk58_5_13k, fk58_5_15r, fk58_5_15n, fk58_5_15k, fk58_5_16r, fk58_5_16n, fk58_5_16k, fk58_5_17r, fk58_5_17n, fk58_5_17k, fk58_5_20r, fk58_5_20n, fk58_5_20k, fk58_5_21r, fk58_5_21n, fk58_5_21k, fk63_5_2i, fk83_5_5i, fk84_5_5i, fk85_5_7i, fk85_5_9i, fk85_5_10i, fk86_5_7i, fk86_5_9i, fk86_5_10i, fk94_5_9i, fk94_5_10i, fk95_5_12i, fk95_5_14i, fk95_5_18i, fk95_5_19i, fk99_5_12i, fk99_5_14i, fk107_5_12i, fk107_5_14i, fk107_5_19i, fk108_5_18i, fk115_5_9i, fk115_5_22i, fk117_5_22i, fk118_5_9i, fk119_5_2i, fk123_6_0i, fk123_6_1r, fk123_6_1n, fk123_6_1k, fk129_7_6i, fk130_8_0i, fk130_8_2r, fk130_8_2n, fk130_8_2k, fk132_8_0i, fk132_8_1i, fk134_1_3i, fk134_8_1i, fk140_7_0r, fk140_7_0n, fk140_7_0k, fk140_7_1r, fk140_7_1n, fk140_7_1k, fk140_7_2r, fk140_7_2n, fk140_7_2k, fk141_7_0r, fk141_7_0n, fk141_7_0k, fk141_7_1r, fk141_7_1n, fk141_7_1k, fk141_7_2r, fk141_7_2n, fk141_7_2k, fk141_7_3r, fk141_7_3n, fk141_7_3k, fk143_9_0r, fk143_9_0n, fk143_9_0k, fk143_9_1b, fk143_9_1c, fk144_9_3i, fk145_9_0r, fk145_9_0n, fk145_9_0k, fk148_9_3i, fk149_9_0r, fk149_9_0n, fk149_9_0k, fk149_9_1b, fk149_9_1c, fk150_9_3i, fk151_9_3i, am_clK, am_ccK, am_gfK, am_pfK, am_iaK, am_isK, am_aaK, am_asK, am_alK, am_isC, am_rf, am_rc, decide_eq_true_eq, decide_true, List.getElem?_cons_zero, List.getElem?_cons_succ, List.length_cons, List.length_nil, List.length_set, List.length_append, List.set_cons_zero, List.set_cons_succ, g_sn, g_se, g_al, g_an, g_aq, s_al, s_an, s_aq, s_s, rv0_4, rv1_2, rv2_2, rv5_2, rv6_2, rv7_2, rv8_2, rv9_2, rv10_2, rv11_2, rv12_2, rv13_2, rv14_2, rv15_2, rv17_2, rv18_2, rv19_2, rv20_2, rv21_2, rv22_2, rv23_7, rv24_2, rv25_2, rv26_2, rv27_2, rv28_2, rv29_2, rv30_2, rv31_2, rv32_2, rv33_2, rv36_5, rv37_2, rv38_2, rv39_2, rv40_2, rv41_2, rv42_4, rv43_2, rv44_2, rv45_4, rv46_4, rv47_2, rv48_2, rv49_2, rv50_5, rv51_2, rv52_2, rv53_2, rv54_2, rv55_2, rv56_2, rv57_2, rv122_4, rv123_4, rv124_2, rv125_2, rv126_2, rv127_2, rv128_2, rv129_4, rv130_5, rv131_2, rv132_2, rv133_2, rv134_2, rv135_2, rv136_2, dft0, dft5, dft1, dft2, dft3, dft4, dft6, dft7, dft8, dft9, ham1, hcm1, egk, c42_0 (dd := 0), l5', hfs]
      have hN := nwL_s (h2 := (h1 ++ [.inr (.inr (2, [.int (nI 0), .int (nI (M (117 + 5 * tw t + 1 + k) - 100)), .ref (h1.length + 1), .int (nI 1)]))]) ++ [.inr (.inl (2, 0, fun _ => none))]) (v := [10 * (M (117 + 5 * tw t + 1 + k) - 100)]) ⟨l1, l2, l3, l4, l5, l6⟩ (GR_le (GR_app (GR_app GR_rf)) (by show 0 + 4 + 1 + 0 + 1 ≤ 6; decide)) (isT_le (n := 1) (by decide) hT) (by rw [bn_s, if_neg hc])
      rw [s_al (by rw [List.length_append]; omega), s_al l2] at hN
      exact ih (k + 1) _ _ _ _ (by omega) hN hQ
end EM
