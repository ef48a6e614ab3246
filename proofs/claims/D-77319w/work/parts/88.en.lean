/-! the component: site -/
section EN
variable {S : am_S} {d : Nat} {h h' h1 h2 h0 : am_H} {Q : am_Out → Prop} {σ : sg} {M M' : Nat → Nat} {T : Nat → Option Nat} {a b k n t w w2 z total done why o p0 sz am tt cm R : Nat} {g : Nat → Option Nat} {ds : List (Nat × List Nat)} {ps ps0 : List (List Nat)} {gm : Nat → Int32}
theorem GR_km (hg : GR h h1 w) : KM z h h1 w := ⟨hg.1, fun a ha _ _ _ _ _ => hg.2.1 a ha, hg.2.2⟩
theorem t40 {k n : Nat} (hk : k < 6) (hn : n ≤ 4) : ta (40000 + 10 * k + n) = n ∧ ck (40000 + 10 * k + n) = 3 ∧ cv (40000 + 10 * k + n) = k := by
  have h1 : tk (40000 + 10 * k + n) = 4 := by unfold tk; omega
  exact ⟨by unfold ta; omega, by unfold ck; rw [h1]; rfl, by unfold cv; rw [h1, if_neg (by decide)]; unfold tw; omega⟩
theorem i_asc {x y z : Int32} : x + (y - z) = x - z + y := by grind
theorem rsC_le {o u n : Nat} : rsC M o u n ps ≤ 6 := by
  unfold rsC
  split
  · omega
  · split
    · omega
    · split <;> omega
/-- what the site's call comes to -/
def stQ (h : am_H) (z p0 done : Nat) (T : Nat → Option Nat) (ps0 : List (List Nat)) (Q : am_Out → Prop) (r : mg) : Prop := ∀ h' a' q, r.2.2.2 = q :: ps0 → KM z h h' 40 → MSt h' z r.1 T r.2.1 (done + r.2.2.1) → isT (fun y => p0 ≤ y) q.length h' a' q → Q (.inl (some (.ref a')), h')
theorem st_lv (hn : ndC h z a b t p0 g ds) (hps : ps = (wds ds).reverse ++ ps0) (hQ : stQ h0 z p0 done T ps0 Q (lv why t total M ps)) (hk : KM z h0 h 40) (hm : MSt h z (va_up M (179 + why - 1) (M (179 + why - 1) + 1)) T total done) : Q (.inl (some (.ref a)), h) := by
  refine hQ h a (t :: fls ds) ?_ hk hm (ndC_T hn)
  show putP t ps = _
  unfold putP
  rw [hps, fl_wds hn.2.2.1, dp_wds hn.2.2.1]
theorem c132_n (hm : MSt h z M T total done) (hA : rsA h z a b t p0 g ds M T am cm gm tt ps) (hp0 : p0 ≤ h.length) (htt : tt < 6) (ht3 : tk t = 3) (hps : ps = (wds ds).reverse ++ ps0) (htot : 1 + (fls ds).length ≤ total) (h30 : total ≤ 30) (hr0 : rsC M (tw t) (M (42 + 7 * tt)) (ta t) ps = 0) {a5 a6 a7 a8 : Option Value}
    (hQ : stQ h z p0 done T ps0 Q (if 30 < total - (fl (ps.take (ta t))).length + szT M (tw t) (ta t) ps (M (42 + 7 * tt)) then lv 7 t total M ps else (M, total - (fl (ps.take (ta t))).length + szT M (tw t) (ta t) ps (M (42 + 7 * tt)), 1, nwP M (tw t) tt (ta t) ps :: ps.drop (ta t)))) : wp S (d + 2) 132 111 [some (.ref z), some (.ref a), some (.int (nI (tw t))), some (.ref am), some (.int (nI (M (42 + 7 * tt)))), a5, a6, a7, a8] [] h Q := by
  have hm' := hm
  have hA' := hA
  obtain ⟨hr, e1, -, h84⟩ := hm
  obtain ⟨hn, hw, ham, hcm, hgm, h199, hu4, hsf, hds⟩ := hA
  have hn' := hn
  obtain ⟨n1, n2, n3, n4, n5, n6, n7, n8⟩ := hn
  have hu : M (42 + 7 * tt) ≤ 1000000 := by omega
  have hlz := g_lt e1
  simp (discharger := first | omega | (simp only [List.length_append, List.length_set, List.length_cons, List.length_nil]; done) | (simp only [List.length_append, List.length_set, List.length_cons, List.length_nil]; omega)) only [e132_111, e132_113, e132_116, e132_118, e132_119, eq_self, am_kr_s, am_kr_n, w8_nil, w8_c, w8_a, w8_0, ct_i, ct_r, ct_n, ct_k, ct_l, true_and, and_true, ↓reduceIte, Nat.reduceAdd, Nat.reduceMul, Nat.reduceSub, Nat.reduceLeDiff, Nat.reduceLT, Nat.reduceDiv, Nat.reduceMod, Nat.reduceEqDiff, ne_eq, not_false_eq_true, not_true_eq_false, reduceCtorEq, n_rem, d_le_t, d_le_f, d_lt_t, d_lt_f, d_eq_t, d_eq_f, d_eq0_t, d_eq0_f, d_gt0_t, d_gt0_f, d_le0_t, d_le0_f, i_lt0, i_ge0, i_ne1, am_in_t, i_div, i_rem, nI_add, nI_mul, nI_sub, nI_m1, nI_clamp, fk0_0_0r, fk0_0_0n, fk0_0_0k, fk0_0_1r, fk0_0_1n, fk0_0_1k, fk0_0_3r, fk0_0_3n, fk0_0_3k, fk0_0_5r, fk0_0_5n, fk0_0_5k, fk0_0_6r, fk0_0_6n, fk0_0_6k, fk6_0_2i, fk19_1_6i, fk21_0_4i, fk22_0_4i, fk23_1_7r, fk23_1_7n, fk23_1_7k, fk24_1_7r, fk24_1_7n, fk24_1_7k, fk31_0_2i, fk36_1_0r, fk36_1_0n, fk36_1_0k, fk36_1_1r, fk36_1_1n, fk36_1_1k, fk36_1_2r, fk36_1_2n, fk36_1_2k, fk36_1_4r, fk36_1_4n, fk36_1_4k, fk36_1_5r, fk36_1_5n, fk36_1_5k, fk36_1_7r, fk36_1_7n, fk36_1_7k, fk36_1_8r, fk36_1_8n, fk36_1_8k, fk37_1_3i, fk37_1_6i, fk37_1_7r, fk37_1_7n, fk37_1_7k, fk42_2_0i, fk42_2_1i, fk42_2_2r, fk42_2_2n, fk42_2_2k, fk42_2_3i, fk46_3_0i, fk46_3_1i, fk46_3_2i, fk46_3_3r, fk46_3_3n, fk46_3_3k, fk50_4_2r, fk50_4_2n, fk50_4_2k, fk51_4_0i, fk51_4_1i, fk52_4_0i, fk52_4_1i, fk54_4_0i, fk56_4_0i, fk57_4_0i, fk58_5_0r, fk58_5_0n, fk58_5_0k, fk58_5_1r, fk58_5_1n, fk58_5_1k, fk58_5_3r, fk58_5_3n, fk58_5_3k, fk58_5_4r, fk58_5_4n, fk58_5_4k, fk58_5_6r, fk58_5_6n, fk58_5_6k, fk58_5_8r, fk58_5_8n, fk58_5_8k, fk58_5_11r, fk58_5_11n, fk58_5_11k, fk58_5_13r, fk58_5_13n, fk58_5_13k, fk58_5_15r, fk58_5_15n, fk58_5_15k, fk58_5_16r, fk58_5_16n, fk58_5_16k, fk58_5_17r, fk58_5_17n, fk58_5_17k, fk58_5_20r, fk58_5_20n, fk58_5_20k, fk58_5_21r, fk58_5_21n, fk58_5_21k, fk63_5_2i, fk83_5_5i, fk84_5_5i, fk85_5_7i, fk85_5_9i, fk85_5_10i, fk86_5_7i, fk86_5_9i, fk86_5_10i, fk94_5_9i, fk94_5_10i, fk95_5_12i, fk95_5_14i, fk95_5_18i, fk95_5_19i, fk99_5_12i, fk99_5_14i, fk107_5_12i, fk107_5_14i, fk107_5_19i, fk108_5_18i, fk115_5_9i, fk115_5_22i, fk117_5_22i, fk118_5_9i, fk119_5_2i, fk123_6_0i, fk123_6_1r, fk123_6_1n, fk123_6_1k, fk129_7_6i, fk130_8_0i, fk130_8_2r, fk130_8_2n, fk130_8_2k, fk132_8_0i, fk132_8_1i, fk134_1_3i, fk134_8_1i, fk140_7_0r, fk140_7_0n, fk140_7_0k, fk140_7_1r, fk140_7_1n, fk140_7_1k, fk140_7_2r, fk140_7_2n, fk140_7_2k, fk141_7_0r, fk141_7_0n, fk141_7_0k, fk141_7_1r, fk141_7_1n, fk141_7_1k, fk141_7_2r, fk141_7_2n, fk141_7_2k, fk141_7_3r, fk141_7_3n, fk141_7_3k, fk143_9_0r, fk143_9_0n, fk143_9_0k, fk143_9_1b, fk143_9_1c, fk144_9_3i, fk145_9_0r, fk145_9_0n, fk145_9_0k, fk148_9_3i, fk149_9_0r, fk149_9_0n, fk149_9_0k, fk149_9_1b, fk149_9_1c, fk150_9_3i, fk151_9_3i, am_clK, am_ccK, am_gfK, am_pfK, am_iaK, am_isK, am_aaK, am_asK, am_alK, am_isC, am_rf, am_rc, decide_eq_true_eq, decide_true, List.getElem?_cons_zero, List.getElem?_cons_succ, List.length_cons, List.length_nil, List.length_set, List.length_append, List.set_cons_zero, List.set_cons_succ, g_sn, g_se, g_al, g_an, g_aq, s_al, s_an, s_aq, s_s, rv0_4, rv1_2, rv2_2, rv5_2, rv6_2, rv7_2, rv8_2, rv9_2, rv10_2, rv11_2, rv12_2, rv13_2, rv14_2, rv15_2, rv17_2, rv18_2, rv19_2, rv20_2, rv21_2, rv22_2, rv23_7, rv24_2, rv25_2, rv26_2, rv27_2, rv28_2, rv29_2, rv30_2, rv31_2, rv32_2, rv33_2, rv36_5, rv37_2, rv38_2, rv39_2, rv40_2, rv41_2, rv42_4, rv43_2, rv44_2, rv45_4, rv46_4, rv47_2, rv48_2, rv49_2, rv50_5, rv51_2, rv52_2, rv53_2, rv54_2, rv55_2, rv56_2, rv57_2, rv122_4, rv123_4, rv124_2, rv125_2, rv126_2, rv127_2, rv128_2, rv129_4, rv130_5, rv131_2, rv132_2, rv133_2, rv134_2, rv135_2, rv136_2, dft0, dft5, dft1, dft2, dft3, dft4, dft6, dft7, dft8, dft9, hu]
  refine c132_l hA' hp0 (M (42 + 7 * tt)) 0 _ [] (fun _ => none) a8 (Nat.zero_add _) ⟨GR_le (GR_app GR_rf) (by show 0 + M (42 + 7 * tt) + 1 ≤ 5 + 6 * 0; omega), by rw [List.length_append, List.length_singleton]; omega, rfl, rfl, g_an, fun i q hq => by simp at hq⟩ (fun h2 es g2 a8 hL => ?_)
  obtain ⟨l1, l2, l3, l4, l5, l6⟩ := hL
  obtain ⟨t1, t2, t3⟩ := t40 (k := tt) (n := M (42 + 7 * tt)) htt hu4
  have ham2 := GR_a l1 ham
  have n12 := GR_a l1 n1
  have e12 := GR_a l1 e1
  have lam2 := g_lt ham2
  have ham2' : ∀ c, (h2 ++ [c])[am]? = _ := fun c => (g_al lam2).trans ham2
  have l5' : ∀ c, (h2 ++ [c])[h.length]? = _ := fun c => (g_al l2).trans l5
  have l6' : ∀ c : am_C, ∀ (i : Nat) (q : Nat × List Nat), es[i]? = some q → g2 i = some q.1 ∧ isT (fun y => p0 ≤ y ∧ y ≠ h.length) 30 (h2 ++ [c]) q.1 q.2 := fun c i q hq => ⟨(l6 i q hq).1, isT_mn mn_app _ _ _ (l6 i q hq).2⟩
  have hT := isT_mk (P := fun y => p0 ≤ y) (t := 40000 + 10 * tt + M (42 + 7 * tt)) (h := h2) (b := h.length) (n := 30) (cs := es) (g := g2) (by rw [t1]; exact l5) (by rw [t1]; exact l3) (fun i q hq => ⟨(l6 i q hq).1, isT_mn (mn_sub (fun y (p : p0 ≤ y ∧ y ≠ h.length) => p.1)) _ _ _ (l6 i q hq).2⟩) (by show p0 ≤ h2.length; omega) hp0
  rw [t2, t3] at hT
  have hbl : (fls es).length = szT M (tw t) (ta t) ps (M (42 + 7 * tt)) := by rw [l4, bn_len]
  have hfl : fl (ps.take (ta t)) = fls ds := by rw [hps]; exact fl_wds n3
  rw [hfl] at hQ
  rw [← hbl] at hQ
  have hsz : szT M (tw t) (ta t) ps (M (42 + 7 * tt)) ≤ 200 ∨ True := Or.inr trivial
  have n13 : ∀ c, (h2 ++ [c])[a]? = _ := fun c => (g_al (g_lt n12)).trans n12
  have e13 : ∀ c, (h2 ++ [c])[z]? = _ := fun c => (g_al (g_lt e12)).trans e12
  have hG3 := GR_app (c := .inr (.inr (2, [.int (nI 3), .int (nI tt), .ref h.length, .int (nI (1 + (fls es).length))]))) l1
  have hw3 : 5 + 6 * M (42 + 7 * tt) + am_csz (.inr (.inr (2, [.int (nI 3), .int (nI tt), .ref h.length, .int (nI (1 + (fls es).length))]))) + 1 ≤ 40 := by
    show 5 + 6 * M (42 + 7 * tt) + 4 + 1 ≤ 40
    omega
  have hm3 : MSt (h2 ++ [.inr (.inr (2, [.int (nI 3), .int (nI tt), .ref h.length, .int (nI (1 + (fls es).length))]))]) z M T total done := MSt_up hm' (fun y hy => hG3.2.1 y (by omega))
  have hn3 : ndC (h2 ++ [.inr (.inr (2, [.int (nI 3), .int (nI tt), .ref h.length, .int (nI (1 + (fls es).length))]))]) z a b t p0 g ds := ndC_mn (c := 0) hn' (fun y _ hy => hG3.2.1 y hy)
  have hbound : (fls es).length < 2 ^ 20 := by
    rw [hbl]
    have hs : ∀ k, k ≤ M (42 + 7 * tt) → szT M (tw t) (ta t) ps k ≤ 100 * k := by
      intro k
      induction k with
      | zero => intro _; exact Nat.le_refl _
      | succ k ihk =>
        intro hk
        have e : szT M (tw t) (ta t) ps (k + 1) = szT M (tw t) (ta t) ps k + (if M (117 + 5 * tw t + 1 + k) < 100 then (arg (ta t) ps (M (117 + 5 * tw t + 1 + k))).length else 1) := rfl
        have := ihk (by omega)
        rw [e]
        split
        next q =>
          have hta := hsf k (by omega) q
          have hq : ds[M (117 + 5 * tw t + 1 + k)]? = some ds[M (117 + 5 * tw t + 1 + k)] := List.getElem?_eq_getElem (by omega)
          rw [(hds _ _ hq).1]
          have h5 : ds[M (117 + 5 * tw t + 1 + k)].2.length ≤ (fls ds).length := flat_mem ds _ _ hq
          omega
        · omega
    have := hs _ (Nat.le_refl _)
    omega
  have hz2 : z < h2.length := by omega
  have hne : z ≠ h2.length := by omega
  have ecmp : total - (1 + (fls ds).length) + (1 + (fls es).length) = total - (fls ds).length + (fls es).length := by omega
  have c42' := fun Q => c42 (S := S) (d := d) (Q := Q) (x := nI 3) (y := nI tt) (a := h2.length) (h := h2 ++ [.inr (.inr (2, [.int (nI 0), .int (nI 0), .null, .int (nI 0)]))]) g_an (l5' _) l3 (by omega) (l6' _)
  by_cases h7 : 30 < total - (fls ds).length + (fls es).length
  · rw [if_pos h7] at hQ
    obtain ⟨lf, h9⟩ : ∃ lf, (h2 ++ [.inr (.inr (2, [.int (nI 3), .int (nI tt), .ref h.length, .int (nI (1 + (fls es).length))]))])[9]? = some (.inl (0, 8, lf)) := by
      obtain ⟨⟨s, s1, -⟩, -⟩ := hm3
      exact ⟨_, s1.2.2.2.2.2.2⟩
    simp (discharger := first | omega | (simp only [List.length_append, List.length_set, List.length_cons, List.length_nil]; done) | (simp only [List.length_append, List.length_set, List.length_cons, List.length_nil]; omega)) only [e132_179, e132_182, e132_182i, e132_183, e132_184, e132_185, e132_188, e132_190, e132_193, e132_195, e132_196, e132_199, e132_200, e132_203, e132_204, e132_206, e132_209, e132_210, e132_212, e132_215, e132_216, e132_217, e132_219, e132_222, eq_self, am_kr_s, am_kr_n, w8_nil, w8_c, w8_a, w8_0, ct_i, ct_r, ct_n, ct_k, ct_l, true_and, and_true, ↓reduceIte, Nat.reduceAdd, Nat.reduceMul, Nat.reduceSub, Nat.reduceLeDiff, Nat.reduceLT, Nat.reduceDiv, Nat.reduceMod, Nat.reduceEqDiff, ne_eq, not_false_eq_true, not_true_eq_false, reduceCtorEq, n_rem, d_le_t, d_le_f, d_lt_t, d_lt_f, d_eq_t, d_eq_f, d_eq0_t, d_eq0_f, d_gt0_t, d_gt0_f, d_le0_t, d_le0_f, i_lt0, i_ge0, i_ne1, am_in_t, i_div, i_rem, nI_add, nI_mul, nI_sub, nI_m1, nI_clamp, fk0_0_0r, fk0_0_0n, fk0_0_0k, fk0_0_1r, fk0_0_1n, fk0_0_1k, fk0_0_3r, fk0_0_3n, fk0_0_3k, fk0_0_5r, fk0_0_5n, fk0_0_5k, fk0_0_6r, fk0_0_6n, fk0_0_6k, fk6_0_2i, fk19_1_6i, fk21_0_4i, fk22_0_4i, fk23_1_7r, fk23_1_7n, fk23_1_7k, fk24_1_7r, fk24_1_7n, fk24_1_7k, fk31_0_2i, fk36_1_0r, fk36_1_0n, fk36_1_0k, fk36_1_1r, fk36_1_1n, fk36_1_1k, fk36_1_2r, fk36_1_2n, fk36_1_2k, fk36_1_4r, fk36_1_4n, fk36_1_4k, fk36_1_5r, fk36_1_5n, fk36_1_5k, fk36_1_7r, fk36_1_7n, fk36_1_7k, fk36_1_8r, fk36_1_8n, fk36_1_8k, fk37_1_3i, fk37_1_6i, fk37_1_7r, fk37_1_7n, fk37_1_7k, fk42_2_0i, fk42_2_1i, fk42_2_2r, fk42_2_2n, fk42_2_2k, fk42_2_3i, fk46_3_0i, fk46_3_1i, fk46_3_2i, fk46_3_3r, fk46_3_3n, fk46_3_3k, fk50_4_2r, fk50_4_2n, fk50_4_2k, fk51_4_0i, fk51_4_1i, fk52_4_0i, fk52_4_1i, fk54_4_0i, fk56_4_0i, fk57_4_0i, fk58_5_0r, fk58_5_0n, fk58_5_0k, fk58_5_1r, fk58_5_1n, fk58_5_1k, fk58_5_3r, fk58_5_3n, fk58_5_3k, fk58_5_4r, fk58_5_4n, fk58_5_4k, fk58_5_6r, fk58_5_6n, fk58_5_6k, fk58_5_8r, fk58_5_8n, fk58_5_8k, fk58_5_11r, fk58_5_11n, fk58_5_11k, fk58_5_13r, fk58_5_13n, fk58_5_13k, fk58_5_15r, fk58_5_15n, fk58_5_15k, fk58_5_16r, fk58_5_16n, fk58_5_16k, fk58_5_17r, fk58_5_17n, fk58_5_17k, fk58_5_20r, fk58_5_20n, fk58_5_20k, fk58_5_21r, fk58_5_21n, fk58_5_21k, fk63_5_2i, fk83_5_5i, fk84_5_5i, fk85_5_7i, fk85_5_9i, fk85_5_10i, fk86_5_7i, fk86_5_9i, fk86_5_10i, fk94_5_9i, fk94_5_10i, fk95_5_12i, fk95_5_14i, fk95_5_18i, fk95_5_19i, fk99_5_12i, fk99_5_14i, fk107_5_12i, fk107_5_14i, fk107_5_19i, fk108_5_18i, fk115_5_9i, fk115_5_22i, fk117_5_22i, fk118_5_9i, fk119_5_2i, fk123_6_0i, fk123_6_1r, fk123_6_1n, fk123_6_1k, fk129_7_6i, fk130_8_0i, fk130_8_2r, fk130_8_2n, fk130_8_2k, fk132_8_0i, fk132_8_1i, fk134_1_3i, fk134_8_1i, fk140_7_0r, fk140_7_0n, fk140_7_0k, fk140_7_1r, fk140_7_1n, fk140_7_1k, fk140_7_2r, fk140_7_2n, fk140_7_2k, fk141_7_0r, fk141_7_0n, fk141_7_0k, fk141_7_1r, fk141_7_1n, fk141_7_1k, fk141_7_2r, fk141_7_2n, fk141_7_2k, fk141_7_3r, fk141_7_3n, fk141_7_3k, fk143_9_0r, fk143_9_0n, fk143_9_0k, fk143_9_1b, fk143_9_1c, fk144_9_3i, fk145_9_0r, fk145_9_0n, fk145_9_0k, fk148_9_3i, fk149_9_0r, fk149_9_0n, fk149_9_0k, fk149_9_1b, fk149_9_1c, fk150_9_3i, fk151_9_3i, am_clK, am_ccK, am_gfK, am_pfK, am_iaK, am_isK, am_aaK, am_asK, am_alK, am_isC, am_rf, am_rc, decide_eq_true_eq, decide_true, List.getElem?_cons_zero, List.getElem?_cons_succ, List.length_cons, List.length_nil, List.length_set, List.length_append, List.set_cons_zero, List.set_cons_succ, g_sn, g_se, g_al, g_an, g_aq, s_al, s_an, s_aq, s_s, rv0_4, rv1_2, rv2_2, rv5_2, rv6_2, rv7_2, rv8_2, rv9_2, rv10_2, rv11_2, rv12_2, rv13_2, rv14_2, rv15_2, rv17_2, rv18_2, rv19_2, rv20_2, rv21_2, rv22_2, rv23_7, rv24_2, rv25_2, rv26_2, rv27_2, rv28_2, rv29_2, rv30_2, rv31_2, rv32_2, rv33_2, rv36_5, rv37_2, rv38_2, rv39_2, rv40_2, rv41_2, rv42_4, rv43_2, rv44_2, rv45_4, rv46_4, rv47_2, rv48_2, rv49_2, rv50_5, rv51_2, rv52_2, rv53_2, rv54_2, rv55_2, rv56_2, rv57_2, rv122_4, rv123_4, rv124_2, rv125_2, rv126_2, rv127_2, rv128_2, rv129_4, rv130_5, rv131_2, rv132_2, rv133_2, rv134_2, rv135_2, rv136_2, dft0, dft5, dft1, dft2, dft3, dft4, dft6, dft7, dft8, dft9, ham2', c42', n13, e13, ecmp, c133 hm3 (why := 7) (by decide) h9]
    rw [← s_al (show 9 < h2.length by omega)]
    exact st_lv (why := 7) (ndC_mn (c := 0) hn3 (fun y hy _ => g_sn (by omega))) hps hQ (KM_set (KM_le (GR_km hG3) hw3) h9 (by rfl) (by omega)) (MSt_lv (why := 7) hm3 hw (by decide) h9)
  · rw [if_neg h7] at hQ
    simp (discharger := first | omega | (simp only [List.length_append, List.length_set, List.length_cons, List.length_nil]; done) | (simp only [List.length_append, List.length_set, List.length_cons, List.length_nil]; omega)) only [e132_179, e132_182, e132_182i, e132_183, e132_184, e132_185, e132_188, e132_190, e132_193, e132_195, e132_196, e132_199, e132_200, e132_203, e132_204, e132_206, e132_209, e132_210, e132_212, e132_215, e132_216, e132_217, e132_219, e132_222, e132_223, e132_224, e132_224i, e132_225, e132_228, e132_230, e132_233, e132_234, e132_237, e132_238, e132_239, e132_242, e132_243, e132_243i, e132_244, e132_247, e132_248, e132_249, e132_252, e132_254, eq_self, am_kr_s, am_kr_n, w8_nil, w8_c, w8_a, w8_0, ct_i, ct_r, ct_n, ct_k, ct_l, true_and, and_true, ↓reduceIte, Nat.reduceAdd, Nat.reduceMul, Nat.reduceSub, Nat.reduceLeDiff, Nat.reduceLT, Nat.reduceDiv, Nat.reduceMod, Nat.reduceEqDiff, ne_eq, not_false_eq_true, not_true_eq_false, reduceCtorEq, n_rem, d_le_t, d_le_f, d_lt_t, d_lt_f, d_eq_t, d_eq_f, d_eq0_t, d_eq0_f, d_gt0_t, d_gt0_f, d_le0_t, d_le0_f, i_lt0, i_ge0, i_ne1, am_in_t, i_div, i_rem, nI_add, nI_mul, nI_sub, nI_m1, nI_clamp, fk0_0_0r, fk0_0_0n, fk0_0_0k, fk0_0_1r, fk0_0_1n, fk0_0_1k, fk0_0_3r, fk0_0_3n, fk0_0_3k, fk0_0_5r, fk0_0_5n, fk0_0_5k, fk0_0_6r, fk0_0_6n, fk0_0_6k, fk6_0_2i, fk19_1_6i, fk21_0_4i, fk22_0_4i, fk23_1_7r, fk23_1_7n, fk23_1_7k, fk24_1_7r, fk24_1_7n, fk24_1_7k, fk31_0_2i, fk36_1_0r, fk36_1_0n, fk36_1_0k, fk36_1_1r, fk36_1_1n, fk36_1_1k, fk36_1_2r, fk36_1_2n, fk36_1_2k, fk36_1_4r, fk36_1_4n, fk36_1_4k, fk36_1_5r, fk36_1_5n, fk36_1_5k, fk36_1_7r, fk36_1_7n, fk36_1_7k, fk36_1_8r, fk36_1_8n, fk36_1_8k, fk37_1_3i, fk37_1_6i, fk37_1_7r, fk37_1_7n, fk37_1_7k, fk42_2_0i, fk42_2_1i, fk42_2_2r, fk42_2_2n, fk42_2_2k, fk42_2_3i, fk46_3_0i, fk46_3_1i, fk46_3_2i, fk46_3_3r, fk46_3_3n, fk46_3_3k, fk50_4_2r, fk50_4_2n, fk50_4_2k, fk51_4_0i, fk51_4_1i, fk52_4_0i, fk52_4_1i, fk54_4_0i, fk56_4_0i, fk57_4_0i, fk58_5_0r, fk58_5_0n, fk58_5_0k, fk58_5_1r, fk58_5_1n, fk58_5_1k, fk58_5_3r, fk58_5_3n, fk58_5_3k, fk58_5_4r, fk58_5_4n, fk58_5_4k, fk58_5_6r, fk58_5_6n, fk58_5_6k, fk58_5_8r, fk58_5_8n, fk58_5_8k, fk58_5_11r, fk58_5_11n, fk58_5_11k, fk58_5_13r, fk58_5_13n, fk58_5_13k, fk58_5_15r, fk58_5_15n, fk58_5_15k, fk58_5_16r, fk58_5_16n, fk58_5_16k, fk58_5_17r, fk58_5_17n, fk58_5_17k, fk58_5_20r, fk58_5_20n, fk58_5_20k, fk58_5_21r, fk58_5_21n, fk58_5_21k, fk63_5_2i, fk83_5_5i, fk84_5_5i, fk85_5_7i, fk85_5_9i, fk85_5_10i, fk86_5_7i, fk86_5_9i, fk86_5_10i, fk94_5_9i, fk94_5_10i, fk95_5_12i, fk95_5_14i, fk95_5_18i, fk95_5_19i, fk99_5_12i, fk99_5_14i, fk107_5_12i, fk107_5_14i, fk107_5_19i, fk108_5_18i, fk115_5_9i, fk115_5_22i, fk117_5_22i, fk118_5_9i, fk119_5_2i, fk123_6_0i, fk123_6_1r, fk123_6_1n, fk123_6_1k, fk129_7_6i, fk130_8_0i, fk130_8_2r, fk130_8_2n, fk130_8_2k, fk132_8_0i, fk132_8_1i, fk134_1_3i, fk134_8_1i, fk140_7_0r, fk140_7_0n, fk140_7_0k, fk140_7_1r, fk140_7_1n, fk140_7_1k, fk140_7_2r, fk140_7_2n, fk140_7_2k, fk141_7_0r, fk141_7_0n, fk141_7_0k, fk141_7_1r, fk141_7_1n, fk141_7_1k, fk141_7_2r, fk141_7_2n, fk141_7_2k, fk141_7_3r, fk141_7_3n, fk141_7_3k, fk143_9_0r, fk143_9_0n, fk143_9_0k, fk143_9_1b, fk143_9_1c, fk144_9_3i, fk145_9_0r, fk145_9_0n, fk145_9_0k, fk148_9_3i, fk149_9_0r, fk149_9_0n, fk149_9_0k, fk149_9_1b, fk149_9_1c, fk150_9_3i, fk151_9_3i, am_clK, am_ccK, am_gfK, am_pfK, am_iaK, am_isK, am_aaK, am_asK, am_alK, am_isC, am_rf, am_rc, decide_eq_true_eq, decide_true, List.getElem?_cons_zero, List.getElem?_cons_succ, List.length_cons, List.length_nil, List.length_set, List.length_append, List.set_cons_zero, List.set_cons_succ, g_sn, g_se, g_al, g_an, g_aq, s_al, s_an, s_aq, s_s, rv0_4, rv1_2, rv2_2, rv5_2, rv6_2, rv7_2, rv8_2, rv9_2, rv10_2, rv11_2, rv12_2, rv13_2, rv14_2, rv15_2, rv17_2, rv18_2, rv19_2, rv20_2, rv21_2, rv22_2, rv23_7, rv24_2, rv25_2, rv26_2, rv27_2, rv28_2, rv29_2, rv30_2, rv31_2, rv32_2, rv33_2, rv36_5, rv37_2, rv38_2, rv39_2, rv40_2, rv41_2, rv42_4, rv43_2, rv44_2, rv45_4, rv46_4, rv47_2, rv48_2, rv49_2, rv50_5, rv51_2, rv52_2, rv53_2, rv54_2, rv55_2, rv56_2, rv57_2, rv122_4, rv123_4, rv124_2, rv125_2, rv126_2, rv127_2, rv128_2, rv129_4, rv130_5, rv131_2, rv132_2, rv133_2, rv134_2, rv135_2, rv136_2, dft0, dft5, dft1, dft2, dft3, dft4, dft6, dft7, dft8, dft9, ham2', c42', n13, e13, ecmp, i_asc]
    have hmz := MSt_z hm3 (total - (fls ds).length + (fls es).length) (done + 1)
    rw [s_al hz2] at hmz
    refine hQ _ h2.length (nwP M (tw t) tt (ta t) ps) ?_ ?_ hmz ?_
    · show nwP M (tw t) tt (ta t) ps :: ps.drop (ta t) = _
      rw [hps, dp_wds n3]
    · have := KM_set (c' := .inr (.inr (8, [.int (nI (total - (fls ds).length + (fls es).length)), .int (nI (done + 1)), .ref 0]))) (KM_le (GR_km (z := z) hG3) hw3) (e13 _) (by rfl) (Or.inl rfl)
      rw [s_al hz2] at this
      exact this
    · have hT' : isT (fun y => p0 ≤ y) 31 _ h2.length ((40000 + 10 * tt + M (42 + 7 * tt)) :: fls es) := isT_mn (mn_set (a := z) (c := .inr (.inr (8, [.int (nI (total - (fls ds).length + (fls es).length)), .int (nI (done + 1)), .ref 0]))) (fun q => by omega)) _ _ _ hT
      rw [s_al hz2] at hT'
      have e : nwP M (tw t) tt (ta t) ps = (40000 + 10 * tt + M (42 + 7 * tt)) :: fls es := by unfold nwP; rw [l4]
      rw [e]
      exact isT_nm _ _ _ hT'
end EN
