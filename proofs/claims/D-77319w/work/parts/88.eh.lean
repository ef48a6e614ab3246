/-! the component: migration's state; a call is left -/
section EH
variable {S : am_S} {d : Nat} {h h' h2 : am_H} {Q : am_Out → Prop} {σ : sg} {M M' : Nat → Nat} {T : Nat → Option Nat} {a b k n t w w2 z total done why o : Nat}
/-- what of the component is never written during a migration, whose object is at z -/
def P0 (z : Nat) (a : Nat) : Prop := imm a ∧ a < z
def MSt (h : am_H) (z : Nat) (M : Nat → Nat) (T : Nat → Option Nat) (total done : Nat) : Prop := RS (P0 z) h 1 (M, T) ∧ h[z]? = some (.inr (.inr (8, [.int (nI total), .int (nI done), .ref 0]))) ∧ (∃ f1 f2 f3 f4 f5 f6, h[0]? = some (.inr (.inr (0, [.ref 1, f1, f2, f3, f4, f5, f6])))) ∧ 84 ≤ z
/-- all is kept but the migration's object and the State's changing cells -/
def KM (z : Nat) (h h' : am_H) (w : Nat) : Prop := h.length ≤ h'.length ∧ (∀ a, a < h.length → a ≠ z → a ≠ 1 → a ≠ 4 → a ≠ 5 → a ≠ 9 → h'[a]? = h[a]?) ∧ wt h' ≤ wt h + w
theorem KM_rf : KM z h h 0 := ⟨Nat.le_refl _, fun _ _ _ _ _ _ _ => rfl, Nat.le_refl _⟩
theorem KM_le (h1 : KM z h h' w) (hw : w ≤ w2) : KM z h h' w2 := ⟨h1.1, h1.2.1, by have := h1.2.2; omega⟩
theorem KM_tr (h1 : KM z h h' w) (q : KM z h' h2 w2) : KM z h h2 (w + w2) := ⟨Nat.le_trans h1.1 q.1, fun a ha b1 b2 b3 b4 b5 => by rw [q.2.1 a (by have := h1.1; omega) b1 b2 b3 b4 b5]; exact h1.2.1 a ha b1 b2 b3 b4 b5, by have := h1.2.2; have := q.2.2; omega⟩
theorem KM_app {c : am_C} (h1 : KM z h h' w) : KM z h (h' ++ [c]) (w + am_csz c + 1) := ⟨by rw [List.length_append]; have := h1.1; omega, fun a ha b1 b2 b3 b4 b5 => by rw [g_al (by have := h1.1; omega)]; exact h1.2.1 a ha b1 b2 b3 b4 b5, by rw [wt_app]; have := h1.2.2; omega⟩
theorem KM_set {c c' : am_C} (h1 : KM z h h' w) (hq : h'[a]? = some c) (hc : am_csz c' = am_csz c) (hi : a = z ∨ a = 1 ∨ a = 4 ∨ a = 5 ∨ a = 9 ∨ h.length ≤ a) : KM z h (h'.set a c') w := ⟨by rw [List.length_set]; exact h1.1, fun b hb b1 b2 b3 b4 b5 => by rw [g_sn (by omega)]; exact h1.2.1 b hb b1 b2 b3 b4 b5, by rw [wt_set hq hc]; exact h1.2.2⟩
theorem KM_a {c : am_C} (h1 : KM z h h' w) (ha : h[a]? = some c) (b1 : a ≠ z) (b2 : a ≠ 1) (b3 : a ≠ 4) (b4 : a ≠ 5) (b5 : a ≠ 9) : h'[a]? = some c := (h1.2.1 a (g_lt ha) b1 b2 b3 b4 b5).trans ha
theorem ni_m (ha : a = 0 ∨ a = 1 ∨ a = 2 ∨ a = 3 ∨ a = 4 ∨ a = 5 ∨ a = 6 ∨ a = 9 ∨ a = 14 ∨ a = 15 ∨ a = 16 ∨ a = 69) : ¬ imm a := fun q => ni2 ha (imm_2 q)
theorem KM_mn (h1 : KM z h h' w) : mn (P0 z) (P0 z) h h' := fun a c p q => ⟨p, KM_a h1 q (by have := p.2; omega) (fun e => ni_m (a := a) (by omega) p.1) (fun e => ni_m (a := a) (by omega) p.1) (fun e => ni_m (a := a) (by omega) p.1) (fun e => ni_m (a := a) (by omega) p.1)⟩
theorem KM_mf {p : Nat} (h1 : KM z h h' w) (hz : z < p) (h84 : 84 ≤ z) : mn (fun y => p ≤ y) (fun y => p ≤ y) h h' := fun a c (q : p ≤ a) r => ⟨q, KM_a h1 r (by omega) (by omega) (by omega) (by omega) (by omega)⟩
/-- cells up to z are as they were -/
theorem MSt_up (hm : MSt h z M T total done) (hk : ∀ a, a ≤ z → h'[a]? = h[a]?) : MSt h' z M T total done := by
  obtain ⟨⟨s, s1, s2⟩, e1, ⟨f1, f2, f3, f4, f5, f6, e0⟩, h84⟩ := hm
  exact ⟨⟨s, SH_fr s1 (fun a ha => hk a (by omega)), SV_mn (fun a c p q => ⟨p, by rw [hk a (by have := p.2; omega)]; exact q⟩) s2⟩, by rw [hk z (Nat.le_refl _)]; exact e1, ⟨f1, f2, f3, f4, f5, f6, by rw [hk 0 (by omega)]; exact e0⟩, h84⟩
theorem MSt_z (hm : MSt h z M T total done) (total' done' : Nat) : MSt (h.set z (.inr (.inr (8, [.int (nI total'), .int (nI done'), .ref 0])))) z M T total' done' := by
  obtain ⟨⟨s, s1, s2⟩, e1, ⟨f1, f2, f3, f4, f5, f6, e0⟩, h84⟩ := hm
  exact ⟨⟨s, SH_fr s1 (fun a ha => g_sn (by omega)), SV_mn (mn_set (fun q => by have := q.2; omega)) s2⟩, g_se (g_lt e1), ⟨f1, f2, f3, f4, f5, f6, by rw [g_sn (by omega)]; exact e0⟩, h84⟩
/-- one more call is left for a reason -/
theorem MSt_lv (hm : MSt h z M T total done) (hw : wf M T) (hy : 1 ≤ why ∧ why ≤ 7) {lf : Nat → Int32} (h9 : h[9]? = some (.inl (0, 8, lf))) : MSt (h.set 9 (.inl (0, 8, upd lf why (lf why + nI 1)))) z (va_up M (179 + why - 1) (M (179 + why - 1) + 1)) T total done := by
  obtain ⟨⟨s, ⟨a0, a1, a2, a3, a4, a5, a8⟩, hv⟩, e1, ⟨f1, f2, f3, f4, f5, f6, e0⟩, h84⟩ := hm
  have a8' : h[9]? = some (.inl (0, 8, s.2.2.2.2.2.2)) := a8
  rw [a8'] at h9
  have el : s.2.2.2.2.2.2 = lf := by injection h9 with e; injection e with e; injection e with e1 e2; injection e2
  have hmn : mn (P0 z) (P0 z) h (h.set 9 (.inl (0, 8, upd lf why (lf why + nI 1)))) := mn_set (fun q => ni_m (a := 9) (by omega) q.1)
  have hw4 := hw.2.2.1.1
  obtain ⟨g1, g2, g3, g4, g5, g6, g7⟩ := SV_mn hmn hv
  have hM : ∀ j, j < 179 → va_up M (179 + why - 1) (M (179 + why - 1) + 1) j = M j := fun j hj => vu_n (by omega)
  refine ⟨⟨(s.1, s.2.1, s.2.2.1, s.2.2.2.1, s.2.2.2.2.1, s.2.2.2.2.2.1, upd lf why (lf why + nI 1)), ⟨?_, ?_, ?_, ?_, ?_, ?_, ?_⟩, fnV_M (fun f hf j hj => hM _ (by show 7 * f + j < 179; omega)) g1, fnV_M (fun f hf j hj => hM _ (by show 42 + 7 * f + j < 179; omega)) g2, ?_, fun f hf => ?_, mpV_M (fun f hf j hj => hM _ (by omega)) g5, ?_, fun k hk => ?_⟩, by rw [g_sn (by omega)]; exact e1, ⟨f1, f2, f3, f4, f5, f6, by rw [g_sn (by omega)]; exact e0⟩, h84⟩
  · rw [g_sn (by omega)]
    show h[1]? = some (Sum.inr (Sum.inr (1, [Value.ref 2, .ref 3, .ref 4, .int (nI (va_up M (179 + why - 1) (M (179 + why - 1) + 1) 116)), .ref 5, .ref 6, .int (nI (va_up M (179 + why - 1) (M (179 + why - 1) + 1) 147)), .ref s.2.2.2.2.2.1, .ref 9])))
    rw [hM 116 (by decide), hM 147 (by decide)]; exact a0
  · rw [g_sn (by omega)]; exact a1
  · rw [g_sn (by omega)]; exact a2
  · rw [g_sn (by omega)]; exact a3
  · rw [g_sn (by omega)]; exact a4
  · rw [g_sn (by omega)]; exact a5
  · exact g_se (g_lt a8')
  · show fnV _ _ _ _ (va_up M (179 + why - 1) (M (179 + why - 1) + 1) 116) _
    rw [hM 116 (by decide)]
    have g3 : fnV (P0 z) _ M (fun k => 84 + 8 * k) (M 116) s.2.2.1 := g3
    exact fnV_M (fun f hf j hj => hM _ (by show 84 + 8 * f + j < 179; omega)) g3
  · show s.2.2.2.1 f = tI (adp _ f (va_up M (179 + why - 1) (M (179 + why - 1) + 1) 116))
    rw [hM 116 (by decide), adp_M _ (fun k hk => hM _ (by omega))]; exact g4 f hf
  · show isT _ 31 _ s.2.2.2.2.2.1 (prog (va_up M (179 + why - 1) (M (179 + why - 1) + 1)))
    have g6 : isT (P0 z) 31 _ s.2.2.2.2.2.1 (prog M) := g6
    have q30 := hw.2.2.2.2.2.1.2
    rw [prog_M (hM 148 (by decide)) (fun k hk => hM _ (by omega))]; exact g6
  · show upd lf why (lf why + nI 1) (k + 1) = nI (va_up M (179 + why - 1) (M (179 + why - 1) + 1) (179 + k))
    rw [upd_ap, ← el]
    by_cases q : k + 1 = why
    · rw [if_pos q, ← q, show 179 + (k + 1) - 1 = 179 + k by omega, vu_s, ← nI_add, g7 k hk]
    · rw [if_neg q, vu_n (by omega)]; exact g7 k hk
theorem c133 {lf : Nat → Int32} (hm : MSt h z M T total done) (hy : 1 ≤ why ∧ why ≤ 7) (h9 : h[9]? = some (.inl (0, 8, lf))) : wp S d 133 0 [some (.ref z), some (.ref a), some (.int (nI why))] [] h Q = Q (.inl (some (.ref a)), h.set 9 (.inl (0, 8, upd lf why (lf why + nI 1)))) := by
  obtain ⟨⟨s, ⟨a0, -⟩, -⟩, e1, ⟨f1, f2, f3, f4, f5, f6, e0⟩, h84⟩ := hm
  have a0' : h[1]? = some (.inr (.inr (1, [.ref 2, .ref 3, .ref 4, .int (nI (M 116)), .ref 5, .ref 6, .int (nI (M 147)), .ref s.2.2.2.2.2.1, .ref 9]))) := a0
  simp (discharger := first | omega | (simp only [List.length_append, List.length_set, List.length_cons, List.length_nil]; done) | (simp only [List.length_append, List.length_set, List.length_cons, List.length_nil]; omega)) only [e133_0, e133_1, e133_4, e133_7, e133_10, e133_11, e133_12, e133_13, e133_14, e133_15, e133_16, e133_17, eq_self, am_kr_s, am_kr_n, w8_nil, w8_c, w8_a, w8_0, ct_i, ct_r, ct_n, ct_k, ct_l, true_and, and_true, ↓reduceIte, Nat.reduceAdd, Nat.reduceMul, Nat.reduceSub, Nat.reduceLeDiff, Nat.reduceLT, Nat.reduceDiv, Nat.reduceMod, Nat.reduceEqDiff, ne_eq, not_false_eq_true, not_true_eq_false, reduceCtorEq, n_rem, d_le_t, d_le_f, d_lt_t, d_lt_f, d_eq_t, d_eq_f, d_eq0_t, d_eq0_f, d_gt0_t, d_gt0_f, d_le0_t, d_le0_f, i_lt0, i_ge0, i_ne1, am_in_t, i_div, i_rem, nI_add, nI_mul, nI_sub, nI_m1, nI_clamp, fk0_0_0r, fk0_0_0n, fk0_0_0k, fk0_0_1r, fk0_0_1n, fk0_0_1k, fk0_0_3r, fk0_0_3n, fk0_0_3k, fk0_0_5r, fk0_0_5n, fk0_0_5k, fk0_0_6r, fk0_0_6n, fk0_0_6k, fk6_0_2i, fk19_1_6i, fk21_0_4i, fk22_0_4i, fk23_1_7r, fk23_1_7n, fk23_1_7k, fk24_1_7r, fk24_1_7n, fk24_1_7k, fk31_0_2i, fk36_1_0r, fk36_1_0n, fk36_1_0k, fk36_1_1r, fk36_1_1n, fk36_1_1k, fk36_1_2r, fk36_1_2n, fk36_1_2k, fk36_1_4r, fk36_1_4n, fk36_1_4k, fk36_1_5r, fk36_1_5n, fk36_1_5k, fk36_1_7r, fk36_1_7n, fk36_1_7k, fk36_1_8r, fk36_1_8n, fk36_1_8k, fk37_1_3i, fk37_1_6i, fk37_1_7r, fk37_1_7n, fk37_1_7k, fk42_2_0i, fk42_2_1i, fk42_2_2r, fk42_2_2n, fk42_2_2k, fk42_2_3i, fk46_3_0i, fk46_3_1i, fk46_3_2i, fk46_3_3r, fk46_3_3n, fk46_3_3k, fk50_4_2r, fk50_4_2n, fk50_4_2k, fk51_4_0i, fk51_4_1i, fk52_4_0i, fk52_4_1i, fk54_4_0i, fk56_4_0i, fk57_4_0i, fk58_5_0r, fk58_5_0n, fk58_5_0k, fk58_5_1r, fk58_5_1n, fk58_5_1k, fk58_5_3r, fk58_5_3n, fk58_5_3k, fk58_5_4r, fk58_5_4n, fk58_5_4k, fk58_5_6r, fk58_5_6n, fk58_5_6k, fk58_5_8r, fk58_5_8n, fk58_5_8k, fk58_5_11r, fk58_5_11n, fk58_5_11k, fk58_5_13r, fk58_5_13n, fk58_5_13k, fk58_5_15r, fk58_5_15n, fk58_5_15k, fk58_5_16r, fk58_5_16n, fk58_5_16k, fk58_5_17r, fk58_5_17n, fk58_5_17k, fk58_5_20r, fk58_5_20n, fk58_5_20k, fk58_5_21r, fk58_5_21n, fk58_5_21k, fk63_5_2i, fk83_5_5i, fk84_5_5i, fk85_5_7i, fk85_5_9i, fk85_5_10i, fk86_5_7i, fk86_5_9i, fk86_5_10i, fk94_5_9i, fk94_5_10i, fk95_5_12i, fk95_5_14i, fk95_5_18i, fk95_5_19i, fk99_5_12i, fk99_5_14i, fk107_5_12i, fk107_5_14i, fk107_5_19i, fk108_5_18i, fk115_5_9i, fk115_5_22i, fk117_5_22i, fk118_5_9i, fk119_5_2i, fk123_6_0i, fk123_6_1r, fk123_6_1n, fk123_6_1k, fk129_7_6i, fk130_8_0i, fk130_8_2r, fk130_8_2n, fk130_8_2k, fk132_8_0i, fk132_8_1i, fk134_1_3i, fk134_8_1i, fk140_7_0r, fk140_7_0n, fk140_7_0k, fk140_7_1r, fk140_7_1n, fk140_7_1k, fk140_7_2r, fk140_7_2n, fk140_7_2k, fk141_7_0r, fk141_7_0n, fk141_7_0k, fk141_7_1r, fk141_7_1n, fk141_7_1k, fk141_7_2r, fk141_7_2n, fk141_7_2k, fk141_7_3r, fk141_7_3n, fk141_7_3k, fk143_9_0r, fk143_9_0n, fk143_9_0k, fk143_9_1b, fk143_9_1c, fk144_9_3i, fk145_9_0r, fk145_9_0n, fk145_9_0k, fk148_9_3i, fk149_9_0r, fk149_9_0n, fk149_9_0k, fk149_9_1b, fk149_9_1c, fk150_9_3i, fk151_9_3i, am_clK, am_ccK, am_gfK, am_pfK, am_iaK, am_isK, am_aaK, am_asK, am_alK, am_isC, am_rf, am_rc, decide_eq_true_eq, decide_true, List.getElem?_cons_zero, List.getElem?_cons_succ, List.length_cons, List.length_nil, List.length_set, List.length_append, List.set_cons_zero, List.set_cons_succ, g_sn, g_se, g_al, g_an, g_aq, s_al, s_an, s_aq, s_s, rv0_4, rv1_2, rv2_2, rv5_2, rv6_2, rv7_2, rv8_2, rv9_2, rv10_2, rv11_2, rv12_2, rv13_2, rv14_2, rv15_2, rv17_2, rv18_2, rv19_2, rv20_2, rv21_2, rv22_2, rv23_7, rv24_2, rv25_2, rv26_2, rv27_2, rv28_2, rv29_2, rv30_2, rv31_2, rv32_2, rv33_2, rv36_5, rv37_2, rv38_2, rv39_2, rv40_2, rv41_2, rv42_4, rv43_2, rv44_2, rv45_4, rv46_4, rv47_2, rv48_2, rv49_2, rv50_5, rv51_2, rv52_2, rv53_2, rv54_2, rv55_2, rv56_2, rv57_2, rv122_4, rv123_4, rv124_2, rv125_2, rv126_2, rv127_2, rv128_2, rv129_4, rv130_5, rv131_2, rv132_2, rv133_2, rv134_2, rv135_2, rv136_2, dft0, dft5, dft1, dft2, dft3, dft4, dft6, dft7, dft8, dft9, e1, e0, a0', h9]
end EH
