/-! the component: errors; numbers that change; functions -/
section DA
variable {S : am_S} {d : Nat} {h : am_H} {Q : am_Out → Prop} {σ : sg} {P : Nat → Prop} {M M' : Nat → Nat} {T : Nat → Option Nat}
theorem vu_n {α : Type} {f : Nat → α} {i j : Nat} {v : α} (hj : j ≠ i) : va_up f i v j = f j := if_neg hj
theorem vu_s {α : Type} {f : Nat → α} {i : Nat} {v : α} : va_up f i v i = v := if_pos rfl
/-- the component's answer is r -/
def cQ (h : am_H) (Q : am_Out → Prop) (k : Nat) (r : Int32 × sg) : Prop := ∀ h', frC h h' k → CR imm h' r.2 → Q (.inl (some (.int r.1)), h')
theorem c5 {n m : Value} {er : Nat → Int32} {x : Int32} (c : Nat) {f0 f1 f3 f6 : Value} (e0 : h[0]? = some (.inr (.inr (0, [f0, f1, n, f3, m, .ref 16, f6])))) (e16 : h[16]? = some (.inl (0, 6, er))) (hx : -x = nI (c + 2)) (hc : c < 4) : wp S d 5 0 [some (.ref 0), some (.int x)] [] h Q = Q (.inl (some (.int x)), h.set 16 (.inl (0, 6, upd er (c + 2) (er (c + 2) + nI 1)))) := by
  simp (discharger := omega) only [e5_0, e5_1, e5_4, e5_5, e5_6, e5_7, e5_8, e5_9, e5_10, e5_11, e5_12, eq_self, am_kr_s, am_kr_n, w8_nil, w8_c, w8_a, w8_0, ct_i, ct_r, ct_n, ct_k, ct_l, true_and, and_true, ↓reduceIte, Nat.reduceAdd, Nat.reduceMul, Nat.reduceSub, Nat.reduceLeDiff, Nat.reduceLT, Nat.reduceDiv, Nat.reduceMod, Nat.reduceEqDiff, ne_eq, not_false_eq_true, not_true_eq_false, reduceCtorEq, n_rem, d_le_t, d_le_f, d_lt_t, d_lt_f, d_eq_t, d_eq_f, d_eq0_t, d_eq0_f, d_gt0_t, d_gt0_f, d_le0_t, d_le0_f, i_lt0, i_ge0, i_ne1, am_in_t, i_div, i_rem, nI_add, nI_mul, nI_sub, nI_m1, nI_clamp, fk0_0_0r, fk0_0_0n, fk0_0_0k, fk0_0_1r, fk0_0_1n, fk0_0_1k, fk0_0_3r, fk0_0_3n, fk0_0_3k, fk0_0_5r, fk0_0_5n, fk0_0_5k, fk0_0_6r, fk0_0_6n, fk0_0_6k, fk6_0_2i, fk19_1_6i, fk21_0_4i, fk22_0_4i, fk23_1_7r, fk23_1_7n, fk23_1_7k, fk24_1_7r, fk24_1_7n, fk24_1_7k, fk31_0_2i, fk36_1_0r, fk36_1_0n, fk36_1_0k, fk36_1_1r, fk36_1_1n, fk36_1_1k, fk36_1_2r, fk36_1_2n, fk36_1_2k, fk36_1_4r, fk36_1_4n, fk36_1_4k, fk36_1_5r, fk36_1_5n, fk36_1_5k, fk36_1_7r, fk36_1_7n, fk36_1_7k, fk36_1_8r, fk36_1_8n, fk36_1_8k, fk37_1_3i, fk37_1_6i, fk37_1_7r, fk37_1_7n, fk37_1_7k, fk42_2_0i, fk42_2_1i, fk42_2_2r, fk42_2_2n, fk42_2_2k, fk42_2_3i, fk46_3_0i, fk46_3_1i, fk46_3_2i, fk46_3_3r, fk46_3_3n, fk46_3_3k, fk50_4_2r, fk50_4_2n, fk50_4_2k, fk51_4_0i, fk51_4_1i, fk52_4_0i, fk52_4_1i, fk54_4_0i, fk56_4_0i, fk57_4_0i, fk58_5_0r, fk58_5_0n, fk58_5_0k, fk58_5_1r, fk58_5_1n, fk58_5_1k, fk58_5_3r, fk58_5_3n, fk58_5_3k, fk58_5_4r, fk58_5_4n, fk58_5_4k, fk58_5_6r, fk58_5_6n, fk58_5_6k, fk58_5_8r, fk58_5_8n, fk58_5_8k, fk58_5_11r, fk58_5_11n, fk58_5_11k, fk58_5_13r, fk58_5_13n, fk58_5_13k, fk58_5_15r, fk58_5_15n, fk58_5_15k, fk58_5_16r, fk58_5_16n, fk58_5_16k, fk58_5_17r, fk58_5_17n, fk58_5_17k, fk58_5_20r, fk58_5_20n, fk58_5_20k, fk58_5_21r, fk58_5_21n, fk58_5_21k, fk63_5_2i, fk83_5_5i, fk84_5_5i, fk85_5_7i, fk85_5_9i, fk85_5_10i, fk86_5_7i, fk86_5_9i, fk86_5_10i, fk94_5_9i, fk94_5_10i, fk95_5_12i, fk95_5_14i, fk95_5_18i, fk95_5_19i, fk99_5_12i, fk99_5_14i, fk107_5_12i, fk107_5_14i, fk107_5_19i, fk108_5_18i, fk115_5_9i, fk115_5_22i, fk117_5_22i, fk118_5_9i, fk119_5_2i, fk123_6_0i, fk123_6_1r, fk123_6_1n, fk123_6_1k, fk129_7_6i, fk130_8_0i, fk130_8_2r, fk130_8_2n, fk130_8_2k, fk132_8_0i, fk132_8_1i, fk134_1_3i, fk134_8_1i, fk140_7_0r, fk140_7_0n, fk140_7_0k, fk140_7_1r, fk140_7_1n, fk140_7_1k, fk140_7_2r, fk140_7_2n, fk140_7_2k, fk141_7_0r, fk141_7_0n, fk141_7_0k, fk141_7_1r, fk141_7_1n, fk141_7_1k, fk141_7_2r, fk141_7_2n, fk141_7_2k, fk141_7_3r, fk141_7_3n, fk141_7_3k, fk143_9_0r, fk143_9_0n, fk143_9_0k, fk143_9_1b, fk143_9_1c, fk144_9_3i, fk145_9_0r, fk145_9_0n, fk145_9_0k, fk148_9_3i, fk149_9_0r, fk149_9_0n, fk149_9_0k, fk149_9_1b, fk149_9_1c, fk150_9_3i, fk151_9_3i, am_clK, am_ccK, am_gfK, am_pfK, am_iaK, am_isK, am_aaK, am_asK, am_alK, am_isC, am_rf, am_rc, decide_eq_true_eq, decide_true, List.getElem?_cons_zero, List.getElem?_cons_succ, List.length_cons, List.length_nil, List.length_set, List.length_append, List.set_cons_zero, List.set_cons_succ, g_sn, g_se, g_al, g_an, g_aq, s_al, s_an, s_aq, s_s, rv0_4, rv1_2, rv2_2, rv5_2, rv6_2, rv7_2, rv8_2, rv9_2, rv10_2, rv11_2, rv12_2, rv13_2, rv14_2, rv15_2, rv17_2, rv18_2, rv19_2, rv20_2, rv21_2, rv22_2, rv23_7, rv24_2, rv25_2, rv26_2, rv27_2, rv28_2, rv29_2, rv30_2, rv31_2, rv32_2, rv33_2, rv36_5, rv37_2, rv38_2, rv39_2, rv40_2, rv41_2, rv42_4, rv43_2, rv44_2, rv45_4, rv46_4, rv47_2, rv48_2, rv49_2, rv50_5, rv51_2, rv52_2, rv53_2, rv54_2, rv55_2, rv56_2, rv57_2, rv122_4, rv123_4, rv124_2, rv125_2, rv126_2, rv127_2, rv128_2, rv129_4, rv130_5, rv131_2, rv132_2, rv133_2, rv134_2, rv135_2, rv136_2, dft0, dft5, dft1, dft2, dft3, dft4, dft6, dft7, dft8, dft9, e0, e16, hx]
theorem x2 : -(-2 : Int32) = nI (0 + 2) := by decide
theorem x3 : -(-3 : Int32) = nI (1 + 2) := by decide
theorem x4 : -(-4 : Int32) = nI (2 + 2) := by decide
theorem x5 : -(-5 : Int32) = nI (3 + 2) := by decide
theorem CR_er {er : Nat → Int32} {c : Nat} (hP : ∀ a, P a → imm a) (hc : CR P h σ) (e16' : h[16]? = some (.inl (0, 6, er))) (h4 : c < 4) : CR P (h.set 16 (.inl (0, 6, upd er (c + 2) (er (c + 2) + nI 1)))) (sg_E σ c) := by
  obtain ⟨sb, tb, er', ⟨e0, e14, e15, e16, e69, e84⟩, h2, h3, h5, h6, h7, h8⟩ := hc
  rw [e16] at e16'
  have e : er' = er := by injection e16' with e; injection e with e; injection e with e1 e2; injection e2
  subst e
  have he : ext h (h.set 16 (.inl (0, 6, upd er' (c + 2) (er' (c + 2) + nI 1)))) := ext_set (ni2 (by omega))
  refine ⟨sb, tb, upd er' (c + 2) (er' (c + 2) + nI 1), ⟨by rw [g_sn (by omega)]; exact e0, by rw [g_sn (by omega)]; exact e14, by rw [g_sn (by omega)]; exact e15, g_se (g_lt e16), by rw [g_sn (by omega)]; exact e69, by rw [List.length_set]; exact e84⟩, h2, RS_fr hP h3 he (fun a _ _ => g_sn (by omega)), fun i hi => ?_, fun i q hi => ?_, h7, fun j hj => ?_⟩
  · obtain ⟨n, l, s, hs⟩ := h5 i hi
    have := h2.1 i hi
    exact ⟨n, l, s, SH_fr hs (fun a ha => g_sn (by omega))⟩
  · have := h2.1 i (by have h9 := e84.2.1; have := g_ln hi; exact Nat.lt_of_lt_of_le this h9)
    exact RS_fr hP (h6 i q hi) he (fun a _ _ => g_sn (by omega))
  · show upd er' (c + 2) (er' (c + 2) + nI 1) (j + 2) = upd σ.2.2.1 c (σ.2.2.1 c + nI 1) j
    rw [upd_ap, upd_ap, h8 c h4]
    by_cases q : j = c
    · rw [if_pos q, if_pos (by omega)]
    · rw [if_neg q, if_neg (by omega)]; exact h8 j hj
theorem cQ_e {er : Nat → Int32} {x : Int32} {c k : Nat} (hc : CR imm h σ) (e16 : h[16]? = some (.inl (0, 6, er))) (h4 : c < 4) (hQ : cQ h Q k (x, sg_E σ c)) : Q (.inl (some (.int x)), h.set 16 (.inl (0, 6, upd er (c + 2) (er (c + 2) + nI 1)))) :=
  hQ _ (fr_le (fr_set fr_rf e16 (by rfl) (Or.inl (ni2 (by omega)))) (Nat.zero_le _)) (CR_er (fun a q => q) hc e16 h4)
theorem cQ_0 {x : Int32} {k : Nat} (hc : CR imm h σ) (hQ : cQ h Q k (x, σ)) : Q (.inl (some (.int x)), h) := hQ _ (fr_le fr_rf (Nat.zero_le _)) hc
theorem isFun_M {a o : Nat} (hM : ∀ j, j < 7 → M' (o + j) = M (o + j)) (hf : isFun P h a M o) : isFun P h a M' o := by
  obtain ⟨h1, c, g, h2, h3, h4, h5⟩ := hf
  refine ⟨h1, c, g, h2, ?_, h4, fun j hj => ?_⟩
  · rw [show M' o = M o from hM 0 (by decide), hM 1 (by decide), hM 2 (by decide)]; exact h3
  · rw [show o + 2 + 1 + j = o + (3 + j) by omega, hM (3 + j) (by omega), ← show o + 2 + 1 + j = o + (3 + j) by omega]; exact h5 j hj
theorem fnV_M {at_ : Nat → Nat} {n : Nat} {s : Nat → Option Nat} (hM : ∀ f, f < n → ∀ j, j < 7 → M' (at_ f + j) = M (at_ f + j)) (hs : fnV P h M at_ n s) : fnV P h M' at_ n s := fun f hf => by
  obtain ⟨a, q1, q2⟩ := hs f hf
  exact ⟨a, q1, isFun_M (hM f hf) q2⟩
theorem fnV_up {at_ : Nat → Nat} {n f a : Nat} {s : Nat → Option Nat} (hM : ∀ g, g < n → g ≠ f → ∀ j, j < 7 → M' (at_ g + j) = M (at_ g + j)) (ha : isFun P h a M' (at_ f)) (hs : fnV P h M at_ n s) : fnV P h M' at_ n (va_up s f (some a)) := fun g hg => by
  by_cases q : g = f
  · subst q
    exact ⟨a, vu_s, ha⟩
  · obtain ⟨b, q1, q2⟩ := hs g hg
    exact ⟨b, by rw [vu_n q]; exact q1, isFun_M (hM g hg q) q2⟩
theorem isMap_M {a f t : Nat} (hM : ∀ j, j < 4 → M' (117 + 5 * f + 1 + j) = M (117 + 5 * f + 1 + j)) (hf : isMap P h a M f t) : isMap P h a M' f t := by
  obtain ⟨h1, c, g, h2, h3, h4, h5⟩ := hf
  exact ⟨h1, c, g, h2, h3, h4, fun j hj => by rw [hM j hj]; exact h5 j hj⟩
theorem mpV_M {s : Nat → Option Nat} (hM : ∀ f, f < 6 → ∀ j, j < 4 → M' (117 + 5 * f + 1 + j) = M (117 + 5 * f + 1 + j)) (hs : mpV P h M T s) : mpV P h M' T s := fun f hf => ⟨(hs f hf).1, fun t ht => by
  obtain ⟨a, q1, q2⟩ := (hs f hf).2 t ht
  exact ⟨a, q1, isMap_M (hM f hf) q2⟩⟩
theorem mpV_up {f : Nat} {u : Option Nat} {v : Option Nat} {s : Nat → Option Nat} (hM : ∀ g, g < 6 → g ≠ f → ∀ j, j < 4 → M' (117 + 5 * g + 1 + j) = M (117 + 5 * g + 1 + j)) (h1 : u = none → v = none) (h2 : ∀ t, u = some t → ∃ a, v = some a ∧ isMap P h a M' f t) (hs : mpV P h M T s) : mpV P h M' (va_up T f u) (va_up s f v) := fun g hg => by
  by_cases q : g = f
  · subst q
    rw [vu_s, vu_s]; exact ⟨h1, h2⟩
  · rw [vu_n q, vu_n q]
    refine ⟨(hs g hg).1, fun t ht => ?_⟩
    obtain ⟨a, q1, q2⟩ := (hs g hg).2 t ht
    exact ⟨a, q1, isMap_M (hM g hg q) q2⟩
theorem adp_M {o : Nat} : ∀ n, (∀ k, k < n → M' (84 + 8 * k + 7) = M (84 + 8 * k + 7)) → adp M' o n = adp M o n := by
  intro n
  induction n with
  | zero => intro _; rfl
  | succ n ih => intro hM; rw [adp, adp, hM n (by omega), ih (fun k hk => hM k (by omega))]
theorem prog_M (h1 : M' 148 = M 148) (h2 : ∀ k, k < M 148 → M' (149 + k) = M (149 + k)) : prog M' = prog M := by
  unfold prog
  rw [h1]
  exact List.map_congr_left (fun k hk => h2 k (List.mem_range.mp hk))
/-- numbers change only below 84, or from 117 to 147: adapters, program and reasons are kept -/
theorem SV_lo {s : sr} {o1 o2 o5 : Nat → Option Nat} {T' : Nat → Option Nat} (hw : M 116 ≤ 4) (hM : ∀ j, (84 ≤ j ∧ j < 117) ∨ 148 ≤ j → M' j = M j) (hs : SV P h M T s) (h1 : fnV P h M' (fun f => 7 * f) 6 o1) (h2 : fnV P h M' (fun f => 42 + 7 * f) 6 o2) (h5 : mpV P h M' T' o5) : SV P h M' T' (o1, o2, s.2.2.1, s.2.2.2.1, o5, s.2.2.2.2.2.1, s.2.2.2.2.2.2) := by
  obtain ⟨g1, g2, g3, g4, g5, g6, g7⟩ := hs
  have e116 : M' 116 = M 116 := hM 116 (by omega)
  refine ⟨h1, h2, ?_, fun f hf => ?_, h5, ?_, fun k hk => ?_⟩
  · show fnV P h M' _ (M' 116) s.2.2.1
    rw [e116]
    exact fnV_M (fun f hf j hj => hM _ (by omega)) g3
  · show s.2.2.2.1 f = tI (adp M' f (M' 116))
    rw [e116, adp_M _ (fun k hk => hM _ (by omega))]; exact g4 f hf
  · show isT P 31 h s.2.2.2.2.2.1 (prog M')
    rw [prog_M (hM 148 (by omega)) (fun k _ => hM _ (by omega))]; exact g6
  · show s.2.2.2.2.2.2 (k + 1) = nI (M' (179 + k))
    rw [hM _ (by omega)]; exact g7 k hk
theorem c47 {f0 f1 : Value} {x y z : Int32} {a c : Nat} (ha : h[a]? = some (.inr (.inr (3, [f0, f1, .int z, .ref c])))) : wp S (d + 2) 47 0 [some (.ref a), some (.int x), some (.int y)] [] h Q = Q (.inl (some (.ref h.length)), h ++ [.inr (.inr (3, [.int x, .int y, .int z, .ref c]))]) := by
  have hl := g_lt ha
  have ha2 : ∀ c, (h ++ [c])[a]? = _ := fun c => (g_al hl).trans ha
  simp (discharger := omega) only [e47_0, e47_3, e47_3i, e47_4, e47_5, e47_6, e47_7, e47_10, e47_11, e47_14, e47_17, eq_self, am_kr_s, am_kr_n, w8_nil, w8_c, w8_a, w8_0, ct_i, ct_r, ct_n, ct_k, ct_l, true_and, and_true, ↓reduceIte, Nat.reduceAdd, Nat.reduceMul, Nat.reduceSub, Nat.reduceLeDiff, Nat.reduceLT, Nat.reduceDiv, Nat.reduceMod, Nat.reduceEqDiff, ne_eq, not_false_eq_true, not_true_eq_false, reduceCtorEq, n_rem, d_le_t, d_le_f, d_lt_t, d_lt_f, d_eq_t, d_eq_f, d_eq0_t, d_eq0_f, d_gt0_t, d_gt0_f, d_le0_t, d_le0_f, i_lt0, i_ge0, i_ne1, am_in_t, i_div, i_rem, nI_add, nI_mul, nI_sub, nI_m1, nI_clamp, fk0_0_0r, fk0_0_0n, fk0_0_0k, fk0_0_1r, fk0_0_1n, fk0_0_1k, fk0_0_3r, fk0_0_3n, fk0_0_3k, fk0_0_5r, fk0_0_5n, fk0_0_5k, fk0_0_6r, fk0_0_6n, fk0_0_6k, fk6_0_2i, fk19_1_6i, fk21_0_4i, fk22_0_4i, fk23_1_7r, fk23_1_7n, fk23_1_7k, fk24_1_7r, fk24_1_7n, fk24_1_7k, fk31_0_2i, fk36_1_0r, fk36_1_0n, fk36_1_0k, fk36_1_1r, fk36_1_1n, fk36_1_1k, fk36_1_2r, fk36_1_2n, fk36_1_2k, fk36_1_4r, fk36_1_4n, fk36_1_4k, fk36_1_5r, fk36_1_5n, fk36_1_5k, fk36_1_7r, fk36_1_7n, fk36_1_7k, fk36_1_8r, fk36_1_8n, fk36_1_8k, fk37_1_3i, fk37_1_6i, fk37_1_7r, fk37_1_7n, fk37_1_7k, fk42_2_0i, fk42_2_1i, fk42_2_2r, fk42_2_2n, fk42_2_2k, fk42_2_3i, fk46_3_0i, fk46_3_1i, fk46_3_2i, fk46_3_3r, fk46_3_3n, fk46_3_3k, fk50_4_2r, fk50_4_2n, fk50_4_2k, fk51_4_0i, fk51_4_1i, fk52_4_0i, fk52_4_1i, fk54_4_0i, fk56_4_0i, fk57_4_0i, fk58_5_0r, fk58_5_0n, fk58_5_0k, fk58_5_1r, fk58_5_1n, fk58_5_1k, fk58_5_3r, fk58_5_3n, fk58_5_3k, fk58_5_4r, fk58_5_4n, fk58_5_4k, fk58_5_6r, fk58_5_6n, fk58_5_6k, fk58_5_8r, fk58_5_8n, fk58_5_8k, fk58_5_11r, fk58_5_11n, fk58_5_11k, fk58_5_13r, fk58_5_13n, fk58_5_13k, fk58_5_15r, fk58_5_15n, fk58_5_15k, fk58_5_16r, fk58_5_16n, fk58_5_16k, fk58_5_17r, fk58_5_17n, fk58_5_17k, fk58_5_20r, fk58_5_20n, fk58_5_20k, fk58_5_21r, fk58_5_21n, fk58_5_21k, fk63_5_2i, fk83_5_5i, fk84_5_5i, fk85_5_7i, fk85_5_9i, fk85_5_10i, fk86_5_7i, fk86_5_9i, fk86_5_10i, fk94_5_9i, fk94_5_10i, fk95_5_12i, fk95_5_14i, fk95_5_18i, fk95_5_19i, fk99_5_12i, fk99_5_14i, fk107_5_12i, fk107_5_14i, fk107_5_19i, fk108_5_18i, fk115_5_9i, fk115_5_22i, fk117_5_22i, fk118_5_9i, fk119_5_2i, fk123_6_0i, fk123_6_1r, fk123_6_1n, fk123_6_1k, fk129_7_6i, fk130_8_0i, fk130_8_2r, fk130_8_2n, fk130_8_2k, fk132_8_0i, fk132_8_1i, fk134_1_3i, fk134_8_1i, fk140_7_0r, fk140_7_0n, fk140_7_0k, fk140_7_1r, fk140_7_1n, fk140_7_1k, fk140_7_2r, fk140_7_2n, fk140_7_2k, fk141_7_0r, fk141_7_0n, fk141_7_0k, fk141_7_1r, fk141_7_1n, fk141_7_1k, fk141_7_2r, fk141_7_2n, fk141_7_2k, fk141_7_3r, fk141_7_3n, fk141_7_3k, fk143_9_0r, fk143_9_0n, fk143_9_0k, fk143_9_1b, fk143_9_1c, fk144_9_3i, fk145_9_0r, fk145_9_0n, fk145_9_0k, fk148_9_3i, fk149_9_0r, fk149_9_0n, fk149_9_0k, fk149_9_1b, fk149_9_1c, fk150_9_3i, fk151_9_3i, am_clK, am_ccK, am_gfK, am_pfK, am_iaK, am_isK, am_aaK, am_asK, am_alK, am_isC, am_rf, am_rc, decide_eq_true_eq, decide_true, List.getElem?_cons_zero, List.getElem?_cons_succ, List.length_cons, List.length_nil, List.length_set, List.length_append, List.set_cons_zero, List.set_cons_succ, g_sn, g_se, g_al, g_an, g_aq, s_al, s_an, s_aq, s_s, rv0_4, rv1_2, rv2_2, rv5_2, rv6_2, rv7_2, rv8_2, rv9_2, rv10_2, rv11_2, rv12_2, rv13_2, rv14_2, rv15_2, rv17_2, rv18_2, rv19_2, rv20_2, rv21_2, rv22_2, rv23_7, rv24_2, rv25_2, rv26_2, rv27_2, rv28_2, rv29_2, rv30_2, rv31_2, rv32_2, rv33_2, rv36_5, rv37_2, rv38_2, rv39_2, rv40_2, rv41_2, rv42_4, rv43_2, rv44_2, rv45_4, rv46_4, rv47_2, rv48_2, rv49_2, rv50_5, rv51_2, rv52_2, rv53_2, rv54_2, rv55_2, rv56_2, rv57_2, rv122_4, rv123_4, rv124_2, rv125_2, rv126_2, rv127_2, rv128_2, rv129_4, rv130_5, rv131_2, rv132_2, rv133_2, rv134_2, rv135_2, rv136_2, dft0, dft5, dft1, dft2, dft3, dft4, dft6, dft7, dft8, dft9, ha, ha2, c46 (a := h.length) (h := h ++ [.inr (.inr (3, [.int (nI 0), .int (nI 0), .int (nI 0), .null]))]) (g_an)]
end DA
