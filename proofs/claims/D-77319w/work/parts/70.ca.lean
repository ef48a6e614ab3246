/-! the component: heap rows; its small constructors -/
section CA
variable {h : am_H} {c c' : am_C} {a b : Nat}
theorem g_sn (hab : a ≠ b) : (h.set a c)[b]? = h[b]? := List.getElem?_set_ne hab
theorem g_se (ha : a < h.length) : (h.set a c)[a]? = some c := List.getElem?_set_self ha
theorem g_al (hb : b < h.length) : (h ++ [c])[b]? = h[b]? := List.getElem?_append_left hb
theorem g_an : (h ++ [c])[h.length]? = some c := by simp
theorem g_aq (hb : b = h.length) : (h ++ [c])[b]? = some c := by subst hb; simp
theorem s_al (ha : a < h.length) : (h ++ [c]).set a c' = h.set a c' ++ [c] := List.set_append_left _ _ ha
theorem s_an : (h ++ [c]).set h.length c' = h ++ [c'] := by simp
theorem s_aq (ha : a = h.length) : (h ++ [c]).set a c' = h ++ [c'] := by subst ha; simp
theorem s_s : (h.set a c).set a c' = h.set a c' := List.set_set c
theorem g_lt (hq : h[a]? = some c) : a < h.length := (List.getElem?_eq_some_iff.mp hq).1
end CA
section CB
variable {S : am_S} {d : Nat} {h : am_H} {Q : am_Out → Prop} {x y z : Int32} {a c : Nat}
theorem c46 {f0 f1 f2 f3 : Value} (ha : h[a]? = some (.inr (.inr (3, [f0, f1, f2, f3])))) : wp S (d + 1) 46 0 [some (.ref a), some (.int x), some (.int y), some (.int z), some (.ref c)] [] h Q = Q (.inl none, h.set a (.inr (.inr (3, [.int x, .int y, .int z, .ref c])))) := by
  have hl := g_lt ha
  have hs : ∀ c, (h.set a c)[a]? = some c := fun c => g_se hl
  simp only [e46_0, e46_1, e46_4, e46_5, e46_6, e46_9, e46_10, e46_11, e46_14, e46_15, e46_16, e46_19, e46_20, e46_22, e46_25, eq_self, am_kr_s, am_kr_n, w8_nil, w8_c, w8_a, w8_0, ct_i, ct_r, ct_n, ct_k, ct_l, true_and, and_true, ↓reduceIte, Nat.reduceAdd, Nat.reduceMul, Nat.reduceSub, Nat.reduceLeDiff, Nat.reduceLT, Nat.reduceDiv, Nat.reduceMod, Nat.reduceEqDiff, ne_eq, not_false_eq_true, not_true_eq_false, reduceCtorEq, am_pfK, ha, hs, fk0_0_0r, fk0_0_0n, fk0_0_0k, fk0_0_1r, fk0_0_1n, fk0_0_1k, fk0_0_3r, fk0_0_3n, fk0_0_3k, fk0_0_5r, fk0_0_5n, fk0_0_5k, fk0_0_6r, fk0_0_6n, fk0_0_6k, fk6_0_2i, fk19_1_6i, fk21_0_4i, fk22_0_4i, fk23_1_7r, fk23_1_7n, fk23_1_7k, fk24_1_7r, fk24_1_7n, fk24_1_7k, fk31_0_2i, fk36_1_0r, fk36_1_0n, fk36_1_0k, fk36_1_1r, fk36_1_1n, fk36_1_1k, fk36_1_2r, fk36_1_2n, fk36_1_2k, fk36_1_4r, fk36_1_4n, fk36_1_4k, fk36_1_5r, fk36_1_5n, fk36_1_5k, fk36_1_7r, fk36_1_7n, fk36_1_7k, fk36_1_8r, fk36_1_8n, fk36_1_8k, fk37_1_3i, fk37_1_6i, fk37_1_7r, fk37_1_7n, fk37_1_7k, fk42_2_0i, fk42_2_1i, fk42_2_2r, fk42_2_2n, fk42_2_2k, fk42_2_3i, fk46_3_0i, fk46_3_1i, fk46_3_2i, fk46_3_3r, fk46_3_3n, fk46_3_3k, fk50_4_2r, fk50_4_2n, fk50_4_2k, fk51_4_0i, fk51_4_1i, fk52_4_0i, fk52_4_1i, fk54_4_0i, fk56_4_0i, fk57_4_0i, fk58_5_0r, fk58_5_0n, fk58_5_0k, fk58_5_1r, fk58_5_1n, fk58_5_1k, fk58_5_3r, fk58_5_3n, fk58_5_3k, fk58_5_4r, fk58_5_4n, fk58_5_4k, fk58_5_6r, fk58_5_6n, fk58_5_6k, fk58_5_8r, fk58_5_8n, fk58_5_8k, fk58_5_11r, fk58_5_11n, fk58_5_11k, fk58_5_13r, fk58_5_13n, fk58_5_13k, fk58_5_15r, fk58_5_15n, fk58_5_15k, fk58_5_16r, fk58_5_16n, fk58_5_16k, fk58_5_17r, fk58_5_17n, fk58_5_17k, fk58_5_20r, fk58_5_20n, fk58_5_20k, fk58_5_21r, fk58_5_21n, fk58_5_21k, fk63_5_2i, fk83_5_5i, fk84_5_5i, fk85_5_7i, fk85_5_9i, fk85_5_10i, fk86_5_7i, fk86_5_9i, fk86_5_10i, fk94_5_9i, fk94_5_10i, fk95_5_12i, fk95_5_14i, fk95_5_18i, fk95_5_19i, fk99_5_12i, fk99_5_14i, fk107_5_12i, fk107_5_14i, fk107_5_19i, fk108_5_18i, fk115_5_9i, fk115_5_22i, fk117_5_22i, fk118_5_9i, fk119_5_2i, fk123_6_0i, fk123_6_1r, fk123_6_1n, fk123_6_1k, fk129_7_6i, fk130_8_0i, fk130_8_2r, fk130_8_2n, fk130_8_2k, fk132_8_0i, fk132_8_1i, fk134_1_3i, fk134_8_1i, fk140_7_0r, fk140_7_0n, fk140_7_0k, fk140_7_1r, fk140_7_1n, fk140_7_1k, fk140_7_2r, fk140_7_2n, fk140_7_2k, fk141_7_0r, fk141_7_0n, fk141_7_0k, fk141_7_1r, fk141_7_1n, fk141_7_1k, fk141_7_2r, fk141_7_2n, fk141_7_2k, fk141_7_3r, fk141_7_3n, fk141_7_3k, fk143_9_0r, fk143_9_0n, fk143_9_0k, fk143_9_1b, fk143_9_1c, fk144_9_3i, fk145_9_0r, fk145_9_0n, fk145_9_0k, fk148_9_3i, fk149_9_0r, fk149_9_0n, fk149_9_0k, fk149_9_1b, fk149_9_1c, fk150_9_3i, fk151_9_3i, List.length_cons, List.length_nil, List.length_set, List.set_cons_zero, List.set_cons_succ, s_s]
end CB
