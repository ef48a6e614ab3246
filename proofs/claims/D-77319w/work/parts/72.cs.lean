/-! the component: ranges, errors -/
section CS1
variable {S : am_S} {d : Nat} {h : am_H} {Q : am_Out → Prop} {x y z : Int32}
theorem c4 : wp S d 4 0 [some (.int x), some (.int y), some (.int z)] [] h Q = Q (.inl (some (.int (bi (decide (y ≤ x ∧ x ≤ z))))), h) := by
  simp only [e4_0, e4_1, e4_2, e4_5, e4_6, e4_7, e4_10, e4_11, e4_14, e4_15, nar0, nar1, true_and]
  by_cases h1 : y ≤ x
  · by_cases h2 : x ≤ z
    · rw [if_neg (Int32.not_lt.mpr h1), if_neg (Int32.not_lt.mpr h2)]; simp only [h1, h2, and_self, decide_true, bi_t]
    · rw [if_neg (Int32.not_lt.mpr h1), if_pos (Int32.not_le.mp h2)]; simp only [h1, h2, and_false, decide_false, bi_f]
  · rw [if_pos (Int32.not_le.mp h1)]; simp only [h1, false_and, decide_false, bi_f]
theorem c3 : wp S (d + 1) 3 0 [some (.int x)] [] h Q = Q (.inl (some (.int (bi (decide (nI 0 ≤ x ∧ x ≤ nI 5))))), h) := by
  simp only [e3_0, e3_1, e3_2, e3_3, e3_6, c4, eq_self, am_kr_s, am_kr_n, w8_nil, w8_c, w8_a, w8_0, ct_i, ct_r, ct_n, ct_k, ct_l, true_and, and_true, ↓reduceIte, Nat.reduceAdd, Nat.reduceMul, Nat.reduceSub, Nat.reduceLeDiff, Nat.reduceLT, Nat.reduceDiv, Nat.reduceMod, Nat.reduceEqDiff, ne_eq, not_false_eq_true, not_true_eq_false, reduceCtorEq, bi_nar]
theorem c16 : wp S (d + 1) 16 0 [some (.int x)] [] h Q = Q (.inl (some (.int (bi (decide (nI 0 ≤ x ∧ x ≤ nI 3))))), h) := by
  simp only [e16_0, e16_1, e16_2, e16_3, e16_6, c4, eq_self, am_kr_s, am_kr_n, w8_nil, w8_c, w8_a, w8_0, ct_i, ct_r, ct_n, ct_k, ct_l, true_and, and_true, ↓reduceIte, Nat.reduceAdd, Nat.reduceMul, Nat.reduceSub, Nat.reduceLeDiff, Nat.reduceLT, Nat.reduceDiv, Nat.reduceMod, Nat.reduceEqDiff, ne_eq, not_false_eq_true, not_true_eq_false, reduceCtorEq, bi_nar]
end CS1
