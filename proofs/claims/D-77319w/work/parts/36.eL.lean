/-! step rows: the law (printed by gen_e.py) -/
set_option maxRecDepth 100000
section EROWS
variable {S : am_S} {d : Nat} {h : am_H} {Q : am_Out → Prop} {st : List Value} {ls : am_L} {w : Value} {x y z : Int32} {u v : Int64} {r : Nat}
variable {a0 a1 a2 a3 a4 a5 a6 a7 a8 a9 : Option Value} {r0 r1 r2 r3 r4 r5 : Nat} {x1 x2 x3 x4 x5 : Int32} {u1 u2 u3 : Int64}

theorem e180_0 : wp S d 180 0 [a0, a1, a2, a3] st h Q = wp S d 180 3 [a0, a1, a2, a3] (.ref h.length :: st) (h ++ [.inr (.inr (0, am_dft 0))]) Q := wp_nw hc180 dL_law_0 ho180 nw9_7
theorem e180_3 : wp S d 180 3 [a0, a1, a2, a3] (.ref r :: st) h Q = wp S d 180 4 [a0, a1, a2, a3] (.ref r :: .ref r :: st) h Q := wp_p hc180 dL_law_3 rfl
theorem e180_3i : wp S d 180 3 [a0, a1, a2, a3] (.int x :: st) h Q = wp S d 180 4 [a0, a1, a2, a3] (.int x :: .int x :: st) h Q := wp_p hc180 dL_law_3 rfl
theorem e180_4 : wp S (d + 1) 180 4 [a0, a1, a2, a3] (.ref r0 :: st) h Q = (am_w8 st ∧ am_rcv h 4 0 (.ref r0) = true ∧ wp S d 0 0 [some (.ref r0), none] [] h (am_kr S 4 (d + 1) 180 4 [a0, a1, a2, a3] st Q)) := wp_cI (.ref r0) [] hc180 dL_law_4 ho180 cl9_9 (by decide) ns9_9 hst0 hnp0 hml0 hlsl0 rfl rfl rfl
theorem e180_7 : wp S d 180 7 [a0, a1, a2, a3] (.ref r :: st) h Q = wp S d 180 8 [a0, some (.ref r), a2, a3] st h Q := wp_p hc180 dL_law_7 rfl
theorem e180_8 : wp S d 180 8 [a0, a1, a2, a3] st h Q = wp S d 180 11 [a0, a1, a2, a3] (.ref h.length :: st) (h ++ [.inr (.inr (5, am_dft 5))]) Q := wp_nw hc180 dL_law_8 ho180 nw9_10
theorem e180_11 : wp S d 180 11 [a0, a1, a2, a3] (.ref r :: st) h Q = wp S d 180 12 [a0, a1, a2, a3] (.ref r :: .ref r :: st) h Q := wp_p hc180 dL_law_11 rfl
theorem e180_11i : wp S d 180 11 [a0, a1, a2, a3] (.int x :: st) h Q = wp S d 180 12 [a0, a1, a2, a3] (.int x :: .int x :: st) h Q := wp_p hc180 dL_law_11 rfl
theorem e180_12 : wp S (d + 1) 180 12 [a0, a1, a2, a3] (.ref r0 :: st) h Q = (am_w8 st ∧ am_rcv h 4 58 (.ref r0) = true ∧ wp S d 58 0 [some (.ref r0), none] [] h (am_kr S 4 (d + 1) 180 12 [a0, a1, a2, a3] st Q)) := wp_cI (.ref r0) [] hc180 dL_law_12 ho180 cl9_12 (by decide) ns9_12 hst58 hnp58 hml58 hlsl58 rfl rfl rfl
theorem e180_15 : wp S d 180 15 [a0, a1, a2, a3] (.ref r :: st) h Q = wp S d 180 16 [a0, a1, some (.ref r), a3] st h Q := wp_p hc180 dL_law_15 rfl
theorem e180_16 : wp S d 180 16 [a0, a1, a2, a3] st h Q = wp S d 180 17 [a0, a1, a2, a3] (.int (nI 0) :: st) h Q := wp_p hc180 dL_law_16 rfl
theorem e180_17 : wp S d 180 17 [a0, a1, a2, a3] (.int x :: st) h Q = wp S d 180 18 [a0, a1, a2, some (.int x)] st h Q := wp_p hc180 dL_law_17 rfl
theorem e180_18 : wp S d 180 18 [a0, a1, a2, some (.int x)] st h Q = wp S d 180 19 [a0, a1, a2, some (.int x)] (.int x :: st) h Q := wp_p hc180 dL_law_18 rfl
theorem e180_19 : wp S d 180 19 [some (.ref r), a1, a2, a3] st h Q = wp S d 180 20 [some (.ref r), a1, a2, a3] (.ref r :: st) h Q := wp_p hc180 dL_law_19 rfl
theorem e180_19n : wp S d 180 19 [some (.null), a1, a2, a3] st h Q = wp S d 180 20 [some (.null), a1, a2, a3] (.null :: st) h Q := wp_p hc180 dL_law_19 rfl
theorem e180_19k : wp S d 180 19 [some (.retAddr r), a1, a2, a3] st h Q = wp S d 180 20 [some (.retAddr r), a1, a2, a3] (.retAddr r :: st) h Q := wp_p hc180 dL_law_19 rfl
theorem e180_20 : wp S d 180 20 [a0, a1, a2, a3] (.ref r :: st) h Q = am_alK h r (fun n => wp S d 180 21 [a0, a1, a2, a3] (.int (nI n) :: st) h Q) := wp_al hc180 dL_law_20
theorem e180_20k : wp S d 180 20 [a0, a1, a2, a3] (.retAddr 0 :: st) h Q = wp S d 180 21 [a0, a1, a2, a3] (.int (nI S.1) :: st) h Q := wp_alS hc180 dL_law_20
theorem e180_21 : wp S d 180 21 [a0, a1, a2, a3] st h Q = wp S d 180 22 [a0, a1, a2, a3] (.int (nI 4) :: st) h Q := wp_p hc180 dL_law_21 rfl
theorem e180_22 : wp S d 180 22 [a0, a1, a2, a3] (.int y :: .int x :: st) h Q = wp S d 180 23 [a0, a1, a2, a3] (.int (x - y) :: st) h Q := wp_p hc180 dL_law_22 rfl
theorem e180_23 : wp S d 180 23 [a0, a1, a2, a3] (.int y :: .int x :: st) h Q = if y < x then wp S d 180 746 [a0, a1, a2, a3] st h Q else wp S d 180 26 [a0, a1, a2, a3] st h Q := wp_gt hc180 dL_law_23 rfl
theorem e180_26 : wp S d 180 26 [some (.ref r), a1, a2, a3] st h Q = wp S d 180 27 [some (.ref r), a1, a2, a3] (.ref r :: st) h Q := wp_p hc180 dL_law_26 rfl
theorem e180_26n : wp S d 180 26 [some (.null), a1, a2, a3] st h Q = wp S d 180 27 [some (.null), a1, a2, a3] (.null :: st) h Q := wp_p hc180 dL_law_26 rfl
theorem e180_26k : wp S d 180 26 [some (.retAddr r), a1, a2, a3] st h Q = wp S d 180 27 [some (.retAddr r), a1, a2, a3] (.retAddr r :: st) h Q := wp_p hc180 dL_law_26 rfl
theorem e180_27 : wp S d 180 27 [a0, a1, a2, some (.int x)] st h Q = wp S d 180 28 [a0, a1, a2, some (.int x)] (.int x :: st) h Q := wp_p hc180 dL_law_27 rfl
theorem e180_28 : wp S d 180 28 [a0, a1, a2, a3] (.int x :: .ref r :: st) h Q = am_iaK h r x (fun z => wp S d 180 29 [a0, a1, a2, a3] (.int z :: st) h Q) := wp_ia hc180 dL_law_28
theorem e180_28k : wp S d 180 28 [a0, a1, a2, a3] (.int x :: .retAddr 0 :: st) h Q = (am_in x S.1 = true ∧ wp S d 180 29 [a0, a1, a2, a3] (.int (S.2 x.toNatClampNeg) :: st) h Q) := wp_iaS hc180 dL_law_28
theorem e180_29 : wp S d 180 29 [a0, a1, a2, a3] st h Q = wp S d 180 31 [a0, a1, a2, a3] (.int (nI 31) :: st) h Q := wp_p hc180 dL_law_29 rfl
theorem e180_31 : wp S d 180 31 [a0, a1, a2, a3] (.int y :: .int x :: st) h Q = wp S d 180 32 [a0, a1, a2, a3] (.int (x &&& y) :: st) h Q := wp_p hc180 dL_law_31 rfl
theorem e180_32_0 : wp S d 180 32 [a0, a1, a2, a3] (.int (nI 0) :: st) h Q = wp S d 180 140 [a0, a1, a2, a3] st h Q := wp_p hc180 dL_law_32 rfl
theorem e180_32_1 : wp S d 180 32 [a0, a1, a2, a3] (.int (nI 1) :: st) h Q = wp S d 180 183 [a0, a1, a2, a3] st h Q := wp_p hc180 dL_law_32 rfl
theorem e180_32_2 : wp S d 180 32 [a0, a1, a2, a3] (.int (nI 2) :: st) h Q = wp S d 180 226 [a0, a1, a2, a3] st h Q := wp_p hc180 dL_law_32 rfl
theorem e180_32_3 : wp S d 180 32 [a0, a1, a2, a3] (.int (nI 3) :: st) h Q = wp S d 180 269 [a0, a1, a2, a3] st h Q := wp_p hc180 dL_law_32 rfl
theorem e180_32_4 : wp S d 180 32 [a0, a1, a2, a3] (.int (nI 4) :: st) h Q = wp S d 180 312 [a0, a1, a2, a3] st h Q := wp_p hc180 dL_law_32 rfl
theorem e180_32_5 : wp S d 180 32 [a0, a1, a2, a3] (.int (nI 5) :: st) h Q = wp S d 180 345 [a0, a1, a2, a3] st h Q := wp_p hc180 dL_law_32 rfl
theorem e180_32_6 : wp S d 180 32 [a0, a1, a2, a3] (.int (nI 6) :: st) h Q = wp S d 180 368 [a0, a1, a2, a3] st h Q := wp_p hc180 dL_law_32 rfl
theorem e180_32_7 : wp S d 180 32 [a0, a1, a2, a3] (.int (nI 7) :: st) h Q = wp S d 180 411 [a0, a1, a2, a3] st h Q := wp_p hc180 dL_law_32 rfl
theorem e180_32_8 : wp S d 180 32 [a0, a1, a2, a3] (.int (nI 8) :: st) h Q = wp S d 180 454 [a0, a1, a2, a3] st h Q := wp_p hc180 dL_law_32 rfl
theorem e180_32_9 : wp S d 180 32 [a0, a1, a2, a3] (.int (nI 9) :: st) h Q = wp S d 180 477 [a0, a1, a2, a3] st h Q := wp_p hc180 dL_law_32 rfl
theorem e180_32_10 : wp S d 180 32 [a0, a1, a2, a3] (.int (nI 10) :: st) h Q = wp S d 180 500 [a0, a1, a2, a3] st h Q := wp_p hc180 dL_law_32 rfl
theorem e180_32_11 : wp S d 180 32 [a0, a1, a2, a3] (.int (nI 11) :: st) h Q = wp S d 180 523 [a0, a1, a2, a3] st h Q := wp_p hc180 dL_law_32 rfl
theorem e180_32_12 : wp S d 180 32 [a0, a1, a2, a3] (.int (nI 12) :: st) h Q = wp S d 180 546 [a0, a1, a2, a3] st h Q := wp_p hc180 dL_law_32 rfl
theorem e180_32_13 : wp S d 180 32 [a0, a1, a2, a3] (.int (nI 13) :: st) h Q = wp S d 180 559 [a0, a1, a2, a3] st h Q := wp_p hc180 dL_law_32 rfl
theorem e180_32_14 : wp S d 180 32 [a0, a1, a2, a3] (.int (nI 14) :: st) h Q = wp S d 180 572 [a0, a1, a2, a3] st h Q := wp_p hc180 dL_law_32 rfl
theorem e180_32_15 : wp S d 180 32 [a0, a1, a2, a3] (.int (nI 15) :: st) h Q = wp S d 180 585 [a0, a1, a2, a3] st h Q := wp_p hc180 dL_law_32 rfl
theorem e180_32_16 : wp S d 180 32 [a0, a1, a2, a3] (.int (nI 16) :: st) h Q = wp S d 180 608 [a0, a1, a2, a3] st h Q := wp_p hc180 dL_law_32 rfl
theorem e180_32_17 : wp S d 180 32 [a0, a1, a2, a3] (.int (nI 17) :: st) h Q = wp S d 180 621 [a0, a1, a2, a3] st h Q := wp_p hc180 dL_law_32 rfl
theorem e180_32_18 : wp S d 180 32 [a0, a1, a2, a3] (.int (nI 18) :: st) h Q = wp S d 180 634 [a0, a1, a2, a3] st h Q := wp_p hc180 dL_law_32 rfl
theorem e180_32_19 : wp S d 180 32 [a0, a1, a2, a3] (.int (nI 19) :: st) h Q = wp S d 180 667 [a0, a1, a2, a3] st h Q := wp_p hc180 dL_law_32 rfl
theorem e180_32_20 : wp S d 180 32 [a0, a1, a2, a3] (.int (nI 20) :: st) h Q = wp S d 180 690 [a0, a1, a2, a3] st h Q := wp_p hc180 dL_law_32 rfl
theorem e180_32_21 : wp S d 180 32 [a0, a1, a2, a3] (.int (nI 21) :: st) h Q = wp S d 180 703 [a0, a1, a2, a3] st h Q := wp_p hc180 dL_law_32 rfl
theorem e180_32_22 : wp S d 180 32 [a0, a1, a2, a3] (.int (nI 22) :: st) h Q = wp S d 180 726 [a0, a1, a2, a3] st h Q := wp_p hc180 dL_law_32 rfl
theorem e180_32_23 : wp S d 180 32 [a0, a1, a2, a3] (.int (nI 23) :: st) h Q = wp S d 180 740 [a0, a1, a2, a3] st h Q := wp_p hc180 dL_law_32 rfl
theorem e180_32_24 : wp S d 180 32 [a0, a1, a2, a3] (.int (nI 24) :: st) h Q = wp S d 180 740 [a0, a1, a2, a3] st h Q := wp_p hc180 dL_law_32 rfl
theorem e180_32_25 : wp S d 180 32 [a0, a1, a2, a3] (.int (nI 25) :: st) h Q = wp S d 180 740 [a0, a1, a2, a3] st h Q := wp_p hc180 dL_law_32 rfl
theorem e180_32_26 : wp S d 180 32 [a0, a1, a2, a3] (.int (nI 26) :: st) h Q = wp S d 180 740 [a0, a1, a2, a3] st h Q := wp_p hc180 dL_law_32 rfl
theorem e180_32_27 : wp S d 180 32 [a0, a1, a2, a3] (.int (nI 27) :: st) h Q = wp S d 180 740 [a0, a1, a2, a3] st h Q := wp_p hc180 dL_law_32 rfl
theorem e180_32_28 : wp S d 180 32 [a0, a1, a2, a3] (.int (nI 28) :: st) h Q = wp S d 180 740 [a0, a1, a2, a3] st h Q := wp_p hc180 dL_law_32 rfl
theorem e180_32_29 : wp S d 180 32 [a0, a1, a2, a3] (.int (nI 29) :: st) h Q = wp S d 180 740 [a0, a1, a2, a3] st h Q := wp_p hc180 dL_law_32 rfl
theorem e180_32_30 : wp S d 180 32 [a0, a1, a2, a3] (.int (nI 30) :: st) h Q = wp S d 180 740 [a0, a1, a2, a3] st h Q := wp_p hc180 dL_law_32 rfl
theorem e180_32_31 : wp S d 180 32 [a0, a1, a2, a3] (.int (nI 31) :: st) h Q = wp S d 180 740 [a0, a1, a2, a3] st h Q := wp_p hc180 dL_law_32 rfl
theorem e180_140 : wp S d 180 140 [a0, some (.ref r), a2, a3] st h Q = wp S d 180 141 [a0, some (.ref r), a2, a3] (.ref r :: st) h Q := wp_p hc180 dL_law_140 rfl
theorem e180_141 : wp S d 180 141 [some (.ref r), a1, a2, a3] st h Q = wp S d 180 142 [some (.ref r), a1, a2, a3] (.ref r :: st) h Q := wp_p hc180 dL_law_141 rfl
theorem e180_141n : wp S d 180 141 [some (.null), a1, a2, a3] st h Q = wp S d 180 142 [some (.null), a1, a2, a3] (.null :: st) h Q := wp_p hc180 dL_law_141 rfl
theorem e180_141k : wp S d 180 141 [some (.retAddr r), a1, a2, a3] st h Q = wp S d 180 142 [some (.retAddr r), a1, a2, a3] (.retAddr r :: st) h Q := wp_p hc180 dL_law_141 rfl
theorem e180_142 : wp S d 180 142 [a0, a1, a2, some (.int x)] st h Q = wp S d 180 143 [a0, a1, a2, some (.int x)] (.int x :: st) h Q := wp_p hc180 dL_law_142 rfl
theorem e180_143 : wp S d 180 143 [a0, a1, a2, a3] st h Q = wp S d 180 144 [a0, a1, a2, a3] (.int (nI 1) :: st) h Q := wp_p hc180 dL_law_143 rfl
theorem e180_144 : wp S d 180 144 [a0, a1, a2, a3] (.int y :: .int x :: st) h Q = wp S d 180 145 [a0, a1, a2, a3] (.int (x + y) :: st) h Q := wp_p hc180 dL_law_144 rfl
theorem e180_145 : wp S d 180 145 [a0, a1, a2, a3] (.int x :: .ref r :: st) h Q = am_iaK h r x (fun z => wp S d 180 146 [a0, a1, a2, a3] (.int z :: st) h Q) := wp_ia hc180 dL_law_145
theorem e180_145k : wp S d 180 145 [a0, a1, a2, a3] (.int x :: .retAddr 0 :: st) h Q = (am_in x S.1 = true ∧ wp S d 180 146 [a0, a1, a2, a3] (.int (S.2 x.toNatClampNeg) :: st) h Q) := wp_iaS hc180 dL_law_145
theorem e180_146 : wp S d 180 146 [some (.ref r), a1, a2, a3] st h Q = wp S d 180 147 [some (.ref r), a1, a2, a3] (.ref r :: st) h Q := wp_p hc180 dL_law_146 rfl
theorem e180_146n : wp S d 180 146 [some (.null), a1, a2, a3] st h Q = wp S d 180 147 [some (.null), a1, a2, a3] (.null :: st) h Q := wp_p hc180 dL_law_146 rfl
theorem e180_146k : wp S d 180 146 [some (.retAddr r), a1, a2, a3] st h Q = wp S d 180 147 [some (.retAddr r), a1, a2, a3] (.retAddr r :: st) h Q := wp_p hc180 dL_law_146 rfl
theorem e180_147 : wp S d 180 147 [a0, a1, a2, some (.int x)] st h Q = wp S d 180 148 [a0, a1, a2, some (.int x)] (.int x :: st) h Q := wp_p hc180 dL_law_147 rfl
theorem e180_148 : wp S d 180 148 [a0, a1, a2, a3] st h Q = wp S d 180 149 [a0, a1, a2, a3] (.int (nI 2) :: st) h Q := wp_p hc180 dL_law_148 rfl
theorem e180_149 : wp S d 180 149 [a0, a1, a2, a3] (.int y :: .int x :: st) h Q = wp S d 180 150 [a0, a1, a2, a3] (.int (x + y) :: st) h Q := wp_p hc180 dL_law_149 rfl
theorem e180_150 : wp S d 180 150 [a0, a1, a2, a3] (.int x :: .ref r :: st) h Q = am_iaK h r x (fun z => wp S d 180 151 [a0, a1, a2, a3] (.int z :: st) h Q) := wp_ia hc180 dL_law_150
theorem e180_150k : wp S d 180 150 [a0, a1, a2, a3] (.int x :: .retAddr 0 :: st) h Q = (am_in x S.1 = true ∧ wp S d 180 151 [a0, a1, a2, a3] (.int (S.2 x.toNatClampNeg) :: st) h Q) := wp_iaS hc180 dL_law_150
theorem e180_151 : wp S d 180 151 [some (.ref r), a1, a2, a3] st h Q = wp S d 180 152 [some (.ref r), a1, a2, a3] (.ref r :: st) h Q := wp_p hc180 dL_law_151 rfl
theorem e180_151n : wp S d 180 151 [some (.null), a1, a2, a3] st h Q = wp S d 180 152 [some (.null), a1, a2, a3] (.null :: st) h Q := wp_p hc180 dL_law_151 rfl
theorem e180_151k : wp S d 180 151 [some (.retAddr r), a1, a2, a3] st h Q = wp S d 180 152 [some (.retAddr r), a1, a2, a3] (.retAddr r :: st) h Q := wp_p hc180 dL_law_151 rfl
theorem e180_152 : wp S d 180 152 [a0, a1, a2, some (.int x)] st h Q = wp S d 180 153 [a0, a1, a2, some (.int x)] (.int x :: st) h Q := wp_p hc180 dL_law_152 rfl
theorem e180_153 : wp S d 180 153 [a0, a1, a2, a3] st h Q = wp S d 180 154 [a0, a1, a2, a3] (.int (nI 3) :: st) h Q := wp_p hc180 dL_law_153 rfl
theorem e180_154 : wp S d 180 154 [a0, a1, a2, a3] (.int y :: .int x :: st) h Q = wp S d 180 155 [a0, a1, a2, a3] (.int (x + y) :: st) h Q := wp_p hc180 dL_law_154 rfl
theorem e180_155 : wp S d 180 155 [a0, a1, a2, a3] (.int x :: .ref r :: st) h Q = am_iaK h r x (fun z => wp S d 180 156 [a0, a1, a2, a3] (.int z :: st) h Q) := wp_ia hc180 dL_law_155
theorem e180_155k : wp S d 180 155 [a0, a1, a2, a3] (.int x :: .retAddr 0 :: st) h Q = (am_in x S.1 = true ∧ wp S d 180 156 [a0, a1, a2, a3] (.int (S.2 x.toNatClampNeg) :: st) h Q) := wp_iaS hc180 dL_law_155
theorem e180_156 : wp S (d + 1) 180 156 [a0, a1, a2, a3] (.int x3 :: .int x2 :: .int x1 :: .ref r0 :: st) h Q = (am_w8 st ∧ am_rcv h 2 1 (.ref r0) = true ∧ wp S d 1 0 [some (.ref r0), some (.int x1), some (.int x2), some (.int x3)] [] h (am_kr S 2 (d + 1) 180 156 [a0, a1, a2, a3] st Q)) := wp_cV (.ref r0) [.int x1, .int x2, .int x3] hc180 dL_law_156 ho180 cl9_13 (by decide) ns9_13 hst1 hnp1 hml1 hlsl1 rfl rfl rfl
theorem e180_159 : wp S d 180 159 [a0, a1, some (.ref r), a3] st h Q = wp S d 180 160 [a0, a1, some (.ref r), a3] (.ref r :: st) h Q := wp_p hc180 dL_law_159 rfl
theorem e180_160 : wp S d 180 160 [some (.ref r), a1, a2, a3] st h Q = wp S d 180 161 [some (.ref r), a1, a2, a3] (.ref r :: st) h Q := wp_p hc180 dL_law_160 rfl
theorem e180_160n : wp S d 180 160 [some (.null), a1, a2, a3] st h Q = wp S d 180 161 [some (.null), a1, a2, a3] (.null :: st) h Q := wp_p hc180 dL_law_160 rfl
theorem e180_160k : wp S d 180 160 [some (.retAddr r), a1, a2, a3] st h Q = wp S d 180 161 [some (.retAddr r), a1, a2, a3] (.retAddr r :: st) h Q := wp_p hc180 dL_law_160 rfl
theorem e180_161 : wp S d 180 161 [a0, a1, a2, some (.int x)] st h Q = wp S d 180 162 [a0, a1, a2, some (.int x)] (.int x :: st) h Q := wp_p hc180 dL_law_161 rfl
theorem e180_162 : wp S d 180 162 [a0, a1, a2, a3] st h Q = wp S d 180 163 [a0, a1, a2, a3] (.int (nI 1) :: st) h Q := wp_p hc180 dL_law_162 rfl
theorem e180_163 : wp S d 180 163 [a0, a1, a2, a3] (.int y :: .int x :: st) h Q = wp S d 180 164 [a0, a1, a2, a3] (.int (x + y) :: st) h Q := wp_p hc180 dL_law_163 rfl
theorem e180_164 : wp S d 180 164 [a0, a1, a2, a3] (.int x :: .ref r :: st) h Q = am_iaK h r x (fun z => wp S d 180 165 [a0, a1, a2, a3] (.int z :: st) h Q) := wp_ia hc180 dL_law_164
theorem e180_164k : wp S d 180 164 [a0, a1, a2, a3] (.int x :: .retAddr 0 :: st) h Q = (am_in x S.1 = true ∧ wp S d 180 165 [a0, a1, a2, a3] (.int (S.2 x.toNatClampNeg) :: st) h Q) := wp_iaS hc180 dL_law_164
theorem e180_165 : wp S d 180 165 [some (.ref r), a1, a2, a3] st h Q = wp S d 180 166 [some (.ref r), a1, a2, a3] (.ref r :: st) h Q := wp_p hc180 dL_law_165 rfl
theorem e180_165n : wp S d 180 165 [some (.null), a1, a2, a3] st h Q = wp S d 180 166 [some (.null), a1, a2, a3] (.null :: st) h Q := wp_p hc180 dL_law_165 rfl
theorem e180_165k : wp S d 180 165 [some (.retAddr r), a1, a2, a3] st h Q = wp S d 180 166 [some (.retAddr r), a1, a2, a3] (.retAddr r :: st) h Q := wp_p hc180 dL_law_165 rfl
theorem e180_166 : wp S d 180 166 [a0, a1, a2, some (.int x)] st h Q = wp S d 180 167 [a0, a1, a2, some (.int x)] (.int x :: st) h Q := wp_p hc180 dL_law_166 rfl
theorem e180_167 : wp S d 180 167 [a0, a1, a2, a3] st h Q = wp S d 180 168 [a0, a1, a2, a3] (.int (nI 2) :: st) h Q := wp_p hc180 dL_law_167 rfl
theorem e180_168 : wp S d 180 168 [a0, a1, a2, a3] (.int y :: .int x :: st) h Q = wp S d 180 169 [a0, a1, a2, a3] (.int (x + y) :: st) h Q := wp_p hc180 dL_law_168 rfl
theorem e180_169 : wp S d 180 169 [a0, a1, a2, a3] (.int x :: .ref r :: st) h Q = am_iaK h r x (fun z => wp S d 180 170 [a0, a1, a2, a3] (.int z :: st) h Q) := wp_ia hc180 dL_law_169
theorem e180_169k : wp S d 180 169 [a0, a1, a2, a3] (.int x :: .retAddr 0 :: st) h Q = (am_in x S.1 = true ∧ wp S d 180 170 [a0, a1, a2, a3] (.int (S.2 x.toNatClampNeg) :: st) h Q) := wp_iaS hc180 dL_law_169
theorem e180_170 : wp S d 180 170 [some (.ref r), a1, a2, a3] st h Q = wp S d 180 171 [some (.ref r), a1, a2, a3] (.ref r :: st) h Q := wp_p hc180 dL_law_170 rfl
theorem e180_170n : wp S d 180 170 [some (.null), a1, a2, a3] st h Q = wp S d 180 171 [some (.null), a1, a2, a3] (.null :: st) h Q := wp_p hc180 dL_law_170 rfl
theorem e180_170k : wp S d 180 170 [some (.retAddr r), a1, a2, a3] st h Q = wp S d 180 171 [some (.retAddr r), a1, a2, a3] (.retAddr r :: st) h Q := wp_p hc180 dL_law_170 rfl
theorem e180_171 : wp S d 180 171 [a0, a1, a2, some (.int x)] st h Q = wp S d 180 172 [a0, a1, a2, some (.int x)] (.int x :: st) h Q := wp_p hc180 dL_law_171 rfl
theorem e180_172 : wp S d 180 172 [a0, a1, a2, a3] st h Q = wp S d 180 173 [a0, a1, a2, a3] (.int (nI 3) :: st) h Q := wp_p hc180 dL_law_172 rfl
theorem e180_173 : wp S d 180 173 [a0, a1, a2, a3] (.int y :: .int x :: st) h Q = wp S d 180 174 [a0, a1, a2, a3] (.int (x + y) :: st) h Q := wp_p hc180 dL_law_173 rfl
theorem e180_174 : wp S d 180 174 [a0, a1, a2, a3] (.int x :: .ref r :: st) h Q = am_iaK h r x (fun z => wp S d 180 175 [a0, a1, a2, a3] (.int z :: st) h Q) := wp_ia hc180 dL_law_174
theorem e180_174k : wp S d 180 174 [a0, a1, a2, a3] (.int x :: .retAddr 0 :: st) h Q = (am_in x S.1 = true ∧ wp S d 180 175 [a0, a1, a2, a3] (.int (S.2 x.toNatClampNeg) :: st) h Q) := wp_iaS hc180 dL_law_174
theorem e180_175 : wp S (d + 1) 180 175 [a0, a1, a2, a3] (.int x3 :: .int x2 :: .int x1 :: .ref r0 :: st) h Q = (am_w8 st ∧ am_rcv h 2 59 (.ref r0) = true ∧ wp S d 59 0 [some (.ref r0), some (.int x1), some (.int x2), some (.int x3), none] [] h (am_kr S 2 (d + 1) 180 175 [a0, a1, a2, a3] st Q)) := wp_cV (.ref r0) [.int x1, .int x2, .int x3] hc180 dL_law_175 ho180 cl9_17 (by decide) ns9_17 hst59 hnp59 hml59 hlsl59 rfl rfl rfl
theorem e180_178 : wp S d 180 178 [a0, a1, a2, a3] (.int y :: .int x :: st) h Q = if x = y then wp S d 180 740 [a0, a1, a2, a3] st h Q else wp S d 180 181 [a0, a1, a2, a3] st h Q := wp_eq hc180 dL_law_178 rfl
theorem e180_181 : wp S d 180 181 [a0, a1, a2, a3] st h Q = wp S d 180 182 [a0, a1, a2, a3] (.int (nI 0) :: st) h Q := wp_p hc180 dL_law_181 rfl
theorem e180_182 : wp S d 180 182 ls [.int x] h Q = (narrow .boolean (.int x) = .int x ∧ Q (.inl (some (.int x)), h)) := wp_rI hc180 dL_law_182 rfl
theorem e180_183 : wp S d 180 183 [a0, some (.ref r), a2, a3] st h Q = wp S d 180 184 [a0, some (.ref r), a2, a3] (.ref r :: st) h Q := wp_p hc180 dL_law_183 rfl
theorem e180_184 : wp S d 180 184 [some (.ref r), a1, a2, a3] st h Q = wp S d 180 185 [some (.ref r), a1, a2, a3] (.ref r :: st) h Q := wp_p hc180 dL_law_184 rfl
theorem e180_184n : wp S d 180 184 [some (.null), a1, a2, a3] st h Q = wp S d 180 185 [some (.null), a1, a2, a3] (.null :: st) h Q := wp_p hc180 dL_law_184 rfl
theorem e180_184k : wp S d 180 184 [some (.retAddr r), a1, a2, a3] st h Q = wp S d 180 185 [some (.retAddr r), a1, a2, a3] (.retAddr r :: st) h Q := wp_p hc180 dL_law_184 rfl
theorem e180_185 : wp S d 180 185 [a0, a1, a2, some (.int x)] st h Q = wp S d 180 186 [a0, a1, a2, some (.int x)] (.int x :: st) h Q := wp_p hc180 dL_law_185 rfl
theorem e180_186 : wp S d 180 186 [a0, a1, a2, a3] st h Q = wp S d 180 187 [a0, a1, a2, a3] (.int (nI 1) :: st) h Q := wp_p hc180 dL_law_186 rfl
theorem e180_187 : wp S d 180 187 [a0, a1, a2, a3] (.int y :: .int x :: st) h Q = wp S d 180 188 [a0, a1, a2, a3] (.int (x + y) :: st) h Q := wp_p hc180 dL_law_187 rfl
theorem e180_188 : wp S d 180 188 [a0, a1, a2, a3] (.int x :: .ref r :: st) h Q = am_iaK h r x (fun z => wp S d 180 189 [a0, a1, a2, a3] (.int z :: st) h Q) := wp_ia hc180 dL_law_188
theorem e180_188k : wp S d 180 188 [a0, a1, a2, a3] (.int x :: .retAddr 0 :: st) h Q = (am_in x S.1 = true ∧ wp S d 180 189 [a0, a1, a2, a3] (.int (S.2 x.toNatClampNeg) :: st) h Q) := wp_iaS hc180 dL_law_188
theorem e180_189 : wp S d 180 189 [some (.ref r), a1, a2, a3] st h Q = wp S d 180 190 [some (.ref r), a1, a2, a3] (.ref r :: st) h Q := wp_p hc180 dL_law_189 rfl
theorem e180_189n : wp S d 180 189 [some (.null), a1, a2, a3] st h Q = wp S d 180 190 [some (.null), a1, a2, a3] (.null :: st) h Q := wp_p hc180 dL_law_189 rfl
theorem e180_189k : wp S d 180 189 [some (.retAddr r), a1, a2, a3] st h Q = wp S d 180 190 [some (.retAddr r), a1, a2, a3] (.retAddr r :: st) h Q := wp_p hc180 dL_law_189 rfl
theorem e180_190 : wp S d 180 190 [a0, a1, a2, some (.int x)] st h Q = wp S d 180 191 [a0, a1, a2, some (.int x)] (.int x :: st) h Q := wp_p hc180 dL_law_190 rfl
theorem e180_191 : wp S d 180 191 [a0, a1, a2, a3] st h Q = wp S d 180 192 [a0, a1, a2, a3] (.int (nI 2) :: st) h Q := wp_p hc180 dL_law_191 rfl
theorem e180_192 : wp S d 180 192 [a0, a1, a2, a3] (.int y :: .int x :: st) h Q = wp S d 180 193 [a0, a1, a2, a3] (.int (x + y) :: st) h Q := wp_p hc180 dL_law_192 rfl
theorem e180_193 : wp S d 180 193 [a0, a1, a2, a3] (.int x :: .ref r :: st) h Q = am_iaK h r x (fun z => wp S d 180 194 [a0, a1, a2, a3] (.int z :: st) h Q) := wp_ia hc180 dL_law_193
theorem e180_193k : wp S d 180 193 [a0, a1, a2, a3] (.int x :: .retAddr 0 :: st) h Q = (am_in x S.1 = true ∧ wp S d 180 194 [a0, a1, a2, a3] (.int (S.2 x.toNatClampNeg) :: st) h Q) := wp_iaS hc180 dL_law_193
theorem e180_194 : wp S d 180 194 [some (.ref r), a1, a2, a3] st h Q = wp S d 180 195 [some (.ref r), a1, a2, a3] (.ref r :: st) h Q := wp_p hc180 dL_law_194 rfl
theorem e180_194n : wp S d 180 194 [some (.null), a1, a2, a3] st h Q = wp S d 180 195 [some (.null), a1, a2, a3] (.null :: st) h Q := wp_p hc180 dL_law_194 rfl
theorem e180_194k : wp S d 180 194 [some (.retAddr r), a1, a2, a3] st h Q = wp S d 180 195 [some (.retAddr r), a1, a2, a3] (.retAddr r :: st) h Q := wp_p hc180 dL_law_194 rfl
theorem e180_195 : wp S d 180 195 [a0, a1, a2, some (.int x)] st h Q = wp S d 180 196 [a0, a1, a2, some (.int x)] (.int x :: st) h Q := wp_p hc180 dL_law_195 rfl
theorem e180_196 : wp S d 180 196 [a0, a1, a2, a3] st h Q = wp S d 180 197 [a0, a1, a2, a3] (.int (nI 3) :: st) h Q := wp_p hc180 dL_law_196 rfl
theorem e180_197 : wp S d 180 197 [a0, a1, a2, a3] (.int y :: .int x :: st) h Q = wp S d 180 198 [a0, a1, a2, a3] (.int (x + y) :: st) h Q := wp_p hc180 dL_law_197 rfl
theorem e180_198 : wp S d 180 198 [a0, a1, a2, a3] (.int x :: .ref r :: st) h Q = am_iaK h r x (fun z => wp S d 180 199 [a0, a1, a2, a3] (.int z :: st) h Q) := wp_ia hc180 dL_law_198
theorem e180_198k : wp S d 180 198 [a0, a1, a2, a3] (.int x :: .retAddr 0 :: st) h Q = (am_in x S.1 = true ∧ wp S d 180 199 [a0, a1, a2, a3] (.int (S.2 x.toNatClampNeg) :: st) h Q) := wp_iaS hc180 dL_law_198
theorem e180_199 : wp S (d + 1) 180 199 [a0, a1, a2, a3] (.int x3 :: .int x2 :: .int x1 :: .ref r0 :: st) h Q = (am_w8 st ∧ am_rcv h 2 7 (.ref r0) = true ∧ wp S d 7 0 [some (.ref r0), some (.int x1), some (.int x2), some (.int x3)] [] h (am_kr S 2 (d + 1) 180 199 [a0, a1, a2, a3] st Q)) := wp_cV (.ref r0) [.int x1, .int x2, .int x3] hc180 dL_law_199 ho180 cl9_18 (by decide) ns9_18 hst7 hnp7 hml7 hlsl7 rfl rfl rfl
theorem e180_202 : wp S d 180 202 [a0, a1, some (.ref r), a3] st h Q = wp S d 180 203 [a0, a1, some (.ref r), a3] (.ref r :: st) h Q := wp_p hc180 dL_law_202 rfl
theorem e180_203 : wp S d 180 203 [some (.ref r), a1, a2, a3] st h Q = wp S d 180 204 [some (.ref r), a1, a2, a3] (.ref r :: st) h Q := wp_p hc180 dL_law_203 rfl
theorem e180_203n : wp S d 180 203 [some (.null), a1, a2, a3] st h Q = wp S d 180 204 [some (.null), a1, a2, a3] (.null :: st) h Q := wp_p hc180 dL_law_203 rfl
theorem e180_203k : wp S d 180 203 [some (.retAddr r), a1, a2, a3] st h Q = wp S d 180 204 [some (.retAddr r), a1, a2, a3] (.retAddr r :: st) h Q := wp_p hc180 dL_law_203 rfl
theorem e180_204 : wp S d 180 204 [a0, a1, a2, some (.int x)] st h Q = wp S d 180 205 [a0, a1, a2, some (.int x)] (.int x :: st) h Q := wp_p hc180 dL_law_204 rfl
theorem e180_205 : wp S d 180 205 [a0, a1, a2, a3] st h Q = wp S d 180 206 [a0, a1, a2, a3] (.int (nI 1) :: st) h Q := wp_p hc180 dL_law_205 rfl
theorem e180_206 : wp S d 180 206 [a0, a1, a2, a3] (.int y :: .int x :: st) h Q = wp S d 180 207 [a0, a1, a2, a3] (.int (x + y) :: st) h Q := wp_p hc180 dL_law_206 rfl
theorem e180_207 : wp S d 180 207 [a0, a1, a2, a3] (.int x :: .ref r :: st) h Q = am_iaK h r x (fun z => wp S d 180 208 [a0, a1, a2, a3] (.int z :: st) h Q) := wp_ia hc180 dL_law_207
theorem e180_207k : wp S d 180 207 [a0, a1, a2, a3] (.int x :: .retAddr 0 :: st) h Q = (am_in x S.1 = true ∧ wp S d 180 208 [a0, a1, a2, a3] (.int (S.2 x.toNatClampNeg) :: st) h Q) := wp_iaS hc180 dL_law_207
theorem e180_208 : wp S d 180 208 [some (.ref r), a1, a2, a3] st h Q = wp S d 180 209 [some (.ref r), a1, a2, a3] (.ref r :: st) h Q := wp_p hc180 dL_law_208 rfl
theorem e180_208n : wp S d 180 208 [some (.null), a1, a2, a3] st h Q = wp S d 180 209 [some (.null), a1, a2, a3] (.null :: st) h Q := wp_p hc180 dL_law_208 rfl
theorem e180_208k : wp S d 180 208 [some (.retAddr r), a1, a2, a3] st h Q = wp S d 180 209 [some (.retAddr r), a1, a2, a3] (.retAddr r :: st) h Q := wp_p hc180 dL_law_208 rfl
theorem e180_209 : wp S d 180 209 [a0, a1, a2, some (.int x)] st h Q = wp S d 180 210 [a0, a1, a2, some (.int x)] (.int x :: st) h Q := wp_p hc180 dL_law_209 rfl
theorem e180_210 : wp S d 180 210 [a0, a1, a2, a3] st h Q = wp S d 180 211 [a0, a1, a2, a3] (.int (nI 2) :: st) h Q := wp_p hc180 dL_law_210 rfl
theorem e180_211 : wp S d 180 211 [a0, a1, a2, a3] (.int y :: .int x :: st) h Q = wp S d 180 212 [a0, a1, a2, a3] (.int (x + y) :: st) h Q := wp_p hc180 dL_law_211 rfl
theorem e180_212 : wp S d 180 212 [a0, a1, a2, a3] (.int x :: .ref r :: st) h Q = am_iaK h r x (fun z => wp S d 180 213 [a0, a1, a2, a3] (.int z :: st) h Q) := wp_ia hc180 dL_law_212
theorem e180_212k : wp S d 180 212 [a0, a1, a2, a3] (.int x :: .retAddr 0 :: st) h Q = (am_in x S.1 = true ∧ wp S d 180 213 [a0, a1, a2, a3] (.int (S.2 x.toNatClampNeg) :: st) h Q) := wp_iaS hc180 dL_law_212
theorem e180_213 : wp S d 180 213 [some (.ref r), a1, a2, a3] st h Q = wp S d 180 214 [some (.ref r), a1, a2, a3] (.ref r :: st) h Q := wp_p hc180 dL_law_213 rfl
theorem e180_213n : wp S d 180 213 [some (.null), a1, a2, a3] st h Q = wp S d 180 214 [some (.null), a1, a2, a3] (.null :: st) h Q := wp_p hc180 dL_law_213 rfl
theorem e180_213k : wp S d 180 213 [some (.retAddr r), a1, a2, a3] st h Q = wp S d 180 214 [some (.retAddr r), a1, a2, a3] (.retAddr r :: st) h Q := wp_p hc180 dL_law_213 rfl
theorem e180_214 : wp S d 180 214 [a0, a1, a2, some (.int x)] st h Q = wp S d 180 215 [a0, a1, a2, some (.int x)] (.int x :: st) h Q := wp_p hc180 dL_law_214 rfl
theorem e180_215 : wp S d 180 215 [a0, a1, a2, a3] st h Q = wp S d 180 216 [a0, a1, a2, a3] (.int (nI 3) :: st) h Q := wp_p hc180 dL_law_215 rfl
theorem e180_216 : wp S d 180 216 [a0, a1, a2, a3] (.int y :: .int x :: st) h Q = wp S d 180 217 [a0, a1, a2, a3] (.int (x + y) :: st) h Q := wp_p hc180 dL_law_216 rfl
theorem e180_217 : wp S d 180 217 [a0, a1, a2, a3] (.int x :: .ref r :: st) h Q = am_iaK h r x (fun z => wp S d 180 218 [a0, a1, a2, a3] (.int z :: st) h Q) := wp_ia hc180 dL_law_217
theorem e180_217k : wp S d 180 217 [a0, a1, a2, a3] (.int x :: .retAddr 0 :: st) h Q = (am_in x S.1 = true ∧ wp S d 180 218 [a0, a1, a2, a3] (.int (S.2 x.toNatClampNeg) :: st) h Q) := wp_iaS hc180 dL_law_217
theorem e180_218 : wp S (d + 1) 180 218 [a0, a1, a2, a3] (.int x3 :: .int x2 :: .int x1 :: .ref r0 :: st) h Q = (am_w8 st ∧ am_rcv h 2 65 (.ref r0) = true ∧ wp S d 65 0 [some (.ref r0), some (.int x1), some (.int x2), some (.int x3), none] [] h (am_kr S 2 (d + 1) 180 218 [a0, a1, a2, a3] st Q)) := wp_cV (.ref r0) [.int x1, .int x2, .int x3] hc180 dL_law_218 ho180 cl9_21 (by decide) ns9_21 hst65 hnp65 hml65 hlsl65 rfl rfl rfl
theorem e180_221 : wp S d 180 221 [a0, a1, a2, a3] (.int y :: .int x :: st) h Q = if x = y then wp S d 180 740 [a0, a1, a2, a3] st h Q else wp S d 180 224 [a0, a1, a2, a3] st h Q := wp_eq hc180 dL_law_221 rfl
theorem e180_224 : wp S d 180 224 [a0, a1, a2, a3] st h Q = wp S d 180 225 [a0, a1, a2, a3] (.int (nI 0) :: st) h Q := wp_p hc180 dL_law_224 rfl
theorem e180_225 : wp S d 180 225 ls [.int x] h Q = (narrow .boolean (.int x) = .int x ∧ Q (.inl (some (.int x)), h)) := wp_rI hc180 dL_law_225 rfl
theorem e180_226 : wp S d 180 226 [a0, some (.ref r), a2, a3] st h Q = wp S d 180 227 [a0, some (.ref r), a2, a3] (.ref r :: st) h Q := wp_p hc180 dL_law_226 rfl
theorem e180_227 : wp S d 180 227 [some (.ref r), a1, a2, a3] st h Q = wp S d 180 228 [some (.ref r), a1, a2, a3] (.ref r :: st) h Q := wp_p hc180 dL_law_227 rfl
theorem e180_227n : wp S d 180 227 [some (.null), a1, a2, a3] st h Q = wp S d 180 228 [some (.null), a1, a2, a3] (.null :: st) h Q := wp_p hc180 dL_law_227 rfl
theorem e180_227k : wp S d 180 227 [some (.retAddr r), a1, a2, a3] st h Q = wp S d 180 228 [some (.retAddr r), a1, a2, a3] (.retAddr r :: st) h Q := wp_p hc180 dL_law_227 rfl
theorem e180_228 : wp S d 180 228 [a0, a1, a2, some (.int x)] st h Q = wp S d 180 229 [a0, a1, a2, some (.int x)] (.int x :: st) h Q := wp_p hc180 dL_law_228 rfl
theorem e180_229 : wp S d 180 229 [a0, a1, a2, a3] st h Q = wp S d 180 230 [a0, a1, a2, a3] (.int (nI 1) :: st) h Q := wp_p hc180 dL_law_229 rfl
theorem e180_230 : wp S d 180 230 [a0, a1, a2, a3] (.int y :: .int x :: st) h Q = wp S d 180 231 [a0, a1, a2, a3] (.int (x + y) :: st) h Q := wp_p hc180 dL_law_230 rfl
theorem e180_231 : wp S d 180 231 [a0, a1, a2, a3] (.int x :: .ref r :: st) h Q = am_iaK h r x (fun z => wp S d 180 232 [a0, a1, a2, a3] (.int z :: st) h Q) := wp_ia hc180 dL_law_231
theorem e180_231k : wp S d 180 231 [a0, a1, a2, a3] (.int x :: .retAddr 0 :: st) h Q = (am_in x S.1 = true ∧ wp S d 180 232 [a0, a1, a2, a3] (.int (S.2 x.toNatClampNeg) :: st) h Q) := wp_iaS hc180 dL_law_231
theorem e180_232 : wp S d 180 232 [some (.ref r), a1, a2, a3] st h Q = wp S d 180 233 [some (.ref r), a1, a2, a3] (.ref r :: st) h Q := wp_p hc180 dL_law_232 rfl
theorem e180_232n : wp S d 180 232 [some (.null), a1, a2, a3] st h Q = wp S d 180 233 [some (.null), a1, a2, a3] (.null :: st) h Q := wp_p hc180 dL_law_232 rfl
theorem e180_232k : wp S d 180 232 [some (.retAddr r), a1, a2, a3] st h Q = wp S d 180 233 [some (.retAddr r), a1, a2, a3] (.retAddr r :: st) h Q := wp_p hc180 dL_law_232 rfl
theorem e180_233 : wp S d 180 233 [a0, a1, a2, some (.int x)] st h Q = wp S d 180 234 [a0, a1, a2, some (.int x)] (.int x :: st) h Q := wp_p hc180 dL_law_233 rfl
theorem e180_234 : wp S d 180 234 [a0, a1, a2, a3] st h Q = wp S d 180 235 [a0, a1, a2, a3] (.int (nI 2) :: st) h Q := wp_p hc180 dL_law_234 rfl
theorem e180_235 : wp S d 180 235 [a0, a1, a2, a3] (.int y :: .int x :: st) h Q = wp S d 180 236 [a0, a1, a2, a3] (.int (x + y) :: st) h Q := wp_p hc180 dL_law_235 rfl
theorem e180_236 : wp S d 180 236 [a0, a1, a2, a3] (.int x :: .ref r :: st) h Q = am_iaK h r x (fun z => wp S d 180 237 [a0, a1, a2, a3] (.int z :: st) h Q) := wp_ia hc180 dL_law_236
theorem e180_236k : wp S d 180 236 [a0, a1, a2, a3] (.int x :: .retAddr 0 :: st) h Q = (am_in x S.1 = true ∧ wp S d 180 237 [a0, a1, a2, a3] (.int (S.2 x.toNatClampNeg) :: st) h Q) := wp_iaS hc180 dL_law_236
theorem e180_237 : wp S d 180 237 [some (.ref r), a1, a2, a3] st h Q = wp S d 180 238 [some (.ref r), a1, a2, a3] (.ref r :: st) h Q := wp_p hc180 dL_law_237 rfl
theorem e180_237n : wp S d 180 237 [some (.null), a1, a2, a3] st h Q = wp S d 180 238 [some (.null), a1, a2, a3] (.null :: st) h Q := wp_p hc180 dL_law_237 rfl
theorem e180_237k : wp S d 180 237 [some (.retAddr r), a1, a2, a3] st h Q = wp S d 180 238 [some (.retAddr r), a1, a2, a3] (.retAddr r :: st) h Q := wp_p hc180 dL_law_237 rfl
theorem e180_238 : wp S d 180 238 [a0, a1, a2, some (.int x)] st h Q = wp S d 180 239 [a0, a1, a2, some (.int x)] (.int x :: st) h Q := wp_p hc180 dL_law_238 rfl
theorem e180_239 : wp S d 180 239 [a0, a1, a2, a3] st h Q = wp S d 180 240 [a0, a1, a2, a3] (.int (nI 3) :: st) h Q := wp_p hc180 dL_law_239 rfl
theorem e180_240 : wp S d 180 240 [a0, a1, a2, a3] (.int y :: .int x :: st) h Q = wp S d 180 241 [a0, a1, a2, a3] (.int (x + y) :: st) h Q := wp_p hc180 dL_law_240 rfl
theorem e180_241 : wp S d 180 241 [a0, a1, a2, a3] (.int x :: .ref r :: st) h Q = am_iaK h r x (fun z => wp S d 180 242 [a0, a1, a2, a3] (.int z :: st) h Q) := wp_ia hc180 dL_law_241
theorem e180_241k : wp S d 180 241 [a0, a1, a2, a3] (.int x :: .retAddr 0 :: st) h Q = (am_in x S.1 = true ∧ wp S d 180 242 [a0, a1, a2, a3] (.int (S.2 x.toNatClampNeg) :: st) h Q) := wp_iaS hc180 dL_law_241
theorem e180_242 : wp S (d + 1) 180 242 [a0, a1, a2, a3] (.int x3 :: .int x2 :: .int x1 :: .ref r0 :: st) h Q = (am_w8 st ∧ am_rcv h 2 8 (.ref r0) = true ∧ wp S d 8 0 [some (.ref r0), some (.int x1), some (.int x2), some (.int x3)] [] h (am_kr S 2 (d + 1) 180 242 [a0, a1, a2, a3] st Q)) := wp_cV (.ref r0) [.int x1, .int x2, .int x3] hc180 dL_law_242 ho180 cl9_22 (by decide) ns9_22 hst8 hnp8 hml8 hlsl8 rfl rfl rfl
theorem e180_245 : wp S d 180 245 [a0, a1, some (.ref r), a3] st h Q = wp S d 180 246 [a0, a1, some (.ref r), a3] (.ref r :: st) h Q := wp_p hc180 dL_law_245 rfl
theorem e180_246 : wp S d 180 246 [some (.ref r), a1, a2, a3] st h Q = wp S d 180 247 [some (.ref r), a1, a2, a3] (.ref r :: st) h Q := wp_p hc180 dL_law_246 rfl
theorem e180_246n : wp S d 180 246 [some (.null), a1, a2, a3] st h Q = wp S d 180 247 [some (.null), a1, a2, a3] (.null :: st) h Q := wp_p hc180 dL_law_246 rfl
theorem e180_246k : wp S d 180 246 [some (.retAddr r), a1, a2, a3] st h Q = wp S d 180 247 [some (.retAddr r), a1, a2, a3] (.retAddr r :: st) h Q := wp_p hc180 dL_law_246 rfl
theorem e180_247 : wp S d 180 247 [a0, a1, a2, some (.int x)] st h Q = wp S d 180 248 [a0, a1, a2, some (.int x)] (.int x :: st) h Q := wp_p hc180 dL_law_247 rfl
theorem e180_248 : wp S d 180 248 [a0, a1, a2, a3] st h Q = wp S d 180 249 [a0, a1, a2, a3] (.int (nI 1) :: st) h Q := wp_p hc180 dL_law_248 rfl
theorem e180_249 : wp S d 180 249 [a0, a1, a2, a3] (.int y :: .int x :: st) h Q = wp S d 180 250 [a0, a1, a2, a3] (.int (x + y) :: st) h Q := wp_p hc180 dL_law_249 rfl
theorem e180_250 : wp S d 180 250 [a0, a1, a2, a3] (.int x :: .ref r :: st) h Q = am_iaK h r x (fun z => wp S d 180 251 [a0, a1, a2, a3] (.int z :: st) h Q) := wp_ia hc180 dL_law_250
theorem e180_250k : wp S d 180 250 [a0, a1, a2, a3] (.int x :: .retAddr 0 :: st) h Q = (am_in x S.1 = true ∧ wp S d 180 251 [a0, a1, a2, a3] (.int (S.2 x.toNatClampNeg) :: st) h Q) := wp_iaS hc180 dL_law_250
theorem e180_251 : wp S d 180 251 [some (.ref r), a1, a2, a3] st h Q = wp S d 180 252 [some (.ref r), a1, a2, a3] (.ref r :: st) h Q := wp_p hc180 dL_law_251 rfl
theorem e180_251n : wp S d 180 251 [some (.null), a1, a2, a3] st h Q = wp S d 180 252 [some (.null), a1, a2, a3] (.null :: st) h Q := wp_p hc180 dL_law_251 rfl
theorem e180_251k : wp S d 180 251 [some (.retAddr r), a1, a2, a3] st h Q = wp S d 180 252 [some (.retAddr r), a1, a2, a3] (.retAddr r :: st) h Q := wp_p hc180 dL_law_251 rfl
theorem e180_252 : wp S d 180 252 [a0, a1, a2, some (.int x)] st h Q = wp S d 180 253 [a0, a1, a2, some (.int x)] (.int x :: st) h Q := wp_p hc180 dL_law_252 rfl
theorem e180_253 : wp S d 180 253 [a0, a1, a2, a3] st h Q = wp S d 180 254 [a0, a1, a2, a3] (.int (nI 2) :: st) h Q := wp_p hc180 dL_law_253 rfl
theorem e180_254 : wp S d 180 254 [a0, a1, a2, a3] (.int y :: .int x :: st) h Q = wp S d 180 255 [a0, a1, a2, a3] (.int (x + y) :: st) h Q := wp_p hc180 dL_law_254 rfl
theorem e180_255 : wp S d 180 255 [a0, a1, a2, a3] (.int x :: .ref r :: st) h Q = am_iaK h r x (fun z => wp S d 180 256 [a0, a1, a2, a3] (.int z :: st) h Q) := wp_ia hc180 dL_law_255
theorem e180_255k : wp S d 180 255 [a0, a1, a2, a3] (.int x :: .retAddr 0 :: st) h Q = (am_in x S.1 = true ∧ wp S d 180 256 [a0, a1, a2, a3] (.int (S.2 x.toNatClampNeg) :: st) h Q) := wp_iaS hc180 dL_law_255
theorem e180_256 : wp S d 180 256 [some (.ref r), a1, a2, a3] st h Q = wp S d 180 257 [some (.ref r), a1, a2, a3] (.ref r :: st) h Q := wp_p hc180 dL_law_256 rfl
theorem e180_256n : wp S d 180 256 [some (.null), a1, a2, a3] st h Q = wp S d 180 257 [some (.null), a1, a2, a3] (.null :: st) h Q := wp_p hc180 dL_law_256 rfl
theorem e180_256k : wp S d 180 256 [some (.retAddr r), a1, a2, a3] st h Q = wp S d 180 257 [some (.retAddr r), a1, a2, a3] (.retAddr r :: st) h Q := wp_p hc180 dL_law_256 rfl
theorem e180_257 : wp S d 180 257 [a0, a1, a2, some (.int x)] st h Q = wp S d 180 258 [a0, a1, a2, some (.int x)] (.int x :: st) h Q := wp_p hc180 dL_law_257 rfl
theorem e180_258 : wp S d 180 258 [a0, a1, a2, a3] st h Q = wp S d 180 259 [a0, a1, a2, a3] (.int (nI 3) :: st) h Q := wp_p hc180 dL_law_258 rfl
theorem e180_259 : wp S d 180 259 [a0, a1, a2, a3] (.int y :: .int x :: st) h Q = wp S d 180 260 [a0, a1, a2, a3] (.int (x + y) :: st) h Q := wp_p hc180 dL_law_259 rfl
theorem e180_260 : wp S d 180 260 [a0, a1, a2, a3] (.int x :: .ref r :: st) h Q = am_iaK h r x (fun z => wp S d 180 261 [a0, a1, a2, a3] (.int z :: st) h Q) := wp_ia hc180 dL_law_260
theorem e180_260k : wp S d 180 260 [a0, a1, a2, a3] (.int x :: .retAddr 0 :: st) h Q = (am_in x S.1 = true ∧ wp S d 180 261 [a0, a1, a2, a3] (.int (S.2 x.toNatClampNeg) :: st) h Q) := wp_iaS hc180 dL_law_260
theorem e180_261 : wp S (d + 1) 180 261 [a0, a1, a2, a3] (.int x3 :: .int x2 :: .int x1 :: .ref r0 :: st) h Q = (am_w8 st ∧ am_rcv h 2 66 (.ref r0) = true ∧ wp S d 66 0 [some (.ref r0), some (.int x1), some (.int x2), some (.int x3)] [] h (am_kr S 2 (d + 1) 180 261 [a0, a1, a2, a3] st Q)) := wp_cV (.ref r0) [.int x1, .int x2, .int x3] hc180 dL_law_261 ho180 cl9_25 (by decide) ns9_25 hst66 hnp66 hml66 hlsl66 rfl rfl rfl
theorem e180_264 : wp S d 180 264 [a0, a1, a2, a3] (.int y :: .int x :: st) h Q = if x = y then wp S d 180 740 [a0, a1, a2, a3] st h Q else wp S d 180 267 [a0, a1, a2, a3] st h Q := wp_eq hc180 dL_law_264 rfl
theorem e180_267 : wp S d 180 267 [a0, a1, a2, a3] st h Q = wp S d 180 268 [a0, a1, a2, a3] (.int (nI 0) :: st) h Q := wp_p hc180 dL_law_267 rfl
theorem e180_268 : wp S d 180 268 ls [.int x] h Q = (narrow .boolean (.int x) = .int x ∧ Q (.inl (some (.int x)), h)) := wp_rI hc180 dL_law_268 rfl
theorem e180_269 : wp S d 180 269 [a0, some (.ref r), a2, a3] st h Q = wp S d 180 270 [a0, some (.ref r), a2, a3] (.ref r :: st) h Q := wp_p hc180 dL_law_269 rfl
theorem e180_270 : wp S d 180 270 [some (.ref r), a1, a2, a3] st h Q = wp S d 180 271 [some (.ref r), a1, a2, a3] (.ref r :: st) h Q := wp_p hc180 dL_law_270 rfl
theorem e180_270n : wp S d 180 270 [some (.null), a1, a2, a3] st h Q = wp S d 180 271 [some (.null), a1, a2, a3] (.null :: st) h Q := wp_p hc180 dL_law_270 rfl
theorem e180_270k : wp S d 180 270 [some (.retAddr r), a1, a2, a3] st h Q = wp S d 180 271 [some (.retAddr r), a1, a2, a3] (.retAddr r :: st) h Q := wp_p hc180 dL_law_270 rfl
theorem e180_271 : wp S d 180 271 [a0, a1, a2, some (.int x)] st h Q = wp S d 180 272 [a0, a1, a2, some (.int x)] (.int x :: st) h Q := wp_p hc180 dL_law_271 rfl
theorem e180_272 : wp S d 180 272 [a0, a1, a2, a3] st h Q = wp S d 180 273 [a0, a1, a2, a3] (.int (nI 1) :: st) h Q := wp_p hc180 dL_law_272 rfl
theorem e180_273 : wp S d 180 273 [a0, a1, a2, a3] (.int y :: .int x :: st) h Q = wp S d 180 274 [a0, a1, a2, a3] (.int (x + y) :: st) h Q := wp_p hc180 dL_law_273 rfl
theorem e180_274 : wp S d 180 274 [a0, a1, a2, a3] (.int x :: .ref r :: st) h Q = am_iaK h r x (fun z => wp S d 180 275 [a0, a1, a2, a3] (.int z :: st) h Q) := wp_ia hc180 dL_law_274
theorem e180_274k : wp S d 180 274 [a0, a1, a2, a3] (.int x :: .retAddr 0 :: st) h Q = (am_in x S.1 = true ∧ wp S d 180 275 [a0, a1, a2, a3] (.int (S.2 x.toNatClampNeg) :: st) h Q) := wp_iaS hc180 dL_law_274
theorem e180_275 : wp S d 180 275 [some (.ref r), a1, a2, a3] st h Q = wp S d 180 276 [some (.ref r), a1, a2, a3] (.ref r :: st) h Q := wp_p hc180 dL_law_275 rfl
theorem e180_275n : wp S d 180 275 [some (.null), a1, a2, a3] st h Q = wp S d 180 276 [some (.null), a1, a2, a3] (.null :: st) h Q := wp_p hc180 dL_law_275 rfl
theorem e180_275k : wp S d 180 275 [some (.retAddr r), a1, a2, a3] st h Q = wp S d 180 276 [some (.retAddr r), a1, a2, a3] (.retAddr r :: st) h Q := wp_p hc180 dL_law_275 rfl
theorem e180_276 : wp S d 180 276 [a0, a1, a2, some (.int x)] st h Q = wp S d 180 277 [a0, a1, a2, some (.int x)] (.int x :: st) h Q := wp_p hc180 dL_law_276 rfl
theorem e180_277 : wp S d 180 277 [a0, a1, a2, a3] st h Q = wp S d 180 278 [a0, a1, a2, a3] (.int (nI 2) :: st) h Q := wp_p hc180 dL_law_277 rfl
theorem e180_278 : wp S d 180 278 [a0, a1, a2, a3] (.int y :: .int x :: st) h Q = wp S d 180 279 [a0, a1, a2, a3] (.int (x + y) :: st) h Q := wp_p hc180 dL_law_278 rfl
theorem e180_279 : wp S d 180 279 [a0, a1, a2, a3] (.int x :: .ref r :: st) h Q = am_iaK h r x (fun z => wp S d 180 280 [a0, a1, a2, a3] (.int z :: st) h Q) := wp_ia hc180 dL_law_279
theorem e180_279k : wp S d 180 279 [a0, a1, a2, a3] (.int x :: .retAddr 0 :: st) h Q = (am_in x S.1 = true ∧ wp S d 180 280 [a0, a1, a2, a3] (.int (S.2 x.toNatClampNeg) :: st) h Q) := wp_iaS hc180 dL_law_279
theorem e180_280 : wp S d 180 280 [some (.ref r), a1, a2, a3] st h Q = wp S d 180 281 [some (.ref r), a1, a2, a3] (.ref r :: st) h Q := wp_p hc180 dL_law_280 rfl
theorem e180_280n : wp S d 180 280 [some (.null), a1, a2, a3] st h Q = wp S d 180 281 [some (.null), a1, a2, a3] (.null :: st) h Q := wp_p hc180 dL_law_280 rfl
theorem e180_280k : wp S d 180 280 [some (.retAddr r), a1, a2, a3] st h Q = wp S d 180 281 [some (.retAddr r), a1, a2, a3] (.retAddr r :: st) h Q := wp_p hc180 dL_law_280 rfl
theorem e180_281 : wp S d 180 281 [a0, a1, a2, some (.int x)] st h Q = wp S d 180 282 [a0, a1, a2, some (.int x)] (.int x :: st) h Q := wp_p hc180 dL_law_281 rfl
theorem e180_282 : wp S d 180 282 [a0, a1, a2, a3] st h Q = wp S d 180 283 [a0, a1, a2, a3] (.int (nI 3) :: st) h Q := wp_p hc180 dL_law_282 rfl
theorem e180_283 : wp S d 180 283 [a0, a1, a2, a3] (.int y :: .int x :: st) h Q = wp S d 180 284 [a0, a1, a2, a3] (.int (x + y) :: st) h Q := wp_p hc180 dL_law_283 rfl
theorem e180_284 : wp S d 180 284 [a0, a1, a2, a3] (.int x :: .ref r :: st) h Q = am_iaK h r x (fun z => wp S d 180 285 [a0, a1, a2, a3] (.int z :: st) h Q) := wp_ia hc180 dL_law_284
theorem e180_284k : wp S d 180 284 [a0, a1, a2, a3] (.int x :: .retAddr 0 :: st) h Q = (am_in x S.1 = true ∧ wp S d 180 285 [a0, a1, a2, a3] (.int (S.2 x.toNatClampNeg) :: st) h Q) := wp_iaS hc180 dL_law_284
theorem e180_285 : wp S (d + 1) 180 285 [a0, a1, a2, a3] (.int x3 :: .int x2 :: .int x1 :: .ref r0 :: st) h Q = (am_w8 st ∧ am_rcv h 2 10 (.ref r0) = true ∧ wp S d 10 0 [some (.ref r0), some (.int x1), some (.int x2), some (.int x3)] [] h (am_kr S 2 (d + 1) 180 285 [a0, a1, a2, a3] st Q)) := wp_cV (.ref r0) [.int x1, .int x2, .int x3] hc180 dL_law_285 ho180 cl9_26 (by decide) ns9_26 hst10 hnp10 hml10 hlsl10 rfl rfl rfl
theorem e180_288 : wp S d 180 288 [a0, a1, some (.ref r), a3] st h Q = wp S d 180 289 [a0, a1, some (.ref r), a3] (.ref r :: st) h Q := wp_p hc180 dL_law_288 rfl
theorem e180_289 : wp S d 180 289 [some (.ref r), a1, a2, a3] st h Q = wp S d 180 290 [some (.ref r), a1, a2, a3] (.ref r :: st) h Q := wp_p hc180 dL_law_289 rfl
theorem e180_289n : wp S d 180 289 [some (.null), a1, a2, a3] st h Q = wp S d 180 290 [some (.null), a1, a2, a3] (.null :: st) h Q := wp_p hc180 dL_law_289 rfl
theorem e180_289k : wp S d 180 289 [some (.retAddr r), a1, a2, a3] st h Q = wp S d 180 290 [some (.retAddr r), a1, a2, a3] (.retAddr r :: st) h Q := wp_p hc180 dL_law_289 rfl
theorem e180_290 : wp S d 180 290 [a0, a1, a2, some (.int x)] st h Q = wp S d 180 291 [a0, a1, a2, some (.int x)] (.int x :: st) h Q := wp_p hc180 dL_law_290 rfl
theorem e180_291 : wp S d 180 291 [a0, a1, a2, a3] st h Q = wp S d 180 292 [a0, a1, a2, a3] (.int (nI 1) :: st) h Q := wp_p hc180 dL_law_291 rfl
theorem e180_292 : wp S d 180 292 [a0, a1, a2, a3] (.int y :: .int x :: st) h Q = wp S d 180 293 [a0, a1, a2, a3] (.int (x + y) :: st) h Q := wp_p hc180 dL_law_292 rfl
theorem e180_293 : wp S d 180 293 [a0, a1, a2, a3] (.int x :: .ref r :: st) h Q = am_iaK h r x (fun z => wp S d 180 294 [a0, a1, a2, a3] (.int z :: st) h Q) := wp_ia hc180 dL_law_293
theorem e180_293k : wp S d 180 293 [a0, a1, a2, a3] (.int x :: .retAddr 0 :: st) h Q = (am_in x S.1 = true ∧ wp S d 180 294 [a0, a1, a2, a3] (.int (S.2 x.toNatClampNeg) :: st) h Q) := wp_iaS hc180 dL_law_293
theorem e180_294 : wp S d 180 294 [some (.ref r), a1, a2, a3] st h Q = wp S d 180 295 [some (.ref r), a1, a2, a3] (.ref r :: st) h Q := wp_p hc180 dL_law_294 rfl
theorem e180_294n : wp S d 180 294 [some (.null), a1, a2, a3] st h Q = wp S d 180 295 [some (.null), a1, a2, a3] (.null :: st) h Q := wp_p hc180 dL_law_294 rfl
theorem e180_294k : wp S d 180 294 [some (.retAddr r), a1, a2, a3] st h Q = wp S d 180 295 [some (.retAddr r), a1, a2, a3] (.retAddr r :: st) h Q := wp_p hc180 dL_law_294 rfl
theorem e180_295 : wp S d 180 295 [a0, a1, a2, some (.int x)] st h Q = wp S d 180 296 [a0, a1, a2, some (.int x)] (.int x :: st) h Q := wp_p hc180 dL_law_295 rfl
theorem e180_296 : wp S d 180 296 [a0, a1, a2, a3] st h Q = wp S d 180 297 [a0, a1, a2, a3] (.int (nI 2) :: st) h Q := wp_p hc180 dL_law_296 rfl
theorem e180_297 : wp S d 180 297 [a0, a1, a2, a3] (.int y :: .int x :: st) h Q = wp S d 180 298 [a0, a1, a2, a3] (.int (x + y) :: st) h Q := wp_p hc180 dL_law_297 rfl
theorem e180_298 : wp S d 180 298 [a0, a1, a2, a3] (.int x :: .ref r :: st) h Q = am_iaK h r x (fun z => wp S d 180 299 [a0, a1, a2, a3] (.int z :: st) h Q) := wp_ia hc180 dL_law_298
theorem e180_298k : wp S d 180 298 [a0, a1, a2, a3] (.int x :: .retAddr 0 :: st) h Q = (am_in x S.1 = true ∧ wp S d 180 299 [a0, a1, a2, a3] (.int (S.2 x.toNatClampNeg) :: st) h Q) := wp_iaS hc180 dL_law_298
theorem e180_299 : wp S d 180 299 [some (.ref r), a1, a2, a3] st h Q = wp S d 180 300 [some (.ref r), a1, a2, a3] (.ref r :: st) h Q := wp_p hc180 dL_law_299 rfl
theorem e180_299n : wp S d 180 299 [some (.null), a1, a2, a3] st h Q = wp S d 180 300 [some (.null), a1, a2, a3] (.null :: st) h Q := wp_p hc180 dL_law_299 rfl
theorem e180_299k : wp S d 180 299 [some (.retAddr r), a1, a2, a3] st h Q = wp S d 180 300 [some (.retAddr r), a1, a2, a3] (.retAddr r :: st) h Q := wp_p hc180 dL_law_299 rfl
theorem e180_300 : wp S d 180 300 [a0, a1, a2, some (.int x)] st h Q = wp S d 180 301 [a0, a1, a2, some (.int x)] (.int x :: st) h Q := wp_p hc180 dL_law_300 rfl
theorem e180_301 : wp S d 180 301 [a0, a1, a2, a3] st h Q = wp S d 180 302 [a0, a1, a2, a3] (.int (nI 3) :: st) h Q := wp_p hc180 dL_law_301 rfl
theorem e180_302 : wp S d 180 302 [a0, a1, a2, a3] (.int y :: .int x :: st) h Q = wp S d 180 303 [a0, a1, a2, a3] (.int (x + y) :: st) h Q := wp_p hc180 dL_law_302 rfl
theorem e180_303 : wp S d 180 303 [a0, a1, a2, a3] (.int x :: .ref r :: st) h Q = am_iaK h r x (fun z => wp S d 180 304 [a0, a1, a2, a3] (.int z :: st) h Q) := wp_ia hc180 dL_law_303
theorem e180_303k : wp S d 180 303 [a0, a1, a2, a3] (.int x :: .retAddr 0 :: st) h Q = (am_in x S.1 = true ∧ wp S d 180 304 [a0, a1, a2, a3] (.int (S.2 x.toNatClampNeg) :: st) h Q) := wp_iaS hc180 dL_law_303
theorem e180_304 : wp S (d + 1) 180 304 [a0, a1, a2, a3] (.int x3 :: .int x2 :: .int x1 :: .ref r0 :: st) h Q = (am_w8 st ∧ am_rcv h 2 68 (.ref r0) = true ∧ wp S d 68 0 [some (.ref r0), some (.int x1), some (.int x2), some (.int x3)] [] h (am_kr S 2 (d + 1) 180 304 [a0, a1, a2, a3] st Q)) := wp_cV (.ref r0) [.int x1, .int x2, .int x3] hc180 dL_law_304 ho180 cl9_29 (by decide) ns9_29 hst68 hnp68 hml68 hlsl68 rfl rfl rfl
theorem e180_307 : wp S d 180 307 [a0, a1, a2, a3] (.int y :: .int x :: st) h Q = if x = y then wp S d 180 740 [a0, a1, a2, a3] st h Q else wp S d 180 310 [a0, a1, a2, a3] st h Q := wp_eq hc180 dL_law_307 rfl
theorem e180_310 : wp S d 180 310 [a0, a1, a2, a3] st h Q = wp S d 180 311 [a0, a1, a2, a3] (.int (nI 0) :: st) h Q := wp_p hc180 dL_law_310 rfl
theorem e180_311 : wp S d 180 311 ls [.int x] h Q = (narrow .boolean (.int x) = .int x ∧ Q (.inl (some (.int x)), h)) := wp_rI hc180 dL_law_311 rfl
theorem e180_312 : wp S d 180 312 [a0, some (.ref r), a2, a3] st h Q = wp S d 180 313 [a0, some (.ref r), a2, a3] (.ref r :: st) h Q := wp_p hc180 dL_law_312 rfl
theorem e180_313 : wp S d 180 313 [some (.ref r), a1, a2, a3] st h Q = wp S d 180 314 [some (.ref r), a1, a2, a3] (.ref r :: st) h Q := wp_p hc180 dL_law_313 rfl
theorem e180_313n : wp S d 180 313 [some (.null), a1, a2, a3] st h Q = wp S d 180 314 [some (.null), a1, a2, a3] (.null :: st) h Q := wp_p hc180 dL_law_313 rfl
theorem e180_313k : wp S d 180 313 [some (.retAddr r), a1, a2, a3] st h Q = wp S d 180 314 [some (.retAddr r), a1, a2, a3] (.retAddr r :: st) h Q := wp_p hc180 dL_law_313 rfl
theorem e180_314 : wp S d 180 314 [a0, a1, a2, some (.int x)] st h Q = wp S d 180 315 [a0, a1, a2, some (.int x)] (.int x :: st) h Q := wp_p hc180 dL_law_314 rfl
theorem e180_315 : wp S d 180 315 [a0, a1, a2, a3] st h Q = wp S d 180 316 [a0, a1, a2, a3] (.int (nI 1) :: st) h Q := wp_p hc180 dL_law_315 rfl
theorem e180_316 : wp S d 180 316 [a0, a1, a2, a3] (.int y :: .int x :: st) h Q = wp S d 180 317 [a0, a1, a2, a3] (.int (x + y) :: st) h Q := wp_p hc180 dL_law_316 rfl
theorem e180_317 : wp S d 180 317 [a0, a1, a2, a3] (.int x :: .ref r :: st) h Q = am_iaK h r x (fun z => wp S d 180 318 [a0, a1, a2, a3] (.int z :: st) h Q) := wp_ia hc180 dL_law_317
theorem e180_317k : wp S d 180 317 [a0, a1, a2, a3] (.int x :: .retAddr 0 :: st) h Q = (am_in x S.1 = true ∧ wp S d 180 318 [a0, a1, a2, a3] (.int (S.2 x.toNatClampNeg) :: st) h Q) := wp_iaS hc180 dL_law_317
theorem e180_318 : wp S d 180 318 [some (.ref r), a1, a2, a3] st h Q = wp S d 180 319 [some (.ref r), a1, a2, a3] (.ref r :: st) h Q := wp_p hc180 dL_law_318 rfl
theorem e180_318n : wp S d 180 318 [some (.null), a1, a2, a3] st h Q = wp S d 180 319 [some (.null), a1, a2, a3] (.null :: st) h Q := wp_p hc180 dL_law_318 rfl
theorem e180_318k : wp S d 180 318 [some (.retAddr r), a1, a2, a3] st h Q = wp S d 180 319 [some (.retAddr r), a1, a2, a3] (.retAddr r :: st) h Q := wp_p hc180 dL_law_318 rfl
theorem e180_319 : wp S d 180 319 [a0, a1, a2, some (.int x)] st h Q = wp S d 180 320 [a0, a1, a2, some (.int x)] (.int x :: st) h Q := wp_p hc180 dL_law_319 rfl
theorem e180_320 : wp S d 180 320 [a0, a1, a2, a3] st h Q = wp S d 180 321 [a0, a1, a2, a3] (.int (nI 2) :: st) h Q := wp_p hc180 dL_law_320 rfl
theorem e180_321 : wp S d 180 321 [a0, a1, a2, a3] (.int y :: .int x :: st) h Q = wp S d 180 322 [a0, a1, a2, a3] (.int (x + y) :: st) h Q := wp_p hc180 dL_law_321 rfl
theorem e180_322 : wp S d 180 322 [a0, a1, a2, a3] (.int x :: .ref r :: st) h Q = am_iaK h r x (fun z => wp S d 180 323 [a0, a1, a2, a3] (.int z :: st) h Q) := wp_ia hc180 dL_law_322
theorem e180_322k : wp S d 180 322 [a0, a1, a2, a3] (.int x :: .retAddr 0 :: st) h Q = (am_in x S.1 = true ∧ wp S d 180 323 [a0, a1, a2, a3] (.int (S.2 x.toNatClampNeg) :: st) h Q) := wp_iaS hc180 dL_law_322
theorem e180_323 : wp S (d + 1) 180 323 [a0, a1, a2, a3] (.int x2 :: .int x1 :: .ref r0 :: st) h Q = (am_w8 st ∧ am_rcv h 2 11 (.ref r0) = true ∧ wp S d 11 0 [some (.ref r0), some (.int x1), some (.int x2), none] [] h (am_kr S 2 (d + 1) 180 323 [a0, a1, a2, a3] st Q)) := wp_cV (.ref r0) [.int x1, .int x2] hc180 dL_law_323 ho180 cl9_30 (by decide) ns9_30 hst11 hnp11 hml11 hlsl11 rfl rfl rfl
theorem e180_326 : wp S d 180 326 [a0, a1, some (.ref r), a3] st h Q = wp S d 180 327 [a0, a1, some (.ref r), a3] (.ref r :: st) h Q := wp_p hc180 dL_law_326 rfl
theorem e180_327 : wp S d 180 327 [some (.ref r), a1, a2, a3] st h Q = wp S d 180 328 [some (.ref r), a1, a2, a3] (.ref r :: st) h Q := wp_p hc180 dL_law_327 rfl
theorem e180_327n : wp S d 180 327 [some (.null), a1, a2, a3] st h Q = wp S d 180 328 [some (.null), a1, a2, a3] (.null :: st) h Q := wp_p hc180 dL_law_327 rfl
theorem e180_327k : wp S d 180 327 [some (.retAddr r), a1, a2, a3] st h Q = wp S d 180 328 [some (.retAddr r), a1, a2, a3] (.retAddr r :: st) h Q := wp_p hc180 dL_law_327 rfl
theorem e180_328 : wp S d 180 328 [a0, a1, a2, some (.int x)] st h Q = wp S d 180 329 [a0, a1, a2, some (.int x)] (.int x :: st) h Q := wp_p hc180 dL_law_328 rfl
theorem e180_329 : wp S d 180 329 [a0, a1, a2, a3] st h Q = wp S d 180 330 [a0, a1, a2, a3] (.int (nI 1) :: st) h Q := wp_p hc180 dL_law_329 rfl
theorem e180_330 : wp S d 180 330 [a0, a1, a2, a3] (.int y :: .int x :: st) h Q = wp S d 180 331 [a0, a1, a2, a3] (.int (x + y) :: st) h Q := wp_p hc180 dL_law_330 rfl
theorem e180_331 : wp S d 180 331 [a0, a1, a2, a3] (.int x :: .ref r :: st) h Q = am_iaK h r x (fun z => wp S d 180 332 [a0, a1, a2, a3] (.int z :: st) h Q) := wp_ia hc180 dL_law_331
theorem e180_331k : wp S d 180 331 [a0, a1, a2, a3] (.int x :: .retAddr 0 :: st) h Q = (am_in x S.1 = true ∧ wp S d 180 332 [a0, a1, a2, a3] (.int (S.2 x.toNatClampNeg) :: st) h Q) := wp_iaS hc180 dL_law_331
theorem e180_332 : wp S d 180 332 [some (.ref r), a1, a2, a3] st h Q = wp S d 180 333 [some (.ref r), a1, a2, a3] (.ref r :: st) h Q := wp_p hc180 dL_law_332 rfl
theorem e180_332n : wp S d 180 332 [some (.null), a1, a2, a3] st h Q = wp S d 180 333 [some (.null), a1, a2, a3] (.null :: st) h Q := wp_p hc180 dL_law_332 rfl
theorem e180_332k : wp S d 180 332 [some (.retAddr r), a1, a2, a3] st h Q = wp S d 180 333 [some (.retAddr r), a1, a2, a3] (.retAddr r :: st) h Q := wp_p hc180 dL_law_332 rfl
theorem e180_333 : wp S d 180 333 [a0, a1, a2, some (.int x)] st h Q = wp S d 180 334 [a0, a1, a2, some (.int x)] (.int x :: st) h Q := wp_p hc180 dL_law_333 rfl
theorem e180_334 : wp S d 180 334 [a0, a1, a2, a3] st h Q = wp S d 180 335 [a0, a1, a2, a3] (.int (nI 2) :: st) h Q := wp_p hc180 dL_law_334 rfl
theorem e180_335 : wp S d 180 335 [a0, a1, a2, a3] (.int y :: .int x :: st) h Q = wp S d 180 336 [a0, a1, a2, a3] (.int (x + y) :: st) h Q := wp_p hc180 dL_law_335 rfl
theorem e180_336 : wp S d 180 336 [a0, a1, a2, a3] (.int x :: .ref r :: st) h Q = am_iaK h r x (fun z => wp S d 180 337 [a0, a1, a2, a3] (.int z :: st) h Q) := wp_ia hc180 dL_law_336
theorem e180_336k : wp S d 180 336 [a0, a1, a2, a3] (.int x :: .retAddr 0 :: st) h Q = (am_in x S.1 = true ∧ wp S d 180 337 [a0, a1, a2, a3] (.int (S.2 x.toNatClampNeg) :: st) h Q) := wp_iaS hc180 dL_law_336
theorem e180_337 : wp S (d + 1) 180 337 [a0, a1, a2, a3] (.int x2 :: .int x1 :: .ref r0 :: st) h Q = (am_w8 st ∧ am_rcv h 2 69 (.ref r0) = true ∧ wp S d 69 0 [some (.ref r0), some (.int x1), some (.int x2), none] [] h (am_kr S 2 (d + 1) 180 337 [a0, a1, a2, a3] st Q)) := wp_cV (.ref r0) [.int x1, .int x2] hc180 dL_law_337 ho180 cl9_34 (by decide) ns9_34 hst69 hnp69 hml69 hlsl69 rfl rfl rfl
theorem e180_340 : wp S d 180 340 [a0, a1, a2, a3] (.int y :: .int x :: st) h Q = if x = y then wp S d 180 740 [a0, a1, a2, a3] st h Q else wp S d 180 343 [a0, a1, a2, a3] st h Q := wp_eq hc180 dL_law_340 rfl
theorem e180_343 : wp S d 180 343 [a0, a1, a2, a3] st h Q = wp S d 180 344 [a0, a1, a2, a3] (.int (nI 0) :: st) h Q := wp_p hc180 dL_law_343 rfl
theorem e180_344 : wp S d 180 344 ls [.int x] h Q = (narrow .boolean (.int x) = .int x ∧ Q (.inl (some (.int x)), h)) := wp_rI hc180 dL_law_344 rfl
theorem e180_345 : wp S d 180 345 [a0, some (.ref r), a2, a3] st h Q = wp S d 180 346 [a0, some (.ref r), a2, a3] (.ref r :: st) h Q := wp_p hc180 dL_law_345 rfl
theorem e180_346 : wp S d 180 346 [some (.ref r), a1, a2, a3] st h Q = wp S d 180 347 [some (.ref r), a1, a2, a3] (.ref r :: st) h Q := wp_p hc180 dL_law_346 rfl
theorem e180_346n : wp S d 180 346 [some (.null), a1, a2, a3] st h Q = wp S d 180 347 [some (.null), a1, a2, a3] (.null :: st) h Q := wp_p hc180 dL_law_346 rfl
theorem e180_346k : wp S d 180 346 [some (.retAddr r), a1, a2, a3] st h Q = wp S d 180 347 [some (.retAddr r), a1, a2, a3] (.retAddr r :: st) h Q := wp_p hc180 dL_law_346 rfl
theorem e180_347 : wp S d 180 347 [a0, a1, a2, some (.int x)] st h Q = wp S d 180 348 [a0, a1, a2, some (.int x)] (.int x :: st) h Q := wp_p hc180 dL_law_347 rfl
theorem e180_348 : wp S d 180 348 [a0, a1, a2, a3] st h Q = wp S d 180 349 [a0, a1, a2, a3] (.int (nI 1) :: st) h Q := wp_p hc180 dL_law_348 rfl
theorem e180_349 : wp S d 180 349 [a0, a1, a2, a3] (.int y :: .int x :: st) h Q = wp S d 180 350 [a0, a1, a2, a3] (.int (x + y) :: st) h Q := wp_p hc180 dL_law_349 rfl
theorem e180_350 : wp S d 180 350 [a0, a1, a2, a3] (.int x :: .ref r :: st) h Q = am_iaK h r x (fun z => wp S d 180 351 [a0, a1, a2, a3] (.int z :: st) h Q) := wp_ia hc180 dL_law_350
theorem e180_350k : wp S d 180 350 [a0, a1, a2, a3] (.int x :: .retAddr 0 :: st) h Q = (am_in x S.1 = true ∧ wp S d 180 351 [a0, a1, a2, a3] (.int (S.2 x.toNatClampNeg) :: st) h Q) := wp_iaS hc180 dL_law_350
theorem e180_351 : wp S (d + 1) 180 351 [a0, a1, a2, a3] (.int x1 :: .ref r0 :: st) h Q = (am_w8 st ∧ am_rcv h 2 13 (.ref r0) = true ∧ wp S d 13 0 [some (.ref r0), some (.int x1), none] [] h (am_kr S 2 (d + 1) 180 351 [a0, a1, a2, a3] st Q)) := wp_cV (.ref r0) [.int x1] hc180 dL_law_351 ho180 cl9_35 (by decide) ns9_35 hst13 hnp13 hml13 hlsl13 rfl rfl rfl
theorem e180_354 : wp S d 180 354 [a0, a1, some (.ref r), a3] st h Q = wp S d 180 355 [a0, a1, some (.ref r), a3] (.ref r :: st) h Q := wp_p hc180 dL_law_354 rfl
theorem e180_355 : wp S d 180 355 [some (.ref r), a1, a2, a3] st h Q = wp S d 180 356 [some (.ref r), a1, a2, a3] (.ref r :: st) h Q := wp_p hc180 dL_law_355 rfl
theorem e180_355n : wp S d 180 355 [some (.null), a1, a2, a3] st h Q = wp S d 180 356 [some (.null), a1, a2, a3] (.null :: st) h Q := wp_p hc180 dL_law_355 rfl
theorem e180_355k : wp S d 180 355 [some (.retAddr r), a1, a2, a3] st h Q = wp S d 180 356 [some (.retAddr r), a1, a2, a3] (.retAddr r :: st) h Q := wp_p hc180 dL_law_355 rfl
theorem e180_356 : wp S d 180 356 [a0, a1, a2, some (.int x)] st h Q = wp S d 180 357 [a0, a1, a2, some (.int x)] (.int x :: st) h Q := wp_p hc180 dL_law_356 rfl
theorem e180_357 : wp S d 180 357 [a0, a1, a2, a3] st h Q = wp S d 180 358 [a0, a1, a2, a3] (.int (nI 1) :: st) h Q := wp_p hc180 dL_law_357 rfl
theorem e180_358 : wp S d 180 358 [a0, a1, a2, a3] (.int y :: .int x :: st) h Q = wp S d 180 359 [a0, a1, a2, a3] (.int (x + y) :: st) h Q := wp_p hc180 dL_law_358 rfl
theorem e180_359 : wp S d 180 359 [a0, a1, a2, a3] (.int x :: .ref r :: st) h Q = am_iaK h r x (fun z => wp S d 180 360 [a0, a1, a2, a3] (.int z :: st) h Q) := wp_ia hc180 dL_law_359
theorem e180_359k : wp S d 180 359 [a0, a1, a2, a3] (.int x :: .retAddr 0 :: st) h Q = (am_in x S.1 = true ∧ wp S d 180 360 [a0, a1, a2, a3] (.int (S.2 x.toNatClampNeg) :: st) h Q) := wp_iaS hc180 dL_law_359
theorem e180_360 : wp S (d + 1) 180 360 [a0, a1, a2, a3] (.int x1 :: .ref r0 :: st) h Q = (am_w8 st ∧ am_rcv h 2 75 (.ref r0) = true ∧ wp S d 75 0 [some (.ref r0), some (.int x1), none] [] h (am_kr S 2 (d + 1) 180 360 [a0, a1, a2, a3] st Q)) := wp_cV (.ref r0) [.int x1] hc180 dL_law_360 ho180 cl9_39 (by decide) ns9_39 hst75 hnp75 hml75 hlsl75 rfl rfl rfl
theorem e180_363 : wp S d 180 363 [a0, a1, a2, a3] (.int y :: .int x :: st) h Q = if x = y then wp S d 180 740 [a0, a1, a2, a3] st h Q else wp S d 180 366 [a0, a1, a2, a3] st h Q := wp_eq hc180 dL_law_363 rfl
theorem e180_366 : wp S d 180 366 [a0, a1, a2, a3] st h Q = wp S d 180 367 [a0, a1, a2, a3] (.int (nI 0) :: st) h Q := wp_p hc180 dL_law_366 rfl
theorem e180_367 : wp S d 180 367 ls [.int x] h Q = (narrow .boolean (.int x) = .int x ∧ Q (.inl (some (.int x)), h)) := wp_rI hc180 dL_law_367 rfl
theorem e180_368 : wp S d 180 368 [a0, some (.ref r), a2, a3] st h Q = wp S d 180 369 [a0, some (.ref r), a2, a3] (.ref r :: st) h Q := wp_p hc180 dL_law_368 rfl
theorem e180_369 : wp S d 180 369 [some (.ref r), a1, a2, a3] st h Q = wp S d 180 370 [some (.ref r), a1, a2, a3] (.ref r :: st) h Q := wp_p hc180 dL_law_369 rfl
theorem e180_369n : wp S d 180 369 [some (.null), a1, a2, a3] st h Q = wp S d 180 370 [some (.null), a1, a2, a3] (.null :: st) h Q := wp_p hc180 dL_law_369 rfl
theorem e180_369k : wp S d 180 369 [some (.retAddr r), a1, a2, a3] st h Q = wp S d 180 370 [some (.retAddr r), a1, a2, a3] (.retAddr r :: st) h Q := wp_p hc180 dL_law_369 rfl
theorem e180_370 : wp S d 180 370 [a0, a1, a2, some (.int x)] st h Q = wp S d 180 371 [a0, a1, a2, some (.int x)] (.int x :: st) h Q := wp_p hc180 dL_law_370 rfl
theorem e180_371 : wp S d 180 371 [a0, a1, a2, a3] st h Q = wp S d 180 372 [a0, a1, a2, a3] (.int (nI 1) :: st) h Q := wp_p hc180 dL_law_371 rfl
theorem e180_372 : wp S d 180 372 [a0, a1, a2, a3] (.int y :: .int x :: st) h Q = wp S d 180 373 [a0, a1, a2, a3] (.int (x + y) :: st) h Q := wp_p hc180 dL_law_372 rfl
theorem e180_373 : wp S d 180 373 [a0, a1, a2, a3] (.int x :: .ref r :: st) h Q = am_iaK h r x (fun z => wp S d 180 374 [a0, a1, a2, a3] (.int z :: st) h Q) := wp_ia hc180 dL_law_373
theorem e180_373k : wp S d 180 373 [a0, a1, a2, a3] (.int x :: .retAddr 0 :: st) h Q = (am_in x S.1 = true ∧ wp S d 180 374 [a0, a1, a2, a3] (.int (S.2 x.toNatClampNeg) :: st) h Q) := wp_iaS hc180 dL_law_373
theorem e180_374 : wp S d 180 374 [some (.ref r), a1, a2, a3] st h Q = wp S d 180 375 [some (.ref r), a1, a2, a3] (.ref r :: st) h Q := wp_p hc180 dL_law_374 rfl
theorem e180_374n : wp S d 180 374 [some (.null), a1, a2, a3] st h Q = wp S d 180 375 [some (.null), a1, a2, a3] (.null :: st) h Q := wp_p hc180 dL_law_374 rfl
theorem e180_374k : wp S d 180 374 [some (.retAddr r), a1, a2, a3] st h Q = wp S d 180 375 [some (.retAddr r), a1, a2, a3] (.retAddr r :: st) h Q := wp_p hc180 dL_law_374 rfl
theorem e180_375 : wp S d 180 375 [a0, a1, a2, some (.int x)] st h Q = wp S d 180 376 [a0, a1, a2, some (.int x)] (.int x :: st) h Q := wp_p hc180 dL_law_375 rfl
theorem e180_376 : wp S d 180 376 [a0, a1, a2, a3] st h Q = wp S d 180 377 [a0, a1, a2, a3] (.int (nI 2) :: st) h Q := wp_p hc180 dL_law_376 rfl
theorem e180_377 : wp S d 180 377 [a0, a1, a2, a3] (.int y :: .int x :: st) h Q = wp S d 180 378 [a0, a1, a2, a3] (.int (x + y) :: st) h Q := wp_p hc180 dL_law_377 rfl
theorem e180_378 : wp S d 180 378 [a0, a1, a2, a3] (.int x :: .ref r :: st) h Q = am_iaK h r x (fun z => wp S d 180 379 [a0, a1, a2, a3] (.int z :: st) h Q) := wp_ia hc180 dL_law_378
theorem e180_378k : wp S d 180 378 [a0, a1, a2, a3] (.int x :: .retAddr 0 :: st) h Q = (am_in x S.1 = true ∧ wp S d 180 379 [a0, a1, a2, a3] (.int (S.2 x.toNatClampNeg) :: st) h Q) := wp_iaS hc180 dL_law_378
theorem e180_379 : wp S d 180 379 [some (.ref r), a1, a2, a3] st h Q = wp S d 180 380 [some (.ref r), a1, a2, a3] (.ref r :: st) h Q := wp_p hc180 dL_law_379 rfl
theorem e180_379n : wp S d 180 379 [some (.null), a1, a2, a3] st h Q = wp S d 180 380 [some (.null), a1, a2, a3] (.null :: st) h Q := wp_p hc180 dL_law_379 rfl
theorem e180_379k : wp S d 180 379 [some (.retAddr r), a1, a2, a3] st h Q = wp S d 180 380 [some (.retAddr r), a1, a2, a3] (.retAddr r :: st) h Q := wp_p hc180 dL_law_379 rfl
theorem e180_380 : wp S d 180 380 [a0, a1, a2, some (.int x)] st h Q = wp S d 180 381 [a0, a1, a2, some (.int x)] (.int x :: st) h Q := wp_p hc180 dL_law_380 rfl
theorem e180_381 : wp S d 180 381 [a0, a1, a2, a3] st h Q = wp S d 180 382 [a0, a1, a2, a3] (.int (nI 3) :: st) h Q := wp_p hc180 dL_law_381 rfl
theorem e180_382 : wp S d 180 382 [a0, a1, a2, a3] (.int y :: .int x :: st) h Q = wp S d 180 383 [a0, a1, a2, a3] (.int (x + y) :: st) h Q := wp_p hc180 dL_law_382 rfl
theorem e180_383 : wp S d 180 383 [a0, a1, a2, a3] (.int x :: .ref r :: st) h Q = am_iaK h r x (fun z => wp S d 180 384 [a0, a1, a2, a3] (.int z :: st) h Q) := wp_ia hc180 dL_law_383
theorem e180_383k : wp S d 180 383 [a0, a1, a2, a3] (.int x :: .retAddr 0 :: st) h Q = (am_in x S.1 = true ∧ wp S d 180 384 [a0, a1, a2, a3] (.int (S.2 x.toNatClampNeg) :: st) h Q) := wp_iaS hc180 dL_law_383
theorem e180_384 : wp S (d + 1) 180 384 [a0, a1, a2, a3] (.int x3 :: .int x2 :: .int x1 :: .ref r0 :: st) h Q = (am_w8 st ∧ am_rcv h 2 14 (.ref r0) = true ∧ wp S d 14 0 [some (.ref r0), some (.int x1), some (.int x2), some (.int x3)] [] h (am_kr S 2 (d + 1) 180 384 [a0, a1, a2, a3] st Q)) := wp_cV (.ref r0) [.int x1, .int x2, .int x3] hc180 dL_law_384 ho180 cl9_40 (by decide) ns9_40 hst14 hnp14 hml14 hlsl14 rfl rfl rfl
theorem e180_387 : wp S d 180 387 [a0, a1, some (.ref r), a3] st h Q = wp S d 180 388 [a0, a1, some (.ref r), a3] (.ref r :: st) h Q := wp_p hc180 dL_law_387 rfl
theorem e180_388 : wp S d 180 388 [some (.ref r), a1, a2, a3] st h Q = wp S d 180 389 [some (.ref r), a1, a2, a3] (.ref r :: st) h Q := wp_p hc180 dL_law_388 rfl
theorem e180_388n : wp S d 180 388 [some (.null), a1, a2, a3] st h Q = wp S d 180 389 [some (.null), a1, a2, a3] (.null :: st) h Q := wp_p hc180 dL_law_388 rfl
theorem e180_388k : wp S d 180 388 [some (.retAddr r), a1, a2, a3] st h Q = wp S d 180 389 [some (.retAddr r), a1, a2, a3] (.retAddr r :: st) h Q := wp_p hc180 dL_law_388 rfl
theorem e180_389 : wp S d 180 389 [a0, a1, a2, some (.int x)] st h Q = wp S d 180 390 [a0, a1, a2, some (.int x)] (.int x :: st) h Q := wp_p hc180 dL_law_389 rfl
theorem e180_390 : wp S d 180 390 [a0, a1, a2, a3] st h Q = wp S d 180 391 [a0, a1, a2, a3] (.int (nI 1) :: st) h Q := wp_p hc180 dL_law_390 rfl
theorem e180_391 : wp S d 180 391 [a0, a1, a2, a3] (.int y :: .int x :: st) h Q = wp S d 180 392 [a0, a1, a2, a3] (.int (x + y) :: st) h Q := wp_p hc180 dL_law_391 rfl
theorem e180_392 : wp S d 180 392 [a0, a1, a2, a3] (.int x :: .ref r :: st) h Q = am_iaK h r x (fun z => wp S d 180 393 [a0, a1, a2, a3] (.int z :: st) h Q) := wp_ia hc180 dL_law_392
theorem e180_392k : wp S d 180 392 [a0, a1, a2, a3] (.int x :: .retAddr 0 :: st) h Q = (am_in x S.1 = true ∧ wp S d 180 393 [a0, a1, a2, a3] (.int (S.2 x.toNatClampNeg) :: st) h Q) := wp_iaS hc180 dL_law_392
theorem e180_393 : wp S d 180 393 [some (.ref r), a1, a2, a3] st h Q = wp S d 180 394 [some (.ref r), a1, a2, a3] (.ref r :: st) h Q := wp_p hc180 dL_law_393 rfl
theorem e180_393n : wp S d 180 393 [some (.null), a1, a2, a3] st h Q = wp S d 180 394 [some (.null), a1, a2, a3] (.null :: st) h Q := wp_p hc180 dL_law_393 rfl
theorem e180_393k : wp S d 180 393 [some (.retAddr r), a1, a2, a3] st h Q = wp S d 180 394 [some (.retAddr r), a1, a2, a3] (.retAddr r :: st) h Q := wp_p hc180 dL_law_393 rfl
theorem e180_394 : wp S d 180 394 [a0, a1, a2, some (.int x)] st h Q = wp S d 180 395 [a0, a1, a2, some (.int x)] (.int x :: st) h Q := wp_p hc180 dL_law_394 rfl
theorem e180_395 : wp S d 180 395 [a0, a1, a2, a3] st h Q = wp S d 180 396 [a0, a1, a2, a3] (.int (nI 2) :: st) h Q := wp_p hc180 dL_law_395 rfl
theorem e180_396 : wp S d 180 396 [a0, a1, a2, a3] (.int y :: .int x :: st) h Q = wp S d 180 397 [a0, a1, a2, a3] (.int (x + y) :: st) h Q := wp_p hc180 dL_law_396 rfl
theorem e180_397 : wp S d 180 397 [a0, a1, a2, a3] (.int x :: .ref r :: st) h Q = am_iaK h r x (fun z => wp S d 180 398 [a0, a1, a2, a3] (.int z :: st) h Q) := wp_ia hc180 dL_law_397
theorem e180_397k : wp S d 180 397 [a0, a1, a2, a3] (.int x :: .retAddr 0 :: st) h Q = (am_in x S.1 = true ∧ wp S d 180 398 [a0, a1, a2, a3] (.int (S.2 x.toNatClampNeg) :: st) h Q) := wp_iaS hc180 dL_law_397
theorem e180_398 : wp S d 180 398 [some (.ref r), a1, a2, a3] st h Q = wp S d 180 399 [some (.ref r), a1, a2, a3] (.ref r :: st) h Q := wp_p hc180 dL_law_398 rfl
theorem e180_398n : wp S d 180 398 [some (.null), a1, a2, a3] st h Q = wp S d 180 399 [some (.null), a1, a2, a3] (.null :: st) h Q := wp_p hc180 dL_law_398 rfl
theorem e180_398k : wp S d 180 398 [some (.retAddr r), a1, a2, a3] st h Q = wp S d 180 399 [some (.retAddr r), a1, a2, a3] (.retAddr r :: st) h Q := wp_p hc180 dL_law_398 rfl
theorem e180_399 : wp S d 180 399 [a0, a1, a2, some (.int x)] st h Q = wp S d 180 400 [a0, a1, a2, some (.int x)] (.int x :: st) h Q := wp_p hc180 dL_law_399 rfl
theorem e180_400 : wp S d 180 400 [a0, a1, a2, a3] st h Q = wp S d 180 401 [a0, a1, a2, a3] (.int (nI 3) :: st) h Q := wp_p hc180 dL_law_400 rfl
theorem e180_401 : wp S d 180 401 [a0, a1, a2, a3] (.int y :: .int x :: st) h Q = wp S d 180 402 [a0, a1, a2, a3] (.int (x + y) :: st) h Q := wp_p hc180 dL_law_401 rfl
theorem e180_402 : wp S d 180 402 [a0, a1, a2, a3] (.int x :: .ref r :: st) h Q = am_iaK h r x (fun z => wp S d 180 403 [a0, a1, a2, a3] (.int z :: st) h Q) := wp_ia hc180 dL_law_402
theorem e180_402k : wp S d 180 402 [a0, a1, a2, a3] (.int x :: .retAddr 0 :: st) h Q = (am_in x S.1 = true ∧ wp S d 180 403 [a0, a1, a2, a3] (.int (S.2 x.toNatClampNeg) :: st) h Q) := wp_iaS hc180 dL_law_402
theorem e180_403 : wp S (d + 1) 180 403 [a0, a1, a2, a3] (.int x3 :: .int x2 :: .int x1 :: .ref r0 :: st) h Q = (am_w8 st ∧ am_rcv h 2 76 (.ref r0) = true ∧ wp S d 76 0 [some (.ref r0), some (.int x1), some (.int x2), some (.int x3)] [] h (am_kr S 2 (d + 1) 180 403 [a0, a1, a2, a3] st Q)) := wp_cV (.ref r0) [.int x1, .int x2, .int x3] hc180 dL_law_403 ho180 cl9_43 (by decide) ns9_43 hst76 hnp76 hml76 hlsl76 rfl rfl rfl
theorem e180_406 : wp S d 180 406 [a0, a1, a2, a3] (.int y :: .int x :: st) h Q = if x = y then wp S d 180 740 [a0, a1, a2, a3] st h Q else wp S d 180 409 [a0, a1, a2, a3] st h Q := wp_eq hc180 dL_law_406 rfl
theorem e180_409 : wp S d 180 409 [a0, a1, a2, a3] st h Q = wp S d 180 410 [a0, a1, a2, a3] (.int (nI 0) :: st) h Q := wp_p hc180 dL_law_409 rfl
theorem e180_410 : wp S d 180 410 ls [.int x] h Q = (narrow .boolean (.int x) = .int x ∧ Q (.inl (some (.int x)), h)) := wp_rI hc180 dL_law_410 rfl
theorem e180_411 : wp S d 180 411 [a0, some (.ref r), a2, a3] st h Q = wp S d 180 412 [a0, some (.ref r), a2, a3] (.ref r :: st) h Q := wp_p hc180 dL_law_411 rfl
theorem e180_412 : wp S d 180 412 [some (.ref r), a1, a2, a3] st h Q = wp S d 180 413 [some (.ref r), a1, a2, a3] (.ref r :: st) h Q := wp_p hc180 dL_law_412 rfl
theorem e180_412n : wp S d 180 412 [some (.null), a1, a2, a3] st h Q = wp S d 180 413 [some (.null), a1, a2, a3] (.null :: st) h Q := wp_p hc180 dL_law_412 rfl
theorem e180_412k : wp S d 180 412 [some (.retAddr r), a1, a2, a3] st h Q = wp S d 180 413 [some (.retAddr r), a1, a2, a3] (.retAddr r :: st) h Q := wp_p hc180 dL_law_412 rfl
theorem e180_413 : wp S d 180 413 [a0, a1, a2, some (.int x)] st h Q = wp S d 180 414 [a0, a1, a2, some (.int x)] (.int x :: st) h Q := wp_p hc180 dL_law_413 rfl
theorem e180_414 : wp S d 180 414 [a0, a1, a2, a3] st h Q = wp S d 180 415 [a0, a1, a2, a3] (.int (nI 1) :: st) h Q := wp_p hc180 dL_law_414 rfl
theorem e180_415 : wp S d 180 415 [a0, a1, a2, a3] (.int y :: .int x :: st) h Q = wp S d 180 416 [a0, a1, a2, a3] (.int (x + y) :: st) h Q := wp_p hc180 dL_law_415 rfl
theorem e180_416 : wp S d 180 416 [a0, a1, a2, a3] (.int x :: .ref r :: st) h Q = am_iaK h r x (fun z => wp S d 180 417 [a0, a1, a2, a3] (.int z :: st) h Q) := wp_ia hc180 dL_law_416
theorem e180_416k : wp S d 180 416 [a0, a1, a2, a3] (.int x :: .retAddr 0 :: st) h Q = (am_in x S.1 = true ∧ wp S d 180 417 [a0, a1, a2, a3] (.int (S.2 x.toNatClampNeg) :: st) h Q) := wp_iaS hc180 dL_law_416
theorem e180_417 : wp S d 180 417 [some (.ref r), a1, a2, a3] st h Q = wp S d 180 418 [some (.ref r), a1, a2, a3] (.ref r :: st) h Q := wp_p hc180 dL_law_417 rfl
theorem e180_417n : wp S d 180 417 [some (.null), a1, a2, a3] st h Q = wp S d 180 418 [some (.null), a1, a2, a3] (.null :: st) h Q := wp_p hc180 dL_law_417 rfl
theorem e180_417k : wp S d 180 417 [some (.retAddr r), a1, a2, a3] st h Q = wp S d 180 418 [some (.retAddr r), a1, a2, a3] (.retAddr r :: st) h Q := wp_p hc180 dL_law_417 rfl
theorem e180_418 : wp S d 180 418 [a0, a1, a2, some (.int x)] st h Q = wp S d 180 419 [a0, a1, a2, some (.int x)] (.int x :: st) h Q := wp_p hc180 dL_law_418 rfl
theorem e180_419 : wp S d 180 419 [a0, a1, a2, a3] st h Q = wp S d 180 420 [a0, a1, a2, a3] (.int (nI 2) :: st) h Q := wp_p hc180 dL_law_419 rfl
theorem e180_420 : wp S d 180 420 [a0, a1, a2, a3] (.int y :: .int x :: st) h Q = wp S d 180 421 [a0, a1, a2, a3] (.int (x + y) :: st) h Q := wp_p hc180 dL_law_420 rfl
theorem e180_421 : wp S d 180 421 [a0, a1, a2, a3] (.int x :: .ref r :: st) h Q = am_iaK h r x (fun z => wp S d 180 422 [a0, a1, a2, a3] (.int z :: st) h Q) := wp_ia hc180 dL_law_421
theorem e180_421k : wp S d 180 421 [a0, a1, a2, a3] (.int x :: .retAddr 0 :: st) h Q = (am_in x S.1 = true ∧ wp S d 180 422 [a0, a1, a2, a3] (.int (S.2 x.toNatClampNeg) :: st) h Q) := wp_iaS hc180 dL_law_421
theorem e180_422 : wp S d 180 422 [some (.ref r), a1, a2, a3] st h Q = wp S d 180 423 [some (.ref r), a1, a2, a3] (.ref r :: st) h Q := wp_p hc180 dL_law_422 rfl
theorem e180_422n : wp S d 180 422 [some (.null), a1, a2, a3] st h Q = wp S d 180 423 [some (.null), a1, a2, a3] (.null :: st) h Q := wp_p hc180 dL_law_422 rfl
theorem e180_422k : wp S d 180 422 [some (.retAddr r), a1, a2, a3] st h Q = wp S d 180 423 [some (.retAddr r), a1, a2, a3] (.retAddr r :: st) h Q := wp_p hc180 dL_law_422 rfl
theorem e180_423 : wp S d 180 423 [a0, a1, a2, some (.int x)] st h Q = wp S d 180 424 [a0, a1, a2, some (.int x)] (.int x :: st) h Q := wp_p hc180 dL_law_423 rfl
theorem e180_424 : wp S d 180 424 [a0, a1, a2, a3] st h Q = wp S d 180 425 [a0, a1, a2, a3] (.int (nI 3) :: st) h Q := wp_p hc180 dL_law_424 rfl
theorem e180_425 : wp S d 180 425 [a0, a1, a2, a3] (.int y :: .int x :: st) h Q = wp S d 180 426 [a0, a1, a2, a3] (.int (x + y) :: st) h Q := wp_p hc180 dL_law_425 rfl
theorem e180_426 : wp S d 180 426 [a0, a1, a2, a3] (.int x :: .ref r :: st) h Q = am_iaK h r x (fun z => wp S d 180 427 [a0, a1, a2, a3] (.int z :: st) h Q) := wp_ia hc180 dL_law_426
theorem e180_426k : wp S d 180 426 [a0, a1, a2, a3] (.int x :: .retAddr 0 :: st) h Q = (am_in x S.1 = true ∧ wp S d 180 427 [a0, a1, a2, a3] (.int (S.2 x.toNatClampNeg) :: st) h Q) := wp_iaS hc180 dL_law_426
theorem e180_427 : wp S (d + 1) 180 427 [a0, a1, a2, a3] (.int x3 :: .int x2 :: .int x1 :: .ref r0 :: st) h Q = (am_w8 st ∧ am_rcv h 2 17 (.ref r0) = true ∧ wp S d 17 0 [some (.ref r0), some (.int x1), some (.int x2), some (.int x3)] [] h (am_kr S 2 (d + 1) 180 427 [a0, a1, a2, a3] st Q)) := wp_cV (.ref r0) [.int x1, .int x2, .int x3] hc180 dL_law_427 ho180 cl9_44 (by decide) ns9_44 hst17 hnp17 hml17 hlsl17 rfl rfl rfl
theorem e180_430 : wp S d 180 430 [a0, a1, some (.ref r), a3] st h Q = wp S d 180 431 [a0, a1, some (.ref r), a3] (.ref r :: st) h Q := wp_p hc180 dL_law_430 rfl
theorem e180_431 : wp S d 180 431 [some (.ref r), a1, a2, a3] st h Q = wp S d 180 432 [some (.ref r), a1, a2, a3] (.ref r :: st) h Q := wp_p hc180 dL_law_431 rfl
theorem e180_431n : wp S d 180 431 [some (.null), a1, a2, a3] st h Q = wp S d 180 432 [some (.null), a1, a2, a3] (.null :: st) h Q := wp_p hc180 dL_law_431 rfl
theorem e180_431k : wp S d 180 431 [some (.retAddr r), a1, a2, a3] st h Q = wp S d 180 432 [some (.retAddr r), a1, a2, a3] (.retAddr r :: st) h Q := wp_p hc180 dL_law_431 rfl
theorem e180_432 : wp S d 180 432 [a0, a1, a2, some (.int x)] st h Q = wp S d 180 433 [a0, a1, a2, some (.int x)] (.int x :: st) h Q := wp_p hc180 dL_law_432 rfl
theorem e180_433 : wp S d 180 433 [a0, a1, a2, a3] st h Q = wp S d 180 434 [a0, a1, a2, a3] (.int (nI 1) :: st) h Q := wp_p hc180 dL_law_433 rfl
theorem e180_434 : wp S d 180 434 [a0, a1, a2, a3] (.int y :: .int x :: st) h Q = wp S d 180 435 [a0, a1, a2, a3] (.int (x + y) :: st) h Q := wp_p hc180 dL_law_434 rfl
theorem e180_435 : wp S d 180 435 [a0, a1, a2, a3] (.int x :: .ref r :: st) h Q = am_iaK h r x (fun z => wp S d 180 436 [a0, a1, a2, a3] (.int z :: st) h Q) := wp_ia hc180 dL_law_435
theorem e180_435k : wp S d 180 435 [a0, a1, a2, a3] (.int x :: .retAddr 0 :: st) h Q = (am_in x S.1 = true ∧ wp S d 180 436 [a0, a1, a2, a3] (.int (S.2 x.toNatClampNeg) :: st) h Q) := wp_iaS hc180 dL_law_435
theorem e180_436 : wp S d 180 436 [some (.ref r), a1, a2, a3] st h Q = wp S d 180 437 [some (.ref r), a1, a2, a3] (.ref r :: st) h Q := wp_p hc180 dL_law_436 rfl
theorem e180_436n : wp S d 180 436 [some (.null), a1, a2, a3] st h Q = wp S d 180 437 [some (.null), a1, a2, a3] (.null :: st) h Q := wp_p hc180 dL_law_436 rfl
theorem e180_436k : wp S d 180 436 [some (.retAddr r), a1, a2, a3] st h Q = wp S d 180 437 [some (.retAddr r), a1, a2, a3] (.retAddr r :: st) h Q := wp_p hc180 dL_law_436 rfl
theorem e180_437 : wp S d 180 437 [a0, a1, a2, some (.int x)] st h Q = wp S d 180 438 [a0, a1, a2, some (.int x)] (.int x :: st) h Q := wp_p hc180 dL_law_437 rfl
theorem e180_438 : wp S d 180 438 [a0, a1, a2, a3] st h Q = wp S d 180 439 [a0, a1, a2, a3] (.int (nI 2) :: st) h Q := wp_p hc180 dL_law_438 rfl
theorem e180_439 : wp S d 180 439 [a0, a1, a2, a3] (.int y :: .int x :: st) h Q = wp S d 180 440 [a0, a1, a2, a3] (.int (x + y) :: st) h Q := wp_p hc180 dL_law_439 rfl
theorem e180_440 : wp S d 180 440 [a0, a1, a2, a3] (.int x :: .ref r :: st) h Q = am_iaK h r x (fun z => wp S d 180 441 [a0, a1, a2, a3] (.int z :: st) h Q) := wp_ia hc180 dL_law_440
theorem e180_440k : wp S d 180 440 [a0, a1, a2, a3] (.int x :: .retAddr 0 :: st) h Q = (am_in x S.1 = true ∧ wp S d 180 441 [a0, a1, a2, a3] (.int (S.2 x.toNatClampNeg) :: st) h Q) := wp_iaS hc180 dL_law_440
theorem e180_441 : wp S d 180 441 [some (.ref r), a1, a2, a3] st h Q = wp S d 180 442 [some (.ref r), a1, a2, a3] (.ref r :: st) h Q := wp_p hc180 dL_law_441 rfl
theorem e180_441n : wp S d 180 441 [some (.null), a1, a2, a3] st h Q = wp S d 180 442 [some (.null), a1, a2, a3] (.null :: st) h Q := wp_p hc180 dL_law_441 rfl
theorem e180_441k : wp S d 180 441 [some (.retAddr r), a1, a2, a3] st h Q = wp S d 180 442 [some (.retAddr r), a1, a2, a3] (.retAddr r :: st) h Q := wp_p hc180 dL_law_441 rfl
theorem e180_442 : wp S d 180 442 [a0, a1, a2, some (.int x)] st h Q = wp S d 180 443 [a0, a1, a2, some (.int x)] (.int x :: st) h Q := wp_p hc180 dL_law_442 rfl
theorem e180_443 : wp S d 180 443 [a0, a1, a2, a3] st h Q = wp S d 180 444 [a0, a1, a2, a3] (.int (nI 3) :: st) h Q := wp_p hc180 dL_law_443 rfl
theorem e180_444 : wp S d 180 444 [a0, a1, a2, a3] (.int y :: .int x :: st) h Q = wp S d 180 445 [a0, a1, a2, a3] (.int (x + y) :: st) h Q := wp_p hc180 dL_law_444 rfl
theorem e180_445 : wp S d 180 445 [a0, a1, a2, a3] (.int x :: .ref r :: st) h Q = am_iaK h r x (fun z => wp S d 180 446 [a0, a1, a2, a3] (.int z :: st) h Q) := wp_ia hc180 dL_law_445
theorem e180_445k : wp S d 180 445 [a0, a1, a2, a3] (.int x :: .retAddr 0 :: st) h Q = (am_in x S.1 = true ∧ wp S d 180 446 [a0, a1, a2, a3] (.int (S.2 x.toNatClampNeg) :: st) h Q) := wp_iaS hc180 dL_law_445
theorem e180_446 : wp S (d + 1) 180 446 [a0, a1, a2, a3] (.int x3 :: .int x2 :: .int x1 :: .ref r0 :: st) h Q = (am_w8 st ∧ am_rcv h 2 78 (.ref r0) = true ∧ wp S d 78 0 [some (.ref r0), some (.int x1), some (.int x2), some (.int x3), none] [] h (am_kr S 2 (d + 1) 180 446 [a0, a1, a2, a3] st Q)) := wp_cV (.ref r0) [.int x1, .int x2, .int x3] hc180 dL_law_446 ho180 cl9_47 (by decide) ns9_47 hst78 hnp78 hml78 hlsl78 rfl rfl rfl
theorem e180_449 : wp S d 180 449 [a0, a1, a2, a3] (.int y :: .int x :: st) h Q = if x = y then wp S d 180 740 [a0, a1, a2, a3] st h Q else wp S d 180 452 [a0, a1, a2, a3] st h Q := wp_eq hc180 dL_law_449 rfl
theorem e180_452 : wp S d 180 452 [a0, a1, a2, a3] st h Q = wp S d 180 453 [a0, a1, a2, a3] (.int (nI 0) :: st) h Q := wp_p hc180 dL_law_452 rfl
theorem e180_453 : wp S d 180 453 ls [.int x] h Q = (narrow .boolean (.int x) = .int x ∧ Q (.inl (some (.int x)), h)) := wp_rI hc180 dL_law_453 rfl
theorem e180_454 : wp S d 180 454 [a0, some (.ref r), a2, a3] st h Q = wp S d 180 455 [a0, some (.ref r), a2, a3] (.ref r :: st) h Q := wp_p hc180 dL_law_454 rfl
theorem e180_455 : wp S d 180 455 [some (.ref r), a1, a2, a3] st h Q = wp S d 180 456 [some (.ref r), a1, a2, a3] (.ref r :: st) h Q := wp_p hc180 dL_law_455 rfl
theorem e180_455n : wp S d 180 455 [some (.null), a1, a2, a3] st h Q = wp S d 180 456 [some (.null), a1, a2, a3] (.null :: st) h Q := wp_p hc180 dL_law_455 rfl
theorem e180_455k : wp S d 180 455 [some (.retAddr r), a1, a2, a3] st h Q = wp S d 180 456 [some (.retAddr r), a1, a2, a3] (.retAddr r :: st) h Q := wp_p hc180 dL_law_455 rfl
theorem e180_456 : wp S d 180 456 [a0, a1, a2, some (.int x)] st h Q = wp S d 180 457 [a0, a1, a2, some (.int x)] (.int x :: st) h Q := wp_p hc180 dL_law_456 rfl
theorem e180_457 : wp S d 180 457 [a0, a1, a2, a3] st h Q = wp S d 180 458 [a0, a1, a2, a3] (.int (nI 1) :: st) h Q := wp_p hc180 dL_law_457 rfl
theorem e180_458 : wp S d 180 458 [a0, a1, a2, a3] (.int y :: .int x :: st) h Q = wp S d 180 459 [a0, a1, a2, a3] (.int (x + y) :: st) h Q := wp_p hc180 dL_law_458 rfl
theorem e180_459 : wp S d 180 459 [a0, a1, a2, a3] (.int x :: .ref r :: st) h Q = am_iaK h r x (fun z => wp S d 180 460 [a0, a1, a2, a3] (.int z :: st) h Q) := wp_ia hc180 dL_law_459
theorem e180_459k : wp S d 180 459 [a0, a1, a2, a3] (.int x :: .retAddr 0 :: st) h Q = (am_in x S.1 = true ∧ wp S d 180 460 [a0, a1, a2, a3] (.int (S.2 x.toNatClampNeg) :: st) h Q) := wp_iaS hc180 dL_law_459
theorem e180_460 : wp S (d + 1) 180 460 [a0, a1, a2, a3] (.int x1 :: .ref r0 :: st) h Q = (am_w8 st ∧ am_rcv h 2 18 (.ref r0) = true ∧ wp S d 18 0 [some (.ref r0), some (.int x1)] [] h (am_kr S 2 (d + 1) 180 460 [a0, a1, a2, a3] st Q)) := wp_cV (.ref r0) [.int x1] hc180 dL_law_460 ho180 cl9_48 (by decide) ns9_48 hst18 hnp18 hml18 hlsl18 rfl rfl rfl
theorem e180_463 : wp S d 180 463 [a0, a1, some (.ref r), a3] st h Q = wp S d 180 464 [a0, a1, some (.ref r), a3] (.ref r :: st) h Q := wp_p hc180 dL_law_463 rfl
theorem e180_464 : wp S d 180 464 [some (.ref r), a1, a2, a3] st h Q = wp S d 180 465 [some (.ref r), a1, a2, a3] (.ref r :: st) h Q := wp_p hc180 dL_law_464 rfl
theorem e180_464n : wp S d 180 464 [some (.null), a1, a2, a3] st h Q = wp S d 180 465 [some (.null), a1, a2, a3] (.null :: st) h Q := wp_p hc180 dL_law_464 rfl
theorem e180_464k : wp S d 180 464 [some (.retAddr r), a1, a2, a3] st h Q = wp S d 180 465 [some (.retAddr r), a1, a2, a3] (.retAddr r :: st) h Q := wp_p hc180 dL_law_464 rfl
theorem e180_465 : wp S d 180 465 [a0, a1, a2, some (.int x)] st h Q = wp S d 180 466 [a0, a1, a2, some (.int x)] (.int x :: st) h Q := wp_p hc180 dL_law_465 rfl
theorem e180_466 : wp S d 180 466 [a0, a1, a2, a3] st h Q = wp S d 180 467 [a0, a1, a2, a3] (.int (nI 1) :: st) h Q := wp_p hc180 dL_law_466 rfl
theorem e180_467 : wp S d 180 467 [a0, a1, a2, a3] (.int y :: .int x :: st) h Q = wp S d 180 468 [a0, a1, a2, a3] (.int (x + y) :: st) h Q := wp_p hc180 dL_law_467 rfl
theorem e180_468 : wp S d 180 468 [a0, a1, a2, a3] (.int x :: .ref r :: st) h Q = am_iaK h r x (fun z => wp S d 180 469 [a0, a1, a2, a3] (.int z :: st) h Q) := wp_ia hc180 dL_law_468
theorem e180_468k : wp S d 180 468 [a0, a1, a2, a3] (.int x :: .retAddr 0 :: st) h Q = (am_in x S.1 = true ∧ wp S d 180 469 [a0, a1, a2, a3] (.int (S.2 x.toNatClampNeg) :: st) h Q) := wp_iaS hc180 dL_law_468
theorem e180_469 : wp S (d + 1) 180 469 [a0, a1, a2, a3] (.int x1 :: .ref r0 :: st) h Q = (am_w8 st ∧ am_rcv h 2 79 (.ref r0) = true ∧ wp S d 79 0 [some (.ref r0), some (.int x1)] [] h (am_kr S 2 (d + 1) 180 469 [a0, a1, a2, a3] st Q)) := wp_cV (.ref r0) [.int x1] hc180 dL_law_469 ho180 cl9_51 (by decide) ns9_51 hst79 hnp79 hml79 hlsl79 rfl rfl rfl
theorem e180_472 : wp S d 180 472 [a0, a1, a2, a3] (.int y :: .int x :: st) h Q = if x = y then wp S d 180 740 [a0, a1, a2, a3] st h Q else wp S d 180 475 [a0, a1, a2, a3] st h Q := wp_eq hc180 dL_law_472 rfl
theorem e180_475 : wp S d 180 475 [a0, a1, a2, a3] st h Q = wp S d 180 476 [a0, a1, a2, a3] (.int (nI 0) :: st) h Q := wp_p hc180 dL_law_475 rfl
theorem e180_476 : wp S d 180 476 ls [.int x] h Q = (narrow .boolean (.int x) = .int x ∧ Q (.inl (some (.int x)), h)) := wp_rI hc180 dL_law_476 rfl
theorem e180_477 : wp S d 180 477 [a0, some (.ref r), a2, a3] st h Q = wp S d 180 478 [a0, some (.ref r), a2, a3] (.ref r :: st) h Q := wp_p hc180 dL_law_477 rfl
theorem e180_478 : wp S d 180 478 [some (.ref r), a1, a2, a3] st h Q = wp S d 180 479 [some (.ref r), a1, a2, a3] (.ref r :: st) h Q := wp_p hc180 dL_law_478 rfl
theorem e180_478n : wp S d 180 478 [some (.null), a1, a2, a3] st h Q = wp S d 180 479 [some (.null), a1, a2, a3] (.null :: st) h Q := wp_p hc180 dL_law_478 rfl
theorem e180_478k : wp S d 180 478 [some (.retAddr r), a1, a2, a3] st h Q = wp S d 180 479 [some (.retAddr r), a1, a2, a3] (.retAddr r :: st) h Q := wp_p hc180 dL_law_478 rfl
theorem e180_479 : wp S d 180 479 [a0, a1, a2, some (.int x)] st h Q = wp S d 180 480 [a0, a1, a2, some (.int x)] (.int x :: st) h Q := wp_p hc180 dL_law_479 rfl
theorem e180_480 : wp S d 180 480 [a0, a1, a2, a3] st h Q = wp S d 180 481 [a0, a1, a2, a3] (.int (nI 1) :: st) h Q := wp_p hc180 dL_law_480 rfl
theorem e180_481 : wp S d 180 481 [a0, a1, a2, a3] (.int y :: .int x :: st) h Q = wp S d 180 482 [a0, a1, a2, a3] (.int (x + y) :: st) h Q := wp_p hc180 dL_law_481 rfl
theorem e180_482 : wp S d 180 482 [a0, a1, a2, a3] (.int x :: .ref r :: st) h Q = am_iaK h r x (fun z => wp S d 180 483 [a0, a1, a2, a3] (.int z :: st) h Q) := wp_ia hc180 dL_law_482
theorem e180_482k : wp S d 180 482 [a0, a1, a2, a3] (.int x :: .retAddr 0 :: st) h Q = (am_in x S.1 = true ∧ wp S d 180 483 [a0, a1, a2, a3] (.int (S.2 x.toNatClampNeg) :: st) h Q) := wp_iaS hc180 dL_law_482
theorem e180_483 : wp S (d + 1) 180 483 [a0, a1, a2, a3] (.int x1 :: .ref r0 :: st) h Q = (am_w8 st ∧ am_rcv h 2 19 (.ref r0) = true ∧ wp S d 19 0 [some (.ref r0), some (.int x1), none] [] h (am_kr S 2 (d + 1) 180 483 [a0, a1, a2, a3] st Q)) := wp_cV (.ref r0) [.int x1] hc180 dL_law_483 ho180 cl9_52 (by decide) ns9_52 hst19 hnp19 hml19 hlsl19 rfl rfl rfl
theorem e180_486 : wp S d 180 486 [a0, a1, some (.ref r), a3] st h Q = wp S d 180 487 [a0, a1, some (.ref r), a3] (.ref r :: st) h Q := wp_p hc180 dL_law_486 rfl
theorem e180_487 : wp S d 180 487 [some (.ref r), a1, a2, a3] st h Q = wp S d 180 488 [some (.ref r), a1, a2, a3] (.ref r :: st) h Q := wp_p hc180 dL_law_487 rfl
theorem e180_487n : wp S d 180 487 [some (.null), a1, a2, a3] st h Q = wp S d 180 488 [some (.null), a1, a2, a3] (.null :: st) h Q := wp_p hc180 dL_law_487 rfl
theorem e180_487k : wp S d 180 487 [some (.retAddr r), a1, a2, a3] st h Q = wp S d 180 488 [some (.retAddr r), a1, a2, a3] (.retAddr r :: st) h Q := wp_p hc180 dL_law_487 rfl
theorem e180_488 : wp S d 180 488 [a0, a1, a2, some (.int x)] st h Q = wp S d 180 489 [a0, a1, a2, some (.int x)] (.int x :: st) h Q := wp_p hc180 dL_law_488 rfl
theorem e180_489 : wp S d 180 489 [a0, a1, a2, a3] st h Q = wp S d 180 490 [a0, a1, a2, a3] (.int (nI 1) :: st) h Q := wp_p hc180 dL_law_489 rfl
theorem e180_490 : wp S d 180 490 [a0, a1, a2, a3] (.int y :: .int x :: st) h Q = wp S d 180 491 [a0, a1, a2, a3] (.int (x + y) :: st) h Q := wp_p hc180 dL_law_490 rfl
theorem e180_491 : wp S d 180 491 [a0, a1, a2, a3] (.int x :: .ref r :: st) h Q = am_iaK h r x (fun z => wp S d 180 492 [a0, a1, a2, a3] (.int z :: st) h Q) := wp_ia hc180 dL_law_491
theorem e180_491k : wp S d 180 491 [a0, a1, a2, a3] (.int x :: .retAddr 0 :: st) h Q = (am_in x S.1 = true ∧ wp S d 180 492 [a0, a1, a2, a3] (.int (S.2 x.toNatClampNeg) :: st) h Q) := wp_iaS hc180 dL_law_491
theorem e180_492 : wp S (d + 1) 180 492 [a0, a1, a2, a3] (.int x1 :: .ref r0 :: st) h Q = (am_w8 st ∧ am_rcv h 2 80 (.ref r0) = true ∧ wp S d 80 0 [some (.ref r0), some (.int x1), none] [] h (am_kr S 2 (d + 1) 180 492 [a0, a1, a2, a3] st Q)) := wp_cV (.ref r0) [.int x1] hc180 dL_law_492 ho180 cl9_55 (by decide) ns9_55 hst80 hnp80 hml80 hlsl80 rfl rfl rfl
theorem e180_495 : wp S d 180 495 [a0, a1, a2, a3] (.int y :: .int x :: st) h Q = if x = y then wp S d 180 740 [a0, a1, a2, a3] st h Q else wp S d 180 498 [a0, a1, a2, a3] st h Q := wp_eq hc180 dL_law_495 rfl
theorem e180_498 : wp S d 180 498 [a0, a1, a2, a3] st h Q = wp S d 180 499 [a0, a1, a2, a3] (.int (nI 0) :: st) h Q := wp_p hc180 dL_law_498 rfl
theorem e180_499 : wp S d 180 499 ls [.int x] h Q = (narrow .boolean (.int x) = .int x ∧ Q (.inl (some (.int x)), h)) := wp_rI hc180 dL_law_499 rfl
theorem e180_500 : wp S d 180 500 [a0, some (.ref r), a2, a3] st h Q = wp S d 180 501 [a0, some (.ref r), a2, a3] (.ref r :: st) h Q := wp_p hc180 dL_law_500 rfl
theorem e180_501 : wp S d 180 501 [some (.ref r), a1, a2, a3] st h Q = wp S d 180 502 [some (.ref r), a1, a2, a3] (.ref r :: st) h Q := wp_p hc180 dL_law_501 rfl
theorem e180_501n : wp S d 180 501 [some (.null), a1, a2, a3] st h Q = wp S d 180 502 [some (.null), a1, a2, a3] (.null :: st) h Q := wp_p hc180 dL_law_501 rfl
theorem e180_501k : wp S d 180 501 [some (.retAddr r), a1, a2, a3] st h Q = wp S d 180 502 [some (.retAddr r), a1, a2, a3] (.retAddr r :: st) h Q := wp_p hc180 dL_law_501 rfl
theorem e180_502 : wp S d 180 502 [a0, a1, a2, some (.int x)] st h Q = wp S d 180 503 [a0, a1, a2, some (.int x)] (.int x :: st) h Q := wp_p hc180 dL_law_502 rfl
theorem e180_503 : wp S d 180 503 [a0, a1, a2, a3] st h Q = wp S d 180 504 [a0, a1, a2, a3] (.int (nI 1) :: st) h Q := wp_p hc180 dL_law_503 rfl
theorem e180_504 : wp S d 180 504 [a0, a1, a2, a3] (.int y :: .int x :: st) h Q = wp S d 180 505 [a0, a1, a2, a3] (.int (x + y) :: st) h Q := wp_p hc180 dL_law_504 rfl
theorem e180_505 : wp S d 180 505 [a0, a1, a2, a3] (.int x :: .ref r :: st) h Q = am_iaK h r x (fun z => wp S d 180 506 [a0, a1, a2, a3] (.int z :: st) h Q) := wp_ia hc180 dL_law_505
theorem e180_505k : wp S d 180 505 [a0, a1, a2, a3] (.int x :: .retAddr 0 :: st) h Q = (am_in x S.1 = true ∧ wp S d 180 506 [a0, a1, a2, a3] (.int (S.2 x.toNatClampNeg) :: st) h Q) := wp_iaS hc180 dL_law_505
theorem e180_506 : wp S (d + 1) 180 506 [a0, a1, a2, a3] (.int x1 :: .ref r0 :: st) h Q = (am_w8 st ∧ am_rcv h 2 20 (.ref r0) = true ∧ wp S d 20 0 [some (.ref r0), some (.int x1)] [] h (am_kr S 2 (d + 1) 180 506 [a0, a1, a2, a3] st Q)) := wp_cV (.ref r0) [.int x1] hc180 dL_law_506 ho180 cl9_56 (by decide) ns9_56 hst20 hnp20 hml20 hlsl20 rfl rfl rfl
theorem e180_509 : wp S d 180 509 [a0, a1, some (.ref r), a3] st h Q = wp S d 180 510 [a0, a1, some (.ref r), a3] (.ref r :: st) h Q := wp_p hc180 dL_law_509 rfl
theorem e180_510 : wp S d 180 510 [some (.ref r), a1, a2, a3] st h Q = wp S d 180 511 [some (.ref r), a1, a2, a3] (.ref r :: st) h Q := wp_p hc180 dL_law_510 rfl
theorem e180_510n : wp S d 180 510 [some (.null), a1, a2, a3] st h Q = wp S d 180 511 [some (.null), a1, a2, a3] (.null :: st) h Q := wp_p hc180 dL_law_510 rfl
theorem e180_510k : wp S d 180 510 [some (.retAddr r), a1, a2, a3] st h Q = wp S d 180 511 [some (.retAddr r), a1, a2, a3] (.retAddr r :: st) h Q := wp_p hc180 dL_law_510 rfl
theorem e180_511 : wp S d 180 511 [a0, a1, a2, some (.int x)] st h Q = wp S d 180 512 [a0, a1, a2, some (.int x)] (.int x :: st) h Q := wp_p hc180 dL_law_511 rfl
theorem e180_512 : wp S d 180 512 [a0, a1, a2, a3] st h Q = wp S d 180 513 [a0, a1, a2, a3] (.int (nI 1) :: st) h Q := wp_p hc180 dL_law_512 rfl
theorem e180_513 : wp S d 180 513 [a0, a1, a2, a3] (.int y :: .int x :: st) h Q = wp S d 180 514 [a0, a1, a2, a3] (.int (x + y) :: st) h Q := wp_p hc180 dL_law_513 rfl
theorem e180_514 : wp S d 180 514 [a0, a1, a2, a3] (.int x :: .ref r :: st) h Q = am_iaK h r x (fun z => wp S d 180 515 [a0, a1, a2, a3] (.int z :: st) h Q) := wp_ia hc180 dL_law_514
theorem e180_514k : wp S d 180 514 [a0, a1, a2, a3] (.int x :: .retAddr 0 :: st) h Q = (am_in x S.1 = true ∧ wp S d 180 515 [a0, a1, a2, a3] (.int (S.2 x.toNatClampNeg) :: st) h Q) := wp_iaS hc180 dL_law_514
theorem e180_515 : wp S (d + 1) 180 515 [a0, a1, a2, a3] (.int x1 :: .ref r0 :: st) h Q = (am_w8 st ∧ am_rcv h 2 81 (.ref r0) = true ∧ wp S d 81 0 [some (.ref r0), some (.int x1), none] [] h (am_kr S 2 (d + 1) 180 515 [a0, a1, a2, a3] st Q)) := wp_cV (.ref r0) [.int x1] hc180 dL_law_515 ho180 cl9_59 (by decide) ns9_59 hst81 hnp81 hml81 hlsl81 rfl rfl rfl
theorem e180_518 : wp S d 180 518 [a0, a1, a2, a3] (.int y :: .int x :: st) h Q = if x = y then wp S d 180 740 [a0, a1, a2, a3] st h Q else wp S d 180 521 [a0, a1, a2, a3] st h Q := wp_eq hc180 dL_law_518 rfl
theorem e180_521 : wp S d 180 521 [a0, a1, a2, a3] st h Q = wp S d 180 522 [a0, a1, a2, a3] (.int (nI 0) :: st) h Q := wp_p hc180 dL_law_521 rfl
theorem e180_522 : wp S d 180 522 ls [.int x] h Q = (narrow .boolean (.int x) = .int x ∧ Q (.inl (some (.int x)), h)) := wp_rI hc180 dL_law_522 rfl
theorem e180_523 : wp S d 180 523 [a0, some (.ref r), a2, a3] st h Q = wp S d 180 524 [a0, some (.ref r), a2, a3] (.ref r :: st) h Q := wp_p hc180 dL_law_523 rfl
theorem e180_524 : wp S d 180 524 [some (.ref r), a1, a2, a3] st h Q = wp S d 180 525 [some (.ref r), a1, a2, a3] (.ref r :: st) h Q := wp_p hc180 dL_law_524 rfl
theorem e180_524n : wp S d 180 524 [some (.null), a1, a2, a3] st h Q = wp S d 180 525 [some (.null), a1, a2, a3] (.null :: st) h Q := wp_p hc180 dL_law_524 rfl
theorem e180_524k : wp S d 180 524 [some (.retAddr r), a1, a2, a3] st h Q = wp S d 180 525 [some (.retAddr r), a1, a2, a3] (.retAddr r :: st) h Q := wp_p hc180 dL_law_524 rfl
theorem e180_525 : wp S d 180 525 [a0, a1, a2, some (.int x)] st h Q = wp S d 180 526 [a0, a1, a2, some (.int x)] (.int x :: st) h Q := wp_p hc180 dL_law_525 rfl
theorem e180_526 : wp S d 180 526 [a0, a1, a2, a3] st h Q = wp S d 180 527 [a0, a1, a2, a3] (.int (nI 1) :: st) h Q := wp_p hc180 dL_law_526 rfl
theorem e180_527 : wp S d 180 527 [a0, a1, a2, a3] (.int y :: .int x :: st) h Q = wp S d 180 528 [a0, a1, a2, a3] (.int (x + y) :: st) h Q := wp_p hc180 dL_law_527 rfl
theorem e180_528 : wp S d 180 528 [a0, a1, a2, a3] (.int x :: .ref r :: st) h Q = am_iaK h r x (fun z => wp S d 180 529 [a0, a1, a2, a3] (.int z :: st) h Q) := wp_ia hc180 dL_law_528
theorem e180_528k : wp S d 180 528 [a0, a1, a2, a3] (.int x :: .retAddr 0 :: st) h Q = (am_in x S.1 = true ∧ wp S d 180 529 [a0, a1, a2, a3] (.int (S.2 x.toNatClampNeg) :: st) h Q) := wp_iaS hc180 dL_law_528
theorem e180_529 : wp S (d + 1) 180 529 [a0, a1, a2, a3] (.int x1 :: .ref r0 :: st) h Q = (am_w8 st ∧ am_rcv h 2 21 (.ref r0) = true ∧ wp S d 21 0 [some (.ref r0), some (.int x1)] [] h (am_kr S 2 (d + 1) 180 529 [a0, a1, a2, a3] st Q)) := wp_cV (.ref r0) [.int x1] hc180 dL_law_529 ho180 cl9_60 (by decide) ns9_60 hst21 hnp21 hml21 hlsl21 rfl rfl rfl
theorem e180_532 : wp S d 180 532 [a0, a1, some (.ref r), a3] st h Q = wp S d 180 533 [a0, a1, some (.ref r), a3] (.ref r :: st) h Q := wp_p hc180 dL_law_532 rfl
theorem e180_533 : wp S d 180 533 [some (.ref r), a1, a2, a3] st h Q = wp S d 180 534 [some (.ref r), a1, a2, a3] (.ref r :: st) h Q := wp_p hc180 dL_law_533 rfl
theorem e180_533n : wp S d 180 533 [some (.null), a1, a2, a3] st h Q = wp S d 180 534 [some (.null), a1, a2, a3] (.null :: st) h Q := wp_p hc180 dL_law_533 rfl
theorem e180_533k : wp S d 180 533 [some (.retAddr r), a1, a2, a3] st h Q = wp S d 180 534 [some (.retAddr r), a1, a2, a3] (.retAddr r :: st) h Q := wp_p hc180 dL_law_533 rfl
theorem e180_534 : wp S d 180 534 [a0, a1, a2, some (.int x)] st h Q = wp S d 180 535 [a0, a1, a2, some (.int x)] (.int x :: st) h Q := wp_p hc180 dL_law_534 rfl
theorem e180_535 : wp S d 180 535 [a0, a1, a2, a3] st h Q = wp S d 180 536 [a0, a1, a2, a3] (.int (nI 1) :: st) h Q := wp_p hc180 dL_law_535 rfl
theorem e180_536 : wp S d 180 536 [a0, a1, a2, a3] (.int y :: .int x :: st) h Q = wp S d 180 537 [a0, a1, a2, a3] (.int (x + y) :: st) h Q := wp_p hc180 dL_law_536 rfl
theorem e180_537 : wp S d 180 537 [a0, a1, a2, a3] (.int x :: .ref r :: st) h Q = am_iaK h r x (fun z => wp S d 180 538 [a0, a1, a2, a3] (.int z :: st) h Q) := wp_ia hc180 dL_law_537
theorem e180_537k : wp S d 180 537 [a0, a1, a2, a3] (.int x :: .retAddr 0 :: st) h Q = (am_in x S.1 = true ∧ wp S d 180 538 [a0, a1, a2, a3] (.int (S.2 x.toNatClampNeg) :: st) h Q) := wp_iaS hc180 dL_law_537
theorem e180_538 : wp S (d + 1) 180 538 [a0, a1, a2, a3] (.int x1 :: .ref r0 :: st) h Q = (am_w8 st ∧ am_rcv h 2 83 (.ref r0) = true ∧ wp S d 83 0 [some (.ref r0), some (.int x1)] [] h (am_kr S 2 (d + 1) 180 538 [a0, a1, a2, a3] st Q)) := wp_cV (.ref r0) [.int x1] hc180 dL_law_538 ho180 cl9_63 (by decide) ns9_63 hst83 hnp83 hml83 hlsl83 rfl rfl rfl
theorem e180_541 : wp S d 180 541 [a0, a1, a2, a3] (.int y :: .int x :: st) h Q = if x = y then wp S d 180 740 [a0, a1, a2, a3] st h Q else wp S d 180 544 [a0, a1, a2, a3] st h Q := wp_eq hc180 dL_law_541 rfl
theorem e180_544 : wp S d 180 544 [a0, a1, a2, a3] st h Q = wp S d 180 545 [a0, a1, a2, a3] (.int (nI 0) :: st) h Q := wp_p hc180 dL_law_544 rfl
theorem e180_545 : wp S d 180 545 ls [.int x] h Q = (narrow .boolean (.int x) = .int x ∧ Q (.inl (some (.int x)), h)) := wp_rI hc180 dL_law_545 rfl
theorem e180_546 : wp S d 180 546 [a0, some (.ref r), a2, a3] st h Q = wp S d 180 547 [a0, some (.ref r), a2, a3] (.ref r :: st) h Q := wp_p hc180 dL_law_546 rfl
theorem e180_547 : wp S (d + 1) 180 547 [a0, a1, a2, a3] (.ref r0 :: st) h Q = (am_w8 st ∧ am_rcv h 2 22 (.ref r0) = true ∧ wp S d 22 0 [some (.ref r0), none] [] h (am_kr S 2 (d + 1) 180 547 [a0, a1, a2, a3] st Q)) := wp_cV (.ref r0) [] hc180 dL_law_547 ho180 cl9_64 (by decide) ns9_64 hst22 hnp22 hml22 hlsl22 rfl rfl rfl
theorem e180_550 : wp S d 180 550 [a0, a1, some (.ref r), a3] st h Q = wp S d 180 551 [a0, a1, some (.ref r), a3] (.ref r :: st) h Q := wp_p hc180 dL_law_550 rfl
theorem e180_551 : wp S (d + 1) 180 551 [a0, a1, a2, a3] (.ref r0 :: st) h Q = (am_w8 st ∧ am_rcv h 2 84 (.ref r0) = true ∧ wp S d 84 0 [some (.ref r0), none] [] h (am_kr S 2 (d + 1) 180 551 [a0, a1, a2, a3] st Q)) := wp_cV (.ref r0) [] hc180 dL_law_551 ho180 cl9_68 (by decide) ns9_68 hst84 hnp84 hml84 hlsl84 rfl rfl rfl
theorem e180_554 : wp S d 180 554 [a0, a1, a2, a3] (.int y :: .int x :: st) h Q = if x = y then wp S d 180 740 [a0, a1, a2, a3] st h Q else wp S d 180 557 [a0, a1, a2, a3] st h Q := wp_eq hc180 dL_law_554 rfl
theorem e180_557 : wp S d 180 557 [a0, a1, a2, a3] st h Q = wp S d 180 558 [a0, a1, a2, a3] (.int (nI 0) :: st) h Q := wp_p hc180 dL_law_557 rfl
theorem e180_558 : wp S d 180 558 ls [.int x] h Q = (narrow .boolean (.int x) = .int x ∧ Q (.inl (some (.int x)), h)) := wp_rI hc180 dL_law_558 rfl
theorem e180_559 : wp S d 180 559 [a0, some (.ref r), a2, a3] st h Q = wp S d 180 560 [a0, some (.ref r), a2, a3] (.ref r :: st) h Q := wp_p hc180 dL_law_559 rfl
theorem e180_560 : wp S (d + 1) 180 560 [a0, a1, a2, a3] (.ref r0 :: st) h Q = (am_w8 st ∧ am_rcv h 7 23 (.ref r0) = true ∧ wp S d 23 0 [some (.ref r0), none] [] h (am_kr S 7 (d + 1) 180 560 [a0, a1, a2, a3] st Q)) := wp_cV (.ref r0) [] hc180 dL_law_560 ho180 cl9_69 (by decide) ns9_69 hst23 hnp23 hml23 hlsl23 rfl rfl rfl
theorem e180_563 : wp S d 180 563 [a0, a1, some (.ref r), a3] st h Q = wp S d 180 564 [a0, a1, some (.ref r), a3] (.ref r :: st) h Q := wp_p hc180 dL_law_563 rfl
theorem e180_564 : wp S (d + 1) 180 564 [a0, a1, a2, a3] (.ref r0 :: st) h Q = (am_w8 st ∧ am_rcv h 2 85 (.ref r0) = true ∧ wp S d 85 0 [some (.ref r0), none] [] h (am_kr S 2 (d + 1) 180 564 [a0, a1, a2, a3] st Q)) := wp_cV (.ref r0) [] hc180 dL_law_564 ho180 cl9_72 (by decide) ns9_72 hst85 hnp85 hml85 hlsl85 rfl rfl rfl
theorem e180_567 : wp S d 180 567 [a0, a1, a2, a3] (.int y :: .int x :: st) h Q = if x = y then wp S d 180 740 [a0, a1, a2, a3] st h Q else wp S d 180 570 [a0, a1, a2, a3] st h Q := wp_eq hc180 dL_law_567 rfl
theorem e180_570 : wp S d 180 570 [a0, a1, a2, a3] st h Q = wp S d 180 571 [a0, a1, a2, a3] (.int (nI 0) :: st) h Q := wp_p hc180 dL_law_570 rfl
theorem e180_571 : wp S d 180 571 ls [.int x] h Q = (narrow .boolean (.int x) = .int x ∧ Q (.inl (some (.int x)), h)) := wp_rI hc180 dL_law_571 rfl
theorem e180_572 : wp S d 180 572 [a0, some (.ref r), a2, a3] st h Q = wp S d 180 573 [a0, some (.ref r), a2, a3] (.ref r :: st) h Q := wp_p hc180 dL_law_572 rfl
theorem e180_573 : wp S (d + 1) 180 573 [a0, a1, a2, a3] (.ref r0 :: st) h Q = (am_w8 st ∧ am_rcv h 2 24 (.ref r0) = true ∧ wp S d 24 0 [some (.ref r0), none] [] h (am_kr S 2 (d + 1) 180 573 [a0, a1, a2, a3] st Q)) := wp_cV (.ref r0) [] hc180 dL_law_573 ho180 cl9_73 (by decide) ns9_73 hst24 hnp24 hml24 hlsl24 rfl rfl rfl
theorem e180_576 : wp S d 180 576 [a0, a1, some (.ref r), a3] st h Q = wp S d 180 577 [a0, a1, some (.ref r), a3] (.ref r :: st) h Q := wp_p hc180 dL_law_576 rfl
theorem e180_577 : wp S (d + 1) 180 577 [a0, a1, a2, a3] (.ref r0 :: st) h Q = (am_w8 st ∧ am_rcv h 2 95 (.ref r0) = true ∧ wp S d 95 0 [some (.ref r0), none, none, none] [] h (am_kr S 2 (d + 1) 180 577 [a0, a1, a2, a3] st Q)) := wp_cV (.ref r0) [] hc180 dL_law_577 ho180 cl9_76 (by decide) ns9_76 hst95 hnp95 hml95 hlsl95 rfl rfl rfl
theorem e180_580 : wp S d 180 580 [a0, a1, a2, a3] (.int y :: .int x :: st) h Q = if x = y then wp S d 180 740 [a0, a1, a2, a3] st h Q else wp S d 180 583 [a0, a1, a2, a3] st h Q := wp_eq hc180 dL_law_580 rfl
theorem e180_583 : wp S d 180 583 [a0, a1, a2, a3] st h Q = wp S d 180 584 [a0, a1, a2, a3] (.int (nI 0) :: st) h Q := wp_p hc180 dL_law_583 rfl
theorem e180_584 : wp S d 180 584 ls [.int x] h Q = (narrow .boolean (.int x) = .int x ∧ Q (.inl (some (.int x)), h)) := wp_rI hc180 dL_law_584 rfl
theorem e180_585 : wp S d 180 585 [a0, some (.ref r), a2, a3] st h Q = wp S d 180 586 [a0, some (.ref r), a2, a3] (.ref r :: st) h Q := wp_p hc180 dL_law_585 rfl
theorem e180_586 : wp S d 180 586 [some (.ref r), a1, a2, a3] st h Q = wp S d 180 587 [some (.ref r), a1, a2, a3] (.ref r :: st) h Q := wp_p hc180 dL_law_586 rfl
theorem e180_586n : wp S d 180 586 [some (.null), a1, a2, a3] st h Q = wp S d 180 587 [some (.null), a1, a2, a3] (.null :: st) h Q := wp_p hc180 dL_law_586 rfl
theorem e180_586k : wp S d 180 586 [some (.retAddr r), a1, a2, a3] st h Q = wp S d 180 587 [some (.retAddr r), a1, a2, a3] (.retAddr r :: st) h Q := wp_p hc180 dL_law_586 rfl
theorem e180_587 : wp S d 180 587 [a0, a1, a2, some (.int x)] st h Q = wp S d 180 588 [a0, a1, a2, some (.int x)] (.int x :: st) h Q := wp_p hc180 dL_law_587 rfl
theorem e180_588 : wp S d 180 588 [a0, a1, a2, a3] st h Q = wp S d 180 589 [a0, a1, a2, a3] (.int (nI 1) :: st) h Q := wp_p hc180 dL_law_588 rfl
theorem e180_589 : wp S d 180 589 [a0, a1, a2, a3] (.int y :: .int x :: st) h Q = wp S d 180 590 [a0, a1, a2, a3] (.int (x + y) :: st) h Q := wp_p hc180 dL_law_589 rfl
theorem e180_590 : wp S d 180 590 [a0, a1, a2, a3] (.int x :: .ref r :: st) h Q = am_iaK h r x (fun z => wp S d 180 591 [a0, a1, a2, a3] (.int z :: st) h Q) := wp_ia hc180 dL_law_590
theorem e180_590k : wp S d 180 590 [a0, a1, a2, a3] (.int x :: .retAddr 0 :: st) h Q = (am_in x S.1 = true ∧ wp S d 180 591 [a0, a1, a2, a3] (.int (S.2 x.toNatClampNeg) :: st) h Q) := wp_iaS hc180 dL_law_590
theorem e180_591 : wp S (d + 1) 180 591 [a0, a1, a2, a3] (.int x1 :: .ref r0 :: st) h Q = (am_w8 st ∧ am_rcv h 2 25 (.ref r0) = true ∧ wp S d 25 0 [some (.ref r0), some (.int x1)] [] h (am_kr S 2 (d + 1) 180 591 [a0, a1, a2, a3] st Q)) := wp_cV (.ref r0) [.int x1] hc180 dL_law_591 ho180 cl9_77 (by decide) ns9_77 hst25 hnp25 hml25 hlsl25 rfl rfl rfl
theorem e180_594 : wp S d 180 594 [a0, a1, some (.ref r), a3] st h Q = wp S d 180 595 [a0, a1, some (.ref r), a3] (.ref r :: st) h Q := wp_p hc180 dL_law_594 rfl
theorem e180_595 : wp S d 180 595 [some (.ref r), a1, a2, a3] st h Q = wp S d 180 596 [some (.ref r), a1, a2, a3] (.ref r :: st) h Q := wp_p hc180 dL_law_595 rfl
theorem e180_595n : wp S d 180 595 [some (.null), a1, a2, a3] st h Q = wp S d 180 596 [some (.null), a1, a2, a3] (.null :: st) h Q := wp_p hc180 dL_law_595 rfl
theorem e180_595k : wp S d 180 595 [some (.retAddr r), a1, a2, a3] st h Q = wp S d 180 596 [some (.retAddr r), a1, a2, a3] (.retAddr r :: st) h Q := wp_p hc180 dL_law_595 rfl
theorem e180_596 : wp S d 180 596 [a0, a1, a2, some (.int x)] st h Q = wp S d 180 597 [a0, a1, a2, some (.int x)] (.int x :: st) h Q := wp_p hc180 dL_law_596 rfl
theorem e180_597 : wp S d 180 597 [a0, a1, a2, a3] st h Q = wp S d 180 598 [a0, a1, a2, a3] (.int (nI 1) :: st) h Q := wp_p hc180 dL_law_597 rfl
theorem e180_598 : wp S d 180 598 [a0, a1, a2, a3] (.int y :: .int x :: st) h Q = wp S d 180 599 [a0, a1, a2, a3] (.int (x + y) :: st) h Q := wp_p hc180 dL_law_598 rfl
theorem e180_599 : wp S d 180 599 [a0, a1, a2, a3] (.int x :: .ref r :: st) h Q = am_iaK h r x (fun z => wp S d 180 600 [a0, a1, a2, a3] (.int z :: st) h Q) := wp_ia hc180 dL_law_599
theorem e180_599k : wp S d 180 599 [a0, a1, a2, a3] (.int x :: .retAddr 0 :: st) h Q = (am_in x S.1 = true ∧ wp S d 180 600 [a0, a1, a2, a3] (.int (S.2 x.toNatClampNeg) :: st) h Q) := wp_iaS hc180 dL_law_599
theorem e180_600 : wp S (d + 1) 180 600 [a0, a1, a2, a3] (.int x1 :: .ref r0 :: st) h Q = (am_w8 st ∧ am_rcv h 2 109 (.ref r0) = true ∧ wp S d 109 0 [some (.ref r0), some (.int x1)] [] h (am_kr S 2 (d + 1) 180 600 [a0, a1, a2, a3] st Q)) := wp_cV (.ref r0) [.int x1] hc180 dL_law_600 ho180 cl9_80 (by decide) ns9_80 hst109 hnp109 hml109 hlsl109 rfl rfl rfl
theorem e180_603 : wp S d 180 603 [a0, a1, a2, a3] (.int y :: .int x :: st) h Q = if x = y then wp S d 180 740 [a0, a1, a2, a3] st h Q else wp S d 180 606 [a0, a1, a2, a3] st h Q := wp_eq hc180 dL_law_603 rfl
theorem e180_606 : wp S d 180 606 [a0, a1, a2, a3] st h Q = wp S d 180 607 [a0, a1, a2, a3] (.int (nI 0) :: st) h Q := wp_p hc180 dL_law_606 rfl
theorem e180_607 : wp S d 180 607 ls [.int x] h Q = (narrow .boolean (.int x) = .int x ∧ Q (.inl (some (.int x)), h)) := wp_rI hc180 dL_law_607 rfl
theorem e180_608 : wp S d 180 608 [a0, some (.ref r), a2, a3] st h Q = wp S d 180 609 [a0, some (.ref r), a2, a3] (.ref r :: st) h Q := wp_p hc180 dL_law_608 rfl
theorem e180_609 : wp S (d + 1) 180 609 [a0, a1, a2, a3] (.ref r0 :: st) h Q = (am_w8 st ∧ am_rcv h 2 26 (.ref r0) = true ∧ wp S d 26 0 [some (.ref r0)] [] h (am_kr S 2 (d + 1) 180 609 [a0, a1, a2, a3] st Q)) := wp_cV (.ref r0) [] hc180 dL_law_609 ho180 cl9_81 (by decide) ns9_81 hst26 hnp26 hml26 hlsl26 rfl rfl rfl
theorem e180_612 : wp S d 180 612 [a0, a1, some (.ref r), a3] st h Q = wp S d 180 613 [a0, a1, some (.ref r), a3] (.ref r :: st) h Q := wp_p hc180 dL_law_612 rfl
theorem e180_613 : wp S (d + 1) 180 613 [a0, a1, a2, a3] (.ref r0 :: st) h Q = (am_w8 st ∧ am_rcv h 2 110 (.ref r0) = true ∧ wp S d 110 0 [some (.ref r0)] [] h (am_kr S 2 (d + 1) 180 613 [a0, a1, a2, a3] st Q)) := wp_cV (.ref r0) [] hc180 dL_law_613 ho180 cl9_84 (by decide) ns9_84 hst110 hnp110 hml110 hlsl110 rfl rfl rfl
theorem e180_616 : wp S d 180 616 [a0, a1, a2, a3] (.int y :: .int x :: st) h Q = if x = y then wp S d 180 740 [a0, a1, a2, a3] st h Q else wp S d 180 619 [a0, a1, a2, a3] st h Q := wp_eq hc180 dL_law_616 rfl
theorem e180_619 : wp S d 180 619 [a0, a1, a2, a3] st h Q = wp S d 180 620 [a0, a1, a2, a3] (.int (nI 0) :: st) h Q := wp_p hc180 dL_law_619 rfl
theorem e180_620 : wp S d 180 620 ls [.int x] h Q = (narrow .boolean (.int x) = .int x ∧ Q (.inl (some (.int x)), h)) := wp_rI hc180 dL_law_620 rfl
theorem e180_621 : wp S d 180 621 [a0, some (.ref r), a2, a3] st h Q = wp S d 180 622 [a0, some (.ref r), a2, a3] (.ref r :: st) h Q := wp_p hc180 dL_law_621 rfl
theorem e180_622 : wp S (d + 1) 180 622 [a0, a1, a2, a3] (.ref r0 :: st) h Q = (am_w8 st ∧ am_rcv h 2 27 (.ref r0) = true ∧ wp S d 27 0 [some (.ref r0)] [] h (am_kr S 2 (d + 1) 180 622 [a0, a1, a2, a3] st Q)) := wp_cV (.ref r0) [] hc180 dL_law_622 ho180 cl9_85 (by decide) ns9_85 hst27 hnp27 hml27 hlsl27 rfl rfl rfl
theorem e180_625 : wp S d 180 625 [a0, a1, some (.ref r), a3] st h Q = wp S d 180 626 [a0, a1, some (.ref r), a3] (.ref r :: st) h Q := wp_p hc180 dL_law_625 rfl
theorem e180_626 : wp S (d + 1) 180 626 [a0, a1, a2, a3] (.ref r0 :: st) h Q = (am_w8 st ∧ am_rcv h 2 112 (.ref r0) = true ∧ wp S d 112 0 [some (.ref r0)] [] h (am_kr S 2 (d + 1) 180 626 [a0, a1, a2, a3] st Q)) := wp_cV (.ref r0) [] hc180 dL_law_626 ho180 cl9_88 (by decide) ns9_88 hst112 hnp112 hml112 hlsl112 rfl rfl rfl
theorem e180_629 : wp S d 180 629 [a0, a1, a2, a3] (.int y :: .int x :: st) h Q = if x = y then wp S d 180 740 [a0, a1, a2, a3] st h Q else wp S d 180 632 [a0, a1, a2, a3] st h Q := wp_eq hc180 dL_law_629 rfl
theorem e180_632 : wp S d 180 632 [a0, a1, a2, a3] st h Q = wp S d 180 633 [a0, a1, a2, a3] (.int (nI 0) :: st) h Q := wp_p hc180 dL_law_632 rfl
theorem e180_633 : wp S d 180 633 ls [.int x] h Q = (narrow .boolean (.int x) = .int x ∧ Q (.inl (some (.int x)), h)) := wp_rI hc180 dL_law_633 rfl
theorem e180_634 : wp S d 180 634 [a0, some (.ref r), a2, a3] st h Q = wp S d 180 635 [a0, some (.ref r), a2, a3] (.ref r :: st) h Q := wp_p hc180 dL_law_634 rfl
theorem e180_635 : wp S d 180 635 [some (.ref r), a1, a2, a3] st h Q = wp S d 180 636 [some (.ref r), a1, a2, a3] (.ref r :: st) h Q := wp_p hc180 dL_law_635 rfl
theorem e180_635n : wp S d 180 635 [some (.null), a1, a2, a3] st h Q = wp S d 180 636 [some (.null), a1, a2, a3] (.null :: st) h Q := wp_p hc180 dL_law_635 rfl
theorem e180_635k : wp S d 180 635 [some (.retAddr r), a1, a2, a3] st h Q = wp S d 180 636 [some (.retAddr r), a1, a2, a3] (.retAddr r :: st) h Q := wp_p hc180 dL_law_635 rfl
theorem e180_636 : wp S d 180 636 [a0, a1, a2, some (.int x)] st h Q = wp S d 180 637 [a0, a1, a2, some (.int x)] (.int x :: st) h Q := wp_p hc180 dL_law_636 rfl
theorem e180_637 : wp S d 180 637 [a0, a1, a2, a3] st h Q = wp S d 180 638 [a0, a1, a2, a3] (.int (nI 1) :: st) h Q := wp_p hc180 dL_law_637 rfl
theorem e180_638 : wp S d 180 638 [a0, a1, a2, a3] (.int y :: .int x :: st) h Q = wp S d 180 639 [a0, a1, a2, a3] (.int (x + y) :: st) h Q := wp_p hc180 dL_law_638 rfl
theorem e180_639 : wp S d 180 639 [a0, a1, a2, a3] (.int x :: .ref r :: st) h Q = am_iaK h r x (fun z => wp S d 180 640 [a0, a1, a2, a3] (.int z :: st) h Q) := wp_ia hc180 dL_law_639
theorem e180_639k : wp S d 180 639 [a0, a1, a2, a3] (.int x :: .retAddr 0 :: st) h Q = (am_in x S.1 = true ∧ wp S d 180 640 [a0, a1, a2, a3] (.int (S.2 x.toNatClampNeg) :: st) h Q) := wp_iaS hc180 dL_law_639
theorem e180_640 : wp S d 180 640 [some (.ref r), a1, a2, a3] st h Q = wp S d 180 641 [some (.ref r), a1, a2, a3] (.ref r :: st) h Q := wp_p hc180 dL_law_640 rfl
theorem e180_640n : wp S d 180 640 [some (.null), a1, a2, a3] st h Q = wp S d 180 641 [some (.null), a1, a2, a3] (.null :: st) h Q := wp_p hc180 dL_law_640 rfl
theorem e180_640k : wp S d 180 640 [some (.retAddr r), a1, a2, a3] st h Q = wp S d 180 641 [some (.retAddr r), a1, a2, a3] (.retAddr r :: st) h Q := wp_p hc180 dL_law_640 rfl
theorem e180_641 : wp S d 180 641 [a0, a1, a2, some (.int x)] st h Q = wp S d 180 642 [a0, a1, a2, some (.int x)] (.int x :: st) h Q := wp_p hc180 dL_law_641 rfl
theorem e180_642 : wp S d 180 642 [a0, a1, a2, a3] st h Q = wp S d 180 643 [a0, a1, a2, a3] (.int (nI 2) :: st) h Q := wp_p hc180 dL_law_642 rfl
theorem e180_643 : wp S d 180 643 [a0, a1, a2, a3] (.int y :: .int x :: st) h Q = wp S d 180 644 [a0, a1, a2, a3] (.int (x + y) :: st) h Q := wp_p hc180 dL_law_643 rfl
theorem e180_644 : wp S d 180 644 [a0, a1, a2, a3] (.int x :: .ref r :: st) h Q = am_iaK h r x (fun z => wp S d 180 645 [a0, a1, a2, a3] (.int z :: st) h Q) := wp_ia hc180 dL_law_644
theorem e180_644k : wp S d 180 644 [a0, a1, a2, a3] (.int x :: .retAddr 0 :: st) h Q = (am_in x S.1 = true ∧ wp S d 180 645 [a0, a1, a2, a3] (.int (S.2 x.toNatClampNeg) :: st) h Q) := wp_iaS hc180 dL_law_644
theorem e180_645 : wp S (d + 1) 180 645 [a0, a1, a2, a3] (.int x2 :: .int x1 :: .ref r0 :: st) h Q = (am_w8 st ∧ am_rcv h 2 28 (.ref r0) = true ∧ wp S d 28 0 [some (.ref r0), some (.int x1), some (.int x2)] [] h (am_kr S 2 (d + 1) 180 645 [a0, a1, a2, a3] st Q)) := wp_cV (.ref r0) [.int x1, .int x2] hc180 dL_law_645 ho180 cl9_89 (by decide) ns9_89 hst28 hnp28 hml28 hlsl28 rfl rfl rfl
theorem e180_648 : wp S d 180 648 [a0, a1, some (.ref r), a3] st h Q = wp S d 180 649 [a0, a1, some (.ref r), a3] (.ref r :: st) h Q := wp_p hc180 dL_law_648 rfl
theorem e180_649 : wp S d 180 649 [some (.ref r), a1, a2, a3] st h Q = wp S d 180 650 [some (.ref r), a1, a2, a3] (.ref r :: st) h Q := wp_p hc180 dL_law_649 rfl
theorem e180_649n : wp S d 180 649 [some (.null), a1, a2, a3] st h Q = wp S d 180 650 [some (.null), a1, a2, a3] (.null :: st) h Q := wp_p hc180 dL_law_649 rfl
theorem e180_649k : wp S d 180 649 [some (.retAddr r), a1, a2, a3] st h Q = wp S d 180 650 [some (.retAddr r), a1, a2, a3] (.retAddr r :: st) h Q := wp_p hc180 dL_law_649 rfl
theorem e180_650 : wp S d 180 650 [a0, a1, a2, some (.int x)] st h Q = wp S d 180 651 [a0, a1, a2, some (.int x)] (.int x :: st) h Q := wp_p hc180 dL_law_650 rfl
theorem e180_651 : wp S d 180 651 [a0, a1, a2, a3] st h Q = wp S d 180 652 [a0, a1, a2, a3] (.int (nI 1) :: st) h Q := wp_p hc180 dL_law_651 rfl
theorem e180_652 : wp S d 180 652 [a0, a1, a2, a3] (.int y :: .int x :: st) h Q = wp S d 180 653 [a0, a1, a2, a3] (.int (x + y) :: st) h Q := wp_p hc180 dL_law_652 rfl
theorem e180_653 : wp S d 180 653 [a0, a1, a2, a3] (.int x :: .ref r :: st) h Q = am_iaK h r x (fun z => wp S d 180 654 [a0, a1, a2, a3] (.int z :: st) h Q) := wp_ia hc180 dL_law_653
theorem e180_653k : wp S d 180 653 [a0, a1, a2, a3] (.int x :: .retAddr 0 :: st) h Q = (am_in x S.1 = true ∧ wp S d 180 654 [a0, a1, a2, a3] (.int (S.2 x.toNatClampNeg) :: st) h Q) := wp_iaS hc180 dL_law_653
theorem e180_654 : wp S d 180 654 [some (.ref r), a1, a2, a3] st h Q = wp S d 180 655 [some (.ref r), a1, a2, a3] (.ref r :: st) h Q := wp_p hc180 dL_law_654 rfl
theorem e180_654n : wp S d 180 654 [some (.null), a1, a2, a3] st h Q = wp S d 180 655 [some (.null), a1, a2, a3] (.null :: st) h Q := wp_p hc180 dL_law_654 rfl
theorem e180_654k : wp S d 180 654 [some (.retAddr r), a1, a2, a3] st h Q = wp S d 180 655 [some (.retAddr r), a1, a2, a3] (.retAddr r :: st) h Q := wp_p hc180 dL_law_654 rfl
theorem e180_655 : wp S d 180 655 [a0, a1, a2, some (.int x)] st h Q = wp S d 180 656 [a0, a1, a2, some (.int x)] (.int x :: st) h Q := wp_p hc180 dL_law_655 rfl
theorem e180_656 : wp S d 180 656 [a0, a1, a2, a3] st h Q = wp S d 180 657 [a0, a1, a2, a3] (.int (nI 2) :: st) h Q := wp_p hc180 dL_law_656 rfl
theorem e180_657 : wp S d 180 657 [a0, a1, a2, a3] (.int y :: .int x :: st) h Q = wp S d 180 658 [a0, a1, a2, a3] (.int (x + y) :: st) h Q := wp_p hc180 dL_law_657 rfl
theorem e180_658 : wp S d 180 658 [a0, a1, a2, a3] (.int x :: .ref r :: st) h Q = am_iaK h r x (fun z => wp S d 180 659 [a0, a1, a2, a3] (.int z :: st) h Q) := wp_ia hc180 dL_law_658
theorem e180_658k : wp S d 180 658 [a0, a1, a2, a3] (.int x :: .retAddr 0 :: st) h Q = (am_in x S.1 = true ∧ wp S d 180 659 [a0, a1, a2, a3] (.int (S.2 x.toNatClampNeg) :: st) h Q) := wp_iaS hc180 dL_law_658
theorem e180_659 : wp S (d + 1) 180 659 [a0, a1, a2, a3] (.int x2 :: .int x1 :: .ref r0 :: st) h Q = (am_w8 st ∧ am_rcv h 2 113 (.ref r0) = true ∧ wp S d 113 0 [some (.ref r0), some (.int x1), some (.int x2), none, none, none, none, none, none] [] h (am_kr S 2 (d + 1) 180 659 [a0, a1, a2, a3] st Q)) := wp_cV (.ref r0) [.int x1, .int x2] hc180 dL_law_659 ho180 cl9_92 (by decide) ns9_92 hst113 hnp113 hml113 hlsl113 rfl rfl rfl
theorem e180_662 : wp S d 180 662 [a0, a1, a2, a3] (.int y :: .int x :: st) h Q = if x = y then wp S d 180 740 [a0, a1, a2, a3] st h Q else wp S d 180 665 [a0, a1, a2, a3] st h Q := wp_eq hc180 dL_law_662 rfl
theorem e180_665 : wp S d 180 665 [a0, a1, a2, a3] st h Q = wp S d 180 666 [a0, a1, a2, a3] (.int (nI 0) :: st) h Q := wp_p hc180 dL_law_665 rfl
theorem e180_666 : wp S d 180 666 ls [.int x] h Q = (narrow .boolean (.int x) = .int x ∧ Q (.inl (some (.int x)), h)) := wp_rI hc180 dL_law_666 rfl
theorem e180_667 : wp S d 180 667 [a0, some (.ref r), a2, a3] st h Q = wp S d 180 668 [a0, some (.ref r), a2, a3] (.ref r :: st) h Q := wp_p hc180 dL_law_667 rfl
theorem e180_668 : wp S d 180 668 [some (.ref r), a1, a2, a3] st h Q = wp S d 180 669 [some (.ref r), a1, a2, a3] (.ref r :: st) h Q := wp_p hc180 dL_law_668 rfl
theorem e180_668n : wp S d 180 668 [some (.null), a1, a2, a3] st h Q = wp S d 180 669 [some (.null), a1, a2, a3] (.null :: st) h Q := wp_p hc180 dL_law_668 rfl
theorem e180_668k : wp S d 180 668 [some (.retAddr r), a1, a2, a3] st h Q = wp S d 180 669 [some (.retAddr r), a1, a2, a3] (.retAddr r :: st) h Q := wp_p hc180 dL_law_668 rfl
theorem e180_669 : wp S d 180 669 [a0, a1, a2, some (.int x)] st h Q = wp S d 180 670 [a0, a1, a2, some (.int x)] (.int x :: st) h Q := wp_p hc180 dL_law_669 rfl
theorem e180_670 : wp S d 180 670 [a0, a1, a2, a3] st h Q = wp S d 180 671 [a0, a1, a2, a3] (.int (nI 1) :: st) h Q := wp_p hc180 dL_law_670 rfl
theorem e180_671 : wp S d 180 671 [a0, a1, a2, a3] (.int y :: .int x :: st) h Q = wp S d 180 672 [a0, a1, a2, a3] (.int (x + y) :: st) h Q := wp_p hc180 dL_law_671 rfl
theorem e180_672 : wp S d 180 672 [a0, a1, a2, a3] (.int x :: .ref r :: st) h Q = am_iaK h r x (fun z => wp S d 180 673 [a0, a1, a2, a3] (.int z :: st) h Q) := wp_ia hc180 dL_law_672
theorem e180_672k : wp S d 180 672 [a0, a1, a2, a3] (.int x :: .retAddr 0 :: st) h Q = (am_in x S.1 = true ∧ wp S d 180 673 [a0, a1, a2, a3] (.int (S.2 x.toNatClampNeg) :: st) h Q) := wp_iaS hc180 dL_law_672
theorem e180_673 : wp S (d + 1) 180 673 [a0, a1, a2, a3] (.int x1 :: .ref r0 :: st) h Q = (am_w8 st ∧ am_rcv h 2 29 (.ref r0) = true ∧ wp S d 29 0 [some (.ref r0), some (.int x1), none] [] h (am_kr S 2 (d + 1) 180 673 [a0, a1, a2, a3] st Q)) := wp_cV (.ref r0) [.int x1] hc180 dL_law_673 ho180 cl9_93 (by decide) ns9_93 hst29 hnp29 hml29 hlsl29 rfl rfl rfl
theorem e180_676 : wp S d 180 676 [a0, a1, some (.ref r), a3] st h Q = wp S d 180 677 [a0, a1, some (.ref r), a3] (.ref r :: st) h Q := wp_p hc180 dL_law_676 rfl
theorem e180_677 : wp S d 180 677 [some (.ref r), a1, a2, a3] st h Q = wp S d 180 678 [some (.ref r), a1, a2, a3] (.ref r :: st) h Q := wp_p hc180 dL_law_677 rfl
theorem e180_677n : wp S d 180 677 [some (.null), a1, a2, a3] st h Q = wp S d 180 678 [some (.null), a1, a2, a3] (.null :: st) h Q := wp_p hc180 dL_law_677 rfl
theorem e180_677k : wp S d 180 677 [some (.retAddr r), a1, a2, a3] st h Q = wp S d 180 678 [some (.retAddr r), a1, a2, a3] (.retAddr r :: st) h Q := wp_p hc180 dL_law_677 rfl
theorem e180_678 : wp S d 180 678 [a0, a1, a2, some (.int x)] st h Q = wp S d 180 679 [a0, a1, a2, some (.int x)] (.int x :: st) h Q := wp_p hc180 dL_law_678 rfl
theorem e180_679 : wp S d 180 679 [a0, a1, a2, a3] st h Q = wp S d 180 680 [a0, a1, a2, a3] (.int (nI 1) :: st) h Q := wp_p hc180 dL_law_679 rfl
theorem e180_680 : wp S d 180 680 [a0, a1, a2, a3] (.int y :: .int x :: st) h Q = wp S d 180 681 [a0, a1, a2, a3] (.int (x + y) :: st) h Q := wp_p hc180 dL_law_680 rfl
theorem e180_681 : wp S d 180 681 [a0, a1, a2, a3] (.int x :: .ref r :: st) h Q = am_iaK h r x (fun z => wp S d 180 682 [a0, a1, a2, a3] (.int z :: st) h Q) := wp_ia hc180 dL_law_681
theorem e180_681k : wp S d 180 681 [a0, a1, a2, a3] (.int x :: .retAddr 0 :: st) h Q = (am_in x S.1 = true ∧ wp S d 180 682 [a0, a1, a2, a3] (.int (S.2 x.toNatClampNeg) :: st) h Q) := wp_iaS hc180 dL_law_681
theorem e180_682 : wp S (d + 1) 180 682 [a0, a1, a2, a3] (.int x1 :: .ref r0 :: st) h Q = (am_w8 st ∧ am_rcv h 2 114 (.ref r0) = true ∧ wp S d 114 0 [some (.ref r0), some (.int x1)] [] h (am_kr S 2 (d + 1) 180 682 [a0, a1, a2, a3] st Q)) := wp_cV (.ref r0) [.int x1] hc180 dL_law_682 ho180 cl9_96 (by decide) ns9_96 hst114 hnp114 hml114 hlsl114 rfl rfl rfl
theorem e180_685 : wp S d 180 685 [a0, a1, a2, a3] (.int y :: .int x :: st) h Q = if x = y then wp S d 180 740 [a0, a1, a2, a3] st h Q else wp S d 180 688 [a0, a1, a2, a3] st h Q := wp_eq hc180 dL_law_685 rfl
theorem e180_688 : wp S d 180 688 [a0, a1, a2, a3] st h Q = wp S d 180 689 [a0, a1, a2, a3] (.int (nI 0) :: st) h Q := wp_p hc180 dL_law_688 rfl
theorem e180_689 : wp S d 180 689 ls [.int x] h Q = (narrow .boolean (.int x) = .int x ∧ Q (.inl (some (.int x)), h)) := wp_rI hc180 dL_law_689 rfl
theorem e180_690 : wp S d 180 690 [a0, some (.ref r), a2, a3] st h Q = wp S d 180 691 [a0, some (.ref r), a2, a3] (.ref r :: st) h Q := wp_p hc180 dL_law_690 rfl
theorem e180_691 : wp S (d + 1) 180 691 [a0, a1, a2, a3] (.ref r0 :: st) h Q = (am_w8 st ∧ am_rcv h 2 31 (.ref r0) = true ∧ wp S d 31 0 [some (.ref r0)] [] h (am_kr S 2 (d + 1) 180 691 [a0, a1, a2, a3] st Q)) := wp_cV (.ref r0) [] hc180 dL_law_691 ho180 cl9_97 (by decide) ns9_97 hst31 hnp31 hml31 hlsl31 rfl rfl rfl
theorem e180_694 : wp S d 180 694 [a0, a1, some (.ref r), a3] st h Q = wp S d 180 695 [a0, a1, some (.ref r), a3] (.ref r :: st) h Q := wp_p hc180 dL_law_694 rfl
theorem e180_695 : wp S (d + 1) 180 695 [a0, a1, a2, a3] (.ref r0 :: st) h Q = (am_w8 st ∧ am_rcv h 2 119 (.ref r0) = true ∧ wp S d 119 0 [some (.ref r0), none] [] h (am_kr S 2 (d + 1) 180 695 [a0, a1, a2, a3] st Q)) := wp_cV (.ref r0) [] hc180 dL_law_695 ho180 cl9_100 (by decide) ns9_100 hst119 hnp119 hml119 hlsl119 rfl rfl rfl
theorem e180_698 : wp S d 180 698 [a0, a1, a2, a3] (.int y :: .int x :: st) h Q = if x = y then wp S d 180 740 [a0, a1, a2, a3] st h Q else wp S d 180 701 [a0, a1, a2, a3] st h Q := wp_eq hc180 dL_law_698 rfl
theorem e180_701 : wp S d 180 701 [a0, a1, a2, a3] st h Q = wp S d 180 702 [a0, a1, a2, a3] (.int (nI 0) :: st) h Q := wp_p hc180 dL_law_701 rfl
theorem e180_702 : wp S d 180 702 ls [.int x] h Q = (narrow .boolean (.int x) = .int x ∧ Q (.inl (some (.int x)), h)) := wp_rI hc180 dL_law_702 rfl
theorem e180_703 : wp S d 180 703 [a0, some (.ref r), a2, a3] st h Q = wp S d 180 704 [a0, some (.ref r), a2, a3] (.ref r :: st) h Q := wp_p hc180 dL_law_703 rfl
theorem e180_704 : wp S d 180 704 [some (.ref r), a1, a2, a3] st h Q = wp S d 180 705 [some (.ref r), a1, a2, a3] (.ref r :: st) h Q := wp_p hc180 dL_law_704 rfl
theorem e180_704n : wp S d 180 704 [some (.null), a1, a2, a3] st h Q = wp S d 180 705 [some (.null), a1, a2, a3] (.null :: st) h Q := wp_p hc180 dL_law_704 rfl
theorem e180_704k : wp S d 180 704 [some (.retAddr r), a1, a2, a3] st h Q = wp S d 180 705 [some (.retAddr r), a1, a2, a3] (.retAddr r :: st) h Q := wp_p hc180 dL_law_704 rfl
theorem e180_705 : wp S d 180 705 [a0, a1, a2, some (.int x)] st h Q = wp S d 180 706 [a0, a1, a2, some (.int x)] (.int x :: st) h Q := wp_p hc180 dL_law_705 rfl
theorem e180_706 : wp S d 180 706 [a0, a1, a2, a3] st h Q = wp S d 180 707 [a0, a1, a2, a3] (.int (nI 1) :: st) h Q := wp_p hc180 dL_law_706 rfl
theorem e180_707 : wp S d 180 707 [a0, a1, a2, a3] (.int y :: .int x :: st) h Q = wp S d 180 708 [a0, a1, a2, a3] (.int (x + y) :: st) h Q := wp_p hc180 dL_law_707 rfl
theorem e180_708 : wp S d 180 708 [a0, a1, a2, a3] (.int x :: .ref r :: st) h Q = am_iaK h r x (fun z => wp S d 180 709 [a0, a1, a2, a3] (.int z :: st) h Q) := wp_ia hc180 dL_law_708
theorem e180_708k : wp S d 180 708 [a0, a1, a2, a3] (.int x :: .retAddr 0 :: st) h Q = (am_in x S.1 = true ∧ wp S d 180 709 [a0, a1, a2, a3] (.int (S.2 x.toNatClampNeg) :: st) h Q) := wp_iaS hc180 dL_law_708
theorem e180_709 : wp S (d + 1) 180 709 [a0, a1, a2, a3] (.int x1 :: .ref r0 :: st) h Q = (am_w8 st ∧ am_rcv h 2 32 (.ref r0) = true ∧ wp S d 32 0 [some (.ref r0), some (.int x1)] [] h (am_kr S 2 (d + 1) 180 709 [a0, a1, a2, a3] st Q)) := wp_cV (.ref r0) [.int x1] hc180 dL_law_709 ho180 cl9_101 (by decide) ns9_101 hst32 hnp32 hml32 hlsl32 rfl rfl rfl
theorem e180_712 : wp S d 180 712 [a0, a1, some (.ref r), a3] st h Q = wp S d 180 713 [a0, a1, some (.ref r), a3] (.ref r :: st) h Q := wp_p hc180 dL_law_712 rfl
theorem e180_713 : wp S d 180 713 [some (.ref r), a1, a2, a3] st h Q = wp S d 180 714 [some (.ref r), a1, a2, a3] (.ref r :: st) h Q := wp_p hc180 dL_law_713 rfl
theorem e180_713n : wp S d 180 713 [some (.null), a1, a2, a3] st h Q = wp S d 180 714 [some (.null), a1, a2, a3] (.null :: st) h Q := wp_p hc180 dL_law_713 rfl
theorem e180_713k : wp S d 180 713 [some (.retAddr r), a1, a2, a3] st h Q = wp S d 180 714 [some (.retAddr r), a1, a2, a3] (.retAddr r :: st) h Q := wp_p hc180 dL_law_713 rfl
theorem e180_714 : wp S d 180 714 [a0, a1, a2, some (.int x)] st h Q = wp S d 180 715 [a0, a1, a2, some (.int x)] (.int x :: st) h Q := wp_p hc180 dL_law_714 rfl
theorem e180_715 : wp S d 180 715 [a0, a1, a2, a3] st h Q = wp S d 180 716 [a0, a1, a2, a3] (.int (nI 1) :: st) h Q := wp_p hc180 dL_law_715 rfl
theorem e180_716 : wp S d 180 716 [a0, a1, a2, a3] (.int y :: .int x :: st) h Q = wp S d 180 717 [a0, a1, a2, a3] (.int (x + y) :: st) h Q := wp_p hc180 dL_law_716 rfl
theorem e180_717 : wp S d 180 717 [a0, a1, a2, a3] (.int x :: .ref r :: st) h Q = am_iaK h r x (fun z => wp S d 180 718 [a0, a1, a2, a3] (.int z :: st) h Q) := wp_ia hc180 dL_law_717
theorem e180_717k : wp S d 180 717 [a0, a1, a2, a3] (.int x :: .retAddr 0 :: st) h Q = (am_in x S.1 = true ∧ wp S d 180 718 [a0, a1, a2, a3] (.int (S.2 x.toNatClampNeg) :: st) h Q) := wp_iaS hc180 dL_law_717
theorem e180_718 : wp S (d + 1) 180 718 [a0, a1, a2, a3] (.int x1 :: .ref r0 :: st) h Q = (am_w8 st ∧ am_rcv h 2 120 (.ref r0) = true ∧ wp S d 120 0 [some (.ref r0), some (.int x1)] [] h (am_kr S 2 (d + 1) 180 718 [a0, a1, a2, a3] st Q)) := wp_cV (.ref r0) [.int x1] hc180 dL_law_718 ho180 cl9_104 (by decide) ns9_104 hst120 hnp120 hml120 hlsl120 rfl rfl rfl
theorem e180_721 : wp S d 180 721 [a0, a1, a2, a3] (.int y :: .int x :: st) h Q = if x = y then wp S d 180 740 [a0, a1, a2, a3] st h Q else wp S d 180 724 [a0, a1, a2, a3] st h Q := wp_eq hc180 dL_law_721 rfl
theorem e180_724 : wp S d 180 724 [a0, a1, a2, a3] st h Q = wp S d 180 725 [a0, a1, a2, a3] (.int (nI 0) :: st) h Q := wp_p hc180 dL_law_724 rfl
theorem e180_725 : wp S d 180 725 ls [.int x] h Q = (narrow .boolean (.int x) = .int x ∧ Q (.inl (some (.int x)), h)) := wp_rI hc180 dL_law_725 rfl
theorem e180_726 : wp S d 180 726 [a0, some (.ref r), a2, a3] st h Q = wp S d 180 727 [a0, some (.ref r), a2, a3] (.ref r :: st) h Q := wp_p hc180 dL_law_726 rfl
theorem e180_727 : wp S (d + 1) 180 727 [a0, a1, a2, a3] (.ref r0 :: st) h Q = (am_w8 st ∧ am_rcv h 2 33 (.ref r0) = true ∧ wp S d 33 0 [some (.ref r0), none, none, none, none] [] h (am_kr S 2 (d + 1) 180 727 [a0, a1, a2, a3] st Q)) := wp_cV (.ref r0) [] hc180 dL_law_727 ho180 cl9_105 (by decide) ns9_105 hst33 hnp33 hml33 hlsl33 rfl rfl rfl
theorem e180_730 : wp S d 180 730 [a0, a1, some (.ref r), a3] st h Q = wp S d 180 731 [a0, a1, some (.ref r), a3] (.ref r :: st) h Q := wp_p hc180 dL_law_730 rfl
theorem e180_731 : wp S (d + 1) 180 731 [a0, a1, a2, a3] (.ref r0 :: st) h Q = (am_w8 st ∧ am_rcv h 2 121 (.ref r0) = true ∧ wp S d 121 0 [some (.ref r0), none, none, none] [] h (am_kr S 2 (d + 1) 180 731 [a0, a1, a2, a3] st Q)) := wp_cV (.ref r0) [] hc180 dL_law_731 ho180 cl9_109 (by decide) ns9_109 hst121 hnp121 hml121 hlsl121 rfl rfl rfl
theorem e180_734 : wp S d 180 734 [a0, a1, a2, a3] (.long v :: .long u :: st) h Q = wp S d 180 735 [a0, a1, a2, a3] (.int (lg_cmp u v) :: st) h Q := wp_p hc180 dL_law_734 rfl
theorem e180_735 : wp S d 180 735 [a0, a1, a2, a3] (.int x :: st) h Q = if x = 0 then wp S d 180 740 [a0, a1, a2, a3] st h Q else wp S d 180 738 [a0, a1, a2, a3] st h Q := wp_eq hc180 dL_law_735 rfl
theorem e180_738 : wp S d 180 738 [a0, a1, a2, a3] st h Q = wp S d 180 739 [a0, a1, a2, a3] (.int (nI 0) :: st) h Q := wp_p hc180 dL_law_738 rfl
theorem e180_739 : wp S d 180 739 ls [.int x] h Q = (narrow .boolean (.int x) = .int x ∧ Q (.inl (some (.int x)), h)) := wp_rI hc180 dL_law_739 rfl
theorem e180_740 : wp S d 180 740 [a0, a1, a2, some (.int x)] st h Q = wp S d 180 743 [a0, a1, a2, some (.int (x + nI 4))] st h Q := wp_p hc180 dL_law_740 rfl
theorem e180_743 : wp S d 180 743 [a0, a1, a2, a3] st h Q = wp S d 180 18 [a0, a1, a2, a3] st h Q := wp_p hc180 dL_law_743 rfl
theorem e180_746 : wp S d 180 746 [a0, a1, a2, a3] st h Q = wp S d 180 747 [a0, a1, a2, a3] (.int (nI 1) :: st) h Q := wp_p hc180 dL_law_746 rfl
theorem e180_747 : wp S d 180 747 ls [.int x] h Q = (narrow .boolean (.int x) = .int x ∧ Q (.inl (some (.int x)), h)) := wp_rI hc180 dL_law_747 rfl
end EROWS
