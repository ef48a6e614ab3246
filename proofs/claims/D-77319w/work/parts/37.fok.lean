/-! values that fit their fields (printed by gen_fok.py) -/
section FOK
variable {x : Int32} {r : Nat}
theorem fk0_0_0r : (am_fok 0 0 0 false (.ref r) = true) = True := eq_true rfl
theorem fk0_0_0n : (am_fok 0 0 0 false (.null) = true) = True := eq_true rfl
theorem fk0_0_0k : (am_fok 0 0 0 false (.retAddr r) = true) = True := eq_true rfl
theorem fk0_0_1r : (am_fok 0 0 1 false (.ref r) = true) = True := eq_true rfl
theorem fk0_0_1n : (am_fok 0 0 1 false (.null) = true) = True := eq_true rfl
theorem fk0_0_1k : (am_fok 0 0 1 false (.retAddr r) = true) = True := eq_true rfl
theorem fk0_0_3r : (am_fok 0 0 3 false (.ref r) = true) = True := eq_true rfl
theorem fk0_0_3n : (am_fok 0 0 3 false (.null) = true) = True := eq_true rfl
theorem fk0_0_3k : (am_fok 0 0 3 false (.retAddr r) = true) = True := eq_true rfl
theorem fk0_0_5r : (am_fok 0 0 5 false (.ref r) = true) = True := eq_true rfl
theorem fk0_0_5n : (am_fok 0 0 5 false (.null) = true) = True := eq_true rfl
theorem fk0_0_5k : (am_fok 0 0 5 false (.retAddr r) = true) = True := eq_true rfl
theorem fk0_0_6r : (am_fok 0 0 6 false (.ref r) = true) = True := eq_true rfl
theorem fk0_0_6n : (am_fok 0 0 6 false (.null) = true) = True := eq_true rfl
theorem fk0_0_6k : (am_fok 0 0 6 false (.retAddr r) = true) = True := eq_true rfl
theorem fk6_0_2i : (am_fok 6 0 2 false (.int x) = true) = True := eq_true rfl
theorem fk19_1_6i : (am_fok 19 1 6 true (.int x) = true) = True := eq_true rfl
theorem fk21_0_4i : (am_fok 21 0 4 false (.int x) = true) = True := eq_true rfl
theorem fk22_0_4i : (am_fok 22 0 4 false (.int x) = true) = True := eq_true rfl
theorem fk23_1_7r : (am_fok 23 1 7 true (.ref r) = true) = True := eq_true rfl
theorem fk23_1_7n : (am_fok 23 1 7 true (.null) = true) = True := eq_true rfl
theorem fk23_1_7k : (am_fok 23 1 7 true (.retAddr r) = true) = True := eq_true rfl
theorem fk24_1_7r : (am_fok 24 1 7 true (.ref r) = true) = True := eq_true rfl
theorem fk24_1_7n : (am_fok 24 1 7 true (.null) = true) = True := eq_true rfl
theorem fk24_1_7k : (am_fok 24 1 7 true (.retAddr r) = true) = True := eq_true rfl
theorem fk31_0_2i : (am_fok 31 0 2 false (.int x) = true) = True := eq_true rfl
theorem fk36_1_0r : (am_fok 36 1 0 false (.ref r) = true) = True := eq_true rfl
theorem fk36_1_0n : (am_fok 36 1 0 false (.null) = true) = True := eq_true rfl
theorem fk36_1_0k : (am_fok 36 1 0 false (.retAddr r) = true) = True := eq_true rfl
theorem fk36_1_1r : (am_fok 36 1 1 false (.ref r) = true) = True := eq_true rfl
theorem fk36_1_1n : (am_fok 36 1 1 false (.null) = true) = True := eq_true rfl
theorem fk36_1_1k : (am_fok 36 1 1 false (.retAddr r) = true) = True := eq_true rfl
theorem fk36_1_2r : (am_fok 36 1 2 false (.ref r) = true) = True := eq_true rfl
theorem fk36_1_2n : (am_fok 36 1 2 false (.null) = true) = True := eq_true rfl
theorem fk36_1_2k : (am_fok 36 1 2 false (.retAddr r) = true) = True := eq_true rfl
theorem fk36_1_4r : (am_fok 36 1 4 false (.ref r) = true) = True := eq_true rfl
theorem fk36_1_4n : (am_fok 36 1 4 false (.null) = true) = True := eq_true rfl
theorem fk36_1_4k : (am_fok 36 1 4 false (.retAddr r) = true) = True := eq_true rfl
theorem fk36_1_5r : (am_fok 36 1 5 false (.ref r) = true) = True := eq_true rfl
theorem fk36_1_5n : (am_fok 36 1 5 false (.null) = true) = True := eq_true rfl
theorem fk36_1_5k : (am_fok 36 1 5 false (.retAddr r) = true) = True := eq_true rfl
theorem fk36_1_7r : (am_fok 36 1 7 false (.ref r) = true) = True := eq_true rfl
theorem fk36_1_7n : (am_fok 36 1 7 false (.null) = true) = True := eq_true rfl
theorem fk36_1_7k : (am_fok 36 1 7 false (.retAddr r) = true) = True := eq_true rfl
theorem fk36_1_8r : (am_fok 36 1 8 false (.ref r) = true) = True := eq_true rfl
theorem fk36_1_8n : (am_fok 36 1 8 false (.null) = true) = True := eq_true rfl
theorem fk36_1_8k : (am_fok 36 1 8 false (.retAddr r) = true) = True := eq_true rfl
theorem fk37_1_3i : (am_fok 37 1 3 false (.int x) = true) = True := eq_true rfl
theorem fk37_1_6i : (am_fok 37 1 6 false (.int x) = true) = True := eq_true rfl
theorem fk37_1_7r : (am_fok 37 1 7 false (.ref r) = true) = True := eq_true rfl
theorem fk37_1_7n : (am_fok 37 1 7 false (.null) = true) = True := eq_true rfl
theorem fk37_1_7k : (am_fok 37 1 7 false (.retAddr r) = true) = True := eq_true rfl
theorem fk42_2_0i : (am_fok 42 2 0 false (.int x) = true) = True := eq_true rfl
theorem fk42_2_1i : (am_fok 42 2 1 false (.int x) = true) = True := eq_true rfl
theorem fk42_2_2r : (am_fok 42 2 2 false (.ref r) = true) = True := eq_true rfl
theorem fk42_2_2n : (am_fok 42 2 2 false (.null) = true) = True := eq_true rfl
theorem fk42_2_2k : (am_fok 42 2 2 false (.retAddr r) = true) = True := eq_true rfl
theorem fk42_2_3i : (am_fok 42 2 3 false (.int x) = true) = True := eq_true rfl
theorem fk46_3_0i : (am_fok 46 3 0 false (.int x) = true) = True := eq_true rfl
theorem fk46_3_1i : (am_fok 46 3 1 false (.int x) = true) = True := eq_true rfl
theorem fk46_3_2i : (am_fok 46 3 2 false (.int x) = true) = True := eq_true rfl
theorem fk46_3_3r : (am_fok 46 3 3 false (.ref r) = true) = True := eq_true rfl
theorem fk46_3_3n : (am_fok 46 3 3 false (.null) = true) = True := eq_true rfl
theorem fk46_3_3k : (am_fok 46 3 3 false (.retAddr r) = true) = True := eq_true rfl
theorem fk50_4_2r : (am_fok 50 4 2 false (.ref r) = true) = True := eq_true rfl
theorem fk50_4_2n : (am_fok 50 4 2 false (.null) = true) = True := eq_true rfl
theorem fk50_4_2k : (am_fok 50 4 2 false (.retAddr r) = true) = True := eq_true rfl
theorem fk51_4_0i : (am_fok 51 4 0 false (.int x) = true) = True := eq_true rfl
theorem fk51_4_1i : (am_fok 51 4 1 false (.int x) = true) = True := eq_true rfl
theorem fk52_4_0i : (am_fok 52 4 0 false (.int x) = true) = True := eq_true rfl
theorem fk52_4_1i : (am_fok 52 4 1 false (.int x) = true) = True := eq_true rfl
theorem fk54_4_0i : (am_fok 54 4 0 false (.int x) = true) = True := eq_true rfl
theorem fk56_4_0i : (am_fok 56 4 0 false (.int x) = true) = True := eq_true rfl
theorem fk57_4_0i : (am_fok 57 4 0 false (.int x) = true) = True := eq_true rfl
theorem fk58_5_0r : (am_fok 58 5 0 false (.ref r) = true) = True := eq_true rfl
theorem fk58_5_0n : (am_fok 58 5 0 false (.null) = true) = True := eq_true rfl
theorem fk58_5_0k : (am_fok 58 5 0 false (.retAddr r) = true) = True := eq_true rfl
theorem fk58_5_1r : (am_fok 58 5 1 false (.ref r) = true) = True := eq_true rfl
theorem fk58_5_1n : (am_fok 58 5 1 false (.null) = true) = True := eq_true rfl
theorem fk58_5_1k : (am_fok 58 5 1 false (.retAddr r) = true) = True := eq_true rfl
theorem fk58_5_3r : (am_fok 58 5 3 false (.ref r) = true) = True := eq_true rfl
theorem fk58_5_3n : (am_fok 58 5 3 false (.null) = true) = True := eq_true rfl
theorem fk58_5_3k : (am_fok 58 5 3 false (.retAddr r) = true) = True := eq_true rfl
theorem fk58_5_4r : (am_fok 58 5 4 false (.ref r) = true) = True := eq_true rfl
theorem fk58_5_4n : (am_fok 58 5 4 false (.null) = true) = True := eq_true rfl
theorem fk58_5_4k : (am_fok 58 5 4 false (.retAddr r) = true) = True := eq_true rfl
theorem fk58_5_6r : (am_fok 58 5 6 false (.ref r) = true) = True := eq_true rfl
theorem fk58_5_6n : (am_fok 58 5 6 false (.null) = true) = True := eq_true rfl
theorem fk58_5_6k : (am_fok 58 5 6 false (.retAddr r) = true) = True := eq_true rfl
theorem fk58_5_8r : (am_fok 58 5 8 false (.ref r) = true) = True := eq_true rfl
theorem fk58_5_8n : (am_fok 58 5 8 false (.null) = true) = True := eq_true rfl
theorem fk58_5_8k : (am_fok 58 5 8 false (.retAddr r) = true) = True := eq_true rfl
theorem fk58_5_11r : (am_fok 58 5 11 false (.ref r) = true) = True := eq_true rfl
theorem fk58_5_11n : (am_fok 58 5 11 false (.null) = true) = True := eq_true rfl
theorem fk58_5_11k : (am_fok 58 5 11 false (.retAddr r) = true) = True := eq_true rfl
theorem fk58_5_13r : (am_fok 58 5 13 false (.ref r) = true) = True := eq_true rfl
theorem fk58_5_13n : (am_fok 58 5 13 false (.null) = true) = True := eq_true rfl
theorem fk58_5_13k : (am_fok 58 5 13 false (.retAddr r) = true) = True := eq_true rfl
theorem fk58_5_15r : (am_fok 58 5 15 false (.ref r) = true) = True := eq_true rfl
theorem fk58_5_15n : (am_fok 58 5 15 false (.null) = true) = True := eq_true rfl
theorem fk58_5_15k : (am_fok 58 5 15 false (.retAddr r) = true) = True := eq_true rfl
theorem fk58_5_16r : (am_fok 58 5 16 false (.ref r) = true) = True := eq_true rfl
theorem fk58_5_16n : (am_fok 58 5 16 false (.null) = true) = True := eq_true rfl
theorem fk58_5_16k : (am_fok 58 5 16 false (.retAddr r) = true) = True := eq_true rfl
theorem fk58_5_17r : (am_fok 58 5 17 false (.ref r) = true) = True := eq_true rfl
theorem fk58_5_17n : (am_fok 58 5 17 false (.null) = true) = True := eq_true rfl
theorem fk58_5_17k : (am_fok 58 5 17 false (.retAddr r) = true) = True := eq_true rfl
theorem fk58_5_20r : (am_fok 58 5 20 false (.ref r) = true) = True := eq_true rfl
theorem fk58_5_20n : (am_fok 58 5 20 false (.null) = true) = True := eq_true rfl
theorem fk58_5_20k : (am_fok 58 5 20 false (.retAddr r) = true) = True := eq_true rfl
theorem fk58_5_21r : (am_fok 58 5 21 false (.ref r) = true) = True := eq_true rfl
theorem fk58_5_21n : (am_fok 58 5 21 false (.null) = true) = True := eq_true rfl
theorem fk58_5_21k : (am_fok 58 5 21 false (.retAddr r) = true) = True := eq_true rfl
theorem fk63_5_2i : (am_fok 63 5 2 false (.int x) = true) = True := eq_true rfl
theorem fk83_5_5i : (am_fok 83 5 5 false (.int x) = true) = True := eq_true rfl
theorem fk84_5_5i : (am_fok 84 5 5 false (.int x) = true) = True := eq_true rfl
theorem fk85_5_7i : (am_fok 85 5 7 false (.int x) = true) = True := eq_true rfl
theorem fk85_5_9i : (am_fok 85 5 9 false (.int x) = true) = True := eq_true rfl
theorem fk85_5_10i : (am_fok 85 5 10 false (.int x) = true) = True := eq_true rfl
theorem fk86_5_7i : (am_fok 86 5 7 false (.int x) = true) = True := eq_true rfl
theorem fk86_5_9i : (am_fok 86 5 9 false (.int x) = true) = True := eq_true rfl
theorem fk86_5_10i : (am_fok 86 5 10 false (.int x) = true) = True := eq_true rfl
theorem fk94_5_9i : (am_fok 94 5 9 false (.int x) = true) = True := eq_true rfl
theorem fk94_5_10i : (am_fok 94 5 10 false (.int x) = true) = True := eq_true rfl
theorem fk95_5_12i : (am_fok 95 5 12 false (.int x) = true) = True := eq_true rfl
theorem fk95_5_14i : (am_fok 95 5 14 false (.int x) = true) = True := eq_true rfl
theorem fk95_5_18i : (am_fok 95 5 18 false (.int x) = true) = True := eq_true rfl
theorem fk95_5_19i : (am_fok 95 5 19 false (.int x) = true) = True := eq_true rfl
theorem fk99_5_12i : (am_fok 99 5 12 false (.int x) = true) = True := eq_true rfl
theorem fk99_5_14i : (am_fok 99 5 14 false (.int x) = true) = True := eq_true rfl
theorem fk107_5_12i : (am_fok 107 5 12 false (.int x) = true) = True := eq_true rfl
theorem fk107_5_14i : (am_fok 107 5 14 false (.int x) = true) = True := eq_true rfl
theorem fk107_5_19i : (am_fok 107 5 19 false (.int x) = true) = True := eq_true rfl
theorem fk108_5_18i : (am_fok 108 5 18 false (.int x) = true) = True := eq_true rfl
theorem fk115_5_9i : (am_fok 115 5 9 false (.int x) = true) = True := eq_true rfl
theorem fk115_5_22i : (am_fok 115 5 22 false (.int x) = true) = True := eq_true rfl
theorem fk117_5_22i : (am_fok 117 5 22 false (.int x) = true) = True := eq_true rfl
theorem fk118_5_9i : (am_fok 118 5 9 false (.int x) = true) = True := eq_true rfl
theorem fk119_5_2i : (am_fok 119 5 2 false (.int x) = true) = True := eq_true rfl
theorem fk123_6_0i : (am_fok 123 6 0 false (.int x) = true) = True := eq_true rfl
theorem fk123_6_1r : (am_fok 123 6 1 false (.ref r) = true) = True := eq_true rfl
theorem fk123_6_1n : (am_fok 123 6 1 false (.null) = true) = True := eq_true rfl
theorem fk123_6_1k : (am_fok 123 6 1 false (.retAddr r) = true) = True := eq_true rfl
theorem fk129_7_6i : (am_fok 129 7 6 false (.int x) = true) = True := eq_true rfl
theorem fk130_8_0i : (am_fok 130 8 0 false (.int x) = true) = True := eq_true rfl
theorem fk130_8_2r : (am_fok 130 8 2 false (.ref r) = true) = True := eq_true rfl
theorem fk130_8_2n : (am_fok 130 8 2 false (.null) = true) = True := eq_true rfl
theorem fk130_8_2k : (am_fok 130 8 2 false (.retAddr r) = true) = True := eq_true rfl
theorem fk132_8_0i : (am_fok 132 8 0 false (.int x) = true) = True := eq_true rfl
theorem fk132_8_1i : (am_fok 132 8 1 false (.int x) = true) = True := eq_true rfl
theorem fk134_1_3i : (am_fok 134 1 3 true (.int x) = true) = True := eq_true rfl
theorem fk134_8_1i : (am_fok 134 8 1 false (.int x) = true) = True := eq_true rfl
theorem fk140_7_0r : (am_fok 140 7 0 false (.ref r) = true) = True := eq_true rfl
theorem fk140_7_0n : (am_fok 140 7 0 false (.null) = true) = True := eq_true rfl
theorem fk140_7_0k : (am_fok 140 7 0 false (.retAddr r) = true) = True := eq_true rfl
theorem fk140_7_1r : (am_fok 140 7 1 false (.ref r) = true) = True := eq_true rfl
theorem fk140_7_1n : (am_fok 140 7 1 false (.null) = true) = True := eq_true rfl
theorem fk140_7_1k : (am_fok 140 7 1 false (.retAddr r) = true) = True := eq_true rfl
theorem fk140_7_2r : (am_fok 140 7 2 false (.ref r) = true) = True := eq_true rfl
theorem fk140_7_2n : (am_fok 140 7 2 false (.null) = true) = True := eq_true rfl
theorem fk140_7_2k : (am_fok 140 7 2 false (.retAddr r) = true) = True := eq_true rfl
theorem fk141_7_0r : (am_fok 141 7 0 false (.ref r) = true) = True := eq_true rfl
theorem fk141_7_0n : (am_fok 141 7 0 false (.null) = true) = True := eq_true rfl
theorem fk141_7_0k : (am_fok 141 7 0 false (.retAddr r) = true) = True := eq_true rfl
theorem fk141_7_1r : (am_fok 141 7 1 false (.ref r) = true) = True := eq_true rfl
theorem fk141_7_1n : (am_fok 141 7 1 false (.null) = true) = True := eq_true rfl
theorem fk141_7_1k : (am_fok 141 7 1 false (.retAddr r) = true) = True := eq_true rfl
theorem fk141_7_2r : (am_fok 141 7 2 false (.ref r) = true) = True := eq_true rfl
theorem fk141_7_2n : (am_fok 141 7 2 false (.null) = true) = True := eq_true rfl
theorem fk141_7_2k : (am_fok 141 7 2 false (.retAddr r) = true) = True := eq_true rfl
theorem fk141_7_3r : (am_fok 141 7 3 false (.ref r) = true) = True := eq_true rfl
theorem fk141_7_3n : (am_fok 141 7 3 false (.null) = true) = True := eq_true rfl
theorem fk141_7_3k : (am_fok 141 7 3 false (.retAddr r) = true) = True := eq_true rfl
theorem fk143_9_0r : (am_fok 143 9 0 false (.ref r) = true) = True := eq_true rfl
theorem fk143_9_0n : (am_fok 143 9 0 false (.null) = true) = True := eq_true rfl
theorem fk143_9_0k : (am_fok 143 9 0 false (.retAddr r) = true) = True := eq_true rfl
theorem fk143_9_1b : (am_fok 143 9 1 false (.int (nI 0)) = true) = True := eq_true rfl
theorem fk143_9_1c : (am_fok 143 9 1 false (.int 0) = true) = True := eq_true rfl
theorem fk144_9_3i : (am_fok 144 9 3 false (.int x) = true) = True := eq_true rfl
theorem fk145_9_0r : (am_fok 145 9 0 false (.ref r) = true) = True := eq_true rfl
theorem fk145_9_0n : (am_fok 145 9 0 false (.null) = true) = True := eq_true rfl
theorem fk145_9_0k : (am_fok 145 9 0 false (.retAddr r) = true) = True := eq_true rfl
theorem fk148_9_3i : (am_fok 148 9 3 false (.int x) = true) = True := eq_true rfl
theorem fk149_9_0r : (am_fok 149 9 0 false (.ref r) = true) = True := eq_true rfl
theorem fk149_9_0n : (am_fok 149 9 0 false (.null) = true) = True := eq_true rfl
theorem fk149_9_0k : (am_fok 149 9 0 false (.retAddr r) = true) = True := eq_true rfl
theorem fk149_9_1b : (am_fok 149 9 1 false (.int (nI 0)) = true) = True := eq_true rfl
theorem fk149_9_1c : (am_fok 149 9 1 false (.int 0) = true) = True := eq_true rfl
theorem fk150_9_3i : (am_fok 150 9 3 false (.int x) = true) = True := eq_true rfl
theorem fk151_9_3i : (am_fok 151 9 3 false (.int x) = true) = True := eq_true rfl
end FOK
