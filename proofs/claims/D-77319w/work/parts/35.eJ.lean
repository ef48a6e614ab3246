/-! step rows: the JDK (printed by gen_e.py) -/
set_option maxRecDepth 100000
section EROWS
variable {S : am_S} {d : Nat} {h : am_H} {Q : am_Out → Prop} {st : List Value} {ls : am_L} {w : Value} {x y z : Int32} {u v : Int64} {r : Nat}
variable {a0 a1 a2 a3 a4 a5 a6 a7 a8 a9 : Option Value} {r0 r1 r2 r3 r4 r5 : Nat} {x1 x2 x3 x4 x5 : Int32} {u1 u2 u3 : Int64}

theorem e137_0 : wp S d 137 0 [a0, a1, a2, a3] st h Q = wp S d 137 1 [a0, a1, a2, a3] (.int (nI 0) :: st) h Q := wp_p hc137 dJ0_fill_0 rfl
theorem e137_1 : wp S d 137 1 [a0, a1, a2, a3] (.int x :: st) h Q = wp S d 137 2 [a0, a1, some (.int x), a3] st h Q := wp_p hc137 dJ0_fill_1 rfl
theorem e137_2 : wp S d 137 2 [some (.ref r), a1, a2, a3] st h Q = wp S d 137 3 [some (.ref r), a1, a2, a3] (.ref r :: st) h Q := wp_p hc137 dJ0_fill_2 rfl
theorem e137_3 : wp S d 137 3 [a0, a1, a2, a3] (.ref r :: st) h Q = am_alK h r (fun n => wp S d 137 4 [a0, a1, a2, a3] (.int (nI n) :: st) h Q) := wp_al hc137 dJ0_fill_3
theorem e137_4 : wp S d 137 4 [a0, a1, a2, a3] (.int x :: st) h Q = wp S d 137 5 [a0, a1, a2, some (.int x)] st h Q := wp_p hc137 dJ0_fill_4 rfl
theorem e137_5 : wp S d 137 5 [a0, a1, some (.int x), a3] st h Q = wp S d 137 6 [a0, a1, some (.int x), a3] (.int x :: st) h Q := wp_p hc137 dJ0_fill_5 rfl
theorem e137_6 : wp S d 137 6 [a0, a1, a2, some (.int x)] st h Q = wp S d 137 7 [a0, a1, a2, some (.int x)] (.int x :: st) h Q := wp_p hc137 dJ0_fill_6 rfl
theorem e137_7 : wp S d 137 7 [a0, a1, a2, a3] (.int y :: .int x :: st) h Q = if y ≤ x then wp S d 137 20 [a0, a1, a2, a3] st h Q else wp S d 137 10 [a0, a1, a2, a3] st h Q := wp_ge hc137 dJ0_fill_7 rfl
theorem e137_10 : wp S d 137 10 [some (.ref r), a1, a2, a3] st h Q = wp S d 137 11 [some (.ref r), a1, a2, a3] (.ref r :: st) h Q := wp_p hc137 dJ0_fill_10 rfl
theorem e137_11 : wp S d 137 11 [a0, a1, some (.int x), a3] st h Q = wp S d 137 12 [a0, a1, some (.int x), a3] (.int x :: st) h Q := wp_p hc137 dJ0_fill_11 rfl
theorem e137_12 : wp S d 137 12 [a0, some (.ref r), a2, a3] st h Q = wp S d 137 13 [a0, some (.ref r), a2, a3] (.ref r :: st) h Q := wp_p hc137 dJ0_fill_12 rfl
theorem e137_13 : wp S d 137 13 [a0, a1, a2, a3] (w :: .int x :: .ref r :: st) h Q = am_asK h r x w (fun h => wp S d 137 14 [a0, a1, a2, a3] st h Q) := wp_as hc137 dJ0_fill_13
theorem e137_14 : wp S d 137 14 [a0, a1, some (.int x), a3] st h Q = wp S d 137 17 [a0, a1, some (.int (x + nI 1)), a3] st h Q := wp_p hc137 dJ0_fill_14 rfl
theorem e137_17 : wp S d 137 17 [a0, a1, a2, a3] st h Q = wp S d 137 5 [a0, a1, a2, a3] st h Q := wp_p hc137 dJ0_fill_17 rfl
theorem e137_20 : wp S d 137 20 ls [] h Q = Q (.inl none, h) := wp_r hc137 dJ0_fill_20 rfl rfl ⟨rfl, rfl, rfl⟩
theorem e138_0 : wp S d 138 0 [a0, a1, a2, a3] st h Q = wp S d 138 1 [a0, a1, a2, a3] (.int (nI 0) :: st) h Q := wp_p hc138 dJ0_fill_2_0 rfl
theorem e138_1 : wp S d 138 1 [a0, a1, a2, a3] (.int x :: st) h Q = wp S d 138 2 [a0, a1, some (.int x), a3] st h Q := wp_p hc138 dJ0_fill_2_1 rfl
theorem e138_2 : wp S d 138 2 [some (.ref r), a1, a2, a3] st h Q = wp S d 138 3 [some (.ref r), a1, a2, a3] (.ref r :: st) h Q := wp_p hc138 dJ0_fill_2_2 rfl
theorem e138_3 : wp S d 138 3 [a0, a1, a2, a3] (.ref r :: st) h Q = am_alK h r (fun n => wp S d 138 4 [a0, a1, a2, a3] (.int (nI n) :: st) h Q) := wp_al hc138 dJ0_fill_2_3
theorem e138_4 : wp S d 138 4 [a0, a1, a2, a3] (.int x :: st) h Q = wp S d 138 5 [a0, a1, a2, some (.int x)] st h Q := wp_p hc138 dJ0_fill_2_4 rfl
theorem e138_5 : wp S d 138 5 [a0, a1, some (.int x), a3] st h Q = wp S d 138 6 [a0, a1, some (.int x), a3] (.int x :: st) h Q := wp_p hc138 dJ0_fill_2_5 rfl
theorem e138_6 : wp S d 138 6 [a0, a1, a2, some (.int x)] st h Q = wp S d 138 7 [a0, a1, a2, some (.int x)] (.int x :: st) h Q := wp_p hc138 dJ0_fill_2_6 rfl
theorem e138_7 : wp S d 138 7 [a0, a1, a2, a3] (.int y :: .int x :: st) h Q = if y ≤ x then wp S d 138 20 [a0, a1, a2, a3] st h Q else wp S d 138 10 [a0, a1, a2, a3] st h Q := wp_ge hc138 dJ0_fill_2_7 rfl
theorem e138_10 : wp S d 138 10 [some (.ref r), a1, a2, a3] st h Q = wp S d 138 11 [some (.ref r), a1, a2, a3] (.ref r :: st) h Q := wp_p hc138 dJ0_fill_2_10 rfl
theorem e138_11 : wp S d 138 11 [a0, a1, some (.int x), a3] st h Q = wp S d 138 12 [a0, a1, some (.int x), a3] (.int x :: st) h Q := wp_p hc138 dJ0_fill_2_11 rfl
theorem e138_12 : wp S d 138 12 [a0, some (.int x), a2, a3] st h Q = wp S d 138 13 [a0, some (.int x), a2, a3] (.int x :: st) h Q := wp_p hc138 dJ0_fill_2_12 rfl
theorem e138_13 : wp S d 138 13 [a0, a1, a2, a3] (.int y :: .int x :: .ref r :: st) h Q = am_isK h r x y (fun h => wp S d 138 14 [a0, a1, a2, a3] st h Q) := wp_is hc138 dJ0_fill_2_13
theorem e138_14 : wp S d 138 14 [a0, a1, some (.int x), a3] st h Q = wp S d 138 17 [a0, a1, some (.int (x + nI 1)), a3] st h Q := wp_p hc138 dJ0_fill_2_14 rfl
theorem e138_17 : wp S d 138 17 [a0, a1, a2, a3] st h Q = wp S d 138 5 [a0, a1, a2, a3] st h Q := wp_p hc138 dJ0_fill_2_17 rfl
theorem e138_20 : wp S d 138 20 ls [] h Q = Q (.inl none, h) := wp_r hc138 dJ0_fill_2_20 rfl rfl ⟨rfl, rfl, rfl⟩
theorem e139_0 : wp S d 139 0 [a0, some (.int x), a2] st h Q = wp S d 139 1 [a0, some (.int x), a2] (.int x :: st) h Q := wp_p hc139 dJ0_copyOf_0 rfl
theorem e139_1 : wp S d 139 1 [some (.ref r), a1, a2] st h Q = wp S d 139 2 [some (.ref r), a1, a2] (.ref r :: st) h Q := wp_p hc139 dJ0_copyOf_1 rfl
theorem e139_2 : wp S d 139 2 [a0, a1, a2] (.ref r :: st) h Q = am_alK h r (fun n => wp S d 139 3 [a0, a1, a2] (.int (nI n) :: st) h Q) := wp_al hc139 dJ0_copyOf_2
theorem e139_3 : wp S d 139 3 [a0, a1, a2] (.int y :: .int x :: st) h Q = if x = y then wp S d 139 6 [a0, a1, a2] st h Q else wp S d 139 14 [a0, a1, a2] st h Q := wp_ne hc139 dJ0_copyOf_3 rfl
theorem e139_6 : wp S d 139 6 [some (.ref r), a1, a2] st h Q = wp S d 139 7 [some (.ref r), a1, a2] (.ref r :: st) h Q := wp_p hc139 dJ0_copyOf_6 rfl
theorem e139_7 : wp S (d + 1) 139 7 [a0, a1, a2] (.ref r :: st) h Q = am_clK 1 r st h (fun h2 => wp S (d + 1) 139 10 [a0, a1, a2] (.ref h.length :: st) h2 Q) := wp_cl (Or.inr rfl) hc139 dJ0_copyOf_7 ho139 sp10_310 nc10_310
theorem e139_10 : wp S d 139 10 [a0, a1, a2] (.ref r :: st) h Q = am_ccK h r 1 (wp S d 139 13 [a0, a1, a2] (.ref r :: st) h Q) := wp_cc hc139 dJ0_copyOf_10 ho139 ct10_311
theorem e139_13 : wp S d 139 13 ls [.ref r] h Q = Q (.inl (some (.ref r)), h) := wp_r hc139 dJ0_copyOf_13 rfl rfl ⟨_, rfl, Or.inr ⟨_, rfl⟩, ⟨_, rfl, Or.inr ⟨_, rfl⟩⟩, rfl⟩
theorem e139_14 : wp S d 139 14 [a0, some (.int x), a2] st h Q = wp S d 139 15 [a0, some (.int x), a2] (.int x :: st) h Q := wp_p hc139 dJ0_copyOf_14 rfl
theorem e139_15 : wp S d 139 15 [a0, a1, a2] (.int x :: st) h Q = (¬ x < 0 ∧ x.toNatClampNeg ≤ 1000000 ∧ wp S d 139 17 [a0, a1, a2] (.ref h.length :: st) (h ++ [.inl (1, x.toNatClampNeg, fun _ => 0)]) Q) := wp_na1 hc139 dJ0_copyOf_15
theorem e139_17 : wp S d 139 17 [a0, a1, a2] (.ref r :: st) h Q = wp S d 139 18 [a0, a1, some (.ref r)] st h Q := wp_p hc139 dJ0_copyOf_17 rfl
theorem e139_18 : wp S d 139 18 [some (.ref r), a1, a2] st h Q = wp S d 139 19 [some (.ref r), a1, a2] (.ref r :: st) h Q := wp_p hc139 dJ0_copyOf_18 rfl
theorem e139_19 : wp S d 139 19 [a0, a1, a2] st h Q = wp S d 139 20 [a0, a1, a2] (.int (nI 0) :: st) h Q := wp_p hc139 dJ0_copyOf_19 rfl
theorem e139_20 : wp S d 139 20 [a0, a1, some (.ref r)] st h Q = wp S d 139 21 [a0, a1, some (.ref r)] (.ref r :: st) h Q := wp_p hc139 dJ0_copyOf_20 rfl
theorem e139_21 : wp S d 139 21 [a0, a1, a2] st h Q = wp S d 139 22 [a0, a1, a2] (.int (nI 0) :: st) h Q := wp_p hc139 dJ0_copyOf_21 rfl
theorem e139_22 : wp S d 139 22 [some (.ref r), a1, a2] st h Q = wp S d 139 23 [some (.ref r), a1, a2] (.ref r :: st) h Q := wp_p hc139 dJ0_copyOf_22 rfl
theorem e139_23 : wp S d 139 23 [a0, a1, a2] (.ref r :: st) h Q = am_alK h r (fun n => wp S d 139 24 [a0, a1, a2] (.int (nI n) :: st) h Q) := wp_al hc139 dJ0_copyOf_23
theorem e139_24 : wp S d 139 24 [a0, some (.int x), a2] st h Q = wp S d 139 25 [a0, some (.int x), a2] (.int x :: st) h Q := wp_p hc139 dJ0_copyOf_24 rfl
theorem e139_25 : wp S (d + 1) 139 25 [a0, a1, a2] (.int y :: .int x :: st) h Q = (am_w8 st ∧ wp S (d + 1) 139 28 [a0, a1, a2] (.int (if y < x then y else x) :: st) h Q) := wp_mn hc139 dJ0_copyOf_25 ho139 sp10_304 nc10_304
theorem e139_28 : wp S (d + 1) 139 28 [a0, a1, a2] st h Q = am_cpK st h (fun st h => wp S (d + 1) 139 31 [a0, a1, a2] st h Q) := wp_cp hc139 dJ0_copyOf_28 ho139 sp10_150 nc10_150
theorem e139_31 : wp S d 139 31 [a0, a1, some (.ref r)] st h Q = wp S d 139 32 [a0, a1, some (.ref r)] (.ref r :: st) h Q := wp_p hc139 dJ0_copyOf_31 rfl
theorem e139_32 : wp S d 139 32 ls [.ref r] h Q = Q (.inl (some (.ref r)), h) := wp_r hc139 dJ0_copyOf_32 rfl rfl ⟨_, rfl, Or.inr ⟨_, rfl⟩, ⟨_, rfl, Or.inr ⟨_, rfl⟩⟩, rfl⟩
theorem e140_0 : wp S d 140 0 [some (.ref r)] st h Q = wp S d 140 1 [some (.ref r)] (.ref r :: st) h Q := wp_p hc140 dJ1_init_0 rfl
theorem e140_1 : wp S (d + 1) 140 1 [a0] (.ref r :: st) h Q = (am_w8 st ∧ wp S (d + 1) 140 4 [a0] st h Q) := wp_oi hc140 dJ1_init_1 ho140 sp11_1 nc11_1
theorem e140_4 : wp S d 140 4 [some (.ref r)] st h Q = wp S d 140 5 [some (.ref r)] (.ref r :: st) h Q := wp_p hc140 dJ1_init_4 rfl
theorem e140_5 : wp S d 140 5 [some (.ref r)] st h Q = wp S d 140 6 [some (.ref r)] (.ref r :: st) h Q := wp_p hc140 dJ1_init_5 rfl
theorem e140_6 : wp S d 140 6 [a0] (w :: .ref r :: st) h Q = am_pfK 140 h r 7 0 false w (fun h => wp S d 140 9 [a0] st h Q) := wp_pf hc140 dJ1_init_6 ho140 fl11_7
theorem e140_9 : wp S d 140 9 [some (.ref r)] st h Q = wp S d 140 10 [some (.ref r)] (.ref r :: st) h Q := wp_p hc140 dJ1_init_9 rfl
theorem e140_10 : wp S d 140 10 [a0] st h Q = wp S d 140 13 [a0] (.retAddr 10 :: st) h Q := wp_gs hc140 dJ1_init_10 ho140 gs11_13
theorem e140_13 : wp S d 140 13 [a0] (w :: .ref r :: st) h Q = am_pfK 140 h r 7 1 false w (fun h => wp S d 140 16 [a0] st h Q) := wp_pf hc140 dJ1_init_13 ho140 fl11_17
theorem e140_16 : wp S d 140 16 [some (.ref r)] st h Q = wp S d 140 17 [some (.ref r)] (.ref r :: st) h Q := wp_p hc140 dJ1_init_16 rfl
theorem e140_17 : wp S d 140 17 [a0] st h Q = wp S d 140 20 [a0] (.retAddr 11 :: st) h Q := wp_gs hc140 dJ1_init_17 ho140 gs11_20
theorem e140_20 : wp S d 140 20 [a0] (w :: .ref r :: st) h Q = am_pfK 140 h r 7 2 false w (fun h => wp S d 140 23 [a0] st h Q) := wp_pf hc140 dJ1_init_20 ho140 fl11_24
theorem e140_23 : wp S d 140 23 [some (.ref r)] st h Q = wp S d 140 24 [some (.ref r)] (.ref r :: st) h Q := wp_p hc140 dJ1_init_23 rfl
theorem e140_27 : wp S d 140 27 [a0] (.ref r :: st) h Q = wp S d 140 28 [a0] st h Q := wp_p hc140 dJ1_init_27 rfl
theorem e140_27i : wp S d 140 27 [a0] (.int x :: st) h Q = wp S d 140 28 [a0] st h Q := wp_p hc140 dJ1_init_27 rfl
theorem e140_28 : wp S d 140 28 ls [] h Q = Q (.inl none, h) := wp_r hc140 dJ1_init_28 rfl rfl ⟨rfl, rfl, rfl⟩
theorem e141_0 : wp S d 141 0 [some (.ref r), a1, a2, a3, a4] st h Q = wp S d 141 1 [some (.ref r), a1, a2, a3, a4] (.ref r :: st) h Q := wp_p hc141 dJ1_init_2_0 rfl
theorem e141_1 : wp S (d + 1) 141 1 [a0, a1, a2, a3, a4] (.ref r :: st) h Q = (am_w8 st ∧ wp S (d + 1) 141 4 [a0, a1, a2, a3, a4] st h Q) := wp_oi hc141 dJ1_init_2_1 ho141 sp11_1 nc11_1
theorem e141_4 : wp S d 141 4 [some (.ref r), a1, a2, a3, a4] st h Q = wp S d 141 5 [some (.ref r), a1, a2, a3, a4] (.ref r :: st) h Q := wp_p hc141 dJ1_init_2_4 rfl
theorem e141_5 : wp S d 141 5 [some (.ref r), a1, a2, a3, a4] st h Q = wp S d 141 6 [some (.ref r), a1, a2, a3, a4] (.ref r :: st) h Q := wp_p hc141 dJ1_init_2_5 rfl
theorem e141_6 : wp S d 141 6 [a0, a1, a2, a3, a4] (w :: .ref r :: st) h Q = am_pfK 141 h r 7 0 false w (fun h => wp S d 141 9 [a0, a1, a2, a3, a4] st h Q) := wp_pf hc141 dJ1_init_2_6 ho141 fl11_7
theorem e141_9 : wp S d 141 9 [some (.ref r), a1, a2, a3, a4] st h Q = wp S d 141 10 [some (.ref r), a1, a2, a3, a4] (.ref r :: st) h Q := wp_p hc141 dJ1_init_2_9 rfl
theorem e141_10 : wp S d 141 10 [a0, a1, a2, a3, a4] st h Q = wp S d 141 13 [a0, a1, a2, a3, a4] (.retAddr 10 :: st) h Q := wp_gs hc141 dJ1_init_2_10 ho141 gs11_13
theorem e141_13 : wp S d 141 13 [a0, a1, a2, a3, a4] (w :: .ref r :: st) h Q = am_pfK 141 h r 7 1 false w (fun h => wp S d 141 16 [a0, a1, a2, a3, a4] st h Q) := wp_pf hc141 dJ1_init_2_13 ho141 fl11_17
theorem e141_16 : wp S d 141 16 [some (.ref r), a1, a2, a3, a4] st h Q = wp S d 141 17 [some (.ref r), a1, a2, a3, a4] (.ref r :: st) h Q := wp_p hc141 dJ1_init_2_16 rfl
theorem e141_17 : wp S d 141 17 [a0, a1, a2, a3, a4] st h Q = wp S d 141 20 [a0, a1, a2, a3, a4] (.retAddr 11 :: st) h Q := wp_gs hc141 dJ1_init_2_17 ho141 gs11_20
theorem e141_20 : wp S d 141 20 [a0, a1, a2, a3, a4] (w :: .ref r :: st) h Q = am_pfK 141 h r 7 2 false w (fun h => wp S d 141 23 [a0, a1, a2, a3, a4] st h Q) := wp_pf hc141 dJ1_init_2_20 ho141 fl11_24
theorem e141_23 : wp S d 141 23 [a0, a1, a2, a3, some (.int x)] st h Q = wp S d 141 25 [a0, a1, a2, a3, some (.int x)] (.int x :: st) h Q := wp_p hc141 dJ1_init_2_23 rfl
theorem e141_25 : wp S d 141 25 [a0, a1, a2, a3, a4] (.int x :: st) h Q = if x = 0 then wp S d 141 36 [a0, a1, a2, a3, a4] st h Q else wp S d 141 28 [a0, a1, a2, a3, a4] st h Q := wp_eq hc141 dJ1_init_2_25 rfl
theorem e141_28 : wp S d 141 28 [some (.ref r), a1, a2, a3, a4] st h Q = wp S d 141 29 [some (.ref r), a1, a2, a3, a4] (.ref r :: st) h Q := wp_p hc141 dJ1_init_2_28 rfl
theorem e141_32 : wp S d 141 32 [a0, a1, a2, a3, a4] (.ref r :: st) h Q = wp S d 141 33 [a0, a1, a2, a3, a4] st h Q := wp_p hc141 dJ1_init_2_32 rfl
theorem e141_32i : wp S d 141 32 [a0, a1, a2, a3, a4] (.int x :: st) h Q = wp S d 141 33 [a0, a1, a2, a3, a4] st h Q := wp_p hc141 dJ1_init_2_32 rfl
theorem e141_33 : wp S d 141 33 [a0, a1, a2, a3, a4] st h Q = wp S d 141 41 [a0, a1, a2, a3, a4] st h Q := wp_p hc141 dJ1_init_2_33 rfl
theorem e141_36 : wp S d 141 36 [some (.ref r), a1, a2, a3, a4] st h Q = wp S d 141 37 [some (.ref r), a1, a2, a3, a4] (.ref r :: st) h Q := wp_p hc141 dJ1_init_2_36 rfl
theorem e141_37 : wp S d 141 37 [a0, a1, a2, a3, a4] st h Q = wp S d 141 38 [a0, a1, a2, a3, a4] (.null :: st) h Q := wp_p hc141 dJ1_init_2_37 rfl
theorem e141_38 : wp S d 141 38 [a0, a1, a2, a3, a4] (w :: .ref r :: st) h Q = am_pfK 141 h r 7 1 false w (fun h => wp S d 141 41 [a0, a1, a2, a3, a4] st h Q) := wp_pf hc141 dJ1_init_2_38 ho141 fl11_17
theorem e141_41 : wp S d 141 41 [some (.ref r), a1, a2, a3, a4] st h Q = wp S d 141 42 [some (.ref r), a1, a2, a3, a4] (.ref r :: st) h Q := wp_p hc141 dJ1_init_2_41 rfl
theorem e141_42 : wp S d 141 42 [a0, some (.ref r), a2, a3, a4] st h Q = wp S d 141 43 [a0, some (.ref r), a2, a3, a4] (.ref r :: st) h Q := wp_p hc141 dJ1_init_2_42 rfl
theorem e141_42n : wp S d 141 42 [a0, some (.null), a2, a3, a4] st h Q = wp S d 141 43 [a0, some (.null), a2, a3, a4] (.null :: st) h Q := wp_p hc141 dJ1_init_2_42 rfl
theorem e141_42k : wp S d 141 42 [a0, some (.retAddr r), a2, a3, a4] st h Q = wp S d 141 43 [a0, some (.retAddr r), a2, a3, a4] (.retAddr r :: st) h Q := wp_p hc141 dJ1_init_2_42 rfl
theorem e141_43 : wp S d 141 43 [a0, a1, a2, a3, a4] (w :: .ref r :: st) h Q = am_pfK 141 h r 7 3 false w (fun h => wp S d 141 46 [a0, a1, a2, a3, a4] st h Q) := wp_pf hc141 dJ1_init_2_43 ho141 fl11_31
theorem e141_46 : wp S d 141 46 [some (.ref r), a1, a2, a3, a4] st h Q = wp S d 141 47 [some (.ref r), a1, a2, a3, a4] (.ref r :: st) h Q := wp_p hc141 dJ1_init_2_46 rfl
theorem e141_47 : wp S d 141 47 [a0, a1, some (.ref r), a3, a4] st h Q = wp S d 141 48 [a0, a1, some (.ref r), a3, a4] (.ref r :: st) h Q := wp_p hc141 dJ1_init_2_47 rfl
theorem e141_47n : wp S d 141 47 [a0, a1, some (.null), a3, a4] st h Q = wp S d 141 48 [a0, a1, some (.null), a3, a4] (.null :: st) h Q := wp_p hc141 dJ1_init_2_47 rfl
theorem e141_47k : wp S d 141 47 [a0, a1, some (.retAddr r), a3, a4] st h Q = wp S d 141 48 [a0, a1, some (.retAddr r), a3, a4] (.retAddr r :: st) h Q := wp_p hc141 dJ1_init_2_47 rfl
theorem e141_48 : wp S d 141 48 [a0, a1, a2, a3, a4] (w :: .ref r :: st) h Q = am_pfK 141 h r 7 0 false w (fun h => wp S d 141 51 [a0, a1, a2, a3, a4] st h Q) := wp_pf hc141 dJ1_init_2_48 ho141 fl11_7
theorem e141_51 : wp S d 141 51 [a0, a1, a2, some (.int x), a4] st h Q = wp S d 141 52 [a0, a1, a2, some (.int x), a4] (.int x :: st) h Q := wp_p hc141 dJ1_init_2_51 rfl
theorem e141_52 : wp S d 141 52 [a0, a1, a2, a3, a4] (.int x :: st) h Q = if x = 0 then wp S d 141 55 [a0, a1, a2, a3, a4] st h Q else wp S d 141 60 [a0, a1, a2, a3, a4] st h Q := wp_ne hc141 dJ1_init_2_52 rfl
theorem e141_55 : wp S d 141 55 [some (.ref r), a1, a2, a3, a4] st h Q = wp S d 141 56 [some (.ref r), a1, a2, a3, a4] (.ref r :: st) h Q := wp_p hc141 dJ1_init_2_55 rfl
theorem e141_56 : wp S d 141 56 [a0, a1, a2, a3, a4] st h Q = wp S d 141 57 [a0, a1, a2, a3, a4] (.null :: st) h Q := wp_p hc141 dJ1_init_2_56 rfl
theorem e141_57 : wp S d 141 57 [a0, a1, a2, a3, a4] (w :: .ref r :: st) h Q = am_pfK 141 h r 7 2 false w (fun h => wp S d 141 60 [a0, a1, a2, a3, a4] st h Q) := wp_pf hc141 dJ1_init_2_57 ho141 fl11_24
theorem e141_60 : wp S d 141 60 ls [] h Q = Q (.inl none, h) := wp_r hc141 dJ1_init_2_60 rfl rfl ⟨rfl, rfl, rfl⟩
theorem e142_0 : wp S d 142 0 [some (.ref r), a1, a2, a3, a4] st h Q = wp S d 142 1 [some (.ref r), a1, a2, a3, a4] (.ref r :: st) h Q := wp_p hc142 dJ2_init_0 rfl
theorem e142_1 : wp S d 142 1 [a0, some (.ref r), a2, a3, a4] st h Q = wp S d 142 2 [a0, some (.ref r), a2, a3, a4] (.ref r :: st) h Q := wp_p hc142 dJ2_init_1 rfl
theorem e142_1n : wp S d 142 1 [a0, some (.null), a2, a3, a4] st h Q = wp S d 142 2 [a0, some (.null), a2, a3, a4] (.null :: st) h Q := wp_p hc142 dJ2_init_1 rfl
theorem e142_1k : wp S d 142 1 [a0, some (.retAddr r), a2, a3, a4] st h Q = wp S d 142 2 [a0, some (.retAddr r), a2, a3, a4] (.retAddr r :: st) h Q := wp_p hc142 dJ2_init_1 rfl
theorem e142_2 : wp S d 142 2 [a0, a1, some (.ref r), a3, a4] st h Q = wp S d 142 3 [a0, a1, some (.ref r), a3, a4] (.ref r :: st) h Q := wp_p hc142 dJ2_init_2 rfl
theorem e142_2n : wp S d 142 2 [a0, a1, some (.null), a3, a4] st h Q = wp S d 142 3 [a0, a1, some (.null), a3, a4] (.null :: st) h Q := wp_p hc142 dJ2_init_2 rfl
theorem e142_2k : wp S d 142 2 [a0, a1, some (.retAddr r), a3, a4] st h Q = wp S d 142 3 [a0, a1, some (.retAddr r), a3, a4] (.retAddr r :: st) h Q := wp_p hc142 dJ2_init_2 rfl
theorem e142_3 : wp S d 142 3 [a0, a1, a2, some (.int x), a4] st h Q = wp S d 142 4 [a0, a1, a2, some (.int x), a4] (.int x :: st) h Q := wp_p hc142 dJ2_init_3 rfl
theorem e142_4 : wp S d 142 4 [a0, a1, a2, a3, some (.int x)] st h Q = wp S d 142 6 [a0, a1, a2, a3, some (.int x)] (.int x :: st) h Q := wp_p hc142 dJ2_init_4 rfl
theorem e142_6 : wp S (d + 1) 142 6 [a0, a1, a2, a3, a4] (.int x4 :: .int x3 :: .ref r2 :: .ref r1 :: .ref r0 :: st) h Q = (am_w8 st ∧ am_rcv h 4 141 (.ref r0) = true ∧ wp S d 141 0 [some (.ref r0), some (.ref r1), some (.ref r2), some (.int x3), some (.int x4)] [] h (am_kr S 4 (d + 1) 142 6 [a0, a1, a2, a3, a4] st Q)) := wp_cI (.ref r0) [.ref r1, .ref r2, .int x3, .int x4] hc142 dJ2_init_6 ho142 cl12_16 (by decide) ns12_16 hst141 hnp141 hml141 hlsl141 rfl rfl rfl
theorem e142_6n : wp S (d + 1) 142 6 [a0, a1, a2, a3, a4] (.int x4 :: .int x3 :: .null :: .null :: .ref r0 :: st) h Q = (am_w8 st ∧ am_rcv h 4 141 (.ref r0) = true ∧ wp S d 141 0 [some (.ref r0), some (.null), some (.null), some (.int x3), some (.int x4)] [] h (am_kr S 4 (d + 1) 142 6 [a0, a1, a2, a3, a4] st Q)) := wp_cI (.ref r0) [.null, .null, .int x3, .int x4] hc142 dJ2_init_6 ho142 cl12_16 (by decide) ns12_16 hst141 hnp141 hml141 hlsl141 rfl rfl rfl
theorem e142_9 : wp S d 142 9 ls [] h Q = Q (.inl none, h) := wp_r hc142 dJ2_init_9 rfl rfl ⟨rfl, rfl, rfl⟩
theorem e143_0 : wp S d 143 0 [some (.ref r), a1] st h Q = wp S d 143 1 [some (.ref r), a1] (.ref r :: st) h Q := wp_p hc143 dJ3_init_0 rfl
theorem e143_1 : wp S (d + 1) 143 1 [a0, a1] (.ref r :: st) h Q = (am_w8 st ∧ wp S (d + 1) 143 4 [a0, a1] st h Q) := wp_oi hc143 dJ3_init_1 ho143 sp13_3 nc13_3
theorem e143_4 : wp S d 143 4 [a0, a1] st h Q = wp S d 143 7 [a0, a1] (.int (nI 1) :: st) h Q := wp_gs hc143 dJ3_init_4 ho143 gs13_18
theorem e143_7 : wp S d 143 7 [a0, a1] (.int x :: st) h Q = if x = 0 then wp S d 143 25 [a0, a1] st h Q else wp S d 143 10 [a0, a1] st h Q := wp_eq hc143 dJ3_init_7 rfl
theorem e143_10 : wp S d 143 10 [some (.ref r), a1] st h Q = wp S d 143 11 [some (.ref r), a1] (.ref r :: st) h Q := wp_p hc143 dJ3_init_10 rfl
theorem e143_11 : wp S d 143 11 [a0, some (.int x)] st h Q = wp S d 143 12 [a0, some (.int x)] (.int x :: st) h Q := wp_p hc143 dJ3_init_11 rfl
theorem e143_12 : wp S d 143 12 [a0, a1] (.int x :: st) h Q = (¬ x < 0 ∧ x.toNatClampNeg ≤ 1000000 ∧ wp S d 143 14 [a0, a1] (.ref h.length :: st) (h ++ [.inl (1, x.toNatClampNeg, fun _ => 0)]) Q) := wp_na1 hc143 dJ3_init_12
theorem e143_14 : wp S d 143 14 [a0, a1] (w :: .ref r :: st) h Q = am_pfK 143 h r 9 0 false w (fun h => wp S d 143 17 [a0, a1] st h Q) := wp_pf hc143 dJ3_init_14 ho143 fl13_15
theorem e143_17 : wp S d 143 17 [some (.ref r), a1] st h Q = wp S d 143 18 [some (.ref r), a1] (.ref r :: st) h Q := wp_p hc143 dJ3_init_17 rfl
theorem e143_18 : wp S d 143 18 [a0, a1] st h Q = wp S d 143 19 [a0, a1] (.int (nI 0) :: st) h Q := wp_p hc143 dJ3_init_18 rfl
theorem e143_19 : wp S d 143 19 [a0, a1] (w :: .ref r :: st) h Q = am_pfK 143 h r 9 1 false w (fun h => wp S d 143 22 [a0, a1] st h Q) := wp_pf hc143 dJ3_init_19 ho143 fl13_22
theorem e143_22 : wp S d 143 22 [a0, a1] st h Q = wp S d 143 38 [a0, a1] st h Q := wp_p hc143 dJ3_init_22 rfl
theorem e143_25 : wp S d 143 25 [some (.ref r), a1] st h Q = wp S d 143 26 [some (.ref r), a1] (.ref r :: st) h Q := wp_p hc143 dJ3_init_25 rfl
theorem e143_26 : wp S d 143 26 [a0, some (.int x)] st h Q = wp S d 143 27 [a0, some (.int x)] (.int x :: st) h Q := wp_p hc143 dJ3_init_26 rfl
theorem e143_30 : wp S d 143 30 [a0, a1] (w :: .ref r :: st) h Q = am_pfK 143 h r 9 0 false w (fun h => wp S d 143 33 [a0, a1] st h Q) := wp_pf hc143 dJ3_init_30 ho143 fl13_15
theorem e143_33 : wp S d 143 33 [some (.ref r), a1] st h Q = wp S d 143 34 [some (.ref r), a1] (.ref r :: st) h Q := wp_p hc143 dJ3_init_33 rfl
theorem e143_34 : wp S d 143 34 [a0, a1] st h Q = wp S d 143 35 [a0, a1] (.int (nI 1) :: st) h Q := wp_p hc143 dJ3_init_34 rfl
theorem e143_35 : wp S d 143 35 [a0, a1] (w :: .ref r :: st) h Q = am_pfK 143 h r 9 1 false w (fun h => wp S d 143 38 [a0, a1] st h Q) := wp_pf hc143 dJ3_init_35 ho143 fl13_22
theorem e143_38 : wp S d 143 38 ls [] h Q = Q (.inl none, h) := wp_r hc143 dJ3_init_38 rfl rfl ⟨rfl, rfl, rfl⟩
theorem e144_0 : wp S d 144 0 [some (.ref r), a1, a2, a3] st h Q = wp S d 144 1 [some (.ref r), a1, a2, a3] (.ref r :: st) h Q := wp_p hc144 dJ3_append_0 rfl
theorem e144_1 : wp S d 144 1 [a0, a1, a2, a3] (.ref r :: st) h Q = am_gfK h r 9 3 (fun w => wp S d 144 4 [a0, a1, a2, a3] (w :: st) h Q) := wp_gf hc144 dJ3_append_1 ho144 fl13_79
theorem e144_4 : wp S d 144 4 [a0, a1, a2, a3] (.int x :: st) h Q = wp S d 144 5 [a0, a1, some (.int x), a3] st h Q := wp_p hc144 dJ3_append_4 rfl
theorem e144_5 : wp S d 144 5 [a0, a1, some (.int x), a3] st h Q = wp S d 144 6 [a0, a1, some (.int x), a3] (.int x :: st) h Q := wp_p hc144 dJ3_append_5 rfl
theorem e144_6 : wp S d 144 6 [a0, some (.int x), a2, a3] st h Q = wp S d 144 7 [a0, some (.int x), a2, a3] (.int x :: st) h Q := wp_p hc144 dJ3_append_6 rfl
theorem e144_7 : wp S (d + 1) 144 7 [a0, a1, a2, a3] (.int x1 :: st) h Q = (am_w8 st ∧ wp S d 170 0 [some (.int x1), none, none, none] [] h (am_kr S 0 (d + 1) 144 7 [a0, a1, a2, a3] st Q)) := wp_cS [.int x1] hc144 dJ3_append_7 ho144 cl13_245 (by decide) ns13_245 hst170 hnp170 hml170 hlsl170 rfl rfl rfl
theorem e144_10 : wp S d 144 10 [a0, a1, a2, a3] (.int y :: .int x :: st) h Q = wp S d 144 11 [a0, a1, a2, a3] (.int (x + y) :: st) h Q := wp_p hc144 dJ3_append_10 rfl
theorem e144_11 : wp S d 144 11 [a0, a1, a2, a3] (.int x :: st) h Q = wp S d 144 12 [a0, a1, a2, some (.int x)] st h Q := wp_p hc144 dJ3_append_11 rfl
theorem e144_12 : wp S d 144 12 [some (.ref r), a1, a2, a3] st h Q = wp S d 144 13 [some (.ref r), a1, a2, a3] (.ref r :: st) h Q := wp_p hc144 dJ3_append_12 rfl
theorem e144_13 : wp S d 144 13 [a0, a1, a2, some (.int x)] st h Q = wp S d 144 14 [a0, a1, a2, some (.int x)] (.int x :: st) h Q := wp_p hc144 dJ3_append_13 rfl
theorem e144_14 : wp S (d + 1) 144 14 [a0, a1, a2, a3] (.int x1 :: .ref r0 :: st) h Q = (am_w8 st ∧ am_rcv h 3 145 (.ref r0) = true ∧ wp S d 145 0 [some (.ref r0), some (.int x1), none] [] h (am_kr S 3 (d + 1) 144 14 [a0, a1, a2, a3] st Q)) := wp_cV (.ref r0) [.int x1] hc144 dJ3_append_14 ho144 cl13_100 (by decide) ns13_100 hst145 hnp145 hml145 hlsl145 rfl rfl rfl
theorem e144_17 : wp S d 144 17 [some (.ref r), a1, a2, a3] st h Q = wp S d 144 18 [some (.ref r), a1, a2, a3] (.ref r :: st) h Q := wp_p hc144 dJ3_append_17 rfl
theorem e144_18 : wp S (d + 1) 144 18 [a0, a1, a2, a3] (.ref r0 :: st) h Q = (am_w8 st ∧ am_rcv h 3 147 (.ref r0) = true ∧ wp S d 147 0 [some (.ref r0)] [] h (am_kr S 3 (d + 1) 144 18 [a0, a1, a2, a3] st Q)) := wp_cV (.ref r0) [] hc144 dJ3_append_18 ho144 cl13_83 (by decide) ns13_83 hst147 hnp147 hml147 hlsl147 rfl rfl rfl
theorem e144_21 : wp S d 144 21 [a0, a1, a2, a3] (.int x :: st) h Q = if x = 0 then wp S d 144 37 [a0, a1, a2, a3] st h Q else wp S d 144 24 [a0, a1, a2, a3] st h Q := wp_eq hc144 dJ3_append_21 rfl
theorem e144_24 : wp S d 144 24 [a0, some (.int x), a2, a3] st h Q = wp S d 144 25 [a0, some (.int x), a2, a3] (.int x :: st) h Q := wp_p hc144 dJ3_append_24 rfl
theorem e144_25 : wp S d 144 25 [a0, a1, a2, some (.int x)] st h Q = wp S d 144 26 [a0, a1, a2, some (.int x)] (.int x :: st) h Q := wp_p hc144 dJ3_append_25 rfl
theorem e144_26 : wp S d 144 26 [some (.ref r), a1, a2, a3] st h Q = wp S d 144 27 [some (.ref r), a1, a2, a3] (.ref r :: st) h Q := wp_p hc144 dJ3_append_26 rfl
theorem e144_27 : wp S d 144 27 [a0, a1, a2, a3] (.ref r :: st) h Q = am_gfK h r 9 0 (fun w => wp S d 144 30 [a0, a1, a2, a3] (w :: st) h Q) := wp_gf hc144 dJ3_append_27 ho144 fl13_15
theorem e144_30 : wp S (d + 1) 144 30 [a0, a1, a2, a3] (.ref r3 :: .int x2 :: .int x1 :: st) h Q = (am_w8 st ∧ wp S d 171 0 [some (.int x1), some (.int x2), some (.ref r3), none, none, none, none] [] h (am_kr S 0 (d + 1) 144 30 [a0, a1, a2, a3] st Q)) := wp_cS [.int x1, .int x2, .ref r3] hc144 dJ3_append_30 ho144 cl13_248 (by decide) ns13_248 hst171 hnp171 hml171 hlsl171 rfl rfl rfl
theorem e144_33 : wp S d 144 33 [a0, a1, a2, a3] (.ref r :: st) h Q = wp S d 144 34 [a0, a1, a2, a3] st h Q := wp_p hc144 dJ3_append_33 rfl
theorem e144_33i : wp S d 144 33 [a0, a1, a2, a3] (.int x :: st) h Q = wp S d 144 34 [a0, a1, a2, a3] st h Q := wp_p hc144 dJ3_append_33 rfl
theorem e144_34 : wp S d 144 34 [a0, a1, a2, a3] st h Q = wp S d 144 48 [a0, a1, a2, a3] st h Q := wp_p hc144 dJ3_append_34 rfl
theorem e144_37 : wp S d 144 37 [a0, some (.int x), a2, a3] st h Q = wp S d 144 38 [a0, some (.int x), a2, a3] (.int x :: st) h Q := wp_p hc144 dJ3_append_37 rfl
theorem e144_38 : wp S d 144 38 [a0, a1, some (.int x), a3] st h Q = wp S d 144 39 [a0, a1, some (.int x), a3] (.int x :: st) h Q := wp_p hc144 dJ3_append_38 rfl
theorem e144_39 : wp S d 144 39 [a0, a1, a2, some (.int x)] st h Q = wp S d 144 40 [a0, a1, a2, some (.int x)] (.int x :: st) h Q := wp_p hc144 dJ3_append_39 rfl
theorem e144_40 : wp S d 144 40 [some (.ref r), a1, a2, a3] st h Q = wp S d 144 41 [some (.ref r), a1, a2, a3] (.ref r :: st) h Q := wp_p hc144 dJ3_append_40 rfl
theorem e144_41 : wp S d 144 41 [a0, a1, a2, a3] (.ref r :: st) h Q = am_gfK h r 9 0 (fun w => wp S d 144 44 [a0, a1, a2, a3] (w :: st) h Q) := wp_gf hc144 dJ3_append_41 ho144 fl13_15
theorem e144_47 : wp S d 144 47 [a0, a1, a2, a3] (.ref r :: st) h Q = wp S d 144 48 [a0, a1, a2, a3] st h Q := wp_p hc144 dJ3_append_47 rfl
theorem e144_47i : wp S d 144 47 [a0, a1, a2, a3] (.int x :: st) h Q = wp S d 144 48 [a0, a1, a2, a3] st h Q := wp_p hc144 dJ3_append_47 rfl
theorem e144_48 : wp S d 144 48 [some (.ref r), a1, a2, a3] st h Q = wp S d 144 49 [some (.ref r), a1, a2, a3] (.ref r :: st) h Q := wp_p hc144 dJ3_append_48 rfl
theorem e144_49 : wp S d 144 49 [a0, a1, a2, some (.int x)] st h Q = wp S d 144 50 [a0, a1, a2, some (.int x)] (.int x :: st) h Q := wp_p hc144 dJ3_append_49 rfl
theorem e144_50 : wp S d 144 50 [a0, a1, a2, a3] (w :: .ref r :: st) h Q = am_pfK 144 h r 9 3 false w (fun h => wp S d 144 53 [a0, a1, a2, a3] st h Q) := wp_pf hc144 dJ3_append_50 ho144 fl13_79
theorem e144_53 : wp S d 144 53 [some (.ref r), a1, a2, a3] st h Q = wp S d 144 54 [some (.ref r), a1, a2, a3] (.ref r :: st) h Q := wp_p hc144 dJ3_append_53 rfl
theorem e144_54 : wp S d 144 54 ls [.ref r] h Q = Q (.inl (some (.ref r)), h) := wp_r hc144 dJ3_append_54 rfl rfl ⟨_, rfl, Or.inr ⟨_, rfl⟩, ⟨_, rfl, Or.inl ⟨_, rfl⟩⟩, rfl⟩
theorem e145_0 : wp S d 145 0 [some (.ref r), a1, a2] st h Q = wp S d 145 1 [some (.ref r), a1, a2] (.ref r :: st) h Q := wp_p hc145 dJ3_ensureCapacityInternal_0 rfl
theorem e145_1 : wp S d 145 1 [a0, a1, a2] (.ref r :: st) h Q = am_gfK h r 9 0 (fun w => wp S d 145 4 [a0, a1, a2] (w :: st) h Q) := wp_gf hc145 dJ3_ensureCapacityInternal_1 ho145 fl13_15
theorem e145_4 : wp S d 145 4 [a0, a1, a2] (.ref r :: st) h Q = am_alK h r (fun n => wp S d 145 5 [a0, a1, a2] (.int (nI n) :: st) h Q) := wp_al hc145 dJ3_ensureCapacityInternal_4
theorem e145_5 : wp S d 145 5 [some (.ref r), a1, a2] st h Q = wp S d 145 6 [some (.ref r), a1, a2] (.ref r :: st) h Q := wp_p hc145 dJ3_ensureCapacityInternal_5 rfl
theorem e145_6 : wp S d 145 6 [a0, a1, a2] (.ref r :: st) h Q = am_gfK h r 9 1 (fun w => wp S d 145 9 [a0, a1, a2] (w :: st) h Q) := wp_gf hc145 dJ3_ensureCapacityInternal_6 ho145 fl13_22
theorem e145_9 : wp S d 145 9 [a0, a1, a2] (.int y :: .int x :: st) h Q = wp S d 145 10 [a0, a1, a2] (.int (x >>> (y &&& 31)) :: st) h Q := wp_p hc145 dJ3_ensureCapacityInternal_9 rfl
theorem e145_10 : wp S d 145 10 [a0, a1, a2] (.int x :: st) h Q = wp S d 145 11 [a0, a1, some (.int x)] st h Q := wp_p hc145 dJ3_ensureCapacityInternal_10 rfl
theorem e145_11 : wp S d 145 11 [a0, some (.int x), a2] st h Q = wp S d 145 12 [a0, some (.int x), a2] (.int x :: st) h Q := wp_p hc145 dJ3_ensureCapacityInternal_11 rfl
theorem e145_12 : wp S d 145 12 [a0, a1, some (.int x)] st h Q = wp S d 145 13 [a0, a1, some (.int x)] (.int x :: st) h Q := wp_p hc145 dJ3_ensureCapacityInternal_12 rfl
theorem e145_13 : wp S d 145 13 [a0, a1, a2] (.int y :: .int x :: st) h Q = wp S d 145 14 [a0, a1, a2] (.int (x - y) :: st) h Q := wp_p hc145 dJ3_ensureCapacityInternal_13 rfl
theorem e145_14 : wp S d 145 14 [a0, a1, a2] (.int x :: st) h Q = if x ≤ 0 then wp S d 145 38 [a0, a1, a2] st h Q else wp S d 145 17 [a0, a1, a2] st h Q := wp_le hc145 dJ3_ensureCapacityInternal_14 rfl
theorem e145_17 : wp S d 145 17 [some (.ref r), a1, a2] st h Q = wp S d 145 18 [some (.ref r), a1, a2] (.ref r :: st) h Q := wp_p hc145 dJ3_ensureCapacityInternal_17 rfl
theorem e145_18 : wp S d 145 18 [some (.ref r), a1, a2] st h Q = wp S d 145 19 [some (.ref r), a1, a2] (.ref r :: st) h Q := wp_p hc145 dJ3_ensureCapacityInternal_18 rfl
theorem e145_19 : wp S d 145 19 [a0, a1, a2] (.ref r :: st) h Q = am_gfK h r 9 0 (fun w => wp S d 145 22 [a0, a1, a2] (w :: st) h Q) := wp_gf hc145 dJ3_ensureCapacityInternal_19 ho145 fl13_15
theorem e145_22 : wp S d 145 22 [some (.ref r), a1, a2] st h Q = wp S d 145 23 [some (.ref r), a1, a2] (.ref r :: st) h Q := wp_p hc145 dJ3_ensureCapacityInternal_22 rfl
theorem e145_23 : wp S d 145 23 [a0, some (.int x), a2] st h Q = wp S d 145 24 [a0, some (.int x), a2] (.int x :: st) h Q := wp_p hc145 dJ3_ensureCapacityInternal_23 rfl
theorem e145_24 : wp S (d + 1) 145 24 [a0, a1, a2] (.int x1 :: .ref r0 :: st) h Q = (am_w8 st ∧ am_rcv h 3 146 (.ref r0) = true ∧ wp S d 146 0 [some (.ref r0), some (.int x1), none, none, none, none] [] h (am_kr S 3 (d + 1) 145 24 [a0, a1, a2] st Q)) := wp_cV (.ref r0) [.int x1] hc145 dJ3_ensureCapacityInternal_24 ho145 cl13_104 (by decide) ns13_104 hst146 hnp146 hml146 hlsl146 rfl rfl rfl
theorem e145_27 : wp S d 145 27 [some (.ref r), a1, a2] st h Q = wp S d 145 28 [some (.ref r), a1, a2] (.ref r :: st) h Q := wp_p hc145 dJ3_ensureCapacityInternal_27 rfl
theorem e145_28 : wp S d 145 28 [a0, a1, a2] (.ref r :: st) h Q = am_gfK h r 9 1 (fun w => wp S d 145 31 [a0, a1, a2] (w :: st) h Q) := wp_gf hc145 dJ3_ensureCapacityInternal_28 ho145 fl13_22
theorem e145_31 : wp S d 145 31 [a0, a1, a2] (.int y :: .int x :: st) h Q = wp S d 145 32 [a0, a1, a2] (.int (x <<< (y &&& 31)) :: st) h Q := wp_p hc145 dJ3_ensureCapacityInternal_31 rfl
theorem e145_32 : wp S (d + 1) 145 32 [a0, a1, a2] (.int x2 :: .ref r1 :: st) h Q = (am_w8 st ∧ wp S d 139 0 [some (.ref r1), some (.int x2), none] [] h (am_kr S 0 (d + 1) 145 32 [a0, a1, a2] st Q)) := wp_cS [.ref r1, .int x2] hc145 dJ3_ensureCapacityInternal_32 ho145 cl13_108 (by decide) ns13_108 hst139 hnp139 hml139 hlsl139 rfl rfl rfl
theorem e145_35 : wp S d 145 35 [a0, a1, a2] (w :: .ref r :: st) h Q = am_pfK 145 h r 9 0 false w (fun h => wp S d 145 38 [a0, a1, a2] st h Q) := wp_pf hc145 dJ3_ensureCapacityInternal_35 ho145 fl13_15
theorem e145_38 : wp S d 145 38 ls [] h Q = Q (.inl none, h) := wp_r hc145 dJ3_ensureCapacityInternal_38 rfl rfl ⟨rfl, rfl, rfl⟩
theorem e146_0 : wp S d 146 0 [some (.ref r), a1, a2, a3, a4, a5] st h Q = wp S d 146 1 [some (.ref r), a1, a2, a3, a4, a5] (.ref r :: st) h Q := wp_p hc146 dJ3_newCapacity_0 rfl
theorem e146_1 : wp S d 146 1 [a0, a1, a2, a3, a4, a5] (.ref r :: st) h Q = am_gfK h r 9 0 (fun w => wp S d 146 4 [a0, a1, a2, a3, a4, a5] (w :: st) h Q) := wp_gf hc146 dJ3_newCapacity_1 ho146 fl13_15
theorem e146_4 : wp S d 146 4 [a0, a1, a2, a3, a4, a5] (.ref r :: st) h Q = am_alK h r (fun n => wp S d 146 5 [a0, a1, a2, a3, a4, a5] (.int (nI n) :: st) h Q) := wp_al hc146 dJ3_newCapacity_4
theorem e146_5 : wp S d 146 5 [a0, a1, a2, a3, a4, a5] (.int x :: st) h Q = wp S d 146 6 [a0, a1, some (.int x), a3, a4, a5] st h Q := wp_p hc146 dJ3_newCapacity_5 rfl
theorem e146_6 : wp S d 146 6 [a0, some (.int x), a2, a3, a4, a5] st h Q = wp S d 146 7 [a0, some (.int x), a2, a3, a4, a5] (.int x :: st) h Q := wp_p hc146 dJ3_newCapacity_6 rfl
theorem e146_7 : wp S d 146 7 [some (.ref r), a1, a2, a3, a4, a5] st h Q = wp S d 146 8 [some (.ref r), a1, a2, a3, a4, a5] (.ref r :: st) h Q := wp_p hc146 dJ3_newCapacity_7 rfl
theorem e146_8 : wp S d 146 8 [a0, a1, a2, a3, a4, a5] (.ref r :: st) h Q = am_gfK h r 9 1 (fun w => wp S d 146 11 [a0, a1, a2, a3, a4, a5] (w :: st) h Q) := wp_gf hc146 dJ3_newCapacity_8 ho146 fl13_22
theorem e146_11 : wp S d 146 11 [a0, a1, a2, a3, a4, a5] (.int y :: .int x :: st) h Q = wp S d 146 12 [a0, a1, a2, a3, a4, a5] (.int (x <<< (y &&& 31)) :: st) h Q := wp_p hc146 dJ3_newCapacity_11 rfl
theorem e146_12 : wp S d 146 12 [a0, a1, a2, a3, a4, a5] (.int x :: st) h Q = wp S d 146 13 [a0, a1, a2, some (.int x), a4, a5] st h Q := wp_p hc146 dJ3_newCapacity_12 rfl
theorem e146_13 : wp S d 146 13 [a0, a1, a2, some (.int x), a4, a5] st h Q = wp S d 146 14 [a0, a1, a2, some (.int x), a4, a5] (.int x :: st) h Q := wp_p hc146 dJ3_newCapacity_13 rfl
theorem e146_14 : wp S d 146 14 [a0, a1, some (.int x), a3, a4, a5] st h Q = wp S d 146 15 [a0, a1, some (.int x), a3, a4, a5] (.int x :: st) h Q := wp_p hc146 dJ3_newCapacity_14 rfl
theorem e146_15 : wp S d 146 15 [a0, a1, a2, a3, a4, a5] (.int y :: .int x :: st) h Q = wp S d 146 16 [a0, a1, a2, a3, a4, a5] (.int (x - y) :: st) h Q := wp_p hc146 dJ3_newCapacity_15 rfl
theorem e146_16 : wp S d 146 16 [a0, a1, a2, a3, a4, a5] (.int x :: st) h Q = wp S d 146 18 [a0, a1, a2, a3, some (.int x), a5] st h Q := wp_p hc146 dJ3_newCapacity_16 rfl
theorem e146_18 : wp S d 146 18 [a0, a1, some (.int x), a3, a4, a5] st h Q = wp S d 146 19 [a0, a1, some (.int x), a3, a4, a5] (.int x :: st) h Q := wp_p hc146 dJ3_newCapacity_18 rfl
theorem e146_19 : wp S d 146 19 [a0, a1, a2, a3, some (.int x), a5] st h Q = wp S d 146 21 [a0, a1, a2, a3, some (.int x), a5] (.int x :: st) h Q := wp_p hc146 dJ3_newCapacity_19 rfl
theorem e146_21 : wp S d 146 21 [a0, a1, some (.int x), a3, a4, a5] st h Q = wp S d 146 22 [a0, a1, some (.int x), a3, a4, a5] (.int x :: st) h Q := wp_p hc146 dJ3_newCapacity_21 rfl
theorem e146_22 : wp S d 146 22 [a0, a1, a2, a3, a4, a5] st h Q = wp S d 146 23 [a0, a1, a2, a3, a4, a5] (.int (nI 2) :: st) h Q := wp_p hc146 dJ3_newCapacity_22 rfl
theorem e146_23 : wp S d 146 23 [some (.ref r), a1, a2, a3, a4, a5] st h Q = wp S d 146 24 [some (.ref r), a1, a2, a3, a4, a5] (.ref r :: st) h Q := wp_p hc146 dJ3_newCapacity_23 rfl
theorem e146_24 : wp S d 146 24 [a0, a1, a2, a3, a4, a5] (.ref r :: st) h Q = am_gfK h r 9 1 (fun w => wp S d 146 27 [a0, a1, a2, a3, a4, a5] (w :: st) h Q) := wp_gf hc146 dJ3_newCapacity_24 ho146 fl13_22
theorem e146_27 : wp S d 146 27 [a0, a1, a2, a3, a4, a5] (.int y :: .int x :: st) h Q = wp S d 146 28 [a0, a1, a2, a3, a4, a5] (.int (x <<< (y &&& 31)) :: st) h Q := wp_p hc146 dJ3_newCapacity_27 rfl
theorem e146_28 : wp S d 146 28 [a0, a1, a2, a3, a4, a5] (.int y :: .int x :: st) h Q = wp S d 146 29 [a0, a1, a2, a3, a4, a5] (.int (x + y) :: st) h Q := wp_p hc146 dJ3_newCapacity_28 rfl
theorem e146_29 : wp S (d + 1) 146 29 [a0, a1, a2, a3, a4, a5] (.int x3 :: .int x2 :: .int x1 :: st) h Q = (am_w8 st ∧ wp S d 172 0 [some (.int x1), some (.int x2), some (.int x3), none] [] h (am_kr S 0 (d + 1) 146 29 [a0, a1, a2, a3, a4, a5] st Q)) := wp_cS [.int x1, .int x2, .int x3] hc146 dJ3_newCapacity_29 ho146 cl13_114 (by decide) ns13_114 hst172 hnp172 hml172 hlsl172 rfl rfl rfl
theorem e146_32 : wp S d 146 32 [a0, a1, a2, a3, a4, a5] (.int x :: st) h Q = wp S d 146 34 [a0, a1, a2, a3, a4, some (.int x)] st h Q := wp_p hc146 dJ3_newCapacity_32 rfl
theorem e146_34 : wp S d 146 34 [a0, a1, a2, a3, a4, some (.int x)] st h Q = wp S d 146 36 [a0, a1, a2, a3, a4, some (.int x)] (.int x :: st) h Q := wp_p hc146 dJ3_newCapacity_34 rfl
theorem e146_36 : wp S d 146 36 [a0, a1, a2, a3, a4, a5] st h Q = wp S d 146 38 [a0, a1, a2, a3, a4, a5] (.int (nI 2147483647) :: st) h Q := wp_lc hc146 dJ3_newCapacity_36 ho146 lc13_39
theorem e146_38 : wp S d 146 38 [a0, a1, a2, a3, a4, a5] (.int y :: .int x :: st) h Q = if x = y then wp S d 146 41 [a0, a1, a2, a3, a4, a5] st h Q else wp S d 146 51 [a0, a1, a2, a3, a4, a5] st h Q := wp_ne hc146 dJ3_newCapacity_38 rfl
theorem e146_44 : wp S d 146 44 [a0, a1, a2, a3, a4, a5] (.ref r :: st) h Q = wp S d 146 45 [a0, a1, a2, a3, a4, a5] (.ref r :: .ref r :: st) h Q := wp_p hc146 dJ3_newCapacity_44 rfl
theorem e146_44i : wp S d 146 44 [a0, a1, a2, a3, a4, a5] (.int x :: st) h Q = wp S d 146 45 [a0, a1, a2, a3, a4, a5] (.int x :: .int x :: st) h Q := wp_p hc146 dJ3_newCapacity_44 rfl
theorem e146_50 : wp S d 146 50 ls (.ref r :: st) h Q = (am_isC h r 7 = true ∧ Q (.inr r, h)) := wp_tC hc146 dJ3_newCapacity_50 rfl
theorem e146_51 : wp S d 146 51 [a0, a1, a2, a3, a4, some (.int x)] st h Q = wp S d 146 53 [a0, a1, a2, a3, a4, some (.int x)] (.int x :: st) h Q := wp_p hc146 dJ3_newCapacity_51 rfl
theorem e146_53 : wp S d 146 53 [some (.ref r), a1, a2, a3, a4, a5] st h Q = wp S d 146 54 [some (.ref r), a1, a2, a3, a4, a5] (.ref r :: st) h Q := wp_p hc146 dJ3_newCapacity_53 rfl
theorem e146_54 : wp S d 146 54 [a0, a1, a2, a3, a4, a5] (.ref r :: st) h Q = am_gfK h r 9 1 (fun w => wp S d 146 57 [a0, a1, a2, a3, a4, a5] (w :: st) h Q) := wp_gf hc146 dJ3_newCapacity_54 ho146 fl13_22
theorem e146_57 : wp S d 146 57 [a0, a1, a2, a3, a4, a5] (.int y :: .int x :: st) h Q = wp S d 146 58 [a0, a1, a2, a3, a4, a5] (.int (x >>> (y &&& 31)) :: st) h Q := wp_p hc146 dJ3_newCapacity_57 rfl
theorem e146_58 : wp S d 146 58 ls [.int x] h Q = Q (.inl (some (.int x)), h) := wp_r hc146 dJ3_newCapacity_58 rfl rfl ⟨x, _, rfl, rfl, rfl, rfl⟩
theorem e147_0 : wp S d 147 0 [a0] st h Q = wp S d 147 3 [a0] (.int (nI 1) :: st) h Q := wp_gs hc147 dJ3_isLatin1_0 ho147 gs13_18
theorem e147_3 : wp S d 147 3 [a0] (.int x :: st) h Q = if x = 0 then wp S d 147 17 [a0] st h Q else wp S d 147 6 [a0] st h Q := wp_eq hc147 dJ3_isLatin1_3 rfl
theorem e147_6 : wp S d 147 6 [some (.ref r)] st h Q = wp S d 147 7 [some (.ref r)] (.ref r :: st) h Q := wp_p hc147 dJ3_isLatin1_6 rfl
theorem e147_7 : wp S d 147 7 [a0] (.ref r :: st) h Q = am_gfK h r 9 1 (fun w => wp S d 147 10 [a0] (w :: st) h Q) := wp_gf hc147 dJ3_isLatin1_7 ho147 fl13_22
theorem e147_10 : wp S d 147 10 [a0] (.int x :: st) h Q = if x = 0 then wp S d 147 13 [a0] st h Q else wp S d 147 17 [a0] st h Q := wp_ne hc147 dJ3_isLatin1_10 rfl
theorem e147_13 : wp S d 147 13 [a0] st h Q = wp S d 147 14 [a0] (.int (nI 1) :: st) h Q := wp_p hc147 dJ3_isLatin1_13 rfl
theorem e147_14 : wp S d 147 14 [a0] st h Q = wp S d 147 18 [a0] st h Q := wp_p hc147 dJ3_isLatin1_14 rfl
theorem e147_17 : wp S d 147 17 [a0] st h Q = wp S d 147 18 [a0] (.int (nI 0) :: st) h Q := wp_p hc147 dJ3_isLatin1_17 rfl
theorem e147_18 : wp S d 147 18 ls [.int x] h Q = (narrow .boolean (.int x) = .int x ∧ Q (.inl (some (.int x)), h)) := wp_rI hc147 dJ3_isLatin1_18 rfl
theorem e148_0 : wp S d 148 0 [some (.ref r), a1] st h Q = wp S d 148 1 [some (.ref r), a1] (.ref r :: st) h Q := wp_p hc148 dJ3_append_2_0 rfl
theorem e148_1 : wp S d 148 1 [some (.ref r), a1] st h Q = wp S d 148 2 [some (.ref r), a1] (.ref r :: st) h Q := wp_p hc148 dJ3_append_2_1 rfl
theorem e148_2 : wp S d 148 2 [a0, a1] (.ref r :: st) h Q = am_gfK h r 9 3 (fun w => wp S d 148 5 [a0, a1] (w :: st) h Q) := wp_gf hc148 dJ3_append_2_2 ho148 fl13_79
theorem e148_5 : wp S d 148 5 [a0, a1] st h Q = wp S d 148 6 [a0, a1] (.int (nI 1) :: st) h Q := wp_p hc148 dJ3_append_2_5 rfl
theorem e148_6 : wp S d 148 6 [a0, a1] (.int y :: .int x :: st) h Q = wp S d 148 7 [a0, a1] (.int (x + y) :: st) h Q := wp_p hc148 dJ3_append_2_6 rfl
theorem e148_7 : wp S (d + 1) 148 7 [a0, a1] (.int x1 :: .ref r0 :: st) h Q = (am_w8 st ∧ am_rcv h 3 145 (.ref r0) = true ∧ wp S d 145 0 [some (.ref r0), some (.int x1), none] [] h (am_kr S 3 (d + 1) 148 7 [a0, a1] st Q)) := wp_cV (.ref r0) [.int x1] hc148 dJ3_append_2_7 ho148 cl13_100 (by decide) ns13_100 hst145 hnp145 hml145 hlsl145 rfl rfl rfl
theorem e148_10 : wp S d 148 10 [some (.ref r), a1] st h Q = wp S d 148 11 [some (.ref r), a1] (.ref r :: st) h Q := wp_p hc148 dJ3_append_2_10 rfl
theorem e148_11 : wp S (d + 1) 148 11 [a0, a1] (.ref r0 :: st) h Q = (am_w8 st ∧ am_rcv h 3 147 (.ref r0) = true ∧ wp S d 147 0 [some (.ref r0)] [] h (am_kr S 3 (d + 1) 148 11 [a0, a1] st Q)) := wp_cV (.ref r0) [] hc148 dJ3_append_2_11 ho148 cl13_83 (by decide) ns13_83 hst147 hnp147 hml147 hlsl147 rfl rfl rfl
theorem e148_14 : wp S d 148 14 [a0, a1] (.int x :: st) h Q = if x = 0 then wp S d 148 45 [a0, a1] st h Q else wp S d 148 17 [a0, a1] st h Q := wp_eq hc148 dJ3_append_2_14 rfl
theorem e148_17 : wp S d 148 17 [a0, some (.int x)] st h Q = wp S d 148 18 [a0, some (.int x)] (.int x :: st) h Q := wp_p hc148 dJ3_append_2_17 rfl
theorem e148_18 : wp S (d + 1) 148 18 [a0, a1] (.int x1 :: st) h Q = (am_w8 st ∧ wp S d 178 0 [some (.int x1)] [] h (am_kr S 0 (d + 1) 148 18 [a0, a1] st Q)) := wp_cS [.int x1] hc148 dJ3_append_2_18 ho148 cl13_191 (by decide) ns13_191 hst178 hnp178 hml178 hlsl178 rfl rfl rfl
theorem e148_21 : wp S d 148 21 [a0, a1] (.int x :: st) h Q = if x = 0 then wp S d 148 45 [a0, a1] st h Q else wp S d 148 24 [a0, a1] st h Q := wp_eq hc148 dJ3_append_2_21 rfl
theorem e148_24 : wp S d 148 24 [some (.ref r), a1] st h Q = wp S d 148 25 [some (.ref r), a1] (.ref r :: st) h Q := wp_p hc148 dJ3_append_2_24 rfl
theorem e148_25 : wp S d 148 25 [a0, a1] (.ref r :: st) h Q = am_gfK h r 9 0 (fun w => wp S d 148 28 [a0, a1] (w :: st) h Q) := wp_gf hc148 dJ3_append_2_25 ho148 fl13_15
theorem e148_28 : wp S d 148 28 [some (.ref r), a1] st h Q = wp S d 148 29 [some (.ref r), a1] (.ref r :: st) h Q := wp_p hc148 dJ3_append_2_28 rfl
theorem e148_29 : wp S d 148 29 [a0, a1] (.ref r :: st) h Q = wp S d 148 30 [a0, a1] (.ref r :: .ref r :: st) h Q := wp_p hc148 dJ3_append_2_29 rfl
theorem e148_29i : wp S d 148 29 [a0, a1] (.int x :: st) h Q = wp S d 148 30 [a0, a1] (.int x :: .int x :: st) h Q := wp_p hc148 dJ3_append_2_29 rfl
theorem e148_30 : wp S d 148 30 [a0, a1] (.ref r :: st) h Q = am_gfK h r 9 3 (fun w => wp S d 148 33 [a0, a1] (w :: st) h Q) := wp_gf hc148 dJ3_append_2_30 ho148 fl13_79
theorem e148_33 : wp S d 148 33 [a0, a1] (.int x :: .ref r :: st) h Q = wp S d 148 34 [a0, a1] (.int x :: .ref r :: .int x :: st) h Q := wp_p hc148 dJ3_append_2_33 rfl
theorem e148_34 : wp S d 148 34 [a0, a1] st h Q = wp S d 148 35 [a0, a1] (.int (nI 1) :: st) h Q := wp_p hc148 dJ3_append_2_34 rfl
theorem e148_35 : wp S d 148 35 [a0, a1] (.int y :: .int x :: st) h Q = wp S d 148 36 [a0, a1] (.int (x + y) :: st) h Q := wp_p hc148 dJ3_append_2_35 rfl
theorem e148_36 : wp S d 148 36 [a0, a1] (w :: .ref r :: st) h Q = am_pfK 148 h r 9 3 false w (fun h => wp S d 148 39 [a0, a1] st h Q) := wp_pf hc148 dJ3_append_2_36 ho148 fl13_79
theorem e148_39 : wp S d 148 39 [a0, some (.int x)] st h Q = wp S d 148 40 [a0, some (.int x)] (.int x :: st) h Q := wp_p hc148 dJ3_append_2_39 rfl
theorem e148_40 : wp S d 148 40 [a0, a1] (.int x :: st) h Q = wp S d 148 41 [a0, a1] (.int x.toInt8.toInt32 :: st) h Q := wp_p hc148 dJ3_append_2_40 rfl
theorem e148_41 : wp S d 148 41 [a0, a1] (.int y :: .int x :: .ref r :: st) h Q = am_bsK h r x y (fun h => wp S d 148 42 [a0, a1] st h Q) := wp_bs hc148 dJ3_append_2_41
theorem e148_42 : wp S d 148 42 [a0, a1] st h Q = wp S d 148 75 [a0, a1] st h Q := wp_p hc148 dJ3_append_2_42 rfl
theorem e148_45 : wp S d 148 45 [some (.ref r), a1] st h Q = wp S d 148 46 [some (.ref r), a1] (.ref r :: st) h Q := wp_p hc148 dJ3_append_2_45 rfl
theorem e148_46 : wp S (d + 1) 148 46 [a0, a1] (.ref r0 :: st) h Q = (am_w8 st ∧ am_rcv h 3 147 (.ref r0) = true ∧ wp S d 147 0 [some (.ref r0)] [] h (am_kr S 3 (d + 1) 148 46 [a0, a1] st Q)) := wp_cV (.ref r0) [] hc148 dJ3_append_2_46 ho148 cl13_83 (by decide) ns13_83 hst147 hnp147 hml147 hlsl147 rfl rfl rfl
theorem e148_49 : wp S d 148 49 [a0, a1] (.int x :: st) h Q = if x = 0 then wp S d 148 56 [a0, a1] st h Q else wp S d 148 52 [a0, a1] st h Q := wp_eq hc148 dJ3_append_2_49 rfl
theorem e148_52 : wp S d 148 52 [some (.ref r), a1] st h Q = wp S d 148 53 [some (.ref r), a1] (.ref r :: st) h Q := wp_p hc148 dJ3_append_2_52 rfl
theorem e148_53 : wp S (d + 1) 148 53 [a0, a1] (.ref r0 :: st) h Q = (am_w8 st ∧ am_rcv h 3 149 (.ref r0) = true ∧ wp S d 149 0 [some (.ref r0), none] [] h (am_kr S 3 (d + 1) 148 53 [a0, a1] st Q)) := wp_cV (.ref r0) [] hc148 dJ3_append_2_53 ho148 cl13_195 (by decide) ns13_195 hst149 hnp149 hml149 hlsl149 rfl rfl rfl
theorem e148_56 : wp S d 148 56 [some (.ref r), a1] st h Q = wp S d 148 57 [some (.ref r), a1] (.ref r :: st) h Q := wp_p hc148 dJ3_append_2_56 rfl
theorem e148_57 : wp S d 148 57 [a0, a1] (.ref r :: st) h Q = am_gfK h r 9 0 (fun w => wp S d 148 60 [a0, a1] (w :: st) h Q) := wp_gf hc148 dJ3_append_2_57 ho148 fl13_15
theorem e148_60 : wp S d 148 60 [some (.ref r), a1] st h Q = wp S d 148 61 [some (.ref r), a1] (.ref r :: st) h Q := wp_p hc148 dJ3_append_2_60 rfl
theorem e148_61 : wp S d 148 61 [a0, a1] (.ref r :: st) h Q = wp S d 148 62 [a0, a1] (.ref r :: .ref r :: st) h Q := wp_p hc148 dJ3_append_2_61 rfl
theorem e148_61i : wp S d 148 61 [a0, a1] (.int x :: st) h Q = wp S d 148 62 [a0, a1] (.int x :: .int x :: st) h Q := wp_p hc148 dJ3_append_2_61 rfl
theorem e148_62 : wp S d 148 62 [a0, a1] (.ref r :: st) h Q = am_gfK h r 9 3 (fun w => wp S d 148 65 [a0, a1] (w :: st) h Q) := wp_gf hc148 dJ3_append_2_62 ho148 fl13_79
theorem e148_65 : wp S d 148 65 [a0, a1] (.int x :: .ref r :: st) h Q = wp S d 148 66 [a0, a1] (.int x :: .ref r :: .int x :: st) h Q := wp_p hc148 dJ3_append_2_65 rfl
theorem e148_66 : wp S d 148 66 [a0, a1] st h Q = wp S d 148 67 [a0, a1] (.int (nI 1) :: st) h Q := wp_p hc148 dJ3_append_2_66 rfl
theorem e148_67 : wp S d 148 67 [a0, a1] (.int y :: .int x :: st) h Q = wp S d 148 68 [a0, a1] (.int (x + y) :: st) h Q := wp_p hc148 dJ3_append_2_67 rfl
theorem e148_68 : wp S d 148 68 [a0, a1] (w :: .ref r :: st) h Q = am_pfK 148 h r 9 3 false w (fun h => wp S d 148 71 [a0, a1] st h Q) := wp_pf hc148 dJ3_append_2_68 ho148 fl13_79
theorem e148_71 : wp S d 148 71 [a0, some (.int x)] st h Q = wp S d 148 72 [a0, some (.int x)] (.int x :: st) h Q := wp_p hc148 dJ3_append_2_71 rfl
theorem e148_75 : wp S d 148 75 [some (.ref r), a1] st h Q = wp S d 148 76 [some (.ref r), a1] (.ref r :: st) h Q := wp_p hc148 dJ3_append_2_75 rfl
theorem e148_76 : wp S d 148 76 ls [.ref r] h Q = Q (.inl (some (.ref r)), h) := wp_r hc148 dJ3_append_2_76 rfl rfl ⟨_, rfl, Or.inr ⟨_, rfl⟩, ⟨_, rfl, Or.inl ⟨_, rfl⟩⟩, rfl⟩
theorem e149_0 : wp S d 149 0 [some (.ref r), a1] st h Q = wp S d 149 1 [some (.ref r), a1] (.ref r :: st) h Q := wp_p hc149 dJ3_inflate_0 rfl
theorem e149_1 : wp S (d + 1) 149 1 [a0, a1] (.ref r0 :: st) h Q = (am_w8 st ∧ am_rcv h 3 147 (.ref r0) = true ∧ wp S d 147 0 [some (.ref r0)] [] h (am_kr S 3 (d + 1) 149 1 [a0, a1] st Q)) := wp_cV (.ref r0) [] hc149 dJ3_inflate_1 ho149 cl13_83 (by decide) ns13_83 hst147 hnp147 hml147 hlsl147 rfl rfl rfl
theorem e149_4 : wp S d 149 4 [a0, a1] (.int x :: st) h Q = if x = 0 then wp S d 149 7 [a0, a1] st h Q else wp S d 149 8 [a0, a1] st h Q := wp_ne hc149 dJ3_inflate_4 rfl
theorem e149_7 : wp S d 149 7 ls [] h Q = Q (.inl none, h) := wp_r hc149 dJ3_inflate_7 rfl rfl ⟨rfl, rfl, rfl⟩
theorem e149_8 : wp S d 149 8 [some (.ref r), a1] st h Q = wp S d 149 9 [some (.ref r), a1] (.ref r :: st) h Q := wp_p hc149 dJ3_inflate_8 rfl
theorem e149_9 : wp S d 149 9 [a0, a1] (.ref r :: st) h Q = am_gfK h r 9 0 (fun w => wp S d 149 12 [a0, a1] (w :: st) h Q) := wp_gf hc149 dJ3_inflate_9 ho149 fl13_15
theorem e149_12 : wp S d 149 12 [a0, a1] (.ref r :: st) h Q = am_alK h r (fun n => wp S d 149 13 [a0, a1] (.int (nI n) :: st) h Q) := wp_al hc149 dJ3_inflate_12
theorem e149_16 : wp S d 149 16 [a0, a1] (.ref r :: st) h Q = wp S d 149 17 [a0, some (.ref r)] st h Q := wp_p hc149 dJ3_inflate_16 rfl
theorem e149_17 : wp S d 149 17 [some (.ref r), a1] st h Q = wp S d 149 18 [some (.ref r), a1] (.ref r :: st) h Q := wp_p hc149 dJ3_inflate_17 rfl
theorem e149_18 : wp S d 149 18 [a0, a1] (.ref r :: st) h Q = am_gfK h r 9 0 (fun w => wp S d 149 21 [a0, a1] (w :: st) h Q) := wp_gf hc149 dJ3_inflate_18 ho149 fl13_15
theorem e149_21 : wp S d 149 21 [a0, a1] st h Q = wp S d 149 22 [a0, a1] (.int (nI 0) :: st) h Q := wp_p hc149 dJ3_inflate_21 rfl
theorem e149_22 : wp S d 149 22 [a0, some (.ref r)] st h Q = wp S d 149 23 [a0, some (.ref r)] (.ref r :: st) h Q := wp_p hc149 dJ3_inflate_22 rfl
theorem e149_23 : wp S d 149 23 [a0, a1] st h Q = wp S d 149 24 [a0, a1] (.int (nI 0) :: st) h Q := wp_p hc149 dJ3_inflate_23 rfl
theorem e149_24 : wp S d 149 24 [some (.ref r), a1] st h Q = wp S d 149 25 [some (.ref r), a1] (.ref r :: st) h Q := wp_p hc149 dJ3_inflate_24 rfl
theorem e149_25 : wp S d 149 25 [a0, a1] (.ref r :: st) h Q = am_gfK h r 9 3 (fun w => wp S d 149 28 [a0, a1] (w :: st) h Q) := wp_gf hc149 dJ3_inflate_25 ho149 fl13_79
theorem e149_28 : wp S (d + 1) 149 28 [a0, a1] (.int x5 :: .int x4 :: .ref r3 :: .int x2 :: .ref r1 :: st) h Q = (am_w8 st ∧ wp S d 179 0 [some (.ref r1), some (.int x2), some (.ref r3), some (.int x4), some (.int x5)] [] h (am_kr S 0 (d + 1) 149 28 [a0, a1] st Q)) := wp_cS [.ref r1, .int x2, .ref r3, .int x4, .int x5] hc149 dJ3_inflate_28 ho149 cl13_125 (by decide) ns13_125 hst179 hnp179 hml179 hlsl179 rfl rfl rfl
theorem e149_31 : wp S d 149 31 [some (.ref r), a1] st h Q = wp S d 149 32 [some (.ref r), a1] (.ref r :: st) h Q := wp_p hc149 dJ3_inflate_31 rfl
theorem e149_32 : wp S d 149 32 [a0, some (.ref r)] st h Q = wp S d 149 33 [a0, some (.ref r)] (.ref r :: st) h Q := wp_p hc149 dJ3_inflate_32 rfl
theorem e149_33 : wp S d 149 33 [a0, a1] (w :: .ref r :: st) h Q = am_pfK 149 h r 9 0 false w (fun h => wp S d 149 36 [a0, a1] st h Q) := wp_pf hc149 dJ3_inflate_33 ho149 fl13_15
theorem e149_36 : wp S d 149 36 [some (.ref r), a1] st h Q = wp S d 149 37 [some (.ref r), a1] (.ref r :: st) h Q := wp_p hc149 dJ3_inflate_36 rfl
theorem e149_37 : wp S d 149 37 [a0, a1] st h Q = wp S d 149 38 [a0, a1] (.int (nI 1) :: st) h Q := wp_p hc149 dJ3_inflate_37 rfl
theorem e149_38 : wp S d 149 38 [a0, a1] (w :: .ref r :: st) h Q = am_pfK 149 h r 9 1 false w (fun h => wp S d 149 41 [a0, a1] st h Q) := wp_pf hc149 dJ3_inflate_38 ho149 fl13_22
theorem e149_41 : wp S d 149 41 ls [] h Q = Q (.inl none, h) := wp_r hc149 dJ3_inflate_41 rfl rfl ⟨rfl, rfl, rfl⟩
theorem e150_0 : wp S d 150 0 [a0, some (.ref r), a2] st h Q = wp S d 150 1 [a0, some (.ref r), a2] (.ref r :: st) h Q := wp_p hc150 dJ3_append_3_0 rfl
theorem e150_0n : wp S d 150 0 [a0, some (.null), a2] st h Q = wp S d 150 1 [a0, some (.null), a2] (.null :: st) h Q := wp_p hc150 dJ3_append_3_0 rfl
theorem e150_0k : wp S d 150 0 [a0, some (.retAddr r), a2] st h Q = wp S d 150 1 [a0, some (.retAddr r), a2] (.retAddr r :: st) h Q := wp_p hc150 dJ3_append_3_0 rfl
theorem e150_1 : wp S d 150 1 [a0, a1, a2] (.ref r :: st) h Q = wp S d 150 9 [a0, a1, a2] st h Q := wp_p hc150 dJ3_append_3_1 rfl
theorem e150_1n : wp S d 150 1 [a0, a1, a2] (.null :: st) h Q = wp S d 150 4 [a0, a1, a2] st h Q := wp_p hc150 dJ3_append_3_1 rfl
theorem e150_1k (hr : r < 10) : wp S d 150 1 [a0, a1, a2] (.retAddr r :: st) h Q = wp S d 150 9 [a0, a1, a2] st h Q := wp_p hc150 dJ3_append_3_1 (if_pos hr)
theorem e150_4 : wp S d 150 4 [some (.ref r), a1, a2] st h Q = wp S d 150 5 [some (.ref r), a1, a2] (.ref r :: st) h Q := wp_p hc150 dJ3_append_3_4 rfl
theorem e150_5 : wp S (d + 1) 150 5 [a0, a1, a2] (.ref r0 :: st) h Q = (am_w8 st ∧ am_rcv h 3 151 (.ref r0) = true ∧ wp S d 151 0 [some (.ref r0), none, none] [] h (am_kr S 3 (d + 1) 150 5 [a0, a1, a2] st Q)) := wp_cV (.ref r0) [] hc150 dJ3_append_3_5 ho150 cl13_204 (by decide) ns13_204 hst151 hnp151 hml151 hlsl151 rfl rfl rfl
theorem e150_8 : wp S d 150 8 ls [.ref r] h Q = Q (.inl (some (.ref r)), h) := wp_r hc150 dJ3_append_3_8 rfl rfl ⟨_, rfl, Or.inr ⟨_, rfl⟩, ⟨_, rfl, Or.inl ⟨_, rfl⟩⟩, rfl⟩
theorem e150_9 : wp S d 150 9 [a0, some (.ref r), a2] st h Q = wp S d 150 10 [a0, some (.ref r), a2] (.ref r :: st) h Q := wp_p hc150 dJ3_append_3_9 rfl
theorem e150_9n : wp S d 150 9 [a0, some (.null), a2] st h Q = wp S d 150 10 [a0, some (.null), a2] (.null :: st) h Q := wp_p hc150 dJ3_append_3_9 rfl
theorem e150_9k : wp S d 150 9 [a0, some (.retAddr r), a2] st h Q = wp S d 150 10 [a0, some (.retAddr r), a2] (.retAddr r :: st) h Q := wp_p hc150 dJ3_append_3_9 rfl
theorem e150_10 : wp S (d + 1) 150 10 [a0, a1, a2] (.ref r0 :: st) h Q = (am_w8 st ∧ am_rcv h 2 167 (.ref r0) = true ∧ wp S d 167 0 [some (.ref r0)] [] h (am_kr S 2 (d + 1) 150 10 [a0, a1, a2] st Q)) := wp_cV (.ref r0) [] hc150 dJ3_append_3_10 ho150 cl13_32 (by decide) ns13_32 hst167 hnp167 hml167 hlsl167 rfl rfl rfl
theorem e150_10k : wp S (d + 1) 150 10 [a0, a1, a2] (.retAddr r0 :: st) h Q = (am_w8 st ∧ am_rcv h 2 167 (.retAddr r0) = true ∧ wp S d 167 0 [some (.retAddr r0)] [] h (am_kr S 2 (d + 1) 150 10 [a0, a1, a2] st Q)) := wp_cV (.retAddr r0) [] hc150 dJ3_append_3_10 ho150 cl13_32 (by decide) ns13_32 hst167 hnp167 hml167 hlsl167 rfl rfl rfl
theorem e150_13 : wp S d 150 13 [a0, a1, a2] (.int x :: st) h Q = wp S d 150 14 [a0, a1, some (.int x)] st h Q := wp_p hc150 dJ3_append_3_13 rfl
theorem e150_14 : wp S d 150 14 [some (.ref r), a1, a2] st h Q = wp S d 150 15 [some (.ref r), a1, a2] (.ref r :: st) h Q := wp_p hc150 dJ3_append_3_14 rfl
theorem e150_15 : wp S d 150 15 [some (.ref r), a1, a2] st h Q = wp S d 150 16 [some (.ref r), a1, a2] (.ref r :: st) h Q := wp_p hc150 dJ3_append_3_15 rfl
theorem e150_16 : wp S d 150 16 [a0, a1, a2] (.ref r :: st) h Q = am_gfK h r 9 3 (fun w => wp S d 150 19 [a0, a1, a2] (w :: st) h Q) := wp_gf hc150 dJ3_append_3_16 ho150 fl13_79
theorem e150_19 : wp S d 150 19 [a0, a1, some (.int x)] st h Q = wp S d 150 20 [a0, a1, some (.int x)] (.int x :: st) h Q := wp_p hc150 dJ3_append_3_19 rfl
theorem e150_20 : wp S d 150 20 [a0, a1, a2] (.int y :: .int x :: st) h Q = wp S d 150 21 [a0, a1, a2] (.int (x + y) :: st) h Q := wp_p hc150 dJ3_append_3_20 rfl
theorem e150_21 : wp S (d + 1) 150 21 [a0, a1, a2] (.int x1 :: .ref r0 :: st) h Q = (am_w8 st ∧ am_rcv h 3 145 (.ref r0) = true ∧ wp S d 145 0 [some (.ref r0), some (.int x1), none] [] h (am_kr S 3 (d + 1) 150 21 [a0, a1, a2] st Q)) := wp_cV (.ref r0) [.int x1] hc150 dJ3_append_3_21 ho150 cl13_100 (by decide) ns13_100 hst145 hnp145 hml145 hlsl145 rfl rfl rfl
theorem e150_24 : wp S d 150 24 [some (.ref r), a1, a2] st h Q = wp S d 150 25 [some (.ref r), a1, a2] (.ref r :: st) h Q := wp_p hc150 dJ3_append_3_24 rfl
theorem e150_25 : wp S d 150 25 [some (.ref r), a1, a2] st h Q = wp S d 150 26 [some (.ref r), a1, a2] (.ref r :: st) h Q := wp_p hc150 dJ3_append_3_25 rfl
theorem e150_26 : wp S d 150 26 [a0, a1, a2] (.ref r :: st) h Q = am_gfK h r 9 3 (fun w => wp S d 150 29 [a0, a1, a2] (w :: st) h Q) := wp_gf hc150 dJ3_append_3_26 ho150 fl13_79
theorem e150_29 : wp S d 150 29 [a0, some (.ref r), a2] st h Q = wp S d 150 30 [a0, some (.ref r), a2] (.ref r :: st) h Q := wp_p hc150 dJ3_append_3_29 rfl
theorem e150_29n : wp S d 150 29 [a0, some (.null), a2] st h Q = wp S d 150 30 [a0, some (.null), a2] (.null :: st) h Q := wp_p hc150 dJ3_append_3_29 rfl
theorem e150_29k : wp S d 150 29 [a0, some (.retAddr r), a2] st h Q = wp S d 150 30 [a0, some (.retAddr r), a2] (.retAddr r :: st) h Q := wp_p hc150 dJ3_append_3_29 rfl
theorem e150_30 : wp S (d + 1) 150 30 [a0, a1, a2] (.ref r2 :: .int x1 :: .ref r0 :: st) h Q = (am_w8 st ∧ am_rcv h 3 152 (.ref r0) = true ∧ wp S d 152 0 [some (.ref r0), some (.int x1), some (.ref r2)] [] h (am_kr S 3 (d + 1) 150 30 [a0, a1, a2] st Q)) := wp_cV (.ref r0) [.int x1, .ref r2] hc150 dJ3_append_3_30 ho150 cl13_208 (by decide) ns13_208 hst152 hnp152 hml152 hlsl152 rfl rfl rfl
theorem e150_30k : wp S (d + 1) 150 30 [a0, a1, a2] (.retAddr r2 :: .int x1 :: .ref r0 :: st) h Q = (am_w8 st ∧ am_rcv h 3 152 (.ref r0) = true ∧ wp S d 152 0 [some (.ref r0), some (.int x1), some (.retAddr r2)] [] h (am_kr S 3 (d + 1) 150 30 [a0, a1, a2] st Q)) := wp_cV (.ref r0) [.int x1, .retAddr r2] hc150 dJ3_append_3_30 ho150 cl13_208 (by decide) ns13_208 hst152 hnp152 hml152 hlsl152 rfl rfl rfl
theorem e150_33 : wp S d 150 33 [some (.ref r), a1, a2] st h Q = wp S d 150 34 [some (.ref r), a1, a2] (.ref r :: st) h Q := wp_p hc150 dJ3_append_3_33 rfl
theorem e150_34 : wp S d 150 34 [a0, a1, a2] (.ref r :: st) h Q = wp S d 150 35 [a0, a1, a2] (.ref r :: .ref r :: st) h Q := wp_p hc150 dJ3_append_3_34 rfl
theorem e150_34i : wp S d 150 34 [a0, a1, a2] (.int x :: st) h Q = wp S d 150 35 [a0, a1, a2] (.int x :: .int x :: st) h Q := wp_p hc150 dJ3_append_3_34 rfl
theorem e150_35 : wp S d 150 35 [a0, a1, a2] (.ref r :: st) h Q = am_gfK h r 9 3 (fun w => wp S d 150 38 [a0, a1, a2] (w :: st) h Q) := wp_gf hc150 dJ3_append_3_35 ho150 fl13_79
theorem e150_38 : wp S d 150 38 [a0, a1, some (.int x)] st h Q = wp S d 150 39 [a0, a1, some (.int x)] (.int x :: st) h Q := wp_p hc150 dJ3_append_3_38 rfl
theorem e150_39 : wp S d 150 39 [a0, a1, a2] (.int y :: .int x :: st) h Q = wp S d 150 40 [a0, a1, a2] (.int (x + y) :: st) h Q := wp_p hc150 dJ3_append_3_39 rfl
theorem e150_40 : wp S d 150 40 [a0, a1, a2] (w :: .ref r :: st) h Q = am_pfK 150 h r 9 3 false w (fun h => wp S d 150 43 [a0, a1, a2] st h Q) := wp_pf hc150 dJ3_append_3_40 ho150 fl13_79
theorem e150_43 : wp S d 150 43 [some (.ref r), a1, a2] st h Q = wp S d 150 44 [some (.ref r), a1, a2] (.ref r :: st) h Q := wp_p hc150 dJ3_append_3_43 rfl
theorem e150_44 : wp S d 150 44 ls [.ref r] h Q = Q (.inl (some (.ref r)), h) := wp_r hc150 dJ3_append_3_44 rfl rfl ⟨_, rfl, Or.inr ⟨_, rfl⟩, ⟨_, rfl, Or.inl ⟨_, rfl⟩⟩, rfl⟩
theorem e151_0 : wp S d 151 0 [some (.ref r), a1, a2] st h Q = wp S d 151 1 [some (.ref r), a1, a2] (.ref r :: st) h Q := wp_p hc151 dJ3_appendNull_0 rfl
theorem e151_1 : wp S d 151 1 [some (.ref r), a1, a2] st h Q = wp S d 151 2 [some (.ref r), a1, a2] (.ref r :: st) h Q := wp_p hc151 dJ3_appendNull_1 rfl
theorem e151_2 : wp S d 151 2 [a0, a1, a2] (.ref r :: st) h Q = am_gfK h r 9 3 (fun w => wp S d 151 5 [a0, a1, a2] (w :: st) h Q) := wp_gf hc151 dJ3_appendNull_2 ho151 fl13_79
theorem e151_5 : wp S d 151 5 [a0, a1, a2] st h Q = wp S d 151 6 [a0, a1, a2] (.int (nI 4) :: st) h Q := wp_p hc151 dJ3_appendNull_5 rfl
theorem e151_6 : wp S d 151 6 [a0, a1, a2] (.int y :: .int x :: st) h Q = wp S d 151 7 [a0, a1, a2] (.int (x + y) :: st) h Q := wp_p hc151 dJ3_appendNull_6 rfl
theorem e151_7 : wp S (d + 1) 151 7 [a0, a1, a2] (.int x1 :: .ref r0 :: st) h Q = (am_w8 st ∧ am_rcv h 3 145 (.ref r0) = true ∧ wp S d 145 0 [some (.ref r0), some (.int x1), none] [] h (am_kr S 3 (d + 1) 151 7 [a0, a1, a2] st Q)) := wp_cV (.ref r0) [.int x1] hc151 dJ3_appendNull_7 ho151 cl13_100 (by decide) ns13_100 hst145 hnp145 hml145 hlsl145 rfl rfl rfl
theorem e151_10 : wp S d 151 10 [some (.ref r), a1, a2] st h Q = wp S d 151 11 [some (.ref r), a1, a2] (.ref r :: st) h Q := wp_p hc151 dJ3_appendNull_10 rfl
theorem e151_11 : wp S d 151 11 [a0, a1, a2] (.ref r :: st) h Q = am_gfK h r 9 3 (fun w => wp S d 151 14 [a0, a1, a2] (w :: st) h Q) := wp_gf hc151 dJ3_appendNull_11 ho151 fl13_79
theorem e151_14 : wp S d 151 14 [a0, a1, a2] (.int x :: st) h Q = wp S d 151 15 [a0, some (.int x), a2] st h Q := wp_p hc151 dJ3_appendNull_14 rfl
theorem e151_15 : wp S d 151 15 [some (.ref r), a1, a2] st h Q = wp S d 151 16 [some (.ref r), a1, a2] (.ref r :: st) h Q := wp_p hc151 dJ3_appendNull_15 rfl
theorem e151_16 : wp S d 151 16 [a0, a1, a2] (.ref r :: st) h Q = am_gfK h r 9 0 (fun w => wp S d 151 19 [a0, a1, a2] (w :: st) h Q) := wp_gf hc151 dJ3_appendNull_16 ho151 fl13_15
theorem e151_19 : wp S d 151 19 [a0, a1, a2] (.ref r :: st) h Q = wp S d 151 20 [a0, a1, some (.ref r)] st h Q := wp_p hc151 dJ3_appendNull_19 rfl
theorem e151_20 : wp S d 151 20 [some (.ref r), a1, a2] st h Q = wp S d 151 21 [some (.ref r), a1, a2] (.ref r :: st) h Q := wp_p hc151 dJ3_appendNull_20 rfl
theorem e151_21 : wp S (d + 1) 151 21 [a0, a1, a2] (.ref r0 :: st) h Q = (am_w8 st ∧ am_rcv h 3 147 (.ref r0) = true ∧ wp S d 147 0 [some (.ref r0)] [] h (am_kr S 3 (d + 1) 151 21 [a0, a1, a2] st Q)) := wp_cV (.ref r0) [] hc151 dJ3_appendNull_21 ho151 cl13_83 (by decide) ns13_83 hst147 hnp147 hml147 hlsl147 rfl rfl rfl
theorem e151_24 : wp S d 151 24 [a0, a1, a2] (.int x :: st) h Q = if x = 0 then wp S d 151 62 [a0, a1, a2] st h Q else wp S d 151 27 [a0, a1, a2] st h Q := wp_eq hc151 dJ3_appendNull_24 rfl
theorem e151_27 : wp S d 151 27 [a0, a1, some (.ref r)] st h Q = wp S d 151 28 [a0, a1, some (.ref r)] (.ref r :: st) h Q := wp_p hc151 dJ3_appendNull_27 rfl
theorem e151_28 : wp S d 151 28 [a0, some (.int x), a2] st h Q = wp S d 151 29 [a0, some (.int x), a2] (.int x :: st) h Q := wp_p hc151 dJ3_appendNull_28 rfl
theorem e151_29 : wp S d 151 29 [a0, some (.int x), a2] st h Q = wp S d 151 32 [a0, some (.int (x + nI 1)), a2] st h Q := wp_p hc151 dJ3_appendNull_29 rfl
theorem e151_32 : wp S d 151 32 [a0, a1, a2] st h Q = wp S d 151 34 [a0, a1, a2] (.int (nI 110) :: st) h Q := wp_p hc151 dJ3_appendNull_32 rfl
theorem e151_34 : wp S d 151 34 [a0, a1, a2] (.int y :: .int x :: .ref r :: st) h Q = am_bsK h r x y (fun h => wp S d 151 35 [a0, a1, a2] st h Q) := wp_bs hc151 dJ3_appendNull_34
theorem e151_35 : wp S d 151 35 [a0, a1, some (.ref r)] st h Q = wp S d 151 36 [a0, a1, some (.ref r)] (.ref r :: st) h Q := wp_p hc151 dJ3_appendNull_35 rfl
theorem e151_36 : wp S d 151 36 [a0, some (.int x), a2] st h Q = wp S d 151 37 [a0, some (.int x), a2] (.int x :: st) h Q := wp_p hc151 dJ3_appendNull_36 rfl
theorem e151_37 : wp S d 151 37 [a0, some (.int x), a2] st h Q = wp S d 151 40 [a0, some (.int (x + nI 1)), a2] st h Q := wp_p hc151 dJ3_appendNull_37 rfl
theorem e151_40 : wp S d 151 40 [a0, a1, a2] st h Q = wp S d 151 42 [a0, a1, a2] (.int (nI 117) :: st) h Q := wp_p hc151 dJ3_appendNull_40 rfl
theorem e151_42 : wp S d 151 42 [a0, a1, a2] (.int y :: .int x :: .ref r :: st) h Q = am_bsK h r x y (fun h => wp S d 151 43 [a0, a1, a2] st h Q) := wp_bs hc151 dJ3_appendNull_42
theorem e151_43 : wp S d 151 43 [a0, a1, some (.ref r)] st h Q = wp S d 151 44 [a0, a1, some (.ref r)] (.ref r :: st) h Q := wp_p hc151 dJ3_appendNull_43 rfl
theorem e151_44 : wp S d 151 44 [a0, some (.int x), a2] st h Q = wp S d 151 45 [a0, some (.int x), a2] (.int x :: st) h Q := wp_p hc151 dJ3_appendNull_44 rfl
theorem e151_45 : wp S d 151 45 [a0, some (.int x), a2] st h Q = wp S d 151 48 [a0, some (.int (x + nI 1)), a2] st h Q := wp_p hc151 dJ3_appendNull_45 rfl
theorem e151_48 : wp S d 151 48 [a0, a1, a2] st h Q = wp S d 151 50 [a0, a1, a2] (.int (nI 108) :: st) h Q := wp_p hc151 dJ3_appendNull_48 rfl
theorem e151_50 : wp S d 151 50 [a0, a1, a2] (.int y :: .int x :: .ref r :: st) h Q = am_bsK h r x y (fun h => wp S d 151 51 [a0, a1, a2] st h Q) := wp_bs hc151 dJ3_appendNull_50
theorem e151_51 : wp S d 151 51 [a0, a1, some (.ref r)] st h Q = wp S d 151 52 [a0, a1, some (.ref r)] (.ref r :: st) h Q := wp_p hc151 dJ3_appendNull_51 rfl
theorem e151_52 : wp S d 151 52 [a0, some (.int x), a2] st h Q = wp S d 151 53 [a0, some (.int x), a2] (.int x :: st) h Q := wp_p hc151 dJ3_appendNull_52 rfl
theorem e151_53 : wp S d 151 53 [a0, some (.int x), a2] st h Q = wp S d 151 56 [a0, some (.int (x + nI 1)), a2] st h Q := wp_p hc151 dJ3_appendNull_53 rfl
theorem e151_56 : wp S d 151 56 [a0, a1, a2] st h Q = wp S d 151 58 [a0, a1, a2] (.int (nI 108) :: st) h Q := wp_p hc151 dJ3_appendNull_56 rfl
theorem e151_58 : wp S d 151 58 [a0, a1, a2] (.int y :: .int x :: .ref r :: st) h Q = am_bsK h r x y (fun h => wp S d 151 59 [a0, a1, a2] st h Q) := wp_bs hc151 dJ3_appendNull_58
theorem e151_59 : wp S d 151 59 [a0, a1, a2] st h Q = wp S d 151 76 [a0, a1, a2] st h Q := wp_p hc151 dJ3_appendNull_59 rfl
theorem e151_62 : wp S d 151 62 [a0, a1, some (.ref r)] st h Q = wp S d 151 63 [a0, a1, some (.ref r)] (.ref r :: st) h Q := wp_p hc151 dJ3_appendNull_62 rfl
theorem e151_63 : wp S d 151 63 [a0, some (.int x), a2] st h Q = wp S d 151 64 [a0, some (.int x), a2] (.int x :: st) h Q := wp_p hc151 dJ3_appendNull_63 rfl
theorem e151_64 : wp S d 151 64 [a0, a1, a2] st h Q = wp S d 151 66 [a0, a1, a2] (.int (nI 110) :: st) h Q := wp_p hc151 dJ3_appendNull_64 rfl
theorem e151_66 : wp S d 151 66 [a0, a1, a2] st h Q = wp S d 151 68 [a0, a1, a2] (.int (nI 117) :: st) h Q := wp_p hc151 dJ3_appendNull_66 rfl
theorem e151_68 : wp S d 151 68 [a0, a1, a2] st h Q = wp S d 151 70 [a0, a1, a2] (.int (nI 108) :: st) h Q := wp_p hc151 dJ3_appendNull_68 rfl
theorem e151_70 : wp S d 151 70 [a0, a1, a2] st h Q = wp S d 151 72 [a0, a1, a2] (.int (nI 108) :: st) h Q := wp_p hc151 dJ3_appendNull_70 rfl
theorem e151_75 : wp S d 151 75 [a0, a1, a2] (.int x :: st) h Q = wp S d 151 76 [a0, some (.int x), a2] st h Q := wp_p hc151 dJ3_appendNull_75 rfl
theorem e151_76 : wp S d 151 76 [some (.ref r), a1, a2] st h Q = wp S d 151 77 [some (.ref r), a1, a2] (.ref r :: st) h Q := wp_p hc151 dJ3_appendNull_76 rfl
theorem e151_77 : wp S d 151 77 [a0, some (.int x), a2] st h Q = wp S d 151 78 [a0, some (.int x), a2] (.int x :: st) h Q := wp_p hc151 dJ3_appendNull_77 rfl
theorem e151_78 : wp S d 151 78 [a0, a1, a2] (w :: .ref r :: st) h Q = am_pfK 151 h r 9 3 false w (fun h => wp S d 151 81 [a0, a1, a2] st h Q) := wp_pf hc151 dJ3_appendNull_78 ho151 fl13_79
theorem e151_81 : wp S d 151 81 [some (.ref r), a1, a2] st h Q = wp S d 151 82 [some (.ref r), a1, a2] (.ref r :: st) h Q := wp_p hc151 dJ3_appendNull_81 rfl
theorem e151_82 : wp S d 151 82 ls [.ref r] h Q = Q (.inl (some (.ref r)), h) := wp_r hc151 dJ3_appendNull_82 rfl rfl ⟨_, rfl, Or.inr ⟨_, rfl⟩, ⟨_, rfl, Or.inl ⟨_, rfl⟩⟩, rfl⟩
theorem e152_0 : wp S d 152 0 [some (.ref r), a1, a2] st h Q = wp S d 152 1 [some (.ref r), a1, a2] (.ref r :: st) h Q := wp_p hc152 dJ3_putStringAt_0 rfl
theorem e152_1 : wp S d 152 1 [a0, a1, some (.ref r)] st h Q = wp S d 152 2 [a0, a1, some (.ref r)] (.ref r :: st) h Q := wp_p hc152 dJ3_putStringAt_1 rfl
theorem e152_1n : wp S d 152 1 [a0, a1, some (.null)] st h Q = wp S d 152 2 [a0, a1, some (.null)] (.null :: st) h Q := wp_p hc152 dJ3_putStringAt_1 rfl
theorem e152_1k : wp S d 152 1 [a0, a1, some (.retAddr r)] st h Q = wp S d 152 2 [a0, a1, some (.retAddr r)] (.retAddr r :: st) h Q := wp_p hc152 dJ3_putStringAt_1 rfl
theorem e152_2 : wp S (d + 1) 152 2 [a0, a1, a2] (.ref r1 :: .ref r0 :: st) h Q = (am_w8 st ∧ am_rcv h 3 153 (.ref r0) = true ∧ wp S d 153 0 [some (.ref r0), some (.ref r1)] [] h (am_kr S 3 (d + 1) 152 2 [a0, a1, a2] st Q)) := wp_cV (.ref r0) [.ref r1] hc152 dJ3_putStringAt_2 ho152 cl13_397 (by decide) ns13_397 hst153 hnp153 hml153 hlsl153 rfl rfl rfl
theorem e152_2k : wp S (d + 1) 152 2 [a0, a1, a2] (.retAddr r1 :: .ref r0 :: st) h Q = (am_w8 st ∧ am_rcv h 3 153 (.ref r0) = true ∧ wp S d 153 0 [some (.ref r0), some (.retAddr r1)] [] h (am_kr S 3 (d + 1) 152 2 [a0, a1, a2] st Q)) := wp_cV (.ref r0) [.retAddr r1] hc152 dJ3_putStringAt_2 ho152 cl13_397 (by decide) ns13_397 hst153 hnp153 hml153 hlsl153 rfl rfl rfl
theorem e152_5 : wp S d 152 5 [a0, a1, some (.ref r)] st h Q = wp S d 152 6 [a0, a1, some (.ref r)] (.ref r :: st) h Q := wp_p hc152 dJ3_putStringAt_5 rfl
theorem e152_5n : wp S d 152 5 [a0, a1, some (.null)] st h Q = wp S d 152 6 [a0, a1, some (.null)] (.null :: st) h Q := wp_p hc152 dJ3_putStringAt_5 rfl
theorem e152_5k : wp S d 152 5 [a0, a1, some (.retAddr r)] st h Q = wp S d 152 6 [a0, a1, some (.retAddr r)] (.retAddr r :: st) h Q := wp_p hc152 dJ3_putStringAt_5 rfl
theorem e152_6 : wp S d 152 6 [some (.ref r), a1, a2] st h Q = wp S d 152 7 [some (.ref r), a1, a2] (.ref r :: st) h Q := wp_p hc152 dJ3_putStringAt_6 rfl
theorem e152_7 : wp S d 152 7 [a0, a1, a2] (.ref r :: st) h Q = am_gfK h r 9 0 (fun w => wp S d 152 10 [a0, a1, a2] (w :: st) h Q) := wp_gf hc152 dJ3_putStringAt_7 ho152 fl13_15
theorem e152_10 : wp S d 152 10 [a0, some (.int x), a2] st h Q = wp S d 152 11 [a0, some (.int x), a2] (.int x :: st) h Q := wp_p hc152 dJ3_putStringAt_10 rfl
theorem e152_11 : wp S d 152 11 [some (.ref r), a1, a2] st h Q = wp S d 152 12 [some (.ref r), a1, a2] (.ref r :: st) h Q := wp_p hc152 dJ3_putStringAt_11 rfl
theorem e152_12 : wp S d 152 12 [a0, a1, a2] (.ref r :: st) h Q = am_gfK h r 9 1 (fun w => wp S d 152 15 [a0, a1, a2] (w :: st) h Q) := wp_gf hc152 dJ3_putStringAt_12 ho152 fl13_22
theorem e152_15 : wp S (d + 1) 152 15 [a0, a1, a2] (.int x3 :: .int x2 :: .ref r1 :: .ref r0 :: st) h Q = (am_w8 st ∧ am_rcv h 2 169 (.ref r0) = true ∧ wp S d 169 0 [some (.ref r0), some (.ref r1), some (.int x2), some (.int x3)] [] h (am_kr S 2 (d + 1) 152 15 [a0, a1, a2] st Q)) := wp_cV (.ref r0) [.ref r1, .int x2, .int x3] hc152 dJ3_putStringAt_15 ho152 cl13_399 (by decide) ns13_399 hst169 hnp169 hml169 hlsl169 rfl rfl rfl
theorem e152_15k : wp S (d + 1) 152 15 [a0, a1, a2] (.int x3 :: .int x2 :: .ref r1 :: .retAddr r0 :: st) h Q = (am_w8 st ∧ am_rcv h 2 169 (.retAddr r0) = true ∧ wp S d 169 0 [some (.retAddr r0), some (.ref r1), some (.int x2), some (.int x3)] [] h (am_kr S 2 (d + 1) 152 15 [a0, a1, a2] st Q)) := wp_cV (.retAddr r0) [.ref r1, .int x2, .int x3] hc152 dJ3_putStringAt_15 ho152 cl13_399 (by decide) ns13_399 hst169 hnp169 hml169 hlsl169 rfl rfl rfl
theorem e152_18 : wp S d 152 18 ls [] h Q = Q (.inl none, h) := wp_r hc152 dJ3_putStringAt_18 rfl rfl ⟨rfl, rfl, rfl⟩
theorem e153_0 : wp S d 153 0 [a0, a1] st h Q = wp S d 153 3 [a0, a1] (.int (nI 1) :: st) h Q := wp_gs hc153 dJ3_inflateIfNeededFor_0 ho153 gs13_18
theorem e153_3 : wp S d 153 3 [a0, a1] (.int x :: st) h Q = if x = 0 then wp S d 153 21 [a0, a1] st h Q else wp S d 153 6 [a0, a1] st h Q := wp_eq hc153 dJ3_inflateIfNeededFor_3 rfl
theorem e153_6 : wp S d 153 6 [some (.ref r), a1] st h Q = wp S d 153 7 [some (.ref r), a1] (.ref r :: st) h Q := wp_p hc153 dJ3_inflateIfNeededFor_6 rfl
theorem e153_7 : wp S d 153 7 [a0, a1] (.ref r :: st) h Q = am_gfK h r 9 1 (fun w => wp S d 153 10 [a0, a1] (w :: st) h Q) := wp_gf hc153 dJ3_inflateIfNeededFor_7 ho153 fl13_22
theorem e153_10 : wp S d 153 10 [a0, some (.ref r)] st h Q = wp S d 153 11 [a0, some (.ref r)] (.ref r :: st) h Q := wp_p hc153 dJ3_inflateIfNeededFor_10 rfl
theorem e153_10n : wp S d 153 10 [a0, some (.null)] st h Q = wp S d 153 11 [a0, some (.null)] (.null :: st) h Q := wp_p hc153 dJ3_inflateIfNeededFor_10 rfl
theorem e153_10k : wp S d 153 10 [a0, some (.retAddr r)] st h Q = wp S d 153 11 [a0, some (.retAddr r)] (.retAddr r :: st) h Q := wp_p hc153 dJ3_inflateIfNeededFor_10 rfl
theorem e153_11 : wp S (d + 1) 153 11 [a0, a1] (.ref r0 :: st) h Q = (am_w8 st ∧ am_rcv h 2 168 (.ref r0) = true ∧ wp S d 168 0 [some (.ref r0)] [] h (am_kr S 2 (d + 1) 153 11 [a0, a1] st Q)) := wp_cV (.ref r0) [] hc153 dJ3_inflateIfNeededFor_11 ho153 cl13_40 (by decide) ns13_40 hst168 hnp168 hml168 hlsl168 rfl rfl rfl
theorem e153_11k : wp S (d + 1) 153 11 [a0, a1] (.retAddr r0 :: st) h Q = (am_w8 st ∧ am_rcv h 2 168 (.retAddr r0) = true ∧ wp S d 168 0 [some (.retAddr r0)] [] h (am_kr S 2 (d + 1) 153 11 [a0, a1] st Q)) := wp_cV (.retAddr r0) [] hc153 dJ3_inflateIfNeededFor_11 ho153 cl13_40 (by decide) ns13_40 hst168 hnp168 hml168 hlsl168 rfl rfl rfl
theorem e153_14 : wp S d 153 14 [a0, a1] (.int y :: .int x :: st) h Q = if x = y then wp S d 153 21 [a0, a1] st h Q else wp S d 153 17 [a0, a1] st h Q := wp_eq hc153 dJ3_inflateIfNeededFor_14 rfl
theorem e153_17 : wp S d 153 17 [some (.ref r), a1] st h Q = wp S d 153 18 [some (.ref r), a1] (.ref r :: st) h Q := wp_p hc153 dJ3_inflateIfNeededFor_17 rfl
theorem e153_18 : wp S (d + 1) 153 18 [a0, a1] (.ref r0 :: st) h Q = (am_w8 st ∧ am_rcv h 3 149 (.ref r0) = true ∧ wp S d 149 0 [some (.ref r0), none] [] h (am_kr S 3 (d + 1) 153 18 [a0, a1] st Q)) := wp_cV (.ref r0) [] hc153 dJ3_inflateIfNeededFor_18 ho153 cl13_195 (by decide) ns13_195 hst149 hnp149 hml149 hlsl149 rfl rfl rfl
theorem e153_21 : wp S d 153 21 ls [] h Q = Q (.inl none, h) := wp_r hc153 dJ3_inflateIfNeededFor_21 rfl rfl ⟨rfl, rfl, rfl⟩
theorem e154_0 : wp S d 154 0 [some (.ref r)] st h Q = wp S d 154 1 [some (.ref r)] (.ref r :: st) h Q := wp_p hc154 dJ3_length_0 rfl
theorem e154_1 : wp S d 154 1 [a0] (.ref r :: st) h Q = am_gfK h r 9 3 (fun w => wp S d 154 4 [a0] (w :: st) h Q) := wp_gf hc154 dJ3_length_1 ho154 fl13_79
theorem e154_4 : wp S d 154 4 ls [.int x] h Q = Q (.inl (some (.int x)), h) := wp_r hc154 dJ3_length_4 rfl rfl ⟨x, _, rfl, rfl, rfl, rfl⟩
theorem e155_0 : wp S d 155 0 [some (.ref r), a1, a2, a3, a4] st h Q = wp S d 155 1 [some (.ref r), a1, a2, a3, a4] (.ref r :: st) h Q := wp_p hc155 dJ3_charAt_0 rfl
theorem e155_1 : wp S d 155 1 [a0, a1, a2, a3, a4] (.ref r :: st) h Q = am_gfK h r 9 1 (fun w => wp S d 155 4 [a0, a1, a2, a3, a4] (w :: st) h Q) := wp_gf hc155 dJ3_charAt_1 ho155 fl13_22
theorem e155_4 : wp S d 155 4 [a0, a1, a2, a3, a4] (.int x :: st) h Q = wp S d 155 5 [a0, a1, some (.int x), a3, a4] st h Q := wp_p hc155 dJ3_charAt_4 rfl
theorem e155_5 : wp S d 155 5 [some (.ref r), a1, a2, a3, a4] st h Q = wp S d 155 6 [some (.ref r), a1, a2, a3, a4] (.ref r :: st) h Q := wp_p hc155 dJ3_charAt_5 rfl
theorem e155_6 : wp S d 155 6 [a0, a1, a2, a3, a4] (.ref r :: st) h Q = am_gfK h r 9 0 (fun w => wp S d 155 9 [a0, a1, a2, a3, a4] (w :: st) h Q) := wp_gf hc155 dJ3_charAt_6 ho155 fl13_15
theorem e155_9 : wp S d 155 9 [a0, a1, a2, a3, a4] (.ref r :: st) h Q = wp S d 155 10 [a0, a1, a2, some (.ref r), a4] st h Q := wp_p hc155 dJ3_charAt_9 rfl
theorem e155_10 : wp S d 155 10 [some (.ref r), a1, a2, a3, a4] st h Q = wp S d 155 11 [some (.ref r), a1, a2, a3, a4] (.ref r :: st) h Q := wp_p hc155 dJ3_charAt_10 rfl
theorem e155_11 : wp S d 155 11 [a0, a1, a2, a3, a4] (.ref r :: st) h Q = am_gfK h r 9 3 (fun w => wp S d 155 14 [a0, a1, a2, a3, a4] (w :: st) h Q) := wp_gf hc155 dJ3_charAt_11 ho155 fl13_79
theorem e155_14 : wp S d 155 14 [a0, a1, a2, some (.ref r), a4] st h Q = wp S d 155 15 [a0, a1, a2, some (.ref r), a4] (.ref r :: st) h Q := wp_p hc155 dJ3_charAt_14 rfl
theorem e155_15 : wp S d 155 15 [a0, a1, a2, a3, a4] (.ref r :: st) h Q = am_alK h r (fun n => wp S d 155 16 [a0, a1, a2, a3, a4] (.int (nI n) :: st) h Q) := wp_al hc155 dJ3_charAt_15
theorem e155_16 : wp S d 155 16 [a0, a1, some (.int x), a3, a4] st h Q = wp S d 155 17 [a0, a1, some (.int x), a3, a4] (.int x :: st) h Q := wp_p hc155 dJ3_charAt_16 rfl
theorem e155_17 : wp S d 155 17 [a0, a1, a2, a3, a4] (.int y :: .int x :: st) h Q = wp S d 155 18 [a0, a1, a2, a3, a4] (.int (x >>> (y &&& 31)) :: st) h Q := wp_p hc155 dJ3_charAt_17 rfl
theorem e155_18 : wp S (d + 1) 155 18 [a0, a1, a2, a3, a4] (.int y :: .int x :: st) h Q = (am_w8 st ∧ wp S (d + 1) 155 21 [a0, a1, a2, a3, a4] (.int (if y < x then y else x) :: st) h Q) := wp_mn hc155 dJ3_charAt_18 ho155 sp13_138 nc13_138
theorem e155_21 : wp S d 155 21 [a0, a1, a2, a3, a4] (.int x :: st) h Q = wp S d 155 23 [a0, a1, a2, a3, some (.int x)] st h Q := wp_p hc155 dJ3_charAt_21 rfl
theorem e155_23 : wp S d 155 23 [a0, some (.int x), a2, a3, a4] st h Q = wp S d 155 24 [a0, some (.int x), a2, a3, a4] (.int x :: st) h Q := wp_p hc155 dJ3_charAt_23 rfl
theorem e155_24 : wp S d 155 24 [a0, a1, a2, a3, some (.int x)] st h Q = wp S d 155 26 [a0, a1, a2, a3, some (.int x)] (.int x :: st) h Q := wp_p hc155 dJ3_charAt_24 rfl
theorem e155_26 : wp S (d + 1) 155 26 [a0, a1, a2, a3, a4] (.int x2 :: .int x1 :: st) h Q = (am_w8 st ∧ wp S d 165 0 [some (.int x1), some (.int x2)] [] h (am_kr S 0 (d + 1) 155 26 [a0, a1, a2, a3, a4] st Q)) := wp_cS [.int x1, .int x2] hc155 dJ3_charAt_26 ho155 cl13_144 (by decide) ns13_144 hst165 hnp165 hml165 hlsl165 rfl rfl rfl
theorem e155_29 : wp S d 155 29 [a0, a1, some (.int x), a3, a4] st h Q = wp S d 155 30 [a0, a1, some (.int x), a3, a4] (.int x :: st) h Q := wp_p hc155 dJ3_charAt_29 rfl
theorem e155_30 : wp S d 155 30 [a0, a1, a2, a3, a4] (.int x :: st) h Q = if x = 0 then wp S d 155 33 [a0, a1, a2, a3, a4] st h Q else wp S d 155 42 [a0, a1, a2, a3, a4] st h Q := wp_ne hc155 dJ3_charAt_30 rfl
theorem e155_33 : wp S d 155 33 [a0, a1, a2, some (.ref r), a4] st h Q = wp S d 155 34 [a0, a1, a2, some (.ref r), a4] (.ref r :: st) h Q := wp_p hc155 dJ3_charAt_33 rfl
theorem e155_34 : wp S d 155 34 [a0, some (.int x), a2, a3, a4] st h Q = wp S d 155 35 [a0, some (.int x), a2, a3, a4] (.int x :: st) h Q := wp_p hc155 dJ3_charAt_34 rfl
theorem e155_35 : wp S d 155 35 [a0, a1, a2, a3, a4] (.int x :: .ref r :: st) h Q = am_baK h r x (fun z => wp S d 155 36 [a0, a1, a2, a3, a4] (.int z :: st) h Q) := wp_ba hc155 dJ3_charAt_35
theorem e155_35k : wp S d 155 35 [a0, a1, a2, a3, a4] (.int x :: .retAddr r :: st) h Q = am_bcK r x (fun z => wp S d 155 36 [a0, a1, a2, a3, a4] (.int z :: st) h Q) := wp_baS hc155 dJ3_charAt_35
theorem e155_36 : wp S d 155 36 [a0, a1, a2, a3, a4] st h Q = wp S d 155 39 [a0, a1, a2, a3, a4] (.int (nI 255) :: st) h Q := wp_p hc155 dJ3_charAt_36 rfl
theorem e155_39 : wp S d 155 39 [a0, a1, a2, a3, a4] (.int y :: .int x :: st) h Q = wp S d 155 40 [a0, a1, a2, a3, a4] (.int (x &&& y) :: st) h Q := wp_p hc155 dJ3_charAt_39 rfl
theorem e155_40 : wp S d 155 40 [a0, a1, a2, a3, a4] (.int x :: st) h Q = wp S d 155 41 [a0, a1, a2, a3, a4] (.int (x.toUInt32 % 65536).toInt32 :: st) h Q := wp_p hc155 dJ3_charAt_40 rfl
theorem e155_41 : wp S d 155 41 ls [.int x] h Q = (narrow .char (.int x) = .int x ∧ Q (.inl (some (.int x)), h)) := wp_rI hc155 dJ3_charAt_41 rfl
theorem e155_42 : wp S d 155 42 [a0, a1, a2, some (.ref r), a4] st h Q = wp S d 155 43 [a0, a1, a2, some (.ref r), a4] (.ref r :: st) h Q := wp_p hc155 dJ3_charAt_42 rfl
theorem e155_43 : wp S d 155 43 [a0, some (.int x), a2, a3, a4] st h Q = wp S d 155 44 [a0, some (.int x), a2, a3, a4] (.int x :: st) h Q := wp_p hc155 dJ3_charAt_43 rfl
theorem e155_47 : wp S d 155 47 ls [.int x] h Q = (narrow .char (.int x) = .int x ∧ Q (.inl (some (.int x)), h)) := wp_rI hc155 dJ3_charAt_47 rfl
theorem e156_0 : wp S d 156 0 [some (.ref r)] st h Q = wp S d 156 1 [some (.ref r)] (.ref r :: st) h Q := wp_p hc156 dJ4_init_0 rfl
theorem e156_1 : wp S d 156 1 [a0] st h Q = wp S d 156 3 [a0] (.int (nI 16) :: st) h Q := wp_p hc156 dJ4_init_1 rfl
theorem e156_3 : wp S (d + 1) 156 3 [a0] (.int x1 :: .ref r0 :: st) h Q = (am_w8 st ∧ am_rcv h 4 143 (.ref r0) = true ∧ wp S d 143 0 [some (.ref r0), some (.int x1)] [] h (am_kr S 4 (d + 1) 156 3 [a0] st Q)) := wp_cI (.ref r0) [.int x1] hc156 dJ4_init_3 ho156 cl14_1 (by decide) ns14_1 hst143 hnp143 hml143 hlsl143 rfl rfl rfl
theorem e156_6 : wp S d 156 6 ls [] h Q = Q (.inl none, h) := wp_r hc156 dJ4_init_6 rfl rfl ⟨rfl, rfl, rfl⟩
theorem e157_0 : wp S d 157 0 [some (.ref r), a1] st h Q = wp S d 157 1 [some (.ref r), a1] (.ref r :: st) h Q := wp_p hc157 dJ4_append_0 rfl
theorem e157_1 : wp S d 157 1 [a0, some (.int x)] st h Q = wp S d 157 2 [a0, some (.int x)] (.int x :: st) h Q := wp_p hc157 dJ4_append_1 rfl
theorem e157_2 : wp S (d + 1) 157 2 [a0, a1] (.int x1 :: .ref r0 :: st) h Q = (am_w8 st ∧ am_rcv h 6 144 (.ref r0) = true ∧ wp S d 144 0 [some (.ref r0), some (.int x1), none, none] [] h (am_kr S 6 (d + 1) 157 2 [a0, a1] st Q)) := wp_cI (.ref r0) [.int x1] hc157 dJ4_append_2 ho157 cl14_53 (by decide) ns14_53 hst144 hnp144 hml144 hlsl144 rfl rfl rfl
theorem e157_5 : wp S d 157 5 [a0, a1] (.ref r :: st) h Q = wp S d 157 6 [a0, a1] st h Q := wp_p hc157 dJ4_append_5 rfl
theorem e157_5i : wp S d 157 5 [a0, a1] (.int x :: st) h Q = wp S d 157 6 [a0, a1] st h Q := wp_p hc157 dJ4_append_5 rfl
theorem e157_6 : wp S d 157 6 [some (.ref r), a1] st h Q = wp S d 157 7 [some (.ref r), a1] (.ref r :: st) h Q := wp_p hc157 dJ4_append_6 rfl
theorem e157_7 : wp S d 157 7 ls [.ref r] h Q = Q (.inl (some (.ref r)), h) := wp_r hc157 dJ4_append_7 rfl rfl ⟨_, rfl, Or.inr ⟨_, rfl⟩, ⟨_, rfl, Or.inl ⟨_, rfl⟩⟩, rfl⟩
theorem e158_0 : wp S d 158 0 [some (.ref r), a1] st h Q = wp S d 158 1 [some (.ref r), a1] (.ref r :: st) h Q := wp_p hc158 dJ4_append_2_0 rfl
theorem e158_1 : wp S d 158 1 [a0, some (.int x)] st h Q = wp S d 158 2 [a0, some (.int x)] (.int x :: st) h Q := wp_p hc158 dJ4_append_2_1 rfl
theorem e158_2 : wp S (d + 1) 158 2 [a0, a1] (.int x1 :: .ref r0 :: st) h Q = (am_w8 st ∧ am_rcv h 6 148 (.ref r0) = true ∧ wp S d 148 0 [some (.ref r0), some (.int x1)] [] h (am_kr S 6 (d + 1) 158 2 [a0, a1] st Q)) := wp_cI (.ref r0) [.int x1] hc158 dJ4_append_2_2 ho158 cl14_50 (by decide) ns14_50 hst148 hnp148 hml148 hlsl148 rfl rfl rfl
theorem e158_5 : wp S d 158 5 [a0, a1] (.ref r :: st) h Q = wp S d 158 6 [a0, a1] st h Q := wp_p hc158 dJ4_append_2_5 rfl
theorem e158_5i : wp S d 158 5 [a0, a1] (.int x :: st) h Q = wp S d 158 6 [a0, a1] st h Q := wp_p hc158 dJ4_append_2_5 rfl
theorem e158_6 : wp S d 158 6 [some (.ref r), a1] st h Q = wp S d 158 7 [some (.ref r), a1] (.ref r :: st) h Q := wp_p hc158 dJ4_append_2_6 rfl
theorem e158_7 : wp S d 158 7 ls [.ref r] h Q = Q (.inl (some (.ref r)), h) := wp_r hc158 dJ4_append_2_7 rfl rfl ⟨_, rfl, Or.inr ⟨_, rfl⟩, ⟨_, rfl, Or.inl ⟨_, rfl⟩⟩, rfl⟩
theorem e159_0 : wp S d 159 0 [some (.ref r), a1] st h Q = wp S d 159 1 [some (.ref r), a1] (.ref r :: st) h Q := wp_p hc159 dJ4_append_3_0 rfl
theorem e159_1 : wp S d 159 1 [a0, some (.ref r)] st h Q = wp S d 159 2 [a0, some (.ref r)] (.ref r :: st) h Q := wp_p hc159 dJ4_append_3_1 rfl
theorem e159_1n : wp S d 159 1 [a0, some (.null)] st h Q = wp S d 159 2 [a0, some (.null)] (.null :: st) h Q := wp_p hc159 dJ4_append_3_1 rfl
theorem e159_1k : wp S d 159 1 [a0, some (.retAddr r)] st h Q = wp S d 159 2 [a0, some (.retAddr r)] (.retAddr r :: st) h Q := wp_p hc159 dJ4_append_3_1 rfl
theorem e159_2 : wp S (d + 1) 159 2 [a0, a1] (.ref r1 :: .ref r0 :: st) h Q = (am_w8 st ∧ am_rcv h 6 150 (.ref r0) = true ∧ wp S d 150 0 [some (.ref r0), some (.ref r1), none] [] h (am_kr S 6 (d + 1) 159 2 [a0, a1] st Q)) := wp_cI (.ref r0) [.ref r1] hc159 dJ4_append_3_2 ho159 cl14_29 (by decide) ns14_29 hst150 hnp150 hml150 hlsl150 rfl rfl rfl
theorem e159_2k : wp S (d + 1) 159 2 [a0, a1] (.retAddr r1 :: .ref r0 :: st) h Q = (am_w8 st ∧ am_rcv h 6 150 (.ref r0) = true ∧ wp S d 150 0 [some (.ref r0), some (.retAddr r1), none] [] h (am_kr S 6 (d + 1) 159 2 [a0, a1] st Q)) := wp_cI (.ref r0) [.retAddr r1] hc159 dJ4_append_3_2 ho159 cl14_29 (by decide) ns14_29 hst150 hnp150 hml150 hlsl150 rfl rfl rfl
theorem e159_5 : wp S d 159 5 [a0, a1] (.ref r :: st) h Q = wp S d 159 6 [a0, a1] st h Q := wp_p hc159 dJ4_append_3_5 rfl
theorem e159_5i : wp S d 159 5 [a0, a1] (.int x :: st) h Q = wp S d 159 6 [a0, a1] st h Q := wp_p hc159 dJ4_append_3_5 rfl
theorem e159_6 : wp S d 159 6 [some (.ref r), a1] st h Q = wp S d 159 7 [some (.ref r), a1] (.ref r :: st) h Q := wp_p hc159 dJ4_append_3_6 rfl
theorem e159_7 : wp S d 159 7 ls [.ref r] h Q = Q (.inl (some (.ref r)), h) := wp_r hc159 dJ4_append_3_7 rfl rfl ⟨_, rfl, Or.inr ⟨_, rfl⟩, ⟨_, rfl, Or.inl ⟨_, rfl⟩⟩, rfl⟩
theorem e160_0 : wp S d 160 0 [some (.ref r)] st h Q = wp S d 160 1 [some (.ref r)] (.ref r :: st) h Q := wp_p hc160 dJ4_length_0 rfl
theorem e160_1 : wp S (d + 1) 160 1 [a0] (.ref r0 :: st) h Q = (am_w8 st ∧ am_rcv h 6 154 (.ref r0) = true ∧ wp S d 154 0 [some (.ref r0)] [] h (am_kr S 6 (d + 1) 160 1 [a0] st Q)) := wp_cI (.ref r0) [] hc160 dJ4_length_1 ho160 cl14_343 (by decide) ns14_343 hst154 hnp154 hml154 hlsl154 rfl rfl rfl
theorem e160_4 : wp S d 160 4 ls [.int x] h Q = Q (.inl (some (.int x)), h) := wp_r hc160 dJ4_length_4 rfl rfl ⟨x, _, rfl, rfl, rfl, rfl⟩
theorem e161_0 : wp S d 161 0 [some (.ref r), a1] st h Q = wp S d 161 1 [some (.ref r), a1] (.ref r :: st) h Q := wp_p hc161 dJ4_charAt_0 rfl
theorem e161_1 : wp S d 161 1 [a0, some (.int x)] st h Q = wp S d 161 2 [a0, some (.int x)] (.int x :: st) h Q := wp_p hc161 dJ4_charAt_1 rfl
theorem e161_2 : wp S (d + 1) 161 2 [a0, a1] (.int x1 :: .ref r0 :: st) h Q = (am_w8 st ∧ am_rcv h 6 155 (.ref r0) = true ∧ wp S d 155 0 [some (.ref r0), some (.int x1), none, none, none] [] h (am_kr S 6 (d + 1) 161 2 [a0, a1] st Q)) := wp_cI (.ref r0) [.int x1] hc161 dJ4_charAt_2 ho161 cl14_329 (by decide) ns14_329 hst155 hnp155 hml155 hlsl155 rfl rfl rfl
theorem e161_5 : wp S d 161 5 ls [.int x] h Q = (narrow .char (.int x) = .int x ∧ Q (.inl (some (.int x)), h)) := wp_rI hc161 dJ4_charAt_5 rfl
theorem e162_0 : wp S d 162 0 [some (.int x), a1, a2] st h Q = wp S d 162 1 [some (.int x), a1, a2] (.int x :: st) h Q := wp_p hc162 dJ5_checkBoundsBeginEnd_0 rfl
theorem e162_1 : wp S d 162 1 [a0, some (.int x), a2] st h Q = wp S d 162 2 [a0, some (.int x), a2] (.int x :: st) h Q := wp_p hc162 dJ5_checkBoundsBeginEnd_1 rfl
theorem e162_2 : wp S d 162 2 [a0, a1, some (.int x)] st h Q = wp S d 162 3 [a0, a1, some (.int x)] (.int x :: st) h Q := wp_p hc162 dJ5_checkBoundsBeginEnd_2 rfl
theorem e162_3 : wp S d 162 3 [a0, a1, a2] st h Q = wp S d 162 6 [a0, a1, a2] (.retAddr 12 :: st) h Q := wp_gs hc162 dJ5_checkBoundsBeginEnd_3 ho162 gs15_1053
theorem e162_6 : wp S (d + 1) 162 6 [a0, a1, a2] (.ref r4 :: .int x3 :: .int x2 :: .int x1 :: st) h Q = (am_w8 st ∧ wp S d 174 0 [some (.int x1), some (.int x2), some (.int x3), some (.ref r4)] [] h (am_kr S 0 (d + 1) 162 6 [a0, a1, a2] st Q)) := wp_cS [.int x1, .int x2, .int x3, .ref r4] hc162 dJ5_checkBoundsBeginEnd_6 ho162 cl15_1062 (by decide) ns15_1062 hst174 hnp174 hml174 hlsl174 rfl rfl rfl
theorem e162_6k : wp S (d + 1) 162 6 [a0, a1, a2] (.retAddr r4 :: .int x3 :: .int x2 :: .int x1 :: st) h Q = (am_w8 st ∧ wp S d 174 0 [some (.int x1), some (.int x2), some (.int x3), some (.retAddr r4)] [] h (am_kr S 0 (d + 1) 162 6 [a0, a1, a2] st Q)) := wp_cS [.int x1, .int x2, .int x3, .retAddr r4] hc162 dJ5_checkBoundsBeginEnd_6 ho162 cl15_1062 (by decide) ns15_1062 hst174 hnp174 hml174 hlsl174 rfl rfl rfl
theorem e162_9 : wp S d 162 9 [a0, a1, a2] (.ref r :: st) h Q = wp S d 162 10 [a0, a1, a2] st h Q := wp_p hc162 dJ5_checkBoundsBeginEnd_9 rfl
theorem e162_9i : wp S d 162 9 [a0, a1, a2] (.int x :: st) h Q = wp S d 162 10 [a0, a1, a2] st h Q := wp_p hc162 dJ5_checkBoundsBeginEnd_9 rfl
theorem e162_10 : wp S d 162 10 ls [] h Q = Q (.inl none, h) := wp_r hc162 dJ5_checkBoundsBeginEnd_10 rfl rfl ⟨rfl, rfl, rfl⟩
theorem e163_0 : wp S d 163 0 [some (.ref r), a1] st h Q = wp S d 163 1 [some (.ref r), a1] (.ref r :: st) h Q := wp_p hc163 dJ5_charAt_0 rfl
theorem e163_0n : wp S d 163 0 [some (.null), a1] st h Q = wp S d 163 1 [some (.null), a1] (.null :: st) h Q := wp_p hc163 dJ5_charAt_0 rfl
theorem e163_0k : wp S d 163 0 [some (.retAddr r), a1] st h Q = wp S d 163 1 [some (.retAddr r), a1] (.retAddr r :: st) h Q := wp_p hc163 dJ5_charAt_0 rfl
theorem e163_1 : wp S (d + 1) 163 1 [a0, a1] (.ref r0 :: st) h Q = (am_w8 st ∧ am_rcv h 2 164 (.ref r0) = true ∧ wp S d 164 0 [some (.ref r0)] [] h (am_kr S 2 (d + 1) 163 1 [a0, a1] st Q)) := wp_cV (.ref r0) [] hc163 dJ5_charAt_1 ho163 cl15_492 (by decide) ns15_492 hst164 hnp164 hml164 hlsl164 rfl rfl rfl
theorem e163_1k : wp S (d + 1) 163 1 [a0, a1] (.retAddr r0 :: st) h Q = (am_w8 st ∧ am_rcv h 2 164 (.retAddr r0) = true ∧ wp S d 164 0 [some (.retAddr r0)] [] h (am_kr S 2 (d + 1) 163 1 [a0, a1] st Q)) := wp_cV (.retAddr r0) [] hc163 dJ5_charAt_1 ho163 cl15_492 (by decide) ns15_492 hst164 hnp164 hml164 hlsl164 rfl rfl rfl
theorem e163_4 : wp S d 163 4 [a0, a1] (.int x :: st) h Q = if x = 0 then wp S d 163 16 [a0, a1] st h Q else wp S d 163 7 [a0, a1] st h Q := wp_eq hc163 dJ5_charAt_4 rfl
theorem e163_7 : wp S d 163 7 [some (.ref r), a1] st h Q = wp S d 163 8 [some (.ref r), a1] (.ref r :: st) h Q := wp_p hc163 dJ5_charAt_7 rfl
theorem e163_7n : wp S d 163 7 [some (.null), a1] st h Q = wp S d 163 8 [some (.null), a1] (.null :: st) h Q := wp_p hc163 dJ5_charAt_7 rfl
theorem e163_7k : wp S d 163 7 [some (.retAddr r), a1] st h Q = wp S d 163 8 [some (.retAddr r), a1] (.retAddr r :: st) h Q := wp_p hc163 dJ5_charAt_7 rfl
theorem e163_8 (h1 : 1 ≤ r) (h2 : r ≤ 3) : wp S d 163 8 [a0, a1] (.retAddr r :: st) h Q = wp S d 163 11 [a0, a1] (.retAddr (r + 5) :: st) h Q := wp_gfS hc163 dJ5_charAt_8 ho163 fl15_9 h1 h2
theorem e163_11 : wp S d 163 11 [a0, some (.int x)] st h Q = wp S d 163 12 [a0, some (.int x)] (.int x :: st) h Q := wp_p hc163 dJ5_charAt_11 rfl
theorem e163_12 : wp S (d + 1) 163 12 [a0, a1] (.int x2 :: .ref r1 :: st) h Q = (am_w8 st ∧ wp S d 177 0 [some (.ref r1), some (.int x2)] [] h (am_kr S 0 (d + 1) 163 12 [a0, a1] st Q)) := wp_cS [.ref r1, .int x2] hc163 dJ5_charAt_12 ho163 cl15_495 (by decide) ns15_495 hst177 hnp177 hml177 hlsl177 rfl rfl rfl
theorem e163_12k : wp S (d + 1) 163 12 [a0, a1] (.int x2 :: .retAddr r1 :: st) h Q = (am_w8 st ∧ wp S d 177 0 [some (.retAddr r1), some (.int x2)] [] h (am_kr S 0 (d + 1) 163 12 [a0, a1] st Q)) := wp_cS [.retAddr r1, .int x2] hc163 dJ5_charAt_12 ho163 cl15_495 (by decide) ns15_495 hst177 hnp177 hml177 hlsl177 rfl rfl rfl
theorem e163_15 : wp S d 163 15 ls [.int x] h Q = (narrow .char (.int x) = .int x ∧ Q (.inl (some (.int x)), h)) := wp_rI hc163 dJ5_charAt_15 rfl
theorem e163_16 : wp S d 163 16 [some (.ref r), a1] st h Q = wp S d 163 17 [some (.ref r), a1] (.ref r :: st) h Q := wp_p hc163 dJ5_charAt_16 rfl
theorem e163_16n : wp S d 163 16 [some (.null), a1] st h Q = wp S d 163 17 [some (.null), a1] (.null :: st) h Q := wp_p hc163 dJ5_charAt_16 rfl
theorem e163_16k : wp S d 163 16 [some (.retAddr r), a1] st h Q = wp S d 163 17 [some (.retAddr r), a1] (.retAddr r :: st) h Q := wp_p hc163 dJ5_charAt_16 rfl
theorem e163_17 (h1 : 1 ≤ r) (h2 : r ≤ 3) : wp S d 163 17 [a0, a1] (.retAddr r :: st) h Q = wp S d 163 20 [a0, a1] (.retAddr (r + 5) :: st) h Q := wp_gfS hc163 dJ5_charAt_17 ho163 fl15_9 h1 h2
theorem e163_20 : wp S d 163 20 [a0, some (.int x)] st h Q = wp S d 163 21 [a0, some (.int x)] (.int x :: st) h Q := wp_p hc163 dJ5_charAt_20 rfl
theorem e163_24 : wp S d 163 24 ls [.int x] h Q = (narrow .char (.int x) = .int x ∧ Q (.inl (some (.int x)), h)) := wp_rI hc163 dJ5_charAt_24 rfl
theorem e164_0 : wp S d 164 0 [a0] st h Q = wp S d 164 3 [a0] (.int (nI 1) :: st) h Q := wp_gs hc164 dJ5_isLatin1_0 ho164 gs15_38
theorem e164_3 : wp S d 164 3 [a0] (.int x :: st) h Q = if x = 0 then wp S d 164 17 [a0] st h Q else wp S d 164 6 [a0] st h Q := wp_eq hc164 dJ5_isLatin1_3 rfl
theorem e164_6 : wp S d 164 6 [some (.ref r)] st h Q = wp S d 164 7 [some (.ref r)] (.ref r :: st) h Q := wp_p hc164 dJ5_isLatin1_6 rfl
theorem e164_6n : wp S d 164 6 [some (.null)] st h Q = wp S d 164 7 [some (.null)] (.null :: st) h Q := wp_p hc164 dJ5_isLatin1_6 rfl
theorem e164_6k : wp S d 164 6 [some (.retAddr r)] st h Q = wp S d 164 7 [some (.retAddr r)] (.retAddr r :: st) h Q := wp_p hc164 dJ5_isLatin1_6 rfl
theorem e164_7 (h1 : 1 ≤ r) (h2 : r ≤ 3) : wp S d 164 7 [a0] (.retAddr r :: st) h Q = wp S d 164 10 [a0] (.int 0 :: st) h Q := wp_gfS hc164 dJ5_isLatin1_7 ho164 fl15_15 h1 h2
theorem e164_10 : wp S d 164 10 [a0] (.int x :: st) h Q = if x = 0 then wp S d 164 13 [a0] st h Q else wp S d 164 17 [a0] st h Q := wp_ne hc164 dJ5_isLatin1_10 rfl
theorem e164_13 : wp S d 164 13 [a0] st h Q = wp S d 164 14 [a0] (.int (nI 1) :: st) h Q := wp_p hc164 dJ5_isLatin1_13 rfl
theorem e164_14 : wp S d 164 14 [a0] st h Q = wp S d 164 18 [a0] st h Q := wp_p hc164 dJ5_isLatin1_14 rfl
theorem e164_17 : wp S d 164 17 [a0] st h Q = wp S d 164 18 [a0] (.int (nI 0) :: st) h Q := wp_p hc164 dJ5_isLatin1_17 rfl
theorem e164_18 : wp S d 164 18 ls [.int x] h Q = (narrow .boolean (.int x) = .int x ∧ Q (.inl (some (.int x)), h)) := wp_rI hc164 dJ5_isLatin1_18 rfl
theorem e165_0 : wp S d 165 0 [some (.int x), a1] st h Q = wp S d 165 1 [some (.int x), a1] (.int x :: st) h Q := wp_p hc165 dJ5_checkIndex_0 rfl
theorem e165_1 : wp S d 165 1 [a0, some (.int x)] st h Q = wp S d 165 2 [a0, some (.int x)] (.int x :: st) h Q := wp_p hc165 dJ5_checkIndex_1 rfl
theorem e165_2 : wp S d 165 2 [a0, a1] st h Q = wp S d 165 5 [a0, a1] (.retAddr 12 :: st) h Q := wp_gs hc165 dJ5_checkIndex_2 ho165 gs15_1053
theorem e165_5 : wp S (d + 1) 165 5 [a0, a1] (.ref r3 :: .int x2 :: .int x1 :: st) h Q = (am_w8 st ∧ wp S d 175 0 [some (.int x1), some (.int x2), some (.ref r3)] [] h (am_kr S 0 (d + 1) 165 5 [a0, a1] st Q)) := wp_cS [.int x1, .int x2, .ref r3] hc165 dJ5_checkIndex_5 ho165 cl15_1059 (by decide) ns15_1059 hst175 hnp175 hml175 hlsl175 rfl rfl rfl
theorem e165_5k : wp S (d + 1) 165 5 [a0, a1] (.retAddr r3 :: .int x2 :: .int x1 :: st) h Q = (am_w8 st ∧ wp S d 175 0 [some (.int x1), some (.int x2), some (.retAddr r3)] [] h (am_kr S 0 (d + 1) 165 5 [a0, a1] st Q)) := wp_cS [.int x1, .int x2, .retAddr r3] hc165 dJ5_checkIndex_5 ho165 cl15_1059 (by decide) ns15_1059 hst175 hnp175 hml175 hlsl175 rfl rfl rfl
theorem e165_8 : wp S d 165 8 [a0, a1] (.ref r :: st) h Q = wp S d 165 9 [a0, a1] st h Q := wp_p hc165 dJ5_checkIndex_8 rfl
theorem e165_8i : wp S d 165 8 [a0, a1] (.int x :: st) h Q = wp S d 165 9 [a0, a1] st h Q := wp_p hc165 dJ5_checkIndex_8 rfl
theorem e165_9 : wp S d 165 9 ls [] h Q = Q (.inl none, h) := wp_r hc165 dJ5_checkIndex_9 rfl rfl ⟨rfl, rfl, rfl⟩
theorem e166_0 : wp S d 166 0 [some (.int x), a1, a2] st h Q = wp S d 166 1 [some (.int x), a1, a2] (.int x :: st) h Q := wp_p hc166 dJ5_checkBoundsOffCount_0 rfl
theorem e166_1 : wp S d 166 1 [a0, some (.int x), a2] st h Q = wp S d 166 2 [a0, some (.int x), a2] (.int x :: st) h Q := wp_p hc166 dJ5_checkBoundsOffCount_1 rfl
theorem e166_2 : wp S d 166 2 [a0, a1, some (.int x)] st h Q = wp S d 166 3 [a0, a1, some (.int x)] (.int x :: st) h Q := wp_p hc166 dJ5_checkBoundsOffCount_2 rfl
theorem e166_3 : wp S d 166 3 [a0, a1, a2] st h Q = wp S d 166 6 [a0, a1, a2] (.retAddr 12 :: st) h Q := wp_gs hc166 dJ5_checkBoundsOffCount_3 ho166 gs15_1053
theorem e166_6 : wp S (d + 1) 166 6 [a0, a1, a2] (.ref r4 :: .int x3 :: .int x2 :: .int x1 :: st) h Q = (am_w8 st ∧ wp S d 176 0 [some (.int x1), some (.int x2), some (.int x3), some (.ref r4)] [] h (am_kr S 0 (d + 1) 166 6 [a0, a1, a2] st Q)) := wp_cS [.int x1, .int x2, .int x3, .ref r4] hc166 dJ5_checkBoundsOffCount_6 ho166 cl15_1065 (by decide) ns15_1065 hst176 hnp176 hml176 hlsl176 rfl rfl rfl
theorem e166_6k : wp S (d + 1) 166 6 [a0, a1, a2] (.retAddr r4 :: .int x3 :: .int x2 :: .int x1 :: st) h Q = (am_w8 st ∧ wp S d 176 0 [some (.int x1), some (.int x2), some (.int x3), some (.retAddr r4)] [] h (am_kr S 0 (d + 1) 166 6 [a0, a1, a2] st Q)) := wp_cS [.int x1, .int x2, .int x3, .retAddr r4] hc166 dJ5_checkBoundsOffCount_6 ho166 cl15_1065 (by decide) ns15_1065 hst176 hnp176 hml176 hlsl176 rfl rfl rfl
theorem e166_9 : wp S d 166 9 ls [.int x] h Q = Q (.inl (some (.int x)), h) := wp_r hc166 dJ5_checkBoundsOffCount_9 rfl rfl ⟨x, _, rfl, rfl, rfl, rfl⟩
theorem e167_0 : wp S d 167 0 [some (.ref r)] st h Q = wp S d 167 1 [some (.ref r)] (.ref r :: st) h Q := wp_p hc167 dJ5_length_0 rfl
theorem e167_0n : wp S d 167 0 [some (.null)] st h Q = wp S d 167 1 [some (.null)] (.null :: st) h Q := wp_p hc167 dJ5_length_0 rfl
theorem e167_0k : wp S d 167 0 [some (.retAddr r)] st h Q = wp S d 167 1 [some (.retAddr r)] (.retAddr r :: st) h Q := wp_p hc167 dJ5_length_0 rfl
theorem e167_1 (h1 : 1 ≤ r) (h2 : r ≤ 3) : wp S d 167 1 [a0] (.retAddr r :: st) h Q = wp S d 167 4 [a0] (.retAddr (r + 5) :: st) h Q := wp_gfS hc167 dJ5_length_1 ho167 fl15_9 h1 h2
theorem e167_4 : wp S d 167 4 [a0] (.ref r :: st) h Q = am_alK h r (fun n => wp S d 167 5 [a0] (.int (nI n) :: st) h Q) := wp_al hc167 dJ5_length_4
theorem e167_4k {n : Nat} {f : Nat → Int32} (hk : ¬ r = 0) (hr : am_cst r = some (n, f)) : wp S d 167 4 [a0] (.retAddr r :: st) h Q = wp S d 167 5 [a0] (.int (nI n) :: st) h Q := wp_alC hc167 dJ5_length_4 hk hr
theorem e167_5 : wp S d 167 5 [some (.ref r)] st h Q = wp S d 167 6 [some (.ref r)] (.ref r :: st) h Q := wp_p hc167 dJ5_length_5 rfl
theorem e167_5n : wp S d 167 5 [some (.null)] st h Q = wp S d 167 6 [some (.null)] (.null :: st) h Q := wp_p hc167 dJ5_length_5 rfl
theorem e167_5k : wp S d 167 5 [some (.retAddr r)] st h Q = wp S d 167 6 [some (.retAddr r)] (.retAddr r :: st) h Q := wp_p hc167 dJ5_length_5 rfl
theorem e167_6 : wp S (d + 1) 167 6 [a0] (.ref r0 :: st) h Q = (am_w8 st ∧ am_rcv h 2 168 (.ref r0) = true ∧ wp S d 168 0 [some (.ref r0)] [] h (am_kr S 2 (d + 1) 167 6 [a0] st Q)) := wp_cV (.ref r0) [] hc167 dJ5_length_6 ho167 cl15_335 (by decide) ns15_335 hst168 hnp168 hml168 hlsl168 rfl rfl rfl
theorem e167_6k : wp S (d + 1) 167 6 [a0] (.retAddr r0 :: st) h Q = (am_w8 st ∧ am_rcv h 2 168 (.retAddr r0) = true ∧ wp S d 168 0 [some (.retAddr r0)] [] h (am_kr S 2 (d + 1) 167 6 [a0] st Q)) := wp_cV (.retAddr r0) [] hc167 dJ5_length_6 ho167 cl15_335 (by decide) ns15_335 hst168 hnp168 hml168 hlsl168 rfl rfl rfl
theorem e167_9 : wp S d 167 9 [a0] (.int y :: .int x :: st) h Q = wp S d 167 10 [a0] (.int (x >>> (y &&& 31)) :: st) h Q := wp_p hc167 dJ5_length_9 rfl
theorem e167_10 : wp S d 167 10 ls [.int x] h Q = Q (.inl (some (.int x)), h) := wp_r hc167 dJ5_length_10 rfl rfl ⟨x, _, rfl, rfl, rfl, rfl⟩
theorem e168_0 : wp S d 168 0 [a0] st h Q = wp S d 168 3 [a0] (.int (nI 1) :: st) h Q := wp_gs hc168 dJ5_coder_0 ho168 gs15_38
theorem e168_3 : wp S d 168 3 [a0] (.int x :: st) h Q = if x = 0 then wp S d 168 13 [a0] st h Q else wp S d 168 6 [a0] st h Q := wp_eq hc168 dJ5_coder_3 rfl
theorem e168_6 : wp S d 168 6 [some (.ref r)] st h Q = wp S d 168 7 [some (.ref r)] (.ref r :: st) h Q := wp_p hc168 dJ5_coder_6 rfl
theorem e168_6n : wp S d 168 6 [some (.null)] st h Q = wp S d 168 7 [some (.null)] (.null :: st) h Q := wp_p hc168 dJ5_coder_6 rfl
theorem e168_6k : wp S d 168 6 [some (.retAddr r)] st h Q = wp S d 168 7 [some (.retAddr r)] (.retAddr r :: st) h Q := wp_p hc168 dJ5_coder_6 rfl
theorem e168_7 (h1 : 1 ≤ r) (h2 : r ≤ 3) : wp S d 168 7 [a0] (.retAddr r :: st) h Q = wp S d 168 10 [a0] (.int 0 :: st) h Q := wp_gfS hc168 dJ5_coder_7 ho168 fl15_15 h1 h2
theorem e168_10 : wp S d 168 10 [a0] st h Q = wp S d 168 14 [a0] st h Q := wp_p hc168 dJ5_coder_10 rfl
theorem e168_13 : wp S d 168 13 [a0] st h Q = wp S d 168 14 [a0] (.int (nI 1) :: st) h Q := wp_p hc168 dJ5_coder_13 rfl
theorem e168_14 : wp S d 168 14 ls [.int x] h Q = (narrow .byte (.int x) = .int x ∧ Q (.inl (some (.int x)), h)) := wp_rI hc168 dJ5_coder_14 rfl
theorem e169_0 : wp S d 169 0 [some (.ref r), a1, a2, a3] st h Q = wp S d 169 1 [some (.ref r), a1, a2, a3] (.ref r :: st) h Q := wp_p hc169 dJ5_getBytes_0 rfl
theorem e169_0n : wp S d 169 0 [some (.null), a1, a2, a3] st h Q = wp S d 169 1 [some (.null), a1, a2, a3] (.null :: st) h Q := wp_p hc169 dJ5_getBytes_0 rfl
theorem e169_0k : wp S d 169 0 [some (.retAddr r), a1, a2, a3] st h Q = wp S d 169 1 [some (.retAddr r), a1, a2, a3] (.retAddr r :: st) h Q := wp_p hc169 dJ5_getBytes_0 rfl
theorem e169_1 : wp S (d + 1) 169 1 [a0, a1, a2, a3] (.ref r0 :: st) h Q = (am_w8 st ∧ am_rcv h 2 168 (.ref r0) = true ∧ wp S d 168 0 [some (.ref r0)] [] h (am_kr S 2 (d + 1) 169 1 [a0, a1, a2, a3] st Q)) := wp_cV (.ref r0) [] hc169 dJ5_getBytes_1 ho169 cl15_335 (by decide) ns15_335 hst168 hnp168 hml168 hlsl168 rfl rfl rfl
theorem e169_1k : wp S (d + 1) 169 1 [a0, a1, a2, a3] (.retAddr r0 :: st) h Q = (am_w8 st ∧ am_rcv h 2 168 (.retAddr r0) = true ∧ wp S d 168 0 [some (.retAddr r0)] [] h (am_kr S 2 (d + 1) 169 1 [a0, a1, a2, a3] st Q)) := wp_cV (.retAddr r0) [] hc169 dJ5_getBytes_1 ho169 cl15_335 (by decide) ns15_335 hst168 hnp168 hml168 hlsl168 rfl rfl rfl
theorem e169_4 : wp S d 169 4 [a0, a1, a2, some (.int x)] st h Q = wp S d 169 5 [a0, a1, a2, some (.int x)] (.int x :: st) h Q := wp_p hc169 dJ5_getBytes_4 rfl
theorem e169_5 : wp S d 169 5 [a0, a1, a2, a3] (.int y :: .int x :: st) h Q = if x = y then wp S d 169 8 [a0, a1, a2, a3] st h Q else wp S d 169 28 [a0, a1, a2, a3] st h Q := wp_ne hc169 dJ5_getBytes_5 rfl
theorem e169_8 : wp S d 169 8 [some (.ref r), a1, a2, a3] st h Q = wp S d 169 9 [some (.ref r), a1, a2, a3] (.ref r :: st) h Q := wp_p hc169 dJ5_getBytes_8 rfl
theorem e169_8n : wp S d 169 8 [some (.null), a1, a2, a3] st h Q = wp S d 169 9 [some (.null), a1, a2, a3] (.null :: st) h Q := wp_p hc169 dJ5_getBytes_8 rfl
theorem e169_8k : wp S d 169 8 [some (.retAddr r), a1, a2, a3] st h Q = wp S d 169 9 [some (.retAddr r), a1, a2, a3] (.retAddr r :: st) h Q := wp_p hc169 dJ5_getBytes_8 rfl
theorem e169_9 (h1 : 1 ≤ r) (h2 : r ≤ 3) : wp S d 169 9 [a0, a1, a2, a3] (.retAddr r :: st) h Q = wp S d 169 12 [a0, a1, a2, a3] (.retAddr (r + 5) :: st) h Q := wp_gfS hc169 dJ5_getBytes_9 ho169 fl15_9 h1 h2
theorem e169_12 : wp S d 169 12 [a0, a1, a2, a3] st h Q = wp S d 169 13 [a0, a1, a2, a3] (.int (nI 0) :: st) h Q := wp_p hc169 dJ5_getBytes_12 rfl
theorem e169_13 : wp S d 169 13 [a0, some (.ref r), a2, a3] st h Q = wp S d 169 14 [a0, some (.ref r), a2, a3] (.ref r :: st) h Q := wp_p hc169 dJ5_getBytes_13 rfl
theorem e169_14 : wp S d 169 14 [a0, a1, some (.int x), a3] st h Q = wp S d 169 15 [a0, a1, some (.int x), a3] (.int x :: st) h Q := wp_p hc169 dJ5_getBytes_14 rfl
theorem e169_15 : wp S d 169 15 [a0, a1, a2, some (.int x)] st h Q = wp S d 169 16 [a0, a1, a2, some (.int x)] (.int x :: st) h Q := wp_p hc169 dJ5_getBytes_15 rfl
theorem e169_16 : wp S d 169 16 [a0, a1, a2, a3] (.int y :: .int x :: st) h Q = wp S d 169 17 [a0, a1, a2, a3] (.int (x <<< (y &&& 31)) :: st) h Q := wp_p hc169 dJ5_getBytes_16 rfl
theorem e169_17 : wp S d 169 17 [some (.ref r), a1, a2, a3] st h Q = wp S d 169 18 [some (.ref r), a1, a2, a3] (.ref r :: st) h Q := wp_p hc169 dJ5_getBytes_17 rfl
theorem e169_17n : wp S d 169 17 [some (.null), a1, a2, a3] st h Q = wp S d 169 18 [some (.null), a1, a2, a3] (.null :: st) h Q := wp_p hc169 dJ5_getBytes_17 rfl
theorem e169_17k : wp S d 169 17 [some (.retAddr r), a1, a2, a3] st h Q = wp S d 169 18 [some (.retAddr r), a1, a2, a3] (.retAddr r :: st) h Q := wp_p hc169 dJ5_getBytes_17 rfl
theorem e169_18 (h1 : 1 ≤ r) (h2 : r ≤ 3) : wp S d 169 18 [a0, a1, a2, a3] (.retAddr r :: st) h Q = wp S d 169 21 [a0, a1, a2, a3] (.retAddr (r + 5) :: st) h Q := wp_gfS hc169 dJ5_getBytes_18 ho169 fl15_9 h1 h2
theorem e169_21 : wp S d 169 21 [a0, a1, a2, a3] (.ref r :: st) h Q = am_alK h r (fun n => wp S d 169 22 [a0, a1, a2, a3] (.int (nI n) :: st) h Q) := wp_al hc169 dJ5_getBytes_21
theorem e169_21k {n : Nat} {f : Nat → Int32} (hk : ¬ r = 0) (hr : am_cst r = some (n, f)) : wp S d 169 21 [a0, a1, a2, a3] (.retAddr r :: st) h Q = wp S d 169 22 [a0, a1, a2, a3] (.int (nI n) :: st) h Q := wp_alC hc169 dJ5_getBytes_21 hk hr
theorem e169_22 : wp S (d + 1) 169 22 [a0, a1, a2, a3] st h Q = am_cpK st h (fun st h => wp S (d + 1) 169 25 [a0, a1, a2, a3] st h Q) := wp_cp hc169 dJ5_getBytes_22 ho169 sp15_212 nc15_212
theorem e169_25 : wp S d 169 25 [a0, a1, a2, a3] st h Q = wp S d 169 43 [a0, a1, a2, a3] st h Q := wp_p hc169 dJ5_getBytes_25 rfl
theorem e169_28 : wp S d 169 28 [some (.ref r), a1, a2, a3] st h Q = wp S d 169 29 [some (.ref r), a1, a2, a3] (.ref r :: st) h Q := wp_p hc169 dJ5_getBytes_28 rfl
theorem e169_28n : wp S d 169 28 [some (.null), a1, a2, a3] st h Q = wp S d 169 29 [some (.null), a1, a2, a3] (.null :: st) h Q := wp_p hc169 dJ5_getBytes_28 rfl
theorem e169_28k : wp S d 169 28 [some (.retAddr r), a1, a2, a3] st h Q = wp S d 169 29 [some (.retAddr r), a1, a2, a3] (.retAddr r :: st) h Q := wp_p hc169 dJ5_getBytes_28 rfl
theorem e169_29 (h1 : 1 ≤ r) (h2 : r ≤ 3) : wp S d 169 29 [a0, a1, a2, a3] (.retAddr r :: st) h Q = wp S d 169 32 [a0, a1, a2, a3] (.retAddr (r + 5) :: st) h Q := wp_gfS hc169 dJ5_getBytes_29 ho169 fl15_9 h1 h2
theorem e169_32 : wp S d 169 32 [a0, a1, a2, a3] st h Q = wp S d 169 33 [a0, a1, a2, a3] (.int (nI 0) :: st) h Q := wp_p hc169 dJ5_getBytes_32 rfl
theorem e169_33 : wp S d 169 33 [a0, some (.ref r), a2, a3] st h Q = wp S d 169 34 [a0, some (.ref r), a2, a3] (.ref r :: st) h Q := wp_p hc169 dJ5_getBytes_33 rfl
theorem e169_34 : wp S d 169 34 [a0, a1, some (.int x), a3] st h Q = wp S d 169 35 [a0, a1, some (.int x), a3] (.int x :: st) h Q := wp_p hc169 dJ5_getBytes_34 rfl
theorem e169_35 : wp S d 169 35 [some (.ref r), a1, a2, a3] st h Q = wp S d 169 36 [some (.ref r), a1, a2, a3] (.ref r :: st) h Q := wp_p hc169 dJ5_getBytes_35 rfl
theorem e169_35n : wp S d 169 35 [some (.null), a1, a2, a3] st h Q = wp S d 169 36 [some (.null), a1, a2, a3] (.null :: st) h Q := wp_p hc169 dJ5_getBytes_35 rfl
theorem e169_35k : wp S d 169 35 [some (.retAddr r), a1, a2, a3] st h Q = wp S d 169 36 [some (.retAddr r), a1, a2, a3] (.retAddr r :: st) h Q := wp_p hc169 dJ5_getBytes_35 rfl
theorem e169_36 (h1 : 1 ≤ r) (h2 : r ≤ 3) : wp S d 169 36 [a0, a1, a2, a3] (.retAddr r :: st) h Q = wp S d 169 39 [a0, a1, a2, a3] (.retAddr (r + 5) :: st) h Q := wp_gfS hc169 dJ5_getBytes_36 ho169 fl15_9 h1 h2
theorem e169_39 : wp S d 169 39 [a0, a1, a2, a3] (.ref r :: st) h Q = am_alK h r (fun n => wp S d 169 40 [a0, a1, a2, a3] (.int (nI n) :: st) h Q) := wp_al hc169 dJ5_getBytes_39
theorem e169_39k {n : Nat} {f : Nat → Int32} (hk : ¬ r = 0) (hr : am_cst r = some (n, f)) : wp S d 169 39 [a0, a1, a2, a3] (.retAddr r :: st) h Q = wp S d 169 40 [a0, a1, a2, a3] (.int (nI n) :: st) h Q := wp_alC hc169 dJ5_getBytes_39 hk hr
theorem e169_40 : wp S (d + 1) 169 40 [a0, a1, a2, a3] (.int x5 :: .int x4 :: .ref r3 :: .int x2 :: .ref r1 :: st) h Q = (am_w8 st ∧ wp S d 179 0 [some (.ref r1), some (.int x2), some (.ref r3), some (.int x4), some (.int x5)] [] h (am_kr S 0 (d + 1) 169 40 [a0, a1, a2, a3] st Q)) := wp_cS [.ref r1, .int x2, .ref r3, .int x4, .int x5] hc169 dJ5_getBytes_40 ho169 cl15_106 (by decide) ns15_106 hst179 hnp179 hml179 hlsl179 rfl rfl rfl
theorem e169_40k : wp S (d + 1) 169 40 [a0, a1, a2, a3] (.int x5 :: .int x4 :: .retAddr r3 :: .int x2 :: .retAddr r1 :: st) h Q = (am_w8 st ∧ wp S d 179 0 [some (.retAddr r1), some (.int x2), some (.retAddr r3), some (.int x4), some (.int x5)] [] h (am_kr S 0 (d + 1) 169 40 [a0, a1, a2, a3] st Q)) := wp_cS [.retAddr r1, .int x2, .retAddr r3, .int x4, .int x5] hc169 dJ5_getBytes_40 ho169 cl15_106 (by decide) ns15_106 hst179 hnp179 hml179 hlsl179 rfl rfl rfl
theorem e169_43 : wp S d 169 43 ls [] h Q = Q (.inl none, h) := wp_r hc169 dJ5_getBytes_43 rfl rfl ⟨rfl, rfl, rfl⟩
theorem e170_0 : wp S d 170 0 [a0, a1, a2, a3] st h Q = wp S d 170 1 [a0, a1, a2, a3] (.int (nI 1) :: st) h Q := wp_p hc170 dJ7_stringSize_0 rfl
theorem e170_1 : wp S d 170 1 [a0, a1, a2, a3] (.int x :: st) h Q = wp S d 170 2 [a0, some (.int x), a2, a3] st h Q := wp_p hc170 dJ7_stringSize_1 rfl
theorem e170_2 : wp S d 170 2 [some (.int x), a1, a2, a3] st h Q = wp S d 170 3 [some (.int x), a1, a2, a3] (.int x :: st) h Q := wp_p hc170 dJ7_stringSize_2 rfl
theorem e170_3 : wp S d 170 3 [a0, a1, a2, a3] (.int x :: st) h Q = if x < 0 then wp S d 170 11 [a0, a1, a2, a3] st h Q else wp S d 170 6 [a0, a1, a2, a3] st h Q := wp_lt hc170 dJ7_stringSize_3 rfl
theorem e170_6 : wp S d 170 6 [a0, a1, a2, a3] st h Q = wp S d 170 7 [a0, a1, a2, a3] (.int (nI 0) :: st) h Q := wp_p hc170 dJ7_stringSize_6 rfl
theorem e170_7 : wp S d 170 7 [a0, a1, a2, a3] (.int x :: st) h Q = wp S d 170 8 [a0, some (.int x), a2, a3] st h Q := wp_p hc170 dJ7_stringSize_7 rfl
theorem e170_8 : wp S d 170 8 [some (.int x), a1, a2, a3] st h Q = wp S d 170 9 [some (.int x), a1, a2, a3] (.int x :: st) h Q := wp_p hc170 dJ7_stringSize_8 rfl
theorem e170_9 : wp S d 170 9 [a0, a1, a2, a3] (.int x :: st) h Q = wp S d 170 10 [a0, a1, a2, a3] (.int (-x) :: st) h Q := wp_p hc170 dJ7_stringSize_9 rfl
theorem e170_10 : wp S d 170 10 [a0, a1, a2, a3] (.int x :: st) h Q = wp S d 170 11 [some (.int x), a1, a2, a3] st h Q := wp_p hc170 dJ7_stringSize_10 rfl
theorem e170_11 : wp S d 170 11 [a0, a1, a2, a3] st h Q = wp S d 170 13 [a0, a1, a2, a3] (.int ((-10)) :: st) h Q := wp_p hc170 dJ7_stringSize_11 rfl
theorem e170_13 : wp S d 170 13 [a0, a1, a2, a3] (.int x :: st) h Q = wp S d 170 14 [a0, a1, some (.int x), a3] st h Q := wp_p hc170 dJ7_stringSize_13 rfl
theorem e170_14 : wp S d 170 14 [a0, a1, a2, a3] st h Q = wp S d 170 15 [a0, a1, a2, a3] (.int (nI 1) :: st) h Q := wp_p hc170 dJ7_stringSize_14 rfl
theorem e170_15 : wp S d 170 15 [a0, a1, a2, a3] (.int x :: st) h Q = wp S d 170 16 [a0, a1, a2, some (.int x)] st h Q := wp_p hc170 dJ7_stringSize_15 rfl
theorem e170_16 : wp S d 170 16 [a0, a1, a2, some (.int x)] st h Q = wp S d 170 17 [a0, a1, a2, some (.int x)] (.int x :: st) h Q := wp_p hc170 dJ7_stringSize_16 rfl
theorem e170_17 : wp S d 170 17 [a0, a1, a2, a3] st h Q = wp S d 170 19 [a0, a1, a2, a3] (.int (nI 10) :: st) h Q := wp_p hc170 dJ7_stringSize_17 rfl
theorem e170_19 : wp S d 170 19 [a0, a1, a2, a3] (.int y :: .int x :: st) h Q = if y ≤ x then wp S d 170 42 [a0, a1, a2, a3] st h Q else wp S d 170 22 [a0, a1, a2, a3] st h Q := wp_ge hc170 dJ7_stringSize_19 rfl
theorem e170_22 : wp S d 170 22 [some (.int x), a1, a2, a3] st h Q = wp S d 170 23 [some (.int x), a1, a2, a3] (.int x :: st) h Q := wp_p hc170 dJ7_stringSize_22 rfl
theorem e170_23 : wp S d 170 23 [a0, a1, some (.int x), a3] st h Q = wp S d 170 24 [a0, a1, some (.int x), a3] (.int x :: st) h Q := wp_p hc170 dJ7_stringSize_23 rfl
theorem e170_24 : wp S d 170 24 [a0, a1, a2, a3] (.int y :: .int x :: st) h Q = if x ≤ y then wp S d 170 31 [a0, a1, a2, a3] st h Q else wp S d 170 27 [a0, a1, a2, a3] st h Q := wp_le hc170 dJ7_stringSize_24 rfl
theorem e170_27 : wp S d 170 27 [a0, a1, a2, some (.int x)] st h Q = wp S d 170 28 [a0, a1, a2, some (.int x)] (.int x :: st) h Q := wp_p hc170 dJ7_stringSize_27 rfl
theorem e170_28 : wp S d 170 28 [a0, some (.int x), a2, a3] st h Q = wp S d 170 29 [a0, some (.int x), a2, a3] (.int x :: st) h Q := wp_p hc170 dJ7_stringSize_28 rfl
theorem e170_29 : wp S d 170 29 [a0, a1, a2, a3] (.int y :: .int x :: st) h Q = wp S d 170 30 [a0, a1, a2, a3] (.int (x + y) :: st) h Q := wp_p hc170 dJ7_stringSize_29 rfl
theorem e170_30 : wp S d 170 30 ls [.int x] h Q = Q (.inl (some (.int x)), h) := wp_r hc170 dJ7_stringSize_30 rfl rfl ⟨x, _, rfl, rfl, rfl, rfl⟩
theorem e170_31 : wp S d 170 31 [a0, a1, a2, a3] st h Q = wp S d 170 33 [a0, a1, a2, a3] (.int (nI 10) :: st) h Q := wp_p hc170 dJ7_stringSize_31 rfl
theorem e170_33 : wp S d 170 33 [a0, a1, some (.int x), a3] st h Q = wp S d 170 34 [a0, a1, some (.int x), a3] (.int x :: st) h Q := wp_p hc170 dJ7_stringSize_33 rfl
theorem e170_34 : wp S d 170 34 [a0, a1, a2, a3] (.int y :: .int x :: st) h Q = wp S d 170 35 [a0, a1, a2, a3] (.int (x * y) :: st) h Q := wp_p hc170 dJ7_stringSize_34 rfl
theorem e170_35 : wp S d 170 35 [a0, a1, a2, a3] (.int x :: st) h Q = wp S d 170 36 [a0, a1, some (.int x), a3] st h Q := wp_p hc170 dJ7_stringSize_35 rfl
theorem e170_36 : wp S d 170 36 [a0, a1, a2, some (.int x)] st h Q = wp S d 170 39 [a0, a1, a2, some (.int (x + nI 1))] st h Q := wp_p hc170 dJ7_stringSize_36 rfl
theorem e170_39 : wp S d 170 39 [a0, a1, a2, a3] st h Q = wp S d 170 16 [a0, a1, a2, a3] st h Q := wp_p hc170 dJ7_stringSize_39 rfl
theorem e170_42 : wp S d 170 42 [a0, a1, a2, a3] st h Q = wp S d 170 44 [a0, a1, a2, a3] (.int (nI 10) :: st) h Q := wp_p hc170 dJ7_stringSize_42 rfl
theorem e170_44 : wp S d 170 44 [a0, some (.int x), a2, a3] st h Q = wp S d 170 45 [a0, some (.int x), a2, a3] (.int x :: st) h Q := wp_p hc170 dJ7_stringSize_44 rfl
theorem e170_45 : wp S d 170 45 [a0, a1, a2, a3] (.int y :: .int x :: st) h Q = wp S d 170 46 [a0, a1, a2, a3] (.int (x + y) :: st) h Q := wp_p hc170 dJ7_stringSize_45 rfl
theorem e170_46 : wp S d 170 46 ls [.int x] h Q = Q (.inl (some (.int x)), h) := wp_r hc170 dJ7_stringSize_46 rfl rfl ⟨x, _, rfl, rfl, rfl, rfl⟩
theorem e171_0 : wp S d 171 0 [a0, some (.int x), a2, a3, a4, a5, a6] st h Q = wp S d 171 1 [a0, some (.int x), a2, a3, a4, a5, a6] (.int x :: st) h Q := wp_p hc171 dJ7_getChars_0 rfl
theorem e171_1 : wp S d 171 1 [a0, a1, a2, a3, a4, a5, a6] (.int x :: st) h Q = wp S d 171 3 [a0, a1, a2, a3, a4, some (.int x), a6] st h Q := wp_p hc171 dJ7_getChars_1 rfl
theorem e171_3 : wp S d 171 3 [some (.int x), a1, a2, a3, a4, a5, a6] st h Q = wp S d 171 4 [some (.int x), a1, a2, a3, a4, a5, a6] (.int x :: st) h Q := wp_p hc171 dJ7_getChars_3 rfl
theorem e171_4 : wp S d 171 4 [a0, a1, a2, a3, a4, a5, a6] (.int x :: st) h Q = if 0 ≤ x then wp S d 171 11 [a0, a1, a2, a3, a4, a5, a6] st h Q else wp S d 171 7 [a0, a1, a2, a3, a4, a5, a6] st h Q := wp_ge hc171 dJ7_getChars_4 rfl
theorem e171_7 : wp S d 171 7 [a0, a1, a2, a3, a4, a5, a6] st h Q = wp S d 171 8 [a0, a1, a2, a3, a4, a5, a6] (.int (nI 1) :: st) h Q := wp_p hc171 dJ7_getChars_7 rfl
theorem e171_8 : wp S d 171 8 [a0, a1, a2, a3, a4, a5, a6] st h Q = wp S d 171 12 [a0, a1, a2, a3, a4, a5, a6] st h Q := wp_p hc171 dJ7_getChars_8 rfl
theorem e171_11 : wp S d 171 11 [a0, a1, a2, a3, a4, a5, a6] st h Q = wp S d 171 12 [a0, a1, a2, a3, a4, a5, a6] (.int (nI 0) :: st) h Q := wp_p hc171 dJ7_getChars_11 rfl
theorem e171_12 : wp S d 171 12 [a0, a1, a2, a3, a4, a5, a6] (.int x :: st) h Q = wp S d 171 14 [a0, a1, a2, a3, a4, a5, some (.int x)] st h Q := wp_p hc171 dJ7_getChars_12 rfl
theorem e171_14 : wp S d 171 14 [a0, a1, a2, a3, a4, a5, some (.int x)] st h Q = wp S d 171 16 [a0, a1, a2, a3, a4, a5, some (.int x)] (.int x :: st) h Q := wp_p hc171 dJ7_getChars_14 rfl
theorem e171_16 : wp S d 171 16 [a0, a1, a2, a3, a4, a5, a6] (.int x :: st) h Q = if x = 0 then wp S d 171 19 [a0, a1, a2, a3, a4, a5, a6] st h Q else wp S d 171 22 [a0, a1, a2, a3, a4, a5, a6] st h Q := wp_ne hc171 dJ7_getChars_16 rfl
theorem e171_19 : wp S d 171 19 [some (.int x), a1, a2, a3, a4, a5, a6] st h Q = wp S d 171 20 [some (.int x), a1, a2, a3, a4, a5, a6] (.int x :: st) h Q := wp_p hc171 dJ7_getChars_19 rfl
theorem e171_20 : wp S d 171 20 [a0, a1, a2, a3, a4, a5, a6] (.int x :: st) h Q = wp S d 171 21 [a0, a1, a2, a3, a4, a5, a6] (.int (-x) :: st) h Q := wp_p hc171 dJ7_getChars_20 rfl
theorem e171_21 : wp S d 171 21 [a0, a1, a2, a3, a4, a5, a6] (.int x :: st) h Q = wp S d 171 22 [some (.int x), a1, a2, a3, a4, a5, a6] st h Q := wp_p hc171 dJ7_getChars_21 rfl
theorem e171_22 : wp S d 171 22 [some (.int x), a1, a2, a3, a4, a5, a6] st h Q = wp S d 171 23 [some (.int x), a1, a2, a3, a4, a5, a6] (.int x :: st) h Q := wp_p hc171 dJ7_getChars_22 rfl
theorem e171_23 : wp S d 171 23 [a0, a1, a2, a3, a4, a5, a6] st h Q = wp S d 171 25 [a0, a1, a2, a3, a4, a5, a6] (.int ((-100)) :: st) h Q := wp_p hc171 dJ7_getChars_23 rfl
theorem e171_25 : wp S d 171 25 [a0, a1, a2, a3, a4, a5, a6] (.int y :: .int x :: st) h Q = if y < x then wp S d 171 72 [a0, a1, a2, a3, a4, a5, a6] st h Q else wp S d 171 28 [a0, a1, a2, a3, a4, a5, a6] st h Q := wp_gt hc171 dJ7_getChars_25 rfl
theorem e171_28 : wp S d 171 28 [some (.int x), a1, a2, a3, a4, a5, a6] st h Q = wp S d 171 29 [some (.int x), a1, a2, a3, a4, a5, a6] (.int x :: st) h Q := wp_p hc171 dJ7_getChars_28 rfl
theorem e171_29 : wp S d 171 29 [a0, a1, a2, a3, a4, a5, a6] st h Q = wp S d 171 31 [a0, a1, a2, a3, a4, a5, a6] (.int (nI 100) :: st) h Q := wp_p hc171 dJ7_getChars_29 rfl
theorem e171_31 : wp S d 171 31 [a0, a1, a2, a3, a4, a5, a6] (.int y :: .int x :: st) h Q = (¬ y = 0 ∧ wp S d 171 32 [a0, a1, a2, a3, a4, a5, a6] (.int (x / y) :: st) h Q) := wp_id hc171 dJ7_getChars_31
theorem e171_32 : wp S d 171 32 [a0, a1, a2, a3, a4, a5, a6] (.int x :: st) h Q = wp S d 171 33 [a0, a1, a2, some (.int x), a4, a5, a6] st h Q := wp_p hc171 dJ7_getChars_32 rfl
theorem e171_33 : wp S d 171 33 [a0, a1, a2, some (.int x), a4, a5, a6] st h Q = wp S d 171 34 [a0, a1, a2, some (.int x), a4, a5, a6] (.int x :: st) h Q := wp_p hc171 dJ7_getChars_33 rfl
theorem e171_34 : wp S d 171 34 [a0, a1, a2, a3, a4, a5, a6] st h Q = wp S d 171 36 [a0, a1, a2, a3, a4, a5, a6] (.int (nI 100) :: st) h Q := wp_p hc171 dJ7_getChars_34 rfl
theorem e171_36 : wp S d 171 36 [a0, a1, a2, a3, a4, a5, a6] (.int y :: .int x :: st) h Q = wp S d 171 37 [a0, a1, a2, a3, a4, a5, a6] (.int (x * y) :: st) h Q := wp_p hc171 dJ7_getChars_36 rfl
theorem e171_37 : wp S d 171 37 [some (.int x), a1, a2, a3, a4, a5, a6] st h Q = wp S d 171 38 [some (.int x), a1, a2, a3, a4, a5, a6] (.int x :: st) h Q := wp_p hc171 dJ7_getChars_37 rfl
theorem e171_38 : wp S d 171 38 [a0, a1, a2, a3, a4, a5, a6] (.int y :: .int x :: st) h Q = wp S d 171 39 [a0, a1, a2, a3, a4, a5, a6] (.int (x - y) :: st) h Q := wp_p hc171 dJ7_getChars_38 rfl
theorem e171_39 : wp S d 171 39 [a0, a1, a2, a3, a4, a5, a6] (.int x :: st) h Q = wp S d 171 41 [a0, a1, a2, a3, some (.int x), a5, a6] st h Q := wp_p hc171 dJ7_getChars_39 rfl
theorem e171_41 : wp S d 171 41 [a0, a1, a2, some (.int x), a4, a5, a6] st h Q = wp S d 171 42 [a0, a1, a2, some (.int x), a4, a5, a6] (.int x :: st) h Q := wp_p hc171 dJ7_getChars_41 rfl
theorem e171_42 : wp S d 171 42 [a0, a1, a2, a3, a4, a5, a6] (.int x :: st) h Q = wp S d 171 43 [some (.int x), a1, a2, a3, a4, a5, a6] st h Q := wp_p hc171 dJ7_getChars_42 rfl
theorem e171_43 : wp S d 171 43 [a0, a1, some (.ref r), a3, a4, a5, a6] st h Q = wp S d 171 44 [a0, a1, some (.ref r), a3, a4, a5, a6] (.ref r :: st) h Q := wp_p hc171 dJ7_getChars_43 rfl
theorem e171_44 : wp S d 171 44 [a0, a1, a2, a3, a4, some (.int x), a6] st h Q = wp S d 171 47 [a0, a1, a2, a3, a4, some (.int (x + (-1))), a6] st h Q := wp_p hc171 dJ7_getChars_44 rfl
theorem e171_47 : wp S d 171 47 [a0, a1, a2, a3, a4, some (.int x), a6] st h Q = wp S d 171 49 [a0, a1, a2, a3, a4, some (.int x), a6] (.int x :: st) h Q := wp_p hc171 dJ7_getChars_47 rfl
theorem e171_49 : wp S d 171 49 [a0, a1, a2, a3, a4, a5, a6] st h Q = wp S d 171 52 [a0, a1, a2, a3, a4, a5, a6] (.retAddr 5 :: st) h Q := wp_gs hc171 dJ7_getChars_49 ho171 gs17_83
theorem e171_52 : wp S d 171 52 [a0, a1, a2, a3, some (.int x), a5, a6] st h Q = wp S d 171 54 [a0, a1, a2, a3, some (.int x), a5, a6] (.int x :: st) h Q := wp_p hc171 dJ7_getChars_52 rfl
theorem e171_54 : wp S d 171 54 [a0, a1, a2, a3, a4, a5, a6] (.int x :: .ref r :: st) h Q = am_baK h r x (fun z => wp S d 171 55 [a0, a1, a2, a3, a4, a5, a6] (.int z :: st) h Q) := wp_ba hc171 dJ7_getChars_54
theorem e171_54k : wp S d 171 54 [a0, a1, a2, a3, a4, a5, a6] (.int x :: .retAddr r :: st) h Q = am_bcK r x (fun z => wp S d 171 55 [a0, a1, a2, a3, a4, a5, a6] (.int z :: st) h Q) := wp_baS hc171 dJ7_getChars_54
theorem e171_55 : wp S d 171 55 [a0, a1, a2, a3, a4, a5, a6] (.int y :: .int x :: .ref r :: st) h Q = am_bsK h r x y (fun h => wp S d 171 56 [a0, a1, a2, a3, a4, a5, a6] st h Q) := wp_bs hc171 dJ7_getChars_55
theorem e171_56 : wp S d 171 56 [a0, a1, some (.ref r), a3, a4, a5, a6] st h Q = wp S d 171 57 [a0, a1, some (.ref r), a3, a4, a5, a6] (.ref r :: st) h Q := wp_p hc171 dJ7_getChars_56 rfl
theorem e171_57 : wp S d 171 57 [a0, a1, a2, a3, a4, some (.int x), a6] st h Q = wp S d 171 60 [a0, a1, a2, a3, a4, some (.int (x + (-1))), a6] st h Q := wp_p hc171 dJ7_getChars_57 rfl
theorem e171_60 : wp S d 171 60 [a0, a1, a2, a3, a4, some (.int x), a6] st h Q = wp S d 171 62 [a0, a1, a2, a3, a4, some (.int x), a6] (.int x :: st) h Q := wp_p hc171 dJ7_getChars_60 rfl
theorem e171_62 : wp S d 171 62 [a0, a1, a2, a3, a4, a5, a6] st h Q = wp S d 171 65 [a0, a1, a2, a3, a4, a5, a6] (.retAddr 4 :: st) h Q := wp_gs hc171 dJ7_getChars_62 ho171 gs17_87
theorem e171_65 : wp S d 171 65 [a0, a1, a2, a3, some (.int x), a5, a6] st h Q = wp S d 171 67 [a0, a1, a2, a3, some (.int x), a5, a6] (.int x :: st) h Q := wp_p hc171 dJ7_getChars_65 rfl
theorem e171_67 : wp S d 171 67 [a0, a1, a2, a3, a4, a5, a6] (.int x :: .ref r :: st) h Q = am_baK h r x (fun z => wp S d 171 68 [a0, a1, a2, a3, a4, a5, a6] (.int z :: st) h Q) := wp_ba hc171 dJ7_getChars_67
theorem e171_67k : wp S d 171 67 [a0, a1, a2, a3, a4, a5, a6] (.int x :: .retAddr r :: st) h Q = am_bcK r x (fun z => wp S d 171 68 [a0, a1, a2, a3, a4, a5, a6] (.int z :: st) h Q) := wp_baS hc171 dJ7_getChars_67
theorem e171_68 : wp S d 171 68 [a0, a1, a2, a3, a4, a5, a6] (.int y :: .int x :: .ref r :: st) h Q = am_bsK h r x y (fun h => wp S d 171 69 [a0, a1, a2, a3, a4, a5, a6] st h Q) := wp_bs hc171 dJ7_getChars_68
theorem e171_69 : wp S d 171 69 [a0, a1, a2, a3, a4, a5, a6] st h Q = wp S d 171 22 [a0, a1, a2, a3, a4, a5, a6] st h Q := wp_p hc171 dJ7_getChars_69 rfl
theorem e171_72 : wp S d 171 72 [a0, a1, some (.ref r), a3, a4, a5, a6] st h Q = wp S d 171 73 [a0, a1, some (.ref r), a3, a4, a5, a6] (.ref r :: st) h Q := wp_p hc171 dJ7_getChars_72 rfl
theorem e171_73 : wp S d 171 73 [a0, a1, a2, a3, a4, some (.int x), a6] st h Q = wp S d 171 76 [a0, a1, a2, a3, a4, some (.int (x + (-1))), a6] st h Q := wp_p hc171 dJ7_getChars_73 rfl
theorem e171_76 : wp S d 171 76 [a0, a1, a2, a3, a4, some (.int x), a6] st h Q = wp S d 171 78 [a0, a1, a2, a3, a4, some (.int x), a6] (.int x :: st) h Q := wp_p hc171 dJ7_getChars_76 rfl
theorem e171_78 : wp S d 171 78 [a0, a1, a2, a3, a4, a5, a6] st h Q = wp S d 171 81 [a0, a1, a2, a3, a4, a5, a6] (.retAddr 5 :: st) h Q := wp_gs hc171 dJ7_getChars_78 ho171 gs17_83
theorem e171_81 : wp S d 171 81 [some (.int x), a1, a2, a3, a4, a5, a6] st h Q = wp S d 171 82 [some (.int x), a1, a2, a3, a4, a5, a6] (.int x :: st) h Q := wp_p hc171 dJ7_getChars_81 rfl
theorem e171_82 : wp S d 171 82 [a0, a1, a2, a3, a4, a5, a6] (.int x :: st) h Q = wp S d 171 83 [a0, a1, a2, a3, a4, a5, a6] (.int (-x) :: st) h Q := wp_p hc171 dJ7_getChars_82 rfl
theorem e171_83 : wp S d 171 83 [a0, a1, a2, a3, a4, a5, a6] (.int x :: .ref r :: st) h Q = am_baK h r x (fun z => wp S d 171 84 [a0, a1, a2, a3, a4, a5, a6] (.int z :: st) h Q) := wp_ba hc171 dJ7_getChars_83
theorem e171_83k : wp S d 171 83 [a0, a1, a2, a3, a4, a5, a6] (.int x :: .retAddr r :: st) h Q = am_bcK r x (fun z => wp S d 171 84 [a0, a1, a2, a3, a4, a5, a6] (.int z :: st) h Q) := wp_baS hc171 dJ7_getChars_83
theorem e171_84 : wp S d 171 84 [a0, a1, a2, a3, a4, a5, a6] (.int y :: .int x :: .ref r :: st) h Q = am_bsK h r x y (fun h => wp S d 171 85 [a0, a1, a2, a3, a4, a5, a6] st h Q) := wp_bs hc171 dJ7_getChars_84
theorem e171_85 : wp S d 171 85 [some (.int x), a1, a2, a3, a4, a5, a6] st h Q = wp S d 171 86 [some (.int x), a1, a2, a3, a4, a5, a6] (.int x :: st) h Q := wp_p hc171 dJ7_getChars_85 rfl
theorem e171_86 : wp S d 171 86 [a0, a1, a2, a3, a4, a5, a6] st h Q = wp S d 171 88 [a0, a1, a2, a3, a4, a5, a6] (.int ((-9)) :: st) h Q := wp_p hc171 dJ7_getChars_86 rfl
theorem e171_88 : wp S d 171 88 [a0, a1, a2, a3, a4, a5, a6] (.int y :: .int x :: st) h Q = if y ≤ x then wp S d 171 104 [a0, a1, a2, a3, a4, a5, a6] st h Q else wp S d 171 91 [a0, a1, a2, a3, a4, a5, a6] st h Q := wp_ge hc171 dJ7_getChars_88 rfl
theorem e171_91 : wp S d 171 91 [a0, a1, some (.ref r), a3, a4, a5, a6] st h Q = wp S d 171 92 [a0, a1, some (.ref r), a3, a4, a5, a6] (.ref r :: st) h Q := wp_p hc171 dJ7_getChars_91 rfl
theorem e171_92 : wp S d 171 92 [a0, a1, a2, a3, a4, some (.int x), a6] st h Q = wp S d 171 95 [a0, a1, a2, a3, a4, some (.int (x + (-1))), a6] st h Q := wp_p hc171 dJ7_getChars_92 rfl
theorem e171_95 : wp S d 171 95 [a0, a1, a2, a3, a4, some (.int x), a6] st h Q = wp S d 171 97 [a0, a1, a2, a3, a4, some (.int x), a6] (.int x :: st) h Q := wp_p hc171 dJ7_getChars_95 rfl
theorem e171_97 : wp S d 171 97 [a0, a1, a2, a3, a4, a5, a6] st h Q = wp S d 171 100 [a0, a1, a2, a3, a4, a5, a6] (.retAddr 4 :: st) h Q := wp_gs hc171 dJ7_getChars_97 ho171 gs17_87
theorem e171_100 : wp S d 171 100 [some (.int x), a1, a2, a3, a4, a5, a6] st h Q = wp S d 171 101 [some (.int x), a1, a2, a3, a4, a5, a6] (.int x :: st) h Q := wp_p hc171 dJ7_getChars_100 rfl
theorem e171_101 : wp S d 171 101 [a0, a1, a2, a3, a4, a5, a6] (.int x :: st) h Q = wp S d 171 102 [a0, a1, a2, a3, a4, a5, a6] (.int (-x) :: st) h Q := wp_p hc171 dJ7_getChars_101 rfl
theorem e171_102 : wp S d 171 102 [a0, a1, a2, a3, a4, a5, a6] (.int x :: .ref r :: st) h Q = am_baK h r x (fun z => wp S d 171 103 [a0, a1, a2, a3, a4, a5, a6] (.int z :: st) h Q) := wp_ba hc171 dJ7_getChars_102
theorem e171_102k : wp S d 171 102 [a0, a1, a2, a3, a4, a5, a6] (.int x :: .retAddr r :: st) h Q = am_bcK r x (fun z => wp S d 171 103 [a0, a1, a2, a3, a4, a5, a6] (.int z :: st) h Q) := wp_baS hc171 dJ7_getChars_102
theorem e171_103 : wp S d 171 103 [a0, a1, a2, a3, a4, a5, a6] (.int y :: .int x :: .ref r :: st) h Q = am_bsK h r x y (fun h => wp S d 171 104 [a0, a1, a2, a3, a4, a5, a6] st h Q) := wp_bs hc171 dJ7_getChars_103
theorem e171_104 : wp S d 171 104 [a0, a1, a2, a3, a4, a5, some (.int x)] st h Q = wp S d 171 106 [a0, a1, a2, a3, a4, a5, some (.int x)] (.int x :: st) h Q := wp_p hc171 dJ7_getChars_104 rfl
theorem e171_106 : wp S d 171 106 [a0, a1, a2, a3, a4, a5, a6] (.int x :: st) h Q = if x = 0 then wp S d 171 118 [a0, a1, a2, a3, a4, a5, a6] st h Q else wp S d 171 109 [a0, a1, a2, a3, a4, a5, a6] st h Q := wp_eq hc171 dJ7_getChars_106 rfl
theorem e171_109 : wp S d 171 109 [a0, a1, some (.ref r), a3, a4, a5, a6] st h Q = wp S d 171 110 [a0, a1, some (.ref r), a3, a4, a5, a6] (.ref r :: st) h Q := wp_p hc171 dJ7_getChars_109 rfl
theorem e171_110 : wp S d 171 110 [a0, a1, a2, a3, a4, some (.int x), a6] st h Q = wp S d 171 113 [a0, a1, a2, a3, a4, some (.int (x + (-1))), a6] st h Q := wp_p hc171 dJ7_getChars_110 rfl
theorem e171_113 : wp S d 171 113 [a0, a1, a2, a3, a4, some (.int x), a6] st h Q = wp S d 171 115 [a0, a1, a2, a3, a4, some (.int x), a6] (.int x :: st) h Q := wp_p hc171 dJ7_getChars_113 rfl
theorem e171_115 : wp S d 171 115 [a0, a1, a2, a3, a4, a5, a6] st h Q = wp S d 171 117 [a0, a1, a2, a3, a4, a5, a6] (.int (nI 45) :: st) h Q := wp_p hc171 dJ7_getChars_115 rfl
theorem e171_117 : wp S d 171 117 [a0, a1, a2, a3, a4, a5, a6] (.int y :: .int x :: .ref r :: st) h Q = am_bsK h r x y (fun h => wp S d 171 118 [a0, a1, a2, a3, a4, a5, a6] st h Q) := wp_bs hc171 dJ7_getChars_117
theorem e171_118 : wp S d 171 118 [a0, a1, a2, a3, a4, some (.int x), a6] st h Q = wp S d 171 120 [a0, a1, a2, a3, a4, some (.int x), a6] (.int x :: st) h Q := wp_p hc171 dJ7_getChars_118 rfl
theorem e171_120 : wp S d 171 120 ls [.int x] h Q = Q (.inl (some (.int x)), h) := wp_r hc171 dJ7_getChars_120 rfl rfl ⟨x, _, rfl, rfl, rfl, rfl⟩
theorem e172_0 : wp S d 172 0 [some (.int x), a1, a2, a3] st h Q = wp S d 172 1 [some (.int x), a1, a2, a3] (.int x :: st) h Q := wp_p hc172 dJ8_newLength_0 rfl
theorem e172_1 : wp S d 172 1 [a0, some (.int x), a2, a3] st h Q = wp S d 172 2 [a0, some (.int x), a2, a3] (.int x :: st) h Q := wp_p hc172 dJ8_newLength_1 rfl
theorem e172_2 : wp S d 172 2 [a0, a1, some (.int x), a3] st h Q = wp S d 172 3 [a0, a1, some (.int x), a3] (.int x :: st) h Q := wp_p hc172 dJ8_newLength_2 rfl
theorem e172_3 : wp S (d + 1) 172 3 [a0, a1, a2, a3] (.int y :: .int x :: st) h Q = (am_w8 st ∧ wp S (d + 1) 172 6 [a0, a1, a2, a3] (.int (if x < y then y else x) :: st) h Q) := wp_mx hc172 dJ8_newLength_3 ho172 sp18_194 nc18_194
theorem e172_6 : wp S d 172 6 [a0, a1, a2, a3] (.int y :: .int x :: st) h Q = wp S d 172 7 [a0, a1, a2, a3] (.int (x + y) :: st) h Q := wp_p hc172 dJ8_newLength_6 rfl
theorem e172_7 : wp S d 172 7 [a0, a1, a2, a3] (.int x :: st) h Q = wp S d 172 8 [a0, a1, a2, some (.int x)] st h Q := wp_p hc172 dJ8_newLength_7 rfl
theorem e172_8 : wp S d 172 8 [a0, a1, a2, a3] st h Q = wp S d 172 9 [a0, a1, a2, a3] (.int (nI 0) :: st) h Q := wp_p hc172 dJ8_newLength_8 rfl
theorem e172_9 : wp S d 172 9 [a0, a1, a2, some (.int x)] st h Q = wp S d 172 10 [a0, a1, a2, some (.int x)] (.int x :: st) h Q := wp_p hc172 dJ8_newLength_9 rfl
theorem e172_10 : wp S d 172 10 [a0, a1, a2, a3] (.int y :: .int x :: st) h Q = if y ≤ x then wp S d 172 21 [a0, a1, a2, a3] st h Q else wp S d 172 13 [a0, a1, a2, a3] st h Q := wp_ge hc172 dJ8_newLength_10 rfl
theorem e172_13 : wp S d 172 13 [a0, a1, a2, some (.int x)] st h Q = wp S d 172 14 [a0, a1, a2, some (.int x)] (.int x :: st) h Q := wp_p hc172 dJ8_newLength_13 rfl
theorem e172_14 : wp S d 172 14 [a0, a1, a2, a3] st h Q = wp S d 172 16 [a0, a1, a2, a3] (.int (nI 2147483639) :: st) h Q := wp_lc hc172 dJ8_newLength_14 ho172 lc18_200
theorem e172_16 : wp S d 172 16 [a0, a1, a2, a3] (.int y :: .int x :: st) h Q = if y < x then wp S d 172 21 [a0, a1, a2, a3] st h Q else wp S d 172 19 [a0, a1, a2, a3] st h Q := wp_gt hc172 dJ8_newLength_16 rfl
theorem e172_19 : wp S d 172 19 [a0, a1, a2, some (.int x)] st h Q = wp S d 172 20 [a0, a1, a2, some (.int x)] (.int x :: st) h Q := wp_p hc172 dJ8_newLength_19 rfl
theorem e172_20 : wp S d 172 20 ls [.int x] h Q = Q (.inl (some (.int x)), h) := wp_r hc172 dJ8_newLength_20 rfl rfl ⟨x, _, rfl, rfl, rfl, rfl⟩
theorem e172_21 : wp S d 172 21 [some (.int x), a1, a2, a3] st h Q = wp S d 172 22 [some (.int x), a1, a2, a3] (.int x :: st) h Q := wp_p hc172 dJ8_newLength_21 rfl
theorem e172_22 : wp S d 172 22 [a0, some (.int x), a2, a3] st h Q = wp S d 172 23 [a0, some (.int x), a2, a3] (.int x :: st) h Q := wp_p hc172 dJ8_newLength_22 rfl
theorem e172_23 : wp S (d + 1) 172 23 [a0, a1, a2, a3] (.int x2 :: .int x1 :: st) h Q = (am_w8 st ∧ wp S d 173 0 [some (.int x1), some (.int x2), none] [] h (am_kr S 0 (d + 1) 172 23 [a0, a1, a2, a3] st Q)) := wp_cS [.int x1, .int x2] hc172 dJ8_newLength_23 ho172 cl18_201 (by decide) ns18_201 hst173 hnp173 hml173 hlsl173 rfl rfl rfl
theorem e172_26 : wp S d 172 26 ls [.int x] h Q = Q (.inl (some (.int x)), h) := wp_r hc172 dJ8_newLength_26 rfl rfl ⟨x, _, rfl, rfl, rfl, rfl⟩
theorem e173_0 : wp S d 173 0 [some (.int x), a1, a2] st h Q = wp S d 173 1 [some (.int x), a1, a2] (.int x :: st) h Q := wp_p hc173 dJ8_hugeLength_0 rfl
theorem e173_1 : wp S d 173 1 [a0, some (.int x), a2] st h Q = wp S d 173 2 [a0, some (.int x), a2] (.int x :: st) h Q := wp_p hc173 dJ8_hugeLength_1 rfl
theorem e173_2 : wp S d 173 2 [a0, a1, a2] (.int y :: .int x :: st) h Q = wp S d 173 3 [a0, a1, a2] (.int (x + y) :: st) h Q := wp_p hc173 dJ8_hugeLength_2 rfl
theorem e173_3 : wp S d 173 3 [a0, a1, a2] (.int x :: st) h Q = wp S d 173 4 [a0, a1, some (.int x)] st h Q := wp_p hc173 dJ8_hugeLength_3 rfl
theorem e173_4 : wp S d 173 4 [a0, a1, some (.int x)] st h Q = wp S d 173 5 [a0, a1, some (.int x)] (.int x :: st) h Q := wp_p hc173 dJ8_hugeLength_4 rfl
theorem e173_5 : wp S d 173 5 [a0, a1, a2] (.int x :: st) h Q = if 0 ≤ x then wp S d 173 49 [a0, a1, a2] st h Q else wp S d 173 8 [a0, a1, a2] st h Q := wp_ge hc173 dJ8_hugeLength_5 rfl
theorem e173_11 : wp S d 173 11 [a0, a1, a2] (.ref r :: st) h Q = wp S d 173 12 [a0, a1, a2] (.ref r :: .ref r :: st) h Q := wp_p hc173 dJ8_hugeLength_11 rfl
theorem e173_11i : wp S d 173 11 [a0, a1, a2] (.int x :: st) h Q = wp S d 173 12 [a0, a1, a2] (.int x :: .int x :: st) h Q := wp_p hc173 dJ8_hugeLength_11 rfl
theorem e173_15 : wp S d 173 15 [a0, a1, a2] (.ref r :: st) h Q = wp S d 173 16 [a0, a1, a2] (.ref r :: .ref r :: st) h Q := wp_p hc173 dJ8_hugeLength_15 rfl
theorem e173_15i : wp S d 173 15 [a0, a1, a2] (.int x :: st) h Q = wp S d 173 16 [a0, a1, a2] (.int x :: .int x :: st) h Q := wp_p hc173 dJ8_hugeLength_15 rfl
theorem e173_24 : wp S d 173 24 [some (.int x), a1, a2] st h Q = wp S d 173 25 [some (.int x), a1, a2] (.int x :: st) h Q := wp_p hc173 dJ8_hugeLength_24 rfl
theorem e173_33 : wp S d 173 33 [a0, some (.int x), a2] st h Q = wp S d 173 34 [a0, some (.int x), a2] (.int x :: st) h Q := wp_p hc173 dJ8_hugeLength_33 rfl
theorem e173_48 : wp S d 173 48 ls (.ref r :: st) h Q = (am_isC h r 7 = true ∧ Q (.inr r, h)) := wp_tC hc173 dJ8_hugeLength_48 rfl
theorem e173_49 : wp S d 173 49 [a0, a1, some (.int x)] st h Q = wp S d 173 50 [a0, a1, some (.int x)] (.int x :: st) h Q := wp_p hc173 dJ8_hugeLength_49 rfl
theorem e173_50 : wp S d 173 50 [a0, a1, a2] st h Q = wp S d 173 52 [a0, a1, a2] (.int (nI 2147483639) :: st) h Q := wp_lc hc173 dJ8_hugeLength_50 ho173 lc18_200
theorem e173_52 : wp S d 173 52 [a0, a1, a2] (.int y :: .int x :: st) h Q = if y < x then wp S d 173 58 [a0, a1, a2] st h Q else wp S d 173 55 [a0, a1, a2] st h Q := wp_gt hc173 dJ8_hugeLength_52 rfl
theorem e173_55 : wp S d 173 55 [a0, a1, a2] st h Q = wp S d 173 57 [a0, a1, a2] (.int (nI 2147483639) :: st) h Q := wp_lc hc173 dJ8_hugeLength_55 ho173 lc18_200
theorem e173_57 : wp S d 173 57 ls [.int x] h Q = Q (.inl (some (.int x)), h) := wp_r hc173 dJ8_hugeLength_57 rfl rfl ⟨x, _, rfl, rfl, rfl, rfl⟩
theorem e173_58 : wp S d 173 58 [a0, a1, some (.int x)] st h Q = wp S d 173 59 [a0, a1, some (.int x)] (.int x :: st) h Q := wp_p hc173 dJ8_hugeLength_58 rfl
theorem e173_59 : wp S d 173 59 ls [.int x] h Q = Q (.inl (some (.int x)), h) := wp_r hc173 dJ8_hugeLength_59 rfl rfl ⟨x, _, rfl, rfl, rfl, rfl⟩
theorem e174_0 : wp S d 174 0 [some (.int x), a1, a2, a3] st h Q = wp S d 174 1 [some (.int x), a1, a2, a3] (.int x :: st) h Q := wp_p hc174 dJ10_checkFromToIndex_0 rfl
theorem e174_1 : wp S d 174 1 [a0, a1, a2, a3] (.int x :: st) h Q = if x < 0 then wp S d 174 14 [a0, a1, a2, a3] st h Q else wp S d 174 4 [a0, a1, a2, a3] st h Q := wp_lt hc174 dJ10_checkFromToIndex_1 rfl
theorem e174_4 : wp S d 174 4 [some (.int x), a1, a2, a3] st h Q = wp S d 174 5 [some (.int x), a1, a2, a3] (.int x :: st) h Q := wp_p hc174 dJ10_checkFromToIndex_4 rfl
theorem e174_5 : wp S d 174 5 [a0, some (.int x), a2, a3] st h Q = wp S d 174 6 [a0, some (.int x), a2, a3] (.int x :: st) h Q := wp_p hc174 dJ10_checkFromToIndex_5 rfl
theorem e174_6 : wp S d 174 6 [a0, a1, a2, a3] (.int y :: .int x :: st) h Q = if y < x then wp S d 174 14 [a0, a1, a2, a3] st h Q else wp S d 174 9 [a0, a1, a2, a3] st h Q := wp_gt hc174 dJ10_checkFromToIndex_6 rfl
theorem e174_9 : wp S d 174 9 [a0, some (.int x), a2, a3] st h Q = wp S d 174 10 [a0, some (.int x), a2, a3] (.int x :: st) h Q := wp_p hc174 dJ10_checkFromToIndex_9 rfl
theorem e174_10 : wp S d 174 10 [a0, a1, some (.int x), a3] st h Q = wp S d 174 11 [a0, a1, some (.int x), a3] (.int x :: st) h Q := wp_p hc174 dJ10_checkFromToIndex_10 rfl
theorem e174_11 : wp S d 174 11 [a0, a1, a2, a3] (.int y :: .int x :: st) h Q = if x ≤ y then wp S d 174 22 [a0, a1, a2, a3] st h Q else wp S d 174 14 [a0, a1, a2, a3] st h Q := wp_le hc174 dJ10_checkFromToIndex_11 rfl
theorem e174_14 : wp S d 174 14 [a0, a1, a2, some (.ref r)] st h Q = wp S d 174 15 [a0, a1, a2, some (.ref r)] (.ref r :: st) h Q := wp_p hc174 dJ10_checkFromToIndex_14 rfl
theorem e174_14n : wp S d 174 14 [a0, a1, a2, some (.null)] st h Q = wp S d 174 15 [a0, a1, a2, some (.null)] (.null :: st) h Q := wp_p hc174 dJ10_checkFromToIndex_14 rfl
theorem e174_14k : wp S d 174 14 [a0, a1, a2, some (.retAddr r)] st h Q = wp S d 174 15 [a0, a1, a2, some (.retAddr r)] (.retAddr r :: st) h Q := wp_p hc174 dJ10_checkFromToIndex_14 rfl
theorem e174_15 : wp S d 174 15 [some (.int x), a1, a2, a3] st h Q = wp S d 174 16 [some (.int x), a1, a2, a3] (.int x :: st) h Q := wp_p hc174 dJ10_checkFromToIndex_15 rfl
theorem e174_16 : wp S d 174 16 [a0, some (.int x), a2, a3] st h Q = wp S d 174 17 [a0, some (.int x), a2, a3] (.int x :: st) h Q := wp_p hc174 dJ10_checkFromToIndex_16 rfl
theorem e174_17 : wp S d 174 17 [a0, a1, some (.int x), a3] st h Q = wp S d 174 18 [a0, a1, some (.int x), a3] (.int x :: st) h Q := wp_p hc174 dJ10_checkFromToIndex_17 rfl
theorem e174_21 : wp S d 174 21 ls (.ref r :: st) h Q = (am_isC h r 7 = true ∧ Q (.inr r, h)) := wp_tC hc174 dJ10_checkFromToIndex_21 rfl
theorem e174_22 : wp S d 174 22 [some (.int x), a1, a2, a3] st h Q = wp S d 174 23 [some (.int x), a1, a2, a3] (.int x :: st) h Q := wp_p hc174 dJ10_checkFromToIndex_22 rfl
theorem e174_23 : wp S d 174 23 ls [.int x] h Q = Q (.inl (some (.int x)), h) := wp_r hc174 dJ10_checkFromToIndex_23 rfl rfl ⟨x, _, rfl, rfl, rfl, rfl⟩
theorem e175_0 : wp S d 175 0 [some (.int x), a1, a2] st h Q = wp S d 175 1 [some (.int x), a1, a2] (.int x :: st) h Q := wp_p hc175 dJ10_checkIndex_0 rfl
theorem e175_1 : wp S d 175 1 [a0, a1, a2] (.int x :: st) h Q = if x < 0 then wp S d 175 9 [a0, a1, a2] st h Q else wp S d 175 4 [a0, a1, a2] st h Q := wp_lt hc175 dJ10_checkIndex_1 rfl
theorem e175_4 : wp S d 175 4 [some (.int x), a1, a2] st h Q = wp S d 175 5 [some (.int x), a1, a2] (.int x :: st) h Q := wp_p hc175 dJ10_checkIndex_4 rfl
theorem e175_5 : wp S d 175 5 [a0, some (.int x), a2] st h Q = wp S d 175 6 [a0, some (.int x), a2] (.int x :: st) h Q := wp_p hc175 dJ10_checkIndex_5 rfl
theorem e175_6 : wp S d 175 6 [a0, a1, a2] (.int y :: .int x :: st) h Q = if x < y then wp S d 175 16 [a0, a1, a2] st h Q else wp S d 175 9 [a0, a1, a2] st h Q := wp_lt hc175 dJ10_checkIndex_6 rfl
theorem e175_9 : wp S d 175 9 [a0, a1, some (.ref r)] st h Q = wp S d 175 10 [a0, a1, some (.ref r)] (.ref r :: st) h Q := wp_p hc175 dJ10_checkIndex_9 rfl
theorem e175_9n : wp S d 175 9 [a0, a1, some (.null)] st h Q = wp S d 175 10 [a0, a1, some (.null)] (.null :: st) h Q := wp_p hc175 dJ10_checkIndex_9 rfl
theorem e175_9k : wp S d 175 9 [a0, a1, some (.retAddr r)] st h Q = wp S d 175 10 [a0, a1, some (.retAddr r)] (.retAddr r :: st) h Q := wp_p hc175 dJ10_checkIndex_9 rfl
theorem e175_10 : wp S d 175 10 [some (.int x), a1, a2] st h Q = wp S d 175 11 [some (.int x), a1, a2] (.int x :: st) h Q := wp_p hc175 dJ10_checkIndex_10 rfl
theorem e175_11 : wp S d 175 11 [a0, some (.int x), a2] st h Q = wp S d 175 12 [a0, some (.int x), a2] (.int x :: st) h Q := wp_p hc175 dJ10_checkIndex_11 rfl
theorem e175_15 : wp S d 175 15 ls (.ref r :: st) h Q = (am_isC h r 7 = true ∧ Q (.inr r, h)) := wp_tC hc175 dJ10_checkIndex_15 rfl
theorem e175_16 : wp S d 175 16 [some (.int x), a1, a2] st h Q = wp S d 175 17 [some (.int x), a1, a2] (.int x :: st) h Q := wp_p hc175 dJ10_checkIndex_16 rfl
theorem e175_17 : wp S d 175 17 ls [.int x] h Q = Q (.inl (some (.int x)), h) := wp_r hc175 dJ10_checkIndex_17 rfl rfl ⟨x, _, rfl, rfl, rfl, rfl⟩
theorem e176_0 : wp S d 176 0 [a0, a1, some (.int x), a3] st h Q = wp S d 176 1 [a0, a1, some (.int x), a3] (.int x :: st) h Q := wp_p hc176 dJ10_checkFromIndexSize_0 rfl
theorem e176_1 : wp S d 176 1 [some (.int x), a1, a2, a3] st h Q = wp S d 176 2 [some (.int x), a1, a2, a3] (.int x :: st) h Q := wp_p hc176 dJ10_checkFromIndexSize_1 rfl
theorem e176_2 : wp S d 176 2 [a0, a1, a2, a3] (.int y :: .int x :: st) h Q = wp S d 176 3 [a0, a1, a2, a3] (.int (x ||| y) :: st) h Q := wp_p hc176 dJ10_checkFromIndexSize_2 rfl
theorem e176_3 : wp S d 176 3 [a0, some (.int x), a2, a3] st h Q = wp S d 176 4 [a0, some (.int x), a2, a3] (.int x :: st) h Q := wp_p hc176 dJ10_checkFromIndexSize_3 rfl
theorem e176_4 : wp S d 176 4 [a0, a1, a2, a3] (.int y :: .int x :: st) h Q = wp S d 176 5 [a0, a1, a2, a3] (.int (x ||| y) :: st) h Q := wp_p hc176 dJ10_checkFromIndexSize_4 rfl
theorem e176_5 : wp S d 176 5 [a0, a1, a2, a3] (.int x :: st) h Q = if x < 0 then wp S d 176 15 [a0, a1, a2, a3] st h Q else wp S d 176 8 [a0, a1, a2, a3] st h Q := wp_lt hc176 dJ10_checkFromIndexSize_5 rfl
theorem e176_8 : wp S d 176 8 [a0, some (.int x), a2, a3] st h Q = wp S d 176 9 [a0, some (.int x), a2, a3] (.int x :: st) h Q := wp_p hc176 dJ10_checkFromIndexSize_8 rfl
theorem e176_9 : wp S d 176 9 [a0, a1, some (.int x), a3] st h Q = wp S d 176 10 [a0, a1, some (.int x), a3] (.int x :: st) h Q := wp_p hc176 dJ10_checkFromIndexSize_9 rfl
theorem e176_10 : wp S d 176 10 [some (.int x), a1, a2, a3] st h Q = wp S d 176 11 [some (.int x), a1, a2, a3] (.int x :: st) h Q := wp_p hc176 dJ10_checkFromIndexSize_10 rfl
theorem e176_11 : wp S d 176 11 [a0, a1, a2, a3] (.int y :: .int x :: st) h Q = wp S d 176 12 [a0, a1, a2, a3] (.int (x - y) :: st) h Q := wp_p hc176 dJ10_checkFromIndexSize_11 rfl
theorem e176_12 : wp S d 176 12 [a0, a1, a2, a3] (.int y :: .int x :: st) h Q = if x ≤ y then wp S d 176 23 [a0, a1, a2, a3] st h Q else wp S d 176 15 [a0, a1, a2, a3] st h Q := wp_le hc176 dJ10_checkFromIndexSize_12 rfl
theorem e176_15 : wp S d 176 15 [a0, a1, a2, some (.ref r)] st h Q = wp S d 176 16 [a0, a1, a2, some (.ref r)] (.ref r :: st) h Q := wp_p hc176 dJ10_checkFromIndexSize_15 rfl
theorem e176_15n : wp S d 176 15 [a0, a1, a2, some (.null)] st h Q = wp S d 176 16 [a0, a1, a2, some (.null)] (.null :: st) h Q := wp_p hc176 dJ10_checkFromIndexSize_15 rfl
theorem e176_15k : wp S d 176 15 [a0, a1, a2, some (.retAddr r)] st h Q = wp S d 176 16 [a0, a1, a2, some (.retAddr r)] (.retAddr r :: st) h Q := wp_p hc176 dJ10_checkFromIndexSize_15 rfl
theorem e176_16 : wp S d 176 16 [some (.int x), a1, a2, a3] st h Q = wp S d 176 17 [some (.int x), a1, a2, a3] (.int x :: st) h Q := wp_p hc176 dJ10_checkFromIndexSize_16 rfl
theorem e176_17 : wp S d 176 17 [a0, some (.int x), a2, a3] st h Q = wp S d 176 18 [a0, some (.int x), a2, a3] (.int x :: st) h Q := wp_p hc176 dJ10_checkFromIndexSize_17 rfl
theorem e176_18 : wp S d 176 18 [a0, a1, some (.int x), a3] st h Q = wp S d 176 19 [a0, a1, some (.int x), a3] (.int x :: st) h Q := wp_p hc176 dJ10_checkFromIndexSize_18 rfl
theorem e176_22 : wp S d 176 22 ls (.ref r :: st) h Q = (am_isC h r 7 = true ∧ Q (.inr r, h)) := wp_tC hc176 dJ10_checkFromIndexSize_22 rfl
theorem e176_23 : wp S d 176 23 [some (.int x), a1, a2, a3] st h Q = wp S d 176 24 [some (.int x), a1, a2, a3] (.int x :: st) h Q := wp_p hc176 dJ10_checkFromIndexSize_23 rfl
theorem e176_24 : wp S d 176 24 ls [.int x] h Q = Q (.inl (some (.int x)), h) := wp_r hc176 dJ10_checkFromIndexSize_24 rfl rfl ⟨x, _, rfl, rfl, rfl, rfl⟩
theorem e177_0 : wp S d 177 0 [a0, some (.int x)] st h Q = wp S d 177 1 [a0, some (.int x)] (.int x :: st) h Q := wp_p hc177 dJ11_charAt_0 rfl
theorem e177_1 : wp S d 177 1 [some (.ref r), a1] st h Q = wp S d 177 2 [some (.ref r), a1] (.ref r :: st) h Q := wp_p hc177 dJ11_charAt_1 rfl
theorem e177_1n : wp S d 177 1 [some (.null), a1] st h Q = wp S d 177 2 [some (.null), a1] (.null :: st) h Q := wp_p hc177 dJ11_charAt_1 rfl
theorem e177_1k : wp S d 177 1 [some (.retAddr r), a1] st h Q = wp S d 177 2 [some (.retAddr r), a1] (.retAddr r :: st) h Q := wp_p hc177 dJ11_charAt_1 rfl
theorem e177_2 : wp S d 177 2 [a0, a1] (.ref r :: st) h Q = am_alK h r (fun n => wp S d 177 3 [a0, a1] (.int (nI n) :: st) h Q) := wp_al hc177 dJ11_charAt_2
theorem e177_2k {n : Nat} {f : Nat → Int32} (hk : ¬ r = 0) (hr : am_cst r = some (n, f)) : wp S d 177 2 [a0, a1] (.retAddr r :: st) h Q = wp S d 177 3 [a0, a1] (.int (nI n) :: st) h Q := wp_alC hc177 dJ11_charAt_2 hk hr
theorem e177_3 : wp S (d + 1) 177 3 [a0, a1] (.int x2 :: .int x1 :: st) h Q = (am_w8 st ∧ wp S d 165 0 [some (.int x1), some (.int x2)] [] h (am_kr S 0 (d + 1) 177 3 [a0, a1] st Q)) := wp_cS [.int x1, .int x2] hc177 dJ11_charAt_3 ho177 cl21_9 (by decide) ns21_9 hst165 hnp165 hml165 hlsl165 rfl rfl rfl
theorem e177_6 : wp S d 177 6 [some (.ref r), a1] st h Q = wp S d 177 7 [some (.ref r), a1] (.ref r :: st) h Q := wp_p hc177 dJ11_charAt_6 rfl
theorem e177_6n : wp S d 177 6 [some (.null), a1] st h Q = wp S d 177 7 [some (.null), a1] (.null :: st) h Q := wp_p hc177 dJ11_charAt_6 rfl
theorem e177_6k : wp S d 177 6 [some (.retAddr r), a1] st h Q = wp S d 177 7 [some (.retAddr r), a1] (.retAddr r :: st) h Q := wp_p hc177 dJ11_charAt_6 rfl
theorem e177_7 : wp S d 177 7 [a0, some (.int x)] st h Q = wp S d 177 8 [a0, some (.int x)] (.int x :: st) h Q := wp_p hc177 dJ11_charAt_7 rfl
theorem e177_8 : wp S d 177 8 [a0, a1] (.int x :: .ref r :: st) h Q = am_baK h r x (fun z => wp S d 177 9 [a0, a1] (.int z :: st) h Q) := wp_ba hc177 dJ11_charAt_8
theorem e177_8k : wp S d 177 8 [a0, a1] (.int x :: .retAddr r :: st) h Q = am_bcK r x (fun z => wp S d 177 9 [a0, a1] (.int z :: st) h Q) := wp_baS hc177 dJ11_charAt_8
theorem e177_9 : wp S d 177 9 [a0, a1] st h Q = wp S d 177 12 [a0, a1] (.int (nI 255) :: st) h Q := wp_p hc177 dJ11_charAt_9 rfl
theorem e177_12 : wp S d 177 12 [a0, a1] (.int y :: .int x :: st) h Q = wp S d 177 13 [a0, a1] (.int (x &&& y) :: st) h Q := wp_p hc177 dJ11_charAt_12 rfl
theorem e177_13 : wp S d 177 13 [a0, a1] (.int x :: st) h Q = wp S d 177 14 [a0, a1] (.int (x.toUInt32 % 65536).toInt32 :: st) h Q := wp_p hc177 dJ11_charAt_13 rfl
theorem e177_14 : wp S d 177 14 ls [.int x] h Q = (narrow .char (.int x) = .int x ∧ Q (.inl (some (.int x)), h)) := wp_rI hc177 dJ11_charAt_14 rfl
theorem e178_0 : wp S d 178 0 [some (.int x)] st h Q = wp S d 178 1 [some (.int x)] (.int x :: st) h Q := wp_p hc178 dJ11_canEncode_0 rfl
theorem e178_1 : wp S d 178 1 [a0] st h Q = wp S d 178 4 [a0] (.int (nI 255) :: st) h Q := wp_p hc178 dJ11_canEncode_1 rfl
theorem e178_4 : wp S d 178 4 [a0] (.int y :: .int x :: st) h Q = if y < x then wp S d 178 11 [a0] st h Q else wp S d 178 7 [a0] st h Q := wp_gt hc178 dJ11_canEncode_4 rfl
theorem e178_7 : wp S d 178 7 [a0] st h Q = wp S d 178 8 [a0] (.int (nI 1) :: st) h Q := wp_p hc178 dJ11_canEncode_7 rfl
theorem e178_8 : wp S d 178 8 [a0] st h Q = wp S d 178 12 [a0] st h Q := wp_p hc178 dJ11_canEncode_8 rfl
theorem e178_11 : wp S d 178 11 [a0] st h Q = wp S d 178 12 [a0] (.int (nI 0) :: st) h Q := wp_p hc178 dJ11_canEncode_11 rfl
theorem e178_12 : wp S d 178 12 ls [.int x] h Q = (narrow .boolean (.int x) = .int x ∧ Q (.inl (some (.int x)), h)) := wp_rI hc178 dJ11_canEncode_12 rfl
theorem e179_0 : wp S d 179 0 [some (.ref r), a1, a2, a3, a4] st h Q = wp S d 179 1 [some (.ref r), a1, a2, a3, a4] (.ref r :: st) h Q := wp_p hc179 dJ11_inflate_0 rfl
theorem e179_1 : wp S d 179 1 [a0, some (.int x), a2, a3, a4] st h Q = wp S d 179 2 [a0, some (.int x), a2, a3, a4] (.int x :: st) h Q := wp_p hc179 dJ11_inflate_1 rfl
theorem e179_2 : wp S d 179 2 [a0, a1, some (.ref r), a3, a4] st h Q = wp S d 179 3 [a0, a1, some (.ref r), a3, a4] (.ref r :: st) h Q := wp_p hc179 dJ11_inflate_2 rfl
theorem e179_3 : wp S d 179 3 [a0, a1, a2, some (.int x), a4] st h Q = wp S d 179 4 [a0, a1, a2, some (.int x), a4] (.int x :: st) h Q := wp_p hc179 dJ11_inflate_3 rfl
theorem e179_4 : wp S d 179 4 [a0, a1, a2, a3, some (.int x)] st h Q = wp S d 179 6 [a0, a1, a2, a3, some (.int x)] (.int x :: st) h Q := wp_p hc179 dJ11_inflate_4 rfl
theorem e179_9 : wp S d 179 9 ls [] h Q = Q (.inl none, h) := wp_r hc179 dJ11_inflate_9 rfl rfl ⟨rfl, rfl, rfl⟩
end EROWS
