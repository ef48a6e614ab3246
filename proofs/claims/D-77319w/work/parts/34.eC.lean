/-! step rows: the component (printed by gen_e.py) -/
set_option maxRecDepth 100000
section EROWS
variable {S : am_S} {d : Nat} {h : am_H} {Q : am_Out → Prop} {st : List Value} {ls : am_L} {w : Value} {x y z : Int32} {u v : Int64} {r : Nat}
variable {a0 a1 a2 a3 a4 a5 a6 a7 a8 a9 : Option Value} {r0 r1 r2 r3 r4 r5 : Nat} {x1 x2 x3 x4 x5 : Int32} {u1 u2 u3 : Int64}

theorem e0_0 : wp S d 0 0 [some (.ref r), a1] st h Q = wp S d 0 1 [some (.ref r), a1] (.ref r :: st) h Q := wp_p hc0 dX0_init_0 rfl
theorem e0_1 : wp S (d + 1) 0 1 [a0, a1] (.ref r :: st) h Q = (am_w8 st ∧ wp S (d + 1) 0 4 [a0, a1] st h Q) := wp_oi hc0 dX0_init_1 ho0 sp0_1 nc0_1
theorem e0_4 : wp S d 0 4 [some (.ref r), a1] st h Q = wp S d 0 5 [some (.ref r), a1] (.ref r :: st) h Q := wp_p hc0 dX0_init_4 rfl
theorem e0_5 : wp S d 0 5 [a0, a1] st h Q = wp S d 0 8 [a0, a1] (.ref h.length :: st) (h ++ [.inr (.inr (1, am_dft 1))]) Q := wp_nw hc0 dX0_init_5 ho0 nw0_7
theorem e0_8 : wp S d 0 8 [a0, a1] (.ref r :: st) h Q = wp S d 0 9 [a0, a1] (.ref r :: .ref r :: st) h Q := wp_p hc0 dX0_init_8 rfl
theorem e0_8i : wp S d 0 8 [a0, a1] (.int x :: st) h Q = wp S d 0 9 [a0, a1] (.int x :: .int x :: st) h Q := wp_p hc0 dX0_init_8 rfl
theorem e0_9 : wp S (d + 1) 0 9 [a0, a1] (.ref r0 :: st) h Q = (am_w8 st ∧ am_rcv h 5 36 (.ref r0) = true ∧ wp S d 36 0 [some (.ref r0)] [] h (am_kr S 5 (d + 1) 0 9 [a0, a1] st Q)) := wp_cI (.ref r0) [] hc0 dX0_init_9 ho0 cl0_9 (by decide) ns0_9 hst36 hnp36 hml36 hlsl36 rfl rfl rfl
theorem e0_12 : wp S d 0 12 [a0, a1] (w :: .ref r :: st) h Q = am_pfK 0 h r 0 0 false w (fun h => wp S d 0 15 [a0, a1] st h Q) := wp_pf hc0 dX0_init_12 ho0 fl0_10
theorem e0_15 : wp S d 0 15 [some (.ref r), a1] st h Q = wp S d 0 16 [some (.ref r), a1] (.ref r :: st) h Q := wp_p hc0 dX0_init_15 rfl
theorem e0_16 : wp S d 0 16 [a0, a1] st h Q = wp S d 0 17 [a0, a1] (.int (nI 4) :: st) h Q := wp_p hc0 dX0_init_16 rfl
theorem e0_17 : wp S d 0 17 [a0, a1] (.int x :: st) h Q = (¬ x < 0 ∧ x.toNatClampNeg ≤ 1000000 ∧ wp S d 0 20 [a0, a1] (.ref h.length :: st) (h ++ [.inr (.inl (3, x.toNatClampNeg, fun _ => none))]) Q) := wp_nr hc0 dX0_init_17 ho0 nr0_7
theorem e0_20 : wp S d 0 20 [a0, a1] (w :: .ref r :: st) h Q = am_pfK 0 h r 0 1 false w (fun h => wp S d 0 23 [a0, a1] st h Q) := wp_pf hc0 dX0_init_20 ho0 fl0_16
theorem e0_23 : wp S d 0 23 [some (.ref r), a1] st h Q = wp S d 0 24 [some (.ref r), a1] (.ref r :: st) h Q := wp_p hc0 dX0_init_23 rfl
theorem e0_24 : wp S d 0 24 [a0, a1] st h Q = wp S d 0 26 [a0, a1] (.int (nI 120) :: st) h Q := wp_p hc0 dX0_init_24 rfl
theorem e0_26 : wp S d 0 26 [a0, a1] (.int x :: st) h Q = (¬ x < 0 ∧ x.toNatClampNeg ≤ 1000000 ∧ wp S d 0 28 [a0, a1] (.ref h.length :: st) (h ++ [.inl (1, x.toNatClampNeg, fun _ => 0)]) Q) := wp_na1 hc0 dX0_init_26
theorem e0_28 : wp S d 0 28 [a0, a1] (w :: .ref r :: st) h Q = am_pfK 0 h r 0 3 false w (fun h => wp S d 0 31 [a0, a1] st h Q) := wp_pf hc0 dX0_init_28 ho0 fl0_20
theorem e0_31 : wp S d 0 31 [some (.ref r), a1] st h Q = wp S d 0 32 [some (.ref r), a1] (.ref r :: st) h Q := wp_p hc0 dX0_init_31 rfl
theorem e0_32 : wp S d 0 32 [a0, a1] st h Q = wp S d 0 34 [a0, a1] (.int (nI 6) :: st) h Q := wp_p hc0 dX0_init_32 rfl
theorem e0_34 : wp S d 0 34 [a0, a1] (.int x :: st) h Q = (¬ x < 0 ∧ x.toNatClampNeg ≤ 1000000 ∧ wp S d 0 36 [a0, a1] (.ref h.length :: st) (h ++ [.inl (0, x.toNatClampNeg, fun _ => 0)]) Q) := wp_na0 hc0 dX0_init_34
theorem e0_36 : wp S d 0 36 [a0, a1] (w :: .ref r :: st) h Q = am_pfK 0 h r 0 5 false w (fun h => wp S d 0 39 [a0, a1] st h Q) := wp_pf hc0 dX0_init_36 ho0 fl0_24
theorem e0_39 : wp S d 0 39 [a0, a1] st h Q = wp S d 0 40 [a0, a1] (.int (nI 0) :: st) h Q := wp_p hc0 dX0_init_39 rfl
theorem e0_40 : wp S d 0 40 [a0, a1] (.int x :: st) h Q = wp S d 0 41 [a0, some (.int x)] st h Q := wp_p hc0 dX0_init_40 rfl
theorem e0_41 : wp S d 0 41 [a0, some (.int x)] st h Q = wp S d 0 42 [a0, some (.int x)] (.int x :: st) h Q := wp_p hc0 dX0_init_41 rfl
theorem e0_42 : wp S d 0 42 [a0, a1] st h Q = wp S d 0 43 [a0, a1] (.int (nI 4) :: st) h Q := wp_p hc0 dX0_init_42 rfl
theorem e0_43 : wp S d 0 43 [a0, a1] (.int y :: .int x :: st) h Q = if y ≤ x then wp S d 0 65 [a0, a1] st h Q else wp S d 0 46 [a0, a1] st h Q := wp_ge hc0 dX0_init_43 rfl
theorem e0_46 : wp S d 0 46 [some (.ref r), a1] st h Q = wp S d 0 47 [some (.ref r), a1] (.ref r :: st) h Q := wp_p hc0 dX0_init_46 rfl
theorem e0_47 : wp S d 0 47 [a0, a1] (.ref r :: st) h Q = am_gfK h r 0 1 (fun w => wp S d 0 50 [a0, a1] (w :: st) h Q) := wp_gf hc0 dX0_init_47 ho0 fl0_16
theorem e0_50 : wp S d 0 50 [a0, some (.int x)] st h Q = wp S d 0 51 [a0, some (.int x)] (.int x :: st) h Q := wp_p hc0 dX0_init_50 rfl
theorem e0_51 : wp S d 0 51 [a0, a1] st h Q = wp S d 0 54 [a0, a1] (.ref h.length :: st) (h ++ [.inr (.inr (1, am_dft 1))]) Q := wp_nw hc0 dX0_init_51 ho0 nw0_7
theorem e0_54 : wp S d 0 54 [a0, a1] (.ref r :: st) h Q = wp S d 0 55 [a0, a1] (.ref r :: .ref r :: st) h Q := wp_p hc0 dX0_init_54 rfl
theorem e0_54i : wp S d 0 54 [a0, a1] (.int x :: st) h Q = wp S d 0 55 [a0, a1] (.int x :: .int x :: st) h Q := wp_p hc0 dX0_init_54 rfl
theorem e0_55 : wp S (d + 1) 0 55 [a0, a1] (.ref r0 :: st) h Q = (am_w8 st ∧ am_rcv h 5 36 (.ref r0) = true ∧ wp S d 36 0 [some (.ref r0)] [] h (am_kr S 5 (d + 1) 0 55 [a0, a1] st Q)) := wp_cI (.ref r0) [] hc0 dX0_init_55 ho0 cl0_9 (by decide) ns0_9 hst36 hnp36 hml36 hlsl36 rfl rfl rfl
theorem e0_58 : wp S d 0 58 [a0, a1] (w :: .int x :: .ref r :: st) h Q = am_asK h r x w (fun h => wp S d 0 59 [a0, a1] st h Q) := wp_as hc0 dX0_init_58
theorem e0_59 : wp S d 0 59 [a0, some (.int x)] st h Q = wp S d 0 62 [a0, some (.int (x + nI 1))] st h Q := wp_p hc0 dX0_init_59 rfl
theorem e0_62 : wp S d 0 62 [a0, a1] st h Q = wp S d 0 41 [a0, a1] st h Q := wp_p hc0 dX0_init_62 rfl
theorem e0_65 : wp S d 0 65 [some (.ref r), a1] st h Q = wp S d 0 66 [some (.ref r), a1] (.ref r :: st) h Q := wp_p hc0 dX0_init_65 rfl
theorem e0_66 : wp S d 0 66 [a0, a1] st h Q = wp S d 0 69 [a0, a1] (.ref h.length :: st) (h ++ [.inr (.inr (4, am_dft 4))]) Q := wp_nw hc0 dX0_init_66 ho0 nw0_28
theorem e0_69 : wp S d 0 69 [a0, a1] (.ref r :: st) h Q = wp S d 0 70 [a0, a1] (.ref r :: .ref r :: st) h Q := wp_p hc0 dX0_init_69 rfl
theorem e0_69i : wp S d 0 69 [a0, a1] (.int x :: st) h Q = wp S d 0 70 [a0, a1] (.int x :: .int x :: st) h Q := wp_p hc0 dX0_init_69 rfl
theorem e0_70 : wp S d 0 70 [some (.ref r), a1] st h Q = wp S d 0 71 [some (.ref r), a1] (.ref r :: st) h Q := wp_p hc0 dX0_init_70 rfl
theorem e0_71 : wp S (d + 1) 0 71 [a0, a1] (.ref r1 :: .ref r0 :: st) h Q = (am_w8 st ∧ am_rcv h 5 50 (.ref r0) = true ∧ wp S d 50 0 [some (.ref r0), some (.ref r1)] [] h (am_kr S 5 (d + 1) 0 71 [a0, a1] st Q)) := wp_cI (.ref r0) [.ref r1] hc0 dX0_init_71 ho0 cl0_30 (by decide) ns0_30 hst50 hnp50 hml50 hlsl50 rfl rfl rfl
theorem e0_74 : wp S d 0 74 [a0, a1] (w :: .ref r :: st) h Q = am_pfK 0 h r 0 6 false w (fun h => wp S d 0 77 [a0, a1] st h Q) := wp_pf hc0 dX0_init_74 ho0 fl0_33
theorem e0_77 : wp S d 0 77 ls [] h Q = Q (.inl none, h) := wp_r hc0 dX0_init_77 rfl rfl ⟨rfl, rfl, rfl⟩
theorem e1_0 : wp S d 1 0 [some (.ref r), a1, a2, a3] st h Q = wp S d 1 1 [some (.ref r), a1, a2, a3] (.ref r :: st) h Q := wp_p hc1 dX0_setOld_0 rfl
theorem e1_1 : wp S d 1 1 [some (.ref r), a1, a2, a3] st h Q = wp S d 1 2 [some (.ref r), a1, a2, a3] (.ref r :: st) h Q := wp_p hc1 dX0_setOld_1 rfl
theorem e1_2 : wp S d 1 2 [a0, a1, a2, a3] (.ref r :: st) h Q = am_gfK h r 0 0 (fun w => wp S d 1 5 [a0, a1, a2, a3] (w :: st) h Q) := wp_gf hc1 dX0_setOld_2 ho1 fl0_10
theorem e1_5 : wp S d 1 5 [a0, a1, a2, a3] (.ref r :: st) h Q = am_gfK h r 1 0 (fun w => wp S d 1 8 [a0, a1, a2, a3] (w :: st) h Q) := wp_gf hc1 dX0_setOld_5 ho1 fl0_81
theorem e1_8 : wp S d 1 8 [a0, some (.int x), a2, a3] st h Q = wp S d 1 9 [a0, some (.int x), a2, a3] (.int x :: st) h Q := wp_p hc1 dX0_setOld_8 rfl
theorem e1_9 : wp S d 1 9 [a0, a1, some (.int x), a3] st h Q = wp S d 1 10 [a0, a1, some (.int x), a3] (.int x :: st) h Q := wp_p hc1 dX0_setOld_9 rfl
theorem e1_10 : wp S d 1 10 [a0, a1, a2, some (.int x)] st h Q = wp S d 1 11 [a0, a1, a2, some (.int x)] (.int x :: st) h Q := wp_p hc1 dX0_setOld_10 rfl
theorem e1_11 : wp S d 1 11 [a0, a1, a2, a3] st h Q = wp S d 1 12 [a0, a1, a2, a3] (.int (nI 3) :: st) h Q := wp_p hc1 dX0_setOld_11 rfl
theorem e1_12 : wp S (d + 1) 1 12 [a0, a1, a2, a3] (.int x5 :: .int x4 :: .int x3 :: .int x2 :: .ref r1 :: .ref r0 :: st) h Q = (am_w8 st ∧ am_rcv h 2 2 (.ref r0) = true ∧ wp S d 2 0 [some (.ref r0), some (.ref r1), some (.int x2), some (.int x3), some (.int x4), some (.int x5), none] [] h (am_kr S 2 (d + 1) 1 12 [a0, a1, a2, a3] st Q)) := wp_cV (.ref r0) [.ref r1, .int x2, .int x3, .int x4, .int x5] hc1 dX0_setOld_12 ho1 cl0_85 (by decide) ns0_85 hst2 hnp2 hml2 hlsl2 rfl rfl rfl
theorem e1_15 : wp S d 1 15 ls [.int x] h Q = Q (.inl (some (.int x)), h) := wp_r hc1 dX0_setOld_15 rfl rfl ⟨x, _, rfl, rfl, rfl, rfl⟩
theorem e2_0 : wp S d 2 0 [a0, a1, some (.int x), a3, a4, a5, a6] st h Q = wp S d 2 1 [a0, a1, some (.int x), a3, a4, a5, a6] (.int x :: st) h Q := wp_p hc2 dX0_set_0 rfl
theorem e2_1 : wp S (d + 1) 2 1 [a0, a1, a2, a3, a4, a5, a6] (.int x1 :: st) h Q = (am_w8 st ∧ wp S d 3 0 [some (.int x1)] [] h (am_kr S 0 (d + 1) 2 1 [a0, a1, a2, a3, a4, a5, a6] st Q)) := wp_cS [.int x1] hc2 dX0_set_1 ho2 cl0_55 (by decide) ns0_55 hst3 hnp3 hml3 hlsl3 rfl rfl rfl
theorem e2_4 : wp S d 2 4 [a0, a1, a2, a3, a4, a5, a6] (.int x :: st) h Q = if x = 0 then wp S d 2 27 [a0, a1, a2, a3, a4, a5, a6] st h Q else wp S d 2 7 [a0, a1, a2, a3, a4, a5, a6] st h Q := wp_eq hc2 dX0_set_4 rfl
theorem e2_7 : wp S d 2 7 [a0, a1, a2, some (.int x), a4, a5, a6] st h Q = wp S d 2 8 [a0, a1, a2, some (.int x), a4, a5, a6] (.int x :: st) h Q := wp_p hc2 dX0_set_7 rfl
theorem e2_8 : wp S d 2 8 [a0, a1, a2, a3, a4, a5, a6] st h Q = wp S d 2 9 [a0, a1, a2, a3, a4, a5, a6] (.int (nI 0) :: st) h Q := wp_p hc2 dX0_set_8 rfl
theorem e2_9 : wp S d 2 9 [a0, a1, a2, a3, a4, some (.int x), a6] st h Q = wp S d 2 11 [a0, a1, a2, a3, a4, some (.int x), a6] (.int x :: st) h Q := wp_p hc2 dX0_set_9 rfl
theorem e2_11 : wp S (d + 1) 2 11 [a0, a1, a2, a3, a4, a5, a6] (.int x3 :: .int x2 :: .int x1 :: st) h Q = (am_w8 st ∧ wp S d 4 0 [some (.int x1), some (.int x2), some (.int x3)] [] h (am_kr S 0 (d + 1) 2 11 [a0, a1, a2, a3, a4, a5, a6] st Q)) := wp_cS [.int x1, .int x2, .int x3] hc2 dX0_set_11 ho2 cl0_51 (by decide) ns0_51 hst4 hnp4 hml4 hlsl4 rfl rfl rfl
theorem e2_14 : wp S d 2 14 [a0, a1, a2, a3, a4, a5, a6] (.int x :: st) h Q = if x = 0 then wp S d 2 27 [a0, a1, a2, a3, a4, a5, a6] st h Q else wp S d 2 17 [a0, a1, a2, a3, a4, a5, a6] st h Q := wp_eq hc2 dX0_set_14 rfl
theorem e2_17 : wp S d 2 17 [a0, a1, a2, a3, some (.int x), a5, a6] st h Q = wp S d 2 19 [a0, a1, a2, a3, some (.int x), a5, a6] (.int x :: st) h Q := wp_p hc2 dX0_set_17 rfl
theorem e2_19 : wp S d 2 19 [a0, a1, a2, a3, a4, a5, a6] st h Q = wp S d 2 20 [a0, a1, a2, a3, a4, a5, a6] (.int (nI 0) :: st) h Q := wp_p hc2 dX0_set_19 rfl
theorem e2_20 : wp S d 2 20 [a0, a1, a2, a3, a4, a5, a6] st h Q = wp S d 2 21 [a0, a1, a2, a3, a4, a5, a6] (.int (nI 1) :: st) h Q := wp_p hc2 dX0_set_20 rfl
theorem e2_21 : wp S (d + 1) 2 21 [a0, a1, a2, a3, a4, a5, a6] (.int x3 :: .int x2 :: .int x1 :: st) h Q = (am_w8 st ∧ wp S d 4 0 [some (.int x1), some (.int x2), some (.int x3)] [] h (am_kr S 0 (d + 1) 2 21 [a0, a1, a2, a3, a4, a5, a6] st Q)) := wp_cS [.int x1, .int x2, .int x3] hc2 dX0_set_21 ho2 cl0_51 (by decide) ns0_51 hst4 hnp4 hml4 hlsl4 rfl rfl rfl
theorem e2_24 : wp S d 2 24 [a0, a1, a2, a3, a4, a5, a6] (.int x :: st) h Q = if x = 0 then wp S d 2 27 [a0, a1, a2, a3, a4, a5, a6] st h Q else wp S d 2 34 [a0, a1, a2, a3, a4, a5, a6] st h Q := wp_ne hc2 dX0_set_24 rfl
theorem e2_27 : wp S d 2 27 [some (.ref r), a1, a2, a3, a4, a5, a6] st h Q = wp S d 2 28 [some (.ref r), a1, a2, a3, a4, a5, a6] (.ref r :: st) h Q := wp_p hc2 dX0_set_27 rfl
theorem e2_28 : wp S d 2 28 [a0, a1, a2, a3, a4, a5, a6] st h Q = wp S d 2 30 [a0, a1, a2, a3, a4, a5, a6] (.int ((-2)) :: st) h Q := wp_p hc2 dX0_set_28 rfl
theorem e2_30 : wp S (d + 1) 2 30 [a0, a1, a2, a3, a4, a5, a6] (.int x1 :: .ref r0 :: st) h Q = (am_w8 st ∧ am_rcv h 2 5 (.ref r0) = true ∧ wp S d 5 0 [some (.ref r0), some (.int x1)] [] h (am_kr S 2 (d + 1) 2 30 [a0, a1, a2, a3, a4, a5, a6] st Q)) := wp_cV (.ref r0) [.int x1] hc2 dX0_set_30 ho2 cl0_59 (by decide) ns0_59 hst5 hnp5 hml5 hlsl5 rfl rfl rfl
theorem e2_33 : wp S d 2 33 ls [.int x] h Q = Q (.inl (some (.int x)), h) := wp_r hc2 dX0_set_33 rfl rfl ⟨x, _, rfl, rfl, rfl, rfl⟩
theorem e2_34 : wp S d 2 34 [some (.ref r), a1, a2, a3, a4, a5, a6] st h Q = wp S d 2 35 [some (.ref r), a1, a2, a3, a4, a5, a6] (.ref r :: st) h Q := wp_p hc2 dX0_set_34 rfl
theorem e2_35 : wp S (d + 1) 2 35 [a0, a1, a2, a3, a4, a5, a6] (.ref r0 :: st) h Q = (am_w8 st ∧ am_rcv h 2 6 (.ref r0) = true ∧ wp S d 6 0 [some (.ref r0), none] [] h (am_kr S 2 (d + 1) 2 35 [a0, a1, a2, a3, a4, a5, a6] st Q)) := wp_cV (.ref r0) [] hc2 dX0_set_35 ho2 cl0_63 (by decide) ns0_63 hst6 hnp6 hml6 hlsl6 rfl rfl rfl
theorem e2_38 : wp S d 2 38 [a0, some (.ref r), a2, a3, a4, a5, a6] st h Q = wp S d 2 39 [a0, some (.ref r), a2, a3, a4, a5, a6] (.ref r :: st) h Q := wp_p hc2 dX0_set_38 rfl
theorem e2_39 : wp S d 2 39 [a0, a1, some (.int x), a3, a4, a5, a6] st h Q = wp S d 2 40 [a0, a1, some (.int x), a3, a4, a5, a6] (.int x :: st) h Q := wp_p hc2 dX0_set_39 rfl
theorem e2_40 : wp S d 2 40 [a0, a1, a2, a3, a4, a5, a6] (.int x :: .ref r :: st) h Q = am_aaK h r x (fun w => wp S d 2 41 [a0, a1, a2, a3, a4, a5, a6] (w :: st) h Q) := wp_aa hc2 dX0_set_40
theorem e2_41 : wp S d 2 41 [a0, a1, a2, a3, a4, a5, a6] (.ref r :: st) h Q = am_gfK h r 3 0 (fun w => wp S d 2 44 [a0, a1, a2, a3, a4, a5, a6] (w :: st) h Q) := wp_gf hc2 dX0_set_41 ho2 fl0_66
theorem e2_44 : wp S d 2 44 [a0, a1, a2, a3, a4, a5, a6] (.int x :: st) h Q = wp S d 2 46 [a0, a1, a2, a3, a4, a5, some (.int x)] st h Q := wp_p hc2 dX0_set_44 rfl
theorem e2_46 : wp S d 2 46 [a0, some (.ref r), a2, a3, a4, a5, a6] st h Q = wp S d 2 47 [a0, some (.ref r), a2, a3, a4, a5, a6] (.ref r :: st) h Q := wp_p hc2 dX0_set_46 rfl
theorem e2_47 : wp S d 2 47 [a0, a1, some (.int x), a3, a4, a5, a6] st h Q = wp S d 2 48 [a0, a1, some (.int x), a3, a4, a5, a6] (.int x :: st) h Q := wp_p hc2 dX0_set_47 rfl
theorem e2_48 : wp S d 2 48 [a0, some (.ref r), a2, a3, a4, a5, a6] st h Q = wp S d 2 49 [a0, some (.ref r), a2, a3, a4, a5, a6] (.ref r :: st) h Q := wp_p hc2 dX0_set_48 rfl
theorem e2_49 : wp S d 2 49 [a0, a1, some (.int x), a3, a4, a5, a6] st h Q = wp S d 2 50 [a0, a1, some (.int x), a3, a4, a5, a6] (.int x :: st) h Q := wp_p hc2 dX0_set_49 rfl
theorem e2_50 : wp S d 2 50 [a0, a1, a2, a3, a4, a5, a6] (.int x :: .ref r :: st) h Q = am_aaK h r x (fun w => wp S d 2 51 [a0, a1, a2, a3, a4, a5, a6] (w :: st) h Q) := wp_aa hc2 dX0_set_50
theorem e2_51 : wp S d 2 51 [a0, a1, a2, some (.int x), a4, a5, a6] st h Q = wp S d 2 52 [a0, a1, a2, some (.int x), a4, a5, a6] (.int x :: st) h Q := wp_p hc2 dX0_set_51 rfl
theorem e2_52 : wp S d 2 52 [a0, a1, a2, a3, some (.int x), a5, a6] st h Q = wp S d 2 54 [a0, a1, a2, a3, some (.int x), a5, a6] (.int x :: st) h Q := wp_p hc2 dX0_set_52 rfl
theorem e2_54 : wp S (d + 1) 2 54 [a0, a1, a2, a3, a4, a5, a6] (.int x2 :: .int x1 :: .ref r0 :: st) h Q = (am_w8 st ∧ am_rcv h 2 47 (.ref r0) = true ∧ wp S d 47 0 [some (.ref r0), some (.int x1), some (.int x2)] [] h (am_kr S 2 (d + 1) 2 54 [a0, a1, a2, a3, a4, a5, a6] st Q)) := wp_cV (.ref r0) [.int x1, .int x2] hc2 dX0_set_54 ho2 cl0_71 (by decide) ns0_71 hst47 hnp47 hml47 hlsl47 rfl rfl rfl
theorem e2_57 : wp S d 2 57 [a0, a1, a2, a3, a4, a5, a6] (w :: .int x :: .ref r :: st) h Q = am_asK h r x w (fun h => wp S d 2 58 [a0, a1, a2, a3, a4, a5, a6] st h Q) := wp_as hc2 dX0_set_57
theorem e2_58 : wp S d 2 58 [a0, a1, a2, a3, a4, a5, some (.int x)] st h Q = wp S d 2 60 [a0, a1, a2, a3, a4, a5, some (.int x)] (.int x :: st) h Q := wp_p hc2 dX0_set_58 rfl
theorem e2_60 : wp S d 2 60 ls [.int x] h Q = Q (.inl (some (.int x)), h) := wp_r hc2 dX0_set_60 rfl rfl ⟨x, _, rfl, rfl, rfl, rfl⟩
theorem e3_0 : wp S d 3 0 [some (.int x)] st h Q = wp S d 3 1 [some (.int x)] (.int x :: st) h Q := wp_p hc3 dX0_isFunction_0 rfl
theorem e3_1 : wp S d 3 1 [a0] st h Q = wp S d 3 2 [a0] (.int (nI 0) :: st) h Q := wp_p hc3 dX0_isFunction_1 rfl
theorem e3_2 : wp S d 3 2 [a0] st h Q = wp S d 3 3 [a0] (.int (nI 5) :: st) h Q := wp_p hc3 dX0_isFunction_2 rfl
theorem e3_3 : wp S (d + 1) 3 3 [a0] (.int x3 :: .int x2 :: .int x1 :: st) h Q = (am_w8 st ∧ wp S d 4 0 [some (.int x1), some (.int x2), some (.int x3)] [] h (am_kr S 0 (d + 1) 3 3 [a0] st Q)) := wp_cS [.int x1, .int x2, .int x3] hc3 dX0_isFunction_3 ho3 cl0_51 (by decide) ns0_51 hst4 hnp4 hml4 hlsl4 rfl rfl rfl
theorem e3_6 : wp S d 3 6 ls [.int x] h Q = (narrow .boolean (.int x) = .int x ∧ Q (.inl (some (.int x)), h)) := wp_rI hc3 dX0_isFunction_6 rfl
theorem e4_0 : wp S d 4 0 [some (.int x), a1, a2] st h Q = wp S d 4 1 [some (.int x), a1, a2] (.int x :: st) h Q := wp_p hc4 dX0_inRange_0 rfl
theorem e4_1 : wp S d 4 1 [a0, some (.int x), a2] st h Q = wp S d 4 2 [a0, some (.int x), a2] (.int x :: st) h Q := wp_p hc4 dX0_inRange_1 rfl
theorem e4_2 : wp S d 4 2 [a0, a1, a2] (.int y :: .int x :: st) h Q = if x < y then wp S d 4 14 [a0, a1, a2] st h Q else wp S d 4 5 [a0, a1, a2] st h Q := wp_lt hc4 dX0_inRange_2 rfl
theorem e4_5 : wp S d 4 5 [some (.int x), a1, a2] st h Q = wp S d 4 6 [some (.int x), a1, a2] (.int x :: st) h Q := wp_p hc4 dX0_inRange_5 rfl
theorem e4_6 : wp S d 4 6 [a0, a1, some (.int x)] st h Q = wp S d 4 7 [a0, a1, some (.int x)] (.int x :: st) h Q := wp_p hc4 dX0_inRange_6 rfl
theorem e4_7 : wp S d 4 7 [a0, a1, a2] (.int y :: .int x :: st) h Q = if y < x then wp S d 4 14 [a0, a1, a2] st h Q else wp S d 4 10 [a0, a1, a2] st h Q := wp_gt hc4 dX0_inRange_7 rfl
theorem e4_10 : wp S d 4 10 [a0, a1, a2] st h Q = wp S d 4 11 [a0, a1, a2] (.int (nI 1) :: st) h Q := wp_p hc4 dX0_inRange_10 rfl
theorem e4_11 : wp S d 4 11 [a0, a1, a2] st h Q = wp S d 4 15 [a0, a1, a2] st h Q := wp_p hc4 dX0_inRange_11 rfl
theorem e4_14 : wp S d 4 14 [a0, a1, a2] st h Q = wp S d 4 15 [a0, a1, a2] (.int (nI 0) :: st) h Q := wp_p hc4 dX0_inRange_14 rfl
theorem e4_15 : wp S d 4 15 ls [.int x] h Q = (narrow .boolean (.int x) = .int x ∧ Q (.inl (some (.int x)), h)) := wp_rI hc4 dX0_inRange_15 rfl
theorem e5_0 : wp S d 5 0 [some (.ref r), a1] st h Q = wp S d 5 1 [some (.ref r), a1] (.ref r :: st) h Q := wp_p hc5 dX0_error_0 rfl
theorem e5_1 : wp S d 5 1 [a0, a1] (.ref r :: st) h Q = am_gfK h r 0 5 (fun w => wp S d 5 4 [a0, a1] (w :: st) h Q) := wp_gf hc5 dX0_error_1 ho5 fl0_24
theorem e5_4 : wp S d 5 4 [a0, some (.int x)] st h Q = wp S d 5 5 [a0, some (.int x)] (.int x :: st) h Q := wp_p hc5 dX0_error_4 rfl
theorem e5_5 : wp S d 5 5 [a0, a1] (.int x :: st) h Q = wp S d 5 6 [a0, a1] (.int (-x) :: st) h Q := wp_p hc5 dX0_error_5 rfl
theorem e5_6 : wp S d 5 6 [a0, a1] (.int x :: .ref r :: st) h Q = wp S d 5 7 [a0, a1] (.int x :: .ref r :: .int x :: .ref r :: st) h Q := wp_p hc5 dX0_error_6 rfl
theorem e5_7 : wp S d 5 7 [a0, a1] (.int x :: .ref r :: st) h Q = am_iaK h r x (fun z => wp S d 5 8 [a0, a1] (.int z :: st) h Q) := wp_ia hc5 dX0_error_7
theorem e5_8 : wp S d 5 8 [a0, a1] st h Q = wp S d 5 9 [a0, a1] (.int (nI 1) :: st) h Q := wp_p hc5 dX0_error_8 rfl
theorem e5_9 : wp S d 5 9 [a0, a1] (.int y :: .int x :: st) h Q = wp S d 5 10 [a0, a1] (.int (x + y) :: st) h Q := wp_p hc5 dX0_error_9 rfl
theorem e5_10 : wp S d 5 10 [a0, a1] (.int y :: .int x :: .ref r :: st) h Q = am_isK h r x y (fun h => wp S d 5 11 [a0, a1] st h Q) := wp_is hc5 dX0_error_10
theorem e5_11 : wp S d 5 11 [a0, some (.int x)] st h Q = wp S d 5 12 [a0, some (.int x)] (.int x :: st) h Q := wp_p hc5 dX0_error_11 rfl
theorem e5_12 : wp S d 5 12 ls [.int x] h Q = Q (.inl (some (.int x)), h) := wp_r hc5 dX0_error_12 rfl rfl ⟨x, _, rfl, rfl, rfl, rfl⟩
theorem e6_0 : wp S d 6 0 [some (.ref r), a1] st h Q = wp S d 6 1 [some (.ref r), a1] (.ref r :: st) h Q := wp_p hc6 dX0_save_0 rfl
theorem e6_1 : wp S d 6 1 [a0, a1] (.ref r :: st) h Q = am_gfK h r 0 2 (fun w => wp S d 6 4 [a0, a1] (w :: st) h Q) := wp_gf hc6 dX0_save_1 ho6 fl0_37
theorem e6_4 : wp S d 6 4 [a0, a1] st h Q = wp S d 6 5 [a0, a1] (.int (nI 4) :: st) h Q := wp_p hc6 dX0_save_4 rfl
theorem e6_5 : wp S d 6 5 [a0, a1] (.int y :: .int x :: st) h Q = if x = y then wp S d 6 8 [a0, a1] st h Q else wp S d 6 46 [a0, a1] st h Q := wp_ne hc6 dX0_save_5 rfl
theorem e6_8 : wp S d 6 8 [some (.ref r), a1] st h Q = wp S d 6 9 [some (.ref r), a1] (.ref r :: st) h Q := wp_p hc6 dX0_save_8 rfl
theorem e6_9 : wp S d 6 9 [a0, a1] (.ref r :: st) h Q = am_gfK h r 0 1 (fun w => wp S d 6 12 [a0, a1] (w :: st) h Q) := wp_gf hc6 dX0_save_9 ho6 fl0_16
theorem e6_12 : wp S d 6 12 [a0, a1] st h Q = wp S d 6 13 [a0, a1] (.int (nI 0) :: st) h Q := wp_p hc6 dX0_save_12 rfl
theorem e6_13 : wp S d 6 13 [a0, a1] (.int x :: .ref r :: st) h Q = am_aaK h r x (fun w => wp S d 6 14 [a0, a1] (w :: st) h Q) := wp_aa hc6 dX0_save_13
theorem e6_14 : wp S d 6 14 [a0, a1] (.ref r :: st) h Q = wp S d 6 15 [a0, some (.ref r)] st h Q := wp_p hc6 dX0_save_14 rfl
theorem e6_15 : wp S d 6 15 [some (.ref r), a1] st h Q = wp S d 6 16 [some (.ref r), a1] (.ref r :: st) h Q := wp_p hc6 dX0_save_15 rfl
theorem e6_16 : wp S d 6 16 [a0, a1] (.ref r :: st) h Q = am_gfK h r 0 1 (fun w => wp S d 6 19 [a0, a1] (w :: st) h Q) := wp_gf hc6 dX0_save_16 ho6 fl0_16
theorem e6_19 : wp S d 6 19 [a0, a1] st h Q = wp S d 6 20 [a0, a1] (.int (nI 1) :: st) h Q := wp_p hc6 dX0_save_19 rfl
theorem e6_20 : wp S d 6 20 [some (.ref r), a1] st h Q = wp S d 6 21 [some (.ref r), a1] (.ref r :: st) h Q := wp_p hc6 dX0_save_20 rfl
theorem e6_21 : wp S d 6 21 [a0, a1] (.ref r :: st) h Q = am_gfK h r 0 1 (fun w => wp S d 6 24 [a0, a1] (w :: st) h Q) := wp_gf hc6 dX0_save_21 ho6 fl0_16
theorem e6_24 : wp S d 6 24 [a0, a1] st h Q = wp S d 6 25 [a0, a1] (.int (nI 0) :: st) h Q := wp_p hc6 dX0_save_24 rfl
theorem e6_25 : wp S d 6 25 [a0, a1] st h Q = wp S d 6 26 [a0, a1] (.int (nI 3) :: st) h Q := wp_p hc6 dX0_save_25 rfl
theorem e6_26 : wp S (d + 1) 6 26 [a0, a1] st h Q = am_cpK st h (fun st h => wp S (d + 1) 6 29 [a0, a1] st h Q) := wp_cp hc6 dX0_save_26 ho6 sp0_41 nc0_41
theorem e6_29 : wp S d 6 29 [some (.ref r), a1] st h Q = wp S d 6 30 [some (.ref r), a1] (.ref r :: st) h Q := wp_p hc6 dX0_save_29 rfl
theorem e6_30 : wp S d 6 30 [a0, a1] (.ref r :: st) h Q = am_gfK h r 0 1 (fun w => wp S d 6 33 [a0, a1] (w :: st) h Q) := wp_gf hc6 dX0_save_30 ho6 fl0_16
theorem e6_33 : wp S d 6 33 [a0, a1] st h Q = wp S d 6 34 [a0, a1] (.int (nI 3) :: st) h Q := wp_p hc6 dX0_save_33 rfl
theorem e6_34 : wp S d 6 34 [a0, some (.ref r)] st h Q = wp S d 6 35 [a0, some (.ref r)] (.ref r :: st) h Q := wp_p hc6 dX0_save_34 rfl
theorem e6_35 : wp S d 6 35 [a0, a1] (w :: .int x :: .ref r :: st) h Q = am_asK h r x w (fun h => wp S d 6 36 [a0, a1] st h Q) := wp_as hc6 dX0_save_35
theorem e6_36 : wp S d 6 36 [some (.ref r), a1] st h Q = wp S d 6 37 [some (.ref r), a1] (.ref r :: st) h Q := wp_p hc6 dX0_save_36 rfl
theorem e6_37 : wp S d 6 37 [a0, a1] (.ref r :: st) h Q = wp S d 6 38 [a0, a1] (.ref r :: .ref r :: st) h Q := wp_p hc6 dX0_save_37 rfl
theorem e6_37i : wp S d 6 37 [a0, a1] (.int x :: st) h Q = wp S d 6 38 [a0, a1] (.int x :: .int x :: st) h Q := wp_p hc6 dX0_save_37 rfl
theorem e6_38 : wp S d 6 38 [a0, a1] (.ref r :: st) h Q = am_gfK h r 0 2 (fun w => wp S d 6 41 [a0, a1] (w :: st) h Q) := wp_gf hc6 dX0_save_38 ho6 fl0_37
theorem e6_41 : wp S d 6 41 [a0, a1] st h Q = wp S d 6 42 [a0, a1] (.int (nI 1) :: st) h Q := wp_p hc6 dX0_save_41 rfl
theorem e6_42 : wp S d 6 42 [a0, a1] (.int y :: .int x :: st) h Q = wp S d 6 43 [a0, a1] (.int (x - y) :: st) h Q := wp_p hc6 dX0_save_42 rfl
theorem e6_43 : wp S d 6 43 [a0, a1] (w :: .ref r :: st) h Q = am_pfK 6 h r 0 2 false w (fun h => wp S d 6 46 [a0, a1] st h Q) := wp_pf hc6 dX0_save_43 ho6 fl0_37
theorem e6_46 : wp S d 6 46 [some (.ref r), a1] st h Q = wp S d 6 47 [some (.ref r), a1] (.ref r :: st) h Q := wp_p hc6 dX0_save_46 rfl
theorem e6_47 : wp S d 6 47 [a0, a1] (.ref r :: st) h Q = am_gfK h r 0 1 (fun w => wp S d 6 50 [a0, a1] (w :: st) h Q) := wp_gf hc6 dX0_save_47 ho6 fl0_16
theorem e6_50 : wp S d 6 50 [some (.ref r), a1] st h Q = wp S d 6 51 [some (.ref r), a1] (.ref r :: st) h Q := wp_p hc6 dX0_save_50 rfl
theorem e6_51 : wp S d 6 51 [a0, a1] (.ref r :: st) h Q = am_gfK h r 0 2 (fun w => wp S d 6 54 [a0, a1] (w :: st) h Q) := wp_gf hc6 dX0_save_51 ho6 fl0_37
theorem e6_54 : wp S d 6 54 [a0, a1] (.int x :: .ref r :: st) h Q = am_aaK h r x (fun w => wp S d 6 55 [a0, a1] (w :: st) h Q) := wp_aa hc6 dX0_save_54
theorem e6_55 : wp S d 6 55 [some (.ref r), a1] st h Q = wp S d 6 56 [some (.ref r), a1] (.ref r :: st) h Q := wp_p hc6 dX0_save_55 rfl
theorem e6_56 : wp S d 6 56 [a0, a1] (.ref r :: st) h Q = am_gfK h r 0 0 (fun w => wp S d 6 59 [a0, a1] (w :: st) h Q) := wp_gf hc6 dX0_save_56 ho6 fl0_10
theorem e6_59 : wp S (d + 1) 6 59 [a0, a1] (.ref r1 :: .ref r0 :: st) h Q = (am_w8 st ∧ am_rcv h 2 37 (.ref r0) = true ∧ wp S d 37 0 [some (.ref r0), some (.ref r1)] [] h (am_kr S 2 (d + 1) 6 59 [a0, a1] st Q)) := wp_cV (.ref r0) [.ref r1] hc6 dX0_save_59 ho6 cl0_47 (by decide) ns0_47 hst37 hnp37 hml37 hlsl37 rfl rfl rfl
theorem e6_62 : wp S d 6 62 [some (.ref r), a1] st h Q = wp S d 6 63 [some (.ref r), a1] (.ref r :: st) h Q := wp_p hc6 dX0_save_62 rfl
theorem e6_63 : wp S d 6 63 [a0, a1] (.ref r :: st) h Q = wp S d 6 64 [a0, a1] (.ref r :: .ref r :: st) h Q := wp_p hc6 dX0_save_63 rfl
theorem e6_63i : wp S d 6 63 [a0, a1] (.int x :: st) h Q = wp S d 6 64 [a0, a1] (.int x :: .int x :: st) h Q := wp_p hc6 dX0_save_63 rfl
theorem e6_64 : wp S d 6 64 [a0, a1] (.ref r :: st) h Q = am_gfK h r 0 2 (fun w => wp S d 6 67 [a0, a1] (w :: st) h Q) := wp_gf hc6 dX0_save_64 ho6 fl0_37
theorem e6_67 : wp S d 6 67 [a0, a1] st h Q = wp S d 6 68 [a0, a1] (.int (nI 1) :: st) h Q := wp_p hc6 dX0_save_67 rfl
theorem e6_68 : wp S d 6 68 [a0, a1] (.int y :: .int x :: st) h Q = wp S d 6 69 [a0, a1] (.int (x + y) :: st) h Q := wp_p hc6 dX0_save_68 rfl
theorem e6_69 : wp S d 6 69 [a0, a1] (w :: .ref r :: st) h Q = am_pfK 6 h r 0 2 false w (fun h => wp S d 6 72 [a0, a1] st h Q) := wp_pf hc6 dX0_save_69 ho6 fl0_37
theorem e6_72 : wp S d 6 72 ls [] h Q = Q (.inl none, h) := wp_r hc6 dX0_save_72 rfl rfl ⟨rfl, rfl, rfl⟩
theorem e7_0 : wp S d 7 0 [some (.ref r), a1, a2, a3] st h Q = wp S d 7 1 [some (.ref r), a1, a2, a3] (.ref r :: st) h Q := wp_p hc7 dX0_setNew_0 rfl
theorem e7_1 : wp S d 7 1 [some (.ref r), a1, a2, a3] st h Q = wp S d 7 2 [some (.ref r), a1, a2, a3] (.ref r :: st) h Q := wp_p hc7 dX0_setNew_1 rfl
theorem e7_2 : wp S d 7 2 [a0, a1, a2, a3] (.ref r :: st) h Q = am_gfK h r 0 0 (fun w => wp S d 7 5 [a0, a1, a2, a3] (w :: st) h Q) := wp_gf hc7 dX0_setNew_2 ho7 fl0_10
theorem e7_5 : wp S d 7 5 [a0, a1, a2, a3] (.ref r :: st) h Q = am_gfK h r 1 1 (fun w => wp S d 7 8 [a0, a1, a2, a3] (w :: st) h Q) := wp_gf hc7 dX0_setNew_5 ho7 fl0_89
theorem e7_8 : wp S d 7 8 [a0, some (.int x), a2, a3] st h Q = wp S d 7 9 [a0, some (.int x), a2, a3] (.int x :: st) h Q := wp_p hc7 dX0_setNew_8 rfl
theorem e7_9 : wp S d 7 9 [a0, a1, some (.int x), a3] st h Q = wp S d 7 10 [a0, a1, some (.int x), a3] (.int x :: st) h Q := wp_p hc7 dX0_setNew_9 rfl
theorem e7_10 : wp S d 7 10 [a0, a1, a2, some (.int x)] st h Q = wp S d 7 11 [a0, a1, a2, some (.int x)] (.int x :: st) h Q := wp_p hc7 dX0_setNew_10 rfl
theorem e7_11 : wp S d 7 11 [a0, a1, a2, a3] st h Q = wp S d 7 12 [a0, a1, a2, a3] (.int (nI 4) :: st) h Q := wp_p hc7 dX0_setNew_11 rfl
theorem e7_12 : wp S (d + 1) 7 12 [a0, a1, a2, a3] (.int x5 :: .int x4 :: .int x3 :: .int x2 :: .ref r1 :: .ref r0 :: st) h Q = (am_w8 st ∧ am_rcv h 2 2 (.ref r0) = true ∧ wp S d 2 0 [some (.ref r0), some (.ref r1), some (.int x2), some (.int x3), some (.int x4), some (.int x5), none] [] h (am_kr S 2 (d + 1) 7 12 [a0, a1, a2, a3] st Q)) := wp_cV (.ref r0) [.ref r1, .int x2, .int x3, .int x4, .int x5] hc7 dX0_setNew_12 ho7 cl0_85 (by decide) ns0_85 hst2 hnp2 hml2 hlsl2 rfl rfl rfl
theorem e7_15 : wp S d 7 15 ls [.int x] h Q = Q (.inl (some (.int x)), h) := wp_r hc7 dX0_setNew_15 rfl rfl ⟨x, _, rfl, rfl, rfl, rfl⟩
theorem e8_0 : wp S d 8 0 [some (.ref r), a1, a2, a3] st h Q = wp S d 8 1 [some (.ref r), a1, a2, a3] (.ref r :: st) h Q := wp_p hc8 dX0_setOldTerm_0 rfl
theorem e8_1 : wp S d 8 1 [some (.ref r), a1, a2, a3] st h Q = wp S d 8 2 [some (.ref r), a1, a2, a3] (.ref r :: st) h Q := wp_p hc8 dX0_setOldTerm_1 rfl
theorem e8_2 : wp S d 8 2 [a0, a1, a2, a3] (.ref r :: st) h Q = am_gfK h r 0 0 (fun w => wp S d 8 5 [a0, a1, a2, a3] (w :: st) h Q) := wp_gf hc8 dX0_setOldTerm_2 ho8 fl0_10
theorem e8_5 : wp S d 8 5 [a0, a1, a2, a3] (.ref r :: st) h Q = am_gfK h r 1 0 (fun w => wp S d 8 8 [a0, a1, a2, a3] (w :: st) h Q) := wp_gf hc8 dX0_setOldTerm_5 ho8 fl0_81
theorem e8_8 : wp S d 8 8 [a0, some (.int x), a2, a3] st h Q = wp S d 8 9 [a0, some (.int x), a2, a3] (.int x :: st) h Q := wp_p hc8 dX0_setOldTerm_8 rfl
theorem e8_9 : wp S d 8 9 [a0, a1, some (.int x), a3] st h Q = wp S d 8 10 [a0, a1, some (.int x), a3] (.int x :: st) h Q := wp_p hc8 dX0_setOldTerm_9 rfl
theorem e8_10 : wp S d 8 10 [a0, a1, a2, some (.int x)] st h Q = wp S d 8 11 [a0, a1, a2, some (.int x)] (.int x :: st) h Q := wp_p hc8 dX0_setOldTerm_10 rfl
theorem e8_11 : wp S (d + 1) 8 11 [a0, a1, a2, a3] (.int x4 :: .int x3 :: .int x2 :: .ref r1 :: .ref r0 :: st) h Q = (am_w8 st ∧ am_rcv h 2 9 (.ref r0) = true ∧ wp S d 9 0 [some (.ref r0), some (.ref r1), some (.int x2), some (.int x3), some (.int x4), none] [] h (am_kr S 2 (d + 1) 8 11 [a0, a1, a2, a3] st Q)) := wp_cV (.ref r0) [.ref r1, .int x2, .int x3, .int x4] hc8 dX0_setOldTerm_11 ho8 cl0_92 (by decide) ns0_92 hst9 hnp9 hml9 hlsl9 rfl rfl rfl
theorem e8_14 : wp S d 8 14 ls [.int x] h Q = Q (.inl (some (.int x)), h) := wp_r hc8 dX0_setOldTerm_14 rfl rfl ⟨x, _, rfl, rfl, rfl, rfl⟩
theorem e9_0 : wp S d 9 0 [a0, a1, some (.int x), a3, a4, a5] st h Q = wp S d 9 1 [a0, a1, some (.int x), a3, a4, a5] (.int x :: st) h Q := wp_p hc9 dX0_setTerm_0 rfl
theorem e9_1 : wp S (d + 1) 9 1 [a0, a1, a2, a3, a4, a5] (.int x1 :: st) h Q = (am_w8 st ∧ wp S d 3 0 [some (.int x1)] [] h (am_kr S 0 (d + 1) 9 1 [a0, a1, a2, a3, a4, a5] st Q)) := wp_cS [.int x1] hc9 dX0_setTerm_1 ho9 cl0_55 (by decide) ns0_55 hst3 hnp3 hml3 hlsl3 rfl rfl rfl
theorem e9_4 : wp S d 9 4 [a0, a1, a2, a3, a4, a5] (.int x :: st) h Q = if x = 0 then wp S d 9 27 [a0, a1, a2, a3, a4, a5] st h Q else wp S d 9 7 [a0, a1, a2, a3, a4, a5] st h Q := wp_eq hc9 dX0_setTerm_4 rfl
theorem e9_7 : wp S d 9 7 [a0, a1, a2, some (.int x), a4, a5] st h Q = wp S d 9 8 [a0, a1, a2, some (.int x), a4, a5] (.int x :: st) h Q := wp_p hc9 dX0_setTerm_7 rfl
theorem e9_8 : wp S d 9 8 [a0, a1, a2, a3, a4, a5] st h Q = wp S d 9 9 [a0, a1, a2, a3, a4, a5] (.int ((-1)) :: st) h Q := wp_p hc9 dX0_setTerm_8 rfl
theorem e9_9 : wp S d 9 9 [a0, a1, a2, a3, a4, a5] st h Q = wp S d 9 10 [a0, a1, a2, a3, a4, a5] (.int (nI 3) :: st) h Q := wp_p hc9 dX0_setTerm_9 rfl
theorem e9_10 : wp S (d + 1) 9 10 [a0, a1, a2, a3, a4, a5] (.int x3 :: .int x2 :: .int x1 :: st) h Q = (am_w8 st ∧ wp S d 4 0 [some (.int x1), some (.int x2), some (.int x3)] [] h (am_kr S 0 (d + 1) 9 10 [a0, a1, a2, a3, a4, a5] st Q)) := wp_cS [.int x1, .int x2, .int x3] hc9 dX0_setTerm_10 ho9 cl0_51 (by decide) ns0_51 hst4 hnp4 hml4 hlsl4 rfl rfl rfl
theorem e9_13 : wp S d 9 13 [a0, a1, a2, a3, a4, a5] (.int x :: st) h Q = if x = 0 then wp S d 9 27 [a0, a1, a2, a3, a4, a5] st h Q else wp S d 9 16 [a0, a1, a2, a3, a4, a5] st h Q := wp_eq hc9 dX0_setTerm_13 rfl
theorem e9_16 : wp S d 9 16 [a0, a1, a2, a3, some (.int x), a5] st h Q = wp S d 9 18 [a0, a1, a2, a3, some (.int x), a5] (.int x :: st) h Q := wp_p hc9 dX0_setTerm_16 rfl
theorem e9_18 : wp S d 9 18 [a0, a1, a2, a3, a4, a5] st h Q = wp S d 9 19 [a0, a1, a2, a3, a4, a5] (.int (nI 0) :: st) h Q := wp_p hc9 dX0_setTerm_18 rfl
theorem e9_19 : wp S d 9 19 [a0, a1, a2, a3, a4, a5] st h Q = wp S d 9 21 [a0, a1, a2, a3, a4, a5] (.int (nI 99) :: st) h Q := wp_p hc9 dX0_setTerm_19 rfl
theorem e9_21 : wp S (d + 1) 9 21 [a0, a1, a2, a3, a4, a5] (.int x3 :: .int x2 :: .int x1 :: st) h Q = (am_w8 st ∧ wp S d 4 0 [some (.int x1), some (.int x2), some (.int x3)] [] h (am_kr S 0 (d + 1) 9 21 [a0, a1, a2, a3, a4, a5] st Q)) := wp_cS [.int x1, .int x2, .int x3] hc9 dX0_setTerm_21 ho9 cl0_51 (by decide) ns0_51 hst4 hnp4 hml4 hlsl4 rfl rfl rfl
theorem e9_24 : wp S d 9 24 [a0, a1, a2, a3, a4, a5] (.int x :: st) h Q = if x = 0 then wp S d 9 27 [a0, a1, a2, a3, a4, a5] st h Q else wp S d 9 34 [a0, a1, a2, a3, a4, a5] st h Q := wp_ne hc9 dX0_setTerm_24 rfl
theorem e9_27 : wp S d 9 27 [some (.ref r), a1, a2, a3, a4, a5] st h Q = wp S d 9 28 [some (.ref r), a1, a2, a3, a4, a5] (.ref r :: st) h Q := wp_p hc9 dX0_setTerm_27 rfl
theorem e9_28 : wp S d 9 28 [a0, a1, a2, a3, a4, a5] st h Q = wp S d 9 30 [a0, a1, a2, a3, a4, a5] (.int ((-2)) :: st) h Q := wp_p hc9 dX0_setTerm_28 rfl
theorem e9_30 : wp S (d + 1) 9 30 [a0, a1, a2, a3, a4, a5] (.int x1 :: .ref r0 :: st) h Q = (am_w8 st ∧ am_rcv h 2 5 (.ref r0) = true ∧ wp S d 5 0 [some (.ref r0), some (.int x1)] [] h (am_kr S 2 (d + 1) 9 30 [a0, a1, a2, a3, a4, a5] st Q)) := wp_cV (.ref r0) [.int x1] hc9 dX0_setTerm_30 ho9 cl0_59 (by decide) ns0_59 hst5 hnp5 hml5 hlsl5 rfl rfl rfl
theorem e9_33 : wp S d 9 33 ls [.int x] h Q = Q (.inl (some (.int x)), h) := wp_r hc9 dX0_setTerm_33 rfl rfl ⟨x, _, rfl, rfl, rfl, rfl⟩
theorem e9_34 : wp S d 9 34 [some (.ref r), a1, a2, a3, a4, a5] st h Q = wp S d 9 35 [some (.ref r), a1, a2, a3, a4, a5] (.ref r :: st) h Q := wp_p hc9 dX0_setTerm_34 rfl
theorem e9_35 : wp S (d + 1) 9 35 [a0, a1, a2, a3, a4, a5] (.ref r0 :: st) h Q = (am_w8 st ∧ am_rcv h 2 6 (.ref r0) = true ∧ wp S d 6 0 [some (.ref r0), none] [] h (am_kr S 2 (d + 1) 9 35 [a0, a1, a2, a3, a4, a5] st Q)) := wp_cV (.ref r0) [] hc9 dX0_setTerm_35 ho9 cl0_63 (by decide) ns0_63 hst6 hnp6 hml6 hlsl6 rfl rfl rfl
theorem e9_38 : wp S d 9 38 [a0, some (.ref r), a2, a3, a4, a5] st h Q = wp S d 9 39 [a0, some (.ref r), a2, a3, a4, a5] (.ref r :: st) h Q := wp_p hc9 dX0_setTerm_38 rfl
theorem e9_39 : wp S d 9 39 [a0, a1, some (.int x), a3, a4, a5] st h Q = wp S d 9 40 [a0, a1, some (.int x), a3, a4, a5] (.int x :: st) h Q := wp_p hc9 dX0_setTerm_39 rfl
theorem e9_40 : wp S d 9 40 [a0, a1, a2, a3, a4, a5] (.int x :: .ref r :: st) h Q = am_aaK h r x (fun w => wp S d 9 41 [a0, a1, a2, a3, a4, a5] (w :: st) h Q) := wp_aa hc9 dX0_setTerm_40
theorem e9_41 : wp S d 9 41 [a0, a1, a2, some (.int x), a4, a5] st h Q = wp S d 9 42 [a0, a1, a2, some (.int x), a4, a5] (.int x :: st) h Q := wp_p hc9 dX0_setTerm_41 rfl
theorem e9_42 : wp S (d + 1) 9 42 [a0, a1, a2, a3, a4, a5] (.int x1 :: .ref r0 :: st) h Q = (am_w8 st ∧ am_rcv h 2 48 (.ref r0) = true ∧ wp S d 48 0 [some (.ref r0), some (.int x1)] [] h (am_kr S 2 (d + 1) 9 42 [a0, a1, a2, a3, a4, a5] st Q)) := wp_cV (.ref r0) [.int x1] hc9 dX0_setTerm_42 ho9 cl0_75 (by decide) ns0_75 hst48 hnp48 hml48 hlsl48 rfl rfl rfl
theorem e9_45 : wp S d 9 45 [a0, a1, a2, a3, a4, a5] (.int x :: st) h Q = wp S d 9 47 [a0, a1, a2, a3, a4, some (.int x)] st h Q := wp_p hc9 dX0_setTerm_45 rfl
theorem e9_47 : wp S d 9 47 [a0, some (.ref r), a2, a3, a4, a5] st h Q = wp S d 9 48 [a0, some (.ref r), a2, a3, a4, a5] (.ref r :: st) h Q := wp_p hc9 dX0_setTerm_47 rfl
theorem e9_48 : wp S d 9 48 [a0, a1, some (.int x), a3, a4, a5] st h Q = wp S d 9 49 [a0, a1, some (.int x), a3, a4, a5] (.int x :: st) h Q := wp_p hc9 dX0_setTerm_48 rfl
theorem e9_49 : wp S d 9 49 [a0, some (.ref r), a2, a3, a4, a5] st h Q = wp S d 9 50 [a0, some (.ref r), a2, a3, a4, a5] (.ref r :: st) h Q := wp_p hc9 dX0_setTerm_49 rfl
theorem e9_50 : wp S d 9 50 [a0, a1, some (.int x), a3, a4, a5] st h Q = wp S d 9 51 [a0, a1, some (.int x), a3, a4, a5] (.int x :: st) h Q := wp_p hc9 dX0_setTerm_50 rfl
theorem e9_51 : wp S d 9 51 [a0, a1, a2, a3, a4, a5] (.int x :: .ref r :: st) h Q = am_aaK h r x (fun w => wp S d 9 52 [a0, a1, a2, a3, a4, a5] (w :: st) h Q) := wp_aa hc9 dX0_setTerm_51
theorem e9_52 : wp S d 9 52 [a0, a1, a2, some (.int x), a4, a5] st h Q = wp S d 9 53 [a0, a1, a2, some (.int x), a4, a5] (.int x :: st) h Q := wp_p hc9 dX0_setTerm_52 rfl
theorem e9_53 : wp S d 9 53 [a0, a1, a2, a3, some (.int x), a5] st h Q = wp S d 9 55 [a0, a1, a2, a3, some (.int x), a5] (.int x :: st) h Q := wp_p hc9 dX0_setTerm_53 rfl
theorem e9_55 : wp S (d + 1) 9 55 [a0, a1, a2, a3, a4, a5] (.int x2 :: .int x1 :: .ref r0 :: st) h Q = (am_w8 st ∧ am_rcv h 2 49 (.ref r0) = true ∧ wp S d 49 0 [some (.ref r0), some (.int x1), some (.int x2), none] [] h (am_kr S 2 (d + 1) 9 55 [a0, a1, a2, a3, a4, a5] st Q)) := wp_cV (.ref r0) [.int x1, .int x2] hc9 dX0_setTerm_55 ho9 cl0_78 (by decide) ns0_78 hst49 hnp49 hml49 hlsl49 rfl rfl rfl
theorem e9_58 : wp S d 9 58 [a0, a1, a2, a3, a4, a5] (w :: .int x :: .ref r :: st) h Q = am_asK h r x w (fun h => wp S d 9 59 [a0, a1, a2, a3, a4, a5] st h Q) := wp_as hc9 dX0_setTerm_58
theorem e9_59 : wp S d 9 59 [a0, a1, a2, a3, a4, some (.int x)] st h Q = wp S d 9 61 [a0, a1, a2, a3, a4, some (.int x)] (.int x :: st) h Q := wp_p hc9 dX0_setTerm_59 rfl
theorem e9_61 : wp S d 9 61 ls [.int x] h Q = Q (.inl (some (.int x)), h) := wp_r hc9 dX0_setTerm_61 rfl rfl ⟨x, _, rfl, rfl, rfl, rfl⟩
theorem e10_0 : wp S d 10 0 [some (.ref r), a1, a2, a3] st h Q = wp S d 10 1 [some (.ref r), a1, a2, a3] (.ref r :: st) h Q := wp_p hc10 dX0_setNewTerm_0 rfl
theorem e10_1 : wp S d 10 1 [some (.ref r), a1, a2, a3] st h Q = wp S d 10 2 [some (.ref r), a1, a2, a3] (.ref r :: st) h Q := wp_p hc10 dX0_setNewTerm_1 rfl
theorem e10_2 : wp S d 10 2 [a0, a1, a2, a3] (.ref r :: st) h Q = am_gfK h r 0 0 (fun w => wp S d 10 5 [a0, a1, a2, a3] (w :: st) h Q) := wp_gf hc10 dX0_setNewTerm_2 ho10 fl0_10
theorem e10_5 : wp S d 10 5 [a0, a1, a2, a3] (.ref r :: st) h Q = am_gfK h r 1 1 (fun w => wp S d 10 8 [a0, a1, a2, a3] (w :: st) h Q) := wp_gf hc10 dX0_setNewTerm_5 ho10 fl0_89
theorem e10_8 : wp S d 10 8 [a0, some (.int x), a2, a3] st h Q = wp S d 10 9 [a0, some (.int x), a2, a3] (.int x :: st) h Q := wp_p hc10 dX0_setNewTerm_8 rfl
theorem e10_9 : wp S d 10 9 [a0, a1, some (.int x), a3] st h Q = wp S d 10 10 [a0, a1, some (.int x), a3] (.int x :: st) h Q := wp_p hc10 dX0_setNewTerm_9 rfl
theorem e10_10 : wp S d 10 10 [a0, a1, a2, some (.int x)] st h Q = wp S d 10 11 [a0, a1, a2, some (.int x)] (.int x :: st) h Q := wp_p hc10 dX0_setNewTerm_10 rfl
theorem e10_11 : wp S (d + 1) 10 11 [a0, a1, a2, a3] (.int x4 :: .int x3 :: .int x2 :: .ref r1 :: .ref r0 :: st) h Q = (am_w8 st ∧ am_rcv h 2 9 (.ref r0) = true ∧ wp S d 9 0 [some (.ref r0), some (.ref r1), some (.int x2), some (.int x3), some (.int x4), none] [] h (am_kr S 2 (d + 1) 10 11 [a0, a1, a2, a3] st Q)) := wp_cV (.ref r0) [.ref r1, .int x2, .int x3, .int x4] hc10 dX0_setNewTerm_11 ho10 cl0_92 (by decide) ns0_92 hst9 hnp9 hml9 hlsl9 rfl rfl rfl
theorem e10_14 : wp S d 10 14 ls [.int x] h Q = Q (.inl (some (.int x)), h) := wp_r hc10 dX0_setNewTerm_14 rfl rfl ⟨x, _, rfl, rfl, rfl, rfl⟩
theorem e11_0 : wp S d 11 0 [a0, some (.int x), a2, a3] st h Q = wp S d 11 1 [a0, some (.int x), a2, a3] (.int x :: st) h Q := wp_p hc11 dX0_map_0 rfl
theorem e11_1 : wp S (d + 1) 11 1 [a0, a1, a2, a3] (.int x1 :: st) h Q = (am_w8 st ∧ wp S d 3 0 [some (.int x1)] [] h (am_kr S 0 (d + 1) 11 1 [a0, a1, a2, a3] st Q)) := wp_cS [.int x1] hc11 dX0_map_1 ho11 cl0_55 (by decide) ns0_55 hst3 hnp3 hml3 hlsl3 rfl rfl rfl
theorem e11_4 : wp S d 11 4 [a0, a1, a2, a3] (.int x :: st) h Q = if x = 0 then wp S d 11 14 [a0, a1, a2, a3] st h Q else wp S d 11 7 [a0, a1, a2, a3] st h Q := wp_eq hc11 dX0_map_4 rfl
theorem e11_7 : wp S d 11 7 [a0, a1, some (.int x), a3] st h Q = wp S d 11 8 [a0, a1, some (.int x), a3] (.int x :: st) h Q := wp_p hc11 dX0_map_7 rfl
theorem e11_8 : wp S (d + 1) 11 8 [a0, a1, a2, a3] (.int x1 :: st) h Q = (am_w8 st ∧ wp S d 3 0 [some (.int x1)] [] h (am_kr S 0 (d + 1) 11 8 [a0, a1, a2, a3] st Q)) := wp_cS [.int x1] hc11 dX0_map_8 ho11 cl0_55 (by decide) ns0_55 hst3 hnp3 hml3 hlsl3 rfl rfl rfl
theorem e11_11 : wp S d 11 11 [a0, a1, a2, a3] (.int x :: st) h Q = if x = 0 then wp S d 11 14 [a0, a1, a2, a3] st h Q else wp S d 11 21 [a0, a1, a2, a3] st h Q := wp_ne hc11 dX0_map_11 rfl
theorem e11_14 : wp S d 11 14 [some (.ref r), a1, a2, a3] st h Q = wp S d 11 15 [some (.ref r), a1, a2, a3] (.ref r :: st) h Q := wp_p hc11 dX0_map_14 rfl
theorem e11_15 : wp S d 11 15 [a0, a1, a2, a3] st h Q = wp S d 11 17 [a0, a1, a2, a3] (.int ((-2)) :: st) h Q := wp_p hc11 dX0_map_15 rfl
theorem e11_17 : wp S (d + 1) 11 17 [a0, a1, a2, a3] (.int x1 :: .ref r0 :: st) h Q = (am_w8 st ∧ am_rcv h 2 5 (.ref r0) = true ∧ wp S d 5 0 [some (.ref r0), some (.int x1)] [] h (am_kr S 2 (d + 1) 11 17 [a0, a1, a2, a3] st Q)) := wp_cV (.ref r0) [.int x1] hc11 dX0_map_17 ho11 cl0_59 (by decide) ns0_59 hst5 hnp5 hml5 hlsl5 rfl rfl rfl
theorem e11_20 : wp S d 11 20 ls [.int x] h Q = Q (.inl (some (.int x)), h) := wp_r hc11 dX0_map_20 rfl rfl ⟨x, _, rfl, rfl, rfl, rfl⟩
theorem e11_21 : wp S d 11 21 [some (.ref r), a1, a2, a3] st h Q = wp S d 11 22 [some (.ref r), a1, a2, a3] (.ref r :: st) h Q := wp_p hc11 dX0_map_21 rfl
theorem e11_22 : wp S (d + 1) 11 22 [a0, a1, a2, a3] (.ref r0 :: st) h Q = (am_w8 st ∧ am_rcv h 2 6 (.ref r0) = true ∧ wp S d 6 0 [some (.ref r0), none] [] h (am_kr S 2 (d + 1) 11 22 [a0, a1, a2, a3] st Q)) := wp_cV (.ref r0) [] hc11 dX0_map_22 ho11 cl0_63 (by decide) ns0_63 hst6 hnp6 hml6 hlsl6 rfl rfl rfl
theorem e11_25 : wp S d 11 25 [some (.ref r), a1, a2, a3] st h Q = wp S d 11 26 [some (.ref r), a1, a2, a3] (.ref r :: st) h Q := wp_p hc11 dX0_map_25 rfl
theorem e11_26 : wp S d 11 26 [a0, a1, a2, a3] (.ref r :: st) h Q = am_gfK h r 0 0 (fun w => wp S d 11 29 [a0, a1, a2, a3] (w :: st) h Q) := wp_gf hc11 dX0_map_26 ho11 fl0_10
theorem e11_29 : wp S d 11 29 [a0, a1, a2, a3] (.ref r :: st) h Q = am_gfK h r 1 5 (fun w => wp S d 11 32 [a0, a1, a2, a3] (w :: st) h Q) := wp_gf hc11 dX0_map_29 ho11 fl0_99
theorem e11_32 : wp S d 11 32 [a0, some (.int x), a2, a3] st h Q = wp S d 11 33 [a0, some (.int x), a2, a3] (.int x :: st) h Q := wp_p hc11 dX0_map_32 rfl
theorem e11_33 : wp S d 11 33 [a0, a1, a2, a3] (.int x :: .ref r :: st) h Q = am_aaK h r x (fun w => wp S d 11 34 [a0, a1, a2, a3] (w :: st) h Q) := wp_aa hc11 dX0_map_33
theorem e11_34 : wp S d 11 34 [a0, a1, a2, a3] (.ref r :: st) h Q = wp S d 11 35 [a0, a1, a2, some (.ref r)] st h Q := wp_p hc11 dX0_map_34 rfl
theorem e11_34n : wp S d 11 34 [a0, a1, a2, a3] (.null :: st) h Q = wp S d 11 35 [a0, a1, a2, some (.null)] st h Q := wp_p hc11 dX0_map_34 rfl
theorem e11_34k : wp S d 11 34 [a0, a1, a2, a3] (.retAddr r :: st) h Q = wp S d 11 35 [a0, a1, a2, some (.retAddr r)] st h Q := wp_p hc11 dX0_map_34 rfl
theorem e11_35 : wp S d 11 35 [some (.ref r), a1, a2, a3] st h Q = wp S d 11 36 [some (.ref r), a1, a2, a3] (.ref r :: st) h Q := wp_p hc11 dX0_map_35 rfl
theorem e11_36 : wp S d 11 36 [a0, a1, a2, a3] (.ref r :: st) h Q = am_gfK h r 0 0 (fun w => wp S d 11 39 [a0, a1, a2, a3] (w :: st) h Q) := wp_gf hc11 dX0_map_36 ho11 fl0_10
theorem e11_39 : wp S d 11 39 [a0, a1, a2, a3] (.ref r :: st) h Q = am_gfK h r 1 5 (fun w => wp S d 11 42 [a0, a1, a2, a3] (w :: st) h Q) := wp_gf hc11 dX0_map_39 ho11 fl0_99
theorem e11_42 : wp S d 11 42 [a0, some (.int x), a2, a3] st h Q = wp S d 11 43 [a0, some (.int x), a2, a3] (.int x :: st) h Q := wp_p hc11 dX0_map_42 rfl
theorem e11_43 : wp S d 11 43 [a0, a1, a2, some (.ref r)] st h Q = wp S d 11 44 [a0, a1, a2, some (.ref r)] (.ref r :: st) h Q := wp_p hc11 dX0_map_43 rfl
theorem e11_43n : wp S d 11 43 [a0, a1, a2, some (.null)] st h Q = wp S d 11 44 [a0, a1, a2, some (.null)] (.null :: st) h Q := wp_p hc11 dX0_map_43 rfl
theorem e11_43k : wp S d 11 43 [a0, a1, a2, some (.retAddr r)] st h Q = wp S d 11 44 [a0, a1, a2, some (.retAddr r)] (.retAddr r :: st) h Q := wp_p hc11 dX0_map_43 rfl
theorem e11_44 : wp S d 11 44 [a0, a1, a2, a3] (.ref r :: st) h Q = wp S d 11 58 [a0, a1, a2, a3] st h Q := wp_p hc11 dX0_map_44 rfl
theorem e11_44n : wp S d 11 44 [a0, a1, a2, a3] (.null :: st) h Q = wp S d 11 47 [a0, a1, a2, a3] st h Q := wp_p hc11 dX0_map_44 rfl
theorem e11_44k (hr : r < 10) : wp S d 11 44 [a0, a1, a2, a3] (.retAddr r :: st) h Q = wp S d 11 58 [a0, a1, a2, a3] st h Q := wp_p hc11 dX0_map_44 (if_pos hr)
theorem e11_47 : wp S d 11 47 [a0, a1, a2, a3] st h Q = wp S d 11 50 [a0, a1, a2, a3] (.ref h.length :: st) (h ++ [.inr (.inr (6, am_dft 6))]) Q := wp_nw hc11 dX0_map_47 ho11 nw0_103
theorem e11_50 : wp S d 11 50 [a0, a1, a2, a3] (.ref r :: st) h Q = wp S d 11 51 [a0, a1, a2, a3] (.ref r :: .ref r :: st) h Q := wp_p hc11 dX0_map_50 rfl
theorem e11_50i : wp S d 11 50 [a0, a1, a2, a3] (.int x :: st) h Q = wp S d 11 51 [a0, a1, a2, a3] (.int x :: .int x :: st) h Q := wp_p hc11 dX0_map_50 rfl
theorem e11_51 : wp S d 11 51 [a0, a1, some (.int x), a3] st h Q = wp S d 11 52 [a0, a1, some (.int x), a3] (.int x :: st) h Q := wp_p hc11 dX0_map_51 rfl
theorem e11_52 : wp S (d + 1) 11 52 [a0, a1, a2, a3] (.int x1 :: .ref r0 :: st) h Q = (am_w8 st ∧ am_rcv h 4 122 (.ref r0) = true ∧ wp S d 122 0 [some (.ref r0), some (.int x1)] [] h (am_kr S 4 (d + 1) 11 52 [a0, a1, a2, a3] st Q)) := wp_cI (.ref r0) [.int x1] hc11 dX0_map_52 ho11 cl0_105 (by decide) ns0_105 hst122 hnp122 hml122 hlsl122 rfl rfl rfl
theorem e11_55 : wp S d 11 55 [a0, a1, a2, a3] st h Q = wp S d 11 70 [a0, a1, a2, a3] st h Q := wp_p hc11 dX0_map_55 rfl
theorem e11_58 : wp S d 11 58 [a0, a1, a2, a3] st h Q = wp S d 11 61 [a0, a1, a2, a3] (.ref h.length :: st) (h ++ [.inr (.inr (6, am_dft 6))]) Q := wp_nw hc11 dX0_map_58 ho11 nw0_103
theorem e11_61 : wp S d 11 61 [a0, a1, a2, a3] (.ref r :: st) h Q = wp S d 11 62 [a0, a1, a2, a3] (.ref r :: .ref r :: st) h Q := wp_p hc11 dX0_map_61 rfl
theorem e11_61i : wp S d 11 61 [a0, a1, a2, a3] (.int x :: st) h Q = wp S d 11 62 [a0, a1, a2, a3] (.int x :: .int x :: st) h Q := wp_p hc11 dX0_map_61 rfl
theorem e11_62 : wp S d 11 62 [a0, a1, some (.int x), a3] st h Q = wp S d 11 63 [a0, a1, some (.int x), a3] (.int x :: st) h Q := wp_p hc11 dX0_map_62 rfl
theorem e11_63 : wp S d 11 63 [a0, a1, a2, some (.ref r)] st h Q = wp S d 11 64 [a0, a1, a2, some (.ref r)] (.ref r :: st) h Q := wp_p hc11 dX0_map_63 rfl
theorem e11_63n : wp S d 11 63 [a0, a1, a2, some (.null)] st h Q = wp S d 11 64 [a0, a1, a2, some (.null)] (.null :: st) h Q := wp_p hc11 dX0_map_63 rfl
theorem e11_63k : wp S d 11 63 [a0, a1, a2, some (.retAddr r)] st h Q = wp S d 11 64 [a0, a1, a2, some (.retAddr r)] (.retAddr r :: st) h Q := wp_p hc11 dX0_map_63 rfl
theorem e11_64 : wp S d 11 64 [a0, a1, a2, a3] (.ref r :: st) h Q = am_gfK h r 6 1 (fun w => wp S d 11 67 [a0, a1, a2, a3] (w :: st) h Q) := wp_gf hc11 dX0_map_64 ho11 fl0_108
theorem e11_67 : wp S (d + 1) 11 67 [a0, a1, a2, a3] (.ref r2 :: .int x1 :: .ref r0 :: st) h Q = (am_w8 st ∧ am_rcv h 4 123 (.ref r0) = true ∧ wp S d 123 0 [some (.ref r0), some (.int x1), some (.ref r2)] [] h (am_kr S 4 (d + 1) 11 67 [a0, a1, a2, a3] st Q)) := wp_cI (.ref r0) [.int x1, .ref r2] hc11 dX0_map_67 ho11 cl0_111 (by decide) ns0_111 hst123 hnp123 hml123 hlsl123 rfl rfl rfl
theorem e11_70 : wp S d 11 70 [a0, a1, a2, a3] (w :: .int x :: .ref r :: st) h Q = am_asK h r x w (fun h => wp S d 11 71 [a0, a1, a2, a3] st h Q) := wp_as hc11 dX0_map_70
theorem e11_71 : wp S d 11 71 [some (.ref r), a1, a2, a3] st h Q = wp S d 11 72 [some (.ref r), a1, a2, a3] (.ref r :: st) h Q := wp_p hc11 dX0_map_71 rfl
theorem e11_72 : wp S d 11 72 [a0, some (.int x), a2, a3] st h Q = wp S d 11 73 [a0, some (.int x), a2, a3] (.int x :: st) h Q := wp_p hc11 dX0_map_72 rfl
theorem e11_73 : wp S (d + 1) 11 73 [a0, a1, a2, a3] (.int x1 :: .ref r0 :: st) h Q = (am_w8 st ∧ am_rcv h 2 12 (.ref r0) = true ∧ wp S d 12 0 [some (.ref r0), some (.int x1)] [] h (am_kr S 2 (d + 1) 11 73 [a0, a1, a2, a3] st Q)) := wp_cV (.ref r0) [.int x1] hc11 dX0_map_73 ho11 cl0_114 (by decide) ns0_114 hst12 hnp12 hml12 hlsl12 rfl rfl rfl
theorem e11_76 : wp S d 11 76 ls [.int x] h Q = Q (.inl (some (.int x)), h) := wp_r hc11 dX0_map_76 rfl rfl ⟨x, _, rfl, rfl, rfl, rfl⟩
theorem e12_0 : wp S d 12 0 [some (.ref r), a1] st h Q = wp S d 12 1 [some (.ref r), a1] (.ref r :: st) h Q := wp_p hc12 dX0_faithful_0 rfl
theorem e12_1 : wp S d 12 1 [a0, a1] (.ref r :: st) h Q = am_gfK h r 0 0 (fun w => wp S d 12 4 [a0, a1] (w :: st) h Q) := wp_gf hc12 dX0_faithful_1 ho12 fl0_10
theorem e12_4 : wp S d 12 4 [a0, some (.int x)] st h Q = wp S d 12 5 [a0, some (.int x)] (.int x :: st) h Q := wp_p hc12 dX0_faithful_4 rfl
theorem e12_5 : wp S (d + 1) 12 5 [a0, a1] (.int x1 :: .ref r0 :: st) h Q = (am_w8 st ∧ am_rcv h 2 38 (.ref r0) = true ∧ wp S d 38 0 [some (.ref r0), some (.int x1)] [] h (am_kr S 2 (d + 1) 12 5 [a0, a1] st Q)) := wp_cV (.ref r0) [.int x1] hc12 dX0_faithful_5 ho12 cl0_96 (by decide) ns0_96 hst38 hnp38 hml38 hlsl38 rfl rfl rfl
theorem e12_8 : wp S d 12 8 [a0, a1] (.int x :: st) h Q = if x = 0 then wp S d 12 15 [a0, a1] st h Q else wp S d 12 11 [a0, a1] st h Q := wp_eq hc12 dX0_faithful_8 rfl
theorem e12_11 : wp S d 12 11 [a0, a1] st h Q = wp S d 12 12 [a0, a1] (.int (nI 1) :: st) h Q := wp_p hc12 dX0_faithful_11 rfl
theorem e12_12 : wp S d 12 12 [a0, a1] st h Q = wp S d 12 16 [a0, a1] st h Q := wp_p hc12 dX0_faithful_12 rfl
theorem e12_15 : wp S d 12 15 [a0, a1] st h Q = wp S d 12 16 [a0, a1] (.int (nI 0) :: st) h Q := wp_p hc12 dX0_faithful_15 rfl
theorem e12_16 : wp S d 12 16 ls [.int x] h Q = Q (.inl (some (.int x)), h) := wp_r hc12 dX0_faithful_16 rfl rfl ⟨x, _, rfl, rfl, rfl, rfl⟩
theorem e13_0 : wp S d 13 0 [a0, some (.int x), a2] st h Q = wp S d 13 1 [a0, some (.int x), a2] (.int x :: st) h Q := wp_p hc13 dX0_unmap_0 rfl
theorem e13_1 : wp S (d + 1) 13 1 [a0, a1, a2] (.int x1 :: st) h Q = (am_w8 st ∧ wp S d 3 0 [some (.int x1)] [] h (am_kr S 0 (d + 1) 13 1 [a0, a1, a2] st Q)) := wp_cS [.int x1] hc13 dX0_unmap_1 ho13 cl0_55 (by decide) ns0_55 hst3 hnp3 hml3 hlsl3 rfl rfl rfl
theorem e13_4 : wp S d 13 4 [a0, a1, a2] (.int x :: st) h Q = if x = 0 then wp S d 13 7 [a0, a1, a2] st h Q else wp S d 13 14 [a0, a1, a2] st h Q := wp_ne hc13 dX0_unmap_4 rfl
theorem e13_7 : wp S d 13 7 [some (.ref r), a1, a2] st h Q = wp S d 13 8 [some (.ref r), a1, a2] (.ref r :: st) h Q := wp_p hc13 dX0_unmap_7 rfl
theorem e13_8 : wp S d 13 8 [a0, a1, a2] st h Q = wp S d 13 10 [a0, a1, a2] (.int ((-2)) :: st) h Q := wp_p hc13 dX0_unmap_8 rfl
theorem e13_10 : wp S (d + 1) 13 10 [a0, a1, a2] (.int x1 :: .ref r0 :: st) h Q = (am_w8 st ∧ am_rcv h 2 5 (.ref r0) = true ∧ wp S d 5 0 [some (.ref r0), some (.int x1)] [] h (am_kr S 2 (d + 1) 13 10 [a0, a1, a2] st Q)) := wp_cV (.ref r0) [.int x1] hc13 dX0_unmap_10 ho13 cl0_59 (by decide) ns0_59 hst5 hnp5 hml5 hlsl5 rfl rfl rfl
theorem e13_13 : wp S d 13 13 ls [.int x] h Q = Q (.inl (some (.int x)), h) := wp_r hc13 dX0_unmap_13 rfl rfl ⟨x, _, rfl, rfl, rfl, rfl⟩
theorem e13_14 : wp S d 13 14 [some (.ref r), a1, a2] st h Q = wp S d 13 15 [some (.ref r), a1, a2] (.ref r :: st) h Q := wp_p hc13 dX0_unmap_14 rfl
theorem e13_15 : wp S d 13 15 [a0, a1, a2] (.ref r :: st) h Q = am_gfK h r 0 0 (fun w => wp S d 13 18 [a0, a1, a2] (w :: st) h Q) := wp_gf hc13 dX0_unmap_15 ho13 fl0_10
theorem e13_18 : wp S d 13 18 [a0, a1, a2] (.ref r :: st) h Q = am_gfK h r 1 5 (fun w => wp S d 13 21 [a0, a1, a2] (w :: st) h Q) := wp_gf hc13 dX0_unmap_18 ho13 fl0_99
theorem e13_21 : wp S d 13 21 [a0, some (.int x), a2] st h Q = wp S d 13 22 [a0, some (.int x), a2] (.int x :: st) h Q := wp_p hc13 dX0_unmap_21 rfl
theorem e13_22 : wp S d 13 22 [a0, a1, a2] (.int x :: .ref r :: st) h Q = am_aaK h r x (fun w => wp S d 13 23 [a0, a1, a2] (w :: st) h Q) := wp_aa hc13 dX0_unmap_22
theorem e13_23 : wp S d 13 23 [a0, a1, a2] (.ref r :: st) h Q = wp S d 13 33 [a0, a1, a2] st h Q := wp_p hc13 dX0_unmap_23 rfl
theorem e13_23n : wp S d 13 23 [a0, a1, a2] (.null :: st) h Q = wp S d 13 26 [a0, a1, a2] st h Q := wp_p hc13 dX0_unmap_23 rfl
theorem e13_23k (hr : r < 10) : wp S d 13 23 [a0, a1, a2] (.retAddr r :: st) h Q = wp S d 13 33 [a0, a1, a2] st h Q := wp_p hc13 dX0_unmap_23 (if_pos hr)
theorem e13_26 : wp S d 13 26 [some (.ref r), a1, a2] st h Q = wp S d 13 27 [some (.ref r), a1, a2] (.ref r :: st) h Q := wp_p hc13 dX0_unmap_26 rfl
theorem e13_27 : wp S d 13 27 [a0, a1, a2] st h Q = wp S d 13 29 [a0, a1, a2] (.int ((-3)) :: st) h Q := wp_p hc13 dX0_unmap_27 rfl
theorem e13_29 : wp S (d + 1) 13 29 [a0, a1, a2] (.int x1 :: .ref r0 :: st) h Q = (am_w8 st ∧ am_rcv h 2 5 (.ref r0) = true ∧ wp S d 5 0 [some (.ref r0), some (.int x1)] [] h (am_kr S 2 (d + 1) 13 29 [a0, a1, a2] st Q)) := wp_cV (.ref r0) [.int x1] hc13 dX0_unmap_29 ho13 cl0_59 (by decide) ns0_59 hst5 hnp5 hml5 hlsl5 rfl rfl rfl
theorem e13_32 : wp S d 13 32 ls [.int x] h Q = Q (.inl (some (.int x)), h) := wp_r hc13 dX0_unmap_32 rfl rfl ⟨x, _, rfl, rfl, rfl, rfl⟩
theorem e13_33 : wp S d 13 33 [some (.ref r), a1, a2] st h Q = wp S d 13 34 [some (.ref r), a1, a2] (.ref r :: st) h Q := wp_p hc13 dX0_unmap_33 rfl
theorem e13_34 : wp S (d + 1) 13 34 [a0, a1, a2] (.ref r0 :: st) h Q = (am_w8 st ∧ am_rcv h 2 6 (.ref r0) = true ∧ wp S d 6 0 [some (.ref r0), none] [] h (am_kr S 2 (d + 1) 13 34 [a0, a1, a2] st Q)) := wp_cV (.ref r0) [] hc13 dX0_unmap_34 ho13 cl0_63 (by decide) ns0_63 hst6 hnp6 hml6 hlsl6 rfl rfl rfl
theorem e13_37 : wp S d 13 37 [some (.ref r), a1, a2] st h Q = wp S d 13 38 [some (.ref r), a1, a2] (.ref r :: st) h Q := wp_p hc13 dX0_unmap_37 rfl
theorem e13_38 : wp S d 13 38 [a0, a1, a2] (.ref r :: st) h Q = am_gfK h r 0 0 (fun w => wp S d 13 41 [a0, a1, a2] (w :: st) h Q) := wp_gf hc13 dX0_unmap_38 ho13 fl0_10
theorem e13_41 : wp S d 13 41 [a0, a1, a2] (.ref r :: st) h Q = am_gfK h r 1 5 (fun w => wp S d 13 44 [a0, a1, a2] (w :: st) h Q) := wp_gf hc13 dX0_unmap_41 ho13 fl0_99
theorem e13_44 : wp S d 13 44 [a0, some (.int x), a2] st h Q = wp S d 13 45 [a0, some (.int x), a2] (.int x :: st) h Q := wp_p hc13 dX0_unmap_44 rfl
theorem e13_45 : wp S d 13 45 [a0, a1, a2] (.int x :: .ref r :: st) h Q = am_aaK h r x (fun w => wp S d 13 46 [a0, a1, a2] (w :: st) h Q) := wp_aa hc13 dX0_unmap_45
theorem e13_46 : wp S d 13 46 [a0, a1, a2] (.ref r :: st) h Q = am_gfK h r 6 0 (fun w => wp S d 13 49 [a0, a1, a2] (w :: st) h Q) := wp_gf hc13 dX0_unmap_46 ho13 fl0_117
theorem e13_49 : wp S d 13 49 [a0, a1, a2] (.int x :: st) h Q = wp S d 13 50 [a0, a1, some (.int x)] st h Q := wp_p hc13 dX0_unmap_49 rfl
theorem e13_50 : wp S d 13 50 [some (.ref r), a1, a2] st h Q = wp S d 13 51 [some (.ref r), a1, a2] (.ref r :: st) h Q := wp_p hc13 dX0_unmap_50 rfl
theorem e13_51 : wp S d 13 51 [a0, a1, a2] (.ref r :: st) h Q = am_gfK h r 0 0 (fun w => wp S d 13 54 [a0, a1, a2] (w :: st) h Q) := wp_gf hc13 dX0_unmap_51 ho13 fl0_10
theorem e13_54 : wp S d 13 54 [a0, a1, a2] (.ref r :: st) h Q = am_gfK h r 1 5 (fun w => wp S d 13 57 [a0, a1, a2] (w :: st) h Q) := wp_gf hc13 dX0_unmap_54 ho13 fl0_99
theorem e13_57 : wp S d 13 57 [a0, some (.int x), a2] st h Q = wp S d 13 58 [a0, some (.int x), a2] (.int x :: st) h Q := wp_p hc13 dX0_unmap_57 rfl
theorem e13_58 : wp S d 13 58 [a0, a1, a2] st h Q = wp S d 13 59 [a0, a1, a2] (.null :: st) h Q := wp_p hc13 dX0_unmap_58 rfl
theorem e13_59 : wp S d 13 59 [a0, a1, a2] (w :: .int x :: .ref r :: st) h Q = am_asK h r x w (fun h => wp S d 13 60 [a0, a1, a2] st h Q) := wp_as hc13 dX0_unmap_59
theorem e13_60 : wp S d 13 60 [a0, a1, some (.int x)] st h Q = wp S d 13 61 [a0, a1, some (.int x)] (.int x :: st) h Q := wp_p hc13 dX0_unmap_60 rfl
theorem e13_61 : wp S d 13 61 ls [.int x] h Q = Q (.inl (some (.int x)), h) := wp_r hc13 dX0_unmap_61 rfl rfl ⟨x, _, rfl, rfl, rfl, rfl⟩
theorem e14_0 : wp S d 14 0 [some (.ref r), a1, a2, a3] st h Q = wp S d 14 1 [some (.ref r), a1, a2, a3] (.ref r :: st) h Q := wp_p hc14 dX0_setSource_0 rfl
theorem e14_1 : wp S d 14 1 [a0, some (.int x), a2, a3] st h Q = wp S d 14 2 [a0, some (.int x), a2, a3] (.int x :: st) h Q := wp_p hc14 dX0_setSource_1 rfl
theorem e14_2 : wp S d 14 2 [a0, a1, some (.int x), a3] st h Q = wp S d 14 3 [a0, a1, some (.int x), a3] (.int x :: st) h Q := wp_p hc14 dX0_setSource_2 rfl
theorem e14_3 : wp S d 14 3 [a0, a1, a2, a3] st h Q = wp S d 14 4 [a0, a1, a2, a3] (.int ((-1)) :: st) h Q := wp_p hc14 dX0_setSource_3 rfl
theorem e14_4 : wp S d 14 4 [a0, a1, a2, some (.int x)] st h Q = wp S d 14 5 [a0, a1, a2, some (.int x)] (.int x :: st) h Q := wp_p hc14 dX0_setSource_4 rfl
theorem e14_5 : wp S d 14 5 [a0, a1, a2, a3] (.int y :: .int x :: st) h Q = wp S d 14 6 [a0, a1, a2, a3] (.int (x - y) :: st) h Q := wp_p hc14 dX0_setSource_5 rfl
theorem e14_6 : wp S d 14 6 [a0, a1, a2, some (.int x)] st h Q = wp S d 14 7 [a0, a1, a2, some (.int x)] (.int x :: st) h Q := wp_p hc14 dX0_setSource_6 rfl
theorem e14_7 : wp S d 14 7 [a0, a1, a2, a3] st h Q = wp S d 14 8 [a0, a1, a2, a3] (.int (nI 0) :: st) h Q := wp_p hc14 dX0_setSource_7 rfl
theorem e14_8 : wp S d 14 8 [a0, a1, a2, a3] st h Q = wp S d 14 9 [a0, a1, a2, a3] (.int (nI 2) :: st) h Q := wp_p hc14 dX0_setSource_8 rfl
theorem e14_9 : wp S (d + 1) 14 9 [a0, a1, a2, a3] (.int x3 :: .int x2 :: .int x1 :: st) h Q = (am_w8 st ∧ wp S d 4 0 [some (.int x1), some (.int x2), some (.int x3)] [] h (am_kr S 0 (d + 1) 14 9 [a0, a1, a2, a3] st Q)) := wp_cS [.int x1, .int x2, .int x3] hc14 dX0_setSource_9 ho14 cl0_51 (by decide) ns0_51 hst4 hnp4 hml4 hlsl4 rfl rfl rfl
theorem e14_12 : wp S (d + 1) 14 12 [a0, a1, a2, a3] (.int x4 :: .int x3 :: .int x2 :: .int x1 :: .ref r0 :: st) h Q = (am_w8 st ∧ am_rcv h 2 15 (.ref r0) = true ∧ wp S d 15 0 [some (.ref r0), some (.int x1), some (.int x2), some (.int x3), some (.int x4)] [] h (am_kr S 2 (d + 1) 14 12 [a0, a1, a2, a3] st Q)) := wp_cV (.ref r0) [.int x1, .int x2, .int x3, .int x4] hc14 dX0_setSource_12 ho14 cl0_127 (by decide) ns0_127 hst15 hnp15 hml15 hlsl15 rfl rfl rfl
theorem e14_15 : wp S d 14 15 ls [.int x] h Q = Q (.inl (some (.int x)), h) := wp_r hc14 dX0_setSource_15 rfl rfl ⟨x, _, rfl, rfl, rfl, rfl⟩
theorem e15_0 : wp S d 15 0 [a0, some (.int x), a2, a3, a4] st h Q = wp S d 15 1 [a0, some (.int x), a2, a3, a4] (.int x :: st) h Q := wp_p hc15 dX0_setEntry_0 rfl
theorem e15_1 : wp S (d + 1) 15 1 [a0, a1, a2, a3, a4] (.int x1 :: st) h Q = (am_w8 st ∧ wp S d 3 0 [some (.int x1)] [] h (am_kr S 0 (d + 1) 15 1 [a0, a1, a2, a3, a4] st Q)) := wp_cS [.int x1] hc15 dX0_setEntry_1 ho15 cl0_55 (by decide) ns0_55 hst3 hnp3 hml3 hlsl3 rfl rfl rfl
theorem e15_4 : wp S d 15 4 [a0, a1, a2, a3, a4] (.int x :: st) h Q = if x = 0 then wp S d 15 19 [a0, a1, a2, a3, a4] st h Q else wp S d 15 7 [a0, a1, a2, a3, a4] st h Q := wp_eq hc15 dX0_setEntry_4 rfl
theorem e15_7 : wp S d 15 7 [a0, a1, some (.int x), a3, a4] st h Q = wp S d 15 8 [a0, a1, some (.int x), a3, a4] (.int x :: st) h Q := wp_p hc15 dX0_setEntry_7 rfl
theorem e15_8 : wp S (d + 1) 15 8 [a0, a1, a2, a3, a4] (.int x1 :: st) h Q = (am_w8 st ∧ wp S d 16 0 [some (.int x1)] [] h (am_kr S 0 (d + 1) 15 8 [a0, a1, a2, a3, a4] st Q)) := wp_cS [.int x1] hc15 dX0_setEntry_8 ho15 cl0_120 (by decide) ns0_120 hst16 hnp16 hml16 hlsl16 rfl rfl rfl
theorem e15_11 : wp S d 15 11 [a0, a1, a2, a3, a4] (.int x :: st) h Q = if x = 0 then wp S d 15 19 [a0, a1, a2, a3, a4] st h Q else wp S d 15 14 [a0, a1, a2, a3, a4] st h Q := wp_eq hc15 dX0_setEntry_11 rfl
theorem e15_14 : wp S d 15 14 [a0, a1, a2, a3, some (.int x)] st h Q = wp S d 15 16 [a0, a1, a2, a3, some (.int x)] (.int x :: st) h Q := wp_p hc15 dX0_setEntry_14 rfl
theorem e15_16 : wp S d 15 16 [a0, a1, a2, a3, a4] (.int x :: st) h Q = if x = 0 then wp S d 15 19 [a0, a1, a2, a3, a4] st h Q else wp S d 15 26 [a0, a1, a2, a3, a4] st h Q := wp_ne hc15 dX0_setEntry_16 rfl
theorem e15_19 : wp S d 15 19 [some (.ref r), a1, a2, a3, a4] st h Q = wp S d 15 20 [some (.ref r), a1, a2, a3, a4] (.ref r :: st) h Q := wp_p hc15 dX0_setEntry_19 rfl
theorem e15_20 : wp S d 15 20 [a0, a1, a2, a3, a4] st h Q = wp S d 15 22 [a0, a1, a2, a3, a4] (.int ((-2)) :: st) h Q := wp_p hc15 dX0_setEntry_20 rfl
theorem e15_22 : wp S (d + 1) 15 22 [a0, a1, a2, a3, a4] (.int x1 :: .ref r0 :: st) h Q = (am_w8 st ∧ am_rcv h 2 5 (.ref r0) = true ∧ wp S d 5 0 [some (.ref r0), some (.int x1)] [] h (am_kr S 2 (d + 1) 15 22 [a0, a1, a2, a3, a4] st Q)) := wp_cV (.ref r0) [.int x1] hc15 dX0_setEntry_22 ho15 cl0_59 (by decide) ns0_59 hst5 hnp5 hml5 hlsl5 rfl rfl rfl
theorem e15_25 : wp S d 15 25 ls [.int x] h Q = Q (.inl (some (.int x)), h) := wp_r hc15 dX0_setEntry_25 rfl rfl ⟨x, _, rfl, rfl, rfl, rfl⟩
theorem e15_26 : wp S d 15 26 [some (.ref r), a1, a2, a3, a4] st h Q = wp S d 15 27 [some (.ref r), a1, a2, a3, a4] (.ref r :: st) h Q := wp_p hc15 dX0_setEntry_26 rfl
theorem e15_27 : wp S d 15 27 [a0, a1, a2, a3, a4] (.ref r :: st) h Q = am_gfK h r 0 0 (fun w => wp S d 15 30 [a0, a1, a2, a3, a4] (w :: st) h Q) := wp_gf hc15 dX0_setEntry_27 ho15 fl0_10
theorem e15_30 : wp S d 15 30 [a0, a1, a2, a3, a4] (.ref r :: st) h Q = am_gfK h r 1 5 (fun w => wp S d 15 33 [a0, a1, a2, a3, a4] (w :: st) h Q) := wp_gf hc15 dX0_setEntry_30 ho15 fl0_99
theorem e15_33 : wp S d 15 33 [a0, some (.int x), a2, a3, a4] st h Q = wp S d 15 34 [a0, some (.int x), a2, a3, a4] (.int x :: st) h Q := wp_p hc15 dX0_setEntry_33 rfl
theorem e15_34 : wp S d 15 34 [a0, a1, a2, a3, a4] (.int x :: .ref r :: st) h Q = am_aaK h r x (fun w => wp S d 15 35 [a0, a1, a2, a3, a4] (w :: st) h Q) := wp_aa hc15 dX0_setEntry_34
theorem e15_35 : wp S d 15 35 [a0, a1, a2, a3, a4] (.ref r :: st) h Q = wp S d 15 45 [a0, a1, a2, a3, a4] st h Q := wp_p hc15 dX0_setEntry_35 rfl
theorem e15_35n : wp S d 15 35 [a0, a1, a2, a3, a4] (.null :: st) h Q = wp S d 15 38 [a0, a1, a2, a3, a4] st h Q := wp_p hc15 dX0_setEntry_35 rfl
theorem e15_35k (hr : r < 10) : wp S d 15 35 [a0, a1, a2, a3, a4] (.retAddr r :: st) h Q = wp S d 15 45 [a0, a1, a2, a3, a4] st h Q := wp_p hc15 dX0_setEntry_35 (if_pos hr)
theorem e15_38 : wp S d 15 38 [some (.ref r), a1, a2, a3, a4] st h Q = wp S d 15 39 [some (.ref r), a1, a2, a3, a4] (.ref r :: st) h Q := wp_p hc15 dX0_setEntry_38 rfl
theorem e15_39 : wp S d 15 39 [a0, a1, a2, a3, a4] st h Q = wp S d 15 41 [a0, a1, a2, a3, a4] (.int ((-3)) :: st) h Q := wp_p hc15 dX0_setEntry_39 rfl
theorem e15_41 : wp S (d + 1) 15 41 [a0, a1, a2, a3, a4] (.int x1 :: .ref r0 :: st) h Q = (am_w8 st ∧ am_rcv h 2 5 (.ref r0) = true ∧ wp S d 5 0 [some (.ref r0), some (.int x1)] [] h (am_kr S 2 (d + 1) 15 41 [a0, a1, a2, a3, a4] st Q)) := wp_cV (.ref r0) [.int x1] hc15 dX0_setEntry_41 ho15 cl0_59 (by decide) ns0_59 hst5 hnp5 hml5 hlsl5 rfl rfl rfl
theorem e15_44 : wp S d 15 44 ls [.int x] h Q = Q (.inl (some (.int x)), h) := wp_r hc15 dX0_setEntry_44 rfl rfl ⟨x, _, rfl, rfl, rfl, rfl⟩
theorem e15_45 : wp S d 15 45 [some (.ref r), a1, a2, a3, a4] st h Q = wp S d 15 46 [some (.ref r), a1, a2, a3, a4] (.ref r :: st) h Q := wp_p hc15 dX0_setEntry_45 rfl
theorem e15_46 : wp S (d + 1) 15 46 [a0, a1, a2, a3, a4] (.ref r0 :: st) h Q = (am_w8 st ∧ am_rcv h 2 6 (.ref r0) = true ∧ wp S d 6 0 [some (.ref r0), none] [] h (am_kr S 2 (d + 1) 15 46 [a0, a1, a2, a3, a4] st Q)) := wp_cV (.ref r0) [] hc15 dX0_setEntry_46 ho15 cl0_63 (by decide) ns0_63 hst6 hnp6 hml6 hlsl6 rfl rfl rfl
theorem e15_49 : wp S d 15 49 [some (.ref r), a1, a2, a3, a4] st h Q = wp S d 15 50 [some (.ref r), a1, a2, a3, a4] (.ref r :: st) h Q := wp_p hc15 dX0_setEntry_49 rfl
theorem e15_50 : wp S d 15 50 [a0, a1, a2, a3, a4] (.ref r :: st) h Q = am_gfK h r 0 0 (fun w => wp S d 15 53 [a0, a1, a2, a3, a4] (w :: st) h Q) := wp_gf hc15 dX0_setEntry_50 ho15 fl0_10
theorem e15_53 : wp S d 15 53 [a0, a1, a2, a3, a4] (.ref r :: st) h Q = am_gfK h r 1 5 (fun w => wp S d 15 56 [a0, a1, a2, a3, a4] (w :: st) h Q) := wp_gf hc15 dX0_setEntry_53 ho15 fl0_99
theorem e15_56 : wp S d 15 56 [a0, some (.int x), a2, a3, a4] st h Q = wp S d 15 57 [a0, some (.int x), a2, a3, a4] (.int x :: st) h Q := wp_p hc15 dX0_setEntry_56 rfl
theorem e15_57 : wp S d 15 57 [some (.ref r), a1, a2, a3, a4] st h Q = wp S d 15 58 [some (.ref r), a1, a2, a3, a4] (.ref r :: st) h Q := wp_p hc15 dX0_setEntry_57 rfl
theorem e15_58 : wp S d 15 58 [a0, a1, a2, a3, a4] (.ref r :: st) h Q = am_gfK h r 0 0 (fun w => wp S d 15 61 [a0, a1, a2, a3, a4] (w :: st) h Q) := wp_gf hc15 dX0_setEntry_58 ho15 fl0_10
theorem e15_61 : wp S d 15 61 [a0, a1, a2, a3, a4] (.ref r :: st) h Q = am_gfK h r 1 5 (fun w => wp S d 15 64 [a0, a1, a2, a3, a4] (w :: st) h Q) := wp_gf hc15 dX0_setEntry_61 ho15 fl0_99
theorem e15_64 : wp S d 15 64 [a0, some (.int x), a2, a3, a4] st h Q = wp S d 15 65 [a0, some (.int x), a2, a3, a4] (.int x :: st) h Q := wp_p hc15 dX0_setEntry_64 rfl
theorem e15_65 : wp S d 15 65 [a0, a1, a2, a3, a4] (.int x :: .ref r :: st) h Q = am_aaK h r x (fun w => wp S d 15 66 [a0, a1, a2, a3, a4] (w :: st) h Q) := wp_aa hc15 dX0_setEntry_65
theorem e15_66 : wp S d 15 66 [a0, a1, some (.int x), a3, a4] st h Q = wp S d 15 67 [a0, a1, some (.int x), a3, a4] (.int x :: st) h Q := wp_p hc15 dX0_setEntry_66 rfl
theorem e15_67 : wp S d 15 67 [a0, a1, a2, some (.int x), a4] st h Q = wp S d 15 68 [a0, a1, a2, some (.int x), a4] (.int x :: st) h Q := wp_p hc15 dX0_setEntry_67 rfl
theorem e15_68 : wp S (d + 1) 15 68 [a0, a1, a2, a3, a4] (.int x2 :: .int x1 :: .ref r0 :: st) h Q = (am_w8 st ∧ am_rcv h 2 128 (.ref r0) = true ∧ wp S d 128 0 [some (.ref r0), some (.int x1), some (.int x2), none] [] h (am_kr S 2 (d + 1) 15 68 [a0, a1, a2, a3, a4] st Q)) := wp_cV (.ref r0) [.int x1, .int x2] hc15 dX0_setEntry_68 ho15 cl0_123 (by decide) ns0_123 hst128 hnp128 hml128 hlsl128 rfl rfl rfl
theorem e15_71 : wp S d 15 71 [a0, a1, a2, a3, a4] (w :: .int x :: .ref r :: st) h Q = am_asK h r x w (fun h => wp S d 15 72 [a0, a1, a2, a3, a4] st h Q) := wp_as hc15 dX0_setEntry_71
theorem e15_72 : wp S d 15 72 [some (.ref r), a1, a2, a3, a4] st h Q = wp S d 15 73 [some (.ref r), a1, a2, a3, a4] (.ref r :: st) h Q := wp_p hc15 dX0_setEntry_72 rfl
theorem e15_73 : wp S d 15 73 [a0, some (.int x), a2, a3, a4] st h Q = wp S d 15 74 [a0, some (.int x), a2, a3, a4] (.int x :: st) h Q := wp_p hc15 dX0_setEntry_73 rfl
theorem e15_74 : wp S (d + 1) 15 74 [a0, a1, a2, a3, a4] (.int x1 :: .ref r0 :: st) h Q = (am_w8 st ∧ am_rcv h 2 12 (.ref r0) = true ∧ wp S d 12 0 [some (.ref r0), some (.int x1)] [] h (am_kr S 2 (d + 1) 15 74 [a0, a1, a2, a3, a4] st Q)) := wp_cV (.ref r0) [.int x1] hc15 dX0_setEntry_74 ho15 cl0_114 (by decide) ns0_114 hst12 hnp12 hml12 hlsl12 rfl rfl rfl
theorem e15_77 : wp S d 15 77 ls [.int x] h Q = Q (.inl (some (.int x)), h) := wp_r hc15 dX0_setEntry_77 rfl rfl ⟨x, _, rfl, rfl, rfl, rfl⟩
theorem e16_0 : wp S d 16 0 [some (.int x)] st h Q = wp S d 16 1 [some (.int x)] (.int x :: st) h Q := wp_p hc16 dX0_isPosition_0 rfl
theorem e16_1 : wp S d 16 1 [a0] st h Q = wp S d 16 2 [a0] (.int (nI 0) :: st) h Q := wp_p hc16 dX0_isPosition_1 rfl
theorem e16_2 : wp S d 16 2 [a0] st h Q = wp S d 16 3 [a0] (.int (nI 3) :: st) h Q := wp_p hc16 dX0_isPosition_2 rfl
theorem e16_3 : wp S (d + 1) 16 3 [a0] (.int x3 :: .int x2 :: .int x1 :: st) h Q = (am_w8 st ∧ wp S d 4 0 [some (.int x1), some (.int x2), some (.int x3)] [] h (am_kr S 0 (d + 1) 16 3 [a0] st Q)) := wp_cS [.int x1, .int x2, .int x3] hc16 dX0_isPosition_3 ho16 cl0_51 (by decide) ns0_51 hst4 hnp4 hml4 hlsl4 rfl rfl rfl
theorem e16_6 : wp S d 16 6 ls [.int x] h Q = (narrow .boolean (.int x) = .int x ∧ Q (.inl (some (.int x)), h)) := wp_rI hc16 dX0_isPosition_6 rfl
theorem e17_0 : wp S d 17 0 [some (.ref r), a1, a2, a3] st h Q = wp S d 17 1 [some (.ref r), a1, a2, a3] (.ref r :: st) h Q := wp_p hc17 dX0_setConstant_0 rfl
theorem e17_1 : wp S d 17 1 [a0, some (.int x), a2, a3] st h Q = wp S d 17 2 [a0, some (.int x), a2, a3] (.int x :: st) h Q := wp_p hc17 dX0_setConstant_1 rfl
theorem e17_2 : wp S d 17 2 [a0, a1, some (.int x), a3] st h Q = wp S d 17 3 [a0, a1, some (.int x), a3] (.int x :: st) h Q := wp_p hc17 dX0_setConstant_2 rfl
theorem e17_3 : wp S d 17 3 [a0, a1, a2, some (.int x)] st h Q = wp S d 17 4 [a0, a1, a2, some (.int x)] (.int x :: st) h Q := wp_p hc17 dX0_setConstant_3 rfl
theorem e17_4 : wp S d 17 4 [a0, a1, a2, some (.int x)] st h Q = wp S d 17 5 [a0, a1, a2, some (.int x)] (.int x :: st) h Q := wp_p hc17 dX0_setConstant_4 rfl
theorem e17_5 : wp S d 17 5 [a0, a1, a2, a3] st h Q = wp S d 17 6 [a0, a1, a2, a3] (.int (nI 0) :: st) h Q := wp_p hc17 dX0_setConstant_5 rfl
theorem e17_6 : wp S d 17 6 [a0, a1, a2, a3] st h Q = wp S d 17 8 [a0, a1, a2, a3] (.int (nI 99) :: st) h Q := wp_p hc17 dX0_setConstant_6 rfl
theorem e17_8 : wp S (d + 1) 17 8 [a0, a1, a2, a3] (.int x3 :: .int x2 :: .int x1 :: st) h Q = (am_w8 st ∧ wp S d 4 0 [some (.int x1), some (.int x2), some (.int x3)] [] h (am_kr S 0 (d + 1) 17 8 [a0, a1, a2, a3] st Q)) := wp_cS [.int x1, .int x2, .int x3] hc17 dX0_setConstant_8 ho17 cl0_51 (by decide) ns0_51 hst4 hnp4 hml4 hlsl4 rfl rfl rfl
theorem e17_11 : wp S (d + 1) 17 11 [a0, a1, a2, a3] (.int x4 :: .int x3 :: .int x2 :: .int x1 :: .ref r0 :: st) h Q = (am_w8 st ∧ am_rcv h 2 15 (.ref r0) = true ∧ wp S d 15 0 [some (.ref r0), some (.int x1), some (.int x2), some (.int x3), some (.int x4)] [] h (am_kr S 2 (d + 1) 17 11 [a0, a1, a2, a3] st Q)) := wp_cV (.ref r0) [.int x1, .int x2, .int x3, .int x4] hc17 dX0_setConstant_11 ho17 cl0_127 (by decide) ns0_127 hst15 hnp15 hml15 hlsl15 rfl rfl rfl
theorem e17_14 : wp S d 17 14 ls [.int x] h Q = Q (.inl (some (.int x)), h) := wp_r hc17 dX0_setConstant_14 rfl rfl ⟨x, _, rfl, rfl, rfl, rfl⟩
theorem e18_0 : wp S d 18 0 [a0, some (.int x)] st h Q = wp S d 18 1 [a0, some (.int x)] (.int x :: st) h Q := wp_p hc18 dX0_isFaithful_0 rfl
theorem e18_1 : wp S (d + 1) 18 1 [a0, a1] (.int x1 :: st) h Q = (am_w8 st ∧ wp S d 3 0 [some (.int x1)] [] h (am_kr S 0 (d + 1) 18 1 [a0, a1] st Q)) := wp_cS [.int x1] hc18 dX0_isFaithful_1 ho18 cl0_55 (by decide) ns0_55 hst3 hnp3 hml3 hlsl3 rfl rfl rfl
theorem e18_4 : wp S d 18 4 [a0, a1] (.int x :: st) h Q = if x = 0 then wp S d 18 7 [a0, a1] st h Q else wp S d 18 14 [a0, a1] st h Q := wp_ne hc18 dX0_isFaithful_4 rfl
theorem e18_7 : wp S d 18 7 [some (.ref r), a1] st h Q = wp S d 18 8 [some (.ref r), a1] (.ref r :: st) h Q := wp_p hc18 dX0_isFaithful_7 rfl
theorem e18_8 : wp S d 18 8 [a0, a1] st h Q = wp S d 18 10 [a0, a1] (.int ((-2)) :: st) h Q := wp_p hc18 dX0_isFaithful_8 rfl
theorem e18_10 : wp S (d + 1) 18 10 [a0, a1] (.int x1 :: .ref r0 :: st) h Q = (am_w8 st ∧ am_rcv h 2 5 (.ref r0) = true ∧ wp S d 5 0 [some (.ref r0), some (.int x1)] [] h (am_kr S 2 (d + 1) 18 10 [a0, a1] st Q)) := wp_cV (.ref r0) [.int x1] hc18 dX0_isFaithful_10 ho18 cl0_59 (by decide) ns0_59 hst5 hnp5 hml5 hlsl5 rfl rfl rfl
theorem e18_13 : wp S d 18 13 ls [.int x] h Q = Q (.inl (some (.int x)), h) := wp_r hc18 dX0_isFaithful_13 rfl rfl ⟨x, _, rfl, rfl, rfl, rfl⟩
theorem e18_14 : wp S d 18 14 [some (.ref r), a1] st h Q = wp S d 18 15 [some (.ref r), a1] (.ref r :: st) h Q := wp_p hc18 dX0_isFaithful_14 rfl
theorem e18_15 : wp S d 18 15 [a0, a1] (.ref r :: st) h Q = am_gfK h r 0 0 (fun w => wp S d 18 18 [a0, a1] (w :: st) h Q) := wp_gf hc18 dX0_isFaithful_15 ho18 fl0_10
theorem e18_18 : wp S d 18 18 [a0, a1] (.ref r :: st) h Q = am_gfK h r 1 5 (fun w => wp S d 18 21 [a0, a1] (w :: st) h Q) := wp_gf hc18 dX0_isFaithful_18 ho18 fl0_99
theorem e18_21 : wp S d 18 21 [a0, some (.int x)] st h Q = wp S d 18 22 [a0, some (.int x)] (.int x :: st) h Q := wp_p hc18 dX0_isFaithful_21 rfl
theorem e18_22 : wp S d 18 22 [a0, a1] (.int x :: .ref r :: st) h Q = am_aaK h r x (fun w => wp S d 18 23 [a0, a1] (w :: st) h Q) := wp_aa hc18 dX0_isFaithful_22
theorem e18_23 : wp S d 18 23 [a0, a1] (.ref r :: st) h Q = wp S d 18 35 [a0, a1] st h Q := wp_p hc18 dX0_isFaithful_23 rfl
theorem e18_23n : wp S d 18 23 [a0, a1] (.null :: st) h Q = wp S d 18 26 [a0, a1] st h Q := wp_p hc18 dX0_isFaithful_23 rfl
theorem e18_23k (hr : r < 10) : wp S d 18 23 [a0, a1] (.retAddr r :: st) h Q = wp S d 18 35 [a0, a1] st h Q := wp_p hc18 dX0_isFaithful_23 (if_pos hr)
theorem e18_26 : wp S d 18 26 [some (.ref r), a1] st h Q = wp S d 18 27 [some (.ref r), a1] (.ref r :: st) h Q := wp_p hc18 dX0_isFaithful_26 rfl
theorem e18_27 : wp S d 18 27 [a0, a1] st h Q = wp S d 18 29 [a0, a1] (.int ((-3)) :: st) h Q := wp_p hc18 dX0_isFaithful_27 rfl
theorem e18_29 : wp S (d + 1) 18 29 [a0, a1] (.int x1 :: .ref r0 :: st) h Q = (am_w8 st ∧ am_rcv h 2 5 (.ref r0) = true ∧ wp S d 5 0 [some (.ref r0), some (.int x1)] [] h (am_kr S 2 (d + 1) 18 29 [a0, a1] st Q)) := wp_cV (.ref r0) [.int x1] hc18 dX0_isFaithful_29 ho18 cl0_59 (by decide) ns0_59 hst5 hnp5 hml5 hlsl5 rfl rfl rfl
theorem e18_32 : wp S d 18 32 [a0, a1] st h Q = wp S d 18 40 [a0, a1] st h Q := wp_p hc18 dX0_isFaithful_32 rfl
theorem e18_35 : wp S d 18 35 [some (.ref r), a1] st h Q = wp S d 18 36 [some (.ref r), a1] (.ref r :: st) h Q := wp_p hc18 dX0_isFaithful_35 rfl
theorem e18_36 : wp S d 18 36 [a0, some (.int x)] st h Q = wp S d 18 37 [a0, some (.int x)] (.int x :: st) h Q := wp_p hc18 dX0_isFaithful_36 rfl
theorem e18_37 : wp S (d + 1) 18 37 [a0, a1] (.int x1 :: .ref r0 :: st) h Q = (am_w8 st ∧ am_rcv h 2 12 (.ref r0) = true ∧ wp S d 12 0 [some (.ref r0), some (.int x1)] [] h (am_kr S 2 (d + 1) 18 37 [a0, a1] st Q)) := wp_cV (.ref r0) [.int x1] hc18 dX0_isFaithful_37 ho18 cl0_114 (by decide) ns0_114 hst12 hnp12 hml12 hlsl12 rfl rfl rfl
theorem e18_40 : wp S d 18 40 ls [.int x] h Q = Q (.inl (some (.int x)), h) := wp_r hc18 dX0_isFaithful_40 rfl rfl ⟨x, _, rfl, rfl, rfl, rfl⟩
theorem e19_0 : wp S d 19 0 [a0, some (.int x), a2] st h Q = wp S d 19 1 [a0, some (.int x), a2] (.int x :: st) h Q := wp_p hc19 dX0_allowAdapters_0 rfl
theorem e19_1 : wp S d 19 1 [a0, a1, a2] st h Q = wp S d 19 2 [a0, a1, a2] (.int (nI 0) :: st) h Q := wp_p hc19 dX0_allowAdapters_1 rfl
theorem e19_2 : wp S d 19 2 [a0, a1, a2] st h Q = wp S d 19 3 [a0, a1, a2] (.int (nI 1) :: st) h Q := wp_p hc19 dX0_allowAdapters_2 rfl
theorem e19_3 : wp S (d + 1) 19 3 [a0, a1, a2] (.int x3 :: .int x2 :: .int x1 :: st) h Q = (am_w8 st ∧ wp S d 4 0 [some (.int x1), some (.int x2), some (.int x3)] [] h (am_kr S 0 (d + 1) 19 3 [a0, a1, a2] st Q)) := wp_cS [.int x1, .int x2, .int x3] hc19 dX0_allowAdapters_3 ho19 cl0_51 (by decide) ns0_51 hst4 hnp4 hml4 hlsl4 rfl rfl rfl
theorem e19_6 : wp S d 19 6 [a0, a1, a2] (.int x :: st) h Q = if x = 0 then wp S d 19 9 [a0, a1, a2] st h Q else wp S d 19 16 [a0, a1, a2] st h Q := wp_ne hc19 dX0_allowAdapters_6 rfl
theorem e19_9 : wp S d 19 9 [some (.ref r), a1, a2] st h Q = wp S d 19 10 [some (.ref r), a1, a2] (.ref r :: st) h Q := wp_p hc19 dX0_allowAdapters_9 rfl
theorem e19_10 : wp S d 19 10 [a0, a1, a2] st h Q = wp S d 19 12 [a0, a1, a2] (.int ((-2)) :: st) h Q := wp_p hc19 dX0_allowAdapters_10 rfl
theorem e19_12 : wp S (d + 1) 19 12 [a0, a1, a2] (.int x1 :: .ref r0 :: st) h Q = (am_w8 st ∧ am_rcv h 2 5 (.ref r0) = true ∧ wp S d 5 0 [some (.ref r0), some (.int x1)] [] h (am_kr S 2 (d + 1) 19 12 [a0, a1, a2] st Q)) := wp_cV (.ref r0) [.int x1] hc19 dX0_allowAdapters_12 ho19 cl0_59 (by decide) ns0_59 hst5 hnp5 hml5 hlsl5 rfl rfl rfl
theorem e19_15 : wp S d 19 15 ls [.int x] h Q = Q (.inl (some (.int x)), h) := wp_r hc19 dX0_allowAdapters_15 rfl rfl ⟨x, _, rfl, rfl, rfl, rfl⟩
theorem e19_16 : wp S d 19 16 [some (.ref r), a1, a2] st h Q = wp S d 19 17 [some (.ref r), a1, a2] (.ref r :: st) h Q := wp_p hc19 dX0_allowAdapters_16 rfl
theorem e19_17 : wp S (d + 1) 19 17 [a0, a1, a2] (.ref r0 :: st) h Q = (am_w8 st ∧ am_rcv h 2 6 (.ref r0) = true ∧ wp S d 6 0 [some (.ref r0), none] [] h (am_kr S 2 (d + 1) 19 17 [a0, a1, a2] st Q)) := wp_cV (.ref r0) [] hc19 dX0_allowAdapters_17 ho19 cl0_63 (by decide) ns0_63 hst6 hnp6 hml6 hlsl6 rfl rfl rfl
theorem e19_20 : wp S d 19 20 [some (.ref r), a1, a2] st h Q = wp S d 19 21 [some (.ref r), a1, a2] (.ref r :: st) h Q := wp_p hc19 dX0_allowAdapters_20 rfl
theorem e19_21 : wp S d 19 21 [a0, a1, a2] (.ref r :: st) h Q = am_gfK h r 0 0 (fun w => wp S d 19 24 [a0, a1, a2] (w :: st) h Q) := wp_gf hc19 dX0_allowAdapters_21 ho19 fl0_10
theorem e19_24 : wp S d 19 24 [a0, a1, a2] (.ref r :: st) h Q = am_gfK h r 1 6 (fun w => wp S d 19 27 [a0, a1, a2] (w :: st) h Q) := wp_gf hc19 dX0_allowAdapters_24 ho19 fl0_131
theorem e19_27 : wp S d 19 27 [a0, a1, a2] (.int x :: st) h Q = wp S d 19 28 [a0, a1, some (.int x)] st h Q := wp_p hc19 dX0_allowAdapters_27 rfl
theorem e19_28 : wp S d 19 28 [some (.ref r), a1, a2] st h Q = wp S d 19 29 [some (.ref r), a1, a2] (.ref r :: st) h Q := wp_p hc19 dX0_allowAdapters_28 rfl
theorem e19_29 : wp S d 19 29 [a0, a1, a2] (.ref r :: st) h Q = am_gfK h r 0 0 (fun w => wp S d 19 32 [a0, a1, a2] (w :: st) h Q) := wp_gf hc19 dX0_allowAdapters_29 ho19 fl0_10
theorem e19_32 : wp S d 19 32 [a0, some (.int x), a2] st h Q = wp S d 19 33 [a0, some (.int x), a2] (.int x :: st) h Q := wp_p hc19 dX0_allowAdapters_32 rfl
theorem e19_33 : wp S d 19 33 [a0, a1, a2] (w :: .ref r :: st) h Q = am_pfK 19 h r 1 6 true w (fun h => wp S d 19 36 [a0, a1, a2] st h Q) := wp_pf hc19 dX0_allowAdapters_33 ho19 fl0_131
theorem e19_36 : wp S d 19 36 [a0, a1, some (.int x)] st h Q = wp S d 19 37 [a0, a1, some (.int x)] (.int x :: st) h Q := wp_p hc19 dX0_allowAdapters_36 rfl
theorem e19_37 : wp S d 19 37 ls [.int x] h Q = Q (.inl (some (.int x)), h) := wp_r hc19 dX0_allowAdapters_37 rfl rfl ⟨x, _, rfl, rfl, rfl, rfl⟩
theorem e20_0 : wp S d 20 0 [a0, some (.int x)] st h Q = wp S d 20 1 [a0, some (.int x)] (.int x :: st) h Q := wp_p hc20 dX0_adapterOf_0 rfl
theorem e20_1 : wp S (d + 1) 20 1 [a0, a1] (.int x1 :: st) h Q = (am_w8 st ∧ wp S d 3 0 [some (.int x1)] [] h (am_kr S 0 (d + 1) 20 1 [a0, a1] st Q)) := wp_cS [.int x1] hc20 dX0_adapterOf_1 ho20 cl0_55 (by decide) ns0_55 hst3 hnp3 hml3 hlsl3 rfl rfl rfl
theorem e20_4 : wp S d 20 4 [a0, a1] (.int x :: st) h Q = if x = 0 then wp S d 20 7 [a0, a1] st h Q else wp S d 20 14 [a0, a1] st h Q := wp_ne hc20 dX0_adapterOf_4 rfl
theorem e20_7 : wp S d 20 7 [some (.ref r), a1] st h Q = wp S d 20 8 [some (.ref r), a1] (.ref r :: st) h Q := wp_p hc20 dX0_adapterOf_7 rfl
theorem e20_8 : wp S d 20 8 [a0, a1] st h Q = wp S d 20 10 [a0, a1] (.int ((-2)) :: st) h Q := wp_p hc20 dX0_adapterOf_8 rfl
theorem e20_10 : wp S (d + 1) 20 10 [a0, a1] (.int x1 :: .ref r0 :: st) h Q = (am_w8 st ∧ am_rcv h 2 5 (.ref r0) = true ∧ wp S d 5 0 [some (.ref r0), some (.int x1)] [] h (am_kr S 2 (d + 1) 20 10 [a0, a1] st Q)) := wp_cV (.ref r0) [.int x1] hc20 dX0_adapterOf_10 ho20 cl0_59 (by decide) ns0_59 hst5 hnp5 hml5 hlsl5 rfl rfl rfl
theorem e20_13 : wp S d 20 13 ls [.int x] h Q = Q (.inl (some (.int x)), h) := wp_r hc20 dX0_adapterOf_13 rfl rfl ⟨x, _, rfl, rfl, rfl, rfl⟩
theorem e20_14 : wp S d 20 14 [some (.ref r), a1] st h Q = wp S d 20 15 [some (.ref r), a1] (.ref r :: st) h Q := wp_p hc20 dX0_adapterOf_14 rfl
theorem e20_15 : wp S d 20 15 [a0, a1] (.ref r :: st) h Q = am_gfK h r 0 0 (fun w => wp S d 20 18 [a0, a1] (w :: st) h Q) := wp_gf hc20 dX0_adapterOf_15 ho20 fl0_10
theorem e20_18 : wp S d 20 18 [a0, a1] (.ref r :: st) h Q = am_gfK h r 1 4 (fun w => wp S d 20 21 [a0, a1] (w :: st) h Q) := wp_gf hc20 dX0_adapterOf_18 ho20 fl0_134
theorem e20_21 : wp S d 20 21 [a0, some (.int x)] st h Q = wp S d 20 22 [a0, some (.int x)] (.int x :: st) h Q := wp_p hc20 dX0_adapterOf_21 rfl
theorem e20_22 : wp S d 20 22 [a0, a1] (.int x :: .ref r :: st) h Q = am_iaK h r x (fun z => wp S d 20 23 [a0, a1] (.int z :: st) h Q) := wp_ia hc20 dX0_adapterOf_22
theorem e20_23 : wp S d 20 23 [a0, a1] st h Q = wp S d 20 24 [a0, a1] (.int ((-1)) :: st) h Q := wp_p hc20 dX0_adapterOf_23 rfl
theorem e20_24 : wp S d 20 24 [a0, a1] (.int y :: .int x :: st) h Q = if x = y then wp S d 20 27 [a0, a1] st h Q else wp S d 20 36 [a0, a1] st h Q := wp_ne hc20 dX0_adapterOf_24 rfl
theorem e20_27 : wp S d 20 27 [some (.ref r), a1] st h Q = wp S d 20 28 [some (.ref r), a1] (.ref r :: st) h Q := wp_p hc20 dX0_adapterOf_27 rfl
theorem e20_28 : wp S d 20 28 [a0, a1] st h Q = wp S d 20 30 [a0, a1] (.int ((-3)) :: st) h Q := wp_p hc20 dX0_adapterOf_28 rfl
theorem e20_30 : wp S (d + 1) 20 30 [a0, a1] (.int x1 :: .ref r0 :: st) h Q = (am_w8 st ∧ am_rcv h 2 5 (.ref r0) = true ∧ wp S d 5 0 [some (.ref r0), some (.int x1)] [] h (am_kr S 2 (d + 1) 20 30 [a0, a1] st Q)) := wp_cV (.ref r0) [.int x1] hc20 dX0_adapterOf_30 ho20 cl0_59 (by decide) ns0_59 hst5 hnp5 hml5 hlsl5 rfl rfl rfl
theorem e20_33 : wp S d 20 33 [a0, a1] st h Q = wp S d 20 45 [a0, a1] st h Q := wp_p hc20 dX0_adapterOf_33 rfl
theorem e20_36 : wp S d 20 36 [some (.ref r), a1] st h Q = wp S d 20 37 [some (.ref r), a1] (.ref r :: st) h Q := wp_p hc20 dX0_adapterOf_36 rfl
theorem e20_37 : wp S d 20 37 [a0, a1] (.ref r :: st) h Q = am_gfK h r 0 0 (fun w => wp S d 20 40 [a0, a1] (w :: st) h Q) := wp_gf hc20 dX0_adapterOf_37 ho20 fl0_10
theorem e20_40 : wp S d 20 40 [a0, a1] (.ref r :: st) h Q = am_gfK h r 1 4 (fun w => wp S d 20 43 [a0, a1] (w :: st) h Q) := wp_gf hc20 dX0_adapterOf_40 ho20 fl0_134
theorem e20_43 : wp S d 20 43 [a0, some (.int x)] st h Q = wp S d 20 44 [a0, some (.int x)] (.int x :: st) h Q := wp_p hc20 dX0_adapterOf_43 rfl
theorem e20_44 : wp S d 20 44 [a0, a1] (.int x :: .ref r :: st) h Q = am_iaK h r x (fun z => wp S d 20 45 [a0, a1] (.int z :: st) h Q) := wp_ia hc20 dX0_adapterOf_44
theorem e20_45 : wp S d 20 45 ls [.int x] h Q = Q (.inl (some (.int x)), h) := wp_r hc20 dX0_adapterOf_45 rfl rfl ⟨x, _, rfl, rfl, rfl, rfl⟩
theorem e21_0 : wp S d 21 0 [a0, some (.int x)] st h Q = wp S d 21 1 [a0, some (.int x)] (.int x :: st) h Q := wp_p hc21 dX0_append_0 rfl
theorem e21_1 : wp S d 21 1 [a0, a1] st h Q = wp S d 21 2 [a0, a1] (.int (nI 0) :: st) h Q := wp_p hc21 dX0_append_1 rfl
theorem e21_2 : wp S d 21 2 [a0, a1] st h Q = wp S d 21 4 [a0, a1] (.int (nI 127) :: st) h Q := wp_p hc21 dX0_append_2 rfl
theorem e21_4 : wp S (d + 1) 21 4 [a0, a1] (.int x3 :: .int x2 :: .int x1 :: st) h Q = (am_w8 st ∧ wp S d 4 0 [some (.int x1), some (.int x2), some (.int x3)] [] h (am_kr S 0 (d + 1) 21 4 [a0, a1] st Q)) := wp_cS [.int x1, .int x2, .int x3] hc21 dX0_append_4 ho21 cl0_51 (by decide) ns0_51 hst4 hnp4 hml4 hlsl4 rfl rfl rfl
theorem e21_7 : wp S d 21 7 [a0, a1] (.int x :: st) h Q = if x = 0 then wp S d 21 10 [a0, a1] st h Q else wp S d 21 17 [a0, a1] st h Q := wp_ne hc21 dX0_append_7 rfl
theorem e21_10 : wp S d 21 10 [some (.ref r), a1] st h Q = wp S d 21 11 [some (.ref r), a1] (.ref r :: st) h Q := wp_p hc21 dX0_append_10 rfl
theorem e21_11 : wp S d 21 11 [a0, a1] st h Q = wp S d 21 13 [a0, a1] (.int ((-2)) :: st) h Q := wp_p hc21 dX0_append_11 rfl
theorem e21_13 : wp S (d + 1) 21 13 [a0, a1] (.int x1 :: .ref r0 :: st) h Q = (am_w8 st ∧ am_rcv h 2 5 (.ref r0) = true ∧ wp S d 5 0 [some (.ref r0), some (.int x1)] [] h (am_kr S 2 (d + 1) 21 13 [a0, a1] st Q)) := wp_cV (.ref r0) [.int x1] hc21 dX0_append_13 ho21 cl0_59 (by decide) ns0_59 hst5 hnp5 hml5 hlsl5 rfl rfl rfl
theorem e21_16 : wp S d 21 16 ls [.int x] h Q = Q (.inl (some (.int x)), h) := wp_r hc21 dX0_append_16 rfl rfl ⟨x, _, rfl, rfl, rfl, rfl⟩
theorem e21_17 : wp S d 21 17 [some (.ref r), a1] st h Q = wp S d 21 18 [some (.ref r), a1] (.ref r :: st) h Q := wp_p hc21 dX0_append_17 rfl
theorem e21_18 : wp S d 21 18 [a0, a1] (.ref r :: st) h Q = am_gfK h r 0 4 (fun w => wp S d 21 21 [a0, a1] (w :: st) h Q) := wp_gf hc21 dX0_append_18 ho21 fl0_137
theorem e21_21 : wp S d 21 21 [a0, a1] st h Q = wp S d 21 23 [a0, a1] (.int (nI 120) :: st) h Q := wp_p hc21 dX0_append_21 rfl
theorem e21_23 : wp S d 21 23 [a0, a1] (.int y :: .int x :: st) h Q = if x = y then wp S d 21 26 [a0, a1] st h Q else wp S d 21 33 [a0, a1] st h Q := wp_ne hc21 dX0_append_23 rfl
theorem e21_26 : wp S d 21 26 [some (.ref r), a1] st h Q = wp S d 21 27 [some (.ref r), a1] (.ref r :: st) h Q := wp_p hc21 dX0_append_26 rfl
theorem e21_27 : wp S d 21 27 [a0, a1] st h Q = wp S d 21 29 [a0, a1] (.int ((-4)) :: st) h Q := wp_p hc21 dX0_append_27 rfl
theorem e21_29 : wp S (d + 1) 21 29 [a0, a1] (.int x1 :: .ref r0 :: st) h Q = (am_w8 st ∧ am_rcv h 2 5 (.ref r0) = true ∧ wp S d 5 0 [some (.ref r0), some (.int x1)] [] h (am_kr S 2 (d + 1) 21 29 [a0, a1] st Q)) := wp_cV (.ref r0) [.int x1] hc21 dX0_append_29 ho21 cl0_59 (by decide) ns0_59 hst5 hnp5 hml5 hlsl5 rfl rfl rfl
theorem e21_32 : wp S d 21 32 ls [.int x] h Q = Q (.inl (some (.int x)), h) := wp_r hc21 dX0_append_32 rfl rfl ⟨x, _, rfl, rfl, rfl, rfl⟩
theorem e21_33 : wp S d 21 33 [some (.ref r), a1] st h Q = wp S d 21 34 [some (.ref r), a1] (.ref r :: st) h Q := wp_p hc21 dX0_append_33 rfl
theorem e21_34 : wp S d 21 34 [a0, a1] (.ref r :: st) h Q = am_gfK h r 0 3 (fun w => wp S d 21 37 [a0, a1] (w :: st) h Q) := wp_gf hc21 dX0_append_34 ho21 fl0_20
theorem e21_37 : wp S d 21 37 [some (.ref r), a1] st h Q = wp S d 21 38 [some (.ref r), a1] (.ref r :: st) h Q := wp_p hc21 dX0_append_37 rfl
theorem e21_38 : wp S d 21 38 [a0, a1] (.ref r :: st) h Q = am_gfK h r 0 4 (fun w => wp S d 21 41 [a0, a1] (w :: st) h Q) := wp_gf hc21 dX0_append_38 ho21 fl0_137
theorem e21_41 : wp S d 21 41 [a0, some (.int x)] st h Q = wp S d 21 42 [a0, some (.int x)] (.int x :: st) h Q := wp_p hc21 dX0_append_41 rfl
theorem e21_42 : wp S d 21 42 [a0, a1] (.int x :: st) h Q = wp S d 21 43 [a0, a1] (.int x.toInt8.toInt32 :: st) h Q := wp_p hc21 dX0_append_42 rfl
theorem e21_43 : wp S d 21 43 [a0, a1] (.int y :: .int x :: .ref r :: st) h Q = am_bsK h r x y (fun h => wp S d 21 44 [a0, a1] st h Q) := wp_bs hc21 dX0_append_43
theorem e21_44 : wp S d 21 44 [some (.ref r), a1] st h Q = wp S d 21 45 [some (.ref r), a1] (.ref r :: st) h Q := wp_p hc21 dX0_append_44 rfl
theorem e21_45 : wp S d 21 45 [a0, a1] (.ref r :: st) h Q = wp S d 21 46 [a0, a1] (.ref r :: .ref r :: st) h Q := wp_p hc21 dX0_append_45 rfl
theorem e21_45i : wp S d 21 45 [a0, a1] (.int x :: st) h Q = wp S d 21 46 [a0, a1] (.int x :: .int x :: st) h Q := wp_p hc21 dX0_append_45 rfl
theorem e21_46 : wp S d 21 46 [a0, a1] (.ref r :: st) h Q = am_gfK h r 0 4 (fun w => wp S d 21 49 [a0, a1] (w :: st) h Q) := wp_gf hc21 dX0_append_46 ho21 fl0_137
theorem e21_49 : wp S d 21 49 [a0, a1] st h Q = wp S d 21 50 [a0, a1] (.int (nI 1) :: st) h Q := wp_p hc21 dX0_append_49 rfl
theorem e21_50 : wp S d 21 50 [a0, a1] (.int y :: .int x :: st) h Q = wp S d 21 51 [a0, a1] (.int (x + y) :: st) h Q := wp_p hc21 dX0_append_50 rfl
theorem e21_51 : wp S d 21 51 [a0, a1] (w :: .ref r :: st) h Q = am_pfK 21 h r 0 4 false w (fun h => wp S d 21 54 [a0, a1] st h Q) := wp_pf hc21 dX0_append_51 ho21 fl0_137
theorem e21_54 : wp S d 21 54 [some (.ref r), a1] st h Q = wp S d 21 55 [some (.ref r), a1] (.ref r :: st) h Q := wp_p hc21 dX0_append_54 rfl
theorem e21_55 : wp S d 21 55 [a0, a1] (.ref r :: st) h Q = am_gfK h r 0 4 (fun w => wp S d 21 58 [a0, a1] (w :: st) h Q) := wp_gf hc21 dX0_append_55 ho21 fl0_137
theorem e21_58 : wp S d 21 58 ls [.int x] h Q = Q (.inl (some (.int x)), h) := wp_r hc21 dX0_append_58 rfl rfl ⟨x, _, rfl, rfl, rfl, rfl⟩
theorem e22_0 : wp S d 22 0 [some (.ref r), a1] st h Q = wp S d 22 1 [some (.ref r), a1] (.ref r :: st) h Q := wp_p hc22 dX0_clearText_0 rfl
theorem e22_1 : wp S d 22 1 [a0, a1] (.ref r :: st) h Q = am_gfK h r 0 4 (fun w => wp S d 22 4 [a0, a1] (w :: st) h Q) := wp_gf hc22 dX0_clearText_1 ho22 fl0_137
theorem e22_4 : wp S d 22 4 [a0, a1] (.int x :: st) h Q = wp S d 22 5 [a0, some (.int x)] st h Q := wp_p hc22 dX0_clearText_4 rfl
theorem e22_5 : wp S d 22 5 [some (.ref r), a1] st h Q = wp S d 22 6 [some (.ref r), a1] (.ref r :: st) h Q := wp_p hc22 dX0_clearText_5 rfl
theorem e22_6 : wp S d 22 6 [a0, a1] st h Q = wp S d 22 7 [a0, a1] (.int (nI 0) :: st) h Q := wp_p hc22 dX0_clearText_6 rfl
theorem e22_7 : wp S d 22 7 [a0, a1] (w :: .ref r :: st) h Q = am_pfK 22 h r 0 4 false w (fun h => wp S d 22 10 [a0, a1] st h Q) := wp_pf hc22 dX0_clearText_7 ho22 fl0_137
theorem e22_10 : wp S d 22 10 [a0, some (.int x)] st h Q = wp S d 22 11 [a0, some (.int x)] (.int x :: st) h Q := wp_p hc22 dX0_clearText_10 rfl
theorem e22_11 : wp S d 22 11 ls [.int x] h Q = Q (.inl (some (.int x)), h) := wp_r hc22 dX0_clearText_11 rfl rfl ⟨x, _, rfl, rfl, rfl, rfl⟩
theorem e23_0 : wp S d 23 0 [some (.ref r), a1] st h Q = wp S d 23 1 [some (.ref r), a1] (.ref r :: st) h Q := wp_p hc23 dX0_parse_0 rfl
theorem e23_1 : wp S d 23 1 [a0, a1] (.ref r :: st) h Q = am_gfK h r 0 6 (fun w => wp S d 23 4 [a0, a1] (w :: st) h Q) := wp_gf hc23 dX0_parse_1 ho23 fl0_33
theorem e23_4 : wp S (d + 1) 23 4 [a0, a1] (.ref r0 :: st) h Q = (am_w8 st ∧ am_rcv h 2 51 (.ref r0) = true ∧ wp S d 51 0 [some (.ref r0), none] [] h (am_kr S 2 (d + 1) 23 4 [a0, a1] st Q)) := wp_cV (.ref r0) [] hc23 dX0_parse_4 ho23 cl0_140 (by decide) ns0_140 hst51 hnp51 hml51 hlsl51 rfl rfl rfl
theorem e23_7 : wp S d 23 7 [a0, a1] (.ref r :: st) h Q = wp S d 23 8 [a0, some (.ref r)] st h Q := wp_p hc23 dX0_parse_7 rfl
theorem e23_8 : wp S d 23 8 [some (.ref r), a1] st h Q = wp S d 23 9 [some (.ref r), a1] (.ref r :: st) h Q := wp_p hc23 dX0_parse_8 rfl
theorem e23_9 : wp S (d + 1) 23 9 [a0, a1] (.ref r0 :: st) h Q = (am_w8 st ∧ am_rcv h 2 6 (.ref r0) = true ∧ wp S d 6 0 [some (.ref r0), none] [] h (am_kr S 2 (d + 1) 23 9 [a0, a1] st Q)) := wp_cV (.ref r0) [] hc23 dX0_parse_9 ho23 cl0_63 (by decide) ns0_63 hst6 hnp6 hml6 hlsl6 rfl rfl rfl
theorem e23_12 : wp S d 23 12 [some (.ref r), a1] st h Q = wp S d 23 13 [some (.ref r), a1] (.ref r :: st) h Q := wp_p hc23 dX0_parse_12 rfl
theorem e23_13 : wp S d 23 13 [a0, a1] (.ref r :: st) h Q = am_gfK h r 0 0 (fun w => wp S d 23 16 [a0, a1] (w :: st) h Q) := wp_gf hc23 dX0_parse_13 ho23 fl0_10
theorem e23_16 : wp S d 23 16 [a0, some (.ref r)] st h Q = wp S d 23 17 [a0, some (.ref r)] (.ref r :: st) h Q := wp_p hc23 dX0_parse_16 rfl
theorem e23_17 : wp S d 23 17 [a0, a1] (w :: .ref r :: st) h Q = am_pfK 23 h r 1 7 true w (fun h => wp S d 23 20 [a0, a1] st h Q) := wp_pf hc23 dX0_parse_17 ho23 fl0_144
theorem e23_20 : wp S d 23 20 [a0, some (.ref r)] st h Q = wp S d 23 21 [a0, some (.ref r)] (.ref r :: st) h Q := wp_p hc23 dX0_parse_20 rfl
theorem e23_21 : wp S d 23 21 [a0, a1] (.ref r :: st) h Q = am_gfK h r 2 3 (fun w => wp S d 23 24 [a0, a1] (w :: st) h Q) := wp_gf hc23 dX0_parse_21 ho23 fl0_148
theorem e23_24 : wp S d 23 24 ls [.int x] h Q = Q (.inl (some (.int x)), h) := wp_r hc23 dX0_parse_24 rfl rfl ⟨x, _, rfl, rfl, rfl, rfl⟩
theorem e23_25 : wp S d 23 25 [a0, a1] (.ref r :: st) h Q = wp S d 23 26 [a0, some (.ref r)] st h Q := wp_p hc23 dX0_parse_25 rfl
theorem e23_26 : wp S d 23 26 [a0, a1] st h Q = wp S d 23 28 [a0, a1] (.int ((-10)) :: st) h Q := wp_p hc23 dX0_parse_26 rfl
theorem e23_28 : wp S d 23 28 [a0, some (.ref r)] st h Q = wp S d 23 29 [a0, some (.ref r)] (.ref r :: st) h Q := wp_p hc23 dX0_parse_28 rfl
theorem e23_29 : wp S d 23 29 [a0, a1] (.ref r :: st) h Q = am_gfK h r 7 6 (fun w => wp S d 23 32 [a0, a1] (w :: st) h Q) := wp_gf hc23 dX0_parse_29 ho23 fl0_155
theorem e23_32 : wp S d 23 32 [a0, a1] (.int y :: .int x :: st) h Q = wp S d 23 33 [a0, a1] (.int (x - y) :: st) h Q := wp_p hc23 dX0_parse_32 rfl
theorem e23_33 : wp S d 23 33 ls [.int x] h Q = Q (.inl (some (.int x)), h) := wp_r hc23 dX0_parse_33 rfl rfl ⟨x, _, rfl, rfl, rfl, rfl⟩
theorem e24_0 : wp S d 24 0 [some (.ref r), a1] st h Q = wp S d 24 1 [some (.ref r), a1] (.ref r :: st) h Q := wp_p hc24 dX0_migrate_0 rfl
theorem e24_1 : wp S (d + 1) 24 1 [a0, a1] (.ref r0 :: st) h Q = (am_w8 st ∧ am_rcv h 2 6 (.ref r0) = true ∧ wp S d 6 0 [some (.ref r0), none] [] h (am_kr S 2 (d + 1) 24 1 [a0, a1] st Q)) := wp_cV (.ref r0) [] hc24 dX0_migrate_1 ho24 cl0_63 (by decide) ns0_63 hst6 hnp6 hml6 hlsl6 rfl rfl rfl
theorem e24_4 : wp S d 24 4 [some (.ref r), a1] st h Q = wp S d 24 5 [some (.ref r), a1] (.ref r :: st) h Q := wp_p hc24 dX0_migrate_4 rfl
theorem e24_5 : wp S d 24 5 [a0, a1] (.ref r :: st) h Q = am_gfK h r 0 0 (fun w => wp S d 24 8 [a0, a1] (w :: st) h Q) := wp_gf hc24 dX0_migrate_5 ho24 fl0_10
theorem e24_8 : wp S d 24 8 [a0, a1] (.ref r :: st) h Q = am_gfK h r 1 8 (fun w => wp S d 24 11 [a0, a1] (w :: st) h Q) := wp_gf hc24 dX0_migrate_8 ho24 fl0_158
theorem e24_11 : wp S d 24 11 [a0, a1] st h Q = wp S d 24 12 [a0, a1] (.int (nI 0) :: st) h Q := wp_p hc24 dX0_migrate_11 rfl
theorem e24_12 : wp S (d + 1) 24 12 [a0, a1] (.int x2 :: .ref r1 :: st) h Q = (am_w8 st ∧ wp S d 138 0 [some (.ref r1), some (.int x2), none, none] [] h (am_kr S 0 (d + 1) 24 12 [a0, a1] st Q)) := wp_cS [.ref r1, .int x2] hc24 dX0_migrate_12 ho24 cl0_161 (by decide) ns0_161 hst138 hnp138 hml138 hlsl138 rfl rfl rfl
theorem e24_15 : wp S d 24 15 [a0, a1] st h Q = wp S d 24 18 [a0, a1] (.ref h.length :: st) (h ++ [.inr (.inr (8, am_dft 8))]) Q := wp_nw hc24 dX0_migrate_15 ho24 nw0_167
theorem e24_18 : wp S d 24 18 [a0, a1] (.ref r :: st) h Q = wp S d 24 19 [a0, a1] (.ref r :: .ref r :: st) h Q := wp_p hc24 dX0_migrate_18 rfl
theorem e24_18i : wp S d 24 18 [a0, a1] (.int x :: st) h Q = wp S d 24 19 [a0, a1] (.int x :: .int x :: st) h Q := wp_p hc24 dX0_migrate_18 rfl
theorem e24_19 : wp S d 24 19 [some (.ref r), a1] st h Q = wp S d 24 20 [some (.ref r), a1] (.ref r :: st) h Q := wp_p hc24 dX0_migrate_19 rfl
theorem e24_20 : wp S (d + 1) 24 20 [a0, a1] (.ref r1 :: .ref r0 :: st) h Q = (am_w8 st ∧ am_rcv h 5 130 (.ref r0) = true ∧ wp S d 130 0 [some (.ref r0), some (.ref r1)] [] h (am_kr S 5 (d + 1) 24 20 [a0, a1] st Q)) := wp_cI (.ref r0) [.ref r1] hc24 dX0_migrate_20 ho24 cl0_169 (by decide) ns0_169 hst130 hnp130 hml130 hlsl130 rfl rfl rfl
theorem e24_23 : wp S d 24 23 [a0, a1] (.ref r :: st) h Q = wp S d 24 24 [a0, some (.ref r)] st h Q := wp_p hc24 dX0_migrate_23 rfl
theorem e24_24 : wp S d 24 24 [some (.ref r), a1] st h Q = wp S d 24 25 [some (.ref r), a1] (.ref r :: st) h Q := wp_p hc24 dX0_migrate_24 rfl
theorem e24_25 : wp S d 24 25 [a0, a1] (.ref r :: st) h Q = am_gfK h r 0 0 (fun w => wp S d 24 28 [a0, a1] (w :: st) h Q) := wp_gf hc24 dX0_migrate_25 ho24 fl0_10
theorem e24_28 : wp S d 24 28 [a0, some (.ref r)] st h Q = wp S d 24 29 [a0, some (.ref r)] (.ref r :: st) h Q := wp_p hc24 dX0_migrate_28 rfl
theorem e24_29 : wp S d 24 29 [some (.ref r), a1] st h Q = wp S d 24 30 [some (.ref r), a1] (.ref r :: st) h Q := wp_p hc24 dX0_migrate_29 rfl
theorem e24_30 : wp S d 24 30 [a0, a1] (.ref r :: st) h Q = am_gfK h r 0 0 (fun w => wp S d 24 33 [a0, a1] (w :: st) h Q) := wp_gf hc24 dX0_migrate_30 ho24 fl0_10
theorem e24_33 : wp S d 24 33 [a0, a1] (.ref r :: st) h Q = am_gfK h r 1 7 (fun w => wp S d 24 36 [a0, a1] (w :: st) h Q) := wp_gf hc24 dX0_migrate_33 ho24 fl0_144
theorem e24_36 : wp S (d + 1) 24 36 [a0, a1] (.ref r1 :: .ref r0 :: st) h Q = (am_w8 st ∧ am_rcv h 2 131 (.ref r0) = true ∧ wp S d 131 0 [some (.ref r0), some (.ref r1), none, none] [] h (am_kr S 2 (d + 1) 24 36 [a0, a1] st Q)) := wp_cV (.ref r0) [.ref r1] hc24 dX0_migrate_36 ho24 cl0_170 (by decide) ns0_170 hst131 hnp131 hml131 hlsl131 rfl rfl rfl
theorem e24_39 : wp S d 24 39 [a0, a1] (w :: .ref r :: st) h Q = am_pfK 24 h r 1 7 true w (fun h => wp S d 24 42 [a0, a1] st h Q) := wp_pf hc24 dX0_migrate_39 ho24 fl0_144
theorem e24_42 : wp S d 24 42 [a0, some (.ref r)] st h Q = wp S d 24 43 [a0, some (.ref r)] (.ref r :: st) h Q := wp_p hc24 dX0_migrate_42 rfl
theorem e24_43 : wp S d 24 43 [a0, a1] (.ref r :: st) h Q = am_gfK h r 8 1 (fun w => wp S d 24 46 [a0, a1] (w :: st) h Q) := wp_gf hc24 dX0_migrate_43 ho24 fl0_174
theorem e24_46 : wp S d 24 46 ls [.int x] h Q = Q (.inl (some (.int x)), h) := wp_r hc24 dX0_migrate_46 rfl rfl ⟨x, _, rfl, rfl, rfl, rfl⟩
theorem e25_0 : wp S d 25 0 [a0, some (.int x)] st h Q = wp S d 25 1 [a0, some (.int x)] (.int x :: st) h Q := wp_p hc25 dX0_left_0 rfl
theorem e25_1 : wp S d 25 1 [a0, a1] st h Q = wp S d 25 2 [a0, a1] (.int (nI 1) :: st) h Q := wp_p hc25 dX0_left_1 rfl
theorem e25_2 : wp S d 25 2 [a0, a1] st h Q = wp S d 25 4 [a0, a1] (.int (nI 7) :: st) h Q := wp_p hc25 dX0_left_2 rfl
theorem e25_4 : wp S (d + 1) 25 4 [a0, a1] (.int x3 :: .int x2 :: .int x1 :: st) h Q = (am_w8 st ∧ wp S d 4 0 [some (.int x1), some (.int x2), some (.int x3)] [] h (am_kr S 0 (d + 1) 25 4 [a0, a1] st Q)) := wp_cS [.int x1, .int x2, .int x3] hc25 dX0_left_4 ho25 cl0_51 (by decide) ns0_51 hst4 hnp4 hml4 hlsl4 rfl rfl rfl
theorem e25_7 : wp S d 25 7 [a0, a1] (.int x :: st) h Q = if x = 0 then wp S d 25 22 [a0, a1] st h Q else wp S d 25 10 [a0, a1] st h Q := wp_eq hc25 dX0_left_7 rfl
theorem e25_10 : wp S d 25 10 [some (.ref r), a1] st h Q = wp S d 25 11 [some (.ref r), a1] (.ref r :: st) h Q := wp_p hc25 dX0_left_10 rfl
theorem e25_11 : wp S d 25 11 [a0, a1] (.ref r :: st) h Q = am_gfK h r 0 0 (fun w => wp S d 25 14 [a0, a1] (w :: st) h Q) := wp_gf hc25 dX0_left_11 ho25 fl0_10
theorem e25_14 : wp S d 25 14 [a0, a1] (.ref r :: st) h Q = am_gfK h r 1 8 (fun w => wp S d 25 17 [a0, a1] (w :: st) h Q) := wp_gf hc25 dX0_left_14 ho25 fl0_158
theorem e25_17 : wp S d 25 17 [a0, some (.int x)] st h Q = wp S d 25 18 [a0, some (.int x)] (.int x :: st) h Q := wp_p hc25 dX0_left_17 rfl
theorem e25_18 : wp S d 25 18 [a0, a1] (.int x :: .ref r :: st) h Q = am_iaK h r x (fun z => wp S d 25 19 [a0, a1] (.int z :: st) h Q) := wp_ia hc25 dX0_left_18
theorem e25_19 : wp S d 25 19 [a0, a1] st h Q = wp S d 25 28 [a0, a1] st h Q := wp_p hc25 dX0_left_19 rfl
theorem e25_22 : wp S d 25 22 [some (.ref r), a1] st h Q = wp S d 25 23 [some (.ref r), a1] (.ref r :: st) h Q := wp_p hc25 dX0_left_22 rfl
theorem e25_23 : wp S d 25 23 [a0, a1] st h Q = wp S d 25 25 [a0, a1] (.int ((-2)) :: st) h Q := wp_p hc25 dX0_left_23 rfl
theorem e25_25 : wp S (d + 1) 25 25 [a0, a1] (.int x1 :: .ref r0 :: st) h Q = (am_w8 st ∧ am_rcv h 2 5 (.ref r0) = true ∧ wp S d 5 0 [some (.ref r0), some (.int x1)] [] h (am_kr S 2 (d + 1) 25 25 [a0, a1] st Q)) := wp_cV (.ref r0) [.int x1] hc25 dX0_left_25 ho25 cl0_59 (by decide) ns0_59 hst5 hnp5 hml5 hlsl5 rfl rfl rfl
theorem e25_28 : wp S d 25 28 ls [.int x] h Q = Q (.inl (some (.int x)), h) := wp_r hc25 dX0_left_28 rfl rfl ⟨x, _, rfl, rfl, rfl, rfl⟩
theorem e26_0 : wp S d 26 0 [some (.ref r)] st h Q = wp S d 26 1 [some (.ref r)] (.ref r :: st) h Q := wp_p hc26 dX0_sites_0 rfl
theorem e26_1 : wp S d 26 1 [a0] (.ref r :: st) h Q = am_gfK h r 0 0 (fun w => wp S d 26 4 [a0] (w :: st) h Q) := wp_gf hc26 dX0_sites_1 ho26 fl0_10
theorem e26_4 : wp S d 26 4 [a0] (.ref r :: st) h Q = am_gfK h r 1 7 (fun w => wp S d 26 7 [a0] (w :: st) h Q) := wp_gf hc26 dX0_sites_4 ho26 fl0_144
theorem e26_7 : wp S (d + 1) 26 7 [a0] (.ref r0 :: st) h Q = (am_w8 st ∧ am_rcv h 2 43 (.ref r0) = true ∧ wp S d 43 0 [some (.ref r0), none, none, none, none, none] [] h (am_kr S 2 (d + 1) 26 7 [a0] st Q)) := wp_cV (.ref r0) [] hc26 dX0_sites_7 ho26 cl0_177 (by decide) ns0_177 hst43 hnp43 hml43 hlsl43 rfl rfl rfl
theorem e26_10 : wp S d 26 10 ls [.int x] h Q = Q (.inl (some (.int x)), h) := wp_r hc26 dX0_sites_10 rfl rfl ⟨x, _, rfl, rfl, rfl, rfl⟩
theorem e27_0 : wp S d 27 0 [some (.ref r)] st h Q = wp S d 27 1 [some (.ref r)] (.ref r :: st) h Q := wp_p hc27 dX0_nodes_0 rfl
theorem e27_1 : wp S d 27 1 [a0] (.ref r :: st) h Q = am_gfK h r 0 0 (fun w => wp S d 27 4 [a0] (w :: st) h Q) := wp_gf hc27 dX0_nodes_1 ho27 fl0_10
theorem e27_4 : wp S d 27 4 [a0] (.ref r :: st) h Q = am_gfK h r 1 7 (fun w => wp S d 27 7 [a0] (w :: st) h Q) := wp_gf hc27 dX0_nodes_4 ho27 fl0_144
theorem e27_7 : wp S d 27 7 [a0] (.ref r :: st) h Q = am_gfK h r 2 3 (fun w => wp S d 27 10 [a0] (w :: st) h Q) := wp_gf hc27 dX0_nodes_7 ho27 fl0_148
theorem e27_10 : wp S d 27 10 ls [.int x] h Q = Q (.inl (some (.int x)), h) := wp_r hc27 dX0_nodes_10 rfl rfl ⟨x, _, rfl, rfl, rfl, rfl⟩
theorem e28_0 : wp S d 28 0 [a0, some (.int x), a2] st h Q = wp S d 28 1 [a0, some (.int x), a2] (.int x :: st) h Q := wp_p hc28 dX0_value_0 rfl
theorem e28_1 : wp S d 28 1 [a0, a1, a2] st h Q = wp S d 28 2 [a0, a1, a2] (.int (nI 0) :: st) h Q := wp_p hc28 dX0_value_1 rfl
theorem e28_2 : wp S d 28 2 [a0, a1, a2] st h Q = wp S d 28 5 [a0, a1, a2] (.int (nI 999) :: st) h Q := wp_p hc28 dX0_value_2 rfl
theorem e28_5 : wp S (d + 1) 28 5 [a0, a1, a2] (.int x3 :: .int x2 :: .int x1 :: st) h Q = (am_w8 st ∧ wp S d 4 0 [some (.int x1), some (.int x2), some (.int x3)] [] h (am_kr S 0 (d + 1) 28 5 [a0, a1, a2] st Q)) := wp_cS [.int x1, .int x2, .int x3] hc28 dX0_value_5 ho28 cl0_51 (by decide) ns0_51 hst4 hnp4 hml4 hlsl4 rfl rfl rfl
theorem e28_8 : wp S d 28 8 [a0, a1, a2] (.int x :: st) h Q = if x = 0 then wp S d 28 41 [a0, a1, a2] st h Q else wp S d 28 11 [a0, a1, a2] st h Q := wp_eq hc28 dX0_value_8 rfl
theorem e28_11 : wp S d 28 11 [a0, a1, some (.int x)] st h Q = wp S d 28 12 [a0, a1, some (.int x)] (.int x :: st) h Q := wp_p hc28 dX0_value_11 rfl
theorem e28_12 : wp S d 28 12 [a0, a1, a2] st h Q = wp S d 28 13 [a0, a1, a2] (.int (nI 0) :: st) h Q := wp_p hc28 dX0_value_12 rfl
theorem e28_13 : wp S d 28 13 [a0, a1, a2] st h Q = wp S d 28 16 [a0, a1, a2] (.int (nI 999) :: st) h Q := wp_p hc28 dX0_value_13 rfl
theorem e28_16 : wp S (d + 1) 28 16 [a0, a1, a2] (.int x3 :: .int x2 :: .int x1 :: st) h Q = (am_w8 st ∧ wp S d 4 0 [some (.int x1), some (.int x2), some (.int x3)] [] h (am_kr S 0 (d + 1) 28 16 [a0, a1, a2] st Q)) := wp_cS [.int x1, .int x2, .int x3] hc28 dX0_value_16 ho28 cl0_51 (by decide) ns0_51 hst4 hnp4 hml4 hlsl4 rfl rfl rfl
theorem e28_19 : wp S d 28 19 [a0, a1, a2] (.int x :: st) h Q = if x = 0 then wp S d 28 41 [a0, a1, a2] st h Q else wp S d 28 22 [a0, a1, a2] st h Q := wp_eq hc28 dX0_value_19 rfl
theorem e28_22 : wp S d 28 22 [some (.ref r), a1, a2] st h Q = wp S d 28 23 [some (.ref r), a1, a2] (.ref r :: st) h Q := wp_p hc28 dX0_value_22 rfl
theorem e28_23 : wp S d 28 23 [a0, a1, a2] (.ref r :: st) h Q = am_gfK h r 0 0 (fun w => wp S d 28 26 [a0, a1, a2] (w :: st) h Q) := wp_gf hc28 dX0_value_23 ho28 fl0_10
theorem e28_26 : wp S d 28 26 [some (.ref r), a1, a2] st h Q = wp S d 28 27 [some (.ref r), a1, a2] (.ref r :: st) h Q := wp_p hc28 dX0_value_26 rfl
theorem e28_27 : wp S d 28 27 [a0, a1, a2] (.ref r :: st) h Q = am_gfK h r 0 0 (fun w => wp S d 28 30 [a0, a1, a2] (w :: st) h Q) := wp_gf hc28 dX0_value_27 ho28 fl0_10
theorem e28_30 : wp S d 28 30 [a0, a1, a2] (.ref r :: st) h Q = am_gfK h r 1 7 (fun w => wp S d 28 33 [a0, a1, a2] (w :: st) h Q) := wp_gf hc28 dX0_value_30 ho28 fl0_144
theorem e28_33 : wp S d 28 33 [a0, some (.int x), a2] st h Q = wp S d 28 34 [a0, some (.int x), a2] (.int x :: st) h Q := wp_p hc28 dX0_value_33 rfl
theorem e28_34 : wp S d 28 34 [a0, a1, some (.int x)] st h Q = wp S d 28 35 [a0, a1, some (.int x)] (.int x :: st) h Q := wp_p hc28 dX0_value_34 rfl
theorem e28_35 : wp S (d + 1) 28 35 [a0, a1, a2] (.int x3 :: .int x2 :: .ref r1 :: .ref r0 :: st) h Q = (am_w8 st ∧ am_rcv h 2 41 (.ref r0) = true ∧ wp S d 41 0 [some (.ref r0), some (.ref r1), some (.int x2), some (.int x3), none, none, none] [] h (am_kr S 2 (d + 1) 28 35 [a0, a1, a2] st Q)) := wp_cV (.ref r0) [.ref r1, .int x2, .int x3] hc28 dX0_value_35 ho28 cl0_181 (by decide) ns0_181 hst41 hnp41 hml41 hlsl41 rfl rfl rfl
theorem e28_38 : wp S d 28 38 [a0, a1, a2] st h Q = wp S d 28 47 [a0, a1, a2] st h Q := wp_p hc28 dX0_value_38 rfl
theorem e28_41 : wp S d 28 41 [some (.ref r), a1, a2] st h Q = wp S d 28 42 [some (.ref r), a1, a2] (.ref r :: st) h Q := wp_p hc28 dX0_value_41 rfl
theorem e28_42 : wp S d 28 42 [a0, a1, a2] st h Q = wp S d 28 44 [a0, a1, a2] (.int ((-2)) :: st) h Q := wp_p hc28 dX0_value_42 rfl
theorem e28_44 : wp S (d + 1) 28 44 [a0, a1, a2] (.int x1 :: .ref r0 :: st) h Q = (am_w8 st ∧ am_rcv h 2 5 (.ref r0) = true ∧ wp S d 5 0 [some (.ref r0), some (.int x1)] [] h (am_kr S 2 (d + 1) 28 44 [a0, a1, a2] st Q)) := wp_cV (.ref r0) [.int x1] hc28 dX0_value_44 ho28 cl0_59 (by decide) ns0_59 hst5 hnp5 hml5 hlsl5 rfl rfl rfl
theorem e28_47 : wp S d 28 47 ls [.int x] h Q = Q (.inl (some (.int x)), h) := wp_r hc28 dX0_value_47 rfl rfl ⟨x, _, rfl, rfl, rfl, rfl⟩
theorem e29_0 : wp S d 29 0 [a0, some (.int x), a2] st h Q = wp S d 29 1 [a0, some (.int x), a2] (.int x :: st) h Q := wp_p hc29 dX0_textByte_0 rfl
theorem e29_1 : wp S d 29 1 [a0, a1, a2] st h Q = wp S d 29 2 [a0, a1, a2] (.int ((-1)) :: st) h Q := wp_p hc29 dX0_textByte_1 rfl
theorem e29_2 : wp S d 29 2 [a0, a1, a2] (.int y :: .int x :: st) h Q = if y ≤ x then wp S d 29 12 [a0, a1, a2] st h Q else wp S d 29 5 [a0, a1, a2] st h Q := wp_ge hc29 dX0_textByte_2 rfl
theorem e29_5 : wp S d 29 5 [some (.ref r), a1, a2] st h Q = wp S d 29 6 [some (.ref r), a1, a2] (.ref r :: st) h Q := wp_p hc29 dX0_textByte_5 rfl
theorem e29_6 : wp S d 29 6 [a0, a1, a2] st h Q = wp S d 29 8 [a0, a1, a2] (.int ((-2)) :: st) h Q := wp_p hc29 dX0_textByte_6 rfl
theorem e29_8 : wp S (d + 1) 29 8 [a0, a1, a2] (.int x1 :: .ref r0 :: st) h Q = (am_w8 st ∧ am_rcv h 2 5 (.ref r0) = true ∧ wp S d 5 0 [some (.ref r0), some (.int x1)] [] h (am_kr S 2 (d + 1) 29 8 [a0, a1, a2] st Q)) := wp_cV (.ref r0) [.int x1] hc29 dX0_textByte_8 ho29 cl0_59 (by decide) ns0_59 hst5 hnp5 hml5 hlsl5 rfl rfl rfl
theorem e29_11 : wp S d 29 11 ls [.int x] h Q = Q (.inl (some (.int x)), h) := wp_r hc29 dX0_textByte_11 rfl rfl ⟨x, _, rfl, rfl, rfl, rfl⟩
theorem e29_12 : wp S d 29 12 [some (.ref r), a1, a2] st h Q = wp S d 29 13 [some (.ref r), a1, a2] (.ref r :: st) h Q := wp_p hc29 dX0_textByte_12 rfl
theorem e29_13 : wp S (d + 1) 29 13 [a0, a1, a2] (.ref r0 :: st) h Q = (am_w8 st ∧ am_rcv h 2 30 (.ref r0) = true ∧ wp S d 30 0 [some (.ref r0), none] [] h (am_kr S 2 (d + 1) 29 13 [a0, a1, a2] st Q)) := wp_cV (.ref r0) [] hc29 dX0_textByte_13 ho29 cl0_192 (by decide) ns0_192 hst30 hnp30 hml30 hlsl30 rfl rfl rfl
theorem e29_16 : wp S d 29 16 [a0, a1, a2] (.ref r :: st) h Q = wp S d 29 17 [a0, a1, some (.ref r)] st h Q := wp_p hc29 dX0_textByte_16 rfl
theorem e29_17 : wp S d 29 17 [a0, some (.int x), a2] st h Q = wp S d 29 18 [a0, some (.int x), a2] (.int x :: st) h Q := wp_p hc29 dX0_textByte_17 rfl
theorem e29_18 : wp S d 29 18 [a0, a1, a2] st h Q = wp S d 29 19 [a0, a1, a2] (.int ((-1)) :: st) h Q := wp_p hc29 dX0_textByte_18 rfl
theorem e29_19 : wp S d 29 19 [a0, a1, a2] (.int y :: .int x :: st) h Q = if x = y then wp S d 29 22 [a0, a1, a2] st h Q else wp S d 29 29 [a0, a1, a2] st h Q := wp_ne hc29 dX0_textByte_19 rfl
theorem e29_22 : wp S d 29 22 [a0, a1, some (.ref r)] st h Q = wp S d 29 23 [a0, a1, some (.ref r)] (.ref r :: st) h Q := wp_p hc29 dX0_textByte_22 rfl
theorem e29_23 : wp S (d + 1) 29 23 [a0, a1, a2] (.ref r0 :: st) h Q = (am_w8 st ∧ am_rcv h 2 160 (.ref r0) = true ∧ wp S d 160 0 [some (.ref r0)] [] h (am_kr S 2 (d + 1) 29 23 [a0, a1, a2] st Q)) := wp_cV (.ref r0) [] hc29 dX0_textByte_23 ho29 cl0_196 (by decide) ns0_196 hst160 hnp160 hml160 hlsl160 rfl rfl rfl
theorem e29_26 : wp S d 29 26 [a0, a1, a2] st h Q = wp S d 29 46 [a0, a1, a2] st h Q := wp_p hc29 dX0_textByte_26 rfl
theorem e29_29 : wp S d 29 29 [a0, some (.int x), a2] st h Q = wp S d 29 30 [a0, some (.int x), a2] (.int x :: st) h Q := wp_p hc29 dX0_textByte_29 rfl
theorem e29_30 : wp S d 29 30 [a0, a1, some (.ref r)] st h Q = wp S d 29 31 [a0, a1, some (.ref r)] (.ref r :: st) h Q := wp_p hc29 dX0_textByte_30 rfl
theorem e29_31 : wp S (d + 1) 29 31 [a0, a1, a2] (.ref r0 :: st) h Q = (am_w8 st ∧ am_rcv h 2 160 (.ref r0) = true ∧ wp S d 160 0 [some (.ref r0)] [] h (am_kr S 2 (d + 1) 29 31 [a0, a1, a2] st Q)) := wp_cV (.ref r0) [] hc29 dX0_textByte_31 ho29 cl0_196 (by decide) ns0_196 hst160 hnp160 hml160 hlsl160 rfl rfl rfl
theorem e29_34 : wp S d 29 34 [a0, a1, a2] (.int y :: .int x :: st) h Q = if y ≤ x then wp S d 29 45 [a0, a1, a2] st h Q else wp S d 29 37 [a0, a1, a2] st h Q := wp_ge hc29 dX0_textByte_34 rfl
theorem e29_37 : wp S d 29 37 [a0, a1, some (.ref r)] st h Q = wp S d 29 38 [a0, a1, some (.ref r)] (.ref r :: st) h Q := wp_p hc29 dX0_textByte_37 rfl
theorem e29_38 : wp S d 29 38 [a0, some (.int x), a2] st h Q = wp S d 29 39 [a0, some (.int x), a2] (.int x :: st) h Q := wp_p hc29 dX0_textByte_38 rfl
theorem e29_39 : wp S (d + 1) 29 39 [a0, a1, a2] (.int x1 :: .ref r0 :: st) h Q = (am_w8 st ∧ am_rcv h 2 161 (.ref r0) = true ∧ wp S d 161 0 [some (.ref r0), some (.int x1)] [] h (am_kr S 2 (d + 1) 29 39 [a0, a1, a2] st Q)) := wp_cV (.ref r0) [.int x1] hc29 dX0_textByte_39 ho29 cl0_199 (by decide) ns0_199 hst161 hnp161 hml161 hlsl161 rfl rfl rfl
theorem e29_42 : wp S d 29 42 [a0, a1, a2] st h Q = wp S d 29 46 [a0, a1, a2] st h Q := wp_p hc29 dX0_textByte_42 rfl
theorem e29_45 : wp S d 29 45 [a0, a1, a2] st h Q = wp S d 29 46 [a0, a1, a2] (.int ((-1)) :: st) h Q := wp_p hc29 dX0_textByte_45 rfl
theorem e29_46 : wp S d 29 46 ls [.int x] h Q = Q (.inl (some (.int x)), h) := wp_r hc29 dX0_textByte_46 rfl rfl ⟨x, _, rfl, rfl, rfl, rfl⟩
theorem e30_0 : wp S d 30 0 [a0, a1] st h Q = wp S d 30 3 [a0, a1] (.ref h.length :: st) (h ++ [.inr (.inr (9, am_dft 9))]) Q := wp_nw hc30 dX0_programText_0 ho30 nw0_185
theorem e30_3 : wp S d 30 3 [a0, a1] (.ref r :: st) h Q = wp S d 30 4 [a0, a1] (.ref r :: .ref r :: st) h Q := wp_p hc30 dX0_programText_3 rfl
theorem e30_3i : wp S d 30 3 [a0, a1] (.int x :: st) h Q = wp S d 30 4 [a0, a1] (.int x :: .int x :: st) h Q := wp_p hc30 dX0_programText_3 rfl
theorem e30_4 : wp S (d + 1) 30 4 [a0, a1] (.ref r0 :: st) h Q = (am_w8 st ∧ am_rcv h 4 156 (.ref r0) = true ∧ wp S d 156 0 [some (.ref r0)] [] h (am_kr S 4 (d + 1) 30 4 [a0, a1] st Q)) := wp_cI (.ref r0) [] hc30 dX0_programText_4 ho30 cl0_187 (by decide) ns0_187 hst156 hnp156 hml156 hlsl156 rfl rfl rfl
theorem e30_7 : wp S d 30 7 [a0, a1] (.ref r :: st) h Q = wp S d 30 8 [a0, some (.ref r)] st h Q := wp_p hc30 dX0_programText_7 rfl
theorem e30_8 : wp S d 30 8 [some (.ref r), a1] st h Q = wp S d 30 9 [some (.ref r), a1] (.ref r :: st) h Q := wp_p hc30 dX0_programText_8 rfl
theorem e30_9 : wp S d 30 9 [a0, a1] (.ref r :: st) h Q = am_gfK h r 0 0 (fun w => wp S d 30 12 [a0, a1] (w :: st) h Q) := wp_gf hc30 dX0_programText_9 ho30 fl0_10
theorem e30_12 : wp S d 30 12 [a0, a1] (.ref r :: st) h Q = am_gfK h r 1 7 (fun w => wp S d 30 15 [a0, a1] (w :: st) h Q) := wp_gf hc30 dX0_programText_12 ho30 fl0_144
theorem e30_15 : wp S d 30 15 [a0, some (.ref r)] st h Q = wp S d 30 16 [a0, some (.ref r)] (.ref r :: st) h Q := wp_p hc30 dX0_programText_15 rfl
theorem e30_16 : wp S (d + 1) 30 16 [a0, a1] (.ref r1 :: .ref r0 :: st) h Q = (am_w8 st ∧ am_rcv h 2 44 (.ref r0) = true ∧ wp S d 44 0 [some (.ref r0), some (.ref r1), none] [] h (am_kr S 2 (d + 1) 30 16 [a0, a1] st Q)) := wp_cV (.ref r0) [.ref r1] hc30 dX0_programText_16 ho30 cl0_188 (by decide) ns0_188 hst44 hnp44 hml44 hlsl44 rfl rfl rfl
theorem e30_19 : wp S d 30 19 [a0, some (.ref r)] st h Q = wp S d 30 20 [a0, some (.ref r)] (.ref r :: st) h Q := wp_p hc30 dX0_programText_19 rfl
theorem e30_20 : wp S d 30 20 ls [.ref r] h Q = Q (.inl (some (.ref r)), h) := wp_r hc30 dX0_programText_20 rfl rfl ⟨_, rfl, Or.inr ⟨_, rfl⟩, ⟨_, rfl, Or.inl ⟨_, rfl⟩⟩, rfl⟩
theorem e31_0 : wp S d 31 0 [some (.ref r)] st h Q = wp S d 31 1 [some (.ref r)] (.ref r :: st) h Q := wp_p hc31 dX0_undo_0 rfl
theorem e31_1 : wp S d 31 1 [a0] (.ref r :: st) h Q = am_gfK h r 0 2 (fun w => wp S d 31 4 [a0] (w :: st) h Q) := wp_gf hc31 dX0_undo_1 ho31 fl0_37
theorem e31_4 : wp S d 31 4 [a0] (.int x :: st) h Q = if x = 0 then wp S d 31 7 [a0] st h Q else wp S d 31 14 [a0] st h Q := wp_ne hc31 dX0_undo_4 rfl
theorem e31_7 : wp S d 31 7 [some (.ref r)] st h Q = wp S d 31 8 [some (.ref r)] (.ref r :: st) h Q := wp_p hc31 dX0_undo_7 rfl
theorem e31_8 : wp S d 31 8 [a0] st h Q = wp S d 31 10 [a0] (.int ((-5)) :: st) h Q := wp_p hc31 dX0_undo_8 rfl
theorem e31_10 : wp S (d + 1) 31 10 [a0] (.int x1 :: .ref r0 :: st) h Q = (am_w8 st ∧ am_rcv h 2 5 (.ref r0) = true ∧ wp S d 5 0 [some (.ref r0), some (.int x1)] [] h (am_kr S 2 (d + 1) 31 10 [a0] st Q)) := wp_cV (.ref r0) [.int x1] hc31 dX0_undo_10 ho31 cl0_59 (by decide) ns0_59 hst5 hnp5 hml5 hlsl5 rfl rfl rfl
theorem e31_13 : wp S d 31 13 ls [.int x] h Q = Q (.inl (some (.int x)), h) := wp_r hc31 dX0_undo_13 rfl rfl ⟨x, _, rfl, rfl, rfl, rfl⟩
theorem e31_14 : wp S d 31 14 [some (.ref r)] st h Q = wp S d 31 15 [some (.ref r)] (.ref r :: st) h Q := wp_p hc31 dX0_undo_14 rfl
theorem e31_15 : wp S d 31 15 [a0] (.ref r :: st) h Q = wp S d 31 16 [a0] (.ref r :: .ref r :: st) h Q := wp_p hc31 dX0_undo_15 rfl
theorem e31_15i : wp S d 31 15 [a0] (.int x :: st) h Q = wp S d 31 16 [a0] (.int x :: .int x :: st) h Q := wp_p hc31 dX0_undo_15 rfl
theorem e31_16 : wp S d 31 16 [a0] (.ref r :: st) h Q = am_gfK h r 0 2 (fun w => wp S d 31 19 [a0] (w :: st) h Q) := wp_gf hc31 dX0_undo_16 ho31 fl0_37
theorem e31_19 : wp S d 31 19 [a0] st h Q = wp S d 31 20 [a0] (.int (nI 1) :: st) h Q := wp_p hc31 dX0_undo_19 rfl
theorem e31_20 : wp S d 31 20 [a0] (.int y :: .int x :: st) h Q = wp S d 31 21 [a0] (.int (x - y) :: st) h Q := wp_p hc31 dX0_undo_20 rfl
theorem e31_21 : wp S d 31 21 [a0] (w :: .ref r :: st) h Q = am_pfK 31 h r 0 2 false w (fun h => wp S d 31 24 [a0] st h Q) := wp_pf hc31 dX0_undo_21 ho31 fl0_37
theorem e31_24 : wp S d 31 24 [some (.ref r)] st h Q = wp S d 31 25 [some (.ref r)] (.ref r :: st) h Q := wp_p hc31 dX0_undo_24 rfl
theorem e31_25 : wp S d 31 25 [a0] (.ref r :: st) h Q = am_gfK h r 0 0 (fun w => wp S d 31 28 [a0] (w :: st) h Q) := wp_gf hc31 dX0_undo_25 ho31 fl0_10
theorem e31_28 : wp S d 31 28 [some (.ref r)] st h Q = wp S d 31 29 [some (.ref r)] (.ref r :: st) h Q := wp_p hc31 dX0_undo_28 rfl
theorem e31_29 : wp S d 31 29 [a0] (.ref r :: st) h Q = am_gfK h r 0 1 (fun w => wp S d 31 32 [a0] (w :: st) h Q) := wp_gf hc31 dX0_undo_29 ho31 fl0_16
theorem e31_32 : wp S d 31 32 [some (.ref r)] st h Q = wp S d 31 33 [some (.ref r)] (.ref r :: st) h Q := wp_p hc31 dX0_undo_32 rfl
theorem e31_33 : wp S d 31 33 [a0] (.ref r :: st) h Q = am_gfK h r 0 2 (fun w => wp S d 31 36 [a0] (w :: st) h Q) := wp_gf hc31 dX0_undo_33 ho31 fl0_37
theorem e31_36 : wp S d 31 36 [a0] (.int x :: .ref r :: st) h Q = am_aaK h r x (fun w => wp S d 31 37 [a0] (w :: st) h Q) := wp_aa hc31 dX0_undo_36
theorem e31_37 : wp S (d + 1) 31 37 [a0] (.ref r1 :: .ref r0 :: st) h Q = (am_w8 st ∧ am_rcv h 2 37 (.ref r0) = true ∧ wp S d 37 0 [some (.ref r0), some (.ref r1)] [] h (am_kr S 2 (d + 1) 31 37 [a0] st Q)) := wp_cV (.ref r0) [.ref r1] hc31 dX0_undo_37 ho31 cl0_47 (by decide) ns0_47 hst37 hnp37 hml37 hlsl37 rfl rfl rfl
theorem e31_40 : wp S d 31 40 [some (.ref r)] st h Q = wp S d 31 41 [some (.ref r)] (.ref r :: st) h Q := wp_p hc31 dX0_undo_40 rfl
theorem e31_41 : wp S d 31 41 [a0] (.ref r :: st) h Q = am_gfK h r 0 2 (fun w => wp S d 31 44 [a0] (w :: st) h Q) := wp_gf hc31 dX0_undo_41 ho31 fl0_37
theorem e31_44 : wp S d 31 44 ls [.int x] h Q = Q (.inl (some (.int x)), h) := wp_r hc31 dX0_undo_44 rfl rfl ⟨x, _, rfl, rfl, rfl, rfl⟩
theorem e32_0 : wp S d 32 0 [a0, some (.int x)] st h Q = wp S d 32 1 [a0, some (.int x)] (.int x :: st) h Q := wp_p hc32 dX0_errorCount_0 rfl
theorem e32_1 : wp S d 32 1 [a0, a1] st h Q = wp S d 32 3 [a0, a1] (.int ((-5)) :: st) h Q := wp_p hc32 dX0_errorCount_1 rfl
theorem e32_3 : wp S d 32 3 [a0, a1] st h Q = wp S d 32 5 [a0, a1] (.int ((-2)) :: st) h Q := wp_p hc32 dX0_errorCount_3 rfl
theorem e32_5 : wp S (d + 1) 32 5 [a0, a1] (.int x3 :: .int x2 :: .int x1 :: st) h Q = (am_w8 st ∧ wp S d 4 0 [some (.int x1), some (.int x2), some (.int x3)] [] h (am_kr S 0 (d + 1) 32 5 [a0, a1] st Q)) := wp_cS [.int x1, .int x2, .int x3] hc32 dX0_errorCount_5 ho32 cl0_51 (by decide) ns0_51 hst4 hnp4 hml4 hlsl4 rfl rfl rfl
theorem e32_8 : wp S d 32 8 [a0, a1] (.int x :: st) h Q = if x = 0 then wp S d 32 21 [a0, a1] st h Q else wp S d 32 11 [a0, a1] st h Q := wp_eq hc32 dX0_errorCount_8 rfl
theorem e32_11 : wp S d 32 11 [some (.ref r), a1] st h Q = wp S d 32 12 [some (.ref r), a1] (.ref r :: st) h Q := wp_p hc32 dX0_errorCount_11 rfl
theorem e32_12 : wp S d 32 12 [a0, a1] (.ref r :: st) h Q = am_gfK h r 0 5 (fun w => wp S d 32 15 [a0, a1] (w :: st) h Q) := wp_gf hc32 dX0_errorCount_12 ho32 fl0_24
theorem e32_15 : wp S d 32 15 [a0, some (.int x)] st h Q = wp S d 32 16 [a0, some (.int x)] (.int x :: st) h Q := wp_p hc32 dX0_errorCount_15 rfl
theorem e32_16 : wp S d 32 16 [a0, a1] (.int x :: st) h Q = wp S d 32 17 [a0, a1] (.int (-x) :: st) h Q := wp_p hc32 dX0_errorCount_16 rfl
theorem e32_17 : wp S d 32 17 [a0, a1] (.int x :: .ref r :: st) h Q = am_iaK h r x (fun z => wp S d 32 18 [a0, a1] (.int z :: st) h Q) := wp_ia hc32 dX0_errorCount_17
theorem e32_18 : wp S d 32 18 [a0, a1] st h Q = wp S d 32 27 [a0, a1] st h Q := wp_p hc32 dX0_errorCount_18 rfl
theorem e32_21 : wp S d 32 21 [some (.ref r), a1] st h Q = wp S d 32 22 [some (.ref r), a1] (.ref r :: st) h Q := wp_p hc32 dX0_errorCount_21 rfl
theorem e32_22 : wp S d 32 22 [a0, a1] st h Q = wp S d 32 24 [a0, a1] (.int ((-2)) :: st) h Q := wp_p hc32 dX0_errorCount_22 rfl
theorem e32_24 : wp S (d + 1) 32 24 [a0, a1] (.int x1 :: .ref r0 :: st) h Q = (am_w8 st ∧ am_rcv h 2 5 (.ref r0) = true ∧ wp S d 5 0 [some (.ref r0), some (.int x1)] [] h (am_kr S 2 (d + 1) 32 24 [a0, a1] st Q)) := wp_cV (.ref r0) [.int x1] hc32 dX0_errorCount_24 ho32 cl0_59 (by decide) ns0_59 hst5 hnp5 hml5 hlsl5 rfl rfl rfl
theorem e32_27 : wp S d 32 27 ls [.int x] h Q = Q (.inl (some (.int x)), h) := wp_r hc32 dX0_errorCount_27 rfl rfl ⟨x, _, rfl, rfl, rfl, rfl⟩
theorem e33_0 : wp S d 33 0 [a0, a1, a2, a3, a4] st h Q = wp S d 33 3 [a0, a1, a2, a3, a4] (.long ((nI 2683 : Int32).toInt64) :: st) h Q := wp_l2 hc33 dX0_digest_0 ho33 l20_218
theorem e33_3 : wp S d 33 3 [a0, a1, a2, a3, a4] st h Q = wp S d 33 4 [a0, a1, a2, a3, a4] (.int (nI 5) :: st) h Q := wp_p hc33 dX0_digest_3 rfl
theorem e33_4 : wp S d 33 4 [a0, a1, a2, a3, a4] (.int x :: st) h Q = (¬ x < 0 ∧ x.toNatClampNeg ≤ 1000000 ∧ wp S d 33 6 [a0, a1, a2, a3, a4] (.ref h.length :: st) (h ++ [.inl (0, x.toNatClampNeg, fun _ => 0)]) Q) := wp_na0 hc33 dX0_digest_4
theorem e33_6 : wp S d 33 6 [a0, a1, a2, a3, a4] (.ref r :: st) h Q = wp S d 33 7 [a0, a1, a2, a3, a4] (.ref r :: .ref r :: st) h Q := wp_p hc33 dX0_digest_6 rfl
theorem e33_6i : wp S d 33 6 [a0, a1, a2, a3, a4] (.int x :: st) h Q = wp S d 33 7 [a0, a1, a2, a3, a4] (.int x :: .int x :: st) h Q := wp_p hc33 dX0_digest_6 rfl
theorem e33_7 : wp S d 33 7 [a0, a1, a2, a3, a4] st h Q = wp S d 33 8 [a0, a1, a2, a3, a4] (.int (nI 0) :: st) h Q := wp_p hc33 dX0_digest_7 rfl
theorem e33_8 : wp S d 33 8 [some (.ref r), a1, a2, a3, a4] st h Q = wp S d 33 9 [some (.ref r), a1, a2, a3, a4] (.ref r :: st) h Q := wp_p hc33 dX0_digest_8 rfl
theorem e33_9 : wp S d 33 9 [a0, a1, a2, a3, a4] (.ref r :: st) h Q = am_gfK h r 0 5 (fun w => wp S d 33 12 [a0, a1, a2, a3, a4] (w :: st) h Q) := wp_gf hc33 dX0_digest_9 ho33 fl0_24
theorem e33_12 : wp S d 33 12 [a0, a1, a2, a3, a4] st h Q = wp S d 33 13 [a0, a1, a2, a3, a4] (.int (nI 2) :: st) h Q := wp_p hc33 dX0_digest_12 rfl
theorem e33_13 : wp S d 33 13 [a0, a1, a2, a3, a4] (.int x :: .ref r :: st) h Q = am_iaK h r x (fun z => wp S d 33 14 [a0, a1, a2, a3, a4] (.int z :: st) h Q) := wp_ia hc33 dX0_digest_13
theorem e33_14 : wp S d 33 14 [a0, a1, a2, a3, a4] (.int y :: .int x :: .ref r :: st) h Q = am_isK h r x y (fun h => wp S d 33 15 [a0, a1, a2, a3, a4] st h Q) := wp_is hc33 dX0_digest_14
theorem e33_15 : wp S d 33 15 [a0, a1, a2, a3, a4] (.ref r :: st) h Q = wp S d 33 16 [a0, a1, a2, a3, a4] (.ref r :: .ref r :: st) h Q := wp_p hc33 dX0_digest_15 rfl
theorem e33_15i : wp S d 33 15 [a0, a1, a2, a3, a4] (.int x :: st) h Q = wp S d 33 16 [a0, a1, a2, a3, a4] (.int x :: .int x :: st) h Q := wp_p hc33 dX0_digest_15 rfl
theorem e33_16 : wp S d 33 16 [a0, a1, a2, a3, a4] st h Q = wp S d 33 17 [a0, a1, a2, a3, a4] (.int (nI 1) :: st) h Q := wp_p hc33 dX0_digest_16 rfl
theorem e33_17 : wp S d 33 17 [some (.ref r), a1, a2, a3, a4] st h Q = wp S d 33 18 [some (.ref r), a1, a2, a3, a4] (.ref r :: st) h Q := wp_p hc33 dX0_digest_17 rfl
theorem e33_18 : wp S d 33 18 [a0, a1, a2, a3, a4] (.ref r :: st) h Q = am_gfK h r 0 5 (fun w => wp S d 33 21 [a0, a1, a2, a3, a4] (w :: st) h Q) := wp_gf hc33 dX0_digest_18 ho33 fl0_24
theorem e33_21 : wp S d 33 21 [a0, a1, a2, a3, a4] st h Q = wp S d 33 22 [a0, a1, a2, a3, a4] (.int (nI 3) :: st) h Q := wp_p hc33 dX0_digest_21 rfl
theorem e33_22 : wp S d 33 22 [a0, a1, a2, a3, a4] (.int x :: .ref r :: st) h Q = am_iaK h r x (fun z => wp S d 33 23 [a0, a1, a2, a3, a4] (.int z :: st) h Q) := wp_ia hc33 dX0_digest_22
theorem e33_23 : wp S d 33 23 [a0, a1, a2, a3, a4] (.int y :: .int x :: .ref r :: st) h Q = am_isK h r x y (fun h => wp S d 33 24 [a0, a1, a2, a3, a4] st h Q) := wp_is hc33 dX0_digest_23
theorem e33_24 : wp S d 33 24 [a0, a1, a2, a3, a4] (.ref r :: st) h Q = wp S d 33 25 [a0, a1, a2, a3, a4] (.ref r :: .ref r :: st) h Q := wp_p hc33 dX0_digest_24 rfl
theorem e33_24i : wp S d 33 24 [a0, a1, a2, a3, a4] (.int x :: st) h Q = wp S d 33 25 [a0, a1, a2, a3, a4] (.int x :: .int x :: st) h Q := wp_p hc33 dX0_digest_24 rfl
theorem e33_25 : wp S d 33 25 [a0, a1, a2, a3, a4] st h Q = wp S d 33 26 [a0, a1, a2, a3, a4] (.int (nI 2) :: st) h Q := wp_p hc33 dX0_digest_25 rfl
theorem e33_26 : wp S d 33 26 [some (.ref r), a1, a2, a3, a4] st h Q = wp S d 33 27 [some (.ref r), a1, a2, a3, a4] (.ref r :: st) h Q := wp_p hc33 dX0_digest_26 rfl
theorem e33_27 : wp S d 33 27 [a0, a1, a2, a3, a4] (.ref r :: st) h Q = am_gfK h r 0 5 (fun w => wp S d 33 30 [a0, a1, a2, a3, a4] (w :: st) h Q) := wp_gf hc33 dX0_digest_27 ho33 fl0_24
theorem e33_30 : wp S d 33 30 [a0, a1, a2, a3, a4] st h Q = wp S d 33 31 [a0, a1, a2, a3, a4] (.int (nI 4) :: st) h Q := wp_p hc33 dX0_digest_30 rfl
theorem e33_31 : wp S d 33 31 [a0, a1, a2, a3, a4] (.int x :: .ref r :: st) h Q = am_iaK h r x (fun z => wp S d 33 32 [a0, a1, a2, a3, a4] (.int z :: st) h Q) := wp_ia hc33 dX0_digest_31
theorem e33_32 : wp S d 33 32 [a0, a1, a2, a3, a4] (.int y :: .int x :: .ref r :: st) h Q = am_isK h r x y (fun h => wp S d 33 33 [a0, a1, a2, a3, a4] st h Q) := wp_is hc33 dX0_digest_32
theorem e33_33 : wp S d 33 33 [a0, a1, a2, a3, a4] (.ref r :: st) h Q = wp S d 33 34 [a0, a1, a2, a3, a4] (.ref r :: .ref r :: st) h Q := wp_p hc33 dX0_digest_33 rfl
theorem e33_33i : wp S d 33 33 [a0, a1, a2, a3, a4] (.int x :: st) h Q = wp S d 33 34 [a0, a1, a2, a3, a4] (.int x :: .int x :: st) h Q := wp_p hc33 dX0_digest_33 rfl
theorem e33_34 : wp S d 33 34 [a0, a1, a2, a3, a4] st h Q = wp S d 33 35 [a0, a1, a2, a3, a4] (.int (nI 3) :: st) h Q := wp_p hc33 dX0_digest_34 rfl
theorem e33_35 : wp S d 33 35 [some (.ref r), a1, a2, a3, a4] st h Q = wp S d 33 36 [some (.ref r), a1, a2, a3, a4] (.ref r :: st) h Q := wp_p hc33 dX0_digest_35 rfl
theorem e33_36 : wp S d 33 36 [a0, a1, a2, a3, a4] (.ref r :: st) h Q = am_gfK h r 0 5 (fun w => wp S d 33 39 [a0, a1, a2, a3, a4] (w :: st) h Q) := wp_gf hc33 dX0_digest_36 ho33 fl0_24
theorem e33_39 : wp S d 33 39 [a0, a1, a2, a3, a4] st h Q = wp S d 33 40 [a0, a1, a2, a3, a4] (.int (nI 5) :: st) h Q := wp_p hc33 dX0_digest_39 rfl
theorem e33_40 : wp S d 33 40 [a0, a1, a2, a3, a4] (.int x :: .ref r :: st) h Q = am_iaK h r x (fun z => wp S d 33 41 [a0, a1, a2, a3, a4] (.int z :: st) h Q) := wp_ia hc33 dX0_digest_40
theorem e33_41 : wp S d 33 41 [a0, a1, a2, a3, a4] (.int y :: .int x :: .ref r :: st) h Q = am_isK h r x y (fun h => wp S d 33 42 [a0, a1, a2, a3, a4] st h Q) := wp_is hc33 dX0_digest_41
theorem e33_42 : wp S d 33 42 [a0, a1, a2, a3, a4] (.ref r :: st) h Q = wp S d 33 43 [a0, a1, a2, a3, a4] (.ref r :: .ref r :: st) h Q := wp_p hc33 dX0_digest_42 rfl
theorem e33_42i : wp S d 33 42 [a0, a1, a2, a3, a4] (.int x :: st) h Q = wp S d 33 43 [a0, a1, a2, a3, a4] (.int x :: .int x :: st) h Q := wp_p hc33 dX0_digest_42 rfl
theorem e33_43 : wp S d 33 43 [a0, a1, a2, a3, a4] st h Q = wp S d 33 44 [a0, a1, a2, a3, a4] (.int (nI 4) :: st) h Q := wp_p hc33 dX0_digest_43 rfl
theorem e33_44 : wp S d 33 44 [some (.ref r), a1, a2, a3, a4] st h Q = wp S d 33 45 [some (.ref r), a1, a2, a3, a4] (.ref r :: st) h Q := wp_p hc33 dX0_digest_44 rfl
theorem e33_45 : wp S d 33 45 [a0, a1, a2, a3, a4] (.ref r :: st) h Q = am_gfK h r 0 4 (fun w => wp S d 33 48 [a0, a1, a2, a3, a4] (w :: st) h Q) := wp_gf hc33 dX0_digest_45 ho33 fl0_137
theorem e33_48 : wp S d 33 48 [a0, a1, a2, a3, a4] (.int y :: .int x :: .ref r :: st) h Q = am_isK h r x y (fun h => wp S d 33 49 [a0, a1, a2, a3, a4] st h Q) := wp_is hc33 dX0_digest_48
theorem e33_49 : wp S (d + 1) 33 49 [a0, a1, a2, a3, a4] (.ref r2 :: .long u1 :: st) h Q = (am_w8 st ∧ wp S d 34 0 [some (.long u1), none, some (.ref r2), none, none, none, none, none, none] [] h (am_kr S 0 (d + 1) 33 49 [a0, a1, a2, a3, a4] st Q)) := wp_cS [.long u1, .ref r2] hc33 dX0_digest_49 ho33 cl0_211 (by decide) ns0_211 hst34 hnp34 hml34 hlsl34 rfl rfl rfl
theorem e33_52 : wp S d 33 52 [a0, a1, a2, a3, a4] (.long u :: st) h Q = wp S d 33 53 [a0, some (.long u), none, a3, a4] st h Q := wp_p hc33 dX0_digest_52 rfl
theorem e33_53 : wp S d 33 53 [a0, some (.long u), a2, a3, a4] st h Q = wp S d 33 54 [a0, some (.long u), a2, a3, a4] (.long u :: st) h Q := wp_p hc33 dX0_digest_53 rfl
theorem e33_54 : wp S d 33 54 [some (.ref r), a1, a2, a3, a4] st h Q = wp S d 33 55 [some (.ref r), a1, a2, a3, a4] (.ref r :: st) h Q := wp_p hc33 dX0_digest_54 rfl
theorem e33_55 : wp S d 33 55 [a0, a1, a2, a3, a4] (.ref r :: st) h Q = am_gfK h r 0 0 (fun w => wp S d 33 58 [a0, a1, a2, a3, a4] (w :: st) h Q) := wp_gf hc33 dX0_digest_55 ho33 fl0_10
theorem e33_58 : wp S d 33 58 [a0, a1, a2, a3, a4] (.ref r :: st) h Q = am_gfK h r 1 0 (fun w => wp S d 33 61 [a0, a1, a2, a3, a4] (w :: st) h Q) := wp_gf hc33 dX0_digest_58 ho33 fl0_81
theorem e33_61 : wp S (d + 1) 33 61 [a0, a1, a2, a3, a4] (.ref r2 :: .long u1 :: st) h Q = (am_w8 st ∧ wp S d 35 0 [some (.long u1), none, some (.ref r2), none, none, none, none, none, none] [] h (am_kr S 0 (d + 1) 33 61 [a0, a1, a2, a3, a4] st Q)) := wp_cS [.long u1, .ref r2] hc33 dX0_digest_61 ho33 cl0_220 (by decide) ns0_220 hst35 hnp35 hml35 hlsl35 rfl rfl rfl
theorem e33_64 : wp S d 33 64 [some (.ref r), a1, a2, a3, a4] st h Q = wp S d 33 65 [some (.ref r), a1, a2, a3, a4] (.ref r :: st) h Q := wp_p hc33 dX0_digest_64 rfl
theorem e33_65 : wp S d 33 65 [a0, a1, a2, a3, a4] (.ref r :: st) h Q = am_gfK h r 0 0 (fun w => wp S d 33 68 [a0, a1, a2, a3, a4] (w :: st) h Q) := wp_gf hc33 dX0_digest_65 ho33 fl0_10
theorem e33_68 : wp S d 33 68 [a0, a1, a2, a3, a4] (.ref r :: st) h Q = am_gfK h r 1 1 (fun w => wp S d 33 71 [a0, a1, a2, a3, a4] (w :: st) h Q) := wp_gf hc33 dX0_digest_68 ho33 fl0_89
theorem e33_71 : wp S (d + 1) 33 71 [a0, a1, a2, a3, a4] (.ref r2 :: .long u1 :: st) h Q = (am_w8 st ∧ wp S d 35 0 [some (.long u1), none, some (.ref r2), none, none, none, none, none, none] [] h (am_kr S 0 (d + 1) 33 71 [a0, a1, a2, a3, a4] st Q)) := wp_cS [.long u1, .ref r2] hc33 dX0_digest_71 ho33 cl0_220 (by decide) ns0_220 hst35 hnp35 hml35 hlsl35 rfl rfl rfl
theorem e33_74 : wp S d 33 74 [a0, a1, a2, a3, a4] (.long u :: st) h Q = wp S d 33 75 [a0, some (.long u), none, a3, a4] st h Q := wp_p hc33 dX0_digest_74 rfl
theorem e33_75 : wp S d 33 75 [a0, a1, a2, a3, a4] st h Q = wp S d 33 76 [a0, a1, a2, a3, a4] (.int (nI 0) :: st) h Q := wp_p hc33 dX0_digest_75 rfl
theorem e33_76 : wp S d 33 76 [a0, a1, a2, a3, a4] (.int x :: st) h Q = wp S d 33 77 [a0, a1, a2, some (.int x), a4] st h Q := wp_p hc33 dX0_digest_76 rfl
theorem e33_77 : wp S d 33 77 [a0, a1, a2, some (.int x), a4] st h Q = wp S d 33 78 [a0, a1, a2, some (.int x), a4] (.int x :: st) h Q := wp_p hc33 dX0_digest_77 rfl
theorem e33_78 : wp S d 33 78 [a0, a1, a2, a3, a4] st h Q = wp S d 33 80 [a0, a1, a2, a3, a4] (.int (nI 6) :: st) h Q := wp_p hc33 dX0_digest_78 rfl
theorem e33_80 : wp S d 33 80 [a0, a1, a2, a3, a4] (.int y :: .int x :: st) h Q = if y ≤ x then wp S d 33 135 [a0, a1, a2, a3, a4] st h Q else wp S d 33 83 [a0, a1, a2, a3, a4] st h Q := wp_ge hc33 dX0_digest_80 rfl
theorem e33_83 : wp S d 33 83 [a0, some (.long u), a2, a3, a4] st h Q = wp S d 33 84 [a0, some (.long u), a2, a3, a4] (.long u :: st) h Q := wp_p hc33 dX0_digest_83 rfl
theorem e33_84 : wp S d 33 84 [a0, a1, a2, a3, a4] st h Q = wp S d 33 85 [a0, a1, a2, a3, a4] (.int (nI 2) :: st) h Q := wp_p hc33 dX0_digest_84 rfl
theorem e33_85 : wp S d 33 85 [a0, a1, a2, a3, a4] (.int x :: st) h Q = (¬ x < 0 ∧ x.toNatClampNeg ≤ 1000000 ∧ wp S d 33 87 [a0, a1, a2, a3, a4] (.ref h.length :: st) (h ++ [.inl (0, x.toNatClampNeg, fun _ => 0)]) Q) := wp_na0 hc33 dX0_digest_85
theorem e33_87 : wp S d 33 87 [a0, a1, a2, a3, a4] (.ref r :: st) h Q = wp S d 33 88 [a0, a1, a2, a3, a4] (.ref r :: .ref r :: st) h Q := wp_p hc33 dX0_digest_87 rfl
theorem e33_87i : wp S d 33 87 [a0, a1, a2, a3, a4] (.int x :: st) h Q = wp S d 33 88 [a0, a1, a2, a3, a4] (.int x :: .int x :: st) h Q := wp_p hc33 dX0_digest_87 rfl
theorem e33_88 : wp S d 33 88 [a0, a1, a2, a3, a4] st h Q = wp S d 33 89 [a0, a1, a2, a3, a4] (.int (nI 0) :: st) h Q := wp_p hc33 dX0_digest_88 rfl
theorem e33_89 : wp S d 33 89 [some (.ref r), a1, a2, a3, a4] st h Q = wp S d 33 90 [some (.ref r), a1, a2, a3, a4] (.ref r :: st) h Q := wp_p hc33 dX0_digest_89 rfl
theorem e33_90 : wp S d 33 90 [a0, a1, a2, a3, a4] (.ref r :: st) h Q = am_gfK h r 0 0 (fun w => wp S d 33 93 [a0, a1, a2, a3, a4] (w :: st) h Q) := wp_gf hc33 dX0_digest_90 ho33 fl0_10
theorem e33_93 : wp S d 33 93 [a0, a1, a2, a3, a4] (.ref r :: st) h Q = am_gfK h r 1 5 (fun w => wp S d 33 96 [a0, a1, a2, a3, a4] (w :: st) h Q) := wp_gf hc33 dX0_digest_93 ho33 fl0_99
theorem e33_96 : wp S d 33 96 [a0, a1, a2, some (.int x), a4] st h Q = wp S d 33 97 [a0, a1, a2, some (.int x), a4] (.int x :: st) h Q := wp_p hc33 dX0_digest_96 rfl
theorem e33_97 : wp S d 33 97 [a0, a1, a2, a3, a4] (.int x :: .ref r :: st) h Q = am_aaK h r x (fun w => wp S d 33 98 [a0, a1, a2, a3, a4] (w :: st) h Q) := wp_aa hc33 dX0_digest_97
theorem e33_98 : wp S d 33 98 [a0, a1, a2, a3, a4] (.ref r :: st) h Q = wp S d 33 105 [a0, a1, a2, a3, a4] st h Q := wp_p hc33 dX0_digest_98 rfl
theorem e33_98n : wp S d 33 98 [a0, a1, a2, a3, a4] (.null :: st) h Q = wp S d 33 101 [a0, a1, a2, a3, a4] st h Q := wp_p hc33 dX0_digest_98 rfl
theorem e33_98k (hr : r < 10) : wp S d 33 98 [a0, a1, a2, a3, a4] (.retAddr r :: st) h Q = wp S d 33 105 [a0, a1, a2, a3, a4] st h Q := wp_p hc33 dX0_digest_98 (if_pos hr)
theorem e33_101 : wp S d 33 101 [a0, a1, a2, a3, a4] st h Q = wp S d 33 102 [a0, a1, a2, a3, a4] (.int (nI 0) :: st) h Q := wp_p hc33 dX0_digest_101 rfl
theorem e33_102 : wp S d 33 102 [a0, a1, a2, a3, a4] st h Q = wp S d 33 112 [a0, a1, a2, a3, a4] st h Q := wp_p hc33 dX0_digest_102 rfl
theorem e33_105 : wp S d 33 105 [a0, a1, a2, a3, a4] st h Q = wp S d 33 106 [a0, a1, a2, a3, a4] (.int (nI 1) :: st) h Q := wp_p hc33 dX0_digest_105 rfl
theorem e33_106 : wp S d 33 106 [some (.ref r), a1, a2, a3, a4] st h Q = wp S d 33 107 [some (.ref r), a1, a2, a3, a4] (.ref r :: st) h Q := wp_p hc33 dX0_digest_106 rfl
theorem e33_107 : wp S d 33 107 [a0, a1, a2, some (.int x), a4] st h Q = wp S d 33 108 [a0, a1, a2, some (.int x), a4] (.int x :: st) h Q := wp_p hc33 dX0_digest_107 rfl
theorem e33_108 : wp S (d + 1) 33 108 [a0, a1, a2, a3, a4] (.int x1 :: .ref r0 :: st) h Q = (am_w8 st ∧ am_rcv h 2 12 (.ref r0) = true ∧ wp S d 12 0 [some (.ref r0), some (.int x1)] [] h (am_kr S 2 (d + 1) 33 108 [a0, a1, a2, a3, a4] st Q)) := wp_cV (.ref r0) [.int x1] hc33 dX0_digest_108 ho33 cl0_114 (by decide) ns0_114 hst12 hnp12 hml12 hlsl12 rfl rfl rfl
theorem e33_111 : wp S d 33 111 [a0, a1, a2, a3, a4] (.int y :: .int x :: st) h Q = wp S d 33 112 [a0, a1, a2, a3, a4] (.int (x + y) :: st) h Q := wp_p hc33 dX0_digest_111 rfl
theorem e33_112 : wp S d 33 112 [a0, a1, a2, a3, a4] (.int y :: .int x :: .ref r :: st) h Q = am_isK h r x y (fun h => wp S d 33 113 [a0, a1, a2, a3, a4] st h Q) := wp_is hc33 dX0_digest_112
theorem e33_113 : wp S d 33 113 [a0, a1, a2, a3, a4] (.ref r :: st) h Q = wp S d 33 114 [a0, a1, a2, a3, a4] (.ref r :: .ref r :: st) h Q := wp_p hc33 dX0_digest_113 rfl
theorem e33_113i : wp S d 33 113 [a0, a1, a2, a3, a4] (.int x :: st) h Q = wp S d 33 114 [a0, a1, a2, a3, a4] (.int x :: .int x :: st) h Q := wp_p hc33 dX0_digest_113 rfl
theorem e33_114 : wp S d 33 114 [a0, a1, a2, a3, a4] st h Q = wp S d 33 115 [a0, a1, a2, a3, a4] (.int (nI 1) :: st) h Q := wp_p hc33 dX0_digest_114 rfl
theorem e33_115 : wp S d 33 115 [some (.ref r), a1, a2, a3, a4] st h Q = wp S d 33 116 [some (.ref r), a1, a2, a3, a4] (.ref r :: st) h Q := wp_p hc33 dX0_digest_115 rfl
theorem e33_116 : wp S d 33 116 [a0, a1, a2, a3, a4] (.ref r :: st) h Q = am_gfK h r 0 0 (fun w => wp S d 33 119 [a0, a1, a2, a3, a4] (w :: st) h Q) := wp_gf hc33 dX0_digest_116 ho33 fl0_10
theorem e33_119 : wp S d 33 119 [a0, a1, a2, a3, a4] (.ref r :: st) h Q = am_gfK h r 1 4 (fun w => wp S d 33 122 [a0, a1, a2, a3, a4] (w :: st) h Q) := wp_gf hc33 dX0_digest_119 ho33 fl0_134
theorem e33_122 : wp S d 33 122 [a0, a1, a2, some (.int x), a4] st h Q = wp S d 33 123 [a0, a1, a2, some (.int x), a4] (.int x :: st) h Q := wp_p hc33 dX0_digest_122 rfl
theorem e33_123 : wp S d 33 123 [a0, a1, a2, a3, a4] (.int x :: .ref r :: st) h Q = am_iaK h r x (fun z => wp S d 33 124 [a0, a1, a2, a3, a4] (.int z :: st) h Q) := wp_ia hc33 dX0_digest_123
theorem e33_124 : wp S d 33 124 [a0, a1, a2, a3, a4] (.int y :: .int x :: .ref r :: st) h Q = am_isK h r x y (fun h => wp S d 33 125 [a0, a1, a2, a3, a4] st h Q) := wp_is hc33 dX0_digest_124
theorem e33_125 : wp S (d + 1) 33 125 [a0, a1, a2, a3, a4] (.ref r2 :: .long u1 :: st) h Q = (am_w8 st ∧ wp S d 34 0 [some (.long u1), none, some (.ref r2), none, none, none, none, none, none] [] h (am_kr S 0 (d + 1) 33 125 [a0, a1, a2, a3, a4] st Q)) := wp_cS [.long u1, .ref r2] hc33 dX0_digest_125 ho33 cl0_211 (by decide) ns0_211 hst34 hnp34 hml34 hlsl34 rfl rfl rfl
theorem e33_128 : wp S d 33 128 [a0, a1, a2, a3, a4] (.long u :: st) h Q = wp S d 33 129 [a0, some (.long u), none, a3, a4] st h Q := wp_p hc33 dX0_digest_128 rfl
theorem e33_129 : wp S d 33 129 [a0, a1, a2, some (.int x), a4] st h Q = wp S d 33 132 [a0, a1, a2, some (.int (x + nI 1)), a4] st h Q := wp_p hc33 dX0_digest_129 rfl
theorem e33_132 : wp S d 33 132 [a0, a1, a2, a3, a4] st h Q = wp S d 33 77 [a0, a1, a2, a3, a4] st h Q := wp_p hc33 dX0_digest_132 rfl
theorem e33_135 : wp S d 33 135 [a0, some (.long u), a2, a3, a4] st h Q = wp S d 33 136 [a0, some (.long u), a2, a3, a4] (.long u :: st) h Q := wp_p hc33 dX0_digest_135 rfl
theorem e33_136 : wp S d 33 136 [a0, a1, a2, a3, a4] st h Q = wp S d 33 137 [a0, a1, a2, a3, a4] (.int (nI 1) :: st) h Q := wp_p hc33 dX0_digest_136 rfl
theorem e33_137 : wp S d 33 137 [a0, a1, a2, a3, a4] (.int x :: st) h Q = (¬ x < 0 ∧ x.toNatClampNeg ≤ 1000000 ∧ wp S d 33 139 [a0, a1, a2, a3, a4] (.ref h.length :: st) (h ++ [.inl (0, x.toNatClampNeg, fun _ => 0)]) Q) := wp_na0 hc33 dX0_digest_137
theorem e33_139 : wp S d 33 139 [a0, a1, a2, a3, a4] (.ref r :: st) h Q = wp S d 33 140 [a0, a1, a2, a3, a4] (.ref r :: .ref r :: st) h Q := wp_p hc33 dX0_digest_139 rfl
theorem e33_139i : wp S d 33 139 [a0, a1, a2, a3, a4] (.int x :: st) h Q = wp S d 33 140 [a0, a1, a2, a3, a4] (.int x :: .int x :: st) h Q := wp_p hc33 dX0_digest_139 rfl
theorem e33_140 : wp S d 33 140 [a0, a1, a2, a3, a4] st h Q = wp S d 33 141 [a0, a1, a2, a3, a4] (.int (nI 0) :: st) h Q := wp_p hc33 dX0_digest_140 rfl
theorem e33_141 : wp S d 33 141 [some (.ref r), a1, a2, a3, a4] st h Q = wp S d 33 142 [some (.ref r), a1, a2, a3, a4] (.ref r :: st) h Q := wp_p hc33 dX0_digest_141 rfl
theorem e33_142 : wp S d 33 142 [a0, a1, a2, a3, a4] (.ref r :: st) h Q = am_gfK h r 0 0 (fun w => wp S d 33 145 [a0, a1, a2, a3, a4] (w :: st) h Q) := wp_gf hc33 dX0_digest_142 ho33 fl0_10
theorem e33_145 : wp S d 33 145 [a0, a1, a2, a3, a4] (.ref r :: st) h Q = am_gfK h r 1 6 (fun w => wp S d 33 148 [a0, a1, a2, a3, a4] (w :: st) h Q) := wp_gf hc33 dX0_digest_145 ho33 fl0_131
theorem e33_148 : wp S d 33 148 [a0, a1, a2, a3, a4] (.int y :: .int x :: .ref r :: st) h Q = am_isK h r x y (fun h => wp S d 33 149 [a0, a1, a2, a3, a4] st h Q) := wp_is hc33 dX0_digest_148
theorem e33_149 : wp S (d + 1) 33 149 [a0, a1, a2, a3, a4] (.ref r2 :: .long u1 :: st) h Q = (am_w8 st ∧ wp S d 34 0 [some (.long u1), none, some (.ref r2), none, none, none, none, none, none] [] h (am_kr S 0 (d + 1) 33 149 [a0, a1, a2, a3, a4] st Q)) := wp_cS [.long u1, .ref r2] hc33 dX0_digest_149 ho33 cl0_211 (by decide) ns0_211 hst34 hnp34 hml34 hlsl34 rfl rfl rfl
theorem e33_152 : wp S d 33 152 [a0, a1, a2, a3, a4] (.long u :: st) h Q = wp S d 33 153 [a0, some (.long u), none, a3, a4] st h Q := wp_p hc33 dX0_digest_152 rfl
theorem e33_153 : wp S d 33 153 [some (.ref r), a1, a2, a3, a4] st h Q = wp S d 33 154 [some (.ref r), a1, a2, a3, a4] (.ref r :: st) h Q := wp_p hc33 dX0_digest_153 rfl
theorem e33_154 : wp S (d + 1) 33 154 [a0, a1, a2, a3, a4] (.ref r0 :: st) h Q = (am_w8 st ∧ am_rcv h 2 30 (.ref r0) = true ∧ wp S d 30 0 [some (.ref r0), none] [] h (am_kr S 2 (d + 1) 33 154 [a0, a1, a2, a3, a4] st Q)) := wp_cV (.ref r0) [] hc33 dX0_digest_154 ho33 cl0_192 (by decide) ns0_192 hst30 hnp30 hml30 hlsl30 rfl rfl rfl
theorem e33_157 : wp S d 33 157 [a0, a1, a2, a3, a4] (.ref r :: st) h Q = wp S d 33 158 [a0, a1, a2, some (.ref r), a4] st h Q := wp_p hc33 dX0_digest_157 rfl
theorem e33_158 : wp S d 33 158 [a0, a1, a2, a3, a4] st h Q = wp S d 33 159 [a0, a1, a2, a3, a4] (.int (nI 0) :: st) h Q := wp_p hc33 dX0_digest_158 rfl
theorem e33_159 : wp S d 33 159 [a0, a1, a2, a3, a4] (.int x :: st) h Q = wp S d 33 161 [a0, a1, a2, a3, some (.int x)] st h Q := wp_p hc33 dX0_digest_159 rfl
theorem e33_161 : wp S d 33 161 [a0, a1, a2, a3, some (.int x)] st h Q = wp S d 33 163 [a0, a1, a2, a3, some (.int x)] (.int x :: st) h Q := wp_p hc33 dX0_digest_161 rfl
theorem e33_163 : wp S d 33 163 [a0, a1, a2, some (.ref r), a4] st h Q = wp S d 33 164 [a0, a1, a2, some (.ref r), a4] (.ref r :: st) h Q := wp_p hc33 dX0_digest_163 rfl
theorem e33_164 : wp S (d + 1) 33 164 [a0, a1, a2, a3, a4] (.ref r0 :: st) h Q = (am_w8 st ∧ am_rcv h 2 160 (.ref r0) = true ∧ wp S d 160 0 [some (.ref r0)] [] h (am_kr S 2 (d + 1) 33 164 [a0, a1, a2, a3, a4] st Q)) := wp_cV (.ref r0) [] hc33 dX0_digest_164 ho33 cl0_196 (by decide) ns0_196 hst160 hnp160 hml160 hlsl160 rfl rfl rfl
theorem e33_167 : wp S d 33 167 [a0, a1, a2, a3, a4] (.int y :: .int x :: st) h Q = if y ≤ x then wp S d 33 193 [a0, a1, a2, a3, a4] st h Q else wp S d 33 170 [a0, a1, a2, a3, a4] st h Q := wp_ge hc33 dX0_digest_167 rfl
theorem e33_170 : wp S d 33 170 [a0, some (.long u), a2, a3, a4] st h Q = wp S d 33 171 [a0, some (.long u), a2, a3, a4] (.long u :: st) h Q := wp_p hc33 dX0_digest_170 rfl
theorem e33_171 : wp S d 33 171 [a0, a1, a2, a3, a4] st h Q = wp S d 33 172 [a0, a1, a2, a3, a4] (.int (nI 1) :: st) h Q := wp_p hc33 dX0_digest_171 rfl
theorem e33_172 : wp S d 33 172 [a0, a1, a2, a3, a4] (.int x :: st) h Q = (¬ x < 0 ∧ x.toNatClampNeg ≤ 1000000 ∧ wp S d 33 174 [a0, a1, a2, a3, a4] (.ref h.length :: st) (h ++ [.inl (0, x.toNatClampNeg, fun _ => 0)]) Q) := wp_na0 hc33 dX0_digest_172
theorem e33_174 : wp S d 33 174 [a0, a1, a2, a3, a4] (.ref r :: st) h Q = wp S d 33 175 [a0, a1, a2, a3, a4] (.ref r :: .ref r :: st) h Q := wp_p hc33 dX0_digest_174 rfl
theorem e33_174i : wp S d 33 174 [a0, a1, a2, a3, a4] (.int x :: st) h Q = wp S d 33 175 [a0, a1, a2, a3, a4] (.int x :: .int x :: st) h Q := wp_p hc33 dX0_digest_174 rfl
theorem e33_175 : wp S d 33 175 [a0, a1, a2, a3, a4] st h Q = wp S d 33 176 [a0, a1, a2, a3, a4] (.int (nI 0) :: st) h Q := wp_p hc33 dX0_digest_175 rfl
theorem e33_176 : wp S d 33 176 [a0, a1, a2, some (.ref r), a4] st h Q = wp S d 33 177 [a0, a1, a2, some (.ref r), a4] (.ref r :: st) h Q := wp_p hc33 dX0_digest_176 rfl
theorem e33_177 : wp S d 33 177 [a0, a1, a2, a3, some (.int x)] st h Q = wp S d 33 179 [a0, a1, a2, a3, some (.int x)] (.int x :: st) h Q := wp_p hc33 dX0_digest_177 rfl
theorem e33_179 : wp S (d + 1) 33 179 [a0, a1, a2, a3, a4] (.int x1 :: .ref r0 :: st) h Q = (am_w8 st ∧ am_rcv h 2 161 (.ref r0) = true ∧ wp S d 161 0 [some (.ref r0), some (.int x1)] [] h (am_kr S 2 (d + 1) 33 179 [a0, a1, a2, a3, a4] st Q)) := wp_cV (.ref r0) [.int x1] hc33 dX0_digest_179 ho33 cl0_199 (by decide) ns0_199 hst161 hnp161 hml161 hlsl161 rfl rfl rfl
theorem e33_182 : wp S d 33 182 [a0, a1, a2, a3, a4] (.int y :: .int x :: .ref r :: st) h Q = am_isK h r x y (fun h => wp S d 33 183 [a0, a1, a2, a3, a4] st h Q) := wp_is hc33 dX0_digest_182
theorem e33_183 : wp S (d + 1) 33 183 [a0, a1, a2, a3, a4] (.ref r2 :: .long u1 :: st) h Q = (am_w8 st ∧ wp S d 34 0 [some (.long u1), none, some (.ref r2), none, none, none, none, none, none] [] h (am_kr S 0 (d + 1) 33 183 [a0, a1, a2, a3, a4] st Q)) := wp_cS [.long u1, .ref r2] hc33 dX0_digest_183 ho33 cl0_211 (by decide) ns0_211 hst34 hnp34 hml34 hlsl34 rfl rfl rfl
theorem e33_186 : wp S d 33 186 [a0, a1, a2, a3, a4] (.long u :: st) h Q = wp S d 33 187 [a0, some (.long u), none, a3, a4] st h Q := wp_p hc33 dX0_digest_186 rfl
theorem e33_187 : wp S d 33 187 [a0, a1, a2, a3, some (.int x)] st h Q = wp S d 33 190 [a0, a1, a2, a3, some (.int (x + nI 1))] st h Q := wp_p hc33 dX0_digest_187 rfl
theorem e33_190 : wp S d 33 190 [a0, a1, a2, a3, a4] st h Q = wp S d 33 161 [a0, a1, a2, a3, a4] st h Q := wp_p hc33 dX0_digest_190 rfl
theorem e33_193 : wp S d 33 193 [a0, some (.long u), a2, a3, a4] st h Q = wp S d 33 194 [a0, some (.long u), a2, a3, a4] (.long u :: st) h Q := wp_p hc33 dX0_digest_193 rfl
theorem e33_194 : wp S d 33 194 [a0, a1, a2, a3, a4] st h Q = wp S d 33 195 [a0, a1, a2, a3, a4] (.int (nI 1) :: st) h Q := wp_p hc33 dX0_digest_194 rfl
theorem e33_195 : wp S d 33 195 [a0, a1, a2, a3, a4] (.int x :: st) h Q = (¬ x < 0 ∧ x.toNatClampNeg ≤ 1000000 ∧ wp S d 33 197 [a0, a1, a2, a3, a4] (.ref h.length :: st) (h ++ [.inl (0, x.toNatClampNeg, fun _ => 0)]) Q) := wp_na0 hc33 dX0_digest_195
theorem e33_197 : wp S d 33 197 [a0, a1, a2, a3, a4] (.ref r :: st) h Q = wp S d 33 198 [a0, a1, a2, a3, a4] (.ref r :: .ref r :: st) h Q := wp_p hc33 dX0_digest_197 rfl
theorem e33_197i : wp S d 33 197 [a0, a1, a2, a3, a4] (.int x :: st) h Q = wp S d 33 198 [a0, a1, a2, a3, a4] (.int x :: .int x :: st) h Q := wp_p hc33 dX0_digest_197 rfl
theorem e33_198 : wp S d 33 198 [a0, a1, a2, a3, a4] st h Q = wp S d 33 199 [a0, a1, a2, a3, a4] (.int (nI 0) :: st) h Q := wp_p hc33 dX0_digest_198 rfl
theorem e33_199 : wp S d 33 199 [some (.ref r), a1, a2, a3, a4] st h Q = wp S d 33 200 [some (.ref r), a1, a2, a3, a4] (.ref r :: st) h Q := wp_p hc33 dX0_digest_199 rfl
theorem e33_200 : wp S d 33 200 [a0, a1, a2, a3, a4] (.ref r :: st) h Q = am_gfK h r 0 0 (fun w => wp S d 33 203 [a0, a1, a2, a3, a4] (w :: st) h Q) := wp_gf hc33 dX0_digest_200 ho33 fl0_10
theorem e33_203 : wp S d 33 203 [a0, a1, a2, a3, a4] (.ref r :: st) h Q = am_gfK h r 1 7 (fun w => wp S d 33 206 [a0, a1, a2, a3, a4] (w :: st) h Q) := wp_gf hc33 dX0_digest_203 ho33 fl0_144
theorem e33_206 : wp S (d + 1) 33 206 [a0, a1, a2, a3, a4] (.ref r0 :: st) h Q = (am_w8 st ∧ am_rcv h 2 43 (.ref r0) = true ∧ wp S d 43 0 [some (.ref r0), none, none, none, none, none] [] h (am_kr S 2 (d + 1) 33 206 [a0, a1, a2, a3, a4] st Q)) := wp_cV (.ref r0) [] hc33 dX0_digest_206 ho33 cl0_177 (by decide) ns0_177 hst43 hnp43 hml43 hlsl43 rfl rfl rfl
theorem e33_209 : wp S d 33 209 [a0, a1, a2, a3, a4] (.int y :: .int x :: .ref r :: st) h Q = am_isK h r x y (fun h => wp S d 33 210 [a0, a1, a2, a3, a4] st h Q) := wp_is hc33 dX0_digest_209
theorem e33_210 : wp S (d + 1) 33 210 [a0, a1, a2, a3, a4] (.ref r2 :: .long u1 :: st) h Q = (am_w8 st ∧ wp S d 34 0 [some (.long u1), none, some (.ref r2), none, none, none, none, none, none] [] h (am_kr S 0 (d + 1) 33 210 [a0, a1, a2, a3, a4] st Q)) := wp_cS [.long u1, .ref r2] hc33 dX0_digest_210 ho33 cl0_211 (by decide) ns0_211 hst34 hnp34 hml34 hlsl34 rfl rfl rfl
theorem e33_213 : wp S d 33 213 [a0, a1, a2, a3, a4] (.long u :: st) h Q = wp S d 33 214 [a0, some (.long u), none, a3, a4] st h Q := wp_p hc33 dX0_digest_213 rfl
theorem e33_214 : wp S d 33 214 [a0, a1, a2, a3, a4] st h Q = wp S d 33 215 [a0, a1, a2, a3, a4] (.int (nI 1) :: st) h Q := wp_p hc33 dX0_digest_214 rfl
theorem e33_215 : wp S d 33 215 [a0, a1, a2, a3, a4] (.int x :: st) h Q = wp S d 33 217 [a0, a1, a2, a3, some (.int x)] st h Q := wp_p hc33 dX0_digest_215 rfl
theorem e33_217 : wp S d 33 217 [a0, a1, a2, a3, some (.int x)] st h Q = wp S d 33 219 [a0, a1, a2, a3, some (.int x)] (.int x :: st) h Q := wp_p hc33 dX0_digest_217 rfl
theorem e33_219 : wp S d 33 219 [a0, a1, a2, a3, a4] st h Q = wp S d 33 221 [a0, a1, a2, a3, a4] (.int (nI 7) :: st) h Q := wp_p hc33 dX0_digest_219 rfl
theorem e33_221 : wp S d 33 221 [a0, a1, a2, a3, a4] (.int y :: .int x :: st) h Q = if y < x then wp S d 33 251 [a0, a1, a2, a3, a4] st h Q else wp S d 33 224 [a0, a1, a2, a3, a4] st h Q := wp_gt hc33 dX0_digest_221 rfl
theorem e33_224 : wp S d 33 224 [a0, some (.long u), a2, a3, a4] st h Q = wp S d 33 225 [a0, some (.long u), a2, a3, a4] (.long u :: st) h Q := wp_p hc33 dX0_digest_224 rfl
theorem e33_225 : wp S d 33 225 [a0, a1, a2, a3, a4] st h Q = wp S d 33 226 [a0, a1, a2, a3, a4] (.int (nI 1) :: st) h Q := wp_p hc33 dX0_digest_225 rfl
theorem e33_226 : wp S d 33 226 [a0, a1, a2, a3, a4] (.int x :: st) h Q = (¬ x < 0 ∧ x.toNatClampNeg ≤ 1000000 ∧ wp S d 33 228 [a0, a1, a2, a3, a4] (.ref h.length :: st) (h ++ [.inl (0, x.toNatClampNeg, fun _ => 0)]) Q) := wp_na0 hc33 dX0_digest_226
theorem e33_228 : wp S d 33 228 [a0, a1, a2, a3, a4] (.ref r :: st) h Q = wp S d 33 229 [a0, a1, a2, a3, a4] (.ref r :: .ref r :: st) h Q := wp_p hc33 dX0_digest_228 rfl
theorem e33_228i : wp S d 33 228 [a0, a1, a2, a3, a4] (.int x :: st) h Q = wp S d 33 229 [a0, a1, a2, a3, a4] (.int x :: .int x :: st) h Q := wp_p hc33 dX0_digest_228 rfl
theorem e33_229 : wp S d 33 229 [a0, a1, a2, a3, a4] st h Q = wp S d 33 230 [a0, a1, a2, a3, a4] (.int (nI 0) :: st) h Q := wp_p hc33 dX0_digest_229 rfl
theorem e33_230 : wp S d 33 230 [some (.ref r), a1, a2, a3, a4] st h Q = wp S d 33 231 [some (.ref r), a1, a2, a3, a4] (.ref r :: st) h Q := wp_p hc33 dX0_digest_230 rfl
theorem e33_231 : wp S d 33 231 [a0, a1, a2, a3, a4] (.ref r :: st) h Q = am_gfK h r 0 0 (fun w => wp S d 33 234 [a0, a1, a2, a3, a4] (w :: st) h Q) := wp_gf hc33 dX0_digest_231 ho33 fl0_10
theorem e33_234 : wp S d 33 234 [a0, a1, a2, a3, a4] (.ref r :: st) h Q = am_gfK h r 1 8 (fun w => wp S d 33 237 [a0, a1, a2, a3, a4] (w :: st) h Q) := wp_gf hc33 dX0_digest_234 ho33 fl0_158
theorem e33_237 : wp S d 33 237 [a0, a1, a2, a3, some (.int x)] st h Q = wp S d 33 239 [a0, a1, a2, a3, some (.int x)] (.int x :: st) h Q := wp_p hc33 dX0_digest_237 rfl
theorem e33_239 : wp S d 33 239 [a0, a1, a2, a3, a4] (.int x :: .ref r :: st) h Q = am_iaK h r x (fun z => wp S d 33 240 [a0, a1, a2, a3, a4] (.int z :: st) h Q) := wp_ia hc33 dX0_digest_239
theorem e33_240 : wp S d 33 240 [a0, a1, a2, a3, a4] (.int y :: .int x :: .ref r :: st) h Q = am_isK h r x y (fun h => wp S d 33 241 [a0, a1, a2, a3, a4] st h Q) := wp_is hc33 dX0_digest_240
theorem e33_241 : wp S (d + 1) 33 241 [a0, a1, a2, a3, a4] (.ref r2 :: .long u1 :: st) h Q = (am_w8 st ∧ wp S d 34 0 [some (.long u1), none, some (.ref r2), none, none, none, none, none, none] [] h (am_kr S 0 (d + 1) 33 241 [a0, a1, a2, a3, a4] st Q)) := wp_cS [.long u1, .ref r2] hc33 dX0_digest_241 ho33 cl0_211 (by decide) ns0_211 hst34 hnp34 hml34 hlsl34 rfl rfl rfl
theorem e33_244 : wp S d 33 244 [a0, a1, a2, a3, a4] (.long u :: st) h Q = wp S d 33 245 [a0, some (.long u), none, a3, a4] st h Q := wp_p hc33 dX0_digest_244 rfl
theorem e33_245 : wp S d 33 245 [a0, a1, a2, a3, some (.int x)] st h Q = wp S d 33 248 [a0, a1, a2, a3, some (.int (x + nI 1))] st h Q := wp_p hc33 dX0_digest_245 rfl
theorem e33_248 : wp S d 33 248 [a0, a1, a2, a3, a4] st h Q = wp S d 33 217 [a0, a1, a2, a3, a4] st h Q := wp_p hc33 dX0_digest_248 rfl
theorem e33_251 : wp S d 33 251 [a0, some (.long u), a2, a3, a4] st h Q = wp S d 33 252 [a0, some (.long u), a2, a3, a4] (.long u :: st) h Q := wp_p hc33 dX0_digest_251 rfl
theorem e33_252 : wp S d 33 252 [a0, a1, a2, a3, a4] st h Q = wp S d 33 253 [a0, a1, a2, a3, a4] (.int (nI 1) :: st) h Q := wp_p hc33 dX0_digest_252 rfl
theorem e33_253 : wp S d 33 253 [a0, a1, a2, a3, a4] (.int x :: st) h Q = (¬ x < 0 ∧ x.toNatClampNeg ≤ 1000000 ∧ wp S d 33 255 [a0, a1, a2, a3, a4] (.ref h.length :: st) (h ++ [.inl (0, x.toNatClampNeg, fun _ => 0)]) Q) := wp_na0 hc33 dX0_digest_253
theorem e33_255 : wp S d 33 255 [a0, a1, a2, a3, a4] (.ref r :: st) h Q = wp S d 33 256 [a0, a1, a2, a3, a4] (.ref r :: .ref r :: st) h Q := wp_p hc33 dX0_digest_255 rfl
theorem e33_255i : wp S d 33 255 [a0, a1, a2, a3, a4] (.int x :: st) h Q = wp S d 33 256 [a0, a1, a2, a3, a4] (.int x :: .int x :: st) h Q := wp_p hc33 dX0_digest_255 rfl
theorem e33_256 : wp S d 33 256 [a0, a1, a2, a3, a4] st h Q = wp S d 33 257 [a0, a1, a2, a3, a4] (.int (nI 0) :: st) h Q := wp_p hc33 dX0_digest_256 rfl
theorem e33_257 : wp S d 33 257 [some (.ref r), a1, a2, a3, a4] st h Q = wp S d 33 258 [some (.ref r), a1, a2, a3, a4] (.ref r :: st) h Q := wp_p hc33 dX0_digest_257 rfl
theorem e33_258 : wp S d 33 258 [a0, a1, a2, a3, a4] (.ref r :: st) h Q = am_gfK h r 0 2 (fun w => wp S d 33 261 [a0, a1, a2, a3, a4] (w :: st) h Q) := wp_gf hc33 dX0_digest_258 ho33 fl0_37
theorem e33_261 : wp S d 33 261 [a0, a1, a2, a3, a4] (.int y :: .int x :: .ref r :: st) h Q = am_isK h r x y (fun h => wp S d 33 262 [a0, a1, a2, a3, a4] st h Q) := wp_is hc33 dX0_digest_261
theorem e33_262 : wp S (d + 1) 33 262 [a0, a1, a2, a3, a4] (.ref r2 :: .long u1 :: st) h Q = (am_w8 st ∧ wp S d 34 0 [some (.long u1), none, some (.ref r2), none, none, none, none, none, none] [] h (am_kr S 0 (d + 1) 33 262 [a0, a1, a2, a3, a4] st Q)) := wp_cS [.long u1, .ref r2] hc33 dX0_digest_262 ho33 cl0_211 (by decide) ns0_211 hst34 hnp34 hml34 hlsl34 rfl rfl rfl
theorem e33_265 : wp S d 33 265 ls [.long u] h Q = Q (.inl (some (.long u)), h) := wp_r hc33 dX0_digest_265 rfl rfl ⟨u, rfl, rfl, rfl⟩
theorem e34_0 : wp S d 34 0 [some (.long u), a1, a2, a3, a4, a5, a6, a7, a8] st h Q = wp S d 34 1 [some (.long u), a1, a2, a3, a4, a5, a6, a7, a8] (.long u :: st) h Q := wp_p hc34 dX0_mix_0 rfl
theorem e34_1 : wp S d 34 1 [a0, a1, a2, a3, a4, a5, a6, a7, a8] (.long u :: st) h Q = wp S d 34 2 [a0, a1, a2, some (.long u), none, a5, a6, a7, a8] st h Q := wp_p hc34 dX0_mix_1 rfl
theorem e34_2 : wp S d 34 2 [a0, a1, some (.ref r), a3, a4, a5, a6, a7, a8] st h Q = wp S d 34 3 [a0, a1, some (.ref r), a3, a4, a5, a6, a7, a8] (.ref r :: st) h Q := wp_p hc34 dX0_mix_2 rfl
theorem e34_3 : wp S d 34 3 [a0, a1, a2, a3, a4, a5, a6, a7, a8] (.ref r :: st) h Q = wp S d 34 5 [a0, a1, a2, a3, a4, some (.ref r), a6, a7, a8] st h Q := wp_p hc34 dX0_mix_3 rfl
theorem e34_5 : wp S d 34 5 [a0, a1, a2, a3, a4, some (.ref r), a6, a7, a8] st h Q = wp S d 34 7 [a0, a1, a2, a3, a4, some (.ref r), a6, a7, a8] (.ref r :: st) h Q := wp_p hc34 dX0_mix_5 rfl
theorem e34_7 : wp S d 34 7 [a0, a1, a2, a3, a4, a5, a6, a7, a8] (.ref r :: st) h Q = am_alK h r (fun n => wp S d 34 8 [a0, a1, a2, a3, a4, a5, a6, a7, a8] (.int (nI n) :: st) h Q) := wp_al hc34 dX0_mix_7
theorem e34_8 : wp S d 34 8 [a0, a1, a2, a3, a4, a5, a6, a7, a8] (.int x :: st) h Q = wp S d 34 10 [a0, a1, a2, a3, a4, a5, some (.int x), a7, a8] st h Q := wp_p hc34 dX0_mix_8 rfl
theorem e34_10 : wp S d 34 10 [a0, a1, a2, a3, a4, a5, a6, a7, a8] st h Q = wp S d 34 11 [a0, a1, a2, a3, a4, a5, a6, a7, a8] (.int (nI 0) :: st) h Q := wp_p hc34 dX0_mix_10 rfl
theorem e34_11 : wp S d 34 11 [a0, a1, a2, a3, a4, a5, a6, a7, a8] (.int x :: st) h Q = wp S d 34 13 [a0, a1, a2, a3, a4, a5, a6, some (.int x), a8] st h Q := wp_p hc34 dX0_mix_11 rfl
theorem e34_13 : wp S d 34 13 [a0, a1, a2, a3, a4, a5, a6, some (.int x), a8] st h Q = wp S d 34 15 [a0, a1, a2, a3, a4, a5, a6, some (.int x), a8] (.int x :: st) h Q := wp_p hc34 dX0_mix_13 rfl
theorem e34_15 : wp S d 34 15 [a0, a1, a2, a3, a4, a5, some (.int x), a7, a8] st h Q = wp S d 34 17 [a0, a1, a2, a3, a4, a5, some (.int x), a7, a8] (.int x :: st) h Q := wp_p hc34 dX0_mix_15 rfl
theorem e34_17 : wp S d 34 17 [a0, a1, a2, a3, a4, a5, a6, a7, a8] (.int y :: .int x :: st) h Q = if y ≤ x then wp S d 34 43 [a0, a1, a2, a3, a4, a5, a6, a7, a8] st h Q else wp S d 34 20 [a0, a1, a2, a3, a4, a5, a6, a7, a8] st h Q := wp_ge hc34 dX0_mix_17 rfl
theorem e34_20 : wp S d 34 20 [a0, a1, a2, a3, a4, some (.ref r), a6, a7, a8] st h Q = wp S d 34 22 [a0, a1, a2, a3, a4, some (.ref r), a6, a7, a8] (.ref r :: st) h Q := wp_p hc34 dX0_mix_20 rfl
theorem e34_22 : wp S d 34 22 [a0, a1, a2, a3, a4, a5, a6, some (.int x), a8] st h Q = wp S d 34 24 [a0, a1, a2, a3, a4, a5, a6, some (.int x), a8] (.int x :: st) h Q := wp_p hc34 dX0_mix_22 rfl
theorem e34_24 : wp S d 34 24 [a0, a1, a2, a3, a4, a5, a6, a7, a8] (.int x :: .ref r :: st) h Q = am_iaK h r x (fun z => wp S d 34 25 [a0, a1, a2, a3, a4, a5, a6, a7, a8] (.int z :: st) h Q) := wp_ia hc34 dX0_mix_24
theorem e34_25 : wp S d 34 25 [a0, a1, a2, a3, a4, a5, a6, a7, a8] (.int x :: st) h Q = wp S d 34 27 [a0, a1, a2, a3, a4, a5, a6, a7, some (.int x)] st h Q := wp_p hc34 dX0_mix_25 rfl
theorem e34_27 : wp S d 34 27 [a0, a1, a2, a3, a4, a5, a6, a7, a8] st h Q = wp S d 34 30 [a0, a1, a2, a3, a4, a5, a6, a7, a8] (.long ((nI 31 : Int32).toInt64) :: st) h Q := wp_l2 hc34 dX0_mix_27 ho34 l20_203
theorem e34_30 : wp S d 34 30 [a0, a1, a2, some (.long u), a4, a5, a6, a7, a8] st h Q = wp S d 34 31 [a0, a1, a2, some (.long u), a4, a5, a6, a7, a8] (.long u :: st) h Q := wp_p hc34 dX0_mix_30 rfl
theorem e34_31 : wp S d 34 31 [a0, a1, a2, a3, a4, a5, a6, a7, a8] (.long v :: .long u :: st) h Q = wp S d 34 32 [a0, a1, a2, a3, a4, a5, a6, a7, a8] (.long (u * v) :: st) h Q := wp_p hc34 dX0_mix_31 rfl
theorem e34_32 : wp S d 34 32 [a0, a1, a2, a3, a4, a5, a6, a7, some (.int x)] st h Q = wp S d 34 34 [a0, a1, a2, a3, a4, a5, a6, a7, some (.int x)] (.int x :: st) h Q := wp_p hc34 dX0_mix_32 rfl
theorem e34_34 : wp S d 34 34 [a0, a1, a2, a3, a4, a5, a6, a7, a8] (.int x :: st) h Q = wp S d 34 35 [a0, a1, a2, a3, a4, a5, a6, a7, a8] (.long x.toInt64 :: st) h Q := wp_p hc34 dX0_mix_34 rfl
theorem e34_35 : wp S d 34 35 [a0, a1, a2, a3, a4, a5, a6, a7, a8] (.long v :: .long u :: st) h Q = wp S d 34 36 [a0, a1, a2, a3, a4, a5, a6, a7, a8] (.long (u + v) :: st) h Q := wp_p hc34 dX0_mix_35 rfl
theorem e34_36 : wp S d 34 36 [a0, a1, a2, a3, a4, a5, a6, a7, a8] (.long u :: st) h Q = wp S d 34 37 [a0, a1, a2, some (.long u), none, a5, a6, a7, a8] st h Q := wp_p hc34 dX0_mix_36 rfl
theorem e34_37 : wp S d 34 37 [a0, a1, a2, a3, a4, a5, a6, some (.int x), a8] st h Q = wp S d 34 40 [a0, a1, a2, a3, a4, a5, a6, some (.int (x + nI 1)), a8] st h Q := wp_p hc34 dX0_mix_37 rfl
theorem e34_40 : wp S d 34 40 [a0, a1, a2, a3, a4, a5, a6, a7, a8] st h Q = wp S d 34 13 [a0, a1, a2, a3, a4, a5, a6, a7, a8] st h Q := wp_p hc34 dX0_mix_40 rfl
theorem e34_43 : wp S d 34 43 [a0, a1, a2, some (.long u), a4, a5, a6, a7, a8] st h Q = wp S d 34 44 [a0, a1, a2, some (.long u), a4, a5, a6, a7, a8] (.long u :: st) h Q := wp_p hc34 dX0_mix_43 rfl
theorem e34_44 : wp S d 34 44 ls [.long u] h Q = Q (.inl (some (.long u)), h) := wp_r hc34 dX0_mix_44 rfl rfl ⟨u, rfl, rfl, rfl⟩
theorem e35_0 : wp S d 35 0 [some (.long u), a1, a2, a3, a4, a5, a6, a7, a8] st h Q = wp S d 35 1 [some (.long u), a1, a2, a3, a4, a5, a6, a7, a8] (.long u :: st) h Q := wp_p hc35 dX0_mixAll_0 rfl
theorem e35_1 : wp S d 35 1 [a0, a1, a2, a3, a4, a5, a6, a7, a8] (.long u :: st) h Q = wp S d 35 2 [a0, a1, a2, some (.long u), none, a5, a6, a7, a8] st h Q := wp_p hc35 dX0_mixAll_1 rfl
theorem e35_2 : wp S d 35 2 [a0, a1, some (.ref r), a3, a4, a5, a6, a7, a8] st h Q = wp S d 35 3 [a0, a1, some (.ref r), a3, a4, a5, a6, a7, a8] (.ref r :: st) h Q := wp_p hc35 dX0_mixAll_2 rfl
theorem e35_3 : wp S d 35 3 [a0, a1, a2, a3, a4, a5, a6, a7, a8] (.ref r :: st) h Q = wp S d 35 5 [a0, a1, a2, a3, a4, some (.ref r), a6, a7, a8] st h Q := wp_p hc35 dX0_mixAll_3 rfl
theorem e35_5 : wp S d 35 5 [a0, a1, a2, a3, a4, some (.ref r), a6, a7, a8] st h Q = wp S d 35 7 [a0, a1, a2, a3, a4, some (.ref r), a6, a7, a8] (.ref r :: st) h Q := wp_p hc35 dX0_mixAll_5 rfl
theorem e35_7 : wp S d 35 7 [a0, a1, a2, a3, a4, a5, a6, a7, a8] (.ref r :: st) h Q = am_alK h r (fun n => wp S d 35 8 [a0, a1, a2, a3, a4, a5, a6, a7, a8] (.int (nI n) :: st) h Q) := wp_al hc35 dX0_mixAll_7
theorem e35_8 : wp S d 35 8 [a0, a1, a2, a3, a4, a5, a6, a7, a8] (.int x :: st) h Q = wp S d 35 10 [a0, a1, a2, a3, a4, a5, some (.int x), a7, a8] st h Q := wp_p hc35 dX0_mixAll_8 rfl
theorem e35_10 : wp S d 35 10 [a0, a1, a2, a3, a4, a5, a6, a7, a8] st h Q = wp S d 35 11 [a0, a1, a2, a3, a4, a5, a6, a7, a8] (.int (nI 0) :: st) h Q := wp_p hc35 dX0_mixAll_10 rfl
theorem e35_11 : wp S d 35 11 [a0, a1, a2, a3, a4, a5, a6, a7, a8] (.int x :: st) h Q = wp S d 35 13 [a0, a1, a2, a3, a4, a5, a6, some (.int x), a8] st h Q := wp_p hc35 dX0_mixAll_11 rfl
theorem e35_13 : wp S d 35 13 [a0, a1, a2, a3, a4, a5, a6, some (.int x), a8] st h Q = wp S d 35 15 [a0, a1, a2, a3, a4, a5, a6, some (.int x), a8] (.int x :: st) h Q := wp_p hc35 dX0_mixAll_13 rfl
theorem e35_15 : wp S d 35 15 [a0, a1, a2, a3, a4, a5, some (.int x), a7, a8] st h Q = wp S d 35 17 [a0, a1, a2, a3, a4, a5, some (.int x), a7, a8] (.int x :: st) h Q := wp_p hc35 dX0_mixAll_15 rfl
theorem e35_17 : wp S d 35 17 [a0, a1, a2, a3, a4, a5, a6, a7, a8] (.int y :: .int x :: st) h Q = if y ≤ x then wp S d 35 73 [a0, a1, a2, a3, a4, a5, a6, a7, a8] st h Q else wp S d 35 20 [a0, a1, a2, a3, a4, a5, a6, a7, a8] st h Q := wp_ge hc35 dX0_mixAll_17 rfl
theorem e35_20 : wp S d 35 20 [a0, a1, a2, a3, a4, some (.ref r), a6, a7, a8] st h Q = wp S d 35 22 [a0, a1, a2, a3, a4, some (.ref r), a6, a7, a8] (.ref r :: st) h Q := wp_p hc35 dX0_mixAll_20 rfl
theorem e35_22 : wp S d 35 22 [a0, a1, a2, a3, a4, a5, a6, some (.int x), a8] st h Q = wp S d 35 24 [a0, a1, a2, a3, a4, a5, a6, some (.int x), a8] (.int x :: st) h Q := wp_p hc35 dX0_mixAll_22 rfl
theorem e35_24 : wp S d 35 24 [a0, a1, a2, a3, a4, a5, a6, a7, a8] (.int x :: .ref r :: st) h Q = am_aaK h r x (fun w => wp S d 35 25 [a0, a1, a2, a3, a4, a5, a6, a7, a8] (w :: st) h Q) := wp_aa hc35 dX0_mixAll_24
theorem e35_25 : wp S d 35 25 [a0, a1, a2, a3, a4, a5, a6, a7, a8] (.ref r :: st) h Q = wp S d 35 27 [a0, a1, a2, a3, a4, a5, a6, a7, some (.ref r)] st h Q := wp_p hc35 dX0_mixAll_25 rfl
theorem e35_27 : wp S d 35 27 [a0, a1, a2, some (.long u), a4, a5, a6, a7, a8] st h Q = wp S d 35 28 [a0, a1, a2, some (.long u), a4, a5, a6, a7, a8] (.long u :: st) h Q := wp_p hc35 dX0_mixAll_27 rfl
theorem e35_28 : wp S d 35 28 [a0, a1, a2, a3, a4, a5, a6, a7, a8] st h Q = wp S d 35 29 [a0, a1, a2, a3, a4, a5, a6, a7, a8] (.int (nI 3) :: st) h Q := wp_p hc35 dX0_mixAll_28 rfl
theorem e35_29 : wp S d 35 29 [a0, a1, a2, a3, a4, a5, a6, a7, a8] (.int x :: st) h Q = (¬ x < 0 ∧ x.toNatClampNeg ≤ 1000000 ∧ wp S d 35 31 [a0, a1, a2, a3, a4, a5, a6, a7, a8] (.ref h.length :: st) (h ++ [.inl (0, x.toNatClampNeg, fun _ => 0)]) Q) := wp_na0 hc35 dX0_mixAll_29
theorem e35_31 : wp S d 35 31 [a0, a1, a2, a3, a4, a5, a6, a7, a8] (.ref r :: st) h Q = wp S d 35 32 [a0, a1, a2, a3, a4, a5, a6, a7, a8] (.ref r :: .ref r :: st) h Q := wp_p hc35 dX0_mixAll_31 rfl
theorem e35_31i : wp S d 35 31 [a0, a1, a2, a3, a4, a5, a6, a7, a8] (.int x :: st) h Q = wp S d 35 32 [a0, a1, a2, a3, a4, a5, a6, a7, a8] (.int x :: .int x :: st) h Q := wp_p hc35 dX0_mixAll_31 rfl
theorem e35_32 : wp S d 35 32 [a0, a1, a2, a3, a4, a5, a6, a7, a8] st h Q = wp S d 35 33 [a0, a1, a2, a3, a4, a5, a6, a7, a8] (.int (nI 0) :: st) h Q := wp_p hc35 dX0_mixAll_32 rfl
theorem e35_33 : wp S d 35 33 [a0, a1, a2, a3, a4, a5, a6, a7, some (.ref r)] st h Q = wp S d 35 35 [a0, a1, a2, a3, a4, a5, a6, a7, some (.ref r)] (.ref r :: st) h Q := wp_p hc35 dX0_mixAll_33 rfl
theorem e35_35 : wp S d 35 35 [a0, a1, a2, a3, a4, a5, a6, a7, a8] (.ref r :: st) h Q = am_gfK h r 3 0 (fun w => wp S d 35 38 [a0, a1, a2, a3, a4, a5, a6, a7, a8] (w :: st) h Q) := wp_gf hc35 dX0_mixAll_35 ho35 fl0_66
theorem e35_38 : wp S d 35 38 [a0, a1, a2, a3, a4, a5, a6, a7, a8] (.int y :: .int x :: .ref r :: st) h Q = am_isK h r x y (fun h => wp S d 35 39 [a0, a1, a2, a3, a4, a5, a6, a7, a8] st h Q) := wp_is hc35 dX0_mixAll_38
theorem e35_39 : wp S d 35 39 [a0, a1, a2, a3, a4, a5, a6, a7, a8] (.ref r :: st) h Q = wp S d 35 40 [a0, a1, a2, a3, a4, a5, a6, a7, a8] (.ref r :: .ref r :: st) h Q := wp_p hc35 dX0_mixAll_39 rfl
theorem e35_39i : wp S d 35 39 [a0, a1, a2, a3, a4, a5, a6, a7, a8] (.int x :: st) h Q = wp S d 35 40 [a0, a1, a2, a3, a4, a5, a6, a7, a8] (.int x :: .int x :: st) h Q := wp_p hc35 dX0_mixAll_39 rfl
theorem e35_40 : wp S d 35 40 [a0, a1, a2, a3, a4, a5, a6, a7, a8] st h Q = wp S d 35 41 [a0, a1, a2, a3, a4, a5, a6, a7, a8] (.int (nI 1) :: st) h Q := wp_p hc35 dX0_mixAll_40 rfl
theorem e35_41 : wp S d 35 41 [a0, a1, a2, a3, a4, a5, a6, a7, some (.ref r)] st h Q = wp S d 35 43 [a0, a1, a2, a3, a4, a5, a6, a7, some (.ref r)] (.ref r :: st) h Q := wp_p hc35 dX0_mixAll_41 rfl
theorem e35_43 : wp S d 35 43 [a0, a1, a2, a3, a4, a5, a6, a7, a8] (.ref r :: st) h Q = am_gfK h r 3 1 (fun w => wp S d 35 46 [a0, a1, a2, a3, a4, a5, a6, a7, a8] (w :: st) h Q) := wp_gf hc35 dX0_mixAll_43 ho35 fl0_205
theorem e35_46 : wp S d 35 46 [a0, a1, a2, a3, a4, a5, a6, a7, a8] (.int y :: .int x :: .ref r :: st) h Q = am_isK h r x y (fun h => wp S d 35 47 [a0, a1, a2, a3, a4, a5, a6, a7, a8] st h Q) := wp_is hc35 dX0_mixAll_46
theorem e35_47 : wp S d 35 47 [a0, a1, a2, a3, a4, a5, a6, a7, a8] (.ref r :: st) h Q = wp S d 35 48 [a0, a1, a2, a3, a4, a5, a6, a7, a8] (.ref r :: .ref r :: st) h Q := wp_p hc35 dX0_mixAll_47 rfl
theorem e35_47i : wp S d 35 47 [a0, a1, a2, a3, a4, a5, a6, a7, a8] (.int x :: st) h Q = wp S d 35 48 [a0, a1, a2, a3, a4, a5, a6, a7, a8] (.int x :: .int x :: st) h Q := wp_p hc35 dX0_mixAll_47 rfl
theorem e35_48 : wp S d 35 48 [a0, a1, a2, a3, a4, a5, a6, a7, a8] st h Q = wp S d 35 49 [a0, a1, a2, a3, a4, a5, a6, a7, a8] (.int (nI 2) :: st) h Q := wp_p hc35 dX0_mixAll_48 rfl
theorem e35_49 : wp S d 35 49 [a0, a1, a2, a3, a4, a5, a6, a7, some (.ref r)] st h Q = wp S d 35 51 [a0, a1, a2, a3, a4, a5, a6, a7, some (.ref r)] (.ref r :: st) h Q := wp_p hc35 dX0_mixAll_49 rfl
theorem e35_51 : wp S d 35 51 [a0, a1, a2, a3, a4, a5, a6, a7, a8] (.ref r :: st) h Q = am_gfK h r 3 2 (fun w => wp S d 35 54 [a0, a1, a2, a3, a4, a5, a6, a7, a8] (w :: st) h Q) := wp_gf hc35 dX0_mixAll_51 ho35 fl0_208
theorem e35_54 : wp S d 35 54 [a0, a1, a2, a3, a4, a5, a6, a7, a8] (.int y :: .int x :: .ref r :: st) h Q = am_isK h r x y (fun h => wp S d 35 55 [a0, a1, a2, a3, a4, a5, a6, a7, a8] st h Q) := wp_is hc35 dX0_mixAll_54
theorem e35_55 : wp S (d + 1) 35 55 [a0, a1, a2, a3, a4, a5, a6, a7, a8] (.ref r2 :: .long u1 :: st) h Q = (am_w8 st ∧ wp S d 34 0 [some (.long u1), none, some (.ref r2), none, none, none, none, none, none] [] h (am_kr S 0 (d + 1) 35 55 [a0, a1, a2, a3, a4, a5, a6, a7, a8] st Q)) := wp_cS [.long u1, .ref r2] hc35 dX0_mixAll_55 ho35 cl0_211 (by decide) ns0_211 hst34 hnp34 hml34 hlsl34 rfl rfl rfl
theorem e35_58 : wp S d 35 58 [a0, a1, a2, a3, a4, a5, a6, a7, some (.ref r)] st h Q = wp S d 35 60 [a0, a1, a2, a3, a4, a5, a6, a7, some (.ref r)] (.ref r :: st) h Q := wp_p hc35 dX0_mixAll_58 rfl
theorem e35_60 : wp S d 35 60 [a0, a1, a2, a3, a4, a5, a6, a7, a8] (.ref r :: st) h Q = am_gfK h r 3 3 (fun w => wp S d 35 63 [a0, a1, a2, a3, a4, a5, a6, a7, a8] (w :: st) h Q) := wp_gf hc35 dX0_mixAll_60 ho35 fl0_215
theorem e35_63 : wp S (d + 1) 35 63 [a0, a1, a2, a3, a4, a5, a6, a7, a8] (.ref r2 :: .long u1 :: st) h Q = (am_w8 st ∧ wp S d 34 0 [some (.long u1), none, some (.ref r2), none, none, none, none, none, none] [] h (am_kr S 0 (d + 1) 35 63 [a0, a1, a2, a3, a4, a5, a6, a7, a8] st Q)) := wp_cS [.long u1, .ref r2] hc35 dX0_mixAll_63 ho35 cl0_211 (by decide) ns0_211 hst34 hnp34 hml34 hlsl34 rfl rfl rfl
theorem e35_66 : wp S d 35 66 [a0, a1, a2, a3, a4, a5, a6, a7, a8] (.long u :: st) h Q = wp S d 35 67 [a0, a1, a2, some (.long u), none, a5, a6, a7, a8] st h Q := wp_p hc35 dX0_mixAll_66 rfl
theorem e35_67 : wp S d 35 67 [a0, a1, a2, a3, a4, a5, a6, some (.int x), a8] st h Q = wp S d 35 70 [a0, a1, a2, a3, a4, a5, a6, some (.int (x + nI 1)), a8] st h Q := wp_p hc35 dX0_mixAll_67 rfl
theorem e35_70 : wp S d 35 70 [a0, a1, a2, a3, a4, a5, a6, a7, a8] st h Q = wp S d 35 13 [a0, a1, a2, a3, a4, a5, a6, a7, a8] st h Q := wp_p hc35 dX0_mixAll_70 rfl
theorem e35_73 : wp S d 35 73 [a0, a1, a2, some (.long u), a4, a5, a6, a7, a8] st h Q = wp S d 35 74 [a0, a1, a2, some (.long u), a4, a5, a6, a7, a8] (.long u :: st) h Q := wp_p hc35 dX0_mixAll_73 rfl
theorem e35_74 : wp S d 35 74 ls [.long u] h Q = Q (.inl (some (.long u)), h) := wp_r hc35 dX0_mixAll_74 rfl rfl ⟨u, rfl, rfl, rfl⟩
theorem e36_0 : wp S d 36 0 [some (.ref r)] st h Q = wp S d 36 1 [some (.ref r)] (.ref r :: st) h Q := wp_p hc36 dX1_init_0 rfl
theorem e36_1 : wp S (d + 1) 36 1 [a0] (.ref r :: st) h Q = (am_w8 st ∧ wp S (d + 1) 36 4 [a0] st h Q) := wp_oi hc36 dX1_init_1 ho36 sp1_3 nc1_3
theorem e36_4 : wp S d 36 4 [some (.ref r)] st h Q = wp S d 36 5 [some (.ref r)] (.ref r :: st) h Q := wp_p hc36 dX1_init_4 rfl
theorem e36_5 : wp S d 36 5 [a0] st h Q = wp S d 36 7 [a0] (.int (nI 6) :: st) h Q := wp_p hc36 dX1_init_5 rfl
theorem e36_7 : wp S d 36 7 [a0] (.int x :: st) h Q = (¬ x < 0 ∧ x.toNatClampNeg ≤ 1000000 ∧ wp S d 36 10 [a0] (.ref h.length :: st) (h ++ [.inr (.inl (0, x.toNatClampNeg, fun _ => none))]) Q) := wp_nr hc36 dX1_init_7 ho36 nr1_9
theorem e36_10 : wp S d 36 10 [a0] (w :: .ref r :: st) h Q = am_pfK 36 h r 1 0 false w (fun h => wp S d 36 13 [a0] st h Q) := wp_pf hc36 dX1_init_10 ho36 fl1_11
theorem e36_13 : wp S d 36 13 [some (.ref r)] st h Q = wp S d 36 14 [some (.ref r)] (.ref r :: st) h Q := wp_p hc36 dX1_init_13 rfl
theorem e36_14 : wp S d 36 14 [a0] st h Q = wp S d 36 16 [a0] (.int (nI 6) :: st) h Q := wp_p hc36 dX1_init_14 rfl
theorem e36_16 : wp S d 36 16 [a0] (.int x :: st) h Q = (¬ x < 0 ∧ x.toNatClampNeg ≤ 1000000 ∧ wp S d 36 19 [a0] (.ref h.length :: st) (h ++ [.inr (.inl (0, x.toNatClampNeg, fun _ => none))]) Q) := wp_nr hc36 dX1_init_16 ho36 nr1_9
theorem e36_19 : wp S d 36 19 [a0] (w :: .ref r :: st) h Q = am_pfK 36 h r 1 1 false w (fun h => wp S d 36 22 [a0] st h Q) := wp_pf hc36 dX1_init_19 ho36 fl1_17
theorem e36_22 : wp S d 36 22 [some (.ref r)] st h Q = wp S d 36 23 [some (.ref r)] (.ref r :: st) h Q := wp_p hc36 dX1_init_22 rfl
theorem e36_23 : wp S d 36 23 [a0] st h Q = wp S d 36 24 [a0] (.int (nI 4) :: st) h Q := wp_p hc36 dX1_init_23 rfl
theorem e36_24 : wp S d 36 24 [a0] (.int x :: st) h Q = (¬ x < 0 ∧ x.toNatClampNeg ≤ 1000000 ∧ wp S d 36 27 [a0] (.ref h.length :: st) (h ++ [.inr (.inl (0, x.toNatClampNeg, fun _ => none))]) Q) := wp_nr hc36 dX1_init_24 ho36 nr1_9
theorem e36_27 : wp S d 36 27 [a0] (w :: .ref r :: st) h Q = am_pfK 36 h r 1 2 false w (fun h => wp S d 36 30 [a0] st h Q) := wp_pf hc36 dX1_init_27 ho36 fl1_20
theorem e36_30 : wp S d 36 30 [some (.ref r)] st h Q = wp S d 36 31 [some (.ref r)] (.ref r :: st) h Q := wp_p hc36 dX1_init_30 rfl
theorem e36_31 : wp S d 36 31 [a0] st h Q = wp S d 36 33 [a0] (.int (nI 6) :: st) h Q := wp_p hc36 dX1_init_31 rfl
theorem e36_33 : wp S d 36 33 [a0] (.int x :: st) h Q = (¬ x < 0 ∧ x.toNatClampNeg ≤ 1000000 ∧ wp S d 36 35 [a0] (.ref h.length :: st) (h ++ [.inl (0, x.toNatClampNeg, fun _ => 0)]) Q) := wp_na0 hc36 dX1_init_33
theorem e36_35 : wp S d 36 35 [a0] (w :: .ref r :: st) h Q = am_pfK 36 h r 1 4 false w (fun h => wp S d 36 38 [a0] st h Q) := wp_pf hc36 dX1_init_35 ho36 fl1_23
theorem e36_38 : wp S d 36 38 [some (.ref r)] st h Q = wp S d 36 39 [some (.ref r)] (.ref r :: st) h Q := wp_p hc36 dX1_init_38 rfl
theorem e36_39 : wp S d 36 39 [a0] st h Q = wp S d 36 41 [a0] (.int (nI 6) :: st) h Q := wp_p hc36 dX1_init_39 rfl
theorem e36_41 : wp S d 36 41 [a0] (.int x :: st) h Q = (¬ x < 0 ∧ x.toNatClampNeg ≤ 1000000 ∧ wp S d 36 44 [a0] (.ref h.length :: st) (h ++ [.inr (.inl (1, x.toNatClampNeg, fun _ => none))]) Q) := wp_nr hc36 dX1_init_41 ho36 nr1_27
theorem e36_44 : wp S d 36 44 [a0] (w :: .ref r :: st) h Q = am_pfK 36 h r 1 5 false w (fun h => wp S d 36 47 [a0] st h Q) := wp_pf hc36 dX1_init_44 ho36 fl1_29
theorem e36_47 : wp S d 36 47 [some (.ref r)] st h Q = wp S d 36 48 [some (.ref r)] (.ref r :: st) h Q := wp_p hc36 dX1_init_47 rfl
theorem e36_48 : wp S d 36 48 [a0] st h Q = wp S d 36 51 [a0] (.ref h.length :: st) (h ++ [.inr (.inr (2, am_dft 2))]) Q := wp_nw hc36 dX1_init_48 ho36 nw1_33
theorem e36_51 : wp S d 36 51 [a0] (.ref r :: st) h Q = wp S d 36 52 [a0] (.ref r :: .ref r :: st) h Q := wp_p hc36 dX1_init_51 rfl
theorem e36_51i : wp S d 36 51 [a0] (.int x :: st) h Q = wp S d 36 52 [a0] (.int x :: .int x :: st) h Q := wp_p hc36 dX1_init_51 rfl
theorem e36_52 : wp S d 36 52 [a0] st h Q = wp S d 36 53 [a0] (.int (nI 0) :: st) h Q := wp_p hc36 dX1_init_52 rfl
theorem e36_53 : wp S d 36 53 [a0] st h Q = wp S d 36 54 [a0] (.int (nI 0) :: st) h Q := wp_p hc36 dX1_init_53 rfl
theorem e36_54 : wp S d 36 54 [a0] st h Q = wp S d 36 55 [a0] (.int (nI 0) :: st) h Q := wp_p hc36 dX1_init_54 rfl
theorem e36_55 : wp S d 36 55 [a0] (.int x :: st) h Q = (¬ x < 0 ∧ x.toNatClampNeg ≤ 1000000 ∧ wp S d 36 58 [a0] (.ref h.length :: st) (h ++ [.inr (.inl (2, x.toNatClampNeg, fun _ => none))]) Q) := wp_nr hc36 dX1_init_55 ho36 nr1_33
theorem e36_58 : wp S (d + 1) 36 58 [a0] (.ref r3 :: .int x2 :: .int x1 :: .ref r0 :: st) h Q = (am_w8 st ∧ am_rcv h 4 42 (.ref r0) = true ∧ wp S d 42 0 [some (.ref r0), some (.int x1), some (.int x2), some (.ref r3), none, none, none, none, none] [] h (am_kr S 4 (d + 1) 36 58 [a0] st Q)) := wp_cI (.ref r0) [.int x1, .int x2, .ref r3] hc36 dX1_init_58 ho36 cl1_35 (by decide) ns1_35 hst42 hnp42 hml42 hlsl42 rfl rfl rfl
theorem e36_61 : wp S d 36 61 [a0] (w :: .ref r :: st) h Q = am_pfK 36 h r 1 7 false w (fun h => wp S d 36 64 [a0] st h Q) := wp_pf hc36 dX1_init_61 ho36 fl1_38
theorem e36_64 : wp S d 36 64 [some (.ref r)] st h Q = wp S d 36 65 [some (.ref r)] (.ref r :: st) h Q := wp_p hc36 dX1_init_64 rfl
theorem e36_65 : wp S d 36 65 [a0] st h Q = wp S d 36 67 [a0] (.int (nI 8) :: st) h Q := wp_p hc36 dX1_init_65 rfl
theorem e36_67 : wp S d 36 67 [a0] (.int x :: st) h Q = (¬ x < 0 ∧ x.toNatClampNeg ≤ 1000000 ∧ wp S d 36 69 [a0] (.ref h.length :: st) (h ++ [.inl (0, x.toNatClampNeg, fun _ => 0)]) Q) := wp_na0 hc36 dX1_init_67
theorem e36_69 : wp S d 36 69 [a0] (w :: .ref r :: st) h Q = am_pfK 36 h r 1 8 false w (fun h => wp S d 36 72 [a0] st h Q) := wp_pf hc36 dX1_init_69 ho36 fl1_42
theorem e36_72 : wp S d 36 72 [some (.ref r)] st h Q = wp S d 36 73 [some (.ref r)] (.ref r :: st) h Q := wp_p hc36 dX1_init_72 rfl
theorem e36_73 : wp S d 36 73 [a0] (.ref r :: st) h Q = am_gfK h r 1 0 (fun w => wp S d 36 76 [a0] (w :: st) h Q) := wp_gf hc36 dX1_init_73 ho36 fl1_11
theorem e36_76 : wp S d 36 76 [a0] st h Q = wp S d 36 79 [a0] (.ref h.length :: st) (h ++ [.inr (.inr (3, am_dft 3))]) Q := wp_nw hc36 dX1_init_76 ho36 nw1_9
theorem e36_79 : wp S d 36 79 [a0] (.ref r :: st) h Q = wp S d 36 80 [a0] (.ref r :: .ref r :: st) h Q := wp_p hc36 dX1_init_79 rfl
theorem e36_79i : wp S d 36 79 [a0] (.int x :: st) h Q = wp S d 36 80 [a0] (.int x :: .int x :: st) h Q := wp_p hc36 dX1_init_79 rfl
theorem e36_80 : wp S (d + 1) 36 80 [a0] (.ref r0 :: st) h Q = (am_w8 st ∧ am_rcv h 4 45 (.ref r0) = true ∧ wp S d 45 0 [some (.ref r0)] [] h (am_kr S 4 (d + 1) 36 80 [a0] st Q)) := wp_cI (.ref r0) [] hc36 dX1_init_80 ho36 cl1_45 (by decide) ns1_45 hst45 hnp45 hml45 hlsl45 rfl rfl rfl
theorem e36_83 : wp S (d + 1) 36 83 [a0] (.ref r2 :: .ref r1 :: st) h Q = (am_w8 st ∧ wp S d 137 0 [some (.ref r1), some (.ref r2), none, none] [] h (am_kr S 0 (d + 1) 36 83 [a0] st Q)) := wp_cS [.ref r1, .ref r2] hc36 dX1_init_83 ho36 cl1_46 (by decide) ns1_46 hst137 hnp137 hml137 hlsl137 rfl rfl rfl
theorem e36_86 : wp S d 36 86 [some (.ref r)] st h Q = wp S d 36 87 [some (.ref r)] (.ref r :: st) h Q := wp_p hc36 dX1_init_86 rfl
theorem e36_87 : wp S d 36 87 [a0] (.ref r :: st) h Q = am_gfK h r 1 1 (fun w => wp S d 36 90 [a0] (w :: st) h Q) := wp_gf hc36 dX1_init_87 ho36 fl1_17
theorem e36_90 : wp S d 36 90 [a0] st h Q = wp S d 36 93 [a0] (.ref h.length :: st) (h ++ [.inr (.inr (3, am_dft 3))]) Q := wp_nw hc36 dX1_init_90 ho36 nw1_9
theorem e36_93 : wp S d 36 93 [a0] (.ref r :: st) h Q = wp S d 36 94 [a0] (.ref r :: .ref r :: st) h Q := wp_p hc36 dX1_init_93 rfl
theorem e36_93i : wp S d 36 93 [a0] (.int x :: st) h Q = wp S d 36 94 [a0] (.int x :: .int x :: st) h Q := wp_p hc36 dX1_init_93 rfl
theorem e36_94 : wp S (d + 1) 36 94 [a0] (.ref r0 :: st) h Q = (am_w8 st ∧ am_rcv h 4 45 (.ref r0) = true ∧ wp S d 45 0 [some (.ref r0)] [] h (am_kr S 4 (d + 1) 36 94 [a0] st Q)) := wp_cI (.ref r0) [] hc36 dX1_init_94 ho36 cl1_45 (by decide) ns1_45 hst45 hnp45 hml45 hlsl45 rfl rfl rfl
theorem e36_97 : wp S (d + 1) 36 97 [a0] (.ref r2 :: .ref r1 :: st) h Q = (am_w8 st ∧ wp S d 137 0 [some (.ref r1), some (.ref r2), none, none] [] h (am_kr S 0 (d + 1) 36 97 [a0] st Q)) := wp_cS [.ref r1, .ref r2] hc36 dX1_init_97 ho36 cl1_46 (by decide) ns1_46 hst137 hnp137 hml137 hlsl137 rfl rfl rfl
theorem e36_100 : wp S d 36 100 [some (.ref r)] st h Q = wp S d 36 101 [some (.ref r)] (.ref r :: st) h Q := wp_p hc36 dX1_init_100 rfl
theorem e36_101 : wp S d 36 101 [a0] (.ref r :: st) h Q = am_gfK h r 1 4 (fun w => wp S d 36 104 [a0] (w :: st) h Q) := wp_gf hc36 dX1_init_101 ho36 fl1_23
theorem e36_104 : wp S d 36 104 [a0] st h Q = wp S d 36 105 [a0] (.int ((-1)) :: st) h Q := wp_p hc36 dX1_init_104 rfl
theorem e36_105 : wp S (d + 1) 36 105 [a0] (.int x2 :: .ref r1 :: st) h Q = (am_w8 st ∧ wp S d 138 0 [some (.ref r1), some (.int x2), none, none] [] h (am_kr S 0 (d + 1) 36 105 [a0] st Q)) := wp_cS [.ref r1, .int x2] hc36 dX1_init_105 ho36 cl1_52 (by decide) ns1_52 hst138 hnp138 hml138 hlsl138 rfl rfl rfl
theorem e36_108 : wp S d 36 108 ls [] h Q = Q (.inl none, h) := wp_r hc36 dX1_init_108 rfl rfl ⟨rfl, rfl, rfl⟩
theorem e37_0 : wp S d 37 0 [a0, some (.ref r)] st h Q = wp S d 37 1 [a0, some (.ref r)] (.ref r :: st) h Q := wp_p hc37 dX1_copyFrom_0 rfl
theorem e37_1 : wp S d 37 1 [a0, a1] (.ref r :: st) h Q = am_gfK h r 1 0 (fun w => wp S d 37 4 [a0, a1] (w :: st) h Q) := wp_gf hc37 dX1_copyFrom_1 ho37 fl1_11
theorem e37_4 : wp S d 37 4 [a0, a1] st h Q = wp S d 37 5 [a0, a1] (.int (nI 0) :: st) h Q := wp_p hc37 dX1_copyFrom_4 rfl
theorem e37_5 : wp S d 37 5 [some (.ref r), a1] st h Q = wp S d 37 6 [some (.ref r), a1] (.ref r :: st) h Q := wp_p hc37 dX1_copyFrom_5 rfl
theorem e37_6 : wp S d 37 6 [a0, a1] (.ref r :: st) h Q = am_gfK h r 1 0 (fun w => wp S d 37 9 [a0, a1] (w :: st) h Q) := wp_gf hc37 dX1_copyFrom_6 ho37 fl1_11
theorem e37_9 : wp S d 37 9 [a0, a1] st h Q = wp S d 37 10 [a0, a1] (.int (nI 0) :: st) h Q := wp_p hc37 dX1_copyFrom_9 rfl
theorem e37_10 : wp S d 37 10 [a0, a1] st h Q = wp S d 37 12 [a0, a1] (.int (nI 6) :: st) h Q := wp_p hc37 dX1_copyFrom_10 rfl
theorem e37_12 : wp S (d + 1) 37 12 [a0, a1] st h Q = am_cpK st h (fun st h => wp S (d + 1) 37 15 [a0, a1] st h Q) := wp_cp hc37 dX1_copyFrom_12 ho37 sp1_55 nc1_55
theorem e37_15 : wp S d 37 15 [a0, some (.ref r)] st h Q = wp S d 37 16 [a0, some (.ref r)] (.ref r :: st) h Q := wp_p hc37 dX1_copyFrom_15 rfl
theorem e37_16 : wp S d 37 16 [a0, a1] (.ref r :: st) h Q = am_gfK h r 1 1 (fun w => wp S d 37 19 [a0, a1] (w :: st) h Q) := wp_gf hc37 dX1_copyFrom_16 ho37 fl1_17
theorem e37_19 : wp S d 37 19 [a0, a1] st h Q = wp S d 37 20 [a0, a1] (.int (nI 0) :: st) h Q := wp_p hc37 dX1_copyFrom_19 rfl
theorem e37_20 : wp S d 37 20 [some (.ref r), a1] st h Q = wp S d 37 21 [some (.ref r), a1] (.ref r :: st) h Q := wp_p hc37 dX1_copyFrom_20 rfl
theorem e37_21 : wp S d 37 21 [a0, a1] (.ref r :: st) h Q = am_gfK h r 1 1 (fun w => wp S d 37 24 [a0, a1] (w :: st) h Q) := wp_gf hc37 dX1_copyFrom_21 ho37 fl1_17
theorem e37_24 : wp S d 37 24 [a0, a1] st h Q = wp S d 37 25 [a0, a1] (.int (nI 0) :: st) h Q := wp_p hc37 dX1_copyFrom_24 rfl
theorem e37_25 : wp S d 37 25 [a0, a1] st h Q = wp S d 37 27 [a0, a1] (.int (nI 6) :: st) h Q := wp_p hc37 dX1_copyFrom_25 rfl
theorem e37_27 : wp S (d + 1) 37 27 [a0, a1] st h Q = am_cpK st h (fun st h => wp S (d + 1) 37 30 [a0, a1] st h Q) := wp_cp hc37 dX1_copyFrom_27 ho37 sp1_55 nc1_55
theorem e37_30 : wp S d 37 30 [a0, some (.ref r)] st h Q = wp S d 37 31 [a0, some (.ref r)] (.ref r :: st) h Q := wp_p hc37 dX1_copyFrom_30 rfl
theorem e37_31 : wp S d 37 31 [a0, a1] (.ref r :: st) h Q = am_gfK h r 1 2 (fun w => wp S d 37 34 [a0, a1] (w :: st) h Q) := wp_gf hc37 dX1_copyFrom_31 ho37 fl1_20
theorem e37_34 : wp S d 37 34 [a0, a1] st h Q = wp S d 37 35 [a0, a1] (.int (nI 0) :: st) h Q := wp_p hc37 dX1_copyFrom_34 rfl
theorem e37_35 : wp S d 37 35 [some (.ref r), a1] st h Q = wp S d 37 36 [some (.ref r), a1] (.ref r :: st) h Q := wp_p hc37 dX1_copyFrom_35 rfl
theorem e37_36 : wp S d 37 36 [a0, a1] (.ref r :: st) h Q = am_gfK h r 1 2 (fun w => wp S d 37 39 [a0, a1] (w :: st) h Q) := wp_gf hc37 dX1_copyFrom_36 ho37 fl1_20
theorem e37_39 : wp S d 37 39 [a0, a1] st h Q = wp S d 37 40 [a0, a1] (.int (nI 0) :: st) h Q := wp_p hc37 dX1_copyFrom_39 rfl
theorem e37_40 : wp S d 37 40 [a0, a1] st h Q = wp S d 37 41 [a0, a1] (.int (nI 4) :: st) h Q := wp_p hc37 dX1_copyFrom_40 rfl
theorem e37_41 : wp S (d + 1) 37 41 [a0, a1] st h Q = am_cpK st h (fun st h => wp S (d + 1) 37 44 [a0, a1] st h Q) := wp_cp hc37 dX1_copyFrom_41 ho37 sp1_55 nc1_55
theorem e37_44 : wp S d 37 44 [some (.ref r), a1] st h Q = wp S d 37 45 [some (.ref r), a1] (.ref r :: st) h Q := wp_p hc37 dX1_copyFrom_44 rfl
theorem e37_45 : wp S d 37 45 [a0, some (.ref r)] st h Q = wp S d 37 46 [a0, some (.ref r)] (.ref r :: st) h Q := wp_p hc37 dX1_copyFrom_45 rfl
theorem e37_46 : wp S d 37 46 [a0, a1] (.ref r :: st) h Q = am_gfK h r 1 3 (fun w => wp S d 37 49 [a0, a1] (w :: st) h Q) := wp_gf hc37 dX1_copyFrom_46 ho37 fl1_61
theorem e37_49 : wp S d 37 49 [a0, a1] (w :: .ref r :: st) h Q = am_pfK 37 h r 1 3 false w (fun h => wp S d 37 52 [a0, a1] st h Q) := wp_pf hc37 dX1_copyFrom_49 ho37 fl1_61
theorem e37_52 : wp S d 37 52 [a0, some (.ref r)] st h Q = wp S d 37 53 [a0, some (.ref r)] (.ref r :: st) h Q := wp_p hc37 dX1_copyFrom_52 rfl
theorem e37_53 : wp S d 37 53 [a0, a1] (.ref r :: st) h Q = am_gfK h r 1 4 (fun w => wp S d 37 56 [a0, a1] (w :: st) h Q) := wp_gf hc37 dX1_copyFrom_53 ho37 fl1_23
theorem e37_56 : wp S d 37 56 [a0, a1] st h Q = wp S d 37 57 [a0, a1] (.int (nI 0) :: st) h Q := wp_p hc37 dX1_copyFrom_56 rfl
theorem e37_57 : wp S d 37 57 [some (.ref r), a1] st h Q = wp S d 37 58 [some (.ref r), a1] (.ref r :: st) h Q := wp_p hc37 dX1_copyFrom_57 rfl
theorem e37_58 : wp S d 37 58 [a0, a1] (.ref r :: st) h Q = am_gfK h r 1 4 (fun w => wp S d 37 61 [a0, a1] (w :: st) h Q) := wp_gf hc37 dX1_copyFrom_58 ho37 fl1_23
theorem e37_61 : wp S d 37 61 [a0, a1] st h Q = wp S d 37 62 [a0, a1] (.int (nI 0) :: st) h Q := wp_p hc37 dX1_copyFrom_61 rfl
theorem e37_62 : wp S d 37 62 [a0, a1] st h Q = wp S d 37 64 [a0, a1] (.int (nI 6) :: st) h Q := wp_p hc37 dX1_copyFrom_62 rfl
theorem e37_64 : wp S (d + 1) 37 64 [a0, a1] st h Q = am_cpK st h (fun st h => wp S (d + 1) 37 67 [a0, a1] st h Q) := wp_cp hc37 dX1_copyFrom_64 ho37 sp1_55 nc1_55
theorem e37_67 : wp S d 37 67 [a0, some (.ref r)] st h Q = wp S d 37 68 [a0, some (.ref r)] (.ref r :: st) h Q := wp_p hc37 dX1_copyFrom_67 rfl
theorem e37_68 : wp S d 37 68 [a0, a1] (.ref r :: st) h Q = am_gfK h r 1 5 (fun w => wp S d 37 71 [a0, a1] (w :: st) h Q) := wp_gf hc37 dX1_copyFrom_68 ho37 fl1_29
theorem e37_71 : wp S d 37 71 [a0, a1] st h Q = wp S d 37 72 [a0, a1] (.int (nI 0) :: st) h Q := wp_p hc37 dX1_copyFrom_71 rfl
theorem e37_72 : wp S d 37 72 [some (.ref r), a1] st h Q = wp S d 37 73 [some (.ref r), a1] (.ref r :: st) h Q := wp_p hc37 dX1_copyFrom_72 rfl
theorem e37_73 : wp S d 37 73 [a0, a1] (.ref r :: st) h Q = am_gfK h r 1 5 (fun w => wp S d 37 76 [a0, a1] (w :: st) h Q) := wp_gf hc37 dX1_copyFrom_73 ho37 fl1_29
theorem e37_76 : wp S d 37 76 [a0, a1] st h Q = wp S d 37 77 [a0, a1] (.int (nI 0) :: st) h Q := wp_p hc37 dX1_copyFrom_76 rfl
theorem e37_77 : wp S d 37 77 [a0, a1] st h Q = wp S d 37 79 [a0, a1] (.int (nI 6) :: st) h Q := wp_p hc37 dX1_copyFrom_77 rfl
theorem e37_79 : wp S (d + 1) 37 79 [a0, a1] st h Q = am_cpK st h (fun st h => wp S (d + 1) 37 82 [a0, a1] st h Q) := wp_cp hc37 dX1_copyFrom_79 ho37 sp1_55 nc1_55
theorem e37_82 : wp S d 37 82 [some (.ref r), a1] st h Q = wp S d 37 83 [some (.ref r), a1] (.ref r :: st) h Q := wp_p hc37 dX1_copyFrom_82 rfl
theorem e37_83 : wp S d 37 83 [a0, some (.ref r)] st h Q = wp S d 37 84 [a0, some (.ref r)] (.ref r :: st) h Q := wp_p hc37 dX1_copyFrom_83 rfl
theorem e37_84 : wp S d 37 84 [a0, a1] (.ref r :: st) h Q = am_gfK h r 1 6 (fun w => wp S d 37 87 [a0, a1] (w :: st) h Q) := wp_gf hc37 dX1_copyFrom_84 ho37 fl1_65
theorem e37_87 : wp S d 37 87 [a0, a1] (w :: .ref r :: st) h Q = am_pfK 37 h r 1 6 false w (fun h => wp S d 37 90 [a0, a1] st h Q) := wp_pf hc37 dX1_copyFrom_87 ho37 fl1_65
theorem e37_90 : wp S d 37 90 [some (.ref r), a1] st h Q = wp S d 37 91 [some (.ref r), a1] (.ref r :: st) h Q := wp_p hc37 dX1_copyFrom_90 rfl
theorem e37_91 : wp S d 37 91 [a0, some (.ref r)] st h Q = wp S d 37 92 [a0, some (.ref r)] (.ref r :: st) h Q := wp_p hc37 dX1_copyFrom_91 rfl
theorem e37_92 : wp S d 37 92 [a0, a1] (.ref r :: st) h Q = am_gfK h r 1 7 (fun w => wp S d 37 95 [a0, a1] (w :: st) h Q) := wp_gf hc37 dX1_copyFrom_92 ho37 fl1_38
theorem e37_95 : wp S d 37 95 [a0, a1] (w :: .ref r :: st) h Q = am_pfK 37 h r 1 7 false w (fun h => wp S d 37 98 [a0, a1] st h Q) := wp_pf hc37 dX1_copyFrom_95 ho37 fl1_38
theorem e37_98 : wp S d 37 98 [a0, some (.ref r)] st h Q = wp S d 37 99 [a0, some (.ref r)] (.ref r :: st) h Q := wp_p hc37 dX1_copyFrom_98 rfl
theorem e37_99 : wp S d 37 99 [a0, a1] (.ref r :: st) h Q = am_gfK h r 1 8 (fun w => wp S d 37 102 [a0, a1] (w :: st) h Q) := wp_gf hc37 dX1_copyFrom_99 ho37 fl1_42
theorem e37_102 : wp S d 37 102 [a0, a1] st h Q = wp S d 37 103 [a0, a1] (.int (nI 0) :: st) h Q := wp_p hc37 dX1_copyFrom_102 rfl
theorem e37_103 : wp S d 37 103 [some (.ref r), a1] st h Q = wp S d 37 104 [some (.ref r), a1] (.ref r :: st) h Q := wp_p hc37 dX1_copyFrom_103 rfl
theorem e37_104 : wp S d 37 104 [a0, a1] (.ref r :: st) h Q = am_gfK h r 1 8 (fun w => wp S d 37 107 [a0, a1] (w :: st) h Q) := wp_gf hc37 dX1_copyFrom_104 ho37 fl1_42
theorem e37_107 : wp S d 37 107 [a0, a1] st h Q = wp S d 37 108 [a0, a1] (.int (nI 0) :: st) h Q := wp_p hc37 dX1_copyFrom_107 rfl
theorem e37_108 : wp S d 37 108 [a0, a1] st h Q = wp S d 37 110 [a0, a1] (.int (nI 8) :: st) h Q := wp_p hc37 dX1_copyFrom_108 rfl
theorem e37_110 : wp S (d + 1) 37 110 [a0, a1] st h Q = am_cpK st h (fun st h => wp S (d + 1) 37 113 [a0, a1] st h Q) := wp_cp hc37 dX1_copyFrom_110 ho37 sp1_55 nc1_55
theorem e37_113 : wp S d 37 113 ls [] h Q = Q (.inl none, h) := wp_r hc37 dX1_copyFrom_113 rfl rfl ⟨rfl, rfl, rfl⟩
theorem e38_0 : wp S d 38 0 [some (.ref r), a1] st h Q = wp S d 38 1 [some (.ref r), a1] (.ref r :: st) h Q := wp_p hc38 dX1_isFaithful_0 rfl
theorem e38_1 : wp S d 38 1 [a0, a1] (.ref r :: st) h Q = am_gfK h r 1 5 (fun w => wp S d 38 4 [a0, a1] (w :: st) h Q) := wp_gf hc38 dX1_isFaithful_1 ho38 fl1_29
theorem e38_4 : wp S d 38 4 [a0, some (.int x)] st h Q = wp S d 38 5 [a0, some (.int x)] (.int x :: st) h Q := wp_p hc38 dX1_isFaithful_4 rfl
theorem e38_5 : wp S d 38 5 [a0, a1] (.int x :: .ref r :: st) h Q = am_aaK h r x (fun w => wp S d 38 6 [a0, a1] (w :: st) h Q) := wp_aa hc38 dX1_isFaithful_5
theorem e38_6 : wp S d 38 6 [a0, a1] (.ref r :: st) h Q = wp S d 38 9 [a0, a1] st h Q := wp_p hc38 dX1_isFaithful_6 rfl
theorem e38_6n : wp S d 38 6 [a0, a1] (.null :: st) h Q = wp S d 38 45 [a0, a1] st h Q := wp_p hc38 dX1_isFaithful_6 rfl
theorem e38_9 : wp S d 38 9 [some (.ref r), a1] st h Q = wp S d 38 10 [some (.ref r), a1] (.ref r :: st) h Q := wp_p hc38 dX1_isFaithful_9 rfl
theorem e38_10 : wp S d 38 10 [a0, a1] (.ref r :: st) h Q = am_gfK h r 1 5 (fun w => wp S d 38 13 [a0, a1] (w :: st) h Q) := wp_gf hc38 dX1_isFaithful_10 ho38 fl1_29
theorem e38_13 : wp S d 38 13 [a0, some (.int x)] st h Q = wp S d 38 14 [a0, some (.int x)] (.int x :: st) h Q := wp_p hc38 dX1_isFaithful_13 rfl
theorem e38_14 : wp S d 38 14 [a0, a1] (.int x :: .ref r :: st) h Q = am_aaK h r x (fun w => wp S d 38 15 [a0, a1] (w :: st) h Q) := wp_aa hc38 dX1_isFaithful_14
theorem e38_15 : wp S d 38 15 [some (.ref r), a1] st h Q = wp S d 38 16 [some (.ref r), a1] (.ref r :: st) h Q := wp_p hc38 dX1_isFaithful_15 rfl
theorem e38_16 : wp S d 38 16 [a0, a1] (.ref r :: st) h Q = am_gfK h r 1 0 (fun w => wp S d 38 19 [a0, a1] (w :: st) h Q) := wp_gf hc38 dX1_isFaithful_16 ho38 fl1_11
theorem e38_19 : wp S d 38 19 [a0, some (.int x)] st h Q = wp S d 38 20 [a0, some (.int x)] (.int x :: st) h Q := wp_p hc38 dX1_isFaithful_19 rfl
theorem e38_20 : wp S d 38 20 [a0, a1] (.int x :: .ref r :: st) h Q = am_aaK h r x (fun w => wp S d 38 21 [a0, a1] (w :: st) h Q) := wp_aa hc38 dX1_isFaithful_20
theorem e38_21 : wp S d 38 21 [some (.ref r), a1] st h Q = wp S d 38 22 [some (.ref r), a1] (.ref r :: st) h Q := wp_p hc38 dX1_isFaithful_21 rfl
theorem e38_22 : wp S d 38 22 [a0, a1] (.ref r :: st) h Q = am_gfK h r 1 1 (fun w => wp S d 38 25 [a0, a1] (w :: st) h Q) := wp_gf hc38 dX1_isFaithful_22 ho38 fl1_17
theorem e38_25 : wp S d 38 25 [some (.ref r), a1] st h Q = wp S d 38 26 [some (.ref r), a1] (.ref r :: st) h Q := wp_p hc38 dX1_isFaithful_25 rfl
theorem e38_26 : wp S d 38 26 [a0, a1] (.ref r :: st) h Q = am_gfK h r 1 5 (fun w => wp S d 38 29 [a0, a1] (w :: st) h Q) := wp_gf hc38 dX1_isFaithful_26 ho38 fl1_29
theorem e38_29 : wp S d 38 29 [a0, some (.int x)] st h Q = wp S d 38 30 [a0, some (.int x)] (.int x :: st) h Q := wp_p hc38 dX1_isFaithful_29 rfl
theorem e38_30 : wp S d 38 30 [a0, a1] (.int x :: .ref r :: st) h Q = am_aaK h r x (fun w => wp S d 38 31 [a0, a1] (w :: st) h Q) := wp_aa hc38 dX1_isFaithful_30
theorem e38_31 : wp S d 38 31 [a0, a1] (.ref r :: st) h Q = am_gfK h r 6 0 (fun w => wp S d 38 34 [a0, a1] (w :: st) h Q) := wp_gf hc38 dX1_isFaithful_31 ho38 fl1_98
theorem e38_34 : wp S d 38 34 [a0, a1] (.int x :: .ref r :: st) h Q = am_aaK h r x (fun w => wp S d 38 35 [a0, a1] (w :: st) h Q) := wp_aa hc38 dX1_isFaithful_34
theorem e38_35 : wp S (d + 1) 38 35 [a0, a1] (.ref r2 :: .ref r1 :: .ref r0 :: st) h Q = (am_w8 st ∧ am_rcv h 2 124 (.ref r0) = true ∧ wp S d 124 0 [some (.ref r0), some (.ref r1), some (.ref r2), none, none] [] h (am_kr S 2 (d + 1) 38 35 [a0, a1] st Q)) := wp_cV (.ref r0) [.ref r1, .ref r2] hc38 dX1_isFaithful_35 ho38 cl1_101 (by decide) ns1_101 hst124 hnp124 hml124 hlsl124 rfl rfl rfl
theorem e38_38 : wp S d 38 38 [a0, a1] (.int x :: st) h Q = if x = 0 then wp S d 38 45 [a0, a1] st h Q else wp S d 38 41 [a0, a1] st h Q := wp_eq hc38 dX1_isFaithful_38 rfl
theorem e38_41 : wp S d 38 41 [a0, a1] st h Q = wp S d 38 42 [a0, a1] (.int (nI 1) :: st) h Q := wp_p hc38 dX1_isFaithful_41 rfl
theorem e38_42 : wp S d 38 42 [a0, a1] st h Q = wp S d 38 46 [a0, a1] st h Q := wp_p hc38 dX1_isFaithful_42 rfl
theorem e38_45 : wp S d 38 45 [a0, a1] st h Q = wp S d 38 46 [a0, a1] (.int (nI 0) :: st) h Q := wp_p hc38 dX1_isFaithful_45 rfl
theorem e38_46 : wp S d 38 46 ls [.int x] h Q = (narrow .boolean (.int x) = .int x ∧ Q (.inl (some (.int x)), h)) := wp_rI hc38 dX1_isFaithful_46 rfl
theorem e39_0 : wp S d 39 0 [a0, some (.ref r), a2, a3, a4, a5, a6] st h Q = wp S d 39 1 [a0, some (.ref r), a2, a3, a4, a5, a6] (.ref r :: st) h Q := wp_p hc39 dX1_hasEffect_0 rfl
theorem e39_1 : wp S d 39 1 [a0, a1, a2, a3, a4, a5, a6] (.ref r :: st) h Q = am_gfK h r 2 0 (fun w => wp S d 39 4 [a0, a1, a2, a3, a4, a5, a6] (w :: st) h Q) := wp_gf hc39 dX1_hasEffect_1 ho39 fl1_68
theorem e39_4 : wp S d 39 4 [a0, a1, a2, a3, a4, a5, a6] st h Q = wp S d 39 5 [a0, a1, a2, a3, a4, a5, a6] (.int (nI 2) :: st) h Q := wp_p hc39 dX1_hasEffect_4 rfl
theorem e39_5 : wp S d 39 5 [a0, a1, a2, a3, a4, a5, a6] (.int y :: .int x :: st) h Q = if x < y then wp S d 39 24 [a0, a1, a2, a3, a4, a5, a6] st h Q else wp S d 39 8 [a0, a1, a2, a3, a4, a5, a6] st h Q := wp_lt hc39 dX1_hasEffect_5 rfl
theorem e39_8 : wp S d 39 8 [some (.ref r), a1, a2, a3, a4, a5, a6] st h Q = wp S d 39 9 [some (.ref r), a1, a2, a3, a4, a5, a6] (.ref r :: st) h Q := wp_p hc39 dX1_hasEffect_8 rfl
theorem e39_9 : wp S d 39 9 [a0, some (.ref r), a2, a3, a4, a5, a6] st h Q = wp S d 39 10 [a0, some (.ref r), a2, a3, a4, a5, a6] (.ref r :: st) h Q := wp_p hc39 dX1_hasEffect_9 rfl
theorem e39_10 : wp S (d + 1) 39 10 [a0, a1, a2, a3, a4, a5, a6] (.ref r1 :: .ref r0 :: st) h Q = (am_w8 st ∧ am_rcv h 2 40 (.ref r0) = true ∧ wp S d 40 0 [some (.ref r0), some (.ref r1)] [] h (am_kr S 2 (d + 1) 39 10 [a0, a1, a2, a3, a4, a5, a6] st Q)) := wp_cV (.ref r0) [.ref r1] hc39 dX1_hasEffect_10 ho39 cl1_74 (by decide) ns1_74 hst40 hnp40 hml40 hlsl40 rfl rfl rfl
theorem e39_13 : wp S d 39 13 [a0, a1, a2, a3, a4, a5, a6] (.ref r :: st) h Q = am_gfK h r 3 1 (fun w => wp S d 39 16 [a0, a1, a2, a3, a4, a5, a6] (w :: st) h Q) := wp_gf hc39 dX1_hasEffect_13 ho39 fl1_78
theorem e39_16 : wp S d 39 16 [a0, a1, a2, a3, a4, a5, a6] st h Q = wp S d 39 17 [a0, a1, a2, a3, a4, a5, a6] (.int (nI 1) :: st) h Q := wp_p hc39 dX1_hasEffect_16 rfl
theorem e39_17 : wp S d 39 17 [a0, a1, a2, a3, a4, a5, a6] (.int y :: .int x :: st) h Q = if x = y then wp S d 39 20 [a0, a1, a2, a3, a4, a5, a6] st h Q else wp S d 39 24 [a0, a1, a2, a3, a4, a5, a6] st h Q := wp_ne hc39 dX1_hasEffect_17 rfl
theorem e39_20 : wp S d 39 20 [a0, a1, a2, a3, a4, a5, a6] st h Q = wp S d 39 21 [a0, a1, a2, a3, a4, a5, a6] (.int (nI 1) :: st) h Q := wp_p hc39 dX1_hasEffect_20 rfl
theorem e39_21 : wp S d 39 21 [a0, a1, a2, a3, a4, a5, a6] st h Q = wp S d 39 25 [a0, a1, a2, a3, a4, a5, a6] st h Q := wp_p hc39 dX1_hasEffect_21 rfl
theorem e39_24 : wp S d 39 24 [a0, a1, a2, a3, a4, a5, a6] st h Q = wp S d 39 25 [a0, a1, a2, a3, a4, a5, a6] (.int (nI 0) :: st) h Q := wp_p hc39 dX1_hasEffect_24 rfl
theorem e39_25 : wp S d 39 25 [a0, a1, a2, a3, a4, a5, a6] (.int x :: st) h Q = wp S d 39 26 [a0, a1, some (.int x), a3, a4, a5, a6] st h Q := wp_p hc39 dX1_hasEffect_25 rfl
theorem e39_26 : wp S d 39 26 [a0, some (.ref r), a2, a3, a4, a5, a6] st h Q = wp S d 39 27 [a0, some (.ref r), a2, a3, a4, a5, a6] (.ref r :: st) h Q := wp_p hc39 dX1_hasEffect_26 rfl
theorem e39_27 : wp S d 39 27 [a0, a1, a2, a3, a4, a5, a6] (.ref r :: st) h Q = am_gfK h r 2 2 (fun w => wp S d 39 30 [a0, a1, a2, a3, a4, a5, a6] (w :: st) h Q) := wp_gf hc39 dX1_hasEffect_27 ho39 fl1_81
theorem e39_30 : wp S d 39 30 [a0, a1, a2, a3, a4, a5, a6] (.ref r :: st) h Q = wp S d 39 31 [a0, a1, a2, some (.ref r), a4, a5, a6] st h Q := wp_p hc39 dX1_hasEffect_30 rfl
theorem e39_31 : wp S d 39 31 [a0, a1, a2, some (.ref r), a4, a5, a6] st h Q = wp S d 39 32 [a0, a1, a2, some (.ref r), a4, a5, a6] (.ref r :: st) h Q := wp_p hc39 dX1_hasEffect_31 rfl
theorem e39_32 : wp S d 39 32 [a0, a1, a2, a3, a4, a5, a6] (.ref r :: st) h Q = am_alK h r (fun n => wp S d 39 33 [a0, a1, a2, a3, a4, a5, a6] (.int (nI n) :: st) h Q) := wp_al hc39 dX1_hasEffect_32
theorem e39_33 : wp S d 39 33 [a0, a1, a2, a3, a4, a5, a6] (.int x :: st) h Q = wp S d 39 35 [a0, a1, a2, a3, some (.int x), a5, a6] st h Q := wp_p hc39 dX1_hasEffect_33 rfl
theorem e39_35 : wp S d 39 35 [a0, a1, a2, a3, a4, a5, a6] st h Q = wp S d 39 36 [a0, a1, a2, a3, a4, a5, a6] (.int (nI 0) :: st) h Q := wp_p hc39 dX1_hasEffect_35 rfl
theorem e39_36 : wp S d 39 36 [a0, a1, a2, a3, a4, a5, a6] (.int x :: st) h Q = wp S d 39 38 [a0, a1, a2, a3, a4, some (.int x), a6] st h Q := wp_p hc39 dX1_hasEffect_36 rfl
theorem e39_38 : wp S d 39 38 [a0, a1, a2, a3, a4, some (.int x), a6] st h Q = wp S d 39 40 [a0, a1, a2, a3, a4, some (.int x), a6] (.int x :: st) h Q := wp_p hc39 dX1_hasEffect_38 rfl
theorem e39_40 : wp S d 39 40 [a0, a1, a2, a3, some (.int x), a5, a6] st h Q = wp S d 39 42 [a0, a1, a2, a3, some (.int x), a5, a6] (.int x :: st) h Q := wp_p hc39 dX1_hasEffect_40 rfl
theorem e39_42 : wp S d 39 42 [a0, a1, a2, a3, a4, a5, a6] (.int y :: .int x :: st) h Q = if y ≤ x then wp S d 39 66 [a0, a1, a2, a3, a4, a5, a6] st h Q else wp S d 39 45 [a0, a1, a2, a3, a4, a5, a6] st h Q := wp_ge hc39 dX1_hasEffect_42 rfl
theorem e39_45 : wp S d 39 45 [a0, a1, a2, some (.ref r), a4, a5, a6] st h Q = wp S d 39 46 [a0, a1, a2, some (.ref r), a4, a5, a6] (.ref r :: st) h Q := wp_p hc39 dX1_hasEffect_45 rfl
theorem e39_46 : wp S d 39 46 [a0, a1, a2, a3, a4, some (.int x), a6] st h Q = wp S d 39 48 [a0, a1, a2, a3, a4, some (.int x), a6] (.int x :: st) h Q := wp_p hc39 dX1_hasEffect_46 rfl
theorem e39_48 : wp S d 39 48 [a0, a1, a2, a3, a4, a5, a6] (.int x :: .ref r :: st) h Q = am_aaK h r x (fun w => wp S d 39 49 [a0, a1, a2, a3, a4, a5, a6] (w :: st) h Q) := wp_aa hc39 dX1_hasEffect_48
theorem e39_49 : wp S d 39 49 [a0, a1, a2, a3, a4, a5, a6] (.ref r :: st) h Q = wp S d 39 51 [a0, a1, a2, a3, a4, a5, some (.ref r)] st h Q := wp_p hc39 dX1_hasEffect_49 rfl
theorem e39_51 : wp S d 39 51 [a0, a1, some (.int x), a3, a4, a5, a6] st h Q = wp S d 39 52 [a0, a1, some (.int x), a3, a4, a5, a6] (.int x :: st) h Q := wp_p hc39 dX1_hasEffect_51 rfl
theorem e39_52 : wp S d 39 52 [some (.ref r), a1, a2, a3, a4, a5, a6] st h Q = wp S d 39 53 [some (.ref r), a1, a2, a3, a4, a5, a6] (.ref r :: st) h Q := wp_p hc39 dX1_hasEffect_52 rfl
theorem e39_53 : wp S d 39 53 [a0, a1, a2, a3, a4, a5, some (.ref r)] st h Q = wp S d 39 55 [a0, a1, a2, a3, a4, a5, some (.ref r)] (.ref r :: st) h Q := wp_p hc39 dX1_hasEffect_53 rfl
theorem e39_55 : wp S (d + 1) 39 55 [a0, a1, a2, a3, a4, a5, a6] (.ref r1 :: .ref r0 :: st) h Q = (am_w8 st ∧ am_rcv h 2 39 (.ref r0) = true ∧ wp S d 39 0 [some (.ref r0), some (.ref r1), none, none, none, none, none] [] h (am_kr S 2 (d + 1) 39 55 [a0, a1, a2, a3, a4, a5, a6] st Q)) := wp_cV (.ref r0) [.ref r1] hc39 dX1_hasEffect_55 ho39 cl1_85 (by decide) ns1_85 hst39 hnp39 hml39 hlsl39 rfl rfl rfl
theorem e39_58 : wp S d 39 58 [a0, a1, a2, a3, a4, a5, a6] (.int y :: .int x :: st) h Q = wp S d 39 59 [a0, a1, a2, a3, a4, a5, a6] (.int (x ||| y) :: st) h Q := wp_p hc39 dX1_hasEffect_58 rfl
theorem e39_59 : wp S d 39 59 [a0, a1, a2, a3, a4, a5, a6] (.int x :: st) h Q = wp S d 39 60 [a0, a1, some (.int x), a3, a4, a5, a6] st h Q := wp_p hc39 dX1_hasEffect_59 rfl
theorem e39_60 : wp S d 39 60 [a0, a1, a2, a3, a4, some (.int x), a6] st h Q = wp S d 39 63 [a0, a1, a2, a3, a4, some (.int (x + nI 1)), a6] st h Q := wp_p hc39 dX1_hasEffect_60 rfl
theorem e39_63 : wp S d 39 63 [a0, a1, a2, a3, a4, a5, a6] st h Q = wp S d 39 38 [a0, a1, a2, a3, a4, a5, a6] st h Q := wp_p hc39 dX1_hasEffect_63 rfl
theorem e39_66 : wp S d 39 66 [a0, a1, some (.int x), a3, a4, a5, a6] st h Q = wp S d 39 67 [a0, a1, some (.int x), a3, a4, a5, a6] (.int x :: st) h Q := wp_p hc39 dX1_hasEffect_66 rfl
theorem e39_67 : wp S d 39 67 ls [.int x] h Q = (narrow .boolean (.int x) = .int x ∧ Q (.inl (some (.int x)), h)) := wp_rI hc39 dX1_hasEffect_67 rfl
theorem e40_0 : wp S d 40 0 [a0, some (.ref r)] st h Q = wp S d 40 1 [a0, some (.ref r)] (.ref r :: st) h Q := wp_p hc40 dX1_function_0 rfl
theorem e40_1 : wp S d 40 1 [a0, a1] (.ref r :: st) h Q = am_gfK h r 2 0 (fun w => wp S d 40 4 [a0, a1] (w :: st) h Q) := wp_gf hc40 dX1_function_1 ho40 fl1_68
theorem e40_4 : wp S d 40 4 [a0, a1] st h Q = wp S d 40 5 [a0, a1] (.int (nI 2) :: st) h Q := wp_p hc40 dX1_function_4 rfl
theorem e40_5 : wp S d 40 5 [a0, a1] (.int y :: .int x :: st) h Q = if x = y then wp S d 40 8 [a0, a1] st h Q else wp S d 40 20 [a0, a1] st h Q := wp_ne hc40 dX1_function_5 rfl
theorem e40_8 : wp S d 40 8 [some (.ref r), a1] st h Q = wp S d 40 9 [some (.ref r), a1] (.ref r :: st) h Q := wp_p hc40 dX1_function_8 rfl
theorem e40_9 : wp S d 40 9 [a0, a1] (.ref r :: st) h Q = am_gfK h r 1 0 (fun w => wp S d 40 12 [a0, a1] (w :: st) h Q) := wp_gf hc40 dX1_function_9 ho40 fl1_11
theorem e40_12 : wp S d 40 12 [a0, some (.ref r)] st h Q = wp S d 40 13 [a0, some (.ref r)] (.ref r :: st) h Q := wp_p hc40 dX1_function_12 rfl
theorem e40_13 : wp S d 40 13 [a0, a1] (.ref r :: st) h Q = am_gfK h r 2 1 (fun w => wp S d 40 16 [a0, a1] (w :: st) h Q) := wp_gf hc40 dX1_function_13 ho40 fl1_71
theorem e40_16 : wp S d 40 16 [a0, a1] (.int x :: .ref r :: st) h Q = am_aaK h r x (fun w => wp S d 40 17 [a0, a1] (w :: st) h Q) := wp_aa hc40 dX1_function_16
theorem e40_17 : wp S d 40 17 [a0, a1] st h Q = wp S d 40 49 [a0, a1] st h Q := wp_p hc40 dX1_function_17 rfl
theorem e40_20 : wp S d 40 20 [a0, some (.ref r)] st h Q = wp S d 40 21 [a0, some (.ref r)] (.ref r :: st) h Q := wp_p hc40 dX1_function_20 rfl
theorem e40_21 : wp S d 40 21 [a0, a1] (.ref r :: st) h Q = am_gfK h r 2 0 (fun w => wp S d 40 24 [a0, a1] (w :: st) h Q) := wp_gf hc40 dX1_function_21 ho40 fl1_68
theorem e40_24 : wp S d 40 24 [a0, a1] st h Q = wp S d 40 25 [a0, a1] (.int (nI 3) :: st) h Q := wp_p hc40 dX1_function_24 rfl
theorem e40_25 : wp S d 40 25 [a0, a1] (.int y :: .int x :: st) h Q = if x = y then wp S d 40 28 [a0, a1] st h Q else wp S d 40 40 [a0, a1] st h Q := wp_ne hc40 dX1_function_25 rfl
theorem e40_28 : wp S d 40 28 [some (.ref r), a1] st h Q = wp S d 40 29 [some (.ref r), a1] (.ref r :: st) h Q := wp_p hc40 dX1_function_28 rfl
theorem e40_29 : wp S d 40 29 [a0, a1] (.ref r :: st) h Q = am_gfK h r 1 1 (fun w => wp S d 40 32 [a0, a1] (w :: st) h Q) := wp_gf hc40 dX1_function_29 ho40 fl1_17
theorem e40_32 : wp S d 40 32 [a0, some (.ref r)] st h Q = wp S d 40 33 [a0, some (.ref r)] (.ref r :: st) h Q := wp_p hc40 dX1_function_32 rfl
theorem e40_33 : wp S d 40 33 [a0, a1] (.ref r :: st) h Q = am_gfK h r 2 1 (fun w => wp S d 40 36 [a0, a1] (w :: st) h Q) := wp_gf hc40 dX1_function_33 ho40 fl1_71
theorem e40_36 : wp S d 40 36 [a0, a1] (.int x :: .ref r :: st) h Q = am_aaK h r x (fun w => wp S d 40 37 [a0, a1] (w :: st) h Q) := wp_aa hc40 dX1_function_36
theorem e40_37 : wp S d 40 37 [a0, a1] st h Q = wp S d 40 49 [a0, a1] st h Q := wp_p hc40 dX1_function_37 rfl
theorem e40_40 : wp S d 40 40 [some (.ref r), a1] st h Q = wp S d 40 41 [some (.ref r), a1] (.ref r :: st) h Q := wp_p hc40 dX1_function_40 rfl
theorem e40_41 : wp S d 40 41 [a0, a1] (.ref r :: st) h Q = am_gfK h r 1 2 (fun w => wp S d 40 44 [a0, a1] (w :: st) h Q) := wp_gf hc40 dX1_function_41 ho40 fl1_20
theorem e40_44 : wp S d 40 44 [a0, some (.ref r)] st h Q = wp S d 40 45 [a0, some (.ref r)] (.ref r :: st) h Q := wp_p hc40 dX1_function_44 rfl
theorem e40_45 : wp S d 40 45 [a0, a1] (.ref r :: st) h Q = am_gfK h r 2 1 (fun w => wp S d 40 48 [a0, a1] (w :: st) h Q) := wp_gf hc40 dX1_function_45 ho40 fl1_71
theorem e40_48 : wp S d 40 48 [a0, a1] (.int x :: .ref r :: st) h Q = am_aaK h r x (fun w => wp S d 40 49 [a0, a1] (w :: st) h Q) := wp_aa hc40 dX1_function_48
theorem e40_49 : wp S d 40 49 ls [.ref r] h Q = Q (.inl (some (.ref r)), h) := wp_r hc40 dX1_function_49 rfl rfl ⟨_, rfl, Or.inr ⟨_, rfl⟩, ⟨_, rfl, Or.inl ⟨_, rfl⟩⟩, rfl⟩
theorem e40_49n : wp S d 40 49 ls [.null] h Q = Q (.inl (some .null), h) := wp_r hc40 dX1_function_49 rfl rfl ⟨_, rfl, Or.inl rfl, ⟨_, rfl, Or.inl ⟨_, rfl⟩⟩, rfl⟩
theorem e41_0 : wp S d 41 0 [a0, some (.ref r), a2, a3, a4, a5, a6] st h Q = wp S d 41 1 [a0, some (.ref r), a2, a3, a4, a5, a6] (.ref r :: st) h Q := wp_p hc41 dX1_value_0 rfl
theorem e41_1 : wp S d 41 1 [a0, a1, a2, a3, a4, a5, a6] (.ref r :: st) h Q = am_gfK h r 2 0 (fun w => wp S d 41 4 [a0, a1, a2, a3, a4, a5, a6] (w :: st) h Q) := wp_gf hc41 dX1_value_1 ho41 fl1_68
theorem e41_4 : wp S d 41 4 [a0, a1, a2, a3, a4, a5, a6] (.int x :: st) h Q = if x = 0 then wp S d 41 7 [a0, a1, a2, a3, a4, a5, a6] st h Q else wp S d 41 12 [a0, a1, a2, a3, a4, a5, a6] st h Q := wp_ne hc41 dX1_value_4 rfl
theorem e41_7 : wp S d 41 7 [a0, some (.ref r), a2, a3, a4, a5, a6] st h Q = wp S d 41 8 [a0, some (.ref r), a2, a3, a4, a5, a6] (.ref r :: st) h Q := wp_p hc41 dX1_value_7 rfl
theorem e41_8 : wp S d 41 8 [a0, a1, a2, a3, a4, a5, a6] (.ref r :: st) h Q = am_gfK h r 2 1 (fun w => wp S d 41 11 [a0, a1, a2, a3, a4, a5, a6] (w :: st) h Q) := wp_gf hc41 dX1_value_8 ho41 fl1_71
theorem e41_11 : wp S d 41 11 ls [.int x] h Q = Q (.inl (some (.int x)), h) := wp_r hc41 dX1_value_11 rfl rfl ⟨x, _, rfl, rfl, rfl, rfl⟩
theorem e41_12 : wp S d 41 12 [a0, some (.ref r), a2, a3, a4, a5, a6] st h Q = wp S d 41 13 [a0, some (.ref r), a2, a3, a4, a5, a6] (.ref r :: st) h Q := wp_p hc41 dX1_value_12 rfl
theorem e41_13 : wp S d 41 13 [a0, a1, a2, a3, a4, a5, a6] (.ref r :: st) h Q = am_gfK h r 2 0 (fun w => wp S d 41 16 [a0, a1, a2, a3, a4, a5, a6] (w :: st) h Q) := wp_gf hc41 dX1_value_13 ho41 fl1_68
theorem e41_16 : wp S d 41 16 [a0, a1, a2, a3, a4, a5, a6] st h Q = wp S d 41 17 [a0, a1, a2, a3, a4, a5, a6] (.int (nI 1) :: st) h Q := wp_p hc41 dX1_value_16 rfl
theorem e41_17 : wp S d 41 17 [a0, a1, a2, a3, a4, a5, a6] (.int y :: .int x :: st) h Q = if x = y then wp S d 41 20 [a0, a1, a2, a3, a4, a5, a6] st h Q else wp S d 41 33 [a0, a1, a2, a3, a4, a5, a6] st h Q := wp_ne hc41 dX1_value_17 rfl
theorem e41_20 : wp S d 41 20 [a0, some (.ref r), a2, a3, a4, a5, a6] st h Q = wp S d 41 21 [a0, some (.ref r), a2, a3, a4, a5, a6] (.ref r :: st) h Q := wp_p hc41 dX1_value_20 rfl
theorem e41_21 : wp S d 41 21 [a0, a1, a2, a3, a4, a5, a6] (.ref r :: st) h Q = am_gfK h r 2 1 (fun w => wp S d 41 24 [a0, a1, a2, a3, a4, a5, a6] (w :: st) h Q) := wp_gf hc41 dX1_value_21 ho41 fl1_71
theorem e41_24 : wp S d 41 24 [a0, a1, a2, a3, a4, a5, a6] (.int x :: st) h Q = if x = 0 then wp S d 41 27 [a0, a1, a2, a3, a4, a5, a6] st h Q else wp S d 41 31 [a0, a1, a2, a3, a4, a5, a6] st h Q := wp_ne hc41 dX1_value_24 rfl
theorem e41_27 : wp S d 41 27 [a0, a1, some (.int x), a3, a4, a5, a6] st h Q = wp S d 41 28 [a0, a1, some (.int x), a3, a4, a5, a6] (.int x :: st) h Q := wp_p hc41 dX1_value_27 rfl
theorem e41_28 : wp S d 41 28 [a0, a1, a2, a3, a4, a5, a6] st h Q = wp S d 41 32 [a0, a1, a2, a3, a4, a5, a6] st h Q := wp_p hc41 dX1_value_28 rfl
theorem e41_31 : wp S d 41 31 [a0, a1, a2, some (.int x), a4, a5, a6] st h Q = wp S d 41 32 [a0, a1, a2, some (.int x), a4, a5, a6] (.int x :: st) h Q := wp_p hc41 dX1_value_31 rfl
theorem e41_32 : wp S d 41 32 ls [.int x] h Q = Q (.inl (some (.int x)), h) := wp_r hc41 dX1_value_32 rfl rfl ⟨x, _, rfl, rfl, rfl, rfl⟩
theorem e41_33 : wp S d 41 33 [some (.ref r), a1, a2, a3, a4, a5, a6] st h Q = wp S d 41 34 [some (.ref r), a1, a2, a3, a4, a5, a6] (.ref r :: st) h Q := wp_p hc41 dX1_value_33 rfl
theorem e41_34 : wp S d 41 34 [a0, some (.ref r), a2, a3, a4, a5, a6] st h Q = wp S d 41 35 [a0, some (.ref r), a2, a3, a4, a5, a6] (.ref r :: st) h Q := wp_p hc41 dX1_value_34 rfl
theorem e41_35 : wp S (d + 1) 41 35 [a0, a1, a2, a3, a4, a5, a6] (.ref r1 :: .ref r0 :: st) h Q = (am_w8 st ∧ am_rcv h 2 40 (.ref r0) = true ∧ wp S d 40 0 [some (.ref r0), some (.ref r1)] [] h (am_kr S 2 (d + 1) 41 35 [a0, a1, a2, a3, a4, a5, a6] st Q)) := wp_cV (.ref r0) [.ref r1] hc41 dX1_value_35 ho41 cl1_74 (by decide) ns1_74 hst40 hnp40 hml40 hlsl40 rfl rfl rfl
theorem e41_38 : wp S d 41 38 [a0, a1, a2, a3, a4, a5, a6] (.ref r :: st) h Q = wp S d 41 40 [a0, a1, a2, a3, some (.ref r), a5, a6] st h Q := wp_p hc41 dX1_value_38 rfl
theorem e41_40 : wp S d 41 40 [a0, a1, a2, a3, some (.ref r), a5, a6] st h Q = wp S d 41 42 [a0, a1, a2, a3, some (.ref r), a5, a6] (.ref r :: st) h Q := wp_p hc41 dX1_value_40 rfl
theorem e41_42 : wp S d 41 42 [a0, a1, a2, a3, a4, a5, a6] (.ref r :: st) h Q = am_gfK h r 3 2 (fun w => wp S d 41 45 [a0, a1, a2, a3, a4, a5, a6] (w :: st) h Q) := wp_gf hc41 dX1_value_42 ho41 fl1_89
theorem e41_45 : wp S d 41 45 [a0, a1, a2, a3, a4, a5, a6] (.int x :: st) h Q = wp S d 41 47 [a0, a1, a2, a3, a4, some (.int x), a6] st h Q := wp_p hc41 dX1_value_45 rfl
theorem e41_47 : wp S d 41 47 [a0, a1, a2, a3, a4, a5, a6] st h Q = wp S d 41 48 [a0, a1, a2, a3, a4, a5, a6] (.int (nI 0) :: st) h Q := wp_p hc41 dX1_value_47 rfl
theorem e41_48 : wp S d 41 48 [a0, a1, a2, a3, a4, a5, a6] (.int x :: st) h Q = wp S d 41 50 [a0, a1, a2, a3, a4, a5, some (.int x)] st h Q := wp_p hc41 dX1_value_48 rfl
theorem e41_50 : wp S d 41 50 [a0, a1, a2, a3, a4, a5, some (.int x)] st h Q = wp S d 41 52 [a0, a1, a2, a3, a4, a5, some (.int x)] (.int x :: st) h Q := wp_p hc41 dX1_value_50 rfl
theorem e41_52 : wp S d 41 52 [a0, some (.ref r), a2, a3, a4, a5, a6] st h Q = wp S d 41 53 [a0, some (.ref r), a2, a3, a4, a5, a6] (.ref r :: st) h Q := wp_p hc41 dX1_value_52 rfl
theorem e41_53 : wp S d 41 53 [a0, a1, a2, a3, a4, a5, a6] (.ref r :: st) h Q = am_gfK h r 2 2 (fun w => wp S d 41 56 [a0, a1, a2, a3, a4, a5, a6] (w :: st) h Q) := wp_gf hc41 dX1_value_53 ho41 fl1_81
theorem e41_56 : wp S d 41 56 [a0, a1, a2, a3, a4, a5, a6] (.ref r :: st) h Q = am_alK h r (fun n => wp S d 41 57 [a0, a1, a2, a3, a4, a5, a6] (.int (nI n) :: st) h Q) := wp_al hc41 dX1_value_56
theorem e41_57 : wp S d 41 57 [a0, a1, a2, a3, a4, a5, a6] (.int y :: .int x :: st) h Q = if y ≤ x then wp S d 41 93 [a0, a1, a2, a3, a4, a5, a6] st h Q else wp S d 41 60 [a0, a1, a2, a3, a4, a5, a6] st h Q := wp_ge hc41 dX1_value_57 rfl
theorem e41_60 : wp S d 41 60 [a0, a1, a2, a3, a4, some (.int x), a6] st h Q = wp S d 41 62 [a0, a1, a2, a3, a4, some (.int x), a6] (.int x :: st) h Q := wp_p hc41 dX1_value_60 rfl
theorem e41_62 : wp S d 41 62 [a0, a1, a2, a3, some (.ref r), a5, a6] st h Q = wp S d 41 64 [a0, a1, a2, a3, some (.ref r), a5, a6] (.ref r :: st) h Q := wp_p hc41 dX1_value_62 rfl
theorem e41_64 : wp S d 41 64 [a0, a1, a2, a3, a4, a5, a6] (.ref r :: st) h Q = am_gfK h r 3 3 (fun w => wp S d 41 67 [a0, a1, a2, a3, a4, a5, a6] (w :: st) h Q) := wp_gf hc41 dX1_value_64 ho41 fl1_92
theorem e41_67 : wp S d 41 67 [a0, a1, a2, a3, a4, a5, some (.int x)] st h Q = wp S d 41 69 [a0, a1, a2, a3, a4, a5, some (.int x)] (.int x :: st) h Q := wp_p hc41 dX1_value_67 rfl
theorem e41_69 : wp S d 41 69 [a0, a1, a2, a3, a4, a5, a6] (.int x :: .ref r :: st) h Q = am_iaK h r x (fun z => wp S d 41 70 [a0, a1, a2, a3, a4, a5, a6] (.int z :: st) h Q) := wp_ia hc41 dX1_value_69
theorem e41_70 : wp S d 41 70 [some (.ref r), a1, a2, a3, a4, a5, a6] st h Q = wp S d 41 71 [some (.ref r), a1, a2, a3, a4, a5, a6] (.ref r :: st) h Q := wp_p hc41 dX1_value_70 rfl
theorem e41_71 : wp S d 41 71 [a0, some (.ref r), a2, a3, a4, a5, a6] st h Q = wp S d 41 72 [a0, some (.ref r), a2, a3, a4, a5, a6] (.ref r :: st) h Q := wp_p hc41 dX1_value_71 rfl
theorem e41_72 : wp S d 41 72 [a0, a1, a2, a3, a4, a5, a6] (.ref r :: st) h Q = am_gfK h r 2 2 (fun w => wp S d 41 75 [a0, a1, a2, a3, a4, a5, a6] (w :: st) h Q) := wp_gf hc41 dX1_value_72 ho41 fl1_81
theorem e41_75 : wp S d 41 75 [a0, a1, a2, a3, a4, a5, some (.int x)] st h Q = wp S d 41 77 [a0, a1, a2, a3, a4, a5, some (.int x)] (.int x :: st) h Q := wp_p hc41 dX1_value_75 rfl
theorem e41_77 : wp S d 41 77 [a0, a1, a2, a3, a4, a5, a6] (.int x :: .ref r :: st) h Q = am_aaK h r x (fun w => wp S d 41 78 [a0, a1, a2, a3, a4, a5, a6] (w :: st) h Q) := wp_aa hc41 dX1_value_77
theorem e41_78 : wp S d 41 78 [a0, a1, some (.int x), a3, a4, a5, a6] st h Q = wp S d 41 79 [a0, a1, some (.int x), a3, a4, a5, a6] (.int x :: st) h Q := wp_p hc41 dX1_value_78 rfl
theorem e41_79 : wp S d 41 79 [a0, a1, a2, some (.int x), a4, a5, a6] st h Q = wp S d 41 80 [a0, a1, a2, some (.int x), a4, a5, a6] (.int x :: st) h Q := wp_p hc41 dX1_value_79 rfl
theorem e41_80 : wp S (d + 1) 41 80 [a0, a1, a2, a3, a4, a5, a6] (.int x3 :: .int x2 :: .ref r1 :: .ref r0 :: st) h Q = (am_w8 st ∧ am_rcv h 2 41 (.ref r0) = true ∧ wp S d 41 0 [some (.ref r0), some (.ref r1), some (.int x2), some (.int x3), none, none, none] [] h (am_kr S 2 (d + 1) 41 80 [a0, a1, a2, a3, a4, a5, a6] st Q)) := wp_cV (.ref r0) [.ref r1, .int x2, .int x3] hc41 dX1_value_80 ho41 cl1_95 (by decide) ns1_95 hst41 hnp41 hml41 hlsl41 rfl rfl rfl
theorem e41_83 : wp S d 41 83 [a0, a1, a2, a3, a4, a5, a6] (.int y :: .int x :: st) h Q = wp S d 41 84 [a0, a1, a2, a3, a4, a5, a6] (.int (x * y) :: st) h Q := wp_p hc41 dX1_value_83 rfl
theorem e41_84 : wp S d 41 84 [a0, a1, a2, a3, a4, a5, a6] (.int y :: .int x :: st) h Q = wp S d 41 85 [a0, a1, a2, a3, a4, a5, a6] (.int (x + y) :: st) h Q := wp_p hc41 dX1_value_84 rfl
theorem e41_85 : wp S d 41 85 [a0, a1, a2, a3, a4, a5, a6] (.int x :: st) h Q = wp S d 41 87 [a0, a1, a2, a3, a4, some (.int x), a6] st h Q := wp_p hc41 dX1_value_85 rfl
theorem e41_87 : wp S d 41 87 [a0, a1, a2, a3, a4, a5, some (.int x)] st h Q = wp S d 41 90 [a0, a1, a2, a3, a4, a5, some (.int (x + nI 1))] st h Q := wp_p hc41 dX1_value_87 rfl
theorem e41_90 : wp S d 41 90 [a0, a1, a2, a3, a4, a5, a6] st h Q = wp S d 41 50 [a0, a1, a2, a3, a4, a5, a6] st h Q := wp_p hc41 dX1_value_90 rfl
theorem e41_93 : wp S d 41 93 [a0, a1, a2, a3, a4, some (.int x), a6] st h Q = wp S d 41 95 [a0, a1, a2, a3, a4, some (.int x), a6] (.int x :: st) h Q := wp_p hc41 dX1_value_93 rfl
theorem e41_95 : wp S d 41 95 [a0, a1, a2, a3, a4, a5, a6] st h Q = wp S d 41 98 [a0, a1, a2, a3, a4, a5, a6] (.int (nI 1000) :: st) h Q := wp_p hc41 dX1_value_95 rfl
theorem e41_98 : wp S d 41 98 [a0, a1, a2, a3, a4, a5, a6] (.int y :: .int x :: st) h Q = (¬ y = 0 ∧ wp S d 41 99 [a0, a1, a2, a3, a4, a5, a6] (.int (x - x / y * y) :: st) h Q) := wp_ir hc41 dX1_value_98
theorem e41_99 : wp S d 41 99 ls [.int x] h Q = Q (.inl (some (.int x)), h) := wp_r hc41 dX1_value_99 rfl rfl ⟨x, _, rfl, rfl, rfl, rfl⟩
theorem e42_0 : wp S d 42 0 [some (.ref r), a1, a2, a3, a4, a5, a6, a7, a8] st h Q = wp S d 42 1 [some (.ref r), a1, a2, a3, a4, a5, a6, a7, a8] (.ref r :: st) h Q := wp_p hc42 dX2_init_0 rfl
theorem e42_1 : wp S (d + 1) 42 1 [a0, a1, a2, a3, a4, a5, a6, a7, a8] (.ref r :: st) h Q = (am_w8 st ∧ wp S (d + 1) 42 4 [a0, a1, a2, a3, a4, a5, a6, a7, a8] st h Q) := wp_oi hc42 dX2_init_1 ho42 sp2_3 nc2_3
theorem e42_4 : wp S d 42 4 [some (.ref r), a1, a2, a3, a4, a5, a6, a7, a8] st h Q = wp S d 42 5 [some (.ref r), a1, a2, a3, a4, a5, a6, a7, a8] (.ref r :: st) h Q := wp_p hc42 dX2_init_4 rfl
theorem e42_5 : wp S d 42 5 [a0, some (.int x), a2, a3, a4, a5, a6, a7, a8] st h Q = wp S d 42 6 [a0, some (.int x), a2, a3, a4, a5, a6, a7, a8] (.int x :: st) h Q := wp_p hc42 dX2_init_5 rfl
theorem e42_6 : wp S d 42 6 [a0, a1, a2, a3, a4, a5, a6, a7, a8] (w :: .ref r :: st) h Q = am_pfK 42 h r 2 0 false w (fun h => wp S d 42 9 [a0, a1, a2, a3, a4, a5, a6, a7, a8] st h Q) := wp_pf hc42 dX2_init_6 ho42 fl2_9
theorem e42_9 : wp S d 42 9 [some (.ref r), a1, a2, a3, a4, a5, a6, a7, a8] st h Q = wp S d 42 10 [some (.ref r), a1, a2, a3, a4, a5, a6, a7, a8] (.ref r :: st) h Q := wp_p hc42 dX2_init_9 rfl
theorem e42_10 : wp S d 42 10 [a0, a1, some (.int x), a3, a4, a5, a6, a7, a8] st h Q = wp S d 42 11 [a0, a1, some (.int x), a3, a4, a5, a6, a7, a8] (.int x :: st) h Q := wp_p hc42 dX2_init_10 rfl
theorem e42_11 : wp S d 42 11 [a0, a1, a2, a3, a4, a5, a6, a7, a8] (w :: .ref r :: st) h Q = am_pfK 42 h r 2 1 false w (fun h => wp S d 42 14 [a0, a1, a2, a3, a4, a5, a6, a7, a8] st h Q) := wp_pf hc42 dX2_init_11 ho42 fl2_15
theorem e42_14 : wp S d 42 14 [some (.ref r), a1, a2, a3, a4, a5, a6, a7, a8] st h Q = wp S d 42 15 [some (.ref r), a1, a2, a3, a4, a5, a6, a7, a8] (.ref r :: st) h Q := wp_p hc42 dX2_init_14 rfl
theorem e42_15 : wp S d 42 15 [a0, a1, a2, some (.ref r), a4, a5, a6, a7, a8] st h Q = wp S d 42 16 [a0, a1, a2, some (.ref r), a4, a5, a6, a7, a8] (.ref r :: st) h Q := wp_p hc42 dX2_init_15 rfl
theorem e42_16 : wp S d 42 16 [a0, a1, a2, a3, a4, a5, a6, a7, a8] (w :: .ref r :: st) h Q = am_pfK 42 h r 2 2 false w (fun h => wp S d 42 19 [a0, a1, a2, a3, a4, a5, a6, a7, a8] st h Q) := wp_pf hc42 dX2_init_16 ho42 fl2_18
theorem e42_19 : wp S d 42 19 [a0, a1, a2, a3, a4, a5, a6, a7, a8] st h Q = wp S d 42 20 [a0, a1, a2, a3, a4, a5, a6, a7, a8] (.int (nI 1) :: st) h Q := wp_p hc42 dX2_init_19 rfl
theorem e42_20 : wp S d 42 20 [a0, a1, a2, a3, a4, a5, a6, a7, a8] (.int x :: st) h Q = wp S d 42 22 [a0, a1, a2, a3, some (.int x), a5, a6, a7, a8] st h Q := wp_p hc42 dX2_init_20 rfl
theorem e42_22 : wp S d 42 22 [a0, a1, a2, some (.ref r), a4, a5, a6, a7, a8] st h Q = wp S d 42 23 [a0, a1, a2, some (.ref r), a4, a5, a6, a7, a8] (.ref r :: st) h Q := wp_p hc42 dX2_init_22 rfl
theorem e42_23 : wp S d 42 23 [a0, a1, a2, a3, a4, a5, a6, a7, a8] (.ref r :: st) h Q = wp S d 42 25 [a0, a1, a2, a3, a4, some (.ref r), a6, a7, a8] st h Q := wp_p hc42 dX2_init_23 rfl
theorem e42_25 : wp S d 42 25 [a0, a1, a2, a3, a4, some (.ref r), a6, a7, a8] st h Q = wp S d 42 27 [a0, a1, a2, a3, a4, some (.ref r), a6, a7, a8] (.ref r :: st) h Q := wp_p hc42 dX2_init_25 rfl
theorem e42_27 : wp S d 42 27 [a0, a1, a2, a3, a4, a5, a6, a7, a8] (.ref r :: st) h Q = am_alK h r (fun n => wp S d 42 28 [a0, a1, a2, a3, a4, a5, a6, a7, a8] (.int (nI n) :: st) h Q) := wp_al hc42 dX2_init_27
theorem e42_28 : wp S d 42 28 [a0, a1, a2, a3, a4, a5, a6, a7, a8] (.int x :: st) h Q = wp S d 42 30 [a0, a1, a2, a3, a4, a5, some (.int x), a7, a8] st h Q := wp_p hc42 dX2_init_28 rfl
theorem e42_30 : wp S d 42 30 [a0, a1, a2, a3, a4, a5, a6, a7, a8] st h Q = wp S d 42 31 [a0, a1, a2, a3, a4, a5, a6, a7, a8] (.int (nI 0) :: st) h Q := wp_p hc42 dX2_init_30 rfl
theorem e42_31 : wp S d 42 31 [a0, a1, a2, a3, a4, a5, a6, a7, a8] (.int x :: st) h Q = wp S d 42 33 [a0, a1, a2, a3, a4, a5, a6, some (.int x), a8] st h Q := wp_p hc42 dX2_init_31 rfl
theorem e42_33 : wp S d 42 33 [a0, a1, a2, a3, a4, a5, a6, some (.int x), a8] st h Q = wp S d 42 35 [a0, a1, a2, a3, a4, a5, a6, some (.int x), a8] (.int x :: st) h Q := wp_p hc42 dX2_init_33 rfl
theorem e42_35 : wp S d 42 35 [a0, a1, a2, a3, a4, a5, some (.int x), a7, a8] st h Q = wp S d 42 37 [a0, a1, a2, a3, a4, a5, some (.int x), a7, a8] (.int x :: st) h Q := wp_p hc42 dX2_init_35 rfl
theorem e42_37 : wp S d 42 37 [a0, a1, a2, a3, a4, a5, a6, a7, a8] (.int y :: .int x :: st) h Q = if y ≤ x then wp S d 42 63 [a0, a1, a2, a3, a4, a5, a6, a7, a8] st h Q else wp S d 42 40 [a0, a1, a2, a3, a4, a5, a6, a7, a8] st h Q := wp_ge hc42 dX2_init_37 rfl
theorem e42_40 : wp S d 42 40 [a0, a1, a2, a3, a4, some (.ref r), a6, a7, a8] st h Q = wp S d 42 42 [a0, a1, a2, a3, a4, some (.ref r), a6, a7, a8] (.ref r :: st) h Q := wp_p hc42 dX2_init_40 rfl
theorem e42_42 : wp S d 42 42 [a0, a1, a2, a3, a4, a5, a6, some (.int x), a8] st h Q = wp S d 42 44 [a0, a1, a2, a3, a4, a5, a6, some (.int x), a8] (.int x :: st) h Q := wp_p hc42 dX2_init_42 rfl
theorem e42_44 : wp S d 42 44 [a0, a1, a2, a3, a4, a5, a6, a7, a8] (.int x :: .ref r :: st) h Q = am_aaK h r x (fun w => wp S d 42 45 [a0, a1, a2, a3, a4, a5, a6, a7, a8] (w :: st) h Q) := wp_aa hc42 dX2_init_44
theorem e42_45 : wp S d 42 45 [a0, a1, a2, a3, a4, a5, a6, a7, a8] (.ref r :: st) h Q = wp S d 42 47 [a0, a1, a2, a3, a4, a5, a6, a7, some (.ref r)] st h Q := wp_p hc42 dX2_init_45 rfl
theorem e42_47 : wp S d 42 47 [a0, a1, a2, a3, some (.int x), a5, a6, a7, a8] st h Q = wp S d 42 49 [a0, a1, a2, a3, some (.int x), a5, a6, a7, a8] (.int x :: st) h Q := wp_p hc42 dX2_init_47 rfl
theorem e42_49 : wp S d 42 49 [a0, a1, a2, a3, a4, a5, a6, a7, some (.ref r)] st h Q = wp S d 42 51 [a0, a1, a2, a3, a4, a5, a6, a7, some (.ref r)] (.ref r :: st) h Q := wp_p hc42 dX2_init_49 rfl
theorem e42_51 : wp S d 42 51 [a0, a1, a2, a3, a4, a5, a6, a7, a8] (.ref r :: st) h Q = am_gfK h r 2 3 (fun w => wp S d 42 54 [a0, a1, a2, a3, a4, a5, a6, a7, a8] (w :: st) h Q) := wp_gf hc42 dX2_init_51 ho42 fl2_22
theorem e42_54 : wp S d 42 54 [a0, a1, a2, a3, a4, a5, a6, a7, a8] (.int y :: .int x :: st) h Q = wp S d 42 55 [a0, a1, a2, a3, a4, a5, a6, a7, a8] (.int (x + y) :: st) h Q := wp_p hc42 dX2_init_54 rfl
theorem e42_55 : wp S d 42 55 [a0, a1, a2, a3, a4, a5, a6, a7, a8] (.int x :: st) h Q = wp S d 42 57 [a0, a1, a2, a3, some (.int x), a5, a6, a7, a8] st h Q := wp_p hc42 dX2_init_55 rfl
theorem e42_57 : wp S d 42 57 [a0, a1, a2, a3, a4, a5, a6, some (.int x), a8] st h Q = wp S d 42 60 [a0, a1, a2, a3, a4, a5, a6, some (.int (x + nI 1)), a8] st h Q := wp_p hc42 dX2_init_57 rfl
theorem e42_60 : wp S d 42 60 [a0, a1, a2, a3, a4, a5, a6, a7, a8] st h Q = wp S d 42 33 [a0, a1, a2, a3, a4, a5, a6, a7, a8] st h Q := wp_p hc42 dX2_init_60 rfl
theorem e42_63 : wp S d 42 63 [some (.ref r), a1, a2, a3, a4, a5, a6, a7, a8] st h Q = wp S d 42 64 [some (.ref r), a1, a2, a3, a4, a5, a6, a7, a8] (.ref r :: st) h Q := wp_p hc42 dX2_init_63 rfl
theorem e42_64 : wp S d 42 64 [a0, a1, a2, a3, some (.int x), a5, a6, a7, a8] st h Q = wp S d 42 66 [a0, a1, a2, a3, some (.int x), a5, a6, a7, a8] (.int x :: st) h Q := wp_p hc42 dX2_init_64 rfl
theorem e42_66 : wp S d 42 66 [a0, a1, a2, a3, a4, a5, a6, a7, a8] (w :: .ref r :: st) h Q = am_pfK 42 h r 2 3 false w (fun h => wp S d 42 69 [a0, a1, a2, a3, a4, a5, a6, a7, a8] st h Q) := wp_pf hc42 dX2_init_66 ho42 fl2_22
theorem e42_69 : wp S d 42 69 ls [] h Q = Q (.inl none, h) := wp_r hc42 dX2_init_69 rfl rfl ⟨rfl, rfl, rfl⟩
theorem e43_0 : wp S d 43 0 [some (.ref r), a1, a2, a3, a4, a5] st h Q = wp S d 43 1 [some (.ref r), a1, a2, a3, a4, a5] (.ref r :: st) h Q := wp_p hc43 dX2_sites_0 rfl
theorem e43_1 : wp S d 43 1 [a0, a1, a2, a3, a4, a5] (.ref r :: st) h Q = am_gfK h r 2 0 (fun w => wp S d 43 4 [a0, a1, a2, a3, a4, a5] (w :: st) h Q) := wp_gf hc43 dX2_sites_1 ho43 fl2_9
theorem e43_4 : wp S d 43 4 [a0, a1, a2, a3, a4, a5] st h Q = wp S d 43 5 [a0, a1, a2, a3, a4, a5] (.int (nI 2) :: st) h Q := wp_p hc43 dX2_sites_4 rfl
theorem e43_5 : wp S d 43 5 [a0, a1, a2, a3, a4, a5] (.int y :: .int x :: st) h Q = if x = y then wp S d 43 8 [a0, a1, a2, a3, a4, a5] st h Q else wp S d 43 12 [a0, a1, a2, a3, a4, a5] st h Q := wp_ne hc43 dX2_sites_5 rfl
theorem e43_8 : wp S d 43 8 [a0, a1, a2, a3, a4, a5] st h Q = wp S d 43 9 [a0, a1, a2, a3, a4, a5] (.int (nI 1) :: st) h Q := wp_p hc43 dX2_sites_8 rfl
theorem e43_9 : wp S d 43 9 [a0, a1, a2, a3, a4, a5] st h Q = wp S d 43 13 [a0, a1, a2, a3, a4, a5] st h Q := wp_p hc43 dX2_sites_9 rfl
theorem e43_12 : wp S d 43 12 [a0, a1, a2, a3, a4, a5] st h Q = wp S d 43 13 [a0, a1, a2, a3, a4, a5] (.int (nI 0) :: st) h Q := wp_p hc43 dX2_sites_12 rfl
theorem e43_13 : wp S d 43 13 [a0, a1, a2, a3, a4, a5] (.int x :: st) h Q = wp S d 43 14 [a0, some (.int x), a2, a3, a4, a5] st h Q := wp_p hc43 dX2_sites_13 rfl
theorem e43_14 : wp S d 43 14 [some (.ref r), a1, a2, a3, a4, a5] st h Q = wp S d 43 15 [some (.ref r), a1, a2, a3, a4, a5] (.ref r :: st) h Q := wp_p hc43 dX2_sites_14 rfl
theorem e43_15 : wp S d 43 15 [a0, a1, a2, a3, a4, a5] (.ref r :: st) h Q = am_gfK h r 2 2 (fun w => wp S d 43 18 [a0, a1, a2, a3, a4, a5] (w :: st) h Q) := wp_gf hc43 dX2_sites_15 ho43 fl2_18
theorem e43_18 : wp S d 43 18 [a0, a1, a2, a3, a4, a5] (.ref r :: st) h Q = wp S d 43 19 [a0, a1, some (.ref r), a3, a4, a5] st h Q := wp_p hc43 dX2_sites_18 rfl
theorem e43_19 : wp S d 43 19 [a0, a1, some (.ref r), a3, a4, a5] st h Q = wp S d 43 20 [a0, a1, some (.ref r), a3, a4, a5] (.ref r :: st) h Q := wp_p hc43 dX2_sites_19 rfl
theorem e43_20 : wp S d 43 20 [a0, a1, a2, a3, a4, a5] (.ref r :: st) h Q = am_alK h r (fun n => wp S d 43 21 [a0, a1, a2, a3, a4, a5] (.int (nI n) :: st) h Q) := wp_al hc43 dX2_sites_20
theorem e43_21 : wp S d 43 21 [a0, a1, a2, a3, a4, a5] (.int x :: st) h Q = wp S d 43 22 [a0, a1, a2, some (.int x), a4, a5] st h Q := wp_p hc43 dX2_sites_21 rfl
theorem e43_22 : wp S d 43 22 [a0, a1, a2, a3, a4, a5] st h Q = wp S d 43 23 [a0, a1, a2, a3, a4, a5] (.int (nI 0) :: st) h Q := wp_p hc43 dX2_sites_22 rfl
theorem e43_23 : wp S d 43 23 [a0, a1, a2, a3, a4, a5] (.int x :: st) h Q = wp S d 43 25 [a0, a1, a2, a3, some (.int x), a5] st h Q := wp_p hc43 dX2_sites_23 rfl
theorem e43_25 : wp S d 43 25 [a0, a1, a2, a3, some (.int x), a5] st h Q = wp S d 43 27 [a0, a1, a2, a3, some (.int x), a5] (.int x :: st) h Q := wp_p hc43 dX2_sites_25 rfl
theorem e43_27 : wp S d 43 27 [a0, a1, a2, some (.int x), a4, a5] st h Q = wp S d 43 28 [a0, a1, a2, some (.int x), a4, a5] (.int x :: st) h Q := wp_p hc43 dX2_sites_27 rfl
theorem e43_28 : wp S d 43 28 [a0, a1, a2, a3, a4, a5] (.int y :: .int x :: st) h Q = if y ≤ x then wp S d 43 51 [a0, a1, a2, a3, a4, a5] st h Q else wp S d 43 31 [a0, a1, a2, a3, a4, a5] st h Q := wp_ge hc43 dX2_sites_28 rfl
theorem e43_31 : wp S d 43 31 [a0, a1, some (.ref r), a3, a4, a5] st h Q = wp S d 43 32 [a0, a1, some (.ref r), a3, a4, a5] (.ref r :: st) h Q := wp_p hc43 dX2_sites_31 rfl
theorem e43_32 : wp S d 43 32 [a0, a1, a2, a3, some (.int x), a5] st h Q = wp S d 43 34 [a0, a1, a2, a3, some (.int x), a5] (.int x :: st) h Q := wp_p hc43 dX2_sites_32 rfl
theorem e43_34 : wp S d 43 34 [a0, a1, a2, a3, a4, a5] (.int x :: .ref r :: st) h Q = am_aaK h r x (fun w => wp S d 43 35 [a0, a1, a2, a3, a4, a5] (w :: st) h Q) := wp_aa hc43 dX2_sites_34
theorem e43_35 : wp S d 43 35 [a0, a1, a2, a3, a4, a5] (.ref r :: st) h Q = wp S d 43 37 [a0, a1, a2, a3, a4, some (.ref r)] st h Q := wp_p hc43 dX2_sites_35 rfl
theorem e43_37 : wp S d 43 37 [a0, some (.int x), a2, a3, a4, a5] st h Q = wp S d 43 38 [a0, some (.int x), a2, a3, a4, a5] (.int x :: st) h Q := wp_p hc43 dX2_sites_37 rfl
theorem e43_38 : wp S d 43 38 [a0, a1, a2, a3, a4, some (.ref r)] st h Q = wp S d 43 40 [a0, a1, a2, a3, a4, some (.ref r)] (.ref r :: st) h Q := wp_p hc43 dX2_sites_38 rfl
theorem e43_40 : wp S (d + 1) 43 40 [a0, a1, a2, a3, a4, a5] (.ref r0 :: st) h Q = (am_w8 st ∧ am_rcv h 2 43 (.ref r0) = true ∧ wp S d 43 0 [some (.ref r0), none, none, none, none, none] [] h (am_kr S 2 (d + 1) 43 40 [a0, a1, a2, a3, a4, a5] st Q)) := wp_cV (.ref r0) [] hc43 dX2_sites_40 ho43 cl2_25 (by decide) ns2_25 hst43 hnp43 hml43 hlsl43 rfl rfl rfl
theorem e43_43 : wp S d 43 43 [a0, a1, a2, a3, a4, a5] (.int y :: .int x :: st) h Q = wp S d 43 44 [a0, a1, a2, a3, a4, a5] (.int (x + y) :: st) h Q := wp_p hc43 dX2_sites_43 rfl
theorem e43_44 : wp S d 43 44 [a0, a1, a2, a3, a4, a5] (.int x :: st) h Q = wp S d 43 45 [a0, some (.int x), a2, a3, a4, a5] st h Q := wp_p hc43 dX2_sites_44 rfl
theorem e43_45 : wp S d 43 45 [a0, a1, a2, a3, some (.int x), a5] st h Q = wp S d 43 48 [a0, a1, a2, a3, some (.int (x + nI 1)), a5] st h Q := wp_p hc43 dX2_sites_45 rfl
theorem e43_48 : wp S d 43 48 [a0, a1, a2, a3, a4, a5] st h Q = wp S d 43 25 [a0, a1, a2, a3, a4, a5] st h Q := wp_p hc43 dX2_sites_48 rfl
theorem e43_51 : wp S d 43 51 [a0, some (.int x), a2, a3, a4, a5] st h Q = wp S d 43 52 [a0, some (.int x), a2, a3, a4, a5] (.int x :: st) h Q := wp_p hc43 dX2_sites_51 rfl
theorem e43_52 : wp S d 43 52 ls [.int x] h Q = Q (.inl (some (.int x)), h) := wp_r hc43 dX2_sites_52 rfl rfl ⟨x, _, rfl, rfl, rfl, rfl⟩
theorem e44_0 : wp S d 44 0 [some (.ref r), a1, a2] st h Q = wp S d 44 1 [some (.ref r), a1, a2] (.ref r :: st) h Q := wp_p hc44 dX2_write_0 rfl
theorem e44_1 : wp S d 44 1 [a0, a1, a2] (.ref r :: st) h Q = am_gfK h r 2 0 (fun w => wp S d 44 4 [a0, a1, a2] (w :: st) h Q) := wp_gf hc44 dX2_write_1 ho44 fl2_9
theorem e44_4 : wp S d 44 4 [a0, a1, a2] (.int x :: st) h Q = if x = 0 then wp S d 44 7 [a0, a1, a2] st h Q else wp S d 44 17 [a0, a1, a2] st h Q := wp_ne hc44 dX2_write_4 rfl
theorem e44_7 : wp S d 44 7 [a0, some (.ref r), a2] st h Q = wp S d 44 8 [a0, some (.ref r), a2] (.ref r :: st) h Q := wp_p hc44 dX2_write_7 rfl
theorem e44_8 : wp S d 44 8 [some (.ref r), a1, a2] st h Q = wp S d 44 9 [some (.ref r), a1, a2] (.ref r :: st) h Q := wp_p hc44 dX2_write_8 rfl
theorem e44_9 : wp S d 44 9 [a0, a1, a2] (.ref r :: st) h Q = am_gfK h r 2 1 (fun w => wp S d 44 12 [a0, a1, a2] (w :: st) h Q) := wp_gf hc44 dX2_write_9 ho44 fl2_15
theorem e44_12 : wp S (d + 1) 44 12 [a0, a1, a2] (.int x1 :: .ref r0 :: st) h Q = (am_w8 st ∧ am_rcv h 2 157 (.ref r0) = true ∧ wp S d 157 0 [some (.ref r0), some (.int x1)] [] h (am_kr S 2 (d + 1) 44 12 [a0, a1, a2] st Q)) := wp_cV (.ref r0) [.int x1] hc44 dX2_write_12 ho44 cl2_29 (by decide) ns2_29 hst157 hnp157 hml157 hlsl157 rfl rfl rfl
theorem e44_15 : wp S d 44 15 [a0, a1, a2] (.ref r :: st) h Q = wp S d 44 16 [a0, a1, a2] st h Q := wp_p hc44 dX2_write_15 rfl
theorem e44_15i : wp S d 44 15 [a0, a1, a2] (.int x :: st) h Q = wp S d 44 16 [a0, a1, a2] st h Q := wp_p hc44 dX2_write_15 rfl
theorem e44_16 : wp S d 44 16 ls [] h Q = Q (.inl none, h) := wp_r hc44 dX2_write_16 rfl rfl ⟨rfl, rfl, rfl⟩
theorem e44_17 : wp S d 44 17 [a0, some (.ref r), a2] st h Q = wp S d 44 18 [a0, some (.ref r), a2] (.ref r :: st) h Q := wp_p hc44 dX2_write_17 rfl
theorem e44_18 : wp S d 44 18 [a0, a1, a2] st h Q = wp S d 44 20 [a0, a1, a2] (.retAddr 1 :: st) h Q := wp_lc hc44 dX2_write_18 ho44 lc2_35
theorem e44_20 : wp S d 44 20 [some (.ref r), a1, a2] st h Q = wp S d 44 21 [some (.ref r), a1, a2] (.ref r :: st) h Q := wp_p hc44 dX2_write_20 rfl
theorem e44_21 : wp S d 44 21 [a0, a1, a2] (.ref r :: st) h Q = am_gfK h r 2 0 (fun w => wp S d 44 24 [a0, a1, a2] (w :: st) h Q) := wp_gf hc44 dX2_write_21 ho44 fl2_9
theorem e44_24 : wp S (d + 1) 44 24 [a0, a1, a2] (.int x1 :: .ref r0 :: st) h Q = (am_w8 st ∧ am_rcv h 2 163 (.ref r0) = true ∧ wp S d 163 0 [some (.ref r0), some (.int x1)] [] h (am_kr S 2 (d + 1) 44 24 [a0, a1, a2] st Q)) := wp_cV (.ref r0) [.int x1] hc44 dX2_write_24 ho44 cl2_37 (by decide) ns2_37 hst163 hnp163 hml163 hlsl163 rfl rfl rfl
theorem e44_24k : wp S (d + 1) 44 24 [a0, a1, a2] (.int x1 :: .retAddr r0 :: st) h Q = (am_w8 st ∧ am_rcv h 2 163 (.retAddr r0) = true ∧ wp S d 163 0 [some (.retAddr r0), some (.int x1)] [] h (am_kr S 2 (d + 1) 44 24 [a0, a1, a2] st Q)) := wp_cV (.retAddr r0) [.int x1] hc44 dX2_write_24 ho44 cl2_37 (by decide) ns2_37 hst163 hnp163 hml163 hlsl163 rfl rfl rfl
theorem e44_27 : wp S d 44 27 [some (.ref r), a1, a2] st h Q = wp S d 44 28 [some (.ref r), a1, a2] (.ref r :: st) h Q := wp_p hc44 dX2_write_27 rfl
theorem e44_28 : wp S d 44 28 [a0, a1, a2] (.ref r :: st) h Q = am_gfK h r 2 1 (fun w => wp S d 44 31 [a0, a1, a2] (w :: st) h Q) := wp_gf hc44 dX2_write_28 ho44 fl2_15
theorem e44_31 : wp S d 44 31 [a0, a1, a2] (.int y :: .int x :: st) h Q = wp S d 44 32 [a0, a1, a2] (.int (x + y) :: st) h Q := wp_p hc44 dX2_write_31 rfl
theorem e44_32 : wp S d 44 32 [a0, a1, a2] (.int x :: st) h Q = wp S d 44 33 [a0, a1, a2] (.int (x.toUInt32 % 65536).toInt32 :: st) h Q := wp_p hc44 dX2_write_32 rfl
theorem e44_33 : wp S (d + 1) 44 33 [a0, a1, a2] (.int x1 :: .ref r0 :: st) h Q = (am_w8 st ∧ am_rcv h 2 158 (.ref r0) = true ∧ wp S d 158 0 [some (.ref r0), some (.int x1)] [] h (am_kr S 2 (d + 1) 44 33 [a0, a1, a2] st Q)) := wp_cV (.ref r0) [.int x1] hc44 dX2_write_33 ho44 cl2_43 (by decide) ns2_43 hst158 hnp158 hml158 hlsl158 rfl rfl rfl
theorem e44_36 : wp S d 44 36 [a0, a1, a2] (.ref r :: st) h Q = wp S d 44 37 [a0, a1, a2] st h Q := wp_p hc44 dX2_write_36 rfl
theorem e44_36i : wp S d 44 36 [a0, a1, a2] (.int x :: st) h Q = wp S d 44 37 [a0, a1, a2] st h Q := wp_p hc44 dX2_write_36 rfl
theorem e44_37 : wp S d 44 37 [some (.ref r), a1, a2] st h Q = wp S d 44 38 [some (.ref r), a1, a2] (.ref r :: st) h Q := wp_p hc44 dX2_write_37 rfl
theorem e44_38 : wp S d 44 38 [a0, a1, a2] (.ref r :: st) h Q = am_gfK h r 2 0 (fun w => wp S d 44 41 [a0, a1, a2] (w :: st) h Q) := wp_gf hc44 dX2_write_38 ho44 fl2_9
theorem e44_41 : wp S d 44 41 [a0, a1, a2] st h Q = wp S d 44 42 [a0, a1, a2] (.int (nI 1) :: st) h Q := wp_p hc44 dX2_write_41 rfl
theorem e44_42 : wp S d 44 42 [a0, a1, a2] (.int y :: .int x :: st) h Q = if x = y then wp S d 44 45 [a0, a1, a2] st h Q else wp S d 44 46 [a0, a1, a2] st h Q := wp_ne hc44 dX2_write_42 rfl
theorem e44_45 : wp S d 44 45 ls [] h Q = Q (.inl none, h) := wp_r hc44 dX2_write_45 rfl rfl ⟨rfl, rfl, rfl⟩
theorem e44_46 : wp S d 44 46 [a0, some (.ref r), a2] st h Q = wp S d 44 47 [a0, some (.ref r), a2] (.ref r :: st) h Q := wp_p hc44 dX2_write_46 rfl
theorem e44_47 : wp S d 44 47 [a0, a1, a2] st h Q = wp S d 44 49 [a0, a1, a2] (.int (nI 40) :: st) h Q := wp_p hc44 dX2_write_47 rfl
theorem e44_49 : wp S (d + 1) 44 49 [a0, a1, a2] (.int x1 :: .ref r0 :: st) h Q = (am_w8 st ∧ am_rcv h 2 158 (.ref r0) = true ∧ wp S d 158 0 [some (.ref r0), some (.int x1)] [] h (am_kr S 2 (d + 1) 44 49 [a0, a1, a2] st Q)) := wp_cV (.ref r0) [.int x1] hc44 dX2_write_49 ho44 cl2_43 (by decide) ns2_43 hst158 hnp158 hml158 hlsl158 rfl rfl rfl
theorem e44_52 : wp S d 44 52 [a0, a1, a2] (.ref r :: st) h Q = wp S d 44 53 [a0, a1, a2] st h Q := wp_p hc44 dX2_write_52 rfl
theorem e44_52i : wp S d 44 52 [a0, a1, a2] (.int x :: st) h Q = wp S d 44 53 [a0, a1, a2] st h Q := wp_p hc44 dX2_write_52 rfl
theorem e44_53 : wp S d 44 53 [a0, a1, a2] st h Q = wp S d 44 54 [a0, a1, a2] (.int (nI 0) :: st) h Q := wp_p hc44 dX2_write_53 rfl
theorem e44_54 : wp S d 44 54 [a0, a1, a2] (.int x :: st) h Q = wp S d 44 55 [a0, a1, some (.int x)] st h Q := wp_p hc44 dX2_write_54 rfl
theorem e44_55 : wp S d 44 55 [a0, a1, some (.int x)] st h Q = wp S d 44 56 [a0, a1, some (.int x)] (.int x :: st) h Q := wp_p hc44 dX2_write_55 rfl
theorem e44_56 : wp S d 44 56 [some (.ref r), a1, a2] st h Q = wp S d 44 57 [some (.ref r), a1, a2] (.ref r :: st) h Q := wp_p hc44 dX2_write_56 rfl
theorem e44_57 : wp S d 44 57 [a0, a1, a2] (.ref r :: st) h Q = am_gfK h r 2 2 (fun w => wp S d 44 60 [a0, a1, a2] (w :: st) h Q) := wp_gf hc44 dX2_write_57 ho44 fl2_18
theorem e44_60 : wp S d 44 60 [a0, a1, a2] (.ref r :: st) h Q = am_alK h r (fun n => wp S d 44 61 [a0, a1, a2] (.int (nI n) :: st) h Q) := wp_al hc44 dX2_write_60
theorem e44_61 : wp S d 44 61 [a0, a1, a2] (.int y :: .int x :: st) h Q = if y ≤ x then wp S d 44 96 [a0, a1, a2] st h Q else wp S d 44 64 [a0, a1, a2] st h Q := wp_ge hc44 dX2_write_61 rfl
theorem e44_64 : wp S d 44 64 [a0, some (.ref r), a2] st h Q = wp S d 44 65 [a0, some (.ref r), a2] (.ref r :: st) h Q := wp_p hc44 dX2_write_64 rfl
theorem e44_65 : wp S d 44 65 [a0, a1, some (.int x)] st h Q = wp S d 44 66 [a0, a1, some (.int x)] (.int x :: st) h Q := wp_p hc44 dX2_write_65 rfl
theorem e44_66 : wp S d 44 66 [a0, a1, a2] (.int x :: st) h Q = if x = 0 then wp S d 44 69 [a0, a1, a2] st h Q else wp S d 44 74 [a0, a1, a2] st h Q := wp_ne hc44 dX2_write_66 rfl
theorem e44_69 : wp S d 44 69 [a0, a1, a2] st h Q = wp S d 44 71 [a0, a1, a2] (.retAddr 2 :: st) h Q := wp_lc hc44 dX2_write_69 ho44 lc2_46
theorem e44_71 : wp S d 44 71 [a0, a1, a2] st h Q = wp S d 44 76 [a0, a1, a2] st h Q := wp_p hc44 dX2_write_71 rfl
theorem e44_74 : wp S d 44 74 [a0, a1, a2] st h Q = wp S d 44 76 [a0, a1, a2] (.retAddr 3 :: st) h Q := wp_lc hc44 dX2_write_74 ho44 lc2_48
theorem e44_76 : wp S (d + 1) 44 76 [a0, a1, a2] (.ref r1 :: .ref r0 :: st) h Q = (am_w8 st ∧ am_rcv h 2 159 (.ref r0) = true ∧ wp S d 159 0 [some (.ref r0), some (.ref r1)] [] h (am_kr S 2 (d + 1) 44 76 [a0, a1, a2] st Q)) := wp_cV (.ref r0) [.ref r1] hc44 dX2_write_76 ho44 cl2_50 (by decide) ns2_50 hst159 hnp159 hml159 hlsl159 rfl rfl rfl
theorem e44_76k : wp S (d + 1) 44 76 [a0, a1, a2] (.retAddr r1 :: .ref r0 :: st) h Q = (am_w8 st ∧ am_rcv h 2 159 (.ref r0) = true ∧ wp S d 159 0 [some (.ref r0), some (.retAddr r1)] [] h (am_kr S 2 (d + 1) 44 76 [a0, a1, a2] st Q)) := wp_cV (.ref r0) [.retAddr r1] hc44 dX2_write_76 ho44 cl2_50 (by decide) ns2_50 hst159 hnp159 hml159 hlsl159 rfl rfl rfl
theorem e44_79 : wp S d 44 79 [a0, a1, a2] (.ref r :: st) h Q = wp S d 44 80 [a0, a1, a2] st h Q := wp_p hc44 dX2_write_79 rfl
theorem e44_79i : wp S d 44 79 [a0, a1, a2] (.int x :: st) h Q = wp S d 44 80 [a0, a1, a2] st h Q := wp_p hc44 dX2_write_79 rfl
theorem e44_80 : wp S d 44 80 [some (.ref r), a1, a2] st h Q = wp S d 44 81 [some (.ref r), a1, a2] (.ref r :: st) h Q := wp_p hc44 dX2_write_80 rfl
theorem e44_81 : wp S d 44 81 [a0, a1, a2] (.ref r :: st) h Q = am_gfK h r 2 2 (fun w => wp S d 44 84 [a0, a1, a2] (w :: st) h Q) := wp_gf hc44 dX2_write_81 ho44 fl2_18
theorem e44_84 : wp S d 44 84 [a0, a1, some (.int x)] st h Q = wp S d 44 85 [a0, a1, some (.int x)] (.int x :: st) h Q := wp_p hc44 dX2_write_84 rfl
theorem e44_85 : wp S d 44 85 [a0, a1, a2] (.int x :: .ref r :: st) h Q = am_aaK h r x (fun w => wp S d 44 86 [a0, a1, a2] (w :: st) h Q) := wp_aa hc44 dX2_write_85
theorem e44_86 : wp S d 44 86 [a0, some (.ref r), a2] st h Q = wp S d 44 87 [a0, some (.ref r), a2] (.ref r :: st) h Q := wp_p hc44 dX2_write_86 rfl
theorem e44_87 : wp S (d + 1) 44 87 [a0, a1, a2] (.ref r1 :: .ref r0 :: st) h Q = (am_w8 st ∧ am_rcv h 2 44 (.ref r0) = true ∧ wp S d 44 0 [some (.ref r0), some (.ref r1), none] [] h (am_kr S 2 (d + 1) 44 87 [a0, a1, a2] st Q)) := wp_cV (.ref r0) [.ref r1] hc44 dX2_write_87 ho44 cl2_53 (by decide) ns2_53 hst44 hnp44 hml44 hlsl44 rfl rfl rfl
theorem e44_90 : wp S d 44 90 [a0, a1, some (.int x)] st h Q = wp S d 44 93 [a0, a1, some (.int (x + nI 1))] st h Q := wp_p hc44 dX2_write_90 rfl
theorem e44_93 : wp S d 44 93 [a0, a1, a2] st h Q = wp S d 44 55 [a0, a1, a2] st h Q := wp_p hc44 dX2_write_93 rfl
theorem e44_96 : wp S d 44 96 [a0, some (.ref r), a2] st h Q = wp S d 44 97 [a0, some (.ref r), a2] (.ref r :: st) h Q := wp_p hc44 dX2_write_96 rfl
theorem e44_97 : wp S d 44 97 [a0, a1, a2] st h Q = wp S d 44 99 [a0, a1, a2] (.int (nI 41) :: st) h Q := wp_p hc44 dX2_write_97 rfl
theorem e44_99 : wp S (d + 1) 44 99 [a0, a1, a2] (.int x1 :: .ref r0 :: st) h Q = (am_w8 st ∧ am_rcv h 2 158 (.ref r0) = true ∧ wp S d 158 0 [some (.ref r0), some (.int x1)] [] h (am_kr S 2 (d + 1) 44 99 [a0, a1, a2] st Q)) := wp_cV (.ref r0) [.int x1] hc44 dX2_write_99 ho44 cl2_43 (by decide) ns2_43 hst158 hnp158 hml158 hlsl158 rfl rfl rfl
theorem e44_102 : wp S d 44 102 [a0, a1, a2] (.ref r :: st) h Q = wp S d 44 103 [a0, a1, a2] st h Q := wp_p hc44 dX2_write_102 rfl
theorem e44_102i : wp S d 44 102 [a0, a1, a2] (.int x :: st) h Q = wp S d 44 103 [a0, a1, a2] st h Q := wp_p hc44 dX2_write_102 rfl
theorem e44_103 : wp S d 44 103 ls [] h Q = Q (.inl none, h) := wp_r hc44 dX2_write_103 rfl rfl ⟨rfl, rfl, rfl⟩
theorem e45_0 : wp S d 45 0 [some (.ref r)] st h Q = wp S d 45 1 [some (.ref r)] (.ref r :: st) h Q := wp_p hc45 dX3_init_0 rfl
theorem e45_1 : wp S d 45 1 [a0] st h Q = wp S d 45 2 [a0] (.int (nI 1) :: st) h Q := wp_p hc45 dX3_init_1 rfl
theorem e45_2 : wp S d 45 2 [a0] st h Q = wp S d 45 3 [a0] (.int (nI 0) :: st) h Q := wp_p hc45 dX3_init_2 rfl
theorem e45_3 : wp S d 45 3 [a0] st h Q = wp S d 45 4 [a0] (.int (nI 0) :: st) h Q := wp_p hc45 dX3_init_3 rfl
theorem e45_4 : wp S d 45 4 [a0] st h Q = wp S d 45 5 [a0] (.int (nI 4) :: st) h Q := wp_p hc45 dX3_init_4 rfl
theorem e45_5 : wp S d 45 5 [a0] (.int x :: st) h Q = (¬ x < 0 ∧ x.toNatClampNeg ≤ 1000000 ∧ wp S d 45 7 [a0] (.ref h.length :: st) (h ++ [.inl (0, x.toNatClampNeg, fun _ => 0)]) Q) := wp_na0 hc45 dX3_init_5
theorem e45_7 : wp S d 45 7 [a0] (.ref r :: st) h Q = wp S d 45 8 [a0] (.ref r :: .ref r :: st) h Q := wp_p hc45 dX3_init_7 rfl
theorem e45_7i : wp S d 45 7 [a0] (.int x :: st) h Q = wp S d 45 8 [a0] (.int x :: .int x :: st) h Q := wp_p hc45 dX3_init_7 rfl
theorem e45_8 : wp S d 45 8 [a0] st h Q = wp S d 45 9 [a0] (.int (nI 0) :: st) h Q := wp_p hc45 dX3_init_8 rfl
theorem e45_9 : wp S d 45 9 [a0] st h Q = wp S d 45 10 [a0] (.int (nI 0) :: st) h Q := wp_p hc45 dX3_init_9 rfl
theorem e45_10 : wp S d 45 10 [a0] (.int y :: .int x :: .ref r :: st) h Q = am_isK h r x y (fun h => wp S d 45 11 [a0] st h Q) := wp_is hc45 dX3_init_10
theorem e45_11 : wp S d 45 11 [a0] (.ref r :: st) h Q = wp S d 45 12 [a0] (.ref r :: .ref r :: st) h Q := wp_p hc45 dX3_init_11 rfl
theorem e45_11i : wp S d 45 11 [a0] (.int x :: st) h Q = wp S d 45 12 [a0] (.int x :: .int x :: st) h Q := wp_p hc45 dX3_init_11 rfl
theorem e45_12 : wp S d 45 12 [a0] st h Q = wp S d 45 13 [a0] (.int (nI 1) :: st) h Q := wp_p hc45 dX3_init_12 rfl
theorem e45_13 : wp S d 45 13 [a0] st h Q = wp S d 45 14 [a0] (.int (nI 0) :: st) h Q := wp_p hc45 dX3_init_13 rfl
theorem e45_14 : wp S d 45 14 [a0] (.int y :: .int x :: .ref r :: st) h Q = am_isK h r x y (fun h => wp S d 45 15 [a0] st h Q) := wp_is hc45 dX3_init_14
theorem e45_15 : wp S d 45 15 [a0] (.ref r :: st) h Q = wp S d 45 16 [a0] (.ref r :: .ref r :: st) h Q := wp_p hc45 dX3_init_15 rfl
theorem e45_15i : wp S d 45 15 [a0] (.int x :: st) h Q = wp S d 45 16 [a0] (.int x :: .int x :: st) h Q := wp_p hc45 dX3_init_15 rfl
theorem e45_16 : wp S d 45 16 [a0] st h Q = wp S d 45 17 [a0] (.int (nI 2) :: st) h Q := wp_p hc45 dX3_init_16 rfl
theorem e45_17 : wp S d 45 17 [a0] st h Q = wp S d 45 18 [a0] (.int (nI 0) :: st) h Q := wp_p hc45 dX3_init_17 rfl
theorem e45_18 : wp S d 45 18 [a0] (.int y :: .int x :: .ref r :: st) h Q = am_isK h r x y (fun h => wp S d 45 19 [a0] st h Q) := wp_is hc45 dX3_init_18
theorem e45_19 : wp S d 45 19 [a0] (.ref r :: st) h Q = wp S d 45 20 [a0] (.ref r :: .ref r :: st) h Q := wp_p hc45 dX3_init_19 rfl
theorem e45_19i : wp S d 45 19 [a0] (.int x :: st) h Q = wp S d 45 20 [a0] (.int x :: .int x :: st) h Q := wp_p hc45 dX3_init_19 rfl
theorem e45_20 : wp S d 45 20 [a0] st h Q = wp S d 45 21 [a0] (.int (nI 3) :: st) h Q := wp_p hc45 dX3_init_20 rfl
theorem e45_21 : wp S d 45 21 [a0] st h Q = wp S d 45 22 [a0] (.int (nI 0) :: st) h Q := wp_p hc45 dX3_init_21 rfl
theorem e45_22 : wp S d 45 22 [a0] (.int y :: .int x :: .ref r :: st) h Q = am_isK h r x y (fun h => wp S d 45 23 [a0] st h Q) := wp_is hc45 dX3_init_22
theorem e45_23 : wp S (d + 1) 45 23 [a0] (.ref r4 :: .int x3 :: .int x2 :: .int x1 :: .ref r0 :: st) h Q = (am_w8 st ∧ am_rcv h 4 46 (.ref r0) = true ∧ wp S d 46 0 [some (.ref r0), some (.int x1), some (.int x2), some (.int x3), some (.ref r4)] [] h (am_kr S 4 (d + 1) 45 23 [a0] st Q)) := wp_cI (.ref r0) [.int x1, .int x2, .int x3, .ref r4] hc45 dX3_init_23 ho45 cl3_3 (by decide) ns3_3 hst46 hnp46 hml46 hlsl46 rfl rfl rfl
theorem e45_26 : wp S d 45 26 ls [] h Q = Q (.inl none, h) := wp_r hc45 dX3_init_26 rfl rfl ⟨rfl, rfl, rfl⟩
theorem e46_0 : wp S d 46 0 [some (.ref r), a1, a2, a3, a4] st h Q = wp S d 46 1 [some (.ref r), a1, a2, a3, a4] (.ref r :: st) h Q := wp_p hc46 dX3_init_2_0 rfl
theorem e46_1 : wp S (d + 1) 46 1 [a0, a1, a2, a3, a4] (.ref r :: st) h Q = (am_w8 st ∧ wp S (d + 1) 46 4 [a0, a1, a2, a3, a4] st h Q) := wp_oi hc46 dX3_init_2_1 ho46 sp3_9 nc3_9
theorem e46_4 : wp S d 46 4 [some (.ref r), a1, a2, a3, a4] st h Q = wp S d 46 5 [some (.ref r), a1, a2, a3, a4] (.ref r :: st) h Q := wp_p hc46 dX3_init_2_4 rfl
theorem e46_5 : wp S d 46 5 [a0, some (.int x), a2, a3, a4] st h Q = wp S d 46 6 [a0, some (.int x), a2, a3, a4] (.int x :: st) h Q := wp_p hc46 dX3_init_2_5 rfl
theorem e46_6 : wp S d 46 6 [a0, a1, a2, a3, a4] (w :: .ref r :: st) h Q = am_pfK 46 h r 3 0 false w (fun h => wp S d 46 9 [a0, a1, a2, a3, a4] st h Q) := wp_pf hc46 dX3_init_2_6 ho46 fl3_14
theorem e46_9 : wp S d 46 9 [some (.ref r), a1, a2, a3, a4] st h Q = wp S d 46 10 [some (.ref r), a1, a2, a3, a4] (.ref r :: st) h Q := wp_p hc46 dX3_init_2_9 rfl
theorem e46_10 : wp S d 46 10 [a0, a1, some (.int x), a3, a4] st h Q = wp S d 46 11 [a0, a1, some (.int x), a3, a4] (.int x :: st) h Q := wp_p hc46 dX3_init_2_10 rfl
theorem e46_11 : wp S d 46 11 [a0, a1, a2, a3, a4] (w :: .ref r :: st) h Q = am_pfK 46 h r 3 1 false w (fun h => wp S d 46 14 [a0, a1, a2, a3, a4] st h Q) := wp_pf hc46 dX3_init_2_11 ho46 fl3_18
theorem e46_14 : wp S d 46 14 [some (.ref r), a1, a2, a3, a4] st h Q = wp S d 46 15 [some (.ref r), a1, a2, a3, a4] (.ref r :: st) h Q := wp_p hc46 dX3_init_2_14 rfl
theorem e46_15 : wp S d 46 15 [a0, a1, a2, some (.int x), a4] st h Q = wp S d 46 16 [a0, a1, a2, some (.int x), a4] (.int x :: st) h Q := wp_p hc46 dX3_init_2_15 rfl
theorem e46_16 : wp S d 46 16 [a0, a1, a2, a3, a4] (w :: .ref r :: st) h Q = am_pfK 46 h r 3 2 false w (fun h => wp S d 46 19 [a0, a1, a2, a3, a4] st h Q) := wp_pf hc46 dX3_init_2_16 ho46 fl3_21
theorem e46_19 : wp S d 46 19 [some (.ref r), a1, a2, a3, a4] st h Q = wp S d 46 20 [some (.ref r), a1, a2, a3, a4] (.ref r :: st) h Q := wp_p hc46 dX3_init_2_19 rfl
theorem e46_20 : wp S d 46 20 [a0, a1, a2, a3, some (.ref r)] st h Q = wp S d 46 22 [a0, a1, a2, a3, some (.ref r)] (.ref r :: st) h Q := wp_p hc46 dX3_init_2_20 rfl
theorem e46_22 : wp S d 46 22 [a0, a1, a2, a3, a4] (w :: .ref r :: st) h Q = am_pfK 46 h r 3 3 false w (fun h => wp S d 46 25 [a0, a1, a2, a3, a4] st h Q) := wp_pf hc46 dX3_init_2_22 ho46 fl3_24
theorem e46_25 : wp S d 46 25 ls [] h Q = Q (.inl none, h) := wp_r hc46 dX3_init_2_25 rfl rfl ⟨rfl, rfl, rfl⟩
theorem e47_0 : wp S d 47 0 [a0, a1, a2] st h Q = wp S d 47 3 [a0, a1, a2] (.ref h.length :: st) (h ++ [.inr (.inr (3, am_dft 3))]) Q := wp_nw hc47 dX3_with_0 ho47 nw3_4
theorem e47_3 : wp S d 47 3 [a0, a1, a2] (.ref r :: st) h Q = wp S d 47 4 [a0, a1, a2] (.ref r :: .ref r :: st) h Q := wp_p hc47 dX3_with_3 rfl
theorem e47_3i : wp S d 47 3 [a0, a1, a2] (.int x :: st) h Q = wp S d 47 4 [a0, a1, a2] (.int x :: .int x :: st) h Q := wp_p hc47 dX3_with_3 rfl
theorem e47_4 : wp S d 47 4 [a0, some (.int x), a2] st h Q = wp S d 47 5 [a0, some (.int x), a2] (.int x :: st) h Q := wp_p hc47 dX3_with_4 rfl
theorem e47_5 : wp S d 47 5 [a0, a1, some (.int x)] st h Q = wp S d 47 6 [a0, a1, some (.int x)] (.int x :: st) h Q := wp_p hc47 dX3_with_5 rfl
theorem e47_6 : wp S d 47 6 [some (.ref r), a1, a2] st h Q = wp S d 47 7 [some (.ref r), a1, a2] (.ref r :: st) h Q := wp_p hc47 dX3_with_6 rfl
theorem e47_7 : wp S d 47 7 [a0, a1, a2] (.ref r :: st) h Q = am_gfK h r 3 2 (fun w => wp S d 47 10 [a0, a1, a2] (w :: st) h Q) := wp_gf hc47 dX3_with_7 ho47 fl3_21
theorem e47_10 : wp S d 47 10 [some (.ref r), a1, a2] st h Q = wp S d 47 11 [some (.ref r), a1, a2] (.ref r :: st) h Q := wp_p hc47 dX3_with_10 rfl
theorem e47_11 : wp S d 47 11 [a0, a1, a2] (.ref r :: st) h Q = am_gfK h r 3 3 (fun w => wp S d 47 14 [a0, a1, a2] (w :: st) h Q) := wp_gf hc47 dX3_with_11 ho47 fl3_24
theorem e47_14 : wp S (d + 1) 47 14 [a0, a1, a2] (.ref r4 :: .int x3 :: .int x2 :: .int x1 :: .ref r0 :: st) h Q = (am_w8 st ∧ am_rcv h 4 46 (.ref r0) = true ∧ wp S d 46 0 [some (.ref r0), some (.int x1), some (.int x2), some (.int x3), some (.ref r4)] [] h (am_kr S 4 (d + 1) 47 14 [a0, a1, a2] st Q)) := wp_cI (.ref r0) [.int x1, .int x2, .int x3, .ref r4] hc47 dX3_with_14 ho47 cl3_3 (by decide) ns3_3 hst46 hnp46 hml46 hlsl46 rfl rfl rfl
theorem e47_17 : wp S d 47 17 ls [.ref r] h Q = Q (.inl (some (.ref r)), h) := wp_r hc47 dX3_with_17 rfl rfl ⟨_, rfl, Or.inr ⟨_, rfl⟩, ⟨_, rfl, Or.inl ⟨_, rfl⟩⟩, rfl⟩
theorem e48_0 : wp S d 48 0 [a0, some (.int x)] st h Q = wp S d 48 1 [a0, some (.int x)] (.int x :: st) h Q := wp_p hc48 dX3_term_0 rfl
theorem e48_1 : wp S d 48 1 [a0, a1] st h Q = wp S d 48 2 [a0, a1] (.int ((-1)) :: st) h Q := wp_p hc48 dX3_term_1 rfl
theorem e48_2 : wp S d 48 2 [a0, a1] (.int y :: .int x :: st) h Q = if x = y then wp S d 48 5 [a0, a1] st h Q else wp S d 48 12 [a0, a1] st h Q := wp_ne hc48 dX3_term_2 rfl
theorem e48_5 : wp S d 48 5 [some (.ref r), a1] st h Q = wp S d 48 6 [some (.ref r), a1] (.ref r :: st) h Q := wp_p hc48 dX3_term_5 rfl
theorem e48_6 : wp S d 48 6 [a0, a1] (.ref r :: st) h Q = am_gfK h r 3 2 (fun w => wp S d 48 9 [a0, a1] (w :: st) h Q) := wp_gf hc48 dX3_term_6 ho48 fl3_21
theorem e48_9 : wp S d 48 9 [a0, a1] st h Q = wp S d 48 18 [a0, a1] st h Q := wp_p hc48 dX3_term_9 rfl
theorem e48_12 : wp S d 48 12 [some (.ref r), a1] st h Q = wp S d 48 13 [some (.ref r), a1] (.ref r :: st) h Q := wp_p hc48 dX3_term_12 rfl
theorem e48_13 : wp S d 48 13 [a0, a1] (.ref r :: st) h Q = am_gfK h r 3 3 (fun w => wp S d 48 16 [a0, a1] (w :: st) h Q) := wp_gf hc48 dX3_term_13 ho48 fl3_24
theorem e48_16 : wp S d 48 16 [a0, some (.int x)] st h Q = wp S d 48 17 [a0, some (.int x)] (.int x :: st) h Q := wp_p hc48 dX3_term_16 rfl
theorem e48_17 : wp S d 48 17 [a0, a1] (.int x :: .ref r :: st) h Q = am_iaK h r x (fun z => wp S d 48 18 [a0, a1] (.int z :: st) h Q) := wp_ia hc48 dX3_term_17
theorem e48_18 : wp S d 48 18 ls [.int x] h Q = Q (.inl (some (.int x)), h) := wp_r hc48 dX3_term_18 rfl rfl ⟨x, _, rfl, rfl, rfl, rfl⟩
theorem e49_0 : wp S d 49 0 [a0, some (.int x), a2, a3] st h Q = wp S d 49 1 [a0, some (.int x), a2, a3] (.int x :: st) h Q := wp_p hc49 dX3_withTerm_0 rfl
theorem e49_1 : wp S d 49 1 [a0, a1, a2, a3] st h Q = wp S d 49 2 [a0, a1, a2, a3] (.int ((-1)) :: st) h Q := wp_p hc49 dX3_withTerm_1 rfl
theorem e49_2 : wp S d 49 2 [a0, a1, a2, a3] (.int y :: .int x :: st) h Q = if x = y then wp S d 49 5 [a0, a1, a2, a3] st h Q else wp S d 49 26 [a0, a1, a2, a3] st h Q := wp_ne hc49 dX3_withTerm_2 rfl
theorem e49_5 : wp S d 49 5 [a0, a1, a2, a3] st h Q = wp S d 49 8 [a0, a1, a2, a3] (.ref h.length :: st) (h ++ [.inr (.inr (3, am_dft 3))]) Q := wp_nw hc49 dX3_withTerm_5 ho49 nw3_4
theorem e49_8 : wp S d 49 8 [a0, a1, a2, a3] (.ref r :: st) h Q = wp S d 49 9 [a0, a1, a2, a3] (.ref r :: .ref r :: st) h Q := wp_p hc49 dX3_withTerm_8 rfl
theorem e49_8i : wp S d 49 8 [a0, a1, a2, a3] (.int x :: st) h Q = wp S d 49 9 [a0, a1, a2, a3] (.int x :: .int x :: st) h Q := wp_p hc49 dX3_withTerm_8 rfl
theorem e49_9 : wp S d 49 9 [some (.ref r), a1, a2, a3] st h Q = wp S d 49 10 [some (.ref r), a1, a2, a3] (.ref r :: st) h Q := wp_p hc49 dX3_withTerm_9 rfl
theorem e49_10 : wp S d 49 10 [a0, a1, a2, a3] (.ref r :: st) h Q = am_gfK h r 3 0 (fun w => wp S d 49 13 [a0, a1, a2, a3] (w :: st) h Q) := wp_gf hc49 dX3_withTerm_10 ho49 fl3_14
theorem e49_13 : wp S d 49 13 [some (.ref r), a1, a2, a3] st h Q = wp S d 49 14 [some (.ref r), a1, a2, a3] (.ref r :: st) h Q := wp_p hc49 dX3_withTerm_13 rfl
theorem e49_14 : wp S d 49 14 [a0, a1, a2, a3] (.ref r :: st) h Q = am_gfK h r 3 1 (fun w => wp S d 49 17 [a0, a1, a2, a3] (w :: st) h Q) := wp_gf hc49 dX3_withTerm_14 ho49 fl3_18
theorem e49_17 : wp S d 49 17 [a0, a1, some (.int x), a3] st h Q = wp S d 49 18 [a0, a1, some (.int x), a3] (.int x :: st) h Q := wp_p hc49 dX3_withTerm_17 rfl
theorem e49_18 : wp S d 49 18 [some (.ref r), a1, a2, a3] st h Q = wp S d 49 19 [some (.ref r), a1, a2, a3] (.ref r :: st) h Q := wp_p hc49 dX3_withTerm_18 rfl
theorem e49_19 : wp S d 49 19 [a0, a1, a2, a3] (.ref r :: st) h Q = am_gfK h r 3 3 (fun w => wp S d 49 22 [a0, a1, a2, a3] (w :: st) h Q) := wp_gf hc49 dX3_withTerm_19 ho49 fl3_24
theorem e49_22 : wp S (d + 1) 49 22 [a0, a1, a2, a3] (.ref r4 :: .int x3 :: .int x2 :: .int x1 :: .ref r0 :: st) h Q = (am_w8 st ∧ am_rcv h 4 46 (.ref r0) = true ∧ wp S d 46 0 [some (.ref r0), some (.int x1), some (.int x2), some (.int x3), some (.ref r4)] [] h (am_kr S 4 (d + 1) 49 22 [a0, a1, a2, a3] st Q)) := wp_cI (.ref r0) [.int x1, .int x2, .int x3, .ref r4] hc49 dX3_withTerm_22 ho49 cl3_3 (by decide) ns3_3 hst46 hnp46 hml46 hlsl46 rfl rfl rfl
theorem e49_25 : wp S d 49 25 ls [.ref r] h Q = Q (.inl (some (.ref r)), h) := wp_r hc49 dX3_withTerm_25 rfl rfl ⟨_, rfl, Or.inr ⟨_, rfl⟩, ⟨_, rfl, Or.inl ⟨_, rfl⟩⟩, rfl⟩
theorem e49_26 : wp S d 49 26 [some (.ref r), a1, a2, a3] st h Q = wp S d 49 27 [some (.ref r), a1, a2, a3] (.ref r :: st) h Q := wp_p hc49 dX3_withTerm_26 rfl
theorem e49_27 : wp S d 49 27 [a0, a1, a2, a3] (.ref r :: st) h Q = am_gfK h r 3 3 (fun w => wp S d 49 30 [a0, a1, a2, a3] (w :: st) h Q) := wp_gf hc49 dX3_withTerm_27 ho49 fl3_24
theorem e49_30 : wp S (d + 1) 49 30 [a0, a1, a2, a3] (.ref r :: st) h Q = am_clK 0 r st h (fun h2 => wp S (d + 1) 49 33 [a0, a1, a2, a3] (.ref h.length :: st) h2 Q) := wp_cl (Or.inl rfl) hc49 dX3_withTerm_30 ho49 sp3_28 nc3_28
theorem e49_33 : wp S d 49 33 [a0, a1, a2, a3] (.ref r :: st) h Q = am_ccK h r 0 (wp S d 49 36 [a0, a1, a2, a3] (.ref r :: st) h Q) := wp_cc hc49 dX3_withTerm_33 ho49 ct3_29
theorem e49_36 : wp S d 49 36 [a0, a1, a2, a3] (.ref r :: st) h Q = wp S d 49 37 [a0, a1, a2, some (.ref r)] st h Q := wp_p hc49 dX3_withTerm_36 rfl
theorem e49_37 : wp S d 49 37 [a0, a1, a2, some (.ref r)] st h Q = wp S d 49 38 [a0, a1, a2, some (.ref r)] (.ref r :: st) h Q := wp_p hc49 dX3_withTerm_37 rfl
theorem e49_38 : wp S d 49 38 [a0, some (.int x), a2, a3] st h Q = wp S d 49 39 [a0, some (.int x), a2, a3] (.int x :: st) h Q := wp_p hc49 dX3_withTerm_38 rfl
theorem e49_39 : wp S d 49 39 [a0, a1, some (.int x), a3] st h Q = wp S d 49 40 [a0, a1, some (.int x), a3] (.int x :: st) h Q := wp_p hc49 dX3_withTerm_39 rfl
theorem e49_40 : wp S d 49 40 [a0, a1, a2, a3] (.int y :: .int x :: .ref r :: st) h Q = am_isK h r x y (fun h => wp S d 49 41 [a0, a1, a2, a3] st h Q) := wp_is hc49 dX3_withTerm_40
theorem e49_41 : wp S d 49 41 [a0, a1, a2, a3] st h Q = wp S d 49 44 [a0, a1, a2, a3] (.ref h.length :: st) (h ++ [.inr (.inr (3, am_dft 3))]) Q := wp_nw hc49 dX3_withTerm_41 ho49 nw3_4
theorem e49_44 : wp S d 49 44 [a0, a1, a2, a3] (.ref r :: st) h Q = wp S d 49 45 [a0, a1, a2, a3] (.ref r :: .ref r :: st) h Q := wp_p hc49 dX3_withTerm_44 rfl
theorem e49_44i : wp S d 49 44 [a0, a1, a2, a3] (.int x :: st) h Q = wp S d 49 45 [a0, a1, a2, a3] (.int x :: .int x :: st) h Q := wp_p hc49 dX3_withTerm_44 rfl
theorem e49_45 : wp S d 49 45 [some (.ref r), a1, a2, a3] st h Q = wp S d 49 46 [some (.ref r), a1, a2, a3] (.ref r :: st) h Q := wp_p hc49 dX3_withTerm_45 rfl
theorem e49_46 : wp S d 49 46 [a0, a1, a2, a3] (.ref r :: st) h Q = am_gfK h r 3 0 (fun w => wp S d 49 49 [a0, a1, a2, a3] (w :: st) h Q) := wp_gf hc49 dX3_withTerm_46 ho49 fl3_14
theorem e49_49 : wp S d 49 49 [some (.ref r), a1, a2, a3] st h Q = wp S d 49 50 [some (.ref r), a1, a2, a3] (.ref r :: st) h Q := wp_p hc49 dX3_withTerm_49 rfl
theorem e49_50 : wp S d 49 50 [a0, a1, a2, a3] (.ref r :: st) h Q = am_gfK h r 3 1 (fun w => wp S d 49 53 [a0, a1, a2, a3] (w :: st) h Q) := wp_gf hc49 dX3_withTerm_50 ho49 fl3_18
theorem e49_53 : wp S d 49 53 [some (.ref r), a1, a2, a3] st h Q = wp S d 49 54 [some (.ref r), a1, a2, a3] (.ref r :: st) h Q := wp_p hc49 dX3_withTerm_53 rfl
theorem e49_54 : wp S d 49 54 [a0, a1, a2, a3] (.ref r :: st) h Q = am_gfK h r 3 2 (fun w => wp S d 49 57 [a0, a1, a2, a3] (w :: st) h Q) := wp_gf hc49 dX3_withTerm_54 ho49 fl3_21
theorem e49_57 : wp S d 49 57 [a0, a1, a2, some (.ref r)] st h Q = wp S d 49 58 [a0, a1, a2, some (.ref r)] (.ref r :: st) h Q := wp_p hc49 dX3_withTerm_57 rfl
theorem e49_58 : wp S (d + 1) 49 58 [a0, a1, a2, a3] (.ref r4 :: .int x3 :: .int x2 :: .int x1 :: .ref r0 :: st) h Q = (am_w8 st ∧ am_rcv h 4 46 (.ref r0) = true ∧ wp S d 46 0 [some (.ref r0), some (.int x1), some (.int x2), some (.int x3), some (.ref r4)] [] h (am_kr S 4 (d + 1) 49 58 [a0, a1, a2, a3] st Q)) := wp_cI (.ref r0) [.int x1, .int x2, .int x3, .ref r4] hc49 dX3_withTerm_58 ho49 cl3_3 (by decide) ns3_3 hst46 hnp46 hml46 hlsl46 rfl rfl rfl
theorem e49_61 : wp S d 49 61 ls [.ref r] h Q = Q (.inl (some (.ref r)), h) := wp_r hc49 dX3_withTerm_61 rfl rfl ⟨_, rfl, Or.inr ⟨_, rfl⟩, ⟨_, rfl, Or.inl ⟨_, rfl⟩⟩, rfl⟩
theorem e50_0 : wp S d 50 0 [some (.ref r), a1] st h Q = wp S d 50 1 [some (.ref r), a1] (.ref r :: st) h Q := wp_p hc50 dX4_init_0 rfl
theorem e50_1 : wp S d 50 1 [a0, some (.ref r)] st h Q = wp S d 50 2 [a0, some (.ref r)] (.ref r :: st) h Q := wp_p hc50 dX4_init_1 rfl
theorem e50_2 : wp S d 50 2 [a0, a1] (w :: .ref r :: st) h Q = am_pfK 50 h r 4 2 false w (fun h => wp S d 50 5 [a0, a1] st h Q) := wp_pf hc50 dX4_init_2 ho50 fl4_3
theorem e50_5 : wp S d 50 5 [some (.ref r), a1] st h Q = wp S d 50 6 [some (.ref r), a1] (.ref r :: st) h Q := wp_p hc50 dX4_init_5 rfl
theorem e50_6 : wp S (d + 1) 50 6 [a0, a1] (.ref r :: st) h Q = (am_w8 st ∧ wp S (d + 1) 50 9 [a0, a1] st h Q) := wp_oi hc50 dX4_init_6 ho50 sp4_9 nc4_9
theorem e50_9 : wp S d 50 9 ls [] h Q = Q (.inl none, h) := wp_r hc50 dX4_init_9 rfl rfl ⟨rfl, rfl, rfl⟩
theorem e51_0 : wp S d 51 0 [some (.ref r), a1] st h Q = wp S d 51 1 [some (.ref r), a1] (.ref r :: st) h Q := wp_p hc51 dX4_parse_0 rfl
theorem e51_1 : wp S d 51 1 [a0, a1] st h Q = wp S d 51 2 [a0, a1] (.int (nI 0) :: st) h Q := wp_p hc51 dX4_parse_1 rfl
theorem e51_2 : wp S d 51 2 [a0, a1] (w :: .ref r :: st) h Q = am_pfK 51 h r 4 0 false w (fun h => wp S d 51 5 [a0, a1] st h Q) := wp_pf hc51 dX4_parse_2 ho51 fl4_15
theorem e51_5 : wp S d 51 5 [some (.ref r), a1] st h Q = wp S d 51 6 [some (.ref r), a1] (.ref r :: st) h Q := wp_p hc51 dX4_parse_5 rfl
theorem e51_6 : wp S d 51 6 [a0, a1] st h Q = wp S d 51 7 [a0, a1] (.int (nI 0) :: st) h Q := wp_p hc51 dX4_parse_6 rfl
theorem e51_7 : wp S d 51 7 [a0, a1] (w :: .ref r :: st) h Q = am_pfK 51 h r 4 1 false w (fun h => wp S d 51 10 [a0, a1] st h Q) := wp_pf hc51 dX4_parse_7 ho51 fl4_56
theorem e51_10 : wp S d 51 10 [some (.ref r), a1] st h Q = wp S d 51 11 [some (.ref r), a1] (.ref r :: st) h Q := wp_p hc51 dX4_parse_10 rfl
theorem e51_11 : wp S (d + 1) 51 11 [a0, a1] (.ref r0 :: st) h Q = (am_w8 st ∧ am_rcv h 2 52 (.ref r0) = true ∧ wp S d 52 0 [some (.ref r0), none] [] h (am_kr S 2 (d + 1) 51 11 [a0, a1] st Q)) := wp_cV (.ref r0) [] hc51 dX4_parse_11 ho51 cl4_52 (by decide) ns4_52 hst52 hnp52 hml52 hlsl52 rfl rfl rfl
theorem e51_14 : wp S d 51 14 [a0, a1] (.ref r :: st) h Q = wp S d 51 15 [a0, some (.ref r)] st h Q := wp_p hc51 dX4_parse_14 rfl
theorem e51_15 : wp S d 51 15 [some (.ref r), a1] st h Q = wp S d 51 16 [some (.ref r), a1] (.ref r :: st) h Q := wp_p hc51 dX4_parse_15 rfl
theorem e51_16 : wp S d 51 16 [some (.ref r), a1] st h Q = wp S d 51 17 [some (.ref r), a1] (.ref r :: st) h Q := wp_p hc51 dX4_parse_16 rfl
theorem e51_17 : wp S d 51 17 [a0, a1] (.ref r :: st) h Q = am_gfK h r 4 0 (fun w => wp S d 51 20 [a0, a1] (w :: st) h Q) := wp_gf hc51 dX4_parse_17 ho51 fl4_15
theorem e51_20 : wp S d 51 20 [some (.ref r), a1] st h Q = wp S d 51 21 [some (.ref r), a1] (.ref r :: st) h Q := wp_p hc51 dX4_parse_20 rfl
theorem e51_21 : wp S d 51 21 [a0, a1] (.ref r :: st) h Q = am_gfK h r 4 2 (fun w => wp S d 51 24 [a0, a1] (w :: st) h Q) := wp_gf hc51 dX4_parse_21 ho51 fl4_3
theorem e51_24 : wp S d 51 24 [a0, a1] (.ref r :: st) h Q = am_gfK h r 0 4 (fun w => wp S d 51 27 [a0, a1] (w :: st) h Q) := wp_gf hc51 dX4_parse_24 ho51 fl4_19
theorem e51_27 : wp S d 51 27 [a0, a1] (.int y :: .int x :: st) h Q = if x = y then wp S d 51 30 [a0, a1] st h Q else wp S d 51 34 [a0, a1] st h Q := wp_ne hc51 dX4_parse_27 rfl
theorem e51_30 : wp S d 51 30 [a0, a1] st h Q = wp S d 51 31 [a0, a1] (.int (nI 1) :: st) h Q := wp_p hc51 dX4_parse_30 rfl
theorem e51_31 : wp S d 51 31 [a0, a1] st h Q = wp S d 51 35 [a0, a1] st h Q := wp_p hc51 dX4_parse_31 rfl
theorem e51_34 : wp S d 51 34 [a0, a1] st h Q = wp S d 51 35 [a0, a1] (.int (nI 0) :: st) h Q := wp_p hc51 dX4_parse_34 rfl
theorem e51_35 : wp S (d + 1) 51 35 [a0, a1] (.int x1 :: .ref r0 :: st) h Q = (am_w8 st ∧ am_rcv h 2 53 (.ref r0) = true ∧ wp S d 53 0 [some (.ref r0), some (.int x1)] [] h (am_kr S 2 (d + 1) 51 35 [a0, a1] st Q)) := wp_cV (.ref r0) [.int x1] hc51 dX4_parse_35 ho51 cl4_39 (by decide) ns4_39 hst53 hnp53 hml53 hlsl53 rfl rfl rfl
theorem e51_38 : wp S d 51 38 [a0, some (.ref r)] st h Q = wp S d 51 39 [a0, some (.ref r)] (.ref r :: st) h Q := wp_p hc51 dX4_parse_38 rfl
theorem e51_39 : wp S d 51 39 ls [.ref r] h Q = Q (.inl (some (.ref r)), h) := wp_r hc51 dX4_parse_39 rfl rfl ⟨_, rfl, Or.inr ⟨_, rfl⟩, ⟨_, rfl, Or.inl ⟨_, rfl⟩⟩, rfl⟩
theorem e52_0 : wp S d 52 0 [some (.ref r), a1] st h Q = wp S d 52 1 [some (.ref r), a1] (.ref r :: st) h Q := wp_p hc52 dX4_expression_0 rfl
theorem e52_1 : wp S d 52 1 [some (.ref r), a1] st h Q = wp S d 52 2 [some (.ref r), a1] (.ref r :: st) h Q := wp_p hc52 dX4_expression_1 rfl
theorem e52_2 : wp S d 52 2 [a0, a1] (.ref r :: st) h Q = am_gfK h r 4 0 (fun w => wp S d 52 5 [a0, a1] (w :: st) h Q) := wp_gf hc52 dX4_expression_2 ho52 fl4_15
theorem e52_5 : wp S d 52 5 [some (.ref r), a1] st h Q = wp S d 52 6 [some (.ref r), a1] (.ref r :: st) h Q := wp_p hc52 dX4_expression_5 rfl
theorem e52_6 : wp S d 52 6 [a0, a1] (.ref r :: st) h Q = am_gfK h r 4 2 (fun w => wp S d 52 9 [a0, a1] (w :: st) h Q) := wp_gf hc52 dX4_expression_6 ho52 fl4_3
theorem e52_9 : wp S d 52 9 [a0, a1] (.ref r :: st) h Q = am_gfK h r 0 4 (fun w => wp S d 52 12 [a0, a1] (w :: st) h Q) := wp_gf hc52 dX4_expression_9 ho52 fl4_19
theorem e52_12 : wp S d 52 12 [a0, a1] (.int y :: .int x :: st) h Q = if y ≤ x then wp S d 52 28 [a0, a1] st h Q else wp S d 52 15 [a0, a1] st h Q := wp_ge hc52 dX4_expression_12 rfl
theorem e52_15 : wp S d 52 15 [some (.ref r), a1] st h Q = wp S d 52 16 [some (.ref r), a1] (.ref r :: st) h Q := wp_p hc52 dX4_expression_15 rfl
theorem e52_16 : wp S d 52 16 [a0, a1] (.ref r :: st) h Q = am_gfK h r 4 1 (fun w => wp S d 52 19 [a0, a1] (w :: st) h Q) := wp_gf hc52 dX4_expression_16 ho52 fl4_56
theorem e52_19 : wp S d 52 19 [a0, a1] st h Q = wp S d 52 21 [a0, a1] (.int (nI 30) :: st) h Q := wp_p hc52 dX4_expression_19 rfl
theorem e52_21 : wp S d 52 21 [a0, a1] (.int y :: .int x :: st) h Q = if y ≤ x then wp S d 52 28 [a0, a1] st h Q else wp S d 52 24 [a0, a1] st h Q := wp_ge hc52 dX4_expression_21 rfl
theorem e52_24 : wp S d 52 24 [a0, a1] st h Q = wp S d 52 25 [a0, a1] (.int (nI 1) :: st) h Q := wp_p hc52 dX4_expression_24 rfl
theorem e52_25 : wp S d 52 25 [a0, a1] st h Q = wp S d 52 29 [a0, a1] st h Q := wp_p hc52 dX4_expression_25 rfl
theorem e52_28 : wp S d 52 28 [a0, a1] st h Q = wp S d 52 29 [a0, a1] (.int (nI 0) :: st) h Q := wp_p hc52 dX4_expression_28 rfl
theorem e52_29 : wp S (d + 1) 52 29 [a0, a1] (.int x1 :: .ref r0 :: st) h Q = (am_w8 st ∧ am_rcv h 2 53 (.ref r0) = true ∧ wp S d 53 0 [some (.ref r0), some (.int x1)] [] h (am_kr S 2 (d + 1) 52 29 [a0, a1] st Q)) := wp_cV (.ref r0) [.int x1] hc52 dX4_expression_29 ho52 cl4_39 (by decide) ns4_39 hst53 hnp53 hml53 hlsl53 rfl rfl rfl
theorem e52_32 : wp S d 52 32 [some (.ref r), a1] st h Q = wp S d 52 33 [some (.ref r), a1] (.ref r :: st) h Q := wp_p hc52 dX4_expression_32 rfl
theorem e52_33 : wp S d 52 33 [a0, a1] (.ref r :: st) h Q = am_gfK h r 4 2 (fun w => wp S d 52 36 [a0, a1] (w :: st) h Q) := wp_gf hc52 dX4_expression_33 ho52 fl4_3
theorem e52_36 : wp S d 52 36 [a0, a1] (.ref r :: st) h Q = am_gfK h r 0 3 (fun w => wp S d 52 39 [a0, a1] (w :: st) h Q) := wp_gf hc52 dX4_expression_36 ho52 fl4_22
theorem e52_39 : wp S d 52 39 [some (.ref r), a1] st h Q = wp S d 52 40 [some (.ref r), a1] (.ref r :: st) h Q := wp_p hc52 dX4_expression_39 rfl
theorem e52_40 : wp S d 52 40 [a0, a1] (.ref r :: st) h Q = am_gfK h r 4 0 (fun w => wp S d 52 43 [a0, a1] (w :: st) h Q) := wp_gf hc52 dX4_expression_40 ho52 fl4_15
theorem e52_43 : wp S d 52 43 [a0, a1] (.int x :: .ref r :: st) h Q = am_baK h r x (fun z => wp S d 52 44 [a0, a1] (.int z :: st) h Q) := wp_ba hc52 dX4_expression_43
theorem e52_43k : wp S d 52 43 [a0, a1] (.int x :: .retAddr r :: st) h Q = am_bcK r x (fun z => wp S d 52 44 [a0, a1] (.int z :: st) h Q) := wp_baS hc52 dX4_expression_43
theorem e52_44 : wp S d 52 44 [a0, a1] (.int x :: st) h Q = wp S d 52 45 [a0, some (.int x)] st h Q := wp_p hc52 dX4_expression_44 rfl
theorem e52_45 : wp S d 52 45 [some (.ref r), a1] st h Q = wp S d 52 46 [some (.ref r), a1] (.ref r :: st) h Q := wp_p hc52 dX4_expression_45 rfl
theorem e52_46 : wp S d 52 46 [a0, a1] (.ref r :: st) h Q = wp S d 52 47 [a0, a1] (.ref r :: .ref r :: st) h Q := wp_p hc52 dX4_expression_46 rfl
theorem e52_46i : wp S d 52 46 [a0, a1] (.int x :: st) h Q = wp S d 52 47 [a0, a1] (.int x :: .int x :: st) h Q := wp_p hc52 dX4_expression_46 rfl
theorem e52_47 : wp S d 52 47 [a0, a1] (.ref r :: st) h Q = am_gfK h r 4 1 (fun w => wp S d 52 50 [a0, a1] (w :: st) h Q) := wp_gf hc52 dX4_expression_47 ho52 fl4_56
theorem e52_50 : wp S d 52 50 [a0, a1] st h Q = wp S d 52 51 [a0, a1] (.int (nI 1) :: st) h Q := wp_p hc52 dX4_expression_50 rfl
theorem e52_51 : wp S d 52 51 [a0, a1] (.int y :: .int x :: st) h Q = wp S d 52 52 [a0, a1] (.int (x + y) :: st) h Q := wp_p hc52 dX4_expression_51 rfl
theorem e52_52 : wp S d 52 52 [a0, a1] (w :: .ref r :: st) h Q = am_pfK 52 h r 4 1 false w (fun h => wp S d 52 55 [a0, a1] st h Q) := wp_pf hc52 dX4_expression_52 ho52 fl4_56
theorem e52_55 : wp S d 52 55 [a0, some (.int x)] st h Q = wp S d 52 56 [a0, some (.int x)] (.int x :: st) h Q := wp_p hc52 dX4_expression_55 rfl
theorem e52_56 : wp S d 52 56 [a0, a1] st h Q = wp S d 52 58 [a0, a1] (.int (nI 48) :: st) h Q := wp_p hc52 dX4_expression_56 rfl
theorem e52_58 : wp S d 52 58 [a0, a1] st h Q = wp S d 52 60 [a0, a1] (.int (nI 57) :: st) h Q := wp_p hc52 dX4_expression_58 rfl
theorem e52_60 : wp S (d + 1) 52 60 [a0, a1] (.int x3 :: .int x2 :: .int x1 :: st) h Q = (am_w8 st ∧ wp S d 4 0 [some (.int x1), some (.int x2), some (.int x3)] [] h (am_kr S 1 (d + 1) 52 60 [a0, a1] st Q)) := wp_cS [.int x1, .int x2, .int x3] hc52 dX4_expression_60 ho52 cl4_26 (by decide) ns4_26 hst4 hnp4 hml4 hlsl4 rfl rfl rfl
theorem e52_63 : wp S d 52 63 [a0, a1] (.int x :: st) h Q = if x = 0 then wp S d 52 71 [a0, a1] st h Q else wp S d 52 66 [a0, a1] st h Q := wp_eq hc52 dX4_expression_63 rfl
theorem e52_66 : wp S d 52 66 [some (.ref r), a1] st h Q = wp S d 52 67 [some (.ref r), a1] (.ref r :: st) h Q := wp_p hc52 dX4_expression_66 rfl
theorem e52_67 : wp S (d + 1) 52 67 [a0, a1] (.ref r0 :: st) h Q = (am_w8 st ∧ am_rcv h 2 54 (.ref r0) = true ∧ wp S d 54 0 [some (.ref r0), none, none] [] h (am_kr S 2 (d + 1) 52 67 [a0, a1] st Q)) := wp_cV (.ref r0) [] hc52 dX4_expression_67 ho52 cl4_59 (by decide) ns4_59 hst54 hnp54 hml54 hlsl54 rfl rfl rfl
theorem e52_70 : wp S d 52 70 ls [.ref r] h Q = Q (.inl (some (.ref r)), h) := wp_r hc52 dX4_expression_70 rfl rfl ⟨_, rfl, Or.inr ⟨_, rfl⟩, ⟨_, rfl, Or.inl ⟨_, rfl⟩⟩, rfl⟩
theorem e52_71 : wp S d 52 71 [a0, some (.int x)] st h Q = wp S d 52 72 [a0, some (.int x)] (.int x :: st) h Q := wp_p hc52 dX4_expression_71 rfl
theorem e52_72 : wp S d 52 72 [a0, a1] st h Q = wp S d 52 74 [a0, a1] (.int (nI 120) :: st) h Q := wp_p hc52 dX4_expression_72 rfl
theorem e52_74 : wp S d 52 74 [a0, a1] (.int y :: .int x :: st) h Q = if x = y then wp S d 52 83 [a0, a1] st h Q else wp S d 52 77 [a0, a1] st h Q := wp_eq hc52 dX4_expression_74 rfl
theorem e52_77 : wp S d 52 77 [a0, some (.int x)] st h Q = wp S d 52 78 [a0, some (.int x)] (.int x :: st) h Q := wp_p hc52 dX4_expression_77 rfl
theorem e52_78 : wp S d 52 78 [a0, a1] st h Q = wp S d 52 80 [a0, a1] (.int (nI 121) :: st) h Q := wp_p hc52 dX4_expression_78 rfl
theorem e52_80 : wp S d 52 80 [a0, a1] (.int y :: .int x :: st) h Q = if x = y then wp S d 52 83 [a0, a1] st h Q else wp S d 52 110 [a0, a1] st h Q := wp_ne hc52 dX4_expression_80 rfl
theorem e52_83 : wp S d 52 83 [some (.ref r), a1] st h Q = wp S d 52 84 [some (.ref r), a1] (.ref r :: st) h Q := wp_p hc52 dX4_expression_83 rfl
theorem e52_84 : wp S d 52 84 [a0, a1] (.ref r :: st) h Q = wp S d 52 85 [a0, a1] (.ref r :: .ref r :: st) h Q := wp_p hc52 dX4_expression_84 rfl
theorem e52_84i : wp S d 52 84 [a0, a1] (.int x :: st) h Q = wp S d 52 85 [a0, a1] (.int x :: .int x :: st) h Q := wp_p hc52 dX4_expression_84 rfl
theorem e52_85 : wp S d 52 85 [a0, a1] (.ref r :: st) h Q = am_gfK h r 4 0 (fun w => wp S d 52 88 [a0, a1] (w :: st) h Q) := wp_gf hc52 dX4_expression_85 ho52 fl4_15
theorem e52_88 : wp S d 52 88 [a0, a1] st h Q = wp S d 52 89 [a0, a1] (.int (nI 1) :: st) h Q := wp_p hc52 dX4_expression_88 rfl
theorem e52_89 : wp S d 52 89 [a0, a1] (.int y :: .int x :: st) h Q = wp S d 52 90 [a0, a1] (.int (x + y) :: st) h Q := wp_p hc52 dX4_expression_89 rfl
theorem e52_90 : wp S d 52 90 [a0, a1] (w :: .ref r :: st) h Q = am_pfK 52 h r 4 0 false w (fun h => wp S d 52 93 [a0, a1] st h Q) := wp_pf hc52 dX4_expression_90 ho52 fl4_15
theorem e52_93 : wp S d 52 93 [a0, a1] st h Q = wp S d 52 96 [a0, a1] (.ref h.length :: st) (h ++ [.inr (.inr (2, am_dft 2))]) Q := wp_nw hc52 dX4_expression_93 ho52 nw4_43
theorem e52_96 : wp S d 52 96 [a0, a1] (.ref r :: st) h Q = wp S d 52 97 [a0, a1] (.ref r :: .ref r :: st) h Q := wp_p hc52 dX4_expression_96 rfl
theorem e52_96i : wp S d 52 96 [a0, a1] (.int x :: st) h Q = wp S d 52 97 [a0, a1] (.int x :: .int x :: st) h Q := wp_p hc52 dX4_expression_96 rfl
theorem e52_97 : wp S d 52 97 [a0, a1] st h Q = wp S d 52 98 [a0, a1] (.int (nI 1) :: st) h Q := wp_p hc52 dX4_expression_97 rfl
theorem e52_98 : wp S d 52 98 [a0, some (.int x)] st h Q = wp S d 52 99 [a0, some (.int x)] (.int x :: st) h Q := wp_p hc52 dX4_expression_98 rfl
theorem e52_99 : wp S d 52 99 [a0, a1] st h Q = wp S d 52 101 [a0, a1] (.int (nI 120) :: st) h Q := wp_p hc52 dX4_expression_99 rfl
theorem e52_101 : wp S d 52 101 [a0, a1] (.int y :: .int x :: st) h Q = wp S d 52 102 [a0, a1] (.int (x - y) :: st) h Q := wp_p hc52 dX4_expression_101 rfl
theorem e52_102 : wp S d 52 102 [a0, a1] st h Q = wp S d 52 103 [a0, a1] (.int (nI 0) :: st) h Q := wp_p hc52 dX4_expression_102 rfl
theorem e52_103 : wp S d 52 103 [a0, a1] (.int x :: st) h Q = (¬ x < 0 ∧ x.toNatClampNeg ≤ 1000000 ∧ wp S d 52 106 [a0, a1] (.ref h.length :: st) (h ++ [.inr (.inl (2, x.toNatClampNeg, fun _ => none))]) Q) := wp_nr hc52 dX4_expression_103 ho52 nr4_43
theorem e52_106 : wp S (d + 1) 52 106 [a0, a1] (.ref r3 :: .int x2 :: .int x1 :: .ref r0 :: st) h Q = (am_w8 st ∧ am_rcv h 4 42 (.ref r0) = true ∧ wp S d 42 0 [some (.ref r0), some (.int x1), some (.int x2), some (.ref r3), none, none, none, none, none] [] h (am_kr S 4 (d + 1) 52 106 [a0, a1] st Q)) := wp_cI (.ref r0) [.int x1, .int x2, .ref r3] hc52 dX4_expression_106 ho52 cl4_45 (by decide) ns4_45 hst42 hnp42 hml42 hlsl42 rfl rfl rfl
theorem e52_109 : wp S d 52 109 ls [.ref r] h Q = Q (.inl (some (.ref r)), h) := wp_r hc52 dX4_expression_109 rfl rfl ⟨_, rfl, Or.inr ⟨_, rfl⟩, ⟨_, rfl, Or.inl ⟨_, rfl⟩⟩, rfl⟩
theorem e52_110 : wp S d 52 110 [a0, some (.int x)] st h Q = wp S d 52 111 [a0, some (.int x)] (.int x :: st) h Q := wp_p hc52 dX4_expression_110 rfl
theorem e52_111 : wp S d 52 111 [a0, a1] st h Q = wp S d 52 113 [a0, a1] (.int (nI 97) :: st) h Q := wp_p hc52 dX4_expression_111 rfl
theorem e52_113 : wp S d 52 113 [a0, a1] st h Q = wp S d 52 115 [a0, a1] (.int (nI 102) :: st) h Q := wp_p hc52 dX4_expression_113 rfl
theorem e52_115 : wp S (d + 1) 52 115 [a0, a1] (.int x3 :: .int x2 :: .int x1 :: st) h Q = (am_w8 st ∧ wp S d 4 0 [some (.int x1), some (.int x2), some (.int x3)] [] h (am_kr S 1 (d + 1) 52 115 [a0, a1] st Q)) := wp_cS [.int x1, .int x2, .int x3] hc52 dX4_expression_115 ho52 cl4_26 (by decide) ns4_26 hst4 hnp4 hml4 hlsl4 rfl rfl rfl
theorem e52_118 : wp S d 52 118 [a0, a1] (.int x :: st) h Q = if x = 0 then wp S d 52 149 [a0, a1] st h Q else wp S d 52 121 [a0, a1] st h Q := wp_eq hc52 dX4_expression_118 rfl
theorem e52_121 : wp S d 52 121 [some (.ref r), a1] st h Q = wp S d 52 122 [some (.ref r), a1] (.ref r :: st) h Q := wp_p hc52 dX4_expression_121 rfl
theorem e52_122 : wp S d 52 122 [a0, a1] st h Q = wp S d 52 123 [a0, a1] (.int (nI 2) :: st) h Q := wp_p hc52 dX4_expression_122 rfl
theorem e52_123 : wp S d 52 123 [a0, some (.int x)] st h Q = wp S d 52 124 [a0, some (.int x)] (.int x :: st) h Q := wp_p hc52 dX4_expression_123 rfl
theorem e52_124 : wp S d 52 124 [a0, a1] st h Q = wp S d 52 126 [a0, a1] (.int (nI 97) :: st) h Q := wp_p hc52 dX4_expression_124 rfl
theorem e52_126 : wp S d 52 126 [a0, a1] (.int y :: .int x :: st) h Q = wp S d 52 127 [a0, a1] (.int (x - y) :: st) h Q := wp_p hc52 dX4_expression_126 rfl
theorem e52_127 : wp S d 52 127 [some (.ref r), a1] st h Q = wp S d 52 128 [some (.ref r), a1] (.ref r :: st) h Q := wp_p hc52 dX4_expression_127 rfl
theorem e52_128 : wp S d 52 128 [a0, a1] (.ref r :: st) h Q = am_gfK h r 4 2 (fun w => wp S d 52 131 [a0, a1] (w :: st) h Q) := wp_gf hc52 dX4_expression_128 ho52 fl4_3
theorem e52_131 : wp S d 52 131 [a0, a1] (.ref r :: st) h Q = am_gfK h r 0 0 (fun w => wp S d 52 134 [a0, a1] (w :: st) h Q) := wp_gf hc52 dX4_expression_131 ho52 fl4_62
theorem e52_134 : wp S d 52 134 [a0, a1] (.ref r :: st) h Q = am_gfK h r 1 0 (fun w => wp S d 52 137 [a0, a1] (w :: st) h Q) := wp_gf hc52 dX4_expression_134 ho52 fl4_66
theorem e52_137 : wp S d 52 137 [a0, some (.int x)] st h Q = wp S d 52 138 [a0, some (.int x)] (.int x :: st) h Q := wp_p hc52 dX4_expression_137 rfl
theorem e52_138 : wp S d 52 138 [a0, a1] st h Q = wp S d 52 140 [a0, a1] (.int (nI 97) :: st) h Q := wp_p hc52 dX4_expression_138 rfl
theorem e52_140 : wp S d 52 140 [a0, a1] (.int y :: .int x :: st) h Q = wp S d 52 141 [a0, a1] (.int (x - y) :: st) h Q := wp_p hc52 dX4_expression_140 rfl
theorem e52_141 : wp S d 52 141 [a0, a1] (.int x :: .ref r :: st) h Q = am_aaK h r x (fun w => wp S d 52 142 [a0, a1] (w :: st) h Q) := wp_aa hc52 dX4_expression_141
theorem e52_142 : wp S d 52 142 [a0, a1] (.ref r :: st) h Q = am_gfK h r 3 0 (fun w => wp S d 52 145 [a0, a1] (w :: st) h Q) := wp_gf hc52 dX4_expression_142 ho52 fl4_72
theorem e52_145 : wp S (d + 1) 52 145 [a0, a1] (.int x3 :: .int x2 :: .int x1 :: .ref r0 :: st) h Q = (am_w8 st ∧ am_rcv h 2 56 (.ref r0) = true ∧ wp S d 56 0 [some (.ref r0), some (.int x1), some (.int x2), some (.int x3), none, none] [] h (am_kr S 2 (d + 1) 52 145 [a0, a1] st Q)) := wp_cV (.ref r0) [.int x1, .int x2, .int x3] hc52 dX4_expression_145 ho52 cl4_77 (by decide) ns4_77 hst56 hnp56 hml56 hlsl56 rfl rfl rfl
theorem e52_148 : wp S d 52 148 ls [.ref r] h Q = Q (.inl (some (.ref r)), h) := wp_r hc52 dX4_expression_148 rfl rfl ⟨_, rfl, Or.inr ⟨_, rfl⟩, ⟨_, rfl, Or.inl ⟨_, rfl⟩⟩, rfl⟩
theorem e52_149 : wp S d 52 149 [a0, some (.int x)] st h Q = wp S d 52 150 [a0, some (.int x)] (.int x :: st) h Q := wp_p hc52 dX4_expression_149 rfl
theorem e52_150 : wp S d 52 150 [a0, a1] st h Q = wp S d 52 152 [a0, a1] (.int (nI 65) :: st) h Q := wp_p hc52 dX4_expression_150 rfl
theorem e52_152 : wp S d 52 152 [a0, a1] st h Q = wp S d 52 154 [a0, a1] (.int (nI 70) :: st) h Q := wp_p hc52 dX4_expression_152 rfl
theorem e52_154 : wp S (d + 1) 52 154 [a0, a1] (.int x3 :: .int x2 :: .int x1 :: st) h Q = (am_w8 st ∧ wp S d 4 0 [some (.int x1), some (.int x2), some (.int x3)] [] h (am_kr S 1 (d + 1) 52 154 [a0, a1] st Q)) := wp_cS [.int x1, .int x2, .int x3] hc52 dX4_expression_154 ho52 cl4_26 (by decide) ns4_26 hst4 hnp4 hml4 hlsl4 rfl rfl rfl
theorem e52_157 : wp S d 52 157 [a0, a1] (.int x :: st) h Q = if x = 0 then wp S d 52 188 [a0, a1] st h Q else wp S d 52 160 [a0, a1] st h Q := wp_eq hc52 dX4_expression_157 rfl
theorem e52_160 : wp S d 52 160 [some (.ref r), a1] st h Q = wp S d 52 161 [some (.ref r), a1] (.ref r :: st) h Q := wp_p hc52 dX4_expression_160 rfl
theorem e52_161 : wp S d 52 161 [a0, a1] st h Q = wp S d 52 162 [a0, a1] (.int (nI 3) :: st) h Q := wp_p hc52 dX4_expression_161 rfl
theorem e52_162 : wp S d 52 162 [a0, some (.int x)] st h Q = wp S d 52 163 [a0, some (.int x)] (.int x :: st) h Q := wp_p hc52 dX4_expression_162 rfl
theorem e52_163 : wp S d 52 163 [a0, a1] st h Q = wp S d 52 165 [a0, a1] (.int (nI 65) :: st) h Q := wp_p hc52 dX4_expression_163 rfl
theorem e52_165 : wp S d 52 165 [a0, a1] (.int y :: .int x :: st) h Q = wp S d 52 166 [a0, a1] (.int (x - y) :: st) h Q := wp_p hc52 dX4_expression_165 rfl
theorem e52_166 : wp S d 52 166 [some (.ref r), a1] st h Q = wp S d 52 167 [some (.ref r), a1] (.ref r :: st) h Q := wp_p hc52 dX4_expression_166 rfl
theorem e52_167 : wp S d 52 167 [a0, a1] (.ref r :: st) h Q = am_gfK h r 4 2 (fun w => wp S d 52 170 [a0, a1] (w :: st) h Q) := wp_gf hc52 dX4_expression_167 ho52 fl4_3
theorem e52_170 : wp S d 52 170 [a0, a1] (.ref r :: st) h Q = am_gfK h r 0 0 (fun w => wp S d 52 173 [a0, a1] (w :: st) h Q) := wp_gf hc52 dX4_expression_170 ho52 fl4_62
theorem e52_173 : wp S d 52 173 [a0, a1] (.ref r :: st) h Q = am_gfK h r 1 1 (fun w => wp S d 52 176 [a0, a1] (w :: st) h Q) := wp_gf hc52 dX4_expression_173 ho52 fl4_81
theorem e52_176 : wp S d 52 176 [a0, some (.int x)] st h Q = wp S d 52 177 [a0, some (.int x)] (.int x :: st) h Q := wp_p hc52 dX4_expression_176 rfl
theorem e52_177 : wp S d 52 177 [a0, a1] st h Q = wp S d 52 179 [a0, a1] (.int (nI 65) :: st) h Q := wp_p hc52 dX4_expression_177 rfl
theorem e52_179 : wp S d 52 179 [a0, a1] (.int y :: .int x :: st) h Q = wp S d 52 180 [a0, a1] (.int (x - y) :: st) h Q := wp_p hc52 dX4_expression_179 rfl
theorem e52_180 : wp S d 52 180 [a0, a1] (.int x :: .ref r :: st) h Q = am_aaK h r x (fun w => wp S d 52 181 [a0, a1] (w :: st) h Q) := wp_aa hc52 dX4_expression_180
theorem e52_181 : wp S d 52 181 [a0, a1] (.ref r :: st) h Q = am_gfK h r 3 0 (fun w => wp S d 52 184 [a0, a1] (w :: st) h Q) := wp_gf hc52 dX4_expression_181 ho52 fl4_72
theorem e52_184 : wp S (d + 1) 52 184 [a0, a1] (.int x3 :: .int x2 :: .int x1 :: .ref r0 :: st) h Q = (am_w8 st ∧ am_rcv h 2 56 (.ref r0) = true ∧ wp S d 56 0 [some (.ref r0), some (.int x1), some (.int x2), some (.int x3), none, none] [] h (am_kr S 2 (d + 1) 52 184 [a0, a1] st Q)) := wp_cV (.ref r0) [.int x1, .int x2, .int x3] hc52 dX4_expression_184 ho52 cl4_77 (by decide) ns4_77 hst56 hnp56 hml56 hlsl56 rfl rfl rfl
theorem e52_187 : wp S d 52 187 ls [.ref r] h Q = Q (.inl (some (.ref r)), h) := wp_r hc52 dX4_expression_187 rfl rfl ⟨_, rfl, Or.inr ⟨_, rfl⟩, ⟨_, rfl, Or.inl ⟨_, rfl⟩⟩, rfl⟩
theorem e52_188 : wp S d 52 188 [some (.ref r), a1] st h Q = wp S d 52 189 [some (.ref r), a1] (.ref r :: st) h Q := wp_p hc52 dX4_expression_188 rfl
theorem e52_189 : wp S d 52 189 [a0, some (.int x)] st h Q = wp S d 52 190 [a0, some (.int x)] (.int x :: st) h Q := wp_p hc52 dX4_expression_189 rfl
theorem e52_190 : wp S d 52 190 [a0, a1] st h Q = wp S d 52 192 [a0, a1] (.int (nI 112) :: st) h Q := wp_p hc52 dX4_expression_190 rfl
theorem e52_192 : wp S d 52 192 [a0, a1] st h Q = wp S d 52 194 [a0, a1] (.int (nI 112) :: st) h Q := wp_p hc52 dX4_expression_192 rfl
theorem e52_194 : wp S d 52 194 [some (.ref r), a1] st h Q = wp S d 52 195 [some (.ref r), a1] (.ref r :: st) h Q := wp_p hc52 dX4_expression_194 rfl
theorem e52_195 : wp S d 52 195 [a0, a1] (.ref r :: st) h Q = am_gfK h r 4 2 (fun w => wp S d 52 198 [a0, a1] (w :: st) h Q) := wp_gf hc52 dX4_expression_195 ho52 fl4_3
theorem e52_198 : wp S d 52 198 [a0, a1] (.ref r :: st) h Q = am_gfK h r 0 0 (fun w => wp S d 52 201 [a0, a1] (w :: st) h Q) := wp_gf hc52 dX4_expression_198 ho52 fl4_62
theorem e52_201 : wp S d 52 201 [a0, a1] (.ref r :: st) h Q = am_gfK h r 1 3 (fun w => wp S d 52 204 [a0, a1] (w :: st) h Q) := wp_gf hc52 dX4_expression_201 ho52 fl4_84
theorem e52_204 : wp S d 52 204 [a0, a1] (.int y :: .int x :: st) h Q = wp S d 52 205 [a0, a1] (.int (x + y) :: st) h Q := wp_p hc52 dX4_expression_204 rfl
theorem e52_205 : wp S d 52 205 [a0, a1] st h Q = wp S d 52 206 [a0, a1] (.int (nI 1) :: st) h Q := wp_p hc52 dX4_expression_205 rfl
theorem e52_206 : wp S d 52 206 [a0, a1] (.int y :: .int x :: st) h Q = wp S d 52 207 [a0, a1] (.int (x - y) :: st) h Q := wp_p hc52 dX4_expression_206 rfl
theorem e52_207 : wp S (d + 1) 52 207 [a0, a1] (.int x3 :: .int x2 :: .int x1 :: st) h Q = (am_w8 st ∧ wp S d 4 0 [some (.int x1), some (.int x2), some (.int x3)] [] h (am_kr S 1 (d + 1) 52 207 [a0, a1] st Q)) := wp_cS [.int x1, .int x2, .int x3] hc52 dX4_expression_207 ho52 cl4_26 (by decide) ns4_26 hst4 hnp4 hml4 hlsl4 rfl rfl rfl
theorem e52_210 : wp S (d + 1) 52 210 [a0, a1] (.int x1 :: .ref r0 :: st) h Q = (am_w8 st ∧ am_rcv h 2 53 (.ref r0) = true ∧ wp S d 53 0 [some (.ref r0), some (.int x1)] [] h (am_kr S 2 (d + 1) 52 210 [a0, a1] st Q)) := wp_cV (.ref r0) [.int x1] hc52 dX4_expression_210 ho52 cl4_39 (by decide) ns4_39 hst53 hnp53 hml53 hlsl53 rfl rfl rfl
theorem e52_213 : wp S d 52 213 [some (.ref r), a1] st h Q = wp S d 52 214 [some (.ref r), a1] (.ref r :: st) h Q := wp_p hc52 dX4_expression_213 rfl
theorem e52_214 : wp S d 52 214 [a0, a1] st h Q = wp S d 52 215 [a0, a1] (.int (nI 4) :: st) h Q := wp_p hc52 dX4_expression_214 rfl
theorem e52_215 : wp S d 52 215 [a0, some (.int x)] st h Q = wp S d 52 216 [a0, some (.int x)] (.int x :: st) h Q := wp_p hc52 dX4_expression_215 rfl
theorem e52_216 : wp S d 52 216 [a0, a1] st h Q = wp S d 52 218 [a0, a1] (.int (nI 112) :: st) h Q := wp_p hc52 dX4_expression_216 rfl
theorem e52_218 : wp S d 52 218 [a0, a1] (.int y :: .int x :: st) h Q = wp S d 52 219 [a0, a1] (.int (x - y) :: st) h Q := wp_p hc52 dX4_expression_218 rfl
theorem e52_219 : wp S d 52 219 [some (.ref r), a1] st h Q = wp S d 52 220 [some (.ref r), a1] (.ref r :: st) h Q := wp_p hc52 dX4_expression_219 rfl
theorem e52_220 : wp S d 52 220 [a0, a1] (.ref r :: st) h Q = am_gfK h r 4 2 (fun w => wp S d 52 223 [a0, a1] (w :: st) h Q) := wp_gf hc52 dX4_expression_220 ho52 fl4_3
theorem e52_223 : wp S d 52 223 [a0, a1] (.ref r :: st) h Q = am_gfK h r 0 0 (fun w => wp S d 52 226 [a0, a1] (w :: st) h Q) := wp_gf hc52 dX4_expression_223 ho52 fl4_62
theorem e52_226 : wp S d 52 226 [a0, a1] (.ref r :: st) h Q = am_gfK h r 1 2 (fun w => wp S d 52 229 [a0, a1] (w :: st) h Q) := wp_gf hc52 dX4_expression_226 ho52 fl4_87
theorem e52_229 : wp S d 52 229 [a0, some (.int x)] st h Q = wp S d 52 230 [a0, some (.int x)] (.int x :: st) h Q := wp_p hc52 dX4_expression_229 rfl
theorem e52_230 : wp S d 52 230 [a0, a1] st h Q = wp S d 52 232 [a0, a1] (.int (nI 112) :: st) h Q := wp_p hc52 dX4_expression_230 rfl
theorem e52_232 : wp S d 52 232 [a0, a1] (.int y :: .int x :: st) h Q = wp S d 52 233 [a0, a1] (.int (x - y) :: st) h Q := wp_p hc52 dX4_expression_232 rfl
theorem e52_233 : wp S d 52 233 [a0, a1] (.int x :: .ref r :: st) h Q = am_aaK h r x (fun w => wp S d 52 234 [a0, a1] (w :: st) h Q) := wp_aa hc52 dX4_expression_233
theorem e52_234 : wp S d 52 234 [a0, a1] (.ref r :: st) h Q = am_gfK h r 3 0 (fun w => wp S d 52 237 [a0, a1] (w :: st) h Q) := wp_gf hc52 dX4_expression_234 ho52 fl4_72
theorem e52_237 : wp S (d + 1) 52 237 [a0, a1] (.int x3 :: .int x2 :: .int x1 :: .ref r0 :: st) h Q = (am_w8 st ∧ am_rcv h 2 56 (.ref r0) = true ∧ wp S d 56 0 [some (.ref r0), some (.int x1), some (.int x2), some (.int x3), none, none] [] h (am_kr S 2 (d + 1) 52 237 [a0, a1] st Q)) := wp_cV (.ref r0) [.int x1, .int x2, .int x3] hc52 dX4_expression_237 ho52 cl4_77 (by decide) ns4_77 hst56 hnp56 hml56 hlsl56 rfl rfl rfl
theorem e52_240 : wp S d 52 240 ls [.ref r] h Q = Q (.inl (some (.ref r)), h) := wp_r hc52 dX4_expression_240 rfl rfl ⟨_, rfl, Or.inr ⟨_, rfl⟩, ⟨_, rfl, Or.inl ⟨_, rfl⟩⟩, rfl⟩
theorem e53_0 : wp S d 53 0 [a0, some (.int x)] st h Q = wp S d 53 1 [a0, some (.int x)] (.int x :: st) h Q := wp_p hc53 dX4_require_0 rfl
theorem e53_1 : wp S d 53 1 [a0, a1] (.int x :: st) h Q = if x = 0 then wp S d 53 4 [a0, a1] st h Q else wp S d 53 16 [a0, a1] st h Q := wp_ne hc53 dX4_require_1 rfl
theorem e53_4 : wp S d 53 4 [a0, a1] st h Q = wp S d 53 7 [a0, a1] (.ref h.length :: st) (h ++ [.inr (.inr (7, am_dft 7))]) Q := wp_nw hc53 dX4_require_4 ho53 nw4_30
theorem e53_7 : wp S d 53 7 [a0, a1] (.ref r :: st) h Q = wp S d 53 8 [a0, a1] (.ref r :: .ref r :: st) h Q := wp_p hc53 dX4_require_7 rfl
theorem e53_7i : wp S d 53 7 [a0, a1] (.int x :: st) h Q = wp S d 53 8 [a0, a1] (.int x :: .int x :: st) h Q := wp_p hc53 dX4_require_7 rfl
theorem e53_8 : wp S d 53 8 [some (.ref r), a1] st h Q = wp S d 53 9 [some (.ref r), a1] (.ref r :: st) h Q := wp_p hc53 dX4_require_8 rfl
theorem e53_9 : wp S d 53 9 [a0, a1] (.ref r :: st) h Q = am_gfK h r 4 0 (fun w => wp S d 53 12 [a0, a1] (w :: st) h Q) := wp_gf hc53 dX4_require_9 ho53 fl4_15
theorem e53_12 : wp S (d + 1) 53 12 [a0, a1] (.int x1 :: .ref r0 :: st) h Q = (am_w8 st ∧ am_rcv h 4 129 (.ref r0) = true ∧ wp S d 129 0 [some (.ref r0), some (.int x1)] [] h (am_kr S 4 (d + 1) 53 12 [a0, a1] st Q)) := wp_cI (.ref r0) [.int x1] hc53 dX4_require_12 ho53 cl4_32 (by decide) ns4_32 hst129 hnp129 hml129 hlsl129 rfl rfl rfl
theorem e53_15 : wp S d 53 15 ls (.ref r :: st) h Q = (am_isC h r 7 = true ∧ Q (.inr r, h)) := wp_tC hc53 dX4_require_15 rfl
theorem e53_16 : wp S d 53 16 ls [] h Q = Q (.inl none, h) := wp_r hc53 dX4_require_16 rfl rfl ⟨rfl, rfl, rfl⟩
theorem e54_0 : wp S d 54 0 [some (.ref r), a1, a2] st h Q = wp S d 54 1 [some (.ref r), a1, a2] (.ref r :: st) h Q := wp_p hc54 dX4_number_0 rfl
theorem e54_1 : wp S d 54 1 [a0, a1, a2] (.ref r :: st) h Q = am_gfK h r 4 0 (fun w => wp S d 54 4 [a0, a1, a2] (w :: st) h Q) := wp_gf hc54 dX4_number_1 ho54 fl4_15
theorem e54_4 : wp S d 54 4 [a0, a1, a2] (.int x :: st) h Q = wp S d 54 5 [a0, some (.int x), a2] st h Q := wp_p hc54 dX4_number_4 rfl
theorem e54_5 : wp S d 54 5 [a0, a1, a2] st h Q = wp S d 54 6 [a0, a1, a2] (.int (nI 0) :: st) h Q := wp_p hc54 dX4_number_5 rfl
theorem e54_6 : wp S d 54 6 [a0, a1, a2] (.int x :: st) h Q = wp S d 54 7 [a0, a1, some (.int x)] st h Q := wp_p hc54 dX4_number_6 rfl
theorem e54_7 : wp S d 54 7 [some (.ref r), a1, a2] st h Q = wp S d 54 8 [some (.ref r), a1, a2] (.ref r :: st) h Q := wp_p hc54 dX4_number_7 rfl
theorem e54_8 : wp S d 54 8 [a0, a1, a2] st h Q = wp S d 54 10 [a0, a1, a2] (.int (nI 48) :: st) h Q := wp_p hc54 dX4_number_8 rfl
theorem e54_10 : wp S d 54 10 [a0, a1, a2] st h Q = wp S d 54 12 [a0, a1, a2] (.int (nI 57) :: st) h Q := wp_p hc54 dX4_number_10 rfl
theorem e54_12 : wp S (d + 1) 54 12 [a0, a1, a2] (.int x2 :: .int x1 :: .ref r0 :: st) h Q = (am_w8 st ∧ am_rcv h 2 55 (.ref r0) = true ∧ wp S d 55 0 [some (.ref r0), some (.int x1), some (.int x2)] [] h (am_kr S 2 (d + 1) 54 12 [a0, a1, a2] st Q)) := wp_cV (.ref r0) [.int x1, .int x2] hc54 dX4_number_12 ho54 cl4_35 (by decide) ns4_35 hst55 hnp55 hml55 hlsl55 rfl rfl rfl
theorem e54_15 : wp S d 54 15 [a0, a1, a2] (.int x :: st) h Q = if x = 0 then wp S d 54 71 [a0, a1, a2] st h Q else wp S d 54 18 [a0, a1, a2] st h Q := wp_eq hc54 dX4_number_15 rfl
theorem e54_18 : wp S d 54 18 [some (.ref r), a1, a2] st h Q = wp S d 54 19 [some (.ref r), a1, a2] (.ref r :: st) h Q := wp_p hc54 dX4_number_18 rfl
theorem e54_19 : wp S d 54 19 [some (.ref r), a1, a2] st h Q = wp S d 54 20 [some (.ref r), a1, a2] (.ref r :: st) h Q := wp_p hc54 dX4_number_19 rfl
theorem e54_20 : wp S d 54 20 [a0, a1, a2] (.ref r :: st) h Q = am_gfK h r 4 0 (fun w => wp S d 54 23 [a0, a1, a2] (w :: st) h Q) := wp_gf hc54 dX4_number_20 ho54 fl4_15
theorem e54_23 : wp S d 54 23 [a0, some (.int x), a2] st h Q = wp S d 54 24 [a0, some (.int x), a2] (.int x :: st) h Q := wp_p hc54 dX4_number_23 rfl
theorem e54_24 : wp S d 54 24 [a0, a1, a2] st h Q = wp S d 54 25 [a0, a1, a2] (.int (nI 2) :: st) h Q := wp_p hc54 dX4_number_24 rfl
theorem e54_25 : wp S d 54 25 [a0, a1, a2] (.int y :: .int x :: st) h Q = wp S d 54 26 [a0, a1, a2] (.int (x + y) :: st) h Q := wp_p hc54 dX4_number_25 rfl
theorem e54_26 : wp S d 54 26 [a0, a1, a2] (.int y :: .int x :: st) h Q = if y ≤ x then wp S d 54 33 [a0, a1, a2] st h Q else wp S d 54 29 [a0, a1, a2] st h Q := wp_ge hc54 dX4_number_26 rfl
theorem e54_29 : wp S d 54 29 [a0, a1, a2] st h Q = wp S d 54 30 [a0, a1, a2] (.int (nI 1) :: st) h Q := wp_p hc54 dX4_number_29 rfl
theorem e54_30 : wp S d 54 30 [a0, a1, a2] st h Q = wp S d 54 34 [a0, a1, a2] st h Q := wp_p hc54 dX4_number_30 rfl
theorem e54_33 : wp S d 54 33 [a0, a1, a2] st h Q = wp S d 54 34 [a0, a1, a2] (.int (nI 0) :: st) h Q := wp_p hc54 dX4_number_33 rfl
theorem e54_34 : wp S (d + 1) 54 34 [a0, a1, a2] (.int x1 :: .ref r0 :: st) h Q = (am_w8 st ∧ am_rcv h 2 53 (.ref r0) = true ∧ wp S d 53 0 [some (.ref r0), some (.int x1)] [] h (am_kr S 2 (d + 1) 54 34 [a0, a1, a2] st Q)) := wp_cV (.ref r0) [.int x1] hc54 dX4_number_34 ho54 cl4_39 (by decide) ns4_39 hst53 hnp53 hml53 hlsl53 rfl rfl rfl
theorem e54_37 : wp S d 54 37 [a0, a1, a2] st h Q = wp S d 54 39 [a0, a1, a2] (.int (nI 10) :: st) h Q := wp_p hc54 dX4_number_37 rfl
theorem e54_39 : wp S d 54 39 [a0, a1, some (.int x)] st h Q = wp S d 54 40 [a0, a1, some (.int x)] (.int x :: st) h Q := wp_p hc54 dX4_number_39 rfl
theorem e54_40 : wp S d 54 40 [a0, a1, a2] (.int y :: .int x :: st) h Q = wp S d 54 41 [a0, a1, a2] (.int (x * y) :: st) h Q := wp_p hc54 dX4_number_40 rfl
theorem e54_41 : wp S d 54 41 [some (.ref r), a1, a2] st h Q = wp S d 54 42 [some (.ref r), a1, a2] (.ref r :: st) h Q := wp_p hc54 dX4_number_41 rfl
theorem e54_42 : wp S d 54 42 [a0, a1, a2] (.ref r :: st) h Q = am_gfK h r 4 2 (fun w => wp S d 54 45 [a0, a1, a2] (w :: st) h Q) := wp_gf hc54 dX4_number_42 ho54 fl4_3
theorem e54_45 : wp S d 54 45 [a0, a1, a2] (.ref r :: st) h Q = am_gfK h r 0 3 (fun w => wp S d 54 48 [a0, a1, a2] (w :: st) h Q) := wp_gf hc54 dX4_number_45 ho54 fl4_22
theorem e54_48 : wp S d 54 48 [some (.ref r), a1, a2] st h Q = wp S d 54 49 [some (.ref r), a1, a2] (.ref r :: st) h Q := wp_p hc54 dX4_number_48 rfl
theorem e54_49 : wp S d 54 49 [a0, a1, a2] (.ref r :: st) h Q = am_gfK h r 4 0 (fun w => wp S d 54 52 [a0, a1, a2] (w :: st) h Q) := wp_gf hc54 dX4_number_49 ho54 fl4_15
theorem e54_52 : wp S d 54 52 [a0, a1, a2] (.int x :: .ref r :: st) h Q = am_baK h r x (fun z => wp S d 54 53 [a0, a1, a2] (.int z :: st) h Q) := wp_ba hc54 dX4_number_52
theorem e54_52k : wp S d 54 52 [a0, a1, a2] (.int x :: .retAddr r :: st) h Q = am_bcK r x (fun z => wp S d 54 53 [a0, a1, a2] (.int z :: st) h Q) := wp_baS hc54 dX4_number_52
theorem e54_53 : wp S d 54 53 [a0, a1, a2] (.int y :: .int x :: st) h Q = wp S d 54 54 [a0, a1, a2] (.int (x + y) :: st) h Q := wp_p hc54 dX4_number_53 rfl
theorem e54_54 : wp S d 54 54 [a0, a1, a2] st h Q = wp S d 54 56 [a0, a1, a2] (.int (nI 48) :: st) h Q := wp_p hc54 dX4_number_54 rfl
theorem e54_56 : wp S d 54 56 [a0, a1, a2] (.int y :: .int x :: st) h Q = wp S d 54 57 [a0, a1, a2] (.int (x - y) :: st) h Q := wp_p hc54 dX4_number_56 rfl
theorem e54_57 : wp S d 54 57 [a0, a1, a2] (.int x :: st) h Q = wp S d 54 58 [a0, a1, some (.int x)] st h Q := wp_p hc54 dX4_number_57 rfl
theorem e54_58 : wp S d 54 58 [some (.ref r), a1, a2] st h Q = wp S d 54 59 [some (.ref r), a1, a2] (.ref r :: st) h Q := wp_p hc54 dX4_number_58 rfl
theorem e54_59 : wp S d 54 59 [a0, a1, a2] (.ref r :: st) h Q = wp S d 54 60 [a0, a1, a2] (.ref r :: .ref r :: st) h Q := wp_p hc54 dX4_number_59 rfl
theorem e54_59i : wp S d 54 59 [a0, a1, a2] (.int x :: st) h Q = wp S d 54 60 [a0, a1, a2] (.int x :: .int x :: st) h Q := wp_p hc54 dX4_number_59 rfl
theorem e54_60 : wp S d 54 60 [a0, a1, a2] (.ref r :: st) h Q = am_gfK h r 4 0 (fun w => wp S d 54 63 [a0, a1, a2] (w :: st) h Q) := wp_gf hc54 dX4_number_60 ho54 fl4_15
theorem e54_63 : wp S d 54 63 [a0, a1, a2] st h Q = wp S d 54 64 [a0, a1, a2] (.int (nI 1) :: st) h Q := wp_p hc54 dX4_number_63 rfl
theorem e54_64 : wp S d 54 64 [a0, a1, a2] (.int y :: .int x :: st) h Q = wp S d 54 65 [a0, a1, a2] (.int (x + y) :: st) h Q := wp_p hc54 dX4_number_64 rfl
theorem e54_65 : wp S d 54 65 [a0, a1, a2] (w :: .ref r :: st) h Q = am_pfK 54 h r 4 0 false w (fun h => wp S d 54 68 [a0, a1, a2] st h Q) := wp_pf hc54 dX4_number_65 ho54 fl4_15
theorem e54_68 : wp S d 54 68 [a0, a1, a2] st h Q = wp S d 54 7 [a0, a1, a2] st h Q := wp_p hc54 dX4_number_68 rfl
theorem e54_71 : wp S d 54 71 [a0, a1, a2] st h Q = wp S d 54 74 [a0, a1, a2] (.ref h.length :: st) (h ++ [.inr (.inr (2, am_dft 2))]) Q := wp_nw hc54 dX4_number_71 ho54 nw4_43
theorem e54_74 : wp S d 54 74 [a0, a1, a2] (.ref r :: st) h Q = wp S d 54 75 [a0, a1, a2] (.ref r :: .ref r :: st) h Q := wp_p hc54 dX4_number_74 rfl
theorem e54_74i : wp S d 54 74 [a0, a1, a2] (.int x :: st) h Q = wp S d 54 75 [a0, a1, a2] (.int x :: .int x :: st) h Q := wp_p hc54 dX4_number_74 rfl
theorem e54_75 : wp S d 54 75 [a0, a1, a2] st h Q = wp S d 54 76 [a0, a1, a2] (.int (nI 0) :: st) h Q := wp_p hc54 dX4_number_75 rfl
theorem e54_76 : wp S d 54 76 [a0, a1, some (.int x)] st h Q = wp S d 54 77 [a0, a1, some (.int x)] (.int x :: st) h Q := wp_p hc54 dX4_number_76 rfl
theorem e54_77 : wp S d 54 77 [a0, a1, a2] st h Q = wp S d 54 78 [a0, a1, a2] (.int (nI 0) :: st) h Q := wp_p hc54 dX4_number_77 rfl
theorem e54_78 : wp S d 54 78 [a0, a1, a2] (.int x :: st) h Q = (¬ x < 0 ∧ x.toNatClampNeg ≤ 1000000 ∧ wp S d 54 81 [a0, a1, a2] (.ref h.length :: st) (h ++ [.inr (.inl (2, x.toNatClampNeg, fun _ => none))]) Q) := wp_nr hc54 dX4_number_78 ho54 nr4_43
theorem e54_81 : wp S (d + 1) 54 81 [a0, a1, a2] (.ref r3 :: .int x2 :: .int x1 :: .ref r0 :: st) h Q = (am_w8 st ∧ am_rcv h 4 42 (.ref r0) = true ∧ wp S d 42 0 [some (.ref r0), some (.int x1), some (.int x2), some (.ref r3), none, none, none, none, none] [] h (am_kr S 4 (d + 1) 54 81 [a0, a1, a2] st Q)) := wp_cI (.ref r0) [.int x1, .int x2, .ref r3] hc54 dX4_number_81 ho54 cl4_45 (by decide) ns4_45 hst42 hnp42 hml42 hlsl42 rfl rfl rfl
theorem e54_84 : wp S d 54 84 ls [.ref r] h Q = Q (.inl (some (.ref r)), h) := wp_r hc54 dX4_number_84 rfl rfl ⟨_, rfl, Or.inr ⟨_, rfl⟩, ⟨_, rfl, Or.inl ⟨_, rfl⟩⟩, rfl⟩
theorem e55_0 : wp S d 55 0 [some (.ref r), a1, a2] st h Q = wp S d 55 1 [some (.ref r), a1, a2] (.ref r :: st) h Q := wp_p hc55 dX4_isAt_0 rfl
theorem e55_1 : wp S d 55 1 [a0, a1, a2] (.ref r :: st) h Q = am_gfK h r 4 0 (fun w => wp S d 55 4 [a0, a1, a2] (w :: st) h Q) := wp_gf hc55 dX4_isAt_1 ho55 fl4_15
theorem e55_4 : wp S d 55 4 [some (.ref r), a1, a2] st h Q = wp S d 55 5 [some (.ref r), a1, a2] (.ref r :: st) h Q := wp_p hc55 dX4_isAt_4 rfl
theorem e55_5 : wp S d 55 5 [a0, a1, a2] (.ref r :: st) h Q = am_gfK h r 4 2 (fun w => wp S d 55 8 [a0, a1, a2] (w :: st) h Q) := wp_gf hc55 dX4_isAt_5 ho55 fl4_3
theorem e55_8 : wp S d 55 8 [a0, a1, a2] (.ref r :: st) h Q = am_gfK h r 0 4 (fun w => wp S d 55 11 [a0, a1, a2] (w :: st) h Q) := wp_gf hc55 dX4_isAt_8 ho55 fl4_19
theorem e55_11 : wp S d 55 11 [a0, a1, a2] (.int y :: .int x :: st) h Q = if y ≤ x then wp S d 55 38 [a0, a1, a2] st h Q else wp S d 55 14 [a0, a1, a2] st h Q := wp_ge hc55 dX4_isAt_11 rfl
theorem e55_14 : wp S d 55 14 [some (.ref r), a1, a2] st h Q = wp S d 55 15 [some (.ref r), a1, a2] (.ref r :: st) h Q := wp_p hc55 dX4_isAt_14 rfl
theorem e55_15 : wp S d 55 15 [a0, a1, a2] (.ref r :: st) h Q = am_gfK h r 4 2 (fun w => wp S d 55 18 [a0, a1, a2] (w :: st) h Q) := wp_gf hc55 dX4_isAt_15 ho55 fl4_3
theorem e55_18 : wp S d 55 18 [a0, a1, a2] (.ref r :: st) h Q = am_gfK h r 0 3 (fun w => wp S d 55 21 [a0, a1, a2] (w :: st) h Q) := wp_gf hc55 dX4_isAt_18 ho55 fl4_22
theorem e55_21 : wp S d 55 21 [some (.ref r), a1, a2] st h Q = wp S d 55 22 [some (.ref r), a1, a2] (.ref r :: st) h Q := wp_p hc55 dX4_isAt_21 rfl
theorem e55_22 : wp S d 55 22 [a0, a1, a2] (.ref r :: st) h Q = am_gfK h r 4 0 (fun w => wp S d 55 25 [a0, a1, a2] (w :: st) h Q) := wp_gf hc55 dX4_isAt_22 ho55 fl4_15
theorem e55_25 : wp S d 55 25 [a0, a1, a2] (.int x :: .ref r :: st) h Q = am_baK h r x (fun z => wp S d 55 26 [a0, a1, a2] (.int z :: st) h Q) := wp_ba hc55 dX4_isAt_25
theorem e55_25k : wp S d 55 25 [a0, a1, a2] (.int x :: .retAddr r :: st) h Q = am_bcK r x (fun z => wp S d 55 26 [a0, a1, a2] (.int z :: st) h Q) := wp_baS hc55 dX4_isAt_25
theorem e55_26 : wp S d 55 26 [a0, some (.int x), a2] st h Q = wp S d 55 27 [a0, some (.int x), a2] (.int x :: st) h Q := wp_p hc55 dX4_isAt_26 rfl
theorem e55_27 : wp S d 55 27 [a0, a1, some (.int x)] st h Q = wp S d 55 28 [a0, a1, some (.int x)] (.int x :: st) h Q := wp_p hc55 dX4_isAt_27 rfl
theorem e55_28 : wp S (d + 1) 55 28 [a0, a1, a2] (.int x3 :: .int x2 :: .int x1 :: st) h Q = (am_w8 st ∧ wp S d 4 0 [some (.int x1), some (.int x2), some (.int x3)] [] h (am_kr S 1 (d + 1) 55 28 [a0, a1, a2] st Q)) := wp_cS [.int x1, .int x2, .int x3] hc55 dX4_isAt_28 ho55 cl4_26 (by decide) ns4_26 hst4 hnp4 hml4 hlsl4 rfl rfl rfl
theorem e55_31 : wp S d 55 31 [a0, a1, a2] (.int x :: st) h Q = if x = 0 then wp S d 55 38 [a0, a1, a2] st h Q else wp S d 55 34 [a0, a1, a2] st h Q := wp_eq hc55 dX4_isAt_31 rfl
theorem e55_34 : wp S d 55 34 [a0, a1, a2] st h Q = wp S d 55 35 [a0, a1, a2] (.int (nI 1) :: st) h Q := wp_p hc55 dX4_isAt_34 rfl
theorem e55_35 : wp S d 55 35 [a0, a1, a2] st h Q = wp S d 55 39 [a0, a1, a2] st h Q := wp_p hc55 dX4_isAt_35 rfl
theorem e55_38 : wp S d 55 38 [a0, a1, a2] st h Q = wp S d 55 39 [a0, a1, a2] (.int (nI 0) :: st) h Q := wp_p hc55 dX4_isAt_38 rfl
theorem e55_39 : wp S d 55 39 ls [.int x] h Q = (narrow .boolean (.int x) = .int x ∧ Q (.inl (some (.int x)), h)) := wp_rI hc55 dX4_isAt_39 rfl
theorem e56_0 : wp S d 56 0 [some (.ref r), a1, a2, a3, a4, a5] st h Q = wp S d 56 1 [some (.ref r), a1, a2, a3, a4, a5] (.ref r :: st) h Q := wp_p hc56 dX4_call_0 rfl
theorem e56_1 : wp S d 56 1 [a0, a1, a2, a3, a4, a5] (.ref r :: st) h Q = wp S d 56 2 [a0, a1, a2, a3, a4, a5] (.ref r :: .ref r :: st) h Q := wp_p hc56 dX4_call_1 rfl
theorem e56_1i : wp S d 56 1 [a0, a1, a2, a3, a4, a5] (.int x :: st) h Q = wp S d 56 2 [a0, a1, a2, a3, a4, a5] (.int x :: .int x :: st) h Q := wp_p hc56 dX4_call_1 rfl
theorem e56_2 : wp S d 56 2 [a0, a1, a2, a3, a4, a5] (.ref r :: st) h Q = am_gfK h r 4 0 (fun w => wp S d 56 5 [a0, a1, a2, a3, a4, a5] (w :: st) h Q) := wp_gf hc56 dX4_call_2 ho56 fl4_15
theorem e56_5 : wp S d 56 5 [a0, a1, a2, a3, a4, a5] st h Q = wp S d 56 6 [a0, a1, a2, a3, a4, a5] (.int (nI 1) :: st) h Q := wp_p hc56 dX4_call_5 rfl
theorem e56_6 : wp S d 56 6 [a0, a1, a2, a3, a4, a5] (.int y :: .int x :: st) h Q = wp S d 56 7 [a0, a1, a2, a3, a4, a5] (.int (x + y) :: st) h Q := wp_p hc56 dX4_call_6 rfl
theorem e56_7 : wp S d 56 7 [a0, a1, a2, a3, a4, a5] (w :: .ref r :: st) h Q = am_pfK 56 h r 4 0 false w (fun h => wp S d 56 10 [a0, a1, a2, a3, a4, a5] st h Q) := wp_pf hc56 dX4_call_7 ho56 fl4_15
theorem e56_10 : wp S d 56 10 [some (.ref r), a1, a2, a3, a4, a5] st h Q = wp S d 56 11 [some (.ref r), a1, a2, a3, a4, a5] (.ref r :: st) h Q := wp_p hc56 dX4_call_10 rfl
theorem e56_11 : wp S d 56 11 [a0, a1, a2, a3, a4, a5] st h Q = wp S d 56 13 [a0, a1, a2, a3, a4, a5] (.int (nI 40) :: st) h Q := wp_p hc56 dX4_call_11 rfl
theorem e56_13 : wp S (d + 1) 56 13 [a0, a1, a2, a3, a4, a5] (.int x1 :: .ref r0 :: st) h Q = (am_w8 st ∧ am_rcv h 2 57 (.ref r0) = true ∧ wp S d 57 0 [some (.ref r0), some (.int x1)] [] h (am_kr S 2 (d + 1) 56 13 [a0, a1, a2, a3, a4, a5] st Q)) := wp_cV (.ref r0) [.int x1] hc56 dX4_call_13 ho56 cl4_48 (by decide) ns4_48 hst57 hnp57 hml57 hlsl57 rfl rfl rfl
theorem e56_16 : wp S d 56 16 [a0, a1, a2, some (.int x), a4, a5] st h Q = wp S d 56 17 [a0, a1, a2, some (.int x), a4, a5] (.int x :: st) h Q := wp_p hc56 dX4_call_16 rfl
theorem e56_17 : wp S d 56 17 [a0, a1, a2, a3, a4, a5] (.int x :: st) h Q = (¬ x < 0 ∧ x.toNatClampNeg ≤ 1000000 ∧ wp S d 56 20 [a0, a1, a2, a3, a4, a5] (.ref h.length :: st) (h ++ [.inr (.inl (2, x.toNatClampNeg, fun _ => none))]) Q) := wp_nr hc56 dX4_call_17 ho56 nr4_43
theorem e56_20 : wp S d 56 20 [a0, a1, a2, a3, a4, a5] (.ref r :: st) h Q = wp S d 56 22 [a0, a1, a2, a3, some (.ref r), a5] st h Q := wp_p hc56 dX4_call_20 rfl
theorem e56_22 : wp S d 56 22 [a0, a1, a2, a3, a4, a5] st h Q = wp S d 56 23 [a0, a1, a2, a3, a4, a5] (.int (nI 0) :: st) h Q := wp_p hc56 dX4_call_22 rfl
theorem e56_23 : wp S d 56 23 [a0, a1, a2, a3, a4, a5] (.int x :: st) h Q = wp S d 56 25 [a0, a1, a2, a3, a4, some (.int x)] st h Q := wp_p hc56 dX4_call_23 rfl
theorem e56_25 : wp S d 56 25 [a0, a1, a2, a3, a4, some (.int x)] st h Q = wp S d 56 27 [a0, a1, a2, a3, a4, some (.int x)] (.int x :: st) h Q := wp_p hc56 dX4_call_25 rfl
theorem e56_27 : wp S d 56 27 [a0, a1, a2, some (.int x), a4, a5] st h Q = wp S d 56 28 [a0, a1, a2, some (.int x), a4, a5] (.int x :: st) h Q := wp_p hc56 dX4_call_27 rfl
theorem e56_28 : wp S d 56 28 [a0, a1, a2, a3, a4, a5] (.int y :: .int x :: st) h Q = if y ≤ x then wp S d 56 57 [a0, a1, a2, a3, a4, a5] st h Q else wp S d 56 31 [a0, a1, a2, a3, a4, a5] st h Q := wp_ge hc56 dX4_call_28 rfl
theorem e56_31 : wp S d 56 31 [a0, a1, a2, a3, a4, some (.int x)] st h Q = wp S d 56 33 [a0, a1, a2, a3, a4, some (.int x)] (.int x :: st) h Q := wp_p hc56 dX4_call_31 rfl
theorem e56_33 : wp S d 56 33 [a0, a1, a2, a3, a4, a5] (.int x :: st) h Q = if x ≤ 0 then wp S d 56 42 [a0, a1, a2, a3, a4, a5] st h Q else wp S d 56 36 [a0, a1, a2, a3, a4, a5] st h Q := wp_le hc56 dX4_call_33 rfl
theorem e56_36 : wp S d 56 36 [some (.ref r), a1, a2, a3, a4, a5] st h Q = wp S d 56 37 [some (.ref r), a1, a2, a3, a4, a5] (.ref r :: st) h Q := wp_p hc56 dX4_call_36 rfl
theorem e56_37 : wp S d 56 37 [a0, a1, a2, a3, a4, a5] st h Q = wp S d 56 39 [a0, a1, a2, a3, a4, a5] (.int (nI 44) :: st) h Q := wp_p hc56 dX4_call_37 rfl
theorem e56_39 : wp S (d + 1) 56 39 [a0, a1, a2, a3, a4, a5] (.int x1 :: .ref r0 :: st) h Q = (am_w8 st ∧ am_rcv h 2 57 (.ref r0) = true ∧ wp S d 57 0 [some (.ref r0), some (.int x1)] [] h (am_kr S 2 (d + 1) 56 39 [a0, a1, a2, a3, a4, a5] st Q)) := wp_cV (.ref r0) [.int x1] hc56 dX4_call_39 ho56 cl4_48 (by decide) ns4_48 hst57 hnp57 hml57 hlsl57 rfl rfl rfl
theorem e56_42 : wp S d 56 42 [a0, a1, a2, a3, some (.ref r), a5] st h Q = wp S d 56 44 [a0, a1, a2, a3, some (.ref r), a5] (.ref r :: st) h Q := wp_p hc56 dX4_call_42 rfl
theorem e56_44 : wp S d 56 44 [a0, a1, a2, a3, a4, some (.int x)] st h Q = wp S d 56 46 [a0, a1, a2, a3, a4, some (.int x)] (.int x :: st) h Q := wp_p hc56 dX4_call_44 rfl
theorem e56_46 : wp S d 56 46 [some (.ref r), a1, a2, a3, a4, a5] st h Q = wp S d 56 47 [some (.ref r), a1, a2, a3, a4, a5] (.ref r :: st) h Q := wp_p hc56 dX4_call_46 rfl
theorem e56_47 : wp S (d + 1) 56 47 [a0, a1, a2, a3, a4, a5] (.ref r0 :: st) h Q = (am_w8 st ∧ am_rcv h 2 52 (.ref r0) = true ∧ wp S d 52 0 [some (.ref r0), none] [] h (am_kr S 2 (d + 1) 56 47 [a0, a1, a2, a3, a4, a5] st Q)) := wp_cV (.ref r0) [] hc56 dX4_call_47 ho56 cl4_52 (by decide) ns4_52 hst52 hnp52 hml52 hlsl52 rfl rfl rfl
theorem e56_50 : wp S d 56 50 [a0, a1, a2, a3, a4, a5] (w :: .int x :: .ref r :: st) h Q = am_asK h r x w (fun h => wp S d 56 51 [a0, a1, a2, a3, a4, a5] st h Q) := wp_as hc56 dX4_call_50
theorem e56_51 : wp S d 56 51 [a0, a1, a2, a3, a4, some (.int x)] st h Q = wp S d 56 54 [a0, a1, a2, a3, a4, some (.int (x + nI 1))] st h Q := wp_p hc56 dX4_call_51 rfl
theorem e56_54 : wp S d 56 54 [a0, a1, a2, a3, a4, a5] st h Q = wp S d 56 25 [a0, a1, a2, a3, a4, a5] st h Q := wp_p hc56 dX4_call_54 rfl
theorem e56_57 : wp S d 56 57 [some (.ref r), a1, a2, a3, a4, a5] st h Q = wp S d 56 58 [some (.ref r), a1, a2, a3, a4, a5] (.ref r :: st) h Q := wp_p hc56 dX4_call_57 rfl
theorem e56_58 : wp S d 56 58 [a0, a1, a2, a3, a4, a5] st h Q = wp S d 56 60 [a0, a1, a2, a3, a4, a5] (.int (nI 41) :: st) h Q := wp_p hc56 dX4_call_58 rfl
theorem e56_60 : wp S (d + 1) 56 60 [a0, a1, a2, a3, a4, a5] (.int x1 :: .ref r0 :: st) h Q = (am_w8 st ∧ am_rcv h 2 57 (.ref r0) = true ∧ wp S d 57 0 [some (.ref r0), some (.int x1)] [] h (am_kr S 2 (d + 1) 56 60 [a0, a1, a2, a3, a4, a5] st Q)) := wp_cV (.ref r0) [.int x1] hc56 dX4_call_60 ho56 cl4_48 (by decide) ns4_48 hst57 hnp57 hml57 hlsl57 rfl rfl rfl
theorem e56_63 : wp S d 56 63 [a0, a1, a2, a3, a4, a5] st h Q = wp S d 56 66 [a0, a1, a2, a3, a4, a5] (.ref h.length :: st) (h ++ [.inr (.inr (2, am_dft 2))]) Q := wp_nw hc56 dX4_call_63 ho56 nw4_43
theorem e56_66 : wp S d 56 66 [a0, a1, a2, a3, a4, a5] (.ref r :: st) h Q = wp S d 56 67 [a0, a1, a2, a3, a4, a5] (.ref r :: .ref r :: st) h Q := wp_p hc56 dX4_call_66 rfl
theorem e56_66i : wp S d 56 66 [a0, a1, a2, a3, a4, a5] (.int x :: st) h Q = wp S d 56 67 [a0, a1, a2, a3, a4, a5] (.int x :: .int x :: st) h Q := wp_p hc56 dX4_call_66 rfl
theorem e56_67 : wp S d 56 67 [a0, some (.int x), a2, a3, a4, a5] st h Q = wp S d 56 68 [a0, some (.int x), a2, a3, a4, a5] (.int x :: st) h Q := wp_p hc56 dX4_call_67 rfl
theorem e56_68 : wp S d 56 68 [a0, a1, some (.int x), a3, a4, a5] st h Q = wp S d 56 69 [a0, a1, some (.int x), a3, a4, a5] (.int x :: st) h Q := wp_p hc56 dX4_call_68 rfl
theorem e56_69 : wp S d 56 69 [a0, a1, a2, a3, some (.ref r), a5] st h Q = wp S d 56 71 [a0, a1, a2, a3, some (.ref r), a5] (.ref r :: st) h Q := wp_p hc56 dX4_call_69 rfl
theorem e56_71 : wp S (d + 1) 56 71 [a0, a1, a2, a3, a4, a5] (.ref r3 :: .int x2 :: .int x1 :: .ref r0 :: st) h Q = (am_w8 st ∧ am_rcv h 4 42 (.ref r0) = true ∧ wp S d 42 0 [some (.ref r0), some (.int x1), some (.int x2), some (.ref r3), none, none, none, none, none] [] h (am_kr S 4 (d + 1) 56 71 [a0, a1, a2, a3, a4, a5] st Q)) := wp_cI (.ref r0) [.int x1, .int x2, .ref r3] hc56 dX4_call_71 ho56 cl4_45 (by decide) ns4_45 hst42 hnp42 hml42 hlsl42 rfl rfl rfl
theorem e56_74 : wp S d 56 74 ls [.ref r] h Q = Q (.inl (some (.ref r)), h) := wp_r hc56 dX4_call_74 rfl rfl ⟨_, rfl, Or.inr ⟨_, rfl⟩, ⟨_, rfl, Or.inl ⟨_, rfl⟩⟩, rfl⟩
theorem e57_0 : wp S d 57 0 [some (.ref r), a1] st h Q = wp S d 57 1 [some (.ref r), a1] (.ref r :: st) h Q := wp_p hc57 dX4_pass_0 rfl
theorem e57_1 : wp S d 57 1 [some (.ref r), a1] st h Q = wp S d 57 2 [some (.ref r), a1] (.ref r :: st) h Q := wp_p hc57 dX4_pass_1 rfl
theorem e57_2 : wp S d 57 2 [a0, some (.int x)] st h Q = wp S d 57 3 [a0, some (.int x)] (.int x :: st) h Q := wp_p hc57 dX4_pass_2 rfl
theorem e57_3 : wp S d 57 3 [a0, some (.int x)] st h Q = wp S d 57 4 [a0, some (.int x)] (.int x :: st) h Q := wp_p hc57 dX4_pass_3 rfl
theorem e57_4 : wp S (d + 1) 57 4 [a0, a1] (.int x2 :: .int x1 :: .ref r0 :: st) h Q = (am_w8 st ∧ am_rcv h 2 55 (.ref r0) = true ∧ wp S d 55 0 [some (.ref r0), some (.int x1), some (.int x2)] [] h (am_kr S 2 (d + 1) 57 4 [a0, a1] st Q)) := wp_cV (.ref r0) [.int x1, .int x2] hc57 dX4_pass_4 ho57 cl4_35 (by decide) ns4_35 hst55 hnp55 hml55 hlsl55 rfl rfl rfl
theorem e57_7 : wp S (d + 1) 57 7 [a0, a1] (.int x1 :: .ref r0 :: st) h Q = (am_w8 st ∧ am_rcv h 2 53 (.ref r0) = true ∧ wp S d 53 0 [some (.ref r0), some (.int x1)] [] h (am_kr S 2 (d + 1) 57 7 [a0, a1] st Q)) := wp_cV (.ref r0) [.int x1] hc57 dX4_pass_7 ho57 cl4_39 (by decide) ns4_39 hst53 hnp53 hml53 hlsl53 rfl rfl rfl
theorem e57_10 : wp S d 57 10 [some (.ref r), a1] st h Q = wp S d 57 11 [some (.ref r), a1] (.ref r :: st) h Q := wp_p hc57 dX4_pass_10 rfl
theorem e57_11 : wp S d 57 11 [a0, a1] (.ref r :: st) h Q = wp S d 57 12 [a0, a1] (.ref r :: .ref r :: st) h Q := wp_p hc57 dX4_pass_11 rfl
theorem e57_11i : wp S d 57 11 [a0, a1] (.int x :: st) h Q = wp S d 57 12 [a0, a1] (.int x :: .int x :: st) h Q := wp_p hc57 dX4_pass_11 rfl
theorem e57_12 : wp S d 57 12 [a0, a1] (.ref r :: st) h Q = am_gfK h r 4 0 (fun w => wp S d 57 15 [a0, a1] (w :: st) h Q) := wp_gf hc57 dX4_pass_12 ho57 fl4_15
theorem e57_15 : wp S d 57 15 [a0, a1] st h Q = wp S d 57 16 [a0, a1] (.int (nI 1) :: st) h Q := wp_p hc57 dX4_pass_15 rfl
theorem e57_16 : wp S d 57 16 [a0, a1] (.int y :: .int x :: st) h Q = wp S d 57 17 [a0, a1] (.int (x + y) :: st) h Q := wp_p hc57 dX4_pass_16 rfl
theorem e57_17 : wp S d 57 17 [a0, a1] (w :: .ref r :: st) h Q = am_pfK 57 h r 4 0 false w (fun h => wp S d 57 20 [a0, a1] st h Q) := wp_pf hc57 dX4_pass_17 ho57 fl4_15
theorem e57_20 : wp S d 57 20 ls [] h Q = Q (.inl none, h) := wp_r hc57 dX4_pass_20 rfl rfl ⟨rfl, rfl, rfl⟩
theorem e122_0 : wp S d 122 0 [some (.ref r), a1] st h Q = wp S d 122 1 [some (.ref r), a1] (.ref r :: st) h Q := wp_p hc122 dX6_init_0 rfl
theorem e122_1 : wp S d 122 1 [a0, some (.int x)] st h Q = wp S d 122 2 [a0, some (.int x)] (.int x :: st) h Q := wp_p hc122 dX6_init_1 rfl
theorem e122_2 : wp S d 122 2 [a0, a1] st h Q = wp S d 122 3 [a0, a1] (.int (nI 4) :: st) h Q := wp_p hc122 dX6_init_2 rfl
theorem e122_3 : wp S d 122 3 [a0, a1] (.int x :: st) h Q = (¬ x < 0 ∧ x.toNatClampNeg ≤ 1000000 ∧ wp S d 122 5 [a0, a1] (.ref h.length :: st) (h ++ [.inl (0, x.toNatClampNeg, fun _ => 0)]) Q) := wp_na0 hc122 dX6_init_3
theorem e122_5 : wp S d 122 5 [a0, a1] (.ref r :: st) h Q = wp S d 122 6 [a0, a1] (.ref r :: .ref r :: st) h Q := wp_p hc122 dX6_init_5 rfl
theorem e122_5i : wp S d 122 5 [a0, a1] (.int x :: st) h Q = wp S d 122 6 [a0, a1] (.int x :: .int x :: st) h Q := wp_p hc122 dX6_init_5 rfl
theorem e122_6 : wp S d 122 6 [a0, a1] st h Q = wp S d 122 7 [a0, a1] (.int (nI 0) :: st) h Q := wp_p hc122 dX6_init_6 rfl
theorem e122_7 : wp S d 122 7 [a0, a1] st h Q = wp S d 122 8 [a0, a1] (.int ((-1)) :: st) h Q := wp_p hc122 dX6_init_7 rfl
theorem e122_8 : wp S d 122 8 [a0, a1] (.int y :: .int x :: .ref r :: st) h Q = am_isK h r x y (fun h => wp S d 122 9 [a0, a1] st h Q) := wp_is hc122 dX6_init_8
theorem e122_9 : wp S d 122 9 [a0, a1] (.ref r :: st) h Q = wp S d 122 10 [a0, a1] (.ref r :: .ref r :: st) h Q := wp_p hc122 dX6_init_9 rfl
theorem e122_9i : wp S d 122 9 [a0, a1] (.int x :: st) h Q = wp S d 122 10 [a0, a1] (.int x :: .int x :: st) h Q := wp_p hc122 dX6_init_9 rfl
theorem e122_10 : wp S d 122 10 [a0, a1] st h Q = wp S d 122 11 [a0, a1] (.int (nI 1) :: st) h Q := wp_p hc122 dX6_init_10 rfl
theorem e122_11 : wp S d 122 11 [a0, a1] st h Q = wp S d 122 13 [a0, a1] (.int ((-2)) :: st) h Q := wp_p hc122 dX6_init_11 rfl
theorem e122_13 : wp S d 122 13 [a0, a1] (.int y :: .int x :: .ref r :: st) h Q = am_isK h r x y (fun h => wp S d 122 14 [a0, a1] st h Q) := wp_is hc122 dX6_init_13
theorem e122_14 : wp S d 122 14 [a0, a1] (.ref r :: st) h Q = wp S d 122 15 [a0, a1] (.ref r :: .ref r :: st) h Q := wp_p hc122 dX6_init_14 rfl
theorem e122_14i : wp S d 122 14 [a0, a1] (.int x :: st) h Q = wp S d 122 15 [a0, a1] (.int x :: .int x :: st) h Q := wp_p hc122 dX6_init_14 rfl
theorem e122_15 : wp S d 122 15 [a0, a1] st h Q = wp S d 122 16 [a0, a1] (.int (nI 2) :: st) h Q := wp_p hc122 dX6_init_15 rfl
theorem e122_16 : wp S d 122 16 [a0, a1] st h Q = wp S d 122 18 [a0, a1] (.int ((-3)) :: st) h Q := wp_p hc122 dX6_init_16 rfl
theorem e122_18 : wp S d 122 18 [a0, a1] (.int y :: .int x :: .ref r :: st) h Q = am_isK h r x y (fun h => wp S d 122 19 [a0, a1] st h Q) := wp_is hc122 dX6_init_18
theorem e122_19 : wp S d 122 19 [a0, a1] (.ref r :: st) h Q = wp S d 122 20 [a0, a1] (.ref r :: .ref r :: st) h Q := wp_p hc122 dX6_init_19 rfl
theorem e122_19i : wp S d 122 19 [a0, a1] (.int x :: st) h Q = wp S d 122 20 [a0, a1] (.int x :: .int x :: st) h Q := wp_p hc122 dX6_init_19 rfl
theorem e122_20 : wp S d 122 20 [a0, a1] st h Q = wp S d 122 21 [a0, a1] (.int (nI 3) :: st) h Q := wp_p hc122 dX6_init_20 rfl
theorem e122_21 : wp S d 122 21 [a0, a1] st h Q = wp S d 122 22 [a0, a1] (.int (nI 0) :: st) h Q := wp_p hc122 dX6_init_21 rfl
theorem e122_22 : wp S d 122 22 [a0, a1] (.int y :: .int x :: .ref r :: st) h Q = am_isK h r x y (fun h => wp S d 122 23 [a0, a1] st h Q) := wp_is hc122 dX6_init_22
theorem e122_23 : wp S (d + 1) 122 23 [a0, a1] (.ref r2 :: .int x1 :: .ref r0 :: st) h Q = (am_w8 st ∧ am_rcv h 4 123 (.ref r0) = true ∧ wp S d 123 0 [some (.ref r0), some (.int x1), some (.ref r2)] [] h (am_kr S 4 (d + 1) 122 23 [a0, a1] st Q)) := wp_cI (.ref r0) [.int x1, .ref r2] hc122 dX6_init_23 ho122 cl6_3 (by decide) ns6_3 hst123 hnp123 hml123 hlsl123 rfl rfl rfl
theorem e122_26 : wp S d 122 26 ls [] h Q = Q (.inl none, h) := wp_r hc122 dX6_init_26 rfl rfl ⟨rfl, rfl, rfl⟩
theorem e123_0 : wp S d 123 0 [some (.ref r), a1, a2] st h Q = wp S d 123 1 [some (.ref r), a1, a2] (.ref r :: st) h Q := wp_p hc123 dX6_init_2_0 rfl
theorem e123_1 : wp S (d + 1) 123 1 [a0, a1, a2] (.ref r :: st) h Q = (am_w8 st ∧ wp S (d + 1) 123 4 [a0, a1, a2] st h Q) := wp_oi hc123 dX6_init_2_1 ho123 sp6_9 nc6_9
theorem e123_4 : wp S d 123 4 [some (.ref r), a1, a2] st h Q = wp S d 123 5 [some (.ref r), a1, a2] (.ref r :: st) h Q := wp_p hc123 dX6_init_2_4 rfl
theorem e123_5 : wp S d 123 5 [a0, some (.int x), a2] st h Q = wp S d 123 6 [a0, some (.int x), a2] (.int x :: st) h Q := wp_p hc123 dX6_init_2_5 rfl
theorem e123_6 : wp S d 123 6 [a0, a1, a2] (w :: .ref r :: st) h Q = am_pfK 123 h r 6 0 false w (fun h => wp S d 123 9 [a0, a1, a2] st h Q) := wp_pf hc123 dX6_init_2_6 ho123 fl6_14
theorem e123_9 : wp S d 123 9 [some (.ref r), a1, a2] st h Q = wp S d 123 10 [some (.ref r), a1, a2] (.ref r :: st) h Q := wp_p hc123 dX6_init_2_9 rfl
theorem e123_10 : wp S d 123 10 [a0, a1, some (.ref r)] st h Q = wp S d 123 11 [a0, a1, some (.ref r)] (.ref r :: st) h Q := wp_p hc123 dX6_init_2_10 rfl
theorem e123_11 : wp S d 123 11 [a0, a1, a2] (w :: .ref r :: st) h Q = am_pfK 123 h r 6 1 false w (fun h => wp S d 123 14 [a0, a1, a2] st h Q) := wp_pf hc123 dX6_init_2_11 ho123 fl6_18
theorem e123_14 : wp S d 123 14 ls [] h Q = Q (.inl none, h) := wp_r hc123 dX6_init_2_14 rfl rfl ⟨rfl, rfl, rfl⟩
theorem e124_0 : wp S d 124 0 [some (.ref r), a1, a2, a3, a4] st h Q = wp S d 124 1 [some (.ref r), a1, a2, a3, a4] (.ref r :: st) h Q := wp_p hc124 dX6_isFaithful_0 rfl
theorem e124_1 : wp S d 124 1 [a0, some (.ref r), a2, a3, a4] st h Q = wp S d 124 2 [a0, some (.ref r), a2, a3, a4] (.ref r :: st) h Q := wp_p hc124 dX6_isFaithful_1 rfl
theorem e124_2 : wp S d 124 2 [a0, a1, some (.ref r), a3, a4] st h Q = wp S d 124 3 [a0, a1, some (.ref r), a3, a4] (.ref r :: st) h Q := wp_p hc124 dX6_isFaithful_2 rfl
theorem e124_3 : wp S (d + 1) 124 3 [a0, a1, a2, a3, a4] (.ref r2 :: .ref r1 :: .ref r0 :: st) h Q = (am_w8 st ∧ am_rcv h 2 125 (.ref r0) = true ∧ wp S d 125 0 [some (.ref r0), some (.ref r1), some (.ref r2), none, none] [] h (am_kr S 2 (d + 1) 124 3 [a0, a1, a2, a3, a4] st Q)) := wp_cV (.ref r0) [.ref r1, .ref r2] hc124 dX6_isFaithful_3 ho124 cl6_38 (by decide) ns6_38 hst125 hnp125 hml125 hlsl125 rfl rfl rfl
theorem e124_6 : wp S d 124 6 [a0, a1, a2, a3, a4] (.int x :: st) h Q = if x = 0 then wp S d 124 25 [a0, a1, a2, a3, a4] st h Q else wp S d 124 9 [a0, a1, a2, a3, a4] st h Q := wp_eq hc124 dX6_isFaithful_6 rfl
theorem e124_9 : wp S d 124 9 [a0, some (.ref r), a2, a3, a4] st h Q = wp S d 124 10 [a0, some (.ref r), a2, a3, a4] (.ref r :: st) h Q := wp_p hc124 dX6_isFaithful_9 rfl
theorem e124_10 : wp S d 124 10 [a0, a1, a2, a3, a4] (.ref r :: st) h Q = am_gfK h r 3 2 (fun w => wp S d 124 13 [a0, a1, a2, a3, a4] (w :: st) h Q) := wp_gf hc124 dX6_isFaithful_10 ho124 fl6_32
theorem e124_13 : wp S d 124 13 [some (.ref r), a1, a2, a3, a4] st h Q = wp S d 124 14 [some (.ref r), a1, a2, a3, a4] (.ref r :: st) h Q := wp_p hc124 dX6_isFaithful_13 rfl
theorem e124_14 : wp S d 124 14 [a0, a1, some (.ref r), a3, a4] st h Q = wp S d 124 15 [a0, a1, some (.ref r), a3, a4] (.ref r :: st) h Q := wp_p hc124 dX6_isFaithful_14 rfl
theorem e124_15 : wp S (d + 1) 124 15 [a0, a1, a2, a3, a4] (.ref r1 :: .ref r0 :: st) h Q = (am_w8 st ∧ am_rcv h 2 126 (.ref r0) = true ∧ wp S d 126 0 [some (.ref r0), some (.ref r1), none, none] [] h (am_kr S 2 (d + 1) 124 15 [a0, a1, a2, a3, a4] st Q)) := wp_cV (.ref r0) [.ref r1] hc124 dX6_isFaithful_15 ho124 cl6_42 (by decide) ns6_42 hst126 hnp126 hml126 hlsl126 rfl rfl rfl
theorem e124_18 : wp S d 124 18 [a0, a1, a2, a3, a4] (.int y :: .int x :: st) h Q = if x = y then wp S d 124 21 [a0, a1, a2, a3, a4] st h Q else wp S d 124 25 [a0, a1, a2, a3, a4] st h Q := wp_ne hc124 dX6_isFaithful_18 rfl
theorem e124_21 : wp S d 124 21 [a0, a1, a2, a3, a4] st h Q = wp S d 124 22 [a0, a1, a2, a3, a4] (.int (nI 1) :: st) h Q := wp_p hc124 dX6_isFaithful_21 rfl
theorem e124_22 : wp S d 124 22 [a0, a1, a2, a3, a4] st h Q = wp S d 124 26 [a0, a1, a2, a3, a4] st h Q := wp_p hc124 dX6_isFaithful_22 rfl
theorem e124_25 : wp S d 124 25 [a0, a1, a2, a3, a4] st h Q = wp S d 124 26 [a0, a1, a2, a3, a4] (.int (nI 0) :: st) h Q := wp_p hc124 dX6_isFaithful_25 rfl
theorem e124_26 : wp S d 124 26 [a0, a1, a2, a3, a4] (.int x :: st) h Q = wp S d 124 27 [a0, a1, a2, some (.int x), a4] st h Q := wp_p hc124 dX6_isFaithful_26 rfl
theorem e124_27 : wp S d 124 27 [a0, a1, a2, a3, a4] st h Q = wp S d 124 28 [a0, a1, a2, a3, a4] (.int (nI 0) :: st) h Q := wp_p hc124 dX6_isFaithful_27 rfl
theorem e124_28 : wp S d 124 28 [a0, a1, a2, a3, a4] (.int x :: st) h Q = wp S d 124 30 [a0, a1, a2, a3, some (.int x)] st h Q := wp_p hc124 dX6_isFaithful_28 rfl
theorem e124_30 : wp S d 124 30 [a0, a1, a2, a3, some (.int x)] st h Q = wp S d 124 32 [a0, a1, a2, a3, some (.int x)] (.int x :: st) h Q := wp_p hc124 dX6_isFaithful_30 rfl
theorem e124_32 : wp S d 124 32 [a0, some (.ref r), a2, a3, a4] st h Q = wp S d 124 33 [a0, some (.ref r), a2, a3, a4] (.ref r :: st) h Q := wp_p hc124 dX6_isFaithful_32 rfl
theorem e124_33 : wp S d 124 33 [a0, a1, a2, a3, a4] (.ref r :: st) h Q = am_gfK h r 3 0 (fun w => wp S d 124 36 [a0, a1, a2, a3, a4] (w :: st) h Q) := wp_gf hc124 dX6_isFaithful_33 ho124 fl6_27
theorem e124_36 : wp S d 124 36 [a0, a1, a2, a3, a4] (.int y :: .int x :: st) h Q = if y ≤ x then wp S d 124 70 [a0, a1, a2, a3, a4] st h Q else wp S d 124 39 [a0, a1, a2, a3, a4] st h Q := wp_ge hc124 dX6_isFaithful_36 rfl
theorem e124_39 : wp S d 124 39 [a0, a1, a2, some (.int x), a4] st h Q = wp S d 124 40 [a0, a1, a2, some (.int x), a4] (.int x :: st) h Q := wp_p hc124 dX6_isFaithful_39 rfl
theorem e124_40 : wp S d 124 40 [a0, some (.ref r), a2, a3, a4] st h Q = wp S d 124 41 [a0, some (.ref r), a2, a3, a4] (.ref r :: st) h Q := wp_p hc124 dX6_isFaithful_40 rfl
theorem e124_41 : wp S d 124 41 [a0, a1, a2, a3, a4] (.ref r :: st) h Q = am_gfK h r 3 3 (fun w => wp S d 124 44 [a0, a1, a2, a3, a4] (w :: st) h Q) := wp_gf hc124 dX6_isFaithful_41 ho124 fl6_35
theorem e124_44 : wp S d 124 44 [a0, a1, a2, a3, some (.int x)] st h Q = wp S d 124 46 [a0, a1, a2, a3, some (.int x)] (.int x :: st) h Q := wp_p hc124 dX6_isFaithful_44 rfl
theorem e124_46 : wp S d 124 46 [a0, a1, a2, a3, a4] (.int x :: .ref r :: st) h Q = am_iaK h r x (fun z => wp S d 124 47 [a0, a1, a2, a3, a4] (.int z :: st) h Q) := wp_ia hc124 dX6_isFaithful_46
theorem e124_47 : wp S d 124 47 [some (.ref r), a1, a2, a3, a4] st h Q = wp S d 124 48 [some (.ref r), a1, a2, a3, a4] (.ref r :: st) h Q := wp_p hc124 dX6_isFaithful_47 rfl
theorem e124_48 : wp S d 124 48 [a0, a1, some (.ref r), a3, a4] st h Q = wp S d 124 49 [a0, a1, some (.ref r), a3, a4] (.ref r :: st) h Q := wp_p hc124 dX6_isFaithful_48 rfl
theorem e124_49 : wp S d 124 49 [a0, a1, a2, a3, some (.int x)] st h Q = wp S d 124 51 [a0, a1, a2, a3, some (.int x)] (.int x :: st) h Q := wp_p hc124 dX6_isFaithful_49 rfl
theorem e124_51 : wp S (d + 1) 124 51 [a0, a1, a2, a3, a4] (.int x2 :: .ref r1 :: .ref r0 :: st) h Q = (am_w8 st ∧ am_rcv h 2 127 (.ref r0) = true ∧ wp S d 127 0 [some (.ref r0), some (.ref r1), some (.int x2), none, none] [] h (am_kr S 2 (d + 1) 124 51 [a0, a1, a2, a3, a4] st Q)) := wp_cV (.ref r0) [.ref r1, .int x2] hc124 dX6_isFaithful_51 ho124 cl6_46 (by decide) ns6_46 hst127 hnp127 hml127 hlsl127 rfl rfl rfl
theorem e124_54 : wp S d 124 54 [a0, a1, a2, a3, a4] (.int y :: .int x :: st) h Q = if x = y then wp S d 124 57 [a0, a1, a2, a3, a4] st h Q else wp S d 124 61 [a0, a1, a2, a3, a4] st h Q := wp_ne hc124 dX6_isFaithful_54 rfl
theorem e124_57 : wp S d 124 57 [a0, a1, a2, a3, a4] st h Q = wp S d 124 58 [a0, a1, a2, a3, a4] (.int (nI 1) :: st) h Q := wp_p hc124 dX6_isFaithful_57 rfl
theorem e124_58 : wp S d 124 58 [a0, a1, a2, a3, a4] st h Q = wp S d 124 62 [a0, a1, a2, a3, a4] st h Q := wp_p hc124 dX6_isFaithful_58 rfl
theorem e124_61 : wp S d 124 61 [a0, a1, a2, a3, a4] st h Q = wp S d 124 62 [a0, a1, a2, a3, a4] (.int (nI 0) :: st) h Q := wp_p hc124 dX6_isFaithful_61 rfl
theorem e124_62 : wp S d 124 62 [a0, a1, a2, a3, a4] (.int y :: .int x :: st) h Q = wp S d 124 63 [a0, a1, a2, a3, a4] (.int (x &&& y) :: st) h Q := wp_p hc124 dX6_isFaithful_62 rfl
theorem e124_63 : wp S d 124 63 [a0, a1, a2, a3, a4] (.int x :: st) h Q = wp S d 124 64 [a0, a1, a2, some (.int x), a4] st h Q := wp_p hc124 dX6_isFaithful_63 rfl
theorem e124_64 : wp S d 124 64 [a0, a1, a2, a3, some (.int x)] st h Q = wp S d 124 67 [a0, a1, a2, a3, some (.int (x + nI 1))] st h Q := wp_p hc124 dX6_isFaithful_64 rfl
theorem e124_67 : wp S d 124 67 [a0, a1, a2, a3, a4] st h Q = wp S d 124 30 [a0, a1, a2, a3, a4] st h Q := wp_p hc124 dX6_isFaithful_67 rfl
theorem e124_70 : wp S d 124 70 [a0, a1, a2, some (.int x), a4] st h Q = wp S d 124 71 [a0, a1, a2, some (.int x), a4] (.int x :: st) h Q := wp_p hc124 dX6_isFaithful_70 rfl
theorem e124_71 : wp S d 124 71 ls [.int x] h Q = (narrow .boolean (.int x) = .int x ∧ Q (.inl (some (.int x)), h)) := wp_rI hc124 dX6_isFaithful_71 rfl
theorem e125_0 : wp S d 125 0 [a0, a1, a2, a3, a4] st h Q = wp S d 125 1 [a0, a1, a2, a3, a4] (.int (nI 1) :: st) h Q := wp_p hc125 dX6_isWellFormed_0 rfl
theorem e125_1 : wp S d 125 1 [a0, a1, a2, a3, a4] (.int x :: st) h Q = wp S d 125 2 [a0, a1, a2, some (.int x), a4] st h Q := wp_p hc125 dX6_isWellFormed_1 rfl
theorem e125_2 : wp S d 125 2 [a0, a1, a2, a3, a4] st h Q = wp S d 125 3 [a0, a1, a2, a3, a4] (.int (nI 0) :: st) h Q := wp_p hc125 dX6_isWellFormed_2 rfl
theorem e125_3 : wp S d 125 3 [a0, a1, a2, a3, a4] (.int x :: st) h Q = wp S d 125 5 [a0, a1, a2, a3, some (.int x)] st h Q := wp_p hc125 dX6_isWellFormed_3 rfl
theorem e125_5 : wp S d 125 5 [a0, a1, a2, a3, some (.int x)] st h Q = wp S d 125 7 [a0, a1, a2, a3, some (.int x)] (.int x :: st) h Q := wp_p hc125 dX6_isWellFormed_5 rfl
theorem e125_7 : wp S d 125 7 [a0, a1, some (.ref r), a3, a4] st h Q = wp S d 125 8 [a0, a1, some (.ref r), a3, a4] (.ref r :: st) h Q := wp_p hc125 dX6_isWellFormed_7 rfl
theorem e125_8 : wp S d 125 8 [a0, a1, a2, a3, a4] (.ref r :: st) h Q = am_gfK h r 3 0 (fun w => wp S d 125 11 [a0, a1, a2, a3, a4] (w :: st) h Q) := wp_gf hc125 dX6_isWellFormed_8 ho125 fl6_27
theorem e125_11 : wp S d 125 11 [a0, a1, a2, a3, a4] (.int y :: .int x :: st) h Q = if y ≤ x then wp S d 125 54 [a0, a1, a2, a3, a4] st h Q else wp S d 125 14 [a0, a1, a2, a3, a4] st h Q := wp_ge hc125 dX6_isWellFormed_11 rfl
theorem e125_14 : wp S d 125 14 [a0, a1, a2, some (.int x), a4] st h Q = wp S d 125 15 [a0, a1, a2, some (.int x), a4] (.int x :: st) h Q := wp_p hc125 dX6_isWellFormed_14 rfl
theorem e125_15 : wp S d 125 15 [some (.ref r), a1, a2, a3, a4] st h Q = wp S d 125 16 [some (.ref r), a1, a2, a3, a4] (.ref r :: st) h Q := wp_p hc125 dX6_isWellFormed_15 rfl
theorem e125_16 : wp S d 125 16 [a0, a1, a2, a3, a4] (.ref r :: st) h Q = am_gfK h r 6 1 (fun w => wp S d 125 19 [a0, a1, a2, a3, a4] (w :: st) h Q) := wp_gf hc125 dX6_isWellFormed_16 ho125 fl6_18
theorem e125_19 : wp S d 125 19 [a0, a1, a2, a3, some (.int x)] st h Q = wp S d 125 21 [a0, a1, a2, a3, some (.int x)] (.int x :: st) h Q := wp_p hc125 dX6_isWellFormed_19 rfl
theorem e125_21 : wp S d 125 21 [a0, a1, a2, a3, a4] (.int x :: .ref r :: st) h Q = am_iaK h r x (fun z => wp S d 125 22 [a0, a1, a2, a3, a4] (.int z :: st) h Q) := wp_ia hc125 dX6_isWellFormed_21
theorem e125_22 : wp S d 125 22 [a0, a1, a2, a3, a4] (.int x :: st) h Q = if 0 ≤ x then wp S d 125 41 [a0, a1, a2, a3, a4] st h Q else wp S d 125 25 [a0, a1, a2, a3, a4] st h Q := wp_ge hc125 dX6_isWellFormed_22 rfl
theorem e125_25 : wp S d 125 25 [a0, a1, a2, a3, a4] st h Q = wp S d 125 26 [a0, a1, a2, a3, a4] (.int ((-1)) :: st) h Q := wp_p hc125 dX6_isWellFormed_25 rfl
theorem e125_26 : wp S d 125 26 [some (.ref r), a1, a2, a3, a4] st h Q = wp S d 125 27 [some (.ref r), a1, a2, a3, a4] (.ref r :: st) h Q := wp_p hc125 dX6_isWellFormed_26 rfl
theorem e125_27 : wp S d 125 27 [a0, a1, a2, a3, a4] (.ref r :: st) h Q = am_gfK h r 6 1 (fun w => wp S d 125 30 [a0, a1, a2, a3, a4] (w :: st) h Q) := wp_gf hc125 dX6_isWellFormed_27 ho125 fl6_18
theorem e125_30 : wp S d 125 30 [a0, a1, a2, a3, some (.int x)] st h Q = wp S d 125 32 [a0, a1, a2, a3, some (.int x)] (.int x :: st) h Q := wp_p hc125 dX6_isWellFormed_30 rfl
theorem e125_32 : wp S d 125 32 [a0, a1, a2, a3, a4] (.int x :: .ref r :: st) h Q = am_iaK h r x (fun z => wp S d 125 33 [a0, a1, a2, a3, a4] (.int z :: st) h Q) := wp_ia hc125 dX6_isWellFormed_32
theorem e125_33 : wp S d 125 33 [a0, a1, a2, a3, a4] (.int y :: .int x :: st) h Q = wp S d 125 34 [a0, a1, a2, a3, a4] (.int (x - y) :: st) h Q := wp_p hc125 dX6_isWellFormed_33 rfl
theorem e125_34 : wp S d 125 34 [a0, some (.ref r), a2, a3, a4] st h Q = wp S d 125 35 [a0, some (.ref r), a2, a3, a4] (.ref r :: st) h Q := wp_p hc125 dX6_isWellFormed_34 rfl
theorem e125_35 : wp S d 125 35 [a0, a1, a2, a3, a4] (.ref r :: st) h Q = am_gfK h r 3 0 (fun w => wp S d 125 38 [a0, a1, a2, a3, a4] (w :: st) h Q) := wp_gf hc125 dX6_isWellFormed_35 ho125 fl6_27
theorem e125_38 : wp S d 125 38 [a0, a1, a2, a3, a4] (.int y :: .int x :: st) h Q = if y ≤ x then wp S d 125 45 [a0, a1, a2, a3, a4] st h Q else wp S d 125 41 [a0, a1, a2, a3, a4] st h Q := wp_ge hc125 dX6_isWellFormed_38 rfl
theorem e125_41 : wp S d 125 41 [a0, a1, a2, a3, a4] st h Q = wp S d 125 42 [a0, a1, a2, a3, a4] (.int (nI 1) :: st) h Q := wp_p hc125 dX6_isWellFormed_41 rfl
theorem e125_42 : wp S d 125 42 [a0, a1, a2, a3, a4] st h Q = wp S d 125 46 [a0, a1, a2, a3, a4] st h Q := wp_p hc125 dX6_isWellFormed_42 rfl
theorem e125_45 : wp S d 125 45 [a0, a1, a2, a3, a4] st h Q = wp S d 125 46 [a0, a1, a2, a3, a4] (.int (nI 0) :: st) h Q := wp_p hc125 dX6_isWellFormed_45 rfl
theorem e125_46 : wp S d 125 46 [a0, a1, a2, a3, a4] (.int y :: .int x :: st) h Q = wp S d 125 47 [a0, a1, a2, a3, a4] (.int (x &&& y) :: st) h Q := wp_p hc125 dX6_isWellFormed_46 rfl
theorem e125_47 : wp S d 125 47 [a0, a1, a2, a3, a4] (.int x :: st) h Q = wp S d 125 48 [a0, a1, a2, some (.int x), a4] st h Q := wp_p hc125 dX6_isWellFormed_47 rfl
theorem e125_48 : wp S d 125 48 [a0, a1, a2, a3, some (.int x)] st h Q = wp S d 125 51 [a0, a1, a2, a3, some (.int (x + nI 1))] st h Q := wp_p hc125 dX6_isWellFormed_48 rfl
theorem e125_51 : wp S d 125 51 [a0, a1, a2, a3, a4] st h Q = wp S d 125 5 [a0, a1, a2, a3, a4] st h Q := wp_p hc125 dX6_isWellFormed_51 rfl
theorem e125_54 : wp S d 125 54 [a0, a1, a2, some (.int x), a4] st h Q = wp S d 125 55 [a0, a1, a2, some (.int x), a4] (.int x :: st) h Q := wp_p hc125 dX6_isWellFormed_54 rfl
theorem e125_55 : wp S d 125 55 ls [.int x] h Q = (narrow .boolean (.int x) = .int x ∧ Q (.inl (some (.int x)), h)) := wp_rI hc125 dX6_isWellFormed_55 rfl
theorem e126_0 : wp S d 126 0 [a0, some (.ref r), a2, a3] st h Q = wp S d 126 1 [a0, some (.ref r), a2, a3] (.ref r :: st) h Q := wp_p hc126 dX6_constantOf_0 rfl
theorem e126_1 : wp S d 126 1 [a0, a1, a2, a3] (.ref r :: st) h Q = am_gfK h r 3 2 (fun w => wp S d 126 4 [a0, a1, a2, a3] (w :: st) h Q) := wp_gf hc126 dX6_constantOf_1 ho126 fl6_32
theorem e126_4 : wp S d 126 4 [a0, a1, a2, a3] (.int x :: st) h Q = wp S d 126 5 [a0, a1, some (.int x), a3] st h Q := wp_p hc126 dX6_constantOf_4 rfl
theorem e126_5 : wp S d 126 5 [a0, a1, a2, a3] st h Q = wp S d 126 6 [a0, a1, a2, a3] (.int (nI 0) :: st) h Q := wp_p hc126 dX6_constantOf_5 rfl
theorem e126_6 : wp S d 126 6 [a0, a1, a2, a3] (.int x :: st) h Q = wp S d 126 7 [a0, a1, a2, some (.int x)] st h Q := wp_p hc126 dX6_constantOf_6 rfl
theorem e126_7 : wp S d 126 7 [a0, a1, a2, some (.int x)] st h Q = wp S d 126 8 [a0, a1, a2, some (.int x)] (.int x :: st) h Q := wp_p hc126 dX6_constantOf_7 rfl
theorem e126_8 : wp S d 126 8 [a0, some (.ref r), a2, a3] st h Q = wp S d 126 9 [a0, some (.ref r), a2, a3] (.ref r :: st) h Q := wp_p hc126 dX6_constantOf_8 rfl
theorem e126_9 : wp S d 126 9 [a0, a1, a2, a3] (.ref r :: st) h Q = am_gfK h r 3 0 (fun w => wp S d 126 12 [a0, a1, a2, a3] (w :: st) h Q) := wp_gf hc126 dX6_constantOf_9 ho126 fl6_27
theorem e126_12 : wp S d 126 12 [a0, a1, a2, a3] (.int y :: .int x :: st) h Q = if y ≤ x then wp S d 126 50 [a0, a1, a2, a3] st h Q else wp S d 126 15 [a0, a1, a2, a3] st h Q := wp_ge hc126 dX6_constantOf_12 rfl
theorem e126_15 : wp S d 126 15 [a0, a1, some (.int x), a3] st h Q = wp S d 126 16 [a0, a1, some (.int x), a3] (.int x :: st) h Q := wp_p hc126 dX6_constantOf_15 rfl
theorem e126_16 : wp S d 126 16 [some (.ref r), a1, a2, a3] st h Q = wp S d 126 17 [some (.ref r), a1, a2, a3] (.ref r :: st) h Q := wp_p hc126 dX6_constantOf_16 rfl
theorem e126_17 : wp S d 126 17 [a0, a1, a2, a3] (.ref r :: st) h Q = am_gfK h r 6 1 (fun w => wp S d 126 20 [a0, a1, a2, a3] (w :: st) h Q) := wp_gf hc126 dX6_constantOf_17 ho126 fl6_18
theorem e126_20 : wp S d 126 20 [a0, a1, a2, some (.int x)] st h Q = wp S d 126 21 [a0, a1, a2, some (.int x)] (.int x :: st) h Q := wp_p hc126 dX6_constantOf_20 rfl
theorem e126_21 : wp S d 126 21 [a0, a1, a2, a3] (.int x :: .ref r :: st) h Q = am_iaK h r x (fun z => wp S d 126 22 [a0, a1, a2, a3] (.int z :: st) h Q) := wp_ia hc126 dX6_constantOf_21
theorem e126_22 : wp S d 126 22 [a0, a1, a2, a3] (.int x :: st) h Q = if x < 0 then wp S d 126 41 [a0, a1, a2, a3] st h Q else wp S d 126 25 [a0, a1, a2, a3] st h Q := wp_lt hc126 dX6_constantOf_22 rfl
theorem e126_25 : wp S d 126 25 [a0, some (.ref r), a2, a3] st h Q = wp S d 126 26 [a0, some (.ref r), a2, a3] (.ref r :: st) h Q := wp_p hc126 dX6_constantOf_25 rfl
theorem e126_26 : wp S d 126 26 [a0, a1, a2, a3] (.ref r :: st) h Q = am_gfK h r 3 3 (fun w => wp S d 126 29 [a0, a1, a2, a3] (w :: st) h Q) := wp_gf hc126 dX6_constantOf_26 ho126 fl6_35
theorem e126_29 : wp S d 126 29 [a0, a1, a2, some (.int x)] st h Q = wp S d 126 30 [a0, a1, a2, some (.int x)] (.int x :: st) h Q := wp_p hc126 dX6_constantOf_29 rfl
theorem e126_30 : wp S d 126 30 [a0, a1, a2, a3] (.int x :: .ref r :: st) h Q = am_iaK h r x (fun z => wp S d 126 31 [a0, a1, a2, a3] (.int z :: st) h Q) := wp_ia hc126 dX6_constantOf_30
theorem e126_31 : wp S d 126 31 [some (.ref r), a1, a2, a3] st h Q = wp S d 126 32 [some (.ref r), a1, a2, a3] (.ref r :: st) h Q := wp_p hc126 dX6_constantOf_31 rfl
theorem e126_32 : wp S d 126 32 [a0, a1, a2, a3] (.ref r :: st) h Q = am_gfK h r 6 1 (fun w => wp S d 126 35 [a0, a1, a2, a3] (w :: st) h Q) := wp_gf hc126 dX6_constantOf_32 ho126 fl6_18
theorem e126_35 : wp S d 126 35 [a0, a1, a2, some (.int x)] st h Q = wp S d 126 36 [a0, a1, a2, some (.int x)] (.int x :: st) h Q := wp_p hc126 dX6_constantOf_35 rfl
theorem e126_36 : wp S d 126 36 [a0, a1, a2, a3] (.int x :: .ref r :: st) h Q = am_iaK h r x (fun z => wp S d 126 37 [a0, a1, a2, a3] (.int z :: st) h Q) := wp_ia hc126 dX6_constantOf_36
theorem e126_37 : wp S d 126 37 [a0, a1, a2, a3] (.int y :: .int x :: st) h Q = wp S d 126 38 [a0, a1, a2, a3] (.int (x * y) :: st) h Q := wp_p hc126 dX6_constantOf_37 rfl
theorem e126_38 : wp S d 126 38 [a0, a1, a2, a3] st h Q = wp S d 126 42 [a0, a1, a2, a3] st h Q := wp_p hc126 dX6_constantOf_38 rfl
theorem e126_41 : wp S d 126 41 [a0, a1, a2, a3] st h Q = wp S d 126 42 [a0, a1, a2, a3] (.int (nI 0) :: st) h Q := wp_p hc126 dX6_constantOf_41 rfl
theorem e126_42 : wp S d 126 42 [a0, a1, a2, a3] (.int y :: .int x :: st) h Q = wp S d 126 43 [a0, a1, a2, a3] (.int (x + y) :: st) h Q := wp_p hc126 dX6_constantOf_42 rfl
theorem e126_43 : wp S d 126 43 [a0, a1, a2, a3] (.int x :: st) h Q = wp S d 126 44 [a0, a1, some (.int x), a3] st h Q := wp_p hc126 dX6_constantOf_43 rfl
theorem e126_44 : wp S d 126 44 [a0, a1, a2, some (.int x)] st h Q = wp S d 126 47 [a0, a1, a2, some (.int (x + nI 1))] st h Q := wp_p hc126 dX6_constantOf_44 rfl
theorem e126_47 : wp S d 126 47 [a0, a1, a2, a3] st h Q = wp S d 126 7 [a0, a1, a2, a3] st h Q := wp_p hc126 dX6_constantOf_47 rfl
theorem e126_50 : wp S d 126 50 [a0, a1, some (.int x), a3] st h Q = wp S d 126 51 [a0, a1, some (.int x), a3] (.int x :: st) h Q := wp_p hc126 dX6_constantOf_50 rfl
theorem e126_51 : wp S d 126 51 [a0, a1, a2, a3] st h Q = wp S d 126 54 [a0, a1, a2, a3] (.int (nI 1000) :: st) h Q := wp_p hc126 dX6_constantOf_51 rfl
theorem e126_54 : wp S d 126 54 [a0, a1, a2, a3] (.int y :: .int x :: st) h Q = (¬ y = 0 ∧ wp S d 126 55 [a0, a1, a2, a3] (.int (x - x / y * y) :: st) h Q) := wp_ir hc126 dX6_constantOf_54
theorem e126_55 : wp S d 126 55 ls [.int x] h Q = Q (.inl (some (.int x)), h) := wp_r hc126 dX6_constantOf_55 rfl rfl ⟨x, _, rfl, rfl, rfl, rfl⟩
theorem e127_0 : wp S d 127 0 [a0, a1, a2, a3, a4] st h Q = wp S d 127 1 [a0, a1, a2, a3, a4] (.int (nI 0) :: st) h Q := wp_p hc127 dX6_coefficientOf_0 rfl
theorem e127_1 : wp S d 127 1 [a0, a1, a2, a3, a4] (.int x :: st) h Q = wp S d 127 2 [a0, a1, a2, some (.int x), a4] st h Q := wp_p hc127 dX6_coefficientOf_1 rfl
theorem e127_2 : wp S d 127 2 [a0, a1, a2, a3, a4] st h Q = wp S d 127 3 [a0, a1, a2, a3, a4] (.int (nI 0) :: st) h Q := wp_p hc127 dX6_coefficientOf_2 rfl
theorem e127_3 : wp S d 127 3 [a0, a1, a2, a3, a4] (.int x :: st) h Q = wp S d 127 5 [a0, a1, a2, a3, some (.int x)] st h Q := wp_p hc127 dX6_coefficientOf_3 rfl
theorem e127_5 : wp S d 127 5 [a0, a1, a2, a3, some (.int x)] st h Q = wp S d 127 7 [a0, a1, a2, a3, some (.int x)] (.int x :: st) h Q := wp_p hc127 dX6_coefficientOf_5 rfl
theorem e127_7 : wp S d 127 7 [a0, some (.ref r), a2, a3, a4] st h Q = wp S d 127 8 [a0, some (.ref r), a2, a3, a4] (.ref r :: st) h Q := wp_p hc127 dX6_coefficientOf_7 rfl
theorem e127_8 : wp S d 127 8 [a0, a1, a2, a3, a4] (.ref r :: st) h Q = am_gfK h r 3 0 (fun w => wp S d 127 11 [a0, a1, a2, a3, a4] (w :: st) h Q) := wp_gf hc127 dX6_coefficientOf_8 ho127 fl6_27
theorem e127_11 : wp S d 127 11 [a0, a1, a2, a3, a4] (.int y :: .int x :: st) h Q = if y ≤ x then wp S d 127 47 [a0, a1, a2, a3, a4] st h Q else wp S d 127 14 [a0, a1, a2, a3, a4] st h Q := wp_ge hc127 dX6_coefficientOf_11 rfl
theorem e127_14 : wp S d 127 14 [a0, a1, a2, some (.int x), a4] st h Q = wp S d 127 15 [a0, a1, a2, some (.int x), a4] (.int x :: st) h Q := wp_p hc127 dX6_coefficientOf_14 rfl
theorem e127_15 : wp S d 127 15 [some (.ref r), a1, a2, a3, a4] st h Q = wp S d 127 16 [some (.ref r), a1, a2, a3, a4] (.ref r :: st) h Q := wp_p hc127 dX6_coefficientOf_15 rfl
theorem e127_16 : wp S d 127 16 [a0, a1, a2, a3, a4] (.ref r :: st) h Q = am_gfK h r 6 1 (fun w => wp S d 127 19 [a0, a1, a2, a3, a4] (w :: st) h Q) := wp_gf hc127 dX6_coefficientOf_16 ho127 fl6_18
theorem e127_19 : wp S d 127 19 [a0, a1, a2, a3, some (.int x)] st h Q = wp S d 127 21 [a0, a1, a2, a3, some (.int x)] (.int x :: st) h Q := wp_p hc127 dX6_coefficientOf_19 rfl
theorem e127_21 : wp S d 127 21 [a0, a1, a2, a3, a4] (.int x :: .ref r :: st) h Q = am_iaK h r x (fun z => wp S d 127 22 [a0, a1, a2, a3, a4] (.int z :: st) h Q) := wp_ia hc127 dX6_coefficientOf_21
theorem e127_22 : wp S d 127 22 [a0, a1, a2, a3, a4] st h Q = wp S d 127 23 [a0, a1, a2, a3, a4] (.int ((-1)) :: st) h Q := wp_p hc127 dX6_coefficientOf_22 rfl
theorem e127_23 : wp S d 127 23 [a0, a1, some (.int x), a3, a4] st h Q = wp S d 127 24 [a0, a1, some (.int x), a3, a4] (.int x :: st) h Q := wp_p hc127 dX6_coefficientOf_23 rfl
theorem e127_24 : wp S d 127 24 [a0, a1, a2, a3, a4] (.int y :: .int x :: st) h Q = wp S d 127 25 [a0, a1, a2, a3, a4] (.int (x - y) :: st) h Q := wp_p hc127 dX6_coefficientOf_24 rfl
theorem e127_25 : wp S d 127 25 [a0, a1, a2, a3, a4] (.int y :: .int x :: st) h Q = if x = y then wp S d 127 28 [a0, a1, a2, a3, a4] st h Q else wp S d 127 38 [a0, a1, a2, a3, a4] st h Q := wp_ne hc127 dX6_coefficientOf_25 rfl
theorem e127_28 : wp S d 127 28 [a0, some (.ref r), a2, a3, a4] st h Q = wp S d 127 29 [a0, some (.ref r), a2, a3, a4] (.ref r :: st) h Q := wp_p hc127 dX6_coefficientOf_28 rfl
theorem e127_29 : wp S d 127 29 [a0, a1, a2, a3, a4] (.ref r :: st) h Q = am_gfK h r 3 3 (fun w => wp S d 127 32 [a0, a1, a2, a3, a4] (w :: st) h Q) := wp_gf hc127 dX6_coefficientOf_29 ho127 fl6_35
theorem e127_32 : wp S d 127 32 [a0, a1, a2, a3, some (.int x)] st h Q = wp S d 127 34 [a0, a1, a2, a3, some (.int x)] (.int x :: st) h Q := wp_p hc127 dX6_coefficientOf_32 rfl
theorem e127_34 : wp S d 127 34 [a0, a1, a2, a3, a4] (.int x :: .ref r :: st) h Q = am_iaK h r x (fun z => wp S d 127 35 [a0, a1, a2, a3, a4] (.int z :: st) h Q) := wp_ia hc127 dX6_coefficientOf_34
theorem e127_35 : wp S d 127 35 [a0, a1, a2, a3, a4] st h Q = wp S d 127 39 [a0, a1, a2, a3, a4] st h Q := wp_p hc127 dX6_coefficientOf_35 rfl
theorem e127_38 : wp S d 127 38 [a0, a1, a2, a3, a4] st h Q = wp S d 127 39 [a0, a1, a2, a3, a4] (.int (nI 0) :: st) h Q := wp_p hc127 dX6_coefficientOf_38 rfl
theorem e127_39 : wp S d 127 39 [a0, a1, a2, a3, a4] (.int y :: .int x :: st) h Q = wp S d 127 40 [a0, a1, a2, a3, a4] (.int (x + y) :: st) h Q := wp_p hc127 dX6_coefficientOf_39 rfl
theorem e127_40 : wp S d 127 40 [a0, a1, a2, a3, a4] (.int x :: st) h Q = wp S d 127 41 [a0, a1, a2, some (.int x), a4] st h Q := wp_p hc127 dX6_coefficientOf_40 rfl
theorem e127_41 : wp S d 127 41 [a0, a1, a2, a3, some (.int x)] st h Q = wp S d 127 44 [a0, a1, a2, a3, some (.int (x + nI 1))] st h Q := wp_p hc127 dX6_coefficientOf_41 rfl
theorem e127_44 : wp S d 127 44 [a0, a1, a2, a3, a4] st h Q = wp S d 127 5 [a0, a1, a2, a3, a4] st h Q := wp_p hc127 dX6_coefficientOf_44 rfl
theorem e127_47 : wp S d 127 47 [a0, a1, a2, some (.int x), a4] st h Q = wp S d 127 48 [a0, a1, a2, some (.int x), a4] (.int x :: st) h Q := wp_p hc127 dX6_coefficientOf_47 rfl
theorem e127_48 : wp S d 127 48 [a0, a1, a2, a3, a4] st h Q = wp S d 127 51 [a0, a1, a2, a3, a4] (.int (nI 1000) :: st) h Q := wp_p hc127 dX6_coefficientOf_48 rfl
theorem e127_51 : wp S d 127 51 [a0, a1, a2, a3, a4] (.int y :: .int x :: st) h Q = (¬ y = 0 ∧ wp S d 127 52 [a0, a1, a2, a3, a4] (.int (x - x / y * y) :: st) h Q) := wp_ir hc127 dX6_coefficientOf_51
theorem e127_52 : wp S d 127 52 ls [.int x] h Q = Q (.inl (some (.int x)), h) := wp_r hc127 dX6_coefficientOf_52 rfl rfl ⟨x, _, rfl, rfl, rfl, rfl⟩
theorem e128_0 : wp S d 128 0 [some (.ref r), a1, a2, a3] st h Q = wp S d 128 1 [some (.ref r), a1, a2, a3] (.ref r :: st) h Q := wp_p hc128 dX6_withEntry_0 rfl
theorem e128_1 : wp S d 128 1 [a0, a1, a2, a3] (.ref r :: st) h Q = am_gfK h r 6 1 (fun w => wp S d 128 4 [a0, a1, a2, a3] (w :: st) h Q) := wp_gf hc128 dX6_withEntry_1 ho128 fl6_18
theorem e128_4 : wp S (d + 1) 128 4 [a0, a1, a2, a3] (.ref r :: st) h Q = am_clK 0 r st h (fun h2 => wp S (d + 1) 128 7 [a0, a1, a2, a3] (.ref h.length :: st) h2 Q) := wp_cl (Or.inl rfl) hc128 dX6_withEntry_4 ho128 sp6_22 nc6_22
theorem e128_7 : wp S d 128 7 [a0, a1, a2, a3] (.ref r :: st) h Q = am_ccK h r 0 (wp S d 128 10 [a0, a1, a2, a3] (.ref r :: st) h Q) := wp_cc hc128 dX6_withEntry_7 ho128 ct6_23
theorem e128_10 : wp S d 128 10 [a0, a1, a2, a3] (.ref r :: st) h Q = wp S d 128 11 [a0, a1, a2, some (.ref r)] st h Q := wp_p hc128 dX6_withEntry_10 rfl
theorem e128_11 : wp S d 128 11 [a0, a1, a2, some (.ref r)] st h Q = wp S d 128 12 [a0, a1, a2, some (.ref r)] (.ref r :: st) h Q := wp_p hc128 dX6_withEntry_11 rfl
theorem e128_12 : wp S d 128 12 [a0, some (.int x), a2, a3] st h Q = wp S d 128 13 [a0, some (.int x), a2, a3] (.int x :: st) h Q := wp_p hc128 dX6_withEntry_12 rfl
theorem e128_13 : wp S d 128 13 [a0, a1, some (.int x), a3] st h Q = wp S d 128 14 [a0, a1, some (.int x), a3] (.int x :: st) h Q := wp_p hc128 dX6_withEntry_13 rfl
theorem e128_14 : wp S d 128 14 [a0, a1, a2, a3] (.int y :: .int x :: .ref r :: st) h Q = am_isK h r x y (fun h => wp S d 128 15 [a0, a1, a2, a3] st h Q) := wp_is hc128 dX6_withEntry_14
theorem e128_15 : wp S d 128 15 [a0, a1, a2, a3] st h Q = wp S d 128 18 [a0, a1, a2, a3] (.ref h.length :: st) (h ++ [.inr (.inr (6, am_dft 6))]) Q := wp_nw hc128 dX6_withEntry_15 ho128 nw6_4
theorem e128_18 : wp S d 128 18 [a0, a1, a2, a3] (.ref r :: st) h Q = wp S d 128 19 [a0, a1, a2, a3] (.ref r :: .ref r :: st) h Q := wp_p hc128 dX6_withEntry_18 rfl
theorem e128_18i : wp S d 128 18 [a0, a1, a2, a3] (.int x :: st) h Q = wp S d 128 19 [a0, a1, a2, a3] (.int x :: .int x :: st) h Q := wp_p hc128 dX6_withEntry_18 rfl
theorem e128_19 : wp S d 128 19 [some (.ref r), a1, a2, a3] st h Q = wp S d 128 20 [some (.ref r), a1, a2, a3] (.ref r :: st) h Q := wp_p hc128 dX6_withEntry_19 rfl
theorem e128_20 : wp S d 128 20 [a0, a1, a2, a3] (.ref r :: st) h Q = am_gfK h r 6 0 (fun w => wp S d 128 23 [a0, a1, a2, a3] (w :: st) h Q) := wp_gf hc128 dX6_withEntry_20 ho128 fl6_14
theorem e128_23 : wp S d 128 23 [a0, a1, a2, some (.ref r)] st h Q = wp S d 128 24 [a0, a1, a2, some (.ref r)] (.ref r :: st) h Q := wp_p hc128 dX6_withEntry_23 rfl
theorem e128_24 : wp S (d + 1) 128 24 [a0, a1, a2, a3] (.ref r2 :: .int x1 :: .ref r0 :: st) h Q = (am_w8 st ∧ am_rcv h 4 123 (.ref r0) = true ∧ wp S d 123 0 [some (.ref r0), some (.int x1), some (.ref r2)] [] h (am_kr S 4 (d + 1) 128 24 [a0, a1, a2, a3] st Q)) := wp_cI (.ref r0) [.int x1, .ref r2] hc128 dX6_withEntry_24 ho128 cl6_3 (by decide) ns6_3 hst123 hnp123 hml123 hlsl123 rfl rfl rfl
theorem e128_27 : wp S d 128 27 ls [.ref r] h Q = Q (.inl (some (.ref r)), h) := wp_r hc128 dX6_withEntry_27 rfl rfl ⟨_, rfl, Or.inr ⟨_, rfl⟩, ⟨_, rfl, Or.inl ⟨_, rfl⟩⟩, rfl⟩
theorem e129_0 : wp S d 129 0 [some (.ref r), a1] st h Q = wp S d 129 1 [some (.ref r), a1] (.ref r :: st) h Q := wp_p hc129 dX7_init_0 rfl
theorem e129_1 : wp S d 129 1 [a0, a1] st h Q = wp S d 129 2 [a0, a1] (.null :: st) h Q := wp_p hc129 dX7_init_1 rfl
theorem e129_2 : wp S d 129 2 [a0, a1] st h Q = wp S d 129 3 [a0, a1] (.null :: st) h Q := wp_p hc129 dX7_init_2 rfl
theorem e129_3 : wp S d 129 3 [a0, a1] st h Q = wp S d 129 4 [a0, a1] (.int (nI 0) :: st) h Q := wp_p hc129 dX7_init_3 rfl
theorem e129_4 : wp S d 129 4 [a0, a1] st h Q = wp S d 129 5 [a0, a1] (.int (nI 0) :: st) h Q := wp_p hc129 dX7_init_4 rfl
theorem e129_5 : wp S (d + 1) 129 5 [a0, a1] (.int x4 :: .int x3 :: .ref r2 :: .ref r1 :: .ref r0 :: st) h Q = (am_w8 st ∧ am_rcv h 4 142 (.ref r0) = true ∧ wp S d 142 0 [some (.ref r0), some (.ref r1), some (.ref r2), some (.int x3), some (.int x4)] [] h (am_kr S 4 (d + 1) 129 5 [a0, a1] st Q)) := wp_cI (.ref r0) [.ref r1, .ref r2, .int x3, .int x4] hc129 dX7_init_5 ho129 cl7_1 (by decide) ns7_1 hst142 hnp142 hml142 hlsl142 rfl rfl rfl
theorem e129_5n : wp S (d + 1) 129 5 [a0, a1] (.int x4 :: .int x3 :: .null :: .null :: .ref r0 :: st) h Q = (am_w8 st ∧ am_rcv h 4 142 (.ref r0) = true ∧ wp S d 142 0 [some (.ref r0), some (.null), some (.null), some (.int x3), some (.int x4)] [] h (am_kr S 4 (d + 1) 129 5 [a0, a1] st Q)) := wp_cI (.ref r0) [.null, .null, .int x3, .int x4] hc129 dX7_init_5 ho129 cl7_1 (by decide) ns7_1 hst142 hnp142 hml142 hlsl142 rfl rfl rfl
theorem e129_8 : wp S d 129 8 [some (.ref r), a1] st h Q = wp S d 129 9 [some (.ref r), a1] (.ref r :: st) h Q := wp_p hc129 dX7_init_8 rfl
theorem e129_9 : wp S d 129 9 [a0, some (.int x)] st h Q = wp S d 129 10 [a0, some (.int x)] (.int x :: st) h Q := wp_p hc129 dX7_init_9 rfl
theorem e129_10 : wp S d 129 10 [a0, a1] (w :: .ref r :: st) h Q = am_pfK 129 h r 7 6 false w (fun h => wp S d 129 13 [a0, a1] st h Q) := wp_pf hc129 dX7_init_10 ho129 fl7_7
theorem e129_13 : wp S d 129 13 ls [] h Q = Q (.inl none, h) := wp_r hc129 dX7_init_13 rfl rfl ⟨rfl, rfl, rfl⟩
theorem e130_0 : wp S d 130 0 [some (.ref r), a1] st h Q = wp S d 130 1 [some (.ref r), a1] (.ref r :: st) h Q := wp_p hc130 dX8_init_0 rfl
theorem e130_1 : wp S d 130 1 [a0, some (.ref r)] st h Q = wp S d 130 2 [a0, some (.ref r)] (.ref r :: st) h Q := wp_p hc130 dX8_init_1 rfl
theorem e130_2 : wp S d 130 2 [a0, a1] (w :: .ref r :: st) h Q = am_pfK 130 h r 8 2 false w (fun h => wp S d 130 5 [a0, a1] st h Q) := wp_pf hc130 dX8_init_2 ho130 fl8_3
theorem e130_5 : wp S d 130 5 [some (.ref r), a1] st h Q = wp S d 130 6 [some (.ref r), a1] (.ref r :: st) h Q := wp_p hc130 dX8_init_5 rfl
theorem e130_6 : wp S (d + 1) 130 6 [a0, a1] (.ref r :: st) h Q = (am_w8 st ∧ wp S (d + 1) 130 9 [a0, a1] st h Q) := wp_oi hc130 dX8_init_6 ho130 sp8_9 nc8_9
theorem e130_9 : wp S d 130 9 [some (.ref r), a1] st h Q = wp S d 130 10 [some (.ref r), a1] (.ref r :: st) h Q := wp_p hc130 dX8_init_9 rfl
theorem e130_10 : wp S d 130 10 [some (.ref r), a1] st h Q = wp S d 130 11 [some (.ref r), a1] (.ref r :: st) h Q := wp_p hc130 dX8_init_10 rfl
theorem e130_11 : wp S d 130 11 [a0, a1] (.ref r :: st) h Q = am_gfK h r 8 2 (fun w => wp S d 130 14 [a0, a1] (w :: st) h Q) := wp_gf hc130 dX8_init_11 ho130 fl8_3
theorem e130_14 : wp S d 130 14 [a0, a1] (.ref r :: st) h Q = am_gfK h r 0 0 (fun w => wp S d 130 17 [a0, a1] (w :: st) h Q) := wp_gf hc130 dX8_init_14 ho130 fl8_15
theorem e130_17 : wp S d 130 17 [a0, a1] (.ref r :: st) h Q = am_gfK h r 1 7 (fun w => wp S d 130 20 [a0, a1] (w :: st) h Q) := wp_gf hc130 dX8_init_17 ho130 fl8_19
theorem e130_20 : wp S d 130 20 [a0, a1] (.ref r :: st) h Q = am_gfK h r 2 3 (fun w => wp S d 130 23 [a0, a1] (w :: st) h Q) := wp_gf hc130 dX8_init_20 ho130 fl8_25
theorem e130_23 : wp S d 130 23 [a0, a1] (w :: .ref r :: st) h Q = am_pfK 130 h r 8 0 false w (fun h => wp S d 130 26 [a0, a1] st h Q) := wp_pf hc130 dX8_init_23 ho130 fl8_31
theorem e130_26 : wp S d 130 26 ls [] h Q = Q (.inl none, h) := wp_r hc130 dX8_init_26 rfl rfl ⟨rfl, rfl, rfl⟩
theorem e131_0 : wp S d 131 0 [a0, some (.ref r), a2, a3] st h Q = wp S d 131 1 [a0, some (.ref r), a2, a3] (.ref r :: st) h Q := wp_p hc131 dX8_migrate_0 rfl
theorem e131_1 : wp S d 131 1 [a0, a1, a2, a3] (.ref r :: st) h Q = am_gfK h r 2 2 (fun w => wp S d 131 4 [a0, a1, a2, a3] (w :: st) h Q) := wp_gf hc131 dX8_migrate_1 ho131 fl8_34
theorem e131_4 : wp S d 131 4 [a0, a1, a2, a3] (.ref r :: st) h Q = am_alK h r (fun n => wp S d 131 5 [a0, a1, a2, a3] (.int (nI n) :: st) h Q) := wp_al hc131 dX8_migrate_4
theorem e131_5 : wp S d 131 5 [a0, a1, a2, a3] (.int x :: st) h Q = (¬ x < 0 ∧ x.toNatClampNeg ≤ 1000000 ∧ wp S d 131 8 [a0, a1, a2, a3] (.ref h.length :: st) (h ++ [.inr (.inl (2, x.toNatClampNeg, fun _ => none))]) Q) := wp_nr hc131 dX8_migrate_5 ho131 nr8_26
theorem e131_8 : wp S d 131 8 [a0, a1, a2, a3] (.ref r :: st) h Q = wp S d 131 9 [a0, a1, some (.ref r), a3] st h Q := wp_p hc131 dX8_migrate_8 rfl
theorem e131_9 : wp S d 131 9 [a0, a1, a2, a3] st h Q = wp S d 131 10 [a0, a1, a2, a3] (.int (nI 0) :: st) h Q := wp_p hc131 dX8_migrate_9 rfl
theorem e131_10 : wp S d 131 10 [a0, a1, a2, a3] (.int x :: st) h Q = wp S d 131 11 [a0, a1, a2, some (.int x)] st h Q := wp_p hc131 dX8_migrate_10 rfl
theorem e131_11 : wp S d 131 11 [a0, a1, a2, some (.int x)] st h Q = wp S d 131 12 [a0, a1, a2, some (.int x)] (.int x :: st) h Q := wp_p hc131 dX8_migrate_11 rfl
theorem e131_12 : wp S d 131 12 [a0, a1, some (.ref r), a3] st h Q = wp S d 131 13 [a0, a1, some (.ref r), a3] (.ref r :: st) h Q := wp_p hc131 dX8_migrate_12 rfl
theorem e131_13 : wp S d 131 13 [a0, a1, a2, a3] (.ref r :: st) h Q = am_alK h r (fun n => wp S d 131 14 [a0, a1, a2, a3] (.int (nI n) :: st) h Q) := wp_al hc131 dX8_migrate_13
theorem e131_14 : wp S d 131 14 [a0, a1, a2, a3] (.int y :: .int x :: st) h Q = if y ≤ x then wp S d 131 36 [a0, a1, a2, a3] st h Q else wp S d 131 17 [a0, a1, a2, a3] st h Q := wp_ge hc131 dX8_migrate_14 rfl
theorem e131_17 : wp S d 131 17 [a0, a1, some (.ref r), a3] st h Q = wp S d 131 18 [a0, a1, some (.ref r), a3] (.ref r :: st) h Q := wp_p hc131 dX8_migrate_17 rfl
theorem e131_18 : wp S d 131 18 [a0, a1, a2, some (.int x)] st h Q = wp S d 131 19 [a0, a1, a2, some (.int x)] (.int x :: st) h Q := wp_p hc131 dX8_migrate_18 rfl
theorem e131_19 : wp S d 131 19 [some (.ref r), a1, a2, a3] st h Q = wp S d 131 20 [some (.ref r), a1, a2, a3] (.ref r :: st) h Q := wp_p hc131 dX8_migrate_19 rfl
theorem e131_20 : wp S d 131 20 [a0, some (.ref r), a2, a3] st h Q = wp S d 131 21 [a0, some (.ref r), a2, a3] (.ref r :: st) h Q := wp_p hc131 dX8_migrate_20 rfl
theorem e131_21 : wp S d 131 21 [a0, a1, a2, a3] (.ref r :: st) h Q = am_gfK h r 2 2 (fun w => wp S d 131 24 [a0, a1, a2, a3] (w :: st) h Q) := wp_gf hc131 dX8_migrate_21 ho131 fl8_34
theorem e131_24 : wp S d 131 24 [a0, a1, a2, some (.int x)] st h Q = wp S d 131 25 [a0, a1, a2, some (.int x)] (.int x :: st) h Q := wp_p hc131 dX8_migrate_24 rfl
theorem e131_25 : wp S d 131 25 [a0, a1, a2, a3] (.int x :: .ref r :: st) h Q = am_aaK h r x (fun w => wp S d 131 26 [a0, a1, a2, a3] (w :: st) h Q) := wp_aa hc131 dX8_migrate_25
theorem e131_26 : wp S (d + 1) 131 26 [a0, a1, a2, a3] (.ref r1 :: .ref r0 :: st) h Q = (am_w8 st ∧ am_rcv h 2 131 (.ref r0) = true ∧ wp S d 131 0 [some (.ref r0), some (.ref r1), none, none] [] h (am_kr S 2 (d + 1) 131 26 [a0, a1, a2, a3] st Q)) := wp_cV (.ref r0) [.ref r1] hc131 dX8_migrate_26 ho131 cl8_38 (by decide) ns8_38 hst131 hnp131 hml131 hlsl131 rfl rfl rfl
theorem e131_29 : wp S d 131 29 [a0, a1, a2, a3] (w :: .int x :: .ref r :: st) h Q = am_asK h r x w (fun h => wp S d 131 30 [a0, a1, a2, a3] st h Q) := wp_as hc131 dX8_migrate_29
theorem e131_30 : wp S d 131 30 [a0, a1, a2, some (.int x)] st h Q = wp S d 131 33 [a0, a1, a2, some (.int (x + nI 1))] st h Q := wp_p hc131 dX8_migrate_30 rfl
theorem e131_33 : wp S d 131 33 [a0, a1, a2, a3] st h Q = wp S d 131 11 [a0, a1, a2, a3] st h Q := wp_p hc131 dX8_migrate_33 rfl
theorem e131_36 : wp S d 131 36 [a0, a1, a2, a3] st h Q = wp S d 131 39 [a0, a1, a2, a3] (.ref h.length :: st) (h ++ [.inr (.inr (2, am_dft 2))]) Q := wp_nw hc131 dX8_migrate_36 ho131 nw8_26
theorem e131_39 : wp S d 131 39 [a0, a1, a2, a3] (.ref r :: st) h Q = wp S d 131 40 [a0, a1, a2, a3] (.ref r :: .ref r :: st) h Q := wp_p hc131 dX8_migrate_39 rfl
theorem e131_39i : wp S d 131 39 [a0, a1, a2, a3] (.int x :: st) h Q = wp S d 131 40 [a0, a1, a2, a3] (.int x :: .int x :: st) h Q := wp_p hc131 dX8_migrate_39 rfl
theorem e131_40 : wp S d 131 40 [a0, some (.ref r), a2, a3] st h Q = wp S d 131 41 [a0, some (.ref r), a2, a3] (.ref r :: st) h Q := wp_p hc131 dX8_migrate_40 rfl
theorem e131_41 : wp S d 131 41 [a0, a1, a2, a3] (.ref r :: st) h Q = am_gfK h r 2 0 (fun w => wp S d 131 44 [a0, a1, a2, a3] (w :: st) h Q) := wp_gf hc131 dX8_migrate_41 ho131 fl8_42
theorem e131_44 : wp S d 131 44 [a0, some (.ref r), a2, a3] st h Q = wp S d 131 45 [a0, some (.ref r), a2, a3] (.ref r :: st) h Q := wp_p hc131 dX8_migrate_44 rfl
theorem e131_45 : wp S d 131 45 [a0, a1, a2, a3] (.ref r :: st) h Q = am_gfK h r 2 1 (fun w => wp S d 131 48 [a0, a1, a2, a3] (w :: st) h Q) := wp_gf hc131 dX8_migrate_45 ho131 fl8_45
theorem e131_48 : wp S d 131 48 [a0, a1, some (.ref r), a3] st h Q = wp S d 131 49 [a0, a1, some (.ref r), a3] (.ref r :: st) h Q := wp_p hc131 dX8_migrate_48 rfl
theorem e131_49 : wp S (d + 1) 131 49 [a0, a1, a2, a3] (.ref r3 :: .int x2 :: .int x1 :: .ref r0 :: st) h Q = (am_w8 st ∧ am_rcv h 4 42 (.ref r0) = true ∧ wp S d 42 0 [some (.ref r0), some (.int x1), some (.int x2), some (.ref r3), none, none, none, none, none] [] h (am_kr S 4 (d + 1) 131 49 [a0, a1, a2, a3] st Q)) := wp_cI (.ref r0) [.int x1, .int x2, .ref r3] hc131 dX8_migrate_49 ho131 cl8_48 (by decide) ns8_48 hst42 hnp42 hml42 hlsl42 rfl rfl rfl
theorem e131_52 : wp S d 131 52 [a0, a1, a2, a3] (.ref r :: st) h Q = wp S d 131 53 [a0, a1, a2, some (.ref r)] st h Q := wp_p hc131 dX8_migrate_52 rfl
theorem e131_53 : wp S d 131 53 [a0, some (.ref r), a2, a3] st h Q = wp S d 131 54 [a0, some (.ref r), a2, a3] (.ref r :: st) h Q := wp_p hc131 dX8_migrate_53 rfl
theorem e131_54 : wp S d 131 54 [a0, a1, a2, a3] (.ref r :: st) h Q = am_gfK h r 2 0 (fun w => wp S d 131 57 [a0, a1, a2, a3] (w :: st) h Q) := wp_gf hc131 dX8_migrate_54 ho131 fl8_42
theorem e131_57 : wp S d 131 57 [a0, a1, a2, a3] st h Q = wp S d 131 58 [a0, a1, a2, a3] (.int (nI 2) :: st) h Q := wp_p hc131 dX8_migrate_57 rfl
theorem e131_58 : wp S d 131 58 [a0, a1, a2, a3] (.int y :: .int x :: st) h Q = if x = y then wp S d 131 61 [a0, a1, a2, a3] st h Q else wp S d 131 69 [a0, a1, a2, a3] st h Q := wp_ne hc131 dX8_migrate_58 rfl
theorem e131_61 : wp S d 131 61 [some (.ref r), a1, a2, a3] st h Q = wp S d 131 62 [some (.ref r), a1, a2, a3] (.ref r :: st) h Q := wp_p hc131 dX8_migrate_61 rfl
theorem e131_62 : wp S d 131 62 [a0, a1, a2, some (.ref r)] st h Q = wp S d 131 63 [a0, a1, a2, some (.ref r)] (.ref r :: st) h Q := wp_p hc131 dX8_migrate_62 rfl
theorem e131_63 : wp S (d + 1) 131 63 [a0, a1, a2, a3] (.ref r1 :: .ref r0 :: st) h Q = (am_w8 st ∧ am_rcv h 2 132 (.ref r0) = true ∧ wp S d 132 0 [some (.ref r0), some (.ref r1), none, none, none, none, none, none, none] [] h (am_kr S 2 (d + 1) 131 63 [a0, a1, a2, a3] st Q)) := wp_cV (.ref r0) [.ref r1] hc131 dX8_migrate_63 ho131 cl8_51 (by decide) ns8_51 hst132 hnp132 hml132 hlsl132 rfl rfl rfl
theorem e131_66 : wp S d 131 66 [a0, a1, a2, a3] st h Q = wp S d 131 70 [a0, a1, a2, a3] st h Q := wp_p hc131 dX8_migrate_66 rfl
theorem e131_69 : wp S d 131 69 [a0, a1, a2, some (.ref r)] st h Q = wp S d 131 70 [a0, a1, a2, some (.ref r)] (.ref r :: st) h Q := wp_p hc131 dX8_migrate_69 rfl
theorem e131_70 : wp S d 131 70 ls [.ref r] h Q = Q (.inl (some (.ref r)), h) := wp_r hc131 dX8_migrate_70 rfl rfl ⟨_, rfl, Or.inr ⟨_, rfl⟩, ⟨_, rfl, Or.inl ⟨_, rfl⟩⟩, rfl⟩
theorem e132_0 : wp S d 132 0 [a0, some (.ref r), a2, a3, a4, a5, a6, a7, a8] st h Q = wp S d 132 1 [a0, some (.ref r), a2, a3, a4, a5, a6, a7, a8] (.ref r :: st) h Q := wp_p hc132 dX8_site_0 rfl
theorem e132_1 : wp S d 132 1 [a0, a1, a2, a3, a4, a5, a6, a7, a8] (.ref r :: st) h Q = am_gfK h r 2 1 (fun w => wp S d 132 4 [a0, a1, a2, a3, a4, a5, a6, a7, a8] (w :: st) h Q) := wp_gf hc132 dX8_site_1 ho132 fl8_45
theorem e132_4 : wp S d 132 4 [a0, a1, a2, a3, a4, a5, a6, a7, a8] (.int x :: st) h Q = wp S d 132 5 [a0, a1, some (.int x), a3, a4, a5, a6, a7, a8] st h Q := wp_p hc132 dX8_site_4 rfl
theorem e132_5 : wp S d 132 5 [a0, some (.ref r), a2, a3, a4, a5, a6, a7, a8] st h Q = wp S d 132 6 [a0, some (.ref r), a2, a3, a4, a5, a6, a7, a8] (.ref r :: st) h Q := wp_p hc132 dX8_site_5 rfl
theorem e132_6 : wp S d 132 6 [a0, a1, a2, a3, a4, a5, a6, a7, a8] (.ref r :: st) h Q = am_gfK h r 2 2 (fun w => wp S d 132 9 [a0, a1, a2, a3, a4, a5, a6, a7, a8] (w :: st) h Q) := wp_gf hc132 dX8_site_6 ho132 fl8_34
theorem e132_9 : wp S d 132 9 [a0, a1, a2, a3, a4, a5, a6, a7, a8] (.ref r :: st) h Q = am_alK h r (fun n => wp S d 132 10 [a0, a1, a2, a3, a4, a5, a6, a7, a8] (.int (nI n) :: st) h Q) := wp_al hc132 dX8_site_9
theorem e132_10 : wp S d 132 10 [some (.ref r), a1, a2, a3, a4, a5, a6, a7, a8] st h Q = wp S d 132 11 [some (.ref r), a1, a2, a3, a4, a5, a6, a7, a8] (.ref r :: st) h Q := wp_p hc132 dX8_site_10 rfl
theorem e132_11 : wp S d 132 11 [a0, a1, a2, a3, a4, a5, a6, a7, a8] (.ref r :: st) h Q = am_gfK h r 8 2 (fun w => wp S d 132 14 [a0, a1, a2, a3, a4, a5, a6, a7, a8] (w :: st) h Q) := wp_gf hc132 dX8_site_11 ho132 fl8_3
theorem e132_14 : wp S d 132 14 [a0, a1, a2, a3, a4, a5, a6, a7, a8] (.ref r :: st) h Q = am_gfK h r 0 0 (fun w => wp S d 132 17 [a0, a1, a2, a3, a4, a5, a6, a7, a8] (w :: st) h Q) := wp_gf hc132 dX8_site_14 ho132 fl8_15
theorem e132_17 : wp S d 132 17 [a0, a1, a2, a3, a4, a5, a6, a7, a8] (.ref r :: st) h Q = am_gfK h r 1 0 (fun w => wp S d 132 20 [a0, a1, a2, a3, a4, a5, a6, a7, a8] (w :: st) h Q) := wp_gf hc132 dX8_site_17 ho132 fl8_58
theorem e132_20 : wp S d 132 20 [a0, a1, some (.int x), a3, a4, a5, a6, a7, a8] st h Q = wp S d 132 21 [a0, a1, some (.int x), a3, a4, a5, a6, a7, a8] (.int x :: st) h Q := wp_p hc132 dX8_site_20 rfl
theorem e132_21 : wp S d 132 21 [a0, a1, a2, a3, a4, a5, a6, a7, a8] (.int x :: .ref r :: st) h Q = am_aaK h r x (fun w => wp S d 132 22 [a0, a1, a2, a3, a4, a5, a6, a7, a8] (w :: st) h Q) := wp_aa hc132 dX8_site_21
theorem e132_22 : wp S d 132 22 [a0, a1, a2, a3, a4, a5, a6, a7, a8] (.ref r :: st) h Q = am_gfK h r 3 0 (fun w => wp S d 132 25 [a0, a1, a2, a3, a4, a5, a6, a7, a8] (w :: st) h Q) := wp_gf hc132 dX8_site_22 ho132 fl8_62
theorem e132_25 : wp S d 132 25 [a0, a1, a2, a3, a4, a5, a6, a7, a8] (.int y :: .int x :: st) h Q = if x = y then wp S d 132 35 [a0, a1, a2, a3, a4, a5, a6, a7, a8] st h Q else wp S d 132 28 [a0, a1, a2, a3, a4, a5, a6, a7, a8] st h Q := wp_eq hc132 dX8_site_25 rfl
theorem e132_28 : wp S d 132 28 [some (.ref r), a1, a2, a3, a4, a5, a6, a7, a8] st h Q = wp S d 132 29 [some (.ref r), a1, a2, a3, a4, a5, a6, a7, a8] (.ref r :: st) h Q := wp_p hc132 dX8_site_28 rfl
theorem e132_29 : wp S d 132 29 [a0, some (.ref r), a2, a3, a4, a5, a6, a7, a8] st h Q = wp S d 132 30 [a0, some (.ref r), a2, a3, a4, a5, a6, a7, a8] (.ref r :: st) h Q := wp_p hc132 dX8_site_29 rfl
theorem e132_30 : wp S d 132 30 [a0, a1, a2, a3, a4, a5, a6, a7, a8] st h Q = wp S d 132 31 [a0, a1, a2, a3, a4, a5, a6, a7, a8] (.int (nI 1) :: st) h Q := wp_p hc132 dX8_site_30 rfl
theorem e132_31 : wp S (d + 1) 132 31 [a0, a1, a2, a3, a4, a5, a6, a7, a8] (.int x2 :: .ref r1 :: .ref r0 :: st) h Q = (am_w8 st ∧ am_rcv h 2 133 (.ref r0) = true ∧ wp S d 133 0 [some (.ref r0), some (.ref r1), some (.int x2)] [] h (am_kr S 2 (d + 1) 132 31 [a0, a1, a2, a3, a4, a5, a6, a7, a8] st Q)) := wp_cV (.ref r0) [.ref r1, .int x2] hc132 dX8_site_31 ho132 cl8_67 (by decide) ns8_67 hst133 hnp133 hml133 hlsl133 rfl rfl rfl
theorem e132_34 : wp S d 132 34 ls [.ref r] h Q = Q (.inl (some (.ref r)), h) := wp_r hc132 dX8_site_34 rfl rfl ⟨_, rfl, Or.inr ⟨_, rfl⟩, ⟨_, rfl, Or.inl ⟨_, rfl⟩⟩, rfl⟩
theorem e132_35 : wp S d 132 35 [some (.ref r), a1, a2, a3, a4, a5, a6, a7, a8] st h Q = wp S d 132 36 [some (.ref r), a1, a2, a3, a4, a5, a6, a7, a8] (.ref r :: st) h Q := wp_p hc132 dX8_site_35 rfl
theorem e132_36 : wp S d 132 36 [a0, a1, a2, a3, a4, a5, a6, a7, a8] (.ref r :: st) h Q = am_gfK h r 8 2 (fun w => wp S d 132 39 [a0, a1, a2, a3, a4, a5, a6, a7, a8] (w :: st) h Q) := wp_gf hc132 dX8_site_36 ho132 fl8_3
theorem e132_39 : wp S d 132 39 [a0, a1, a2, a3, a4, a5, a6, a7, a8] (.ref r :: st) h Q = am_gfK h r 0 0 (fun w => wp S d 132 42 [a0, a1, a2, a3, a4, a5, a6, a7, a8] (w :: st) h Q) := wp_gf hc132 dX8_site_39 ho132 fl8_15
theorem e132_42 : wp S d 132 42 [a0, a1, some (.int x), a3, a4, a5, a6, a7, a8] st h Q = wp S d 132 43 [a0, a1, some (.int x), a3, a4, a5, a6, a7, a8] (.int x :: st) h Q := wp_p hc132 dX8_site_42 rfl
theorem e132_43 : wp S (d + 1) 132 43 [a0, a1, a2, a3, a4, a5, a6, a7, a8] (.int x1 :: .ref r0 :: st) h Q = (am_w8 st ∧ am_rcv h 2 38 (.ref r0) = true ∧ wp S d 38 0 [some (.ref r0), some (.int x1)] [] h (am_kr S 2 (d + 1) 132 43 [a0, a1, a2, a3, a4, a5, a6, a7, a8] st Q)) := wp_cV (.ref r0) [.int x1] hc132 dX8_site_43 ho132 cl8_71 (by decide) ns8_71 hst38 hnp38 hml38 hlsl38 rfl rfl rfl
theorem e132_46 : wp S d 132 46 [a0, a1, a2, a3, a4, a5, a6, a7, a8] (.int x :: st) h Q = if x = 0 then wp S d 132 49 [a0, a1, a2, a3, a4, a5, a6, a7, a8] st h Q else wp S d 132 55 [a0, a1, a2, a3, a4, a5, a6, a7, a8] st h Q := wp_ne hc132 dX8_site_46 rfl
theorem e132_49 : wp S d 132 49 [some (.ref r), a1, a2, a3, a4, a5, a6, a7, a8] st h Q = wp S d 132 50 [some (.ref r), a1, a2, a3, a4, a5, a6, a7, a8] (.ref r :: st) h Q := wp_p hc132 dX8_site_49 rfl
theorem e132_50 : wp S d 132 50 [a0, some (.ref r), a2, a3, a4, a5, a6, a7, a8] st h Q = wp S d 132 51 [a0, some (.ref r), a2, a3, a4, a5, a6, a7, a8] (.ref r :: st) h Q := wp_p hc132 dX8_site_50 rfl
theorem e132_51 : wp S (d + 1) 132 51 [a0, a1, a2, a3, a4, a5, a6, a7, a8] (.ref r1 :: .ref r0 :: st) h Q = (am_w8 st ∧ am_rcv h 2 134 (.ref r0) = true ∧ wp S d 134 0 [some (.ref r0), some (.ref r1), none] [] h (am_kr S 2 (d + 1) 132 51 [a0, a1, a2, a3, a4, a5, a6, a7, a8] st Q)) := wp_cV (.ref r0) [.ref r1] hc132 dX8_site_51 ho132 cl8_75 (by decide) ns8_75 hst134 hnp134 hml134 hlsl134 rfl rfl rfl
theorem e132_54 : wp S d 132 54 ls [.ref r] h Q = Q (.inl (some (.ref r)), h) := wp_r hc132 dX8_site_54 rfl rfl ⟨_, rfl, Or.inr ⟨_, rfl⟩, ⟨_, rfl, Or.inl ⟨_, rfl⟩⟩, rfl⟩
theorem e132_55 : wp S d 132 55 [some (.ref r), a1, a2, a3, a4, a5, a6, a7, a8] st h Q = wp S d 132 56 [some (.ref r), a1, a2, a3, a4, a5, a6, a7, a8] (.ref r :: st) h Q := wp_p hc132 dX8_site_55 rfl
theorem e132_56 : wp S d 132 56 [a0, a1, a2, a3, a4, a5, a6, a7, a8] (.ref r :: st) h Q = am_gfK h r 8 2 (fun w => wp S d 132 59 [a0, a1, a2, a3, a4, a5, a6, a7, a8] (w :: st) h Q) := wp_gf hc132 dX8_site_56 ho132 fl8_3
theorem e132_59 : wp S d 132 59 [a0, a1, a2, a3, a4, a5, a6, a7, a8] (.ref r :: st) h Q = am_gfK h r 0 0 (fun w => wp S d 132 62 [a0, a1, a2, a3, a4, a5, a6, a7, a8] (w :: st) h Q) := wp_gf hc132 dX8_site_59 ho132 fl8_15
theorem e132_62 : wp S d 132 62 [a0, a1, a2, a3, a4, a5, a6, a7, a8] (.ref r :: st) h Q = am_gfK h r 1 5 (fun w => wp S d 132 65 [a0, a1, a2, a3, a4, a5, a6, a7, a8] (w :: st) h Q) := wp_gf hc132 dX8_site_62 ho132 fl8_78
theorem e132_65 : wp S d 132 65 [a0, a1, some (.int x), a3, a4, a5, a6, a7, a8] st h Q = wp S d 132 66 [a0, a1, some (.int x), a3, a4, a5, a6, a7, a8] (.int x :: st) h Q := wp_p hc132 dX8_site_65 rfl
theorem e132_66 : wp S d 132 66 [a0, a1, a2, a3, a4, a5, a6, a7, a8] (.int x :: .ref r :: st) h Q = am_aaK h r x (fun w => wp S d 132 67 [a0, a1, a2, a3, a4, a5, a6, a7, a8] (w :: st) h Q) := wp_aa hc132 dX8_site_66
theorem e132_67 : wp S d 132 67 [a0, a1, a2, a3, a4, a5, a6, a7, a8] (.ref r :: st) h Q = wp S d 132 68 [a0, a1, a2, some (.ref r), a4, a5, a6, a7, a8] st h Q := wp_p hc132 dX8_site_67 rfl
theorem e132_68 : wp S d 132 68 [some (.ref r), a1, a2, a3, a4, a5, a6, a7, a8] st h Q = wp S d 132 69 [some (.ref r), a1, a2, a3, a4, a5, a6, a7, a8] (.ref r :: st) h Q := wp_p hc132 dX8_site_68 rfl
theorem e132_69 : wp S d 132 69 [a0, a1, a2, a3, a4, a5, a6, a7, a8] (.ref r :: st) h Q = am_gfK h r 8 2 (fun w => wp S d 132 72 [a0, a1, a2, a3, a4, a5, a6, a7, a8] (w :: st) h Q) := wp_gf hc132 dX8_site_69 ho132 fl8_3
theorem e132_72 : wp S d 132 72 [a0, a1, a2, a3, a4, a5, a6, a7, a8] (.ref r :: st) h Q = am_gfK h r 0 0 (fun w => wp S d 132 75 [a0, a1, a2, a3, a4, a5, a6, a7, a8] (w :: st) h Q) := wp_gf hc132 dX8_site_72 ho132 fl8_15
theorem e132_75 : wp S d 132 75 [a0, a1, a2, a3, a4, a5, a6, a7, a8] (.ref r :: st) h Q = am_gfK h r 1 1 (fun w => wp S d 132 78 [a0, a1, a2, a3, a4, a5, a6, a7, a8] (w :: st) h Q) := wp_gf hc132 dX8_site_75 ho132 fl8_82
theorem e132_78 : wp S d 132 78 [a0, a1, a2, some (.ref r), a4, a5, a6, a7, a8] st h Q = wp S d 132 79 [a0, a1, a2, some (.ref r), a4, a5, a6, a7, a8] (.ref r :: st) h Q := wp_p hc132 dX8_site_78 rfl
theorem e132_79 : wp S d 132 79 [a0, a1, a2, a3, a4, a5, a6, a7, a8] (.ref r :: st) h Q = am_gfK h r 6 0 (fun w => wp S d 132 82 [a0, a1, a2, a3, a4, a5, a6, a7, a8] (w :: st) h Q) := wp_gf hc132 dX8_site_79 ho132 fl8_85
theorem e132_82 : wp S d 132 82 [a0, a1, a2, a3, a4, a5, a6, a7, a8] (.int x :: .ref r :: st) h Q = am_aaK h r x (fun w => wp S d 132 83 [a0, a1, a2, a3, a4, a5, a6, a7, a8] (w :: st) h Q) := wp_aa hc132 dX8_site_82
theorem e132_83 : wp S d 132 83 [a0, a1, a2, a3, a4, a5, a6, a7, a8] (.ref r :: st) h Q = am_gfK h r 3 0 (fun w => wp S d 132 86 [a0, a1, a2, a3, a4, a5, a6, a7, a8] (w :: st) h Q) := wp_gf hc132 dX8_site_83 ho132 fl8_62
theorem e132_86 : wp S d 132 86 [a0, a1, a2, a3, a4, a5, a6, a7, a8] (.int x :: st) h Q = wp S d 132 88 [a0, a1, a2, a3, some (.int x), a5, a6, a7, a8] st h Q := wp_p hc132 dX8_site_86 rfl
theorem e132_88 : wp S d 132 88 [some (.ref r), a1, a2, a3, a4, a5, a6, a7, a8] st h Q = wp S d 132 89 [some (.ref r), a1, a2, a3, a4, a5, a6, a7, a8] (.ref r :: st) h Q := wp_p hc132 dX8_site_88 rfl
theorem e132_89 : wp S d 132 89 [a0, some (.ref r), a2, a3, a4, a5, a6, a7, a8] st h Q = wp S d 132 90 [a0, some (.ref r), a2, a3, a4, a5, a6, a7, a8] (.ref r :: st) h Q := wp_p hc132 dX8_site_89 rfl
theorem e132_90 : wp S d 132 90 [a0, a1, a2, some (.ref r), a4, a5, a6, a7, a8] st h Q = wp S d 132 91 [a0, a1, a2, some (.ref r), a4, a5, a6, a7, a8] (.ref r :: st) h Q := wp_p hc132 dX8_site_90 rfl
theorem e132_91 : wp S d 132 91 [a0, a1, a2, a3, some (.int x), a5, a6, a7, a8] st h Q = wp S d 132 93 [a0, a1, a2, a3, some (.int x), a5, a6, a7, a8] (.int x :: st) h Q := wp_p hc132 dX8_site_91 rfl
theorem e132_93 : wp S (d + 1) 132 93 [a0, a1, a2, a3, a4, a5, a6, a7, a8] (.int x3 :: .ref r2 :: .ref r1 :: .ref r0 :: st) h Q = (am_w8 st ∧ am_rcv h 2 135 (.ref r0) = true ∧ wp S d 135 0 [some (.ref r0), some (.ref r1), some (.ref r2), some (.int x3), none, none, none, none, none, none] [] h (am_kr S 2 (d + 1) 132 93 [a0, a1, a2, a3, a4, a5, a6, a7, a8] st Q)) := wp_cV (.ref r0) [.ref r1, .ref r2, .int x3] hc132 dX8_site_93 ho132 cl8_90 (by decide) ns8_90 hst135 hnp135 hml135 hlsl135 rfl rfl rfl
theorem e132_96 : wp S d 132 96 [a0, a1, a2, a3, a4, a5, a6, a7, a8] (.int x :: st) h Q = wp S d 132 98 [a0, a1, a2, a3, a4, some (.int x), a6, a7, a8] st h Q := wp_p hc132 dX8_site_96 rfl
theorem e132_98 : wp S d 132 98 [a0, a1, a2, a3, a4, some (.int x), a6, a7, a8] st h Q = wp S d 132 100 [a0, a1, a2, a3, a4, some (.int x), a6, a7, a8] (.int x :: st) h Q := wp_p hc132 dX8_site_98 rfl
theorem e132_100 : wp S d 132 100 [a0, a1, a2, a3, a4, a5, a6, a7, a8] (.int x :: st) h Q = if x = 0 then wp S d 132 111 [a0, a1, a2, a3, a4, a5, a6, a7, a8] st h Q else wp S d 132 103 [a0, a1, a2, a3, a4, a5, a6, a7, a8] st h Q := wp_eq hc132 dX8_site_100 rfl
theorem e132_103 : wp S d 132 103 [some (.ref r), a1, a2, a3, a4, a5, a6, a7, a8] st h Q = wp S d 132 104 [some (.ref r), a1, a2, a3, a4, a5, a6, a7, a8] (.ref r :: st) h Q := wp_p hc132 dX8_site_103 rfl
theorem e132_104 : wp S d 132 104 [a0, some (.ref r), a2, a3, a4, a5, a6, a7, a8] st h Q = wp S d 132 105 [a0, some (.ref r), a2, a3, a4, a5, a6, a7, a8] (.ref r :: st) h Q := wp_p hc132 dX8_site_104 rfl
theorem e132_105 : wp S d 132 105 [a0, a1, a2, a3, a4, some (.int x), a6, a7, a8] st h Q = wp S d 132 107 [a0, a1, a2, a3, a4, some (.int x), a6, a7, a8] (.int x :: st) h Q := wp_p hc132 dX8_site_105 rfl
theorem e132_107 : wp S (d + 1) 132 107 [a0, a1, a2, a3, a4, a5, a6, a7, a8] (.int x2 :: .ref r1 :: .ref r0 :: st) h Q = (am_w8 st ∧ am_rcv h 2 133 (.ref r0) = true ∧ wp S d 133 0 [some (.ref r0), some (.ref r1), some (.int x2)] [] h (am_kr S 2 (d + 1) 132 107 [a0, a1, a2, a3, a4, a5, a6, a7, a8] st Q)) := wp_cV (.ref r0) [.ref r1, .int x2] hc132 dX8_site_107 ho132 cl8_67 (by decide) ns8_67 hst133 hnp133 hml133 hlsl133 rfl rfl rfl
theorem e132_110 : wp S d 132 110 ls [.ref r] h Q = Q (.inl (some (.ref r)), h) := wp_r hc132 dX8_site_110 rfl rfl ⟨_, rfl, Or.inr ⟨_, rfl⟩, ⟨_, rfl, Or.inl ⟨_, rfl⟩⟩, rfl⟩
theorem e132_111 : wp S d 132 111 [a0, a1, a2, a3, some (.int x), a5, a6, a7, a8] st h Q = wp S d 132 113 [a0, a1, a2, a3, some (.int x), a5, a6, a7, a8] (.int x :: st) h Q := wp_p hc132 dX8_site_111 rfl
theorem e132_113 : wp S d 132 113 [a0, a1, a2, a3, a4, a5, a6, a7, a8] (.int x :: st) h Q = (¬ x < 0 ∧ x.toNatClampNeg ≤ 1000000 ∧ wp S d 132 116 [a0, a1, a2, a3, a4, a5, a6, a7, a8] (.ref h.length :: st) (h ++ [.inr (.inl (2, x.toNatClampNeg, fun _ => none))]) Q) := wp_nr hc132 dX8_site_113 ho132 nr8_26
theorem e132_116 : wp S d 132 116 [a0, a1, a2, a3, a4, a5, a6, a7, a8] (.ref r :: st) h Q = wp S d 132 118 [a0, a1, a2, a3, a4, a5, some (.ref r), a7, a8] st h Q := wp_p hc132 dX8_site_116 rfl
theorem e132_118 : wp S d 132 118 [a0, a1, a2, a3, a4, a5, a6, a7, a8] st h Q = wp S d 132 119 [a0, a1, a2, a3, a4, a5, a6, a7, a8] (.int (nI 0) :: st) h Q := wp_p hc132 dX8_site_118 rfl
theorem e132_119 : wp S d 132 119 [a0, a1, a2, a3, a4, a5, a6, a7, a8] (.int x :: st) h Q = wp S d 132 121 [a0, a1, a2, a3, a4, a5, a6, some (.int x), a8] st h Q := wp_p hc132 dX8_site_119 rfl
theorem e132_121 : wp S d 132 121 [a0, a1, a2, a3, a4, a5, a6, some (.int x), a8] st h Q = wp S d 132 123 [a0, a1, a2, a3, a4, a5, a6, some (.int x), a8] (.int x :: st) h Q := wp_p hc132 dX8_site_121 rfl
theorem e132_123 : wp S d 132 123 [a0, a1, a2, a3, some (.int x), a5, a6, a7, a8] st h Q = wp S d 132 125 [a0, a1, a2, a3, some (.int x), a5, a6, a7, a8] (.int x :: st) h Q := wp_p hc132 dX8_site_123 rfl
theorem e132_125 : wp S d 132 125 [a0, a1, a2, a3, a4, a5, a6, a7, a8] (.int y :: .int x :: st) h Q = if y ≤ x then wp S d 132 179 [a0, a1, a2, a3, a4, a5, a6, a7, a8] st h Q else wp S d 132 128 [a0, a1, a2, a3, a4, a5, a6, a7, a8] st h Q := wp_ge hc132 dX8_site_125 rfl
theorem e132_128 : wp S d 132 128 [a0, a1, a2, some (.ref r), a4, a5, a6, a7, a8] st h Q = wp S d 132 129 [a0, a1, a2, some (.ref r), a4, a5, a6, a7, a8] (.ref r :: st) h Q := wp_p hc132 dX8_site_128 rfl
theorem e132_129 : wp S d 132 129 [a0, a1, a2, a3, a4, a5, a6, a7, a8] (.ref r :: st) h Q = am_gfK h r 6 1 (fun w => wp S d 132 132 [a0, a1, a2, a3, a4, a5, a6, a7, a8] (w :: st) h Q) := wp_gf hc132 dX8_site_129 ho132 fl8_94
theorem e132_132 : wp S d 132 132 [a0, a1, a2, a3, a4, a5, a6, some (.int x), a8] st h Q = wp S d 132 134 [a0, a1, a2, a3, a4, a5, a6, some (.int x), a8] (.int x :: st) h Q := wp_p hc132 dX8_site_132 rfl
theorem e132_134 : wp S d 132 134 [a0, a1, a2, a3, a4, a5, a6, a7, a8] (.int x :: .ref r :: st) h Q = am_iaK h r x (fun z => wp S d 132 135 [a0, a1, a2, a3, a4, a5, a6, a7, a8] (.int z :: st) h Q) := wp_ia hc132 dX8_site_134
theorem e132_135 : wp S d 132 135 [a0, a1, a2, a3, a4, a5, a6, a7, a8] (.int x :: st) h Q = wp S d 132 137 [a0, a1, a2, a3, a4, a5, a6, a7, some (.int x)] st h Q := wp_p hc132 dX8_site_135 rfl
theorem e132_137 : wp S d 132 137 [a0, a1, a2, a3, a4, a5, some (.ref r), a7, a8] st h Q = wp S d 132 139 [a0, a1, a2, a3, a4, a5, some (.ref r), a7, a8] (.ref r :: st) h Q := wp_p hc132 dX8_site_137 rfl
theorem e132_139 : wp S d 132 139 [a0, a1, a2, a3, a4, a5, a6, some (.int x), a8] st h Q = wp S d 132 141 [a0, a1, a2, a3, a4, a5, a6, some (.int x), a8] (.int x :: st) h Q := wp_p hc132 dX8_site_139 rfl
theorem e132_141 : wp S d 132 141 [a0, a1, a2, a3, a4, a5, a6, a7, some (.int x)] st h Q = wp S d 132 143 [a0, a1, a2, a3, a4, a5, a6, a7, some (.int x)] (.int x :: st) h Q := wp_p hc132 dX8_site_141 rfl
theorem e132_143 : wp S d 132 143 [a0, a1, a2, a3, a4, a5, a6, a7, a8] (.int x :: st) h Q = if x < 0 then wp S d 132 163 [a0, a1, a2, a3, a4, a5, a6, a7, a8] st h Q else wp S d 132 146 [a0, a1, a2, a3, a4, a5, a6, a7, a8] st h Q := wp_lt hc132 dX8_site_143 rfl
theorem e132_146 : wp S d 132 146 [a0, a1, a2, a3, a4, a5, a6, a7, a8] st h Q = wp S d 132 149 [a0, a1, a2, a3, a4, a5, a6, a7, a8] (.ref h.length :: st) (h ++ [.inr (.inr (2, am_dft 2))]) Q := wp_nw hc132 dX8_site_146 ho132 nw8_26
theorem e132_149 : wp S d 132 149 [a0, a1, a2, a3, a4, a5, a6, a7, a8] (.ref r :: st) h Q = wp S d 132 150 [a0, a1, a2, a3, a4, a5, a6, a7, a8] (.ref r :: .ref r :: st) h Q := wp_p hc132 dX8_site_149 rfl
theorem e132_149i : wp S d 132 149 [a0, a1, a2, a3, a4, a5, a6, a7, a8] (.int x :: st) h Q = wp S d 132 150 [a0, a1, a2, a3, a4, a5, a6, a7, a8] (.int x :: .int x :: st) h Q := wp_p hc132 dX8_site_149 rfl
theorem e132_150 : wp S d 132 150 [a0, a1, a2, a3, a4, a5, a6, a7, a8] st h Q = wp S d 132 151 [a0, a1, a2, a3, a4, a5, a6, a7, a8] (.int (nI 0) :: st) h Q := wp_p hc132 dX8_site_150 rfl
theorem e132_151 : wp S d 132 151 [a0, a1, a2, a3, a4, a5, a6, a7, some (.int x)] st h Q = wp S d 132 153 [a0, a1, a2, a3, a4, a5, a6, a7, some (.int x)] (.int x :: st) h Q := wp_p hc132 dX8_site_151 rfl
theorem e132_153 : wp S d 132 153 [a0, a1, a2, a3, a4, a5, a6, a7, a8] st h Q = wp S d 132 154 [a0, a1, a2, a3, a4, a5, a6, a7, a8] (.int (nI 0) :: st) h Q := wp_p hc132 dX8_site_153 rfl
theorem e132_154 : wp S d 132 154 [a0, a1, a2, a3, a4, a5, a6, a7, a8] (.int x :: st) h Q = (¬ x < 0 ∧ x.toNatClampNeg ≤ 1000000 ∧ wp S d 132 157 [a0, a1, a2, a3, a4, a5, a6, a7, a8] (.ref h.length :: st) (h ++ [.inr (.inl (2, x.toNatClampNeg, fun _ => none))]) Q) := wp_nr hc132 dX8_site_154 ho132 nr8_26
theorem e132_157 : wp S (d + 1) 132 157 [a0, a1, a2, a3, a4, a5, a6, a7, a8] (.ref r3 :: .int x2 :: .int x1 :: .ref r0 :: st) h Q = (am_w8 st ∧ am_rcv h 4 42 (.ref r0) = true ∧ wp S d 42 0 [some (.ref r0), some (.int x1), some (.int x2), some (.ref r3), none, none, none, none, none] [] h (am_kr S 4 (d + 1) 132 157 [a0, a1, a2, a3, a4, a5, a6, a7, a8] st Q)) := wp_cI (.ref r0) [.int x1, .int x2, .ref r3] hc132 dX8_site_157 ho132 cl8_48 (by decide) ns8_48 hst42 hnp42 hml42 hlsl42 rfl rfl rfl
theorem e132_160 : wp S d 132 160 [a0, a1, a2, a3, a4, a5, a6, a7, a8] st h Q = wp S d 132 172 [a0, a1, a2, a3, a4, a5, a6, a7, a8] st h Q := wp_p hc132 dX8_site_160 rfl
theorem e132_163 : wp S d 132 163 [a0, some (.ref r), a2, a3, a4, a5, a6, a7, a8] st h Q = wp S d 132 164 [a0, some (.ref r), a2, a3, a4, a5, a6, a7, a8] (.ref r :: st) h Q := wp_p hc132 dX8_site_163 rfl
theorem e132_164 : wp S d 132 164 [a0, a1, a2, a3, a4, a5, a6, a7, a8] (.ref r :: st) h Q = am_gfK h r 2 2 (fun w => wp S d 132 167 [a0, a1, a2, a3, a4, a5, a6, a7, a8] (w :: st) h Q) := wp_gf hc132 dX8_site_164 ho132 fl8_34
theorem e132_167 : wp S d 132 167 [a0, a1, a2, a3, a4, a5, a6, a7, a8] st h Q = wp S d 132 168 [a0, a1, a2, a3, a4, a5, a6, a7, a8] (.int ((-1)) :: st) h Q := wp_p hc132 dX8_site_167 rfl
theorem e132_168 : wp S d 132 168 [a0, a1, a2, a3, a4, a5, a6, a7, some (.int x)] st h Q = wp S d 132 170 [a0, a1, a2, a3, a4, a5, a6, a7, some (.int x)] (.int x :: st) h Q := wp_p hc132 dX8_site_168 rfl
theorem e132_170 : wp S d 132 170 [a0, a1, a2, a3, a4, a5, a6, a7, a8] (.int y :: .int x :: st) h Q = wp S d 132 171 [a0, a1, a2, a3, a4, a5, a6, a7, a8] (.int (x - y) :: st) h Q := wp_p hc132 dX8_site_170 rfl
theorem e132_171 : wp S d 132 171 [a0, a1, a2, a3, a4, a5, a6, a7, a8] (.int x :: .ref r :: st) h Q = am_aaK h r x (fun w => wp S d 132 172 [a0, a1, a2, a3, a4, a5, a6, a7, a8] (w :: st) h Q) := wp_aa hc132 dX8_site_171
theorem e132_172 : wp S d 132 172 [a0, a1, a2, a3, a4, a5, a6, a7, a8] (w :: .int x :: .ref r :: st) h Q = am_asK h r x w (fun h => wp S d 132 173 [a0, a1, a2, a3, a4, a5, a6, a7, a8] st h Q) := wp_as hc132 dX8_site_172
theorem e132_173 : wp S d 132 173 [a0, a1, a2, a3, a4, a5, a6, some (.int x), a8] st h Q = wp S d 132 176 [a0, a1, a2, a3, a4, a5, a6, some (.int (x + nI 1)), a8] st h Q := wp_p hc132 dX8_site_173 rfl
theorem e132_176 : wp S d 132 176 [a0, a1, a2, a3, a4, a5, a6, a7, a8] st h Q = wp S d 132 121 [a0, a1, a2, a3, a4, a5, a6, a7, a8] st h Q := wp_p hc132 dX8_site_176 rfl
theorem e132_179 : wp S d 132 179 [a0, a1, a2, a3, a4, a5, a6, a7, a8] st h Q = wp S d 132 182 [a0, a1, a2, a3, a4, a5, a6, a7, a8] (.ref h.length :: st) (h ++ [.inr (.inr (2, am_dft 2))]) Q := wp_nw hc132 dX8_site_179 ho132 nw8_26
theorem e132_182 : wp S d 132 182 [a0, a1, a2, a3, a4, a5, a6, a7, a8] (.ref r :: st) h Q = wp S d 132 183 [a0, a1, a2, a3, a4, a5, a6, a7, a8] (.ref r :: .ref r :: st) h Q := wp_p hc132 dX8_site_182 rfl
theorem e132_182i : wp S d 132 182 [a0, a1, a2, a3, a4, a5, a6, a7, a8] (.int x :: st) h Q = wp S d 132 183 [a0, a1, a2, a3, a4, a5, a6, a7, a8] (.int x :: .int x :: st) h Q := wp_p hc132 dX8_site_182 rfl
theorem e132_183 : wp S d 132 183 [a0, a1, a2, a3, a4, a5, a6, a7, a8] st h Q = wp S d 132 184 [a0, a1, a2, a3, a4, a5, a6, a7, a8] (.int (nI 3) :: st) h Q := wp_p hc132 dX8_site_183 rfl
theorem e132_184 : wp S d 132 184 [a0, a1, a2, some (.ref r), a4, a5, a6, a7, a8] st h Q = wp S d 132 185 [a0, a1, a2, some (.ref r), a4, a5, a6, a7, a8] (.ref r :: st) h Q := wp_p hc132 dX8_site_184 rfl
theorem e132_185 : wp S d 132 185 [a0, a1, a2, a3, a4, a5, a6, a7, a8] (.ref r :: st) h Q = am_gfK h r 6 0 (fun w => wp S d 132 188 [a0, a1, a2, a3, a4, a5, a6, a7, a8] (w :: st) h Q) := wp_gf hc132 dX8_site_185 ho132 fl8_85
theorem e132_188 : wp S d 132 188 [a0, a1, a2, a3, a4, a5, some (.ref r), a7, a8] st h Q = wp S d 132 190 [a0, a1, a2, a3, a4, a5, some (.ref r), a7, a8] (.ref r :: st) h Q := wp_p hc132 dX8_site_188 rfl
theorem e132_190 : wp S (d + 1) 132 190 [a0, a1, a2, a3, a4, a5, a6, a7, a8] (.ref r3 :: .int x2 :: .int x1 :: .ref r0 :: st) h Q = (am_w8 st ∧ am_rcv h 4 42 (.ref r0) = true ∧ wp S d 42 0 [some (.ref r0), some (.int x1), some (.int x2), some (.ref r3), none, none, none, none, none] [] h (am_kr S 4 (d + 1) 132 190 [a0, a1, a2, a3, a4, a5, a6, a7, a8] st Q)) := wp_cI (.ref r0) [.int x1, .int x2, .ref r3] hc132 dX8_site_190 ho132 cl8_48 (by decide) ns8_48 hst42 hnp42 hml42 hlsl42 rfl rfl rfl
theorem e132_193 : wp S d 132 193 [a0, a1, a2, a3, a4, a5, a6, a7, a8] (.ref r :: st) h Q = wp S d 132 195 [a0, a1, a2, a3, a4, a5, a6, some (.ref r), a8] st h Q := wp_p hc132 dX8_site_193 rfl
theorem e132_195 : wp S d 132 195 [some (.ref r), a1, a2, a3, a4, a5, a6, a7, a8] st h Q = wp S d 132 196 [some (.ref r), a1, a2, a3, a4, a5, a6, a7, a8] (.ref r :: st) h Q := wp_p hc132 dX8_site_195 rfl
theorem e132_196 : wp S d 132 196 [a0, a1, a2, a3, a4, a5, a6, a7, a8] (.ref r :: st) h Q = am_gfK h r 8 0 (fun w => wp S d 132 199 [a0, a1, a2, a3, a4, a5, a6, a7, a8] (w :: st) h Q) := wp_gf hc132 dX8_site_196 ho132 fl8_31
theorem e132_199 : wp S d 132 199 [a0, some (.ref r), a2, a3, a4, a5, a6, a7, a8] st h Q = wp S d 132 200 [a0, some (.ref r), a2, a3, a4, a5, a6, a7, a8] (.ref r :: st) h Q := wp_p hc132 dX8_site_199 rfl
theorem e132_200 : wp S d 132 200 [a0, a1, a2, a3, a4, a5, a6, a7, a8] (.ref r :: st) h Q = am_gfK h r 2 3 (fun w => wp S d 132 203 [a0, a1, a2, a3, a4, a5, a6, a7, a8] (w :: st) h Q) := wp_gf hc132 dX8_site_200 ho132 fl8_25
theorem e132_203 : wp S d 132 203 [a0, a1, a2, a3, a4, a5, a6, a7, a8] (.int y :: .int x :: st) h Q = wp S d 132 204 [a0, a1, a2, a3, a4, a5, a6, a7, a8] (.int (x - y) :: st) h Q := wp_p hc132 dX8_site_203 rfl
theorem e132_204 : wp S d 132 204 [a0, a1, a2, a3, a4, a5, a6, some (.ref r), a8] st h Q = wp S d 132 206 [a0, a1, a2, a3, a4, a5, a6, some (.ref r), a8] (.ref r :: st) h Q := wp_p hc132 dX8_site_204 rfl
theorem e132_206 : wp S d 132 206 [a0, a1, a2, a3, a4, a5, a6, a7, a8] (.ref r :: st) h Q = am_gfK h r 2 3 (fun w => wp S d 132 209 [a0, a1, a2, a3, a4, a5, a6, a7, a8] (w :: st) h Q) := wp_gf hc132 dX8_site_206 ho132 fl8_25
theorem e132_209 : wp S d 132 209 [a0, a1, a2, a3, a4, a5, a6, a7, a8] (.int y :: .int x :: st) h Q = wp S d 132 210 [a0, a1, a2, a3, a4, a5, a6, a7, a8] (.int (x + y) :: st) h Q := wp_p hc132 dX8_site_209 rfl
theorem e132_210 : wp S d 132 210 [a0, a1, a2, a3, a4, a5, a6, a7, a8] st h Q = wp S d 132 212 [a0, a1, a2, a3, a4, a5, a6, a7, a8] (.int (nI 30) :: st) h Q := wp_p hc132 dX8_site_210 rfl
theorem e132_212 : wp S d 132 212 [a0, a1, a2, a3, a4, a5, a6, a7, a8] (.int y :: .int x :: st) h Q = if x ≤ y then wp S d 132 223 [a0, a1, a2, a3, a4, a5, a6, a7, a8] st h Q else wp S d 132 215 [a0, a1, a2, a3, a4, a5, a6, a7, a8] st h Q := wp_le hc132 dX8_site_212 rfl
theorem e132_215 : wp S d 132 215 [some (.ref r), a1, a2, a3, a4, a5, a6, a7, a8] st h Q = wp S d 132 216 [some (.ref r), a1, a2, a3, a4, a5, a6, a7, a8] (.ref r :: st) h Q := wp_p hc132 dX8_site_215 rfl
theorem e132_216 : wp S d 132 216 [a0, some (.ref r), a2, a3, a4, a5, a6, a7, a8] st h Q = wp S d 132 217 [a0, some (.ref r), a2, a3, a4, a5, a6, a7, a8] (.ref r :: st) h Q := wp_p hc132 dX8_site_216 rfl
theorem e132_217 : wp S d 132 217 [a0, a1, a2, a3, a4, a5, a6, a7, a8] st h Q = wp S d 132 219 [a0, a1, a2, a3, a4, a5, a6, a7, a8] (.int (nI 7) :: st) h Q := wp_p hc132 dX8_site_217 rfl
theorem e132_219 : wp S (d + 1) 132 219 [a0, a1, a2, a3, a4, a5, a6, a7, a8] (.int x2 :: .ref r1 :: .ref r0 :: st) h Q = (am_w8 st ∧ am_rcv h 2 133 (.ref r0) = true ∧ wp S d 133 0 [some (.ref r0), some (.ref r1), some (.int x2)] [] h (am_kr S 2 (d + 1) 132 219 [a0, a1, a2, a3, a4, a5, a6, a7, a8] st Q)) := wp_cV (.ref r0) [.ref r1, .int x2] hc132 dX8_site_219 ho132 cl8_67 (by decide) ns8_67 hst133 hnp133 hml133 hlsl133 rfl rfl rfl
theorem e132_222 : wp S d 132 222 ls [.ref r] h Q = Q (.inl (some (.ref r)), h) := wp_r hc132 dX8_site_222 rfl rfl ⟨_, rfl, Or.inr ⟨_, rfl⟩, ⟨_, rfl, Or.inl ⟨_, rfl⟩⟩, rfl⟩
theorem e132_223 : wp S d 132 223 [some (.ref r), a1, a2, a3, a4, a5, a6, a7, a8] st h Q = wp S d 132 224 [some (.ref r), a1, a2, a3, a4, a5, a6, a7, a8] (.ref r :: st) h Q := wp_p hc132 dX8_site_223 rfl
theorem e132_224 : wp S d 132 224 [a0, a1, a2, a3, a4, a5, a6, a7, a8] (.ref r :: st) h Q = wp S d 132 225 [a0, a1, a2, a3, a4, a5, a6, a7, a8] (.ref r :: .ref r :: st) h Q := wp_p hc132 dX8_site_224 rfl
theorem e132_224i : wp S d 132 224 [a0, a1, a2, a3, a4, a5, a6, a7, a8] (.int x :: st) h Q = wp S d 132 225 [a0, a1, a2, a3, a4, a5, a6, a7, a8] (.int x :: .int x :: st) h Q := wp_p hc132 dX8_site_224 rfl
theorem e132_225 : wp S d 132 225 [a0, a1, a2, a3, a4, a5, a6, a7, a8] (.ref r :: st) h Q = am_gfK h r 8 0 (fun w => wp S d 132 228 [a0, a1, a2, a3, a4, a5, a6, a7, a8] (w :: st) h Q) := wp_gf hc132 dX8_site_225 ho132 fl8_31
theorem e132_228 : wp S d 132 228 [a0, a1, a2, a3, a4, a5, a6, some (.ref r), a8] st h Q = wp S d 132 230 [a0, a1, a2, a3, a4, a5, a6, some (.ref r), a8] (.ref r :: st) h Q := wp_p hc132 dX8_site_228 rfl
theorem e132_230 : wp S d 132 230 [a0, a1, a2, a3, a4, a5, a6, a7, a8] (.ref r :: st) h Q = am_gfK h r 2 3 (fun w => wp S d 132 233 [a0, a1, a2, a3, a4, a5, a6, a7, a8] (w :: st) h Q) := wp_gf hc132 dX8_site_230 ho132 fl8_25
theorem e132_233 : wp S d 132 233 [a0, some (.ref r), a2, a3, a4, a5, a6, a7, a8] st h Q = wp S d 132 234 [a0, some (.ref r), a2, a3, a4, a5, a6, a7, a8] (.ref r :: st) h Q := wp_p hc132 dX8_site_233 rfl
theorem e132_234 : wp S d 132 234 [a0, a1, a2, a3, a4, a5, a6, a7, a8] (.ref r :: st) h Q = am_gfK h r 2 3 (fun w => wp S d 132 237 [a0, a1, a2, a3, a4, a5, a6, a7, a8] (w :: st) h Q) := wp_gf hc132 dX8_site_234 ho132 fl8_25
theorem e132_237 : wp S d 132 237 [a0, a1, a2, a3, a4, a5, a6, a7, a8] (.int y :: .int x :: st) h Q = wp S d 132 238 [a0, a1, a2, a3, a4, a5, a6, a7, a8] (.int (x - y) :: st) h Q := wp_p hc132 dX8_site_237 rfl
theorem e132_238 : wp S d 132 238 [a0, a1, a2, a3, a4, a5, a6, a7, a8] (.int y :: .int x :: st) h Q = wp S d 132 239 [a0, a1, a2, a3, a4, a5, a6, a7, a8] (.int (x + y) :: st) h Q := wp_p hc132 dX8_site_238 rfl
theorem e132_239 : wp S d 132 239 [a0, a1, a2, a3, a4, a5, a6, a7, a8] (w :: .ref r :: st) h Q = am_pfK 132 h r 8 0 false w (fun h => wp S d 132 242 [a0, a1, a2, a3, a4, a5, a6, a7, a8] st h Q) := wp_pf hc132 dX8_site_239 ho132 fl8_31
theorem e132_242 : wp S d 132 242 [some (.ref r), a1, a2, a3, a4, a5, a6, a7, a8] st h Q = wp S d 132 243 [some (.ref r), a1, a2, a3, a4, a5, a6, a7, a8] (.ref r :: st) h Q := wp_p hc132 dX8_site_242 rfl
theorem e132_243 : wp S d 132 243 [a0, a1, a2, a3, a4, a5, a6, a7, a8] (.ref r :: st) h Q = wp S d 132 244 [a0, a1, a2, a3, a4, a5, a6, a7, a8] (.ref r :: .ref r :: st) h Q := wp_p hc132 dX8_site_243 rfl
theorem e132_243i : wp S d 132 243 [a0, a1, a2, a3, a4, a5, a6, a7, a8] (.int x :: st) h Q = wp S d 132 244 [a0, a1, a2, a3, a4, a5, a6, a7, a8] (.int x :: .int x :: st) h Q := wp_p hc132 dX8_site_243 rfl
theorem e132_244 : wp S d 132 244 [a0, a1, a2, a3, a4, a5, a6, a7, a8] (.ref r :: st) h Q = am_gfK h r 8 1 (fun w => wp S d 132 247 [a0, a1, a2, a3, a4, a5, a6, a7, a8] (w :: st) h Q) := wp_gf hc132 dX8_site_244 ho132 fl8_97
theorem e132_247 : wp S d 132 247 [a0, a1, a2, a3, a4, a5, a6, a7, a8] st h Q = wp S d 132 248 [a0, a1, a2, a3, a4, a5, a6, a7, a8] (.int (nI 1) :: st) h Q := wp_p hc132 dX8_site_247 rfl
theorem e132_248 : wp S d 132 248 [a0, a1, a2, a3, a4, a5, a6, a7, a8] (.int y :: .int x :: st) h Q = wp S d 132 249 [a0, a1, a2, a3, a4, a5, a6, a7, a8] (.int (x + y) :: st) h Q := wp_p hc132 dX8_site_248 rfl
theorem e132_249 : wp S d 132 249 [a0, a1, a2, a3, a4, a5, a6, a7, a8] (w :: .ref r :: st) h Q = am_pfK 132 h r 8 1 false w (fun h => wp S d 132 252 [a0, a1, a2, a3, a4, a5, a6, a7, a8] st h Q) := wp_pf hc132 dX8_site_249 ho132 fl8_97
theorem e132_252 : wp S d 132 252 [a0, a1, a2, a3, a4, a5, a6, some (.ref r), a8] st h Q = wp S d 132 254 [a0, a1, a2, a3, a4, a5, a6, some (.ref r), a8] (.ref r :: st) h Q := wp_p hc132 dX8_site_252 rfl
theorem e132_254 : wp S d 132 254 ls [.ref r] h Q = Q (.inl (some (.ref r)), h) := wp_r hc132 dX8_site_254 rfl rfl ⟨_, rfl, Or.inr ⟨_, rfl⟩, ⟨_, rfl, Or.inl ⟨_, rfl⟩⟩, rfl⟩
theorem e133_0 : wp S d 133 0 [some (.ref r), a1, a2] st h Q = wp S d 133 1 [some (.ref r), a1, a2] (.ref r :: st) h Q := wp_p hc133 dX8_leave_0 rfl
theorem e133_1 : wp S d 133 1 [a0, a1, a2] (.ref r :: st) h Q = am_gfK h r 8 2 (fun w => wp S d 133 4 [a0, a1, a2] (w :: st) h Q) := wp_gf hc133 dX8_leave_1 ho133 fl8_3
theorem e133_4 : wp S d 133 4 [a0, a1, a2] (.ref r :: st) h Q = am_gfK h r 0 0 (fun w => wp S d 133 7 [a0, a1, a2] (w :: st) h Q) := wp_gf hc133 dX8_leave_4 ho133 fl8_15
theorem e133_7 : wp S d 133 7 [a0, a1, a2] (.ref r :: st) h Q = am_gfK h r 1 8 (fun w => wp S d 133 10 [a0, a1, a2] (w :: st) h Q) := wp_gf hc133 dX8_leave_7 ho133 fl8_54
theorem e133_10 : wp S d 133 10 [a0, a1, some (.int x)] st h Q = wp S d 133 11 [a0, a1, some (.int x)] (.int x :: st) h Q := wp_p hc133 dX8_leave_10 rfl
theorem e133_11 : wp S d 133 11 [a0, a1, a2] (.int x :: .ref r :: st) h Q = wp S d 133 12 [a0, a1, a2] (.int x :: .ref r :: .int x :: .ref r :: st) h Q := wp_p hc133 dX8_leave_11 rfl
theorem e133_12 : wp S d 133 12 [a0, a1, a2] (.int x :: .ref r :: st) h Q = am_iaK h r x (fun z => wp S d 133 13 [a0, a1, a2] (.int z :: st) h Q) := wp_ia hc133 dX8_leave_12
theorem e133_13 : wp S d 133 13 [a0, a1, a2] st h Q = wp S d 133 14 [a0, a1, a2] (.int (nI 1) :: st) h Q := wp_p hc133 dX8_leave_13 rfl
theorem e133_14 : wp S d 133 14 [a0, a1, a2] (.int y :: .int x :: st) h Q = wp S d 133 15 [a0, a1, a2] (.int (x + y) :: st) h Q := wp_p hc133 dX8_leave_14 rfl
theorem e133_15 : wp S d 133 15 [a0, a1, a2] (.int y :: .int x :: .ref r :: st) h Q = am_isK h r x y (fun h => wp S d 133 16 [a0, a1, a2] st h Q) := wp_is hc133 dX8_leave_15
theorem e133_16 : wp S d 133 16 [a0, some (.ref r), a2] st h Q = wp S d 133 17 [a0, some (.ref r), a2] (.ref r :: st) h Q := wp_p hc133 dX8_leave_16 rfl
theorem e133_17 : wp S d 133 17 ls [.ref r] h Q = Q (.inl (some (.ref r)), h) := wp_r hc133 dX8_leave_17 rfl rfl ⟨_, rfl, Or.inr ⟨_, rfl⟩, ⟨_, rfl, Or.inl ⟨_, rfl⟩⟩, rfl⟩
theorem e134_0 : wp S d 134 0 [a0, some (.ref r), a2] st h Q = wp S d 134 1 [a0, some (.ref r), a2] (.ref r :: st) h Q := wp_p hc134 dX8_adapt_0 rfl
theorem e134_1 : wp S d 134 1 [a0, a1, a2] (.ref r :: st) h Q = am_gfK h r 2 1 (fun w => wp S d 134 4 [a0, a1, a2] (w :: st) h Q) := wp_gf hc134 dX8_adapt_1 ho134 fl8_45
theorem e134_4 : wp S d 134 4 [a0, a1, a2] (.int x :: st) h Q = wp S d 134 5 [a0, a1, some (.int x)] st h Q := wp_p hc134 dX8_adapt_4 rfl
theorem e134_5 : wp S d 134 5 [some (.ref r), a1, a2] st h Q = wp S d 134 6 [some (.ref r), a1, a2] (.ref r :: st) h Q := wp_p hc134 dX8_adapt_5 rfl
theorem e134_6 : wp S d 134 6 [a0, a1, a2] (.ref r :: st) h Q = am_gfK h r 8 2 (fun w => wp S d 134 9 [a0, a1, a2] (w :: st) h Q) := wp_gf hc134 dX8_adapt_6 ho134 fl8_3
theorem e134_9 : wp S d 134 9 [a0, a1, a2] (.ref r :: st) h Q = am_gfK h r 0 0 (fun w => wp S d 134 12 [a0, a1, a2] (w :: st) h Q) := wp_gf hc134 dX8_adapt_9 ho134 fl8_15
theorem e134_12 : wp S d 134 12 [a0, a1, a2] (.ref r :: st) h Q = am_gfK h r 1 6 (fun w => wp S d 134 15 [a0, a1, a2] (w :: st) h Q) := wp_gf hc134 dX8_adapt_12 ho134 fl8_100
theorem e134_15 : wp S d 134 15 [a0, a1, a2] st h Q = wp S d 134 16 [a0, a1, a2] (.int (nI 1) :: st) h Q := wp_p hc134 dX8_adapt_15 rfl
theorem e134_16 : wp S d 134 16 [a0, a1, a2] (.int y :: .int x :: st) h Q = if x = y then wp S d 134 19 [a0, a1, a2] st h Q else wp S d 134 120 [a0, a1, a2] st h Q := wp_ne hc134 dX8_adapt_16 rfl
theorem e134_19 : wp S d 134 19 [some (.ref r), a1, a2] st h Q = wp S d 134 20 [some (.ref r), a1, a2] (.ref r :: st) h Q := wp_p hc134 dX8_adapt_19 rfl
theorem e134_20 : wp S d 134 20 [a0, a1, a2] (.ref r :: st) h Q = am_gfK h r 8 2 (fun w => wp S d 134 23 [a0, a1, a2] (w :: st) h Q) := wp_gf hc134 dX8_adapt_20 ho134 fl8_3
theorem e134_23 : wp S d 134 23 [a0, a1, a2] (.ref r :: st) h Q = am_gfK h r 0 0 (fun w => wp S d 134 26 [a0, a1, a2] (w :: st) h Q) := wp_gf hc134 dX8_adapt_23 ho134 fl8_15
theorem e134_26 : wp S d 134 26 [a0, a1, a2] (.ref r :: st) h Q = am_gfK h r 1 4 (fun w => wp S d 134 29 [a0, a1, a2] (w :: st) h Q) := wp_gf hc134 dX8_adapt_26 ho134 fl8_103
theorem e134_29 : wp S d 134 29 [a0, a1, some (.int x)] st h Q = wp S d 134 30 [a0, a1, some (.int x)] (.int x :: st) h Q := wp_p hc134 dX8_adapt_29 rfl
theorem e134_30 : wp S d 134 30 [a0, a1, a2] (.int x :: .ref r :: st) h Q = am_iaK h r x (fun z => wp S d 134 31 [a0, a1, a2] (.int z :: st) h Q) := wp_ia hc134 dX8_adapt_30
theorem e134_31 : wp S d 134 31 [a0, a1, a2] st h Q = wp S d 134 32 [a0, a1, a2] (.int ((-1)) :: st) h Q := wp_p hc134 dX8_adapt_31 rfl
theorem e134_32 : wp S d 134 32 [a0, a1, a2] (.int y :: .int x :: st) h Q = if x = y then wp S d 134 35 [a0, a1, a2] st h Q else wp S d 134 120 [a0, a1, a2] st h Q := wp_ne hc134 dX8_adapt_32 rfl
theorem e134_35 : wp S d 134 35 [some (.ref r), a1, a2] st h Q = wp S d 134 36 [some (.ref r), a1, a2] (.ref r :: st) h Q := wp_p hc134 dX8_adapt_35 rfl
theorem e134_36 : wp S d 134 36 [a0, a1, a2] (.ref r :: st) h Q = am_gfK h r 8 2 (fun w => wp S d 134 39 [a0, a1, a2] (w :: st) h Q) := wp_gf hc134 dX8_adapt_36 ho134 fl8_3
theorem e134_39 : wp S d 134 39 [a0, a1, a2] (.ref r :: st) h Q = am_gfK h r 0 0 (fun w => wp S d 134 42 [a0, a1, a2] (w :: st) h Q) := wp_gf hc134 dX8_adapt_39 ho134 fl8_15
theorem e134_42 : wp S d 134 42 [a0, a1, a2] (.ref r :: st) h Q = am_gfK h r 1 3 (fun w => wp S d 134 45 [a0, a1, a2] (w :: st) h Q) := wp_gf hc134 dX8_adapt_42 ho134 fl8_106
theorem e134_45 : wp S d 134 45 [a0, a1, a2] st h Q = wp S d 134 46 [a0, a1, a2] (.int (nI 4) :: st) h Q := wp_p hc134 dX8_adapt_45 rfl
theorem e134_46 : wp S d 134 46 [a0, a1, a2] (.int y :: .int x :: st) h Q = if y ≤ x then wp S d 134 120 [a0, a1, a2] st h Q else wp S d 134 49 [a0, a1, a2] st h Q := wp_ge hc134 dX8_adapt_46 rfl
theorem e134_49 : wp S d 134 49 [some (.ref r), a1, a2] st h Q = wp S d 134 50 [some (.ref r), a1, a2] (.ref r :: st) h Q := wp_p hc134 dX8_adapt_49 rfl
theorem e134_50 : wp S d 134 50 [a0, a1, a2] (.ref r :: st) h Q = am_gfK h r 8 2 (fun w => wp S d 134 53 [a0, a1, a2] (w :: st) h Q) := wp_gf hc134 dX8_adapt_50 ho134 fl8_3
theorem e134_53 : wp S d 134 53 [a0, a1, a2] (.ref r :: st) h Q = am_gfK h r 0 0 (fun w => wp S d 134 56 [a0, a1, a2] (w :: st) h Q) := wp_gf hc134 dX8_adapt_53 ho134 fl8_15
theorem e134_56 : wp S d 134 56 [a0, a1, a2] (.ref r :: st) h Q = am_gfK h r 1 2 (fun w => wp S d 134 59 [a0, a1, a2] (w :: st) h Q) := wp_gf hc134 dX8_adapt_56 ho134 fl8_109
theorem e134_59 : wp S d 134 59 [some (.ref r), a1, a2] st h Q = wp S d 134 60 [some (.ref r), a1, a2] (.ref r :: st) h Q := wp_p hc134 dX8_adapt_59 rfl
theorem e134_60 : wp S d 134 60 [a0, a1, a2] (.ref r :: st) h Q = am_gfK h r 8 2 (fun w => wp S d 134 63 [a0, a1, a2] (w :: st) h Q) := wp_gf hc134 dX8_adapt_60 ho134 fl8_3
theorem e134_63 : wp S d 134 63 [a0, a1, a2] (.ref r :: st) h Q = am_gfK h r 0 0 (fun w => wp S d 134 66 [a0, a1, a2] (w :: st) h Q) := wp_gf hc134 dX8_adapt_63 ho134 fl8_15
theorem e134_66 : wp S d 134 66 [a0, a1, a2] (.ref r :: st) h Q = am_gfK h r 1 3 (fun w => wp S d 134 69 [a0, a1, a2] (w :: st) h Q) := wp_gf hc134 dX8_adapt_66 ho134 fl8_106
theorem e134_69 : wp S d 134 69 [some (.ref r), a1, a2] st h Q = wp S d 134 70 [some (.ref r), a1, a2] (.ref r :: st) h Q := wp_p hc134 dX8_adapt_69 rfl
theorem e134_70 : wp S d 134 70 [a0, a1, a2] (.ref r :: st) h Q = am_gfK h r 8 2 (fun w => wp S d 134 73 [a0, a1, a2] (w :: st) h Q) := wp_gf hc134 dX8_adapt_70 ho134 fl8_3
theorem e134_73 : wp S d 134 73 [a0, a1, a2] (.ref r :: st) h Q = am_gfK h r 0 0 (fun w => wp S d 134 76 [a0, a1, a2] (w :: st) h Q) := wp_gf hc134 dX8_adapt_73 ho134 fl8_15
theorem e134_76 : wp S d 134 76 [a0, a1, a2] (.ref r :: st) h Q = am_gfK h r 1 0 (fun w => wp S d 134 79 [a0, a1, a2] (w :: st) h Q) := wp_gf hc134 dX8_adapt_76 ho134 fl8_58
theorem e134_79 : wp S d 134 79 [a0, a1, some (.int x)] st h Q = wp S d 134 80 [a0, a1, some (.int x)] (.int x :: st) h Q := wp_p hc134 dX8_adapt_79 rfl
theorem e134_80 : wp S d 134 80 [a0, a1, a2] (.int x :: .ref r :: st) h Q = am_aaK h r x (fun w => wp S d 134 81 [a0, a1, a2] (w :: st) h Q) := wp_aa hc134 dX8_adapt_80
theorem e134_81 : wp S d 134 81 [a0, a1, a2] (w :: .int x :: .ref r :: st) h Q = am_asK h r x w (fun h => wp S d 134 82 [a0, a1, a2] st h Q) := wp_as hc134 dX8_adapt_81
theorem e134_82 : wp S d 134 82 [some (.ref r), a1, a2] st h Q = wp S d 134 83 [some (.ref r), a1, a2] (.ref r :: st) h Q := wp_p hc134 dX8_adapt_82 rfl
theorem e134_83 : wp S d 134 83 [a0, a1, a2] (.ref r :: st) h Q = am_gfK h r 8 2 (fun w => wp S d 134 86 [a0, a1, a2] (w :: st) h Q) := wp_gf hc134 dX8_adapt_83 ho134 fl8_3
theorem e134_86 : wp S d 134 86 [a0, a1, a2] (.ref r :: st) h Q = am_gfK h r 0 0 (fun w => wp S d 134 89 [a0, a1, a2] (w :: st) h Q) := wp_gf hc134 dX8_adapt_86 ho134 fl8_15
theorem e134_89 : wp S d 134 89 [a0, a1, a2] (.ref r :: st) h Q = am_gfK h r 1 4 (fun w => wp S d 134 92 [a0, a1, a2] (w :: st) h Q) := wp_gf hc134 dX8_adapt_89 ho134 fl8_103
theorem e134_92 : wp S d 134 92 [a0, a1, some (.int x)] st h Q = wp S d 134 93 [a0, a1, some (.int x)] (.int x :: st) h Q := wp_p hc134 dX8_adapt_92 rfl
theorem e134_93 : wp S d 134 93 [some (.ref r), a1, a2] st h Q = wp S d 134 94 [some (.ref r), a1, a2] (.ref r :: st) h Q := wp_p hc134 dX8_adapt_93 rfl
theorem e134_94 : wp S d 134 94 [a0, a1, a2] (.ref r :: st) h Q = am_gfK h r 8 2 (fun w => wp S d 134 97 [a0, a1, a2] (w :: st) h Q) := wp_gf hc134 dX8_adapt_94 ho134 fl8_3
theorem e134_97 : wp S d 134 97 [a0, a1, a2] (.ref r :: st) h Q = am_gfK h r 0 0 (fun w => wp S d 134 100 [a0, a1, a2] (w :: st) h Q) := wp_gf hc134 dX8_adapt_97 ho134 fl8_15
theorem e134_100 : wp S d 134 100 [a0, a1, a2] (.ref r :: st) h Q = am_gfK h r 1 3 (fun w => wp S d 134 103 [a0, a1, a2] (w :: st) h Q) := wp_gf hc134 dX8_adapt_100 ho134 fl8_106
theorem e134_103 : wp S d 134 103 [a0, a1, a2] (.int y :: .int x :: .ref r :: st) h Q = am_isK h r x y (fun h => wp S d 134 104 [a0, a1, a2] st h Q) := wp_is hc134 dX8_adapt_103
theorem e134_104 : wp S d 134 104 [some (.ref r), a1, a2] st h Q = wp S d 134 105 [some (.ref r), a1, a2] (.ref r :: st) h Q := wp_p hc134 dX8_adapt_104 rfl
theorem e134_105 : wp S d 134 105 [a0, a1, a2] (.ref r :: st) h Q = am_gfK h r 8 2 (fun w => wp S d 134 108 [a0, a1, a2] (w :: st) h Q) := wp_gf hc134 dX8_adapt_105 ho134 fl8_3
theorem e134_108 : wp S d 134 108 [a0, a1, a2] (.ref r :: st) h Q = am_gfK h r 0 0 (fun w => wp S d 134 111 [a0, a1, a2] (w :: st) h Q) := wp_gf hc134 dX8_adapt_108 ho134 fl8_15
theorem e134_111 : wp S d 134 111 [a0, a1, a2] (.ref r :: st) h Q = wp S d 134 112 [a0, a1, a2] (.ref r :: .ref r :: st) h Q := wp_p hc134 dX8_adapt_111 rfl
theorem e134_111i : wp S d 134 111 [a0, a1, a2] (.int x :: st) h Q = wp S d 134 112 [a0, a1, a2] (.int x :: .int x :: st) h Q := wp_p hc134 dX8_adapt_111 rfl
theorem e134_112 : wp S d 134 112 [a0, a1, a2] (.ref r :: st) h Q = am_gfK h r 1 3 (fun w => wp S d 134 115 [a0, a1, a2] (w :: st) h Q) := wp_gf hc134 dX8_adapt_112 ho134 fl8_106
theorem e134_115 : wp S d 134 115 [a0, a1, a2] st h Q = wp S d 134 116 [a0, a1, a2] (.int (nI 1) :: st) h Q := wp_p hc134 dX8_adapt_115 rfl
theorem e134_116 : wp S d 134 116 [a0, a1, a2] (.int y :: .int x :: st) h Q = wp S d 134 117 [a0, a1, a2] (.int (x + y) :: st) h Q := wp_p hc134 dX8_adapt_116 rfl
theorem e134_117 : wp S d 134 117 [a0, a1, a2] (w :: .ref r :: st) h Q = am_pfK 134 h r 1 3 true w (fun h => wp S d 134 120 [a0, a1, a2] st h Q) := wp_pf hc134 dX8_adapt_117 ho134 fl8_106
theorem e134_120 : wp S d 134 120 [some (.ref r), a1, a2] st h Q = wp S d 134 121 [some (.ref r), a1, a2] (.ref r :: st) h Q := wp_p hc134 dX8_adapt_120 rfl
theorem e134_121 : wp S d 134 121 [a0, a1, a2] (.ref r :: st) h Q = am_gfK h r 8 2 (fun w => wp S d 134 124 [a0, a1, a2] (w :: st) h Q) := wp_gf hc134 dX8_adapt_121 ho134 fl8_3
theorem e134_124 : wp S d 134 124 [a0, a1, a2] (.ref r :: st) h Q = am_gfK h r 0 0 (fun w => wp S d 134 127 [a0, a1, a2] (w :: st) h Q) := wp_gf hc134 dX8_adapt_124 ho134 fl8_15
theorem e134_127 : wp S d 134 127 [a0, a1, a2] (.ref r :: st) h Q = am_gfK h r 1 6 (fun w => wp S d 134 130 [a0, a1, a2] (w :: st) h Q) := wp_gf hc134 dX8_adapt_127 ho134 fl8_100
theorem e134_130 : wp S d 134 130 [a0, a1, a2] (.int x :: st) h Q = if x = 0 then wp S d 134 149 [a0, a1, a2] st h Q else wp S d 134 133 [a0, a1, a2] st h Q := wp_eq hc134 dX8_adapt_130 rfl
theorem e134_133 : wp S d 134 133 [some (.ref r), a1, a2] st h Q = wp S d 134 134 [some (.ref r), a1, a2] (.ref r :: st) h Q := wp_p hc134 dX8_adapt_133 rfl
theorem e134_134 : wp S d 134 134 [a0, a1, a2] (.ref r :: st) h Q = am_gfK h r 8 2 (fun w => wp S d 134 137 [a0, a1, a2] (w :: st) h Q) := wp_gf hc134 dX8_adapt_134 ho134 fl8_3
theorem e134_137 : wp S d 134 137 [a0, a1, a2] (.ref r :: st) h Q = am_gfK h r 0 0 (fun w => wp S d 134 140 [a0, a1, a2] (w :: st) h Q) := wp_gf hc134 dX8_adapt_137 ho134 fl8_15
theorem e134_140 : wp S d 134 140 [a0, a1, a2] (.ref r :: st) h Q = am_gfK h r 1 4 (fun w => wp S d 134 143 [a0, a1, a2] (w :: st) h Q) := wp_gf hc134 dX8_adapt_140 ho134 fl8_103
theorem e134_143 : wp S d 134 143 [a0, a1, some (.int x)] st h Q = wp S d 134 144 [a0, a1, some (.int x)] (.int x :: st) h Q := wp_p hc134 dX8_adapt_143 rfl
theorem e134_144 : wp S d 134 144 [a0, a1, a2] (.int x :: .ref r :: st) h Q = am_iaK h r x (fun z => wp S d 134 145 [a0, a1, a2] (.int z :: st) h Q) := wp_ia hc134 dX8_adapt_144
theorem e134_145 : wp S d 134 145 [a0, a1, a2] st h Q = wp S d 134 146 [a0, a1, a2] (.int ((-1)) :: st) h Q := wp_p hc134 dX8_adapt_145 rfl
theorem e134_146 : wp S d 134 146 [a0, a1, a2] (.int y :: .int x :: st) h Q = if x = y then wp S d 134 149 [a0, a1, a2] st h Q else wp S d 134 175 [a0, a1, a2] st h Q := wp_ne hc134 dX8_adapt_146 rfl
theorem e134_149 : wp S d 134 149 [some (.ref r), a1, a2] st h Q = wp S d 134 150 [some (.ref r), a1, a2] (.ref r :: st) h Q := wp_p hc134 dX8_adapt_149 rfl
theorem e134_150 : wp S d 134 150 [a0, some (.ref r), a2] st h Q = wp S d 134 151 [a0, some (.ref r), a2] (.ref r :: st) h Q := wp_p hc134 dX8_adapt_150 rfl
theorem e134_151 : wp S d 134 151 [some (.ref r), a1, a2] st h Q = wp S d 134 152 [some (.ref r), a1, a2] (.ref r :: st) h Q := wp_p hc134 dX8_adapt_151 rfl
theorem e134_152 : wp S d 134 152 [a0, a1, a2] (.ref r :: st) h Q = am_gfK h r 8 2 (fun w => wp S d 134 155 [a0, a1, a2] (w :: st) h Q) := wp_gf hc134 dX8_adapt_152 ho134 fl8_3
theorem e134_155 : wp S d 134 155 [a0, a1, a2] (.ref r :: st) h Q = am_gfK h r 0 0 (fun w => wp S d 134 158 [a0, a1, a2] (w :: st) h Q) := wp_gf hc134 dX8_adapt_155 ho134 fl8_15
theorem e134_158 : wp S d 134 158 [a0, a1, a2] (.ref r :: st) h Q = am_gfK h r 1 5 (fun w => wp S d 134 161 [a0, a1, a2] (w :: st) h Q) := wp_gf hc134 dX8_adapt_158 ho134 fl8_78
theorem e134_161 : wp S d 134 161 [a0, a1, some (.int x)] st h Q = wp S d 134 162 [a0, a1, some (.int x)] (.int x :: st) h Q := wp_p hc134 dX8_adapt_161 rfl
theorem e134_162 : wp S d 134 162 [a0, a1, a2] (.int x :: .ref r :: st) h Q = am_aaK h r x (fun w => wp S d 134 163 [a0, a1, a2] (w :: st) h Q) := wp_aa hc134 dX8_adapt_162
theorem e134_163 : wp S d 134 163 [a0, a1, a2] (.ref r :: st) h Q = wp S d 134 170 [a0, a1, a2] st h Q := wp_p hc134 dX8_adapt_163 rfl
theorem e134_163n : wp S d 134 163 [a0, a1, a2] (.null :: st) h Q = wp S d 134 166 [a0, a1, a2] st h Q := wp_p hc134 dX8_adapt_163 rfl
theorem e134_163k (hr : r < 10) : wp S d 134 163 [a0, a1, a2] (.retAddr r :: st) h Q = wp S d 134 170 [a0, a1, a2] st h Q := wp_p hc134 dX8_adapt_163 (if_pos hr)
theorem e134_166 : wp S d 134 166 [a0, a1, a2] st h Q = wp S d 134 167 [a0, a1, a2] (.int (nI 2) :: st) h Q := wp_p hc134 dX8_adapt_166 rfl
theorem e134_167 : wp S d 134 167 [a0, a1, a2] st h Q = wp S d 134 171 [a0, a1, a2] st h Q := wp_p hc134 dX8_adapt_167 rfl
theorem e134_170 : wp S d 134 170 [a0, a1, a2] st h Q = wp S d 134 171 [a0, a1, a2] (.int (nI 3) :: st) h Q := wp_p hc134 dX8_adapt_170 rfl
theorem e134_171 : wp S (d + 1) 134 171 [a0, a1, a2] (.int x2 :: .ref r1 :: .ref r0 :: st) h Q = (am_w8 st ∧ am_rcv h 2 133 (.ref r0) = true ∧ wp S d 133 0 [some (.ref r0), some (.ref r1), some (.int x2)] [] h (am_kr S 2 (d + 1) 134 171 [a0, a1, a2] st Q)) := wp_cV (.ref r0) [.ref r1, .int x2] hc134 dX8_adapt_171 ho134 cl8_67 (by decide) ns8_67 hst133 hnp133 hml133 hlsl133 rfl rfl rfl
theorem e134_174 : wp S d 134 174 ls [.ref r] h Q = Q (.inl (some (.ref r)), h) := wp_r hc134 dX8_adapt_174 rfl rfl ⟨_, rfl, Or.inr ⟨_, rfl⟩, ⟨_, rfl, Or.inl ⟨_, rfl⟩⟩, rfl⟩
theorem e134_175 : wp S d 134 175 [some (.ref r), a1, a2] st h Q = wp S d 134 176 [some (.ref r), a1, a2] (.ref r :: st) h Q := wp_p hc134 dX8_adapt_175 rfl
theorem e134_176 : wp S d 134 176 [a0, a1, a2] (.ref r :: st) h Q = wp S d 134 177 [a0, a1, a2] (.ref r :: .ref r :: st) h Q := wp_p hc134 dX8_adapt_176 rfl
theorem e134_176i : wp S d 134 176 [a0, a1, a2] (.int x :: st) h Q = wp S d 134 177 [a0, a1, a2] (.int x :: .int x :: st) h Q := wp_p hc134 dX8_adapt_176 rfl
theorem e134_177 : wp S d 134 177 [a0, a1, a2] (.ref r :: st) h Q = am_gfK h r 8 1 (fun w => wp S d 134 180 [a0, a1, a2] (w :: st) h Q) := wp_gf hc134 dX8_adapt_177 ho134 fl8_97
theorem e134_180 : wp S d 134 180 [a0, a1, a2] st h Q = wp S d 134 181 [a0, a1, a2] (.int (nI 1) :: st) h Q := wp_p hc134 dX8_adapt_180 rfl
theorem e134_181 : wp S d 134 181 [a0, a1, a2] (.int y :: .int x :: st) h Q = wp S d 134 182 [a0, a1, a2] (.int (x + y) :: st) h Q := wp_p hc134 dX8_adapt_181 rfl
theorem e134_182 : wp S d 134 182 [a0, a1, a2] (w :: .ref r :: st) h Q = am_pfK 134 h r 8 1 false w (fun h => wp S d 134 185 [a0, a1, a2] st h Q) := wp_pf hc134 dX8_adapt_182 ho134 fl8_97
theorem e134_185 : wp S d 134 185 [a0, a1, a2] st h Q = wp S d 134 188 [a0, a1, a2] (.ref h.length :: st) (h ++ [.inr (.inr (2, am_dft 2))]) Q := wp_nw hc134 dX8_adapt_185 ho134 nw8_26
theorem e134_188 : wp S d 134 188 [a0, a1, a2] (.ref r :: st) h Q = wp S d 134 189 [a0, a1, a2] (.ref r :: .ref r :: st) h Q := wp_p hc134 dX8_adapt_188 rfl
theorem e134_188i : wp S d 134 188 [a0, a1, a2] (.int x :: st) h Q = wp S d 134 189 [a0, a1, a2] (.int x :: .int x :: st) h Q := wp_p hc134 dX8_adapt_188 rfl
theorem e134_189 : wp S d 134 189 [a0, a1, a2] st h Q = wp S d 134 190 [a0, a1, a2] (.int (nI 4) :: st) h Q := wp_p hc134 dX8_adapt_189 rfl
theorem e134_190 : wp S d 134 190 [some (.ref r), a1, a2] st h Q = wp S d 134 191 [some (.ref r), a1, a2] (.ref r :: st) h Q := wp_p hc134 dX8_adapt_190 rfl
theorem e134_191 : wp S d 134 191 [a0, a1, a2] (.ref r :: st) h Q = am_gfK h r 8 2 (fun w => wp S d 134 194 [a0, a1, a2] (w :: st) h Q) := wp_gf hc134 dX8_adapt_191 ho134 fl8_3
theorem e134_194 : wp S d 134 194 [a0, a1, a2] (.ref r :: st) h Q = am_gfK h r 0 0 (fun w => wp S d 134 197 [a0, a1, a2] (w :: st) h Q) := wp_gf hc134 dX8_adapt_194 ho134 fl8_15
theorem e134_197 : wp S d 134 197 [a0, a1, a2] (.ref r :: st) h Q = am_gfK h r 1 4 (fun w => wp S d 134 200 [a0, a1, a2] (w :: st) h Q) := wp_gf hc134 dX8_adapt_197 ho134 fl8_103
theorem e134_200 : wp S d 134 200 [a0, a1, some (.int x)] st h Q = wp S d 134 201 [a0, a1, some (.int x)] (.int x :: st) h Q := wp_p hc134 dX8_adapt_200 rfl
theorem e134_201 : wp S d 134 201 [a0, a1, a2] (.int x :: .ref r :: st) h Q = am_iaK h r x (fun z => wp S d 134 202 [a0, a1, a2] (.int z :: st) h Q) := wp_ia hc134 dX8_adapt_201
theorem e134_202 : wp S d 134 202 [a0, some (.ref r), a2] st h Q = wp S d 134 203 [a0, some (.ref r), a2] (.ref r :: st) h Q := wp_p hc134 dX8_adapt_202 rfl
theorem e134_203 : wp S d 134 203 [a0, a1, a2] (.ref r :: st) h Q = am_gfK h r 2 2 (fun w => wp S d 134 206 [a0, a1, a2] (w :: st) h Q) := wp_gf hc134 dX8_adapt_203 ho134 fl8_34
theorem e134_206 : wp S (d + 1) 134 206 [a0, a1, a2] (.ref r3 :: .int x2 :: .int x1 :: .ref r0 :: st) h Q = (am_w8 st ∧ am_rcv h 4 42 (.ref r0) = true ∧ wp S d 42 0 [some (.ref r0), some (.int x1), some (.int x2), some (.ref r3), none, none, none, none, none] [] h (am_kr S 4 (d + 1) 134 206 [a0, a1, a2] st Q)) := wp_cI (.ref r0) [.int x1, .int x2, .ref r3] hc134 dX8_adapt_206 ho134 cl8_48 (by decide) ns8_48 hst42 hnp42 hml42 hlsl42 rfl rfl rfl
theorem e134_209 : wp S d 134 209 ls [.ref r] h Q = Q (.inl (some (.ref r)), h) := wp_r hc134 dX8_adapt_209 rfl rfl ⟨_, rfl, Or.inr ⟨_, rfl⟩, ⟨_, rfl, Or.inl ⟨_, rfl⟩⟩, rfl⟩
theorem e135_0 : wp S d 135 0 [a0, a1, a2, a3, a4, a5, a6, a7, a8, a9] st h Q = wp S d 135 1 [a0, a1, a2, a3, a4, a5, a6, a7, a8, a9] (.int (nI 0) :: st) h Q := wp_p hc135 dX8_reason_0 rfl
theorem e135_1 : wp S d 135 1 [a0, a1, a2, a3, a4, a5, a6, a7, a8, a9] (.int x :: st) h Q = wp S d 135 3 [a0, a1, a2, a3, some (.int x), a5, a6, a7, a8, a9] st h Q := wp_p hc135 dX8_reason_1 rfl
theorem e135_3 : wp S d 135 3 [a0, a1, a2, a3, a4, a5, a6, a7, a8, a9] st h Q = wp S d 135 4 [a0, a1, a2, a3, a4, a5, a6, a7, a8, a9] (.int (nI 0) :: st) h Q := wp_p hc135 dX8_reason_3 rfl
theorem e135_4 : wp S d 135 4 [a0, a1, a2, a3, a4, a5, a6, a7, a8, a9] (.int x :: st) h Q = wp S d 135 6 [a0, a1, a2, a3, a4, some (.int x), a6, a7, a8, a9] st h Q := wp_p hc135 dX8_reason_4 rfl
theorem e135_6 : wp S d 135 6 [a0, a1, a2, a3, a4, a5, a6, a7, a8, a9] st h Q = wp S d 135 7 [a0, a1, a2, a3, a4, a5, a6, a7, a8, a9] (.int (nI 0) :: st) h Q := wp_p hc135 dX8_reason_6 rfl
theorem e135_7 : wp S d 135 7 [a0, a1, a2, a3, a4, a5, a6, a7, a8, a9] (.int x :: st) h Q = wp S d 135 9 [a0, a1, a2, a3, a4, a5, some (.int x), a7, a8, a9] st h Q := wp_p hc135 dX8_reason_7 rfl
theorem e135_9 : wp S d 135 9 [a0, a1, a2, a3, a4, a5, a6, a7, a8, a9] st h Q = wp S d 135 10 [a0, a1, a2, a3, a4, a5, a6, a7, a8, a9] (.int (nI 0) :: st) h Q := wp_p hc135 dX8_reason_9 rfl
theorem e135_10 : wp S d 135 10 [a0, a1, a2, a3, a4, a5, a6, a7, a8, a9] (.int x :: st) h Q = wp S d 135 12 [a0, a1, a2, a3, a4, a5, a6, some (.int x), a8, a9] st h Q := wp_p hc135 dX8_reason_10 rfl
theorem e135_12 : wp S d 135 12 [a0, a1, a2, a3, a4, a5, a6, some (.int x), a8, a9] st h Q = wp S d 135 14 [a0, a1, a2, a3, a4, a5, a6, some (.int x), a8, a9] (.int x :: st) h Q := wp_p hc135 dX8_reason_12 rfl
theorem e135_14 : wp S d 135 14 [a0, some (.ref r), a2, a3, a4, a5, a6, a7, a8, a9] st h Q = wp S d 135 15 [a0, some (.ref r), a2, a3, a4, a5, a6, a7, a8, a9] (.ref r :: st) h Q := wp_p hc135 dX8_reason_14 rfl
theorem e135_15 : wp S d 135 15 [a0, a1, a2, a3, a4, a5, a6, a7, a8, a9] (.ref r :: st) h Q = am_gfK h r 2 2 (fun w => wp S d 135 18 [a0, a1, a2, a3, a4, a5, a6, a7, a8, a9] (w :: st) h Q) := wp_gf hc135 dX8_reason_15 ho135 fl8_34
theorem e135_18 : wp S d 135 18 [a0, a1, a2, a3, a4, a5, a6, a7, a8, a9] (.ref r :: st) h Q = am_alK h r (fun n => wp S d 135 19 [a0, a1, a2, a3, a4, a5, a6, a7, a8, a9] (.int (nI n) :: st) h Q) := wp_al hc135 dX8_reason_18
theorem e135_19 : wp S d 135 19 [a0, a1, a2, a3, a4, a5, a6, a7, a8, a9] (.int y :: .int x :: st) h Q = if y ≤ x then wp S d 135 157 [a0, a1, a2, a3, a4, a5, a6, a7, a8, a9] st h Q else wp S d 135 22 [a0, a1, a2, a3, a4, a5, a6, a7, a8, a9] st h Q := wp_ge hc135 dX8_reason_19 rfl
theorem e135_22 : wp S d 135 22 [some (.ref r), a1, a2, a3, a4, a5, a6, a7, a8, a9] st h Q = wp S d 135 23 [some (.ref r), a1, a2, a3, a4, a5, a6, a7, a8, a9] (.ref r :: st) h Q := wp_p hc135 dX8_reason_22 rfl
theorem e135_23 : wp S d 135 23 [a0, a1, a2, a3, a4, a5, a6, a7, a8, a9] (.ref r :: st) h Q = am_gfK h r 8 2 (fun w => wp S d 135 26 [a0, a1, a2, a3, a4, a5, a6, a7, a8, a9] (w :: st) h Q) := wp_gf hc135 dX8_reason_23 ho135 fl8_3
theorem e135_26 : wp S d 135 26 [a0, a1, a2, a3, a4, a5, a6, a7, a8, a9] (.ref r :: st) h Q = am_gfK h r 0 0 (fun w => wp S d 135 29 [a0, a1, a2, a3, a4, a5, a6, a7, a8, a9] (w :: st) h Q) := wp_gf hc135 dX8_reason_26 ho135 fl8_15
theorem e135_29 : wp S d 135 29 [a0, some (.ref r), a2, a3, a4, a5, a6, a7, a8, a9] st h Q = wp S d 135 30 [a0, some (.ref r), a2, a3, a4, a5, a6, a7, a8, a9] (.ref r :: st) h Q := wp_p hc135 dX8_reason_29 rfl
theorem e135_30 : wp S d 135 30 [a0, a1, a2, a3, a4, a5, a6, a7, a8, a9] (.ref r :: st) h Q = am_gfK h r 2 2 (fun w => wp S d 135 33 [a0, a1, a2, a3, a4, a5, a6, a7, a8, a9] (w :: st) h Q) := wp_gf hc135 dX8_reason_30 ho135 fl8_34
theorem e135_33 : wp S d 135 33 [a0, a1, a2, a3, a4, a5, a6, some (.int x), a8, a9] st h Q = wp S d 135 35 [a0, a1, a2, a3, a4, a5, a6, some (.int x), a8, a9] (.int x :: st) h Q := wp_p hc135 dX8_reason_33 rfl
theorem e135_35 : wp S d 135 35 [a0, a1, a2, a3, a4, a5, a6, a7, a8, a9] (.int x :: .ref r :: st) h Q = am_aaK h r x (fun w => wp S d 135 36 [a0, a1, a2, a3, a4, a5, a6, a7, a8, a9] (w :: st) h Q) := wp_aa hc135 dX8_reason_35
theorem e135_36 : wp S (d + 1) 135 36 [a0, a1, a2, a3, a4, a5, a6, a7, a8, a9] (.ref r1 :: .ref r0 :: st) h Q = (am_w8 st ∧ am_rcv h 2 39 (.ref r0) = true ∧ wp S d 39 0 [some (.ref r0), some (.ref r1), none, none, none, none, none] [] h (am_kr S 2 (d + 1) 135 36 [a0, a1, a2, a3, a4, a5, a6, a7, a8, a9] st Q)) := wp_cV (.ref r0) [.ref r1] hc135 dX8_reason_36 ho135 cl8_112 (by decide) ns8_112 hst39 hnp39 hml39 hlsl39 rfl rfl rfl
theorem e135_39 : wp S d 135 39 [a0, a1, a2, a3, a4, a5, a6, a7, a8, a9] (.int x :: st) h Q = if x = 0 then wp S d 135 151 [a0, a1, a2, a3, a4, a5, a6, a7, a8, a9] st h Q else wp S d 135 42 [a0, a1, a2, a3, a4, a5, a6, a7, a8, a9] st h Q := wp_eq hc135 dX8_reason_39 rfl
theorem e135_42 : wp S d 135 42 [a0, a1, a2, a3, a4, a5, a6, a7, a8, a9] st h Q = wp S d 135 43 [a0, a1, a2, a3, a4, a5, a6, a7, a8, a9] (.int (nI 0) :: st) h Q := wp_p hc135 dX8_reason_42 rfl
theorem e135_43 : wp S d 135 43 [a0, a1, a2, a3, a4, a5, a6, a7, a8, a9] (.int x :: st) h Q = wp S d 135 45 [a0, a1, a2, a3, a4, a5, a6, a7, some (.int x), a9] st h Q := wp_p hc135 dX8_reason_43 rfl
theorem e135_45 : wp S d 135 45 [a0, a1, a2, a3, a4, a5, a6, a7, a8, a9] st h Q = wp S d 135 46 [a0, a1, a2, a3, a4, a5, a6, a7, a8, a9] (.int (nI 0) :: st) h Q := wp_p hc135 dX8_reason_45 rfl
theorem e135_46 : wp S d 135 46 [a0, a1, a2, a3, a4, a5, a6, a7, a8, a9] (.int x :: st) h Q = wp S d 135 48 [a0, a1, a2, a3, a4, a5, a6, a7, a8, some (.int x)] st h Q := wp_p hc135 dX8_reason_46 rfl
theorem e135_48 : wp S d 135 48 [a0, a1, a2, a3, a4, a5, a6, a7, a8, some (.int x)] st h Q = wp S d 135 50 [a0, a1, a2, a3, a4, a5, a6, a7, a8, some (.int x)] (.int x :: st) h Q := wp_p hc135 dX8_reason_48 rfl
theorem e135_50 : wp S d 135 50 [a0, a1, a2, some (.int x), a4, a5, a6, a7, a8, a9] st h Q = wp S d 135 51 [a0, a1, a2, some (.int x), a4, a5, a6, a7, a8, a9] (.int x :: st) h Q := wp_p hc135 dX8_reason_50 rfl
theorem e135_51 : wp S d 135 51 [a0, a1, a2, a3, a4, a5, a6, a7, a8, a9] (.int y :: .int x :: st) h Q = if y ≤ x then wp S d 135 120 [a0, a1, a2, a3, a4, a5, a6, a7, a8, a9] st h Q else wp S d 135 54 [a0, a1, a2, a3, a4, a5, a6, a7, a8, a9] st h Q := wp_ge hc135 dX8_reason_51 rfl
theorem e135_54 : wp S d 135 54 [a0, a1, a2, a3, a4, a5, a6, a7, some (.int x), a9] st h Q = wp S d 135 56 [a0, a1, a2, a3, a4, a5, a6, a7, some (.int x), a9] (.int x :: st) h Q := wp_p hc135 dX8_reason_54 rfl
theorem e135_56 : wp S d 135 56 [a0, a1, some (.ref r), a3, a4, a5, a6, a7, a8, a9] st h Q = wp S d 135 57 [a0, a1, some (.ref r), a3, a4, a5, a6, a7, a8, a9] (.ref r :: st) h Q := wp_p hc135 dX8_reason_56 rfl
theorem e135_57 : wp S d 135 57 [a0, a1, a2, a3, a4, a5, a6, a7, a8, a9] (.ref r :: st) h Q = am_gfK h r 6 1 (fun w => wp S d 135 60 [a0, a1, a2, a3, a4, a5, a6, a7, a8, a9] (w :: st) h Q) := wp_gf hc135 dX8_reason_57 ho135 fl8_94
theorem e135_60 : wp S d 135 60 [a0, a1, a2, a3, a4, a5, a6, a7, a8, some (.int x)] st h Q = wp S d 135 62 [a0, a1, a2, a3, a4, a5, a6, a7, a8, some (.int x)] (.int x :: st) h Q := wp_p hc135 dX8_reason_60 rfl
theorem e135_62 : wp S d 135 62 [a0, a1, a2, a3, a4, a5, a6, a7, a8, a9] (.int x :: .ref r :: st) h Q = am_iaK h r x (fun z => wp S d 135 63 [a0, a1, a2, a3, a4, a5, a6, a7, a8, a9] (.int z :: st) h Q) := wp_ia hc135 dX8_reason_62
theorem e135_63 : wp S d 135 63 [a0, a1, a2, a3, a4, a5, a6, a7, a8, a9] st h Q = wp S d 135 64 [a0, a1, a2, a3, a4, a5, a6, a7, a8, a9] (.int ((-1)) :: st) h Q := wp_p hc135 dX8_reason_63 rfl
theorem e135_64 : wp S d 135 64 [a0, a1, a2, a3, a4, a5, a6, some (.int x), a8, a9] st h Q = wp S d 135 66 [a0, a1, a2, a3, a4, a5, a6, some (.int x), a8, a9] (.int x :: st) h Q := wp_p hc135 dX8_reason_64 rfl
theorem e135_66 : wp S d 135 66 [a0, a1, a2, a3, a4, a5, a6, a7, a8, a9] (.int y :: .int x :: st) h Q = wp S d 135 67 [a0, a1, a2, a3, a4, a5, a6, a7, a8, a9] (.int (x - y) :: st) h Q := wp_p hc135 dX8_reason_66 rfl
theorem e135_67 : wp S d 135 67 [a0, a1, a2, a3, a4, a5, a6, a7, a8, a9] (.int y :: .int x :: st) h Q = if x = y then wp S d 135 70 [a0, a1, a2, a3, a4, a5, a6, a7, a8, a9] st h Q else wp S d 135 74 [a0, a1, a2, a3, a4, a5, a6, a7, a8, a9] st h Q := wp_ne hc135 dX8_reason_67 rfl
theorem e135_70 : wp S d 135 70 [a0, a1, a2, a3, a4, a5, a6, a7, a8, a9] st h Q = wp S d 135 71 [a0, a1, a2, a3, a4, a5, a6, a7, a8, a9] (.int (nI 1) :: st) h Q := wp_p hc135 dX8_reason_70 rfl
theorem e135_71 : wp S d 135 71 [a0, a1, a2, a3, a4, a5, a6, a7, a8, a9] st h Q = wp S d 135 75 [a0, a1, a2, a3, a4, a5, a6, a7, a8, a9] st h Q := wp_p hc135 dX8_reason_71 rfl
theorem e135_74 : wp S d 135 74 [a0, a1, a2, a3, a4, a5, a6, a7, a8, a9] st h Q = wp S d 135 75 [a0, a1, a2, a3, a4, a5, a6, a7, a8, a9] (.int (nI 0) :: st) h Q := wp_p hc135 dX8_reason_74 rfl
theorem e135_75 : wp S d 135 75 [a0, a1, a2, a3, a4, a5, a6, a7, a8, a9] (.int y :: .int x :: st) h Q = wp S d 135 76 [a0, a1, a2, a3, a4, a5, a6, a7, a8, a9] (.int (x + y) :: st) h Q := wp_p hc135 dX8_reason_75 rfl
theorem e135_76 : wp S d 135 76 [a0, a1, a2, a3, a4, a5, a6, a7, a8, a9] (.int x :: st) h Q = wp S d 135 78 [a0, a1, a2, a3, a4, a5, a6, a7, some (.int x), a9] st h Q := wp_p hc135 dX8_reason_76 rfl
theorem e135_78 : wp S d 135 78 [a0, a1, a2, a3, a4, a5, some (.int x), a7, a8, a9] st h Q = wp S d 135 80 [a0, a1, a2, a3, a4, a5, some (.int x), a7, a8, a9] (.int x :: st) h Q := wp_p hc135 dX8_reason_78 rfl
theorem e135_80 : wp S d 135 80 [a0, a1, some (.ref r), a3, a4, a5, a6, a7, a8, a9] st h Q = wp S d 135 81 [a0, a1, some (.ref r), a3, a4, a5, a6, a7, a8, a9] (.ref r :: st) h Q := wp_p hc135 dX8_reason_80 rfl
theorem e135_81 : wp S d 135 81 [a0, a1, a2, a3, a4, a5, a6, a7, a8, a9] (.ref r :: st) h Q = am_gfK h r 6 1 (fun w => wp S d 135 84 [a0, a1, a2, a3, a4, a5, a6, a7, a8, a9] (w :: st) h Q) := wp_gf hc135 dX8_reason_81 ho135 fl8_94
theorem e135_84 : wp S d 135 84 [a0, a1, a2, a3, a4, a5, a6, a7, a8, some (.int x)] st h Q = wp S d 135 86 [a0, a1, a2, a3, a4, a5, a6, a7, a8, some (.int x)] (.int x :: st) h Q := wp_p hc135 dX8_reason_84 rfl
theorem e135_86 : wp S d 135 86 [a0, a1, a2, a3, a4, a5, a6, a7, a8, a9] (.int x :: .ref r :: st) h Q = am_iaK h r x (fun z => wp S d 135 87 [a0, a1, a2, a3, a4, a5, a6, a7, a8, a9] (.int z :: st) h Q) := wp_ia hc135 dX8_reason_86
theorem e135_87 : wp S d 135 87 [a0, a1, a2, a3, a4, a5, a6, a7, a8, a9] st h Q = wp S d 135 88 [a0, a1, a2, a3, a4, a5, a6, a7, a8, a9] (.int ((-1)) :: st) h Q := wp_p hc135 dX8_reason_87 rfl
theorem e135_88 : wp S d 135 88 [a0, a1, a2, a3, a4, a5, a6, some (.int x), a8, a9] st h Q = wp S d 135 90 [a0, a1, a2, a3, a4, a5, a6, some (.int x), a8, a9] (.int x :: st) h Q := wp_p hc135 dX8_reason_88 rfl
theorem e135_90 : wp S d 135 90 [a0, a1, a2, a3, a4, a5, a6, a7, a8, a9] (.int y :: .int x :: st) h Q = wp S d 135 91 [a0, a1, a2, a3, a4, a5, a6, a7, a8, a9] (.int (x - y) :: st) h Q := wp_p hc135 dX8_reason_90 rfl
theorem e135_91 : wp S d 135 91 [a0, a1, a2, a3, a4, a5, a6, a7, a8, a9] (.int y :: .int x :: st) h Q = if x = y then wp S d 135 94 [a0, a1, a2, a3, a4, a5, a6, a7, a8, a9] st h Q else wp S d 135 110 [a0, a1, a2, a3, a4, a5, a6, a7, a8, a9] st h Q := wp_ne hc135 dX8_reason_91 rfl
theorem e135_94 : wp S d 135 94 [some (.ref r), a1, a2, a3, a4, a5, a6, a7, a8, a9] st h Q = wp S d 135 95 [some (.ref r), a1, a2, a3, a4, a5, a6, a7, a8, a9] (.ref r :: st) h Q := wp_p hc135 dX8_reason_94 rfl
theorem e135_95 : wp S d 135 95 [a0, some (.ref r), a2, a3, a4, a5, a6, a7, a8, a9] st h Q = wp S d 135 96 [a0, some (.ref r), a2, a3, a4, a5, a6, a7, a8, a9] (.ref r :: st) h Q := wp_p hc135 dX8_reason_95 rfl
theorem e135_96 : wp S d 135 96 [a0, a1, some (.ref r), a3, a4, a5, a6, a7, a8, a9] st h Q = wp S d 135 97 [a0, a1, some (.ref r), a3, a4, a5, a6, a7, a8, a9] (.ref r :: st) h Q := wp_p hc135 dX8_reason_96 rfl
theorem e135_97 : wp S d 135 97 [a0, a1, a2, a3, a4, a5, a6, a7, a8, some (.int x)] st h Q = wp S d 135 99 [a0, a1, a2, a3, a4, a5, a6, a7, a8, some (.int x)] (.int x :: st) h Q := wp_p hc135 dX8_reason_97 rfl
theorem e135_99 : wp S d 135 99 [a0, a1, a2, some (.int x), a4, a5, a6, a7, a8, a9] st h Q = wp S d 135 100 [a0, a1, a2, some (.int x), a4, a5, a6, a7, a8, a9] (.int x :: st) h Q := wp_p hc135 dX8_reason_99 rfl
theorem e135_100 : wp S (d + 1) 135 100 [a0, a1, a2, a3, a4, a5, a6, a7, a8, a9] (.int x4 :: .int x3 :: .ref r2 :: .ref r1 :: .ref r0 :: st) h Q = (am_w8 st ∧ am_rcv h 2 136 (.ref r0) = true ∧ wp S d 136 0 [some (.ref r0), some (.ref r1), some (.ref r2), some (.int x3), some (.int x4), none, none, none] [] h (am_kr S 2 (d + 1) 135 100 [a0, a1, a2, a3, a4, a5, a6, a7, a8, a9] st Q)) := wp_cV (.ref r0) [.ref r1, .ref r2, .int x3, .int x4] hc135 dX8_reason_100 ho135 cl8_116 (by decide) ns8_116 hst136 hnp136 hml136 hlsl136 rfl rfl rfl
theorem e135_103 : wp S d 135 103 [a0, a1, a2, a3, a4, a5, a6, a7, a8, a9] (.int x :: st) h Q = if x = 0 then wp S d 135 110 [a0, a1, a2, a3, a4, a5, a6, a7, a8, a9] st h Q else wp S d 135 106 [a0, a1, a2, a3, a4, a5, a6, a7, a8, a9] st h Q := wp_eq hc135 dX8_reason_103 rfl
theorem e135_106 : wp S d 135 106 [a0, a1, a2, a3, a4, a5, a6, a7, a8, a9] st h Q = wp S d 135 107 [a0, a1, a2, a3, a4, a5, a6, a7, a8, a9] (.int (nI 1) :: st) h Q := wp_p hc135 dX8_reason_106 rfl
theorem e135_107 : wp S d 135 107 [a0, a1, a2, a3, a4, a5, a6, a7, a8, a9] st h Q = wp S d 135 111 [a0, a1, a2, a3, a4, a5, a6, a7, a8, a9] st h Q := wp_p hc135 dX8_reason_107 rfl
theorem e135_110 : wp S d 135 110 [a0, a1, a2, a3, a4, a5, a6, a7, a8, a9] st h Q = wp S d 135 111 [a0, a1, a2, a3, a4, a5, a6, a7, a8, a9] (.int (nI 0) :: st) h Q := wp_p hc135 dX8_reason_110 rfl
theorem e135_111 : wp S d 135 111 [a0, a1, a2, a3, a4, a5, a6, a7, a8, a9] (.int y :: .int x :: st) h Q = wp S d 135 112 [a0, a1, a2, a3, a4, a5, a6, a7, a8, a9] (.int (x ||| y) :: st) h Q := wp_p hc135 dX8_reason_111 rfl
theorem e135_112 : wp S d 135 112 [a0, a1, a2, a3, a4, a5, a6, a7, a8, a9] (.int x :: st) h Q = wp S d 135 114 [a0, a1, a2, a3, a4, a5, some (.int x), a7, a8, a9] st h Q := wp_p hc135 dX8_reason_112 rfl
theorem e135_114 : wp S d 135 114 [a0, a1, a2, a3, a4, a5, a6, a7, a8, some (.int x)] st h Q = wp S d 135 117 [a0, a1, a2, a3, a4, a5, a6, a7, a8, some (.int (x + nI 1))] st h Q := wp_p hc135 dX8_reason_114 rfl
theorem e135_117 : wp S d 135 117 [a0, a1, a2, a3, a4, a5, a6, a7, a8, a9] st h Q = wp S d 135 48 [a0, a1, a2, a3, a4, a5, a6, a7, a8, a9] st h Q := wp_p hc135 dX8_reason_117 rfl
theorem e135_120 : wp S d 135 120 [a0, a1, a2, a3, some (.int x), a5, a6, a7, a8, a9] st h Q = wp S d 135 122 [a0, a1, a2, a3, some (.int x), a5, a6, a7, a8, a9] (.int x :: st) h Q := wp_p hc135 dX8_reason_120 rfl
theorem e135_122 : wp S d 135 122 [a0, a1, a2, a3, a4, a5, a6, a7, some (.int x), a9] st h Q = wp S d 135 124 [a0, a1, a2, a3, a4, a5, a6, a7, some (.int x), a9] (.int x :: st) h Q := wp_p hc135 dX8_reason_122 rfl
theorem e135_124 : wp S d 135 124 [a0, a1, a2, a3, a4, a5, a6, a7, a8, a9] st h Q = wp S d 135 125 [a0, a1, a2, a3, a4, a5, a6, a7, a8, a9] (.int (nI 1) :: st) h Q := wp_p hc135 dX8_reason_124 rfl
theorem e135_125 : wp S d 135 125 [a0, a1, a2, a3, a4, a5, a6, a7, a8, a9] (.int y :: .int x :: st) h Q = if x ≤ y then wp S d 135 132 [a0, a1, a2, a3, a4, a5, a6, a7, a8, a9] st h Q else wp S d 135 128 [a0, a1, a2, a3, a4, a5, a6, a7, a8, a9] st h Q := wp_le hc135 dX8_reason_125 rfl
theorem e135_128 : wp S d 135 128 [a0, a1, a2, a3, a4, a5, a6, a7, a8, a9] st h Q = wp S d 135 129 [a0, a1, a2, a3, a4, a5, a6, a7, a8, a9] (.int (nI 1) :: st) h Q := wp_p hc135 dX8_reason_128 rfl
theorem e135_129 : wp S d 135 129 [a0, a1, a2, a3, a4, a5, a6, a7, a8, a9] st h Q = wp S d 135 133 [a0, a1, a2, a3, a4, a5, a6, a7, a8, a9] st h Q := wp_p hc135 dX8_reason_129 rfl
theorem e135_132 : wp S d 135 132 [a0, a1, a2, a3, a4, a5, a6, a7, a8, a9] st h Q = wp S d 135 133 [a0, a1, a2, a3, a4, a5, a6, a7, a8, a9] (.int (nI 0) :: st) h Q := wp_p hc135 dX8_reason_132 rfl
theorem e135_133 : wp S d 135 133 [a0, a1, a2, a3, a4, a5, a6, a7, a8, a9] (.int y :: .int x :: st) h Q = wp S d 135 134 [a0, a1, a2, a3, a4, a5, a6, a7, a8, a9] (.int (x ||| y) :: st) h Q := wp_p hc135 dX8_reason_133 rfl
theorem e135_134 : wp S d 135 134 [a0, a1, a2, a3, a4, a5, a6, a7, a8, a9] (.int x :: st) h Q = wp S d 135 136 [a0, a1, a2, a3, some (.int x), a5, a6, a7, a8, a9] st h Q := wp_p hc135 dX8_reason_134 rfl
theorem e135_136 : wp S d 135 136 [a0, a1, a2, a3, a4, some (.int x), a6, a7, a8, a9] st h Q = wp S d 135 138 [a0, a1, a2, a3, a4, some (.int x), a6, a7, a8, a9] (.int x :: st) h Q := wp_p hc135 dX8_reason_136 rfl
theorem e135_138 : wp S d 135 138 [a0, a1, a2, a3, a4, a5, a6, a7, some (.int x), a9] st h Q = wp S d 135 140 [a0, a1, a2, a3, a4, a5, a6, a7, some (.int x), a9] (.int x :: st) h Q := wp_p hc135 dX8_reason_138 rfl
theorem e135_140 : wp S d 135 140 [a0, a1, a2, a3, a4, a5, a6, a7, a8, a9] (.int x :: st) h Q = if x = 0 then wp S d 135 143 [a0, a1, a2, a3, a4, a5, a6, a7, a8, a9] st h Q else wp S d 135 147 [a0, a1, a2, a3, a4, a5, a6, a7, a8, a9] st h Q := wp_ne hc135 dX8_reason_140 rfl
theorem e135_143 : wp S d 135 143 [a0, a1, a2, a3, a4, a5, a6, a7, a8, a9] st h Q = wp S d 135 144 [a0, a1, a2, a3, a4, a5, a6, a7, a8, a9] (.int (nI 1) :: st) h Q := wp_p hc135 dX8_reason_143 rfl
theorem e135_144 : wp S d 135 144 [a0, a1, a2, a3, a4, a5, a6, a7, a8, a9] st h Q = wp S d 135 148 [a0, a1, a2, a3, a4, a5, a6, a7, a8, a9] st h Q := wp_p hc135 dX8_reason_144 rfl
theorem e135_147 : wp S d 135 147 [a0, a1, a2, a3, a4, a5, a6, a7, a8, a9] st h Q = wp S d 135 148 [a0, a1, a2, a3, a4, a5, a6, a7, a8, a9] (.int (nI 0) :: st) h Q := wp_p hc135 dX8_reason_147 rfl
theorem e135_148 : wp S d 135 148 [a0, a1, a2, a3, a4, a5, a6, a7, a8, a9] (.int y :: .int x :: st) h Q = wp S d 135 149 [a0, a1, a2, a3, a4, a5, a6, a7, a8, a9] (.int (x ||| y) :: st) h Q := wp_p hc135 dX8_reason_148 rfl
theorem e135_149 : wp S d 135 149 [a0, a1, a2, a3, a4, a5, a6, a7, a8, a9] (.int x :: st) h Q = wp S d 135 151 [a0, a1, a2, a3, a4, some (.int x), a6, a7, a8, a9] st h Q := wp_p hc135 dX8_reason_149 rfl
theorem e135_151 : wp S d 135 151 [a0, a1, a2, a3, a4, a5, a6, some (.int x), a8, a9] st h Q = wp S d 135 154 [a0, a1, a2, a3, a4, a5, a6, some (.int (x + nI 1)), a8, a9] st h Q := wp_p hc135 dX8_reason_151 rfl
theorem e135_154 : wp S d 135 154 [a0, a1, a2, a3, a4, a5, a6, a7, a8, a9] st h Q = wp S d 135 12 [a0, a1, a2, a3, a4, a5, a6, a7, a8, a9] st h Q := wp_p hc135 dX8_reason_154 rfl
theorem e135_157 : wp S d 135 157 [a0, a1, a2, a3, some (.int x), a5, a6, a7, a8, a9] st h Q = wp S d 135 159 [a0, a1, a2, a3, some (.int x), a5, a6, a7, a8, a9] (.int x :: st) h Q := wp_p hc135 dX8_reason_157 rfl
theorem e135_159 : wp S d 135 159 [a0, a1, a2, a3, a4, a5, a6, a7, a8, a9] (.int x :: st) h Q = if x = 0 then wp S d 135 166 [a0, a1, a2, a3, a4, a5, a6, a7, a8, a9] st h Q else wp S d 135 162 [a0, a1, a2, a3, a4, a5, a6, a7, a8, a9] st h Q := wp_eq hc135 dX8_reason_159 rfl
theorem e135_162 : wp S d 135 162 [a0, a1, a2, a3, a4, a5, a6, a7, a8, a9] st h Q = wp S d 135 163 [a0, a1, a2, a3, a4, a5, a6, a7, a8, a9] (.int (nI 4) :: st) h Q := wp_p hc135 dX8_reason_162 rfl
theorem e135_163 : wp S d 135 163 [a0, a1, a2, a3, a4, a5, a6, a7, a8, a9] st h Q = wp S d 135 186 [a0, a1, a2, a3, a4, a5, a6, a7, a8, a9] st h Q := wp_p hc135 dX8_reason_163 rfl
theorem e135_166 : wp S d 135 166 [a0, a1, a2, a3, a4, some (.int x), a6, a7, a8, a9] st h Q = wp S d 135 168 [a0, a1, a2, a3, a4, some (.int x), a6, a7, a8, a9] (.int x :: st) h Q := wp_p hc135 dX8_reason_166 rfl
theorem e135_168 : wp S d 135 168 [a0, a1, a2, a3, a4, a5, a6, a7, a8, a9] (.int x :: st) h Q = if x = 0 then wp S d 135 175 [a0, a1, a2, a3, a4, a5, a6, a7, a8, a9] st h Q else wp S d 135 171 [a0, a1, a2, a3, a4, a5, a6, a7, a8, a9] st h Q := wp_eq hc135 dX8_reason_168 rfl
theorem e135_171 : wp S d 135 171 [a0, a1, a2, a3, a4, a5, a6, a7, a8, a9] st h Q = wp S d 135 172 [a0, a1, a2, a3, a4, a5, a6, a7, a8, a9] (.int (nI 5) :: st) h Q := wp_p hc135 dX8_reason_171 rfl
theorem e135_172 : wp S d 135 172 [a0, a1, a2, a3, a4, a5, a6, a7, a8, a9] st h Q = wp S d 135 186 [a0, a1, a2, a3, a4, a5, a6, a7, a8, a9] st h Q := wp_p hc135 dX8_reason_172 rfl
theorem e135_175 : wp S d 135 175 [a0, a1, a2, a3, a4, a5, some (.int x), a7, a8, a9] st h Q = wp S d 135 177 [a0, a1, a2, a3, a4, a5, some (.int x), a7, a8, a9] (.int x :: st) h Q := wp_p hc135 dX8_reason_175 rfl
theorem e135_177 : wp S d 135 177 [a0, a1, a2, a3, a4, a5, a6, a7, a8, a9] (.int x :: st) h Q = if x = 0 then wp S d 135 185 [a0, a1, a2, a3, a4, a5, a6, a7, a8, a9] st h Q else wp S d 135 180 [a0, a1, a2, a3, a4, a5, a6, a7, a8, a9] st h Q := wp_eq hc135 dX8_reason_177 rfl
theorem e135_180 : wp S d 135 180 [a0, a1, a2, a3, a4, a5, a6, a7, a8, a9] st h Q = wp S d 135 182 [a0, a1, a2, a3, a4, a5, a6, a7, a8, a9] (.int (nI 6) :: st) h Q := wp_p hc135 dX8_reason_180 rfl
theorem e135_182 : wp S d 135 182 [a0, a1, a2, a3, a4, a5, a6, a7, a8, a9] st h Q = wp S d 135 186 [a0, a1, a2, a3, a4, a5, a6, a7, a8, a9] st h Q := wp_p hc135 dX8_reason_182 rfl
theorem e135_185 : wp S d 135 185 [a0, a1, a2, a3, a4, a5, a6, a7, a8, a9] st h Q = wp S d 135 186 [a0, a1, a2, a3, a4, a5, a6, a7, a8, a9] (.int (nI 0) :: st) h Q := wp_p hc135 dX8_reason_185 rfl
theorem e135_186 : wp S d 135 186 ls [.int x] h Q = Q (.inl (some (.int x)), h) := wp_r hc135 dX8_reason_186 rfl rfl ⟨x, _, rfl, rfl, rfl, rfl⟩
theorem e136_0 : wp S d 136 0 [a0, a1, a2, a3, a4, a5, a6, a7] st h Q = wp S d 136 1 [a0, a1, a2, a3, a4, a5, a6, a7] (.int (nI 0) :: st) h Q := wp_p hc136 dX8_hasLaterSmaller_0 rfl
theorem e136_1 : wp S d 136 1 [a0, a1, a2, a3, a4, a5, a6, a7] (.int x :: st) h Q = wp S d 136 3 [a0, a1, a2, a3, a4, some (.int x), a6, a7] st h Q := wp_p hc136 dX8_hasLaterSmaller_1 rfl
theorem e136_3 : wp S d 136 3 [a0, a1, a2, some (.int x), a4, a5, a6, a7] st h Q = wp S d 136 4 [a0, a1, a2, some (.int x), a4, a5, a6, a7] (.int x :: st) h Q := wp_p hc136 dX8_hasLaterSmaller_3 rfl
theorem e136_4 : wp S d 136 4 [a0, a1, a2, a3, a4, a5, a6, a7] st h Q = wp S d 136 5 [a0, a1, a2, a3, a4, a5, a6, a7] (.int (nI 1) :: st) h Q := wp_p hc136 dX8_hasLaterSmaller_4 rfl
theorem e136_5 : wp S d 136 5 [a0, a1, a2, a3, a4, a5, a6, a7] (.int y :: .int x :: st) h Q = wp S d 136 6 [a0, a1, a2, a3, a4, a5, a6, a7] (.int (x + y) :: st) h Q := wp_p hc136 dX8_hasLaterSmaller_5 rfl
theorem e136_6 : wp S d 136 6 [a0, a1, a2, a3, a4, a5, a6, a7] (.int x :: st) h Q = wp S d 136 8 [a0, a1, a2, a3, a4, a5, some (.int x), a7] st h Q := wp_p hc136 dX8_hasLaterSmaller_6 rfl
theorem e136_8 : wp S d 136 8 [a0, a1, a2, a3, a4, a5, some (.int x), a7] st h Q = wp S d 136 10 [a0, a1, a2, a3, a4, a5, some (.int x), a7] (.int x :: st) h Q := wp_p hc136 dX8_hasLaterSmaller_8 rfl
theorem e136_10 : wp S d 136 10 [a0, a1, a2, a3, some (.int x), a5, a6, a7] st h Q = wp S d 136 12 [a0, a1, a2, a3, some (.int x), a5, a6, a7] (.int x :: st) h Q := wp_p hc136 dX8_hasLaterSmaller_10 rfl
theorem e136_12 : wp S d 136 12 [a0, a1, a2, a3, a4, a5, a6, a7] (.int y :: .int x :: st) h Q = if y ≤ x then wp S d 136 78 [a0, a1, a2, a3, a4, a5, a6, a7] st h Q else wp S d 136 15 [a0, a1, a2, a3, a4, a5, a6, a7] st h Q := wp_ge hc136 dX8_hasLaterSmaller_12 rfl
theorem e136_15 : wp S d 136 15 [a0, a1, some (.ref r), a3, a4, a5, a6, a7] st h Q = wp S d 136 16 [a0, a1, some (.ref r), a3, a4, a5, a6, a7] (.ref r :: st) h Q := wp_p hc136 dX8_hasLaterSmaller_15 rfl
theorem e136_16 : wp S d 136 16 [a0, a1, a2, a3, a4, a5, a6, a7] (.ref r :: st) h Q = am_gfK h r 6 1 (fun w => wp S d 136 19 [a0, a1, a2, a3, a4, a5, a6, a7] (w :: st) h Q) := wp_gf hc136 dX8_hasLaterSmaller_16 ho136 fl8_94
theorem e136_19 : wp S d 136 19 [a0, a1, a2, a3, a4, a5, some (.int x), a7] st h Q = wp S d 136 21 [a0, a1, a2, a3, a4, a5, some (.int x), a7] (.int x :: st) h Q := wp_p hc136 dX8_hasLaterSmaller_19 rfl
theorem e136_21 : wp S d 136 21 [a0, a1, a2, a3, a4, a5, a6, a7] (.int x :: .ref r :: st) h Q = am_iaK h r x (fun z => wp S d 136 22 [a0, a1, a2, a3, a4, a5, a6, a7] (.int z :: st) h Q) := wp_ia hc136 dX8_hasLaterSmaller_21
theorem e136_22 : wp S d 136 22 [a0, a1, a2, a3, a4, a5, a6, a7] (.int x :: st) h Q = wp S d 136 24 [a0, a1, a2, a3, a4, a5, a6, some (.int x)] st h Q := wp_p hc136 dX8_hasLaterSmaller_22 rfl
theorem e136_24 : wp S d 136 24 [a0, a1, a2, a3, a4, some (.int x), a6, a7] st h Q = wp S d 136 26 [a0, a1, a2, a3, a4, some (.int x), a6, a7] (.int x :: st) h Q := wp_p hc136 dX8_hasLaterSmaller_24 rfl
theorem e136_26 : wp S d 136 26 [a0, a1, a2, a3, a4, a5, a6, some (.int x)] st h Q = wp S d 136 28 [a0, a1, a2, a3, a4, a5, a6, some (.int x)] (.int x :: st) h Q := wp_p hc136 dX8_hasLaterSmaller_26 rfl
theorem e136_28 : wp S d 136 28 [a0, a1, a2, a3, a4, a5, a6, a7] (.int x :: st) h Q = if 0 ≤ x then wp S d 136 68 [a0, a1, a2, a3, a4, a5, a6, a7] st h Q else wp S d 136 31 [a0, a1, a2, a3, a4, a5, a6, a7] st h Q := wp_ge hc136 dX8_hasLaterSmaller_28 rfl
theorem e136_31 : wp S d 136 31 [a0, a1, a2, a3, a4, a5, a6, some (.int x)] st h Q = wp S d 136 33 [a0, a1, a2, a3, a4, a5, a6, some (.int x)] (.int x :: st) h Q := wp_p hc136 dX8_hasLaterSmaller_31 rfl
theorem e136_33 : wp S d 136 33 [a0, a1, some (.ref r), a3, a4, a5, a6, a7] st h Q = wp S d 136 34 [a0, a1, some (.ref r), a3, a4, a5, a6, a7] (.ref r :: st) h Q := wp_p hc136 dX8_hasLaterSmaller_33 rfl
theorem e136_34 : wp S d 136 34 [a0, a1, a2, a3, a4, a5, a6, a7] (.ref r :: st) h Q = am_gfK h r 6 1 (fun w => wp S d 136 37 [a0, a1, a2, a3, a4, a5, a6, a7] (w :: st) h Q) := wp_gf hc136 dX8_hasLaterSmaller_34 ho136 fl8_94
theorem e136_37 : wp S d 136 37 [a0, a1, a2, some (.int x), a4, a5, a6, a7] st h Q = wp S d 136 38 [a0, a1, a2, some (.int x), a4, a5, a6, a7] (.int x :: st) h Q := wp_p hc136 dX8_hasLaterSmaller_37 rfl
theorem e136_38 : wp S d 136 38 [a0, a1, a2, a3, a4, a5, a6, a7] (.int x :: .ref r :: st) h Q = am_iaK h r x (fun z => wp S d 136 39 [a0, a1, a2, a3, a4, a5, a6, a7] (.int z :: st) h Q) := wp_ia hc136 dX8_hasLaterSmaller_38
theorem e136_39 : wp S d 136 39 [a0, a1, a2, a3, a4, a5, a6, a7] (.int y :: .int x :: st) h Q = if x ≤ y then wp S d 136 68 [a0, a1, a2, a3, a4, a5, a6, a7] st h Q else wp S d 136 42 [a0, a1, a2, a3, a4, a5, a6, a7] st h Q := wp_le hc136 dX8_hasLaterSmaller_39 rfl
theorem e136_42 : wp S d 136 42 [some (.ref r), a1, a2, a3, a4, a5, a6, a7] st h Q = wp S d 136 43 [some (.ref r), a1, a2, a3, a4, a5, a6, a7] (.ref r :: st) h Q := wp_p hc136 dX8_hasLaterSmaller_42 rfl
theorem e136_43 : wp S d 136 43 [a0, a1, a2, a3, a4, a5, a6, a7] (.ref r :: st) h Q = am_gfK h r 8 2 (fun w => wp S d 136 46 [a0, a1, a2, a3, a4, a5, a6, a7] (w :: st) h Q) := wp_gf hc136 dX8_hasLaterSmaller_43 ho136 fl8_3
theorem e136_46 : wp S d 136 46 [a0, a1, a2, a3, a4, a5, a6, a7] (.ref r :: st) h Q = am_gfK h r 0 0 (fun w => wp S d 136 49 [a0, a1, a2, a3, a4, a5, a6, a7] (w :: st) h Q) := wp_gf hc136 dX8_hasLaterSmaller_46 ho136 fl8_15
theorem e136_49 : wp S d 136 49 [a0, some (.ref r), a2, a3, a4, a5, a6, a7] st h Q = wp S d 136 50 [a0, some (.ref r), a2, a3, a4, a5, a6, a7] (.ref r :: st) h Q := wp_p hc136 dX8_hasLaterSmaller_49 rfl
theorem e136_50 : wp S d 136 50 [a0, a1, a2, a3, a4, a5, a6, a7] (.ref r :: st) h Q = am_gfK h r 2 2 (fun w => wp S d 136 53 [a0, a1, a2, a3, a4, a5, a6, a7] (w :: st) h Q) := wp_gf hc136 dX8_hasLaterSmaller_50 ho136 fl8_34
theorem e136_53 : wp S d 136 53 [a0, a1, a2, a3, a4, a5, a6, a7] st h Q = wp S d 136 54 [a0, a1, a2, a3, a4, a5, a6, a7] (.int ((-1)) :: st) h Q := wp_p hc136 dX8_hasLaterSmaller_53 rfl
theorem e136_54 : wp S d 136 54 [a0, a1, a2, a3, a4, a5, a6, some (.int x)] st h Q = wp S d 136 56 [a0, a1, a2, a3, a4, a5, a6, some (.int x)] (.int x :: st) h Q := wp_p hc136 dX8_hasLaterSmaller_54 rfl
theorem e136_56 : wp S d 136 56 [a0, a1, a2, a3, a4, a5, a6, a7] (.int y :: .int x :: st) h Q = wp S d 136 57 [a0, a1, a2, a3, a4, a5, a6, a7] (.int (x - y) :: st) h Q := wp_p hc136 dX8_hasLaterSmaller_56 rfl
theorem e136_57 : wp S d 136 57 [a0, a1, a2, a3, a4, a5, a6, a7] (.int x :: .ref r :: st) h Q = am_aaK h r x (fun w => wp S d 136 58 [a0, a1, a2, a3, a4, a5, a6, a7] (w :: st) h Q) := wp_aa hc136 dX8_hasLaterSmaller_57
theorem e136_58 : wp S (d + 1) 136 58 [a0, a1, a2, a3, a4, a5, a6, a7] (.ref r1 :: .ref r0 :: st) h Q = (am_w8 st ∧ am_rcv h 2 39 (.ref r0) = true ∧ wp S d 39 0 [some (.ref r0), some (.ref r1), none, none, none, none, none] [] h (am_kr S 2 (d + 1) 136 58 [a0, a1, a2, a3, a4, a5, a6, a7] st Q)) := wp_cV (.ref r0) [.ref r1] hc136 dX8_hasLaterSmaller_58 ho136 cl8_112 (by decide) ns8_112 hst39 hnp39 hml39 hlsl39 rfl rfl rfl
theorem e136_61 : wp S d 136 61 [a0, a1, a2, a3, a4, a5, a6, a7] (.int x :: st) h Q = if x = 0 then wp S d 136 68 [a0, a1, a2, a3, a4, a5, a6, a7] st h Q else wp S d 136 64 [a0, a1, a2, a3, a4, a5, a6, a7] st h Q := wp_eq hc136 dX8_hasLaterSmaller_61 rfl
theorem e136_64 : wp S d 136 64 [a0, a1, a2, a3, a4, a5, a6, a7] st h Q = wp S d 136 65 [a0, a1, a2, a3, a4, a5, a6, a7] (.int (nI 1) :: st) h Q := wp_p hc136 dX8_hasLaterSmaller_64 rfl
theorem e136_65 : wp S d 136 65 [a0, a1, a2, a3, a4, a5, a6, a7] st h Q = wp S d 136 69 [a0, a1, a2, a3, a4, a5, a6, a7] st h Q := wp_p hc136 dX8_hasLaterSmaller_65 rfl
theorem e136_68 : wp S d 136 68 [a0, a1, a2, a3, a4, a5, a6, a7] st h Q = wp S d 136 69 [a0, a1, a2, a3, a4, a5, a6, a7] (.int (nI 0) :: st) h Q := wp_p hc136 dX8_hasLaterSmaller_68 rfl
theorem e136_69 : wp S d 136 69 [a0, a1, a2, a3, a4, a5, a6, a7] (.int y :: .int x :: st) h Q = wp S d 136 70 [a0, a1, a2, a3, a4, a5, a6, a7] (.int (x ||| y) :: st) h Q := wp_p hc136 dX8_hasLaterSmaller_69 rfl
theorem e136_70 : wp S d 136 70 [a0, a1, a2, a3, a4, a5, a6, a7] (.int x :: st) h Q = wp S d 136 72 [a0, a1, a2, a3, a4, some (.int x), a6, a7] st h Q := wp_p hc136 dX8_hasLaterSmaller_70 rfl
theorem e136_72 : wp S d 136 72 [a0, a1, a2, a3, a4, a5, some (.int x), a7] st h Q = wp S d 136 75 [a0, a1, a2, a3, a4, a5, some (.int (x + nI 1)), a7] st h Q := wp_p hc136 dX8_hasLaterSmaller_72 rfl
theorem e136_75 : wp S d 136 75 [a0, a1, a2, a3, a4, a5, a6, a7] st h Q = wp S d 136 8 [a0, a1, a2, a3, a4, a5, a6, a7] st h Q := wp_p hc136 dX8_hasLaterSmaller_75 rfl
theorem e136_78 : wp S d 136 78 [a0, a1, a2, a3, a4, some (.int x), a6, a7] st h Q = wp S d 136 80 [a0, a1, a2, a3, a4, some (.int x), a6, a7] (.int x :: st) h Q := wp_p hc136 dX8_hasLaterSmaller_78 rfl
theorem e136_80 : wp S d 136 80 ls [.int x] h Q = (narrow .boolean (.int x) = .int x ∧ Q (.inl (some (.int x)), h)) := wp_rI hc136 dX8_hasLaterSmaller_80 rfl
end EROWS
