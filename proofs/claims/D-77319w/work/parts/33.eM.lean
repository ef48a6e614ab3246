/-! step rows: the model (printed by gen_e.py) -/
set_option maxRecDepth 100000
section EROWS
variable {S : am_S} {d : Nat} {h : am_H} {Q : am_Out → Prop} {st : List Value} {ls : am_L} {w : Value} {x y z : Int32} {u v : Int64} {r : Nat}
variable {a0 a1 a2 a3 a4 a5 a6 a7 a8 a9 : Option Value} {r0 r1 r2 r3 r4 r5 : Nat} {x1 x2 x3 x4 x5 : Int32} {u1 u2 u3 : Int64}

theorem e58_0 : wp S d 58 0 [some (.ref r), a1] st h Q = wp S d 58 1 [some (.ref r), a1] (.ref r :: st) h Q := wp_p hc58 dX5_init_0 rfl
theorem e58_1 : wp S (d + 1) 58 1 [a0, a1] (.ref r :: st) h Q = (am_w8 st ∧ wp S (d + 1) 58 4 [a0, a1] st h Q) := wp_oi hc58 dX5_init_1 ho58 sp5_1 nc5_1
theorem e58_4 : wp S d 58 4 [some (.ref r), a1] st h Q = wp S d 58 5 [some (.ref r), a1] (.ref r :: st) h Q := wp_p hc58 dX5_init_4 rfl
theorem e58_5 : wp S d 58 5 [a0, a1] st h Q = wp S d 58 8 [a0, a1] (.int (nI 186) :: st) h Q := wp_p hc58 dX5_init_5 rfl
theorem e58_8 : wp S d 58 8 [a0, a1] (.int x :: st) h Q = (¬ x < 0 ∧ x.toNatClampNeg ≤ 1000000 ∧ wp S d 58 10 [a0, a1] (.ref h.length :: st) (h ++ [.inl (0, x.toNatClampNeg, fun _ => 0)]) Q) := wp_na0 hc58 dX5_init_8
theorem e58_10 : wp S d 58 10 [a0, a1] (w :: .ref r :: st) h Q = am_pfK 58 h r 5 0 false w (fun h => wp S d 58 13 [a0, a1] st h Q) := wp_pf hc58 dX5_init_10 ho58 fl5_7
theorem e58_13 : wp S d 58 13 [some (.ref r), a1] st h Q = wp S d 58 14 [some (.ref r), a1] (.ref r :: st) h Q := wp_p hc58 dX5_init_13 rfl
theorem e58_14 : wp S d 58 14 [a0, a1] st h Q = wp S d 58 17 [a0, a1] (.int (nI 744) :: st) h Q := wp_p hc58 dX5_init_14 rfl
theorem e58_17 : wp S d 58 17 [a0, a1] (.int x :: st) h Q = (¬ x < 0 ∧ x.toNatClampNeg ≤ 1000000 ∧ wp S d 58 19 [a0, a1] (.ref h.length :: st) (h ++ [.inl (0, x.toNatClampNeg, fun _ => 0)]) Q) := wp_na0 hc58 dX5_init_17
theorem e58_19 : wp S d 58 19 [a0, a1] (w :: .ref r :: st) h Q = am_pfK 58 h r 5 1 false w (fun h => wp S d 58 22 [a0, a1] st h Q) := wp_pf hc58 dX5_init_19 ho58 fl5_13
theorem e58_22 : wp S d 58 22 [some (.ref r), a1] st h Q = wp S d 58 23 [some (.ref r), a1] (.ref r :: st) h Q := wp_p hc58 dX5_init_22 rfl
theorem e58_23 : wp S d 58 23 [a0, a1] st h Q = wp S d 58 24 [a0, a1] (.int (nI 4) :: st) h Q := wp_p hc58 dX5_init_23 rfl
theorem e58_24 : wp S d 58 24 [a0, a1] (.int x :: st) h Q = (¬ x < 0 ∧ x.toNatClampNeg ≤ 1000000 ∧ wp S d 58 26 [a0, a1] (.ref h.length :: st) (h ++ [.inl (0, x.toNatClampNeg, fun _ => 0)]) Q) := wp_na0 hc58 dX5_init_24
theorem e58_26 : wp S d 58 26 [a0, a1] (w :: .ref r :: st) h Q = am_pfK 58 h r 5 3 false w (fun h => wp S d 58 29 [a0, a1] st h Q) := wp_pf hc58 dX5_init_26 ho58 fl5_16
theorem e58_29 : wp S d 58 29 [some (.ref r), a1] st h Q = wp S d 58 30 [some (.ref r), a1] (.ref r :: st) h Q := wp_p hc58 dX5_init_29 rfl
theorem e58_30 : wp S d 58 30 [a0, a1] st h Q = wp S d 58 32 [a0, a1] (.int (nI 120) :: st) h Q := wp_p hc58 dX5_init_30 rfl
theorem e58_32 : wp S d 58 32 [a0, a1] (.int x :: st) h Q = (¬ x < 0 ∧ x.toNatClampNeg ≤ 1000000 ∧ wp S d 58 34 [a0, a1] (.ref h.length :: st) (h ++ [.inl (0, x.toNatClampNeg, fun _ => 0)]) Q) := wp_na0 hc58 dX5_init_32
theorem e58_34 : wp S d 58 34 [a0, a1] (w :: .ref r :: st) h Q = am_pfK 58 h r 5 4 false w (fun h => wp S d 58 37 [a0, a1] st h Q) := wp_pf hc58 dX5_init_34 ho58 fl5_19
theorem e58_37 : wp S d 58 37 [some (.ref r), a1] st h Q = wp S d 58 38 [some (.ref r), a1] (.ref r :: st) h Q := wp_p hc58 dX5_init_37 rfl
theorem e58_38 : wp S d 58 38 [a0, a1] st h Q = wp S d 58 40 [a0, a1] (.int (nI 30) :: st) h Q := wp_p hc58 dX5_init_38 rfl
theorem e58_40 : wp S d 58 40 [a0, a1] (.int x :: st) h Q = (¬ x < 0 ∧ x.toNatClampNeg ≤ 1000000 ∧ wp S d 58 42 [a0, a1] (.ref h.length :: st) (h ++ [.inl (0, x.toNatClampNeg, fun _ => 0)]) Q) := wp_na0 hc58 dX5_init_40
theorem e58_42 : wp S d 58 42 [a0, a1] (w :: .ref r :: st) h Q = am_pfK 58 h r 5 6 false w (fun h => wp S d 58 45 [a0, a1] st h Q) := wp_pf hc58 dX5_init_42 ho58 fl5_22
theorem e58_45 : wp S d 58 45 [some (.ref r), a1] st h Q = wp S d 58 46 [some (.ref r), a1] (.ref r :: st) h Q := wp_p hc58 dX5_init_45 rfl
theorem e58_46 : wp S d 58 46 [a0, a1] st h Q = wp S d 58 48 [a0, a1] (.int (nI 30) :: st) h Q := wp_p hc58 dX5_init_46 rfl
theorem e58_48 : wp S d 58 48 [a0, a1] (.int x :: st) h Q = (¬ x < 0 ∧ x.toNatClampNeg ≤ 1000000 ∧ wp S d 58 50 [a0, a1] (.ref h.length :: st) (h ++ [.inl (0, x.toNatClampNeg, fun _ => 0)]) Q) := wp_na0 hc58 dX5_init_48
theorem e58_50 : wp S d 58 50 [a0, a1] (w :: .ref r :: st) h Q = am_pfK 58 h r 5 8 false w (fun h => wp S d 58 53 [a0, a1] st h Q) := wp_pf hc58 dX5_init_50 ho58 fl5_25
theorem e58_53 : wp S d 58 53 [some (.ref r), a1] st h Q = wp S d 58 54 [some (.ref r), a1] (.ref r :: st) h Q := wp_p hc58 dX5_init_53 rfl
theorem e58_54 : wp S d 58 54 [a0, a1] st h Q = wp S d 58 56 [a0, a1] (.int (nI 30) :: st) h Q := wp_p hc58 dX5_init_54 rfl
theorem e58_56 : wp S d 58 56 [a0, a1] (.int x :: st) h Q = (¬ x < 0 ∧ x.toNatClampNeg ≤ 1000000 ∧ wp S d 58 58 [a0, a1] (.ref h.length :: st) (h ++ [.inl (0, x.toNatClampNeg, fun _ => 0)]) Q) := wp_na0 hc58 dX5_init_56
theorem e58_58 : wp S d 58 58 [a0, a1] (w :: .ref r :: st) h Q = am_pfK 58 h r 5 11 false w (fun h => wp S d 58 61 [a0, a1] st h Q) := wp_pf hc58 dX5_init_58 ho58 fl5_28
theorem e58_61 : wp S d 58 61 [some (.ref r), a1] st h Q = wp S d 58 62 [some (.ref r), a1] (.ref r :: st) h Q := wp_p hc58 dX5_init_61 rfl
theorem e58_62 : wp S d 58 62 [a0, a1] st h Q = wp S d 58 64 [a0, a1] (.int (nI 31) :: st) h Q := wp_p hc58 dX5_init_62 rfl
theorem e58_64 : wp S d 58 64 [a0, a1] (.int x :: st) h Q = (¬ x < 0 ∧ x.toNatClampNeg ≤ 1000000 ∧ wp S d 58 66 [a0, a1] (.ref h.length :: st) (h ++ [.inl (0, x.toNatClampNeg, fun _ => 0)]) Q) := wp_na0 hc58 dX5_init_64
theorem e58_66 : wp S d 58 66 [a0, a1] (w :: .ref r :: st) h Q = am_pfK 58 h r 5 13 false w (fun h => wp S d 58 69 [a0, a1] st h Q) := wp_pf hc58 dX5_init_66 ho58 fl5_31
theorem e58_69 : wp S d 58 69 [some (.ref r), a1] st h Q = wp S d 58 70 [some (.ref r), a1] (.ref r :: st) h Q := wp_p hc58 dX5_init_69 rfl
theorem e58_70 : wp S d 58 70 [a0, a1] st h Q = wp S d 58 72 [a0, a1] (.int (nI 30) :: st) h Q := wp_p hc58 dX5_init_70 rfl
theorem e58_72 : wp S d 58 72 [a0, a1] (.int x :: st) h Q = (¬ x < 0 ∧ x.toNatClampNeg ≤ 1000000 ∧ wp S d 58 74 [a0, a1] (.ref h.length :: st) (h ++ [.inl (0, x.toNatClampNeg, fun _ => 0)]) Q) := wp_na0 hc58 dX5_init_72
theorem e58_74 : wp S d 58 74 [a0, a1] (w :: .ref r :: st) h Q = am_pfK 58 h r 5 15 false w (fun h => wp S d 58 77 [a0, a1] st h Q) := wp_pf hc58 dX5_init_74 ho58 fl5_34
theorem e58_77 : wp S d 58 77 [some (.ref r), a1] st h Q = wp S d 58 78 [some (.ref r), a1] (.ref r :: st) h Q := wp_p hc58 dX5_init_77 rfl
theorem e58_78 : wp S d 58 78 [a0, a1] st h Q = wp S d 58 80 [a0, a1] (.int (nI 30) :: st) h Q := wp_p hc58 dX5_init_78 rfl
theorem e58_80 : wp S d 58 80 [a0, a1] (.int x :: st) h Q = (¬ x < 0 ∧ x.toNatClampNeg ≤ 1000000 ∧ wp S d 58 82 [a0, a1] (.ref h.length :: st) (h ++ [.inl (0, x.toNatClampNeg, fun _ => 0)]) Q) := wp_na0 hc58 dX5_init_80
theorem e58_82 : wp S d 58 82 [a0, a1] (w :: .ref r :: st) h Q = am_pfK 58 h r 5 16 false w (fun h => wp S d 58 85 [a0, a1] st h Q) := wp_pf hc58 dX5_init_82 ho58 fl5_37
theorem e58_85 : wp S d 58 85 [some (.ref r), a1] st h Q = wp S d 58 86 [some (.ref r), a1] (.ref r :: st) h Q := wp_p hc58 dX5_init_85 rfl
theorem e58_86 : wp S d 58 86 [a0, a1] st h Q = wp S d 58 88 [a0, a1] (.int (nI 30) :: st) h Q := wp_p hc58 dX5_init_86 rfl
theorem e58_88 : wp S d 58 88 [a0, a1] (.int x :: st) h Q = (¬ x < 0 ∧ x.toNatClampNeg ≤ 1000000 ∧ wp S d 58 90 [a0, a1] (.ref h.length :: st) (h ++ [.inl (0, x.toNatClampNeg, fun _ => 0)]) Q) := wp_na0 hc58 dX5_init_88
theorem e58_90 : wp S d 58 90 [a0, a1] (w :: .ref r :: st) h Q = am_pfK 58 h r 5 17 false w (fun h => wp S d 58 93 [a0, a1] st h Q) := wp_pf hc58 dX5_init_90 ho58 fl5_40
theorem e58_93 : wp S d 58 93 [some (.ref r), a1] st h Q = wp S d 58 94 [some (.ref r), a1] (.ref r :: st) h Q := wp_p hc58 dX5_init_93 rfl
theorem e58_94 : wp S d 58 94 [a0, a1] st h Q = wp S d 58 96 [a0, a1] (.int (nI 30) :: st) h Q := wp_p hc58 dX5_init_94 rfl
theorem e58_96 : wp S d 58 96 [a0, a1] (.int x :: st) h Q = (¬ x < 0 ∧ x.toNatClampNeg ≤ 1000000 ∧ wp S d 58 98 [a0, a1] (.ref h.length :: st) (h ++ [.inl (0, x.toNatClampNeg, fun _ => 0)]) Q) := wp_na0 hc58 dX5_init_96
theorem e58_98 : wp S d 58 98 [a0, a1] (w :: .ref r :: st) h Q = am_pfK 58 h r 5 20 false w (fun h => wp S d 58 101 [a0, a1] st h Q) := wp_pf hc58 dX5_init_98 ho58 fl5_43
theorem e58_101 : wp S d 58 101 [some (.ref r), a1] st h Q = wp S d 58 102 [some (.ref r), a1] (.ref r :: st) h Q := wp_p hc58 dX5_init_101 rfl
theorem e58_102 : wp S d 58 102 [a0, a1] st h Q = wp S d 58 105 [a0, a1] (.int (nI 200) :: st) h Q := wp_p hc58 dX5_init_102 rfl
theorem e58_105 : wp S d 58 105 [a0, a1] (.int x :: st) h Q = (¬ x < 0 ∧ x.toNatClampNeg ≤ 1000000 ∧ wp S d 58 107 [a0, a1] (.ref h.length :: st) (h ++ [.inl (0, x.toNatClampNeg, fun _ => 0)]) Q) := wp_na0 hc58 dX5_init_105
theorem e58_107 : wp S d 58 107 [a0, a1] (w :: .ref r :: st) h Q = am_pfK 58 h r 5 21 false w (fun h => wp S d 58 110 [a0, a1] st h Q) := wp_pf hc58 dX5_init_107 ho58 fl5_46
theorem e58_110 : wp S d 58 110 [a0, a1] st h Q = wp S d 58 111 [a0, a1] (.int (nI 0) :: st) h Q := wp_p hc58 dX5_init_110 rfl
theorem e58_111 : wp S d 58 111 [a0, a1] (.int x :: st) h Q = wp S d 58 112 [a0, some (.int x)] st h Q := wp_p hc58 dX5_init_111 rfl
theorem e58_112 : wp S d 58 112 [a0, some (.int x)] st h Q = wp S d 58 113 [a0, some (.int x)] (.int x :: st) h Q := wp_p hc58 dX5_init_112 rfl
theorem e58_113 : wp S d 58 113 [a0, a1] st h Q = wp S d 58 115 [a0, a1] (.int (nI 12) :: st) h Q := wp_p hc58 dX5_init_113 rfl
theorem e58_115 : wp S d 58 115 [a0, a1] (.int y :: .int x :: st) h Q = if y ≤ x then wp S d 58 134 [a0, a1] st h Q else wp S d 58 118 [a0, a1] st h Q := wp_ge hc58 dX5_init_115 rfl
theorem e58_118 : wp S d 58 118 [some (.ref r), a1] st h Q = wp S d 58 119 [some (.ref r), a1] (.ref r :: st) h Q := wp_p hc58 dX5_init_118 rfl
theorem e58_119 : wp S d 58 119 [a0, a1] (.ref r :: st) h Q = am_gfK h r 5 0 (fun w => wp S d 58 122 [a0, a1] (w :: st) h Q) := wp_gf hc58 dX5_init_119 ho58 fl5_7
theorem e58_122 : wp S d 58 122 [a0, a1] st h Q = wp S d 58 124 [a0, a1] (.int (nI 7) :: st) h Q := wp_p hc58 dX5_init_122 rfl
theorem e58_124 : wp S d 58 124 [a0, some (.int x)] st h Q = wp S d 58 125 [a0, some (.int x)] (.int x :: st) h Q := wp_p hc58 dX5_init_124 rfl
theorem e58_125 : wp S d 58 125 [a0, a1] (.int y :: .int x :: st) h Q = wp S d 58 126 [a0, a1] (.int (x * y) :: st) h Q := wp_p hc58 dX5_init_125 rfl
theorem e58_126 : wp S d 58 126 [a0, a1] st h Q = wp S d 58 127 [a0, a1] (.int (nI 1) :: st) h Q := wp_p hc58 dX5_init_126 rfl
theorem e58_127 : wp S d 58 127 [a0, a1] (.int y :: .int x :: .ref r :: st) h Q = am_isK h r x y (fun h => wp S d 58 128 [a0, a1] st h Q) := wp_is hc58 dX5_init_127
theorem e58_128 : wp S d 58 128 [a0, some (.int x)] st h Q = wp S d 58 131 [a0, some (.int (x + nI 1))] st h Q := wp_p hc58 dX5_init_128 rfl
theorem e58_131 : wp S d 58 131 [a0, a1] st h Q = wp S d 58 112 [a0, a1] st h Q := wp_p hc58 dX5_init_131 rfl
theorem e58_134 : wp S d 58 134 [a0, a1] st h Q = wp S d 58 135 [a0, a1] (.int (nI 0) :: st) h Q := wp_p hc58 dX5_init_134 rfl
theorem e58_135 : wp S d 58 135 [a0, a1] (.int x :: st) h Q = wp S d 58 136 [a0, some (.int x)] st h Q := wp_p hc58 dX5_init_135 rfl
theorem e58_136 : wp S d 58 136 [a0, some (.int x)] st h Q = wp S d 58 137 [a0, some (.int x)] (.int x :: st) h Q := wp_p hc58 dX5_init_136 rfl
theorem e58_137 : wp S d 58 137 [a0, a1] st h Q = wp S d 58 139 [a0, a1] (.int (nI 6) :: st) h Q := wp_p hc58 dX5_init_137 rfl
theorem e58_139 : wp S d 58 139 [a0, a1] (.int y :: .int x :: st) h Q = if y ≤ x then wp S d 58 160 [a0, a1] st h Q else wp S d 58 142 [a0, a1] st h Q := wp_ge hc58 dX5_init_139 rfl
theorem e58_142 : wp S d 58 142 [some (.ref r), a1] st h Q = wp S d 58 143 [some (.ref r), a1] (.ref r :: st) h Q := wp_p hc58 dX5_init_142 rfl
theorem e58_143 : wp S d 58 143 [a0, a1] (.ref r :: st) h Q = am_gfK h r 5 0 (fun w => wp S d 58 146 [a0, a1] (w :: st) h Q) := wp_gf hc58 dX5_init_143 ho58 fl5_7
theorem e58_146 : wp S d 58 146 [a0, a1] st h Q = wp S d 58 148 [a0, a1] (.int (nI 117) :: st) h Q := wp_p hc58 dX5_init_146 rfl
theorem e58_148 : wp S d 58 148 [a0, a1] st h Q = wp S d 58 149 [a0, a1] (.int (nI 5) :: st) h Q := wp_p hc58 dX5_init_148 rfl
theorem e58_149 : wp S d 58 149 [a0, some (.int x)] st h Q = wp S d 58 150 [a0, some (.int x)] (.int x :: st) h Q := wp_p hc58 dX5_init_149 rfl
theorem e58_150 : wp S d 58 150 [a0, a1] (.int y :: .int x :: st) h Q = wp S d 58 151 [a0, a1] (.int (x * y) :: st) h Q := wp_p hc58 dX5_init_150 rfl
theorem e58_151 : wp S d 58 151 [a0, a1] (.int y :: .int x :: st) h Q = wp S d 58 152 [a0, a1] (.int (x + y) :: st) h Q := wp_p hc58 dX5_init_151 rfl
theorem e58_152 : wp S d 58 152 [a0, a1] st h Q = wp S d 58 153 [a0, a1] (.int ((-1)) :: st) h Q := wp_p hc58 dX5_init_152 rfl
theorem e58_153 : wp S d 58 153 [a0, a1] (.int y :: .int x :: .ref r :: st) h Q = am_isK h r x y (fun h => wp S d 58 154 [a0, a1] st h Q) := wp_is hc58 dX5_init_153
theorem e58_154 : wp S d 58 154 [a0, some (.int x)] st h Q = wp S d 58 157 [a0, some (.int (x + nI 1))] st h Q := wp_p hc58 dX5_init_154 rfl
theorem e58_157 : wp S d 58 157 [a0, a1] st h Q = wp S d 58 136 [a0, a1] st h Q := wp_p hc58 dX5_init_157 rfl
theorem e58_160 : wp S d 58 160 [some (.ref r), a1] st h Q = wp S d 58 161 [some (.ref r), a1] (.ref r :: st) h Q := wp_p hc58 dX5_init_160 rfl
theorem e58_161 : wp S d 58 161 [a0, a1] (.ref r :: st) h Q = am_gfK h r 5 0 (fun w => wp S d 58 164 [a0, a1] (w :: st) h Q) := wp_gf hc58 dX5_init_161 ho58 fl5_7
theorem e58_164 : wp S d 58 164 [a0, a1] st h Q = wp S d 58 167 [a0, a1] (.int (nI 148) :: st) h Q := wp_p hc58 dX5_init_164 rfl
theorem e58_167 : wp S d 58 167 [a0, a1] st h Q = wp S d 58 168 [a0, a1] (.int (nI 1) :: st) h Q := wp_p hc58 dX5_init_167 rfl
theorem e58_168 : wp S d 58 168 [a0, a1] (.int y :: .int x :: .ref r :: st) h Q = am_isK h r x y (fun h => wp S d 58 169 [a0, a1] st h Q) := wp_is hc58 dX5_init_168
theorem e58_169 : wp S d 58 169 [some (.ref r), a1] st h Q = wp S d 58 170 [some (.ref r), a1] (.ref r :: st) h Q := wp_p hc58 dX5_init_169 rfl
theorem e58_170 : wp S d 58 170 [a0, a1] (.ref r :: st) h Q = am_gfK h r 5 0 (fun w => wp S d 58 173 [a0, a1] (w :: st) h Q) := wp_gf hc58 dX5_init_170 ho58 fl5_7
theorem e58_173 : wp S d 58 173 [a0, a1] st h Q = wp S d 58 176 [a0, a1] (.int (nI 149) :: st) h Q := wp_p hc58 dX5_init_173 rfl
theorem e58_176 : wp S d 58 176 [a0, a1] st h Q = wp S d 58 177 [a0, a1] (.int (nI 0) :: st) h Q := wp_p hc58 dX5_init_176 rfl
theorem e58_177 : wp S d 58 177 [a0, a1] (.int y :: .int x :: .ref r :: st) h Q = am_isK h r x y (fun h => wp S d 58 178 [a0, a1] st h Q) := wp_is hc58 dX5_init_177
theorem e58_178 : wp S d 58 178 ls [] h Q = Q (.inl none, h) := wp_r hc58 dX5_init_178 rfl rfl ⟨rfl, rfl, rfl⟩
theorem e59_0 : wp S d 59 0 [a0, some (.int x), a2, a3, a4] st h Q = wp S d 59 1 [a0, some (.int x), a2, a3, a4] (.int x :: st) h Q := wp_p hc59 dX5_setOld_0 rfl
theorem e59_1 : wp S (d + 1) 59 1 [a0, a1, a2, a3, a4] (.int x1 :: st) h Q = (am_w8 st ∧ wp S d 60 0 [some (.int x1)] [] h (am_kr S 0 (d + 1) 59 1 [a0, a1, a2, a3, a4] st Q)) := wp_cS [.int x1] hc59 dX5_setOld_1 ho59 cl5_62 (by decide) ns5_62 hst60 hnp60 hml60 hlsl60 rfl rfl rfl
theorem e59_4 : wp S d 59 4 [a0, a1, a2, a3, a4] (.int x :: st) h Q = if x = 0 then wp S d 59 33 [a0, a1, a2, a3, a4] st h Q else wp S d 59 7 [a0, a1, a2, a3, a4] st h Q := wp_eq hc59 dX5_setOld_4 rfl
theorem e59_7 : wp S d 59 7 [a0, a1, some (.int x), a3, a4] st h Q = wp S d 59 8 [a0, a1, some (.int x), a3, a4] (.int x :: st) h Q := wp_p hc59 dX5_setOld_7 rfl
theorem e59_8 : wp S d 59 8 [a0, a1, a2, a3, a4] (.int x :: st) h Q = wp S d 59 9 [a0, a1, a2, a3, a4] (.long x.toInt64 :: st) h Q := wp_p hc59 dX5_setOld_8 rfl
theorem e59_9 : wp S d 59 9 [a0, a1, a2, a3, a4] st h Q = wp S d 59 10 [a0, a1, a2, a3, a4] (.long (nI 0).toInt64 :: st) h Q := wp_p hc59 dX5_setOld_9 rfl
theorem e59_10 : wp S d 59 10 [a0, a1, a2, a3, a4] st h Q = wp S d 59 13 [a0, a1, a2, a3, a4] (.long ((nI 3 : Int32).toInt64) :: st) h Q := wp_l2 hc59 dX5_setOld_10 ho59 l25_66
theorem e59_13 : wp S (d + 1) 59 13 [a0, a1, a2, a3, a4] (.long u3 :: .long u2 :: .long u1 :: st) h Q = (am_w8 st ∧ wp S d 61 0 [some (.long u1), none, some (.long u2), none, some (.long u3), none] [] h (am_kr S 0 (d + 1) 59 13 [a0, a1, a2, a3, a4] st Q)) := wp_cS [.long u1, .long u2, .long u3] hc59 dX5_setOld_13 ho59 cl5_55 (by decide) ns5_55 hst61 hnp61 hml61 hlsl61 rfl rfl rfl
theorem e59_16 : wp S d 59 16 [a0, a1, a2, a3, a4] (.int x :: st) h Q = if x = 0 then wp S d 59 33 [a0, a1, a2, a3, a4] st h Q else wp S d 59 19 [a0, a1, a2, a3, a4] st h Q := wp_eq hc59 dX5_setOld_16 rfl
theorem e59_19 : wp S d 59 19 [a0, a1, a2, some (.int x), a4] st h Q = wp S d 59 20 [a0, a1, a2, some (.int x), a4] (.int x :: st) h Q := wp_p hc59 dX5_setOld_19 rfl
theorem e59_20 : wp S d 59 20 [a0, a1, a2, a3, a4] (.int x :: st) h Q = wp S d 59 21 [a0, a1, a2, a3, a4] (.long x.toInt64 :: st) h Q := wp_p hc59 dX5_setOld_20 rfl
theorem e59_21 : wp S d 59 21 [a0, a1, a2, a3, a4] st h Q = wp S d 59 22 [a0, a1, a2, a3, a4] (.long (nI 0).toInt64 :: st) h Q := wp_p hc59 dX5_setOld_21 rfl
theorem e59_22 : wp S d 59 22 [a0, a1, a2, a3, a4] st h Q = wp S d 59 23 [a0, a1, a2, a3, a4] (.long (nI 1).toInt64 :: st) h Q := wp_p hc59 dX5_setOld_22 rfl
theorem e59_23 : wp S (d + 1) 59 23 [a0, a1, a2, a3, a4] (.long u3 :: .long u2 :: .long u1 :: st) h Q = (am_w8 st ∧ wp S d 61 0 [some (.long u1), none, some (.long u2), none, some (.long u3), none] [] h (am_kr S 0 (d + 1) 59 23 [a0, a1, a2, a3, a4] st Q)) := wp_cS [.long u1, .long u2, .long u3] hc59 dX5_setOld_23 ho59 cl5_55 (by decide) ns5_55 hst61 hnp61 hml61 hlsl61 rfl rfl rfl
theorem e59_26 : wp S d 59 26 [a0, a1, a2, a3, a4] (.int x :: st) h Q = if x = 0 then wp S d 59 33 [a0, a1, a2, a3, a4] st h Q else wp S d 59 29 [a0, a1, a2, a3, a4] st h Q := wp_eq hc59 dX5_setOld_26 rfl
theorem e59_29 : wp S d 59 29 [a0, a1, a2, a3, a4] st h Q = wp S d 59 30 [a0, a1, a2, a3, a4] (.int (nI 1) :: st) h Q := wp_p hc59 dX5_setOld_29 rfl
theorem e59_30 : wp S d 59 30 [a0, a1, a2, a3, a4] st h Q = wp S d 59 34 [a0, a1, a2, a3, a4] st h Q := wp_p hc59 dX5_setOld_30 rfl
theorem e59_33 : wp S d 59 33 [a0, a1, a2, a3, a4] st h Q = wp S d 59 34 [a0, a1, a2, a3, a4] (.int (nI 0) :: st) h Q := wp_p hc59 dX5_setOld_33 rfl
theorem e59_34 : wp S d 59 34 [a0, a1, a2, a3, a4] (.int x :: st) h Q = wp S d 59 36 [a0, a1, a2, a3, some (.int x)] st h Q := wp_p hc59 dX5_setOld_34 rfl
theorem e59_36 : wp S d 59 36 [a0, a1, a2, a3, some (.int x)] st h Q = wp S d 59 38 [a0, a1, a2, a3, some (.int x)] (.int x :: st) h Q := wp_p hc59 dX5_setOld_36 rfl
theorem e59_38 : wp S d 59 38 [a0, a1, a2, a3, a4] (.int x :: st) h Q = if x = 0 then wp S d 59 56 [a0, a1, a2, a3, a4] st h Q else wp S d 59 41 [a0, a1, a2, a3, a4] st h Q := wp_eq hc59 dX5_setOld_38 rfl
theorem e59_41 : wp S d 59 41 [some (.ref r), a1, a2, a3, a4] st h Q = wp S d 59 42 [some (.ref r), a1, a2, a3, a4] (.ref r :: st) h Q := wp_p hc59 dX5_setOld_41 rfl
theorem e59_42 : wp S d 59 42 [a0, a1, a2, a3, a4] st h Q = wp S d 59 43 [a0, a1, a2, a3, a4] (.int (nI 0) :: st) h Q := wp_p hc59 dX5_setOld_42 rfl
theorem e59_43 : wp S d 59 43 [a0, a1, a2, a3, a4] st h Q = wp S d 59 45 [a0, a1, a2, a3, a4] (.int (nI 7) :: st) h Q := wp_p hc59 dX5_setOld_43 rfl
theorem e59_45 : wp S d 59 45 [a0, some (.int x), a2, a3, a4] st h Q = wp S d 59 46 [a0, some (.int x), a2, a3, a4] (.int x :: st) h Q := wp_p hc59 dX5_setOld_45 rfl
theorem e59_46 : wp S d 59 46 [a0, a1, a2, a3, a4] (.int y :: .int x :: st) h Q = wp S d 59 47 [a0, a1, a2, a3, a4] (.int (x * y) :: st) h Q := wp_p hc59 dX5_setOld_46 rfl
theorem e59_47 : wp S d 59 47 [a0, a1, a2, a3, a4] (.int y :: .int x :: st) h Q = wp S d 59 48 [a0, a1, a2, a3, a4] (.int (x + y) :: st) h Q := wp_p hc59 dX5_setOld_47 rfl
theorem e59_48 : wp S d 59 48 [a0, a1, some (.int x), a3, a4] st h Q = wp S d 59 49 [a0, a1, some (.int x), a3, a4] (.int x :: st) h Q := wp_p hc59 dX5_setOld_48 rfl
theorem e59_49 : wp S d 59 49 [a0, a1, a2, some (.int x), a4] st h Q = wp S d 59 50 [a0, a1, a2, some (.int x), a4] (.int x :: st) h Q := wp_p hc59 dX5_setOld_49 rfl
theorem e59_50 : wp S (d + 1) 59 50 [a0, a1, a2, a3, a4] (.int x3 :: .int x2 :: .int x1 :: .ref r0 :: st) h Q = (am_w8 st ∧ am_rcv h 2 62 (.ref r0) = true ∧ wp S d 62 0 [some (.ref r0), some (.int x1), some (.int x2), some (.int x3), none] [] h (am_kr S 2 (d + 1) 59 50 [a0, a1, a2, a3, a4] st Q)) := wp_cV (.ref r0) [.int x1, .int x2, .int x3] hc59 dX5_setOld_50 ho59 cl5_68 (by decide) ns5_68 hst62 hnp62 hml62 hlsl62 rfl rfl rfl
theorem e59_53 : wp S d 59 53 [a0, a1, a2, a3, a4] st h Q = wp S d 59 62 [a0, a1, a2, a3, a4] st h Q := wp_p hc59 dX5_setOld_53 rfl
theorem e59_56 : wp S d 59 56 [some (.ref r), a1, a2, a3, a4] st h Q = wp S d 59 57 [some (.ref r), a1, a2, a3, a4] (.ref r :: st) h Q := wp_p hc59 dX5_setOld_56 rfl
theorem e59_57 : wp S d 59 57 [a0, a1, a2, a3, a4] st h Q = wp S d 59 59 [a0, a1, a2, a3, a4] (.int ((-2)) :: st) h Q := wp_p hc59 dX5_setOld_57 rfl
theorem e59_59 : wp S (d + 1) 59 59 [a0, a1, a2, a3, a4] (.int x1 :: .ref r0 :: st) h Q = (am_w8 st ∧ am_rcv h 2 64 (.ref r0) = true ∧ wp S d 64 0 [some (.ref r0), some (.int x1)] [] h (am_kr S 2 (d + 1) 59 59 [a0, a1, a2, a3, a4] st Q)) := wp_cV (.ref r0) [.int x1] hc59 dX5_setOld_59 ho59 cl5_72 (by decide) ns5_72 hst64 hnp64 hml64 hlsl64 rfl rfl rfl
theorem e59_62 : wp S d 59 62 ls [.int x] h Q = Q (.inl (some (.int x)), h) := wp_r hc59 dX5_setOld_62 rfl rfl ⟨x, _, rfl, rfl, rfl, rfl⟩
theorem e60_0 : wp S d 60 0 [some (.int x)] st h Q = wp S d 60 1 [some (.int x)] (.int x :: st) h Q := wp_p hc60 dX5_isFunction_0 rfl
theorem e60_1 : wp S d 60 1 [a0] (.int x :: st) h Q = wp S d 60 2 [a0] (.long x.toInt64 :: st) h Q := wp_p hc60 dX5_isFunction_1 rfl
theorem e60_2 : wp S d 60 2 [a0] st h Q = wp S d 60 3 [a0] (.long (nI 0).toInt64 :: st) h Q := wp_p hc60 dX5_isFunction_2 rfl
theorem e60_3 : wp S d 60 3 [a0] st h Q = wp S d 60 6 [a0] (.long ((nI 5 : Int32).toInt64) :: st) h Q := wp_l2 hc60 dX5_isFunction_3 ho60 l25_53
theorem e60_6 : wp S (d + 1) 60 6 [a0] (.long u3 :: .long u2 :: .long u1 :: st) h Q = (am_w8 st ∧ wp S d 61 0 [some (.long u1), none, some (.long u2), none, some (.long u3), none] [] h (am_kr S 0 (d + 1) 60 6 [a0] st Q)) := wp_cS [.long u1, .long u2, .long u3] hc60 dX5_isFunction_6 ho60 cl5_55 (by decide) ns5_55 hst61 hnp61 hml61 hlsl61 rfl rfl rfl
theorem e60_9 : wp S d 60 9 ls [.int x] h Q = (narrow .boolean (.int x) = .int x ∧ Q (.inl (some (.int x)), h)) := wp_rI hc60 dX5_isFunction_9 rfl
theorem e61_0 : wp S d 61 0 [some (.long u), a1, a2, a3, a4, a5] st h Q = wp S d 61 1 [some (.long u), a1, a2, a3, a4, a5] (.long u :: st) h Q := wp_p hc61 dX5_in_0 rfl
theorem e61_1 : wp S d 61 1 [a0, a1, some (.long u), a3, a4, a5] st h Q = wp S d 61 2 [a0, a1, some (.long u), a3, a4, a5] (.long u :: st) h Q := wp_p hc61 dX5_in_1 rfl
theorem e61_2 : wp S d 61 2 [a0, a1, a2, a3, a4, a5] (.long v :: .long u :: st) h Q = wp S d 61 3 [a0, a1, a2, a3, a4, a5] (.int (lg_cmp u v) :: st) h Q := wp_p hc61 dX5_in_2 rfl
theorem e61_3 : wp S d 61 3 [a0, a1, a2, a3, a4, a5] (.int x :: st) h Q = if x < 0 then wp S d 61 17 [a0, a1, a2, a3, a4, a5] st h Q else wp S d 61 6 [a0, a1, a2, a3, a4, a5] st h Q := wp_lt hc61 dX5_in_3 rfl
theorem e61_6 : wp S d 61 6 [some (.long u), a1, a2, a3, a4, a5] st h Q = wp S d 61 7 [some (.long u), a1, a2, a3, a4, a5] (.long u :: st) h Q := wp_p hc61 dX5_in_6 rfl
theorem e61_7 : wp S d 61 7 [a0, a1, a2, a3, some (.long u), a5] st h Q = wp S d 61 9 [a0, a1, a2, a3, some (.long u), a5] (.long u :: st) h Q := wp_p hc61 dX5_in_7 rfl
theorem e61_9 : wp S d 61 9 [a0, a1, a2, a3, a4, a5] (.long v :: .long u :: st) h Q = wp S d 61 10 [a0, a1, a2, a3, a4, a5] (.int (lg_cmp u v) :: st) h Q := wp_p hc61 dX5_in_9 rfl
theorem e61_10 : wp S d 61 10 [a0, a1, a2, a3, a4, a5] (.int x :: st) h Q = if 0 < x then wp S d 61 17 [a0, a1, a2, a3, a4, a5] st h Q else wp S d 61 13 [a0, a1, a2, a3, a4, a5] st h Q := wp_gt hc61 dX5_in_10 rfl
theorem e61_13 : wp S d 61 13 [a0, a1, a2, a3, a4, a5] st h Q = wp S d 61 14 [a0, a1, a2, a3, a4, a5] (.int (nI 1) :: st) h Q := wp_p hc61 dX5_in_13 rfl
theorem e61_14 : wp S d 61 14 [a0, a1, a2, a3, a4, a5] st h Q = wp S d 61 18 [a0, a1, a2, a3, a4, a5] st h Q := wp_p hc61 dX5_in_14 rfl
theorem e61_17 : wp S d 61 17 [a0, a1, a2, a3, a4, a5] st h Q = wp S d 61 18 [a0, a1, a2, a3, a4, a5] (.int (nI 0) :: st) h Q := wp_p hc61 dX5_in_17 rfl
theorem e61_18 : wp S d 61 18 ls [.int x] h Q = (narrow .boolean (.int x) = .int x ∧ Q (.inl (some (.int x)), h)) := wp_rI hc61 dX5_in_18 rfl
theorem e62_0 : wp S d 62 0 [some (.ref r), a1, a2, a3, a4] st h Q = wp S d 62 1 [some (.ref r), a1, a2, a3, a4] (.ref r :: st) h Q := wp_p hc62 dX5_sets_0 rfl
theorem e62_1 : wp S (d + 1) 62 1 [a0, a1, a2, a3, a4] (.ref r0 :: st) h Q = (am_w8 st ∧ am_rcv h 2 63 (.ref r0) = true ∧ wp S d 63 0 [some (.ref r0), none] [] h (am_kr S 2 (d + 1) 62 1 [a0, a1, a2, a3, a4] st Q)) := wp_cV (.ref r0) [] hc62 dX5_sets_1 ho62 cl5_59 (by decide) ns5_59 hst63 hnp63 hml63 hlsl63 rfl rfl rfl
theorem e62_4 : wp S d 62 4 [some (.ref r), a1, a2, a3, a4] st h Q = wp S d 62 5 [some (.ref r), a1, a2, a3, a4] (.ref r :: st) h Q := wp_p hc62 dX5_sets_4 rfl
theorem e62_5 : wp S d 62 5 [a0, a1, a2, a3, a4] (.ref r :: st) h Q = am_gfK h r 5 0 (fun w => wp S d 62 8 [a0, a1, a2, a3, a4] (w :: st) h Q) := wp_gf hc62 dX5_sets_5 ho62 fl5_7
theorem e62_8 : wp S d 62 8 [a0, some (.int x), a2, a3, a4] st h Q = wp S d 62 9 [a0, some (.int x), a2, a3, a4] (.int x :: st) h Q := wp_p hc62 dX5_sets_8 rfl
theorem e62_9 : wp S d 62 9 [a0, a1, a2, a3, a4] st h Q = wp S d 62 10 [a0, a1, a2, a3, a4] (.int (nI 0) :: st) h Q := wp_p hc62 dX5_sets_9 rfl
theorem e62_10 : wp S d 62 10 [a0, a1, a2, a3, a4] (.int y :: .int x :: st) h Q = wp S d 62 11 [a0, a1, a2, a3, a4] (.int (x + y) :: st) h Q := wp_p hc62 dX5_sets_10 rfl
theorem e62_11 : wp S d 62 11 [a0, a1, a2, a3, a4] (.int x :: .ref r :: st) h Q = am_iaK h r x (fun z => wp S d 62 12 [a0, a1, a2, a3, a4] (.int z :: st) h Q) := wp_ia hc62 dX5_sets_11
theorem e62_12 : wp S d 62 12 [a0, a1, a2, a3, a4] (.int x :: st) h Q = wp S d 62 14 [a0, a1, a2, a3, some (.int x)] st h Q := wp_p hc62 dX5_sets_12 rfl
theorem e62_14 : wp S d 62 14 [some (.ref r), a1, a2, a3, a4] st h Q = wp S d 62 15 [some (.ref r), a1, a2, a3, a4] (.ref r :: st) h Q := wp_p hc62 dX5_sets_14 rfl
theorem e62_15 : wp S d 62 15 [a0, a1, a2, a3, a4] (.ref r :: st) h Q = am_gfK h r 5 0 (fun w => wp S d 62 18 [a0, a1, a2, a3, a4] (w :: st) h Q) := wp_gf hc62 dX5_sets_15 ho62 fl5_7
theorem e62_18 : wp S d 62 18 [a0, some (.int x), a2, a3, a4] st h Q = wp S d 62 19 [a0, some (.int x), a2, a3, a4] (.int x :: st) h Q := wp_p hc62 dX5_sets_18 rfl
theorem e62_19 : wp S d 62 19 [a0, a1, a2, a3, a4] st h Q = wp S d 62 20 [a0, a1, a2, a3, a4] (.int (nI 0) :: st) h Q := wp_p hc62 dX5_sets_19 rfl
theorem e62_20 : wp S d 62 20 [a0, a1, a2, a3, a4] (.int y :: .int x :: st) h Q = wp S d 62 21 [a0, a1, a2, a3, a4] (.int (x + y) :: st) h Q := wp_p hc62 dX5_sets_20 rfl
theorem e62_21 : wp S d 62 21 [a0, a1, some (.int x), a3, a4] st h Q = wp S d 62 22 [a0, a1, some (.int x), a3, a4] (.int x :: st) h Q := wp_p hc62 dX5_sets_21 rfl
theorem e62_22 : wp S d 62 22 [a0, a1, a2, a3, a4] (.int y :: .int x :: .ref r :: st) h Q = am_isK h r x y (fun h => wp S d 62 23 [a0, a1, a2, a3, a4] st h Q) := wp_is hc62 dX5_sets_22
theorem e62_23 : wp S d 62 23 [some (.ref r), a1, a2, a3, a4] st h Q = wp S d 62 24 [some (.ref r), a1, a2, a3, a4] (.ref r :: st) h Q := wp_p hc62 dX5_sets_23 rfl
theorem e62_24 : wp S d 62 24 [a0, a1, a2, a3, a4] (.ref r :: st) h Q = am_gfK h r 5 0 (fun w => wp S d 62 27 [a0, a1, a2, a3, a4] (w :: st) h Q) := wp_gf hc62 dX5_sets_24 ho62 fl5_7
theorem e62_27 : wp S d 62 27 [a0, some (.int x), a2, a3, a4] st h Q = wp S d 62 28 [a0, some (.int x), a2, a3, a4] (.int x :: st) h Q := wp_p hc62 dX5_sets_27 rfl
theorem e62_28 : wp S d 62 28 [a0, a1, a2, a3, a4] st h Q = wp S d 62 29 [a0, a1, a2, a3, a4] (.int (nI 1) :: st) h Q := wp_p hc62 dX5_sets_28 rfl
theorem e62_29 : wp S d 62 29 [a0, a1, a2, a3, a4] (.int y :: .int x :: st) h Q = wp S d 62 30 [a0, a1, a2, a3, a4] (.int (x + y) :: st) h Q := wp_p hc62 dX5_sets_29 rfl
theorem e62_30 : wp S d 62 30 [a0, a1, a2, some (.int x), a4] st h Q = wp S d 62 31 [a0, a1, a2, some (.int x), a4] (.int x :: st) h Q := wp_p hc62 dX5_sets_30 rfl
theorem e62_31 : wp S d 62 31 [a0, a1, a2, a3, a4] (.int y :: .int x :: .ref r :: st) h Q = am_isK h r x y (fun h => wp S d 62 32 [a0, a1, a2, a3, a4] st h Q) := wp_is hc62 dX5_sets_31
theorem e62_32 : wp S d 62 32 [a0, a1, a2, a3, some (.int x)] st h Q = wp S d 62 34 [a0, a1, a2, a3, some (.int x)] (.int x :: st) h Q := wp_p hc62 dX5_sets_32 rfl
theorem e62_34 : wp S d 62 34 ls [.int x] h Q = Q (.inl (some (.int x)), h) := wp_r hc62 dX5_sets_34 rfl rfl ⟨x, _, rfl, rfl, rfl, rfl⟩
theorem e63_0 : wp S d 63 0 [some (.ref r), a1] st h Q = wp S d 63 1 [some (.ref r), a1] (.ref r :: st) h Q := wp_p hc63 dX5_save_0 rfl
theorem e63_1 : wp S d 63 1 [a0, a1] (.ref r :: st) h Q = am_gfK h r 5 2 (fun w => wp S d 63 4 [a0, a1] (w :: st) h Q) := wp_gf hc63 dX5_save_1 ho63 fl5_49
theorem e63_4 : wp S d 63 4 [a0, a1] st h Q = wp S d 63 5 [a0, a1] (.int (nI 4) :: st) h Q := wp_p hc63 dX5_save_4 rfl
theorem e63_5 : wp S d 63 5 [a0, a1] (.int y :: .int x :: st) h Q = if x = y then wp S d 63 8 [a0, a1] st h Q else wp S d 63 49 [a0, a1] st h Q := wp_ne hc63 dX5_save_5 rfl
theorem e63_8 : wp S d 63 8 [a0, a1] st h Q = wp S d 63 9 [a0, a1] (.int (nI 0) :: st) h Q := wp_p hc63 dX5_save_8 rfl
theorem e63_9 : wp S d 63 9 [a0, a1] (.int x :: st) h Q = wp S d 63 10 [a0, some (.int x)] st h Q := wp_p hc63 dX5_save_9 rfl
theorem e63_10 : wp S d 63 10 [a0, some (.int x)] st h Q = wp S d 63 11 [a0, some (.int x)] (.int x :: st) h Q := wp_p hc63 dX5_save_10 rfl
theorem e63_11 : wp S d 63 11 [a0, a1] st h Q = wp S d 63 14 [a0, a1] (.int (nI 558) :: st) h Q := wp_p hc63 dX5_save_11 rfl
theorem e63_14 : wp S d 63 14 [a0, a1] (.int y :: .int x :: st) h Q = if y ≤ x then wp S d 63 39 [a0, a1] st h Q else wp S d 63 17 [a0, a1] st h Q := wp_ge hc63 dX5_save_14 rfl
theorem e63_17 : wp S d 63 17 [some (.ref r), a1] st h Q = wp S d 63 18 [some (.ref r), a1] (.ref r :: st) h Q := wp_p hc63 dX5_save_17 rfl
theorem e63_18 : wp S d 63 18 [a0, a1] (.ref r :: st) h Q = am_gfK h r 5 1 (fun w => wp S d 63 21 [a0, a1] (w :: st) h Q) := wp_gf hc63 dX5_save_18 ho63 fl5_13
theorem e63_21 : wp S d 63 21 [a0, some (.int x)] st h Q = wp S d 63 22 [a0, some (.int x)] (.int x :: st) h Q := wp_p hc63 dX5_save_21 rfl
theorem e63_22 : wp S d 63 22 [some (.ref r), a1] st h Q = wp S d 63 23 [some (.ref r), a1] (.ref r :: st) h Q := wp_p hc63 dX5_save_22 rfl
theorem e63_23 : wp S d 63 23 [a0, a1] (.ref r :: st) h Q = am_gfK h r 5 1 (fun w => wp S d 63 26 [a0, a1] (w :: st) h Q) := wp_gf hc63 dX5_save_23 ho63 fl5_13
theorem e63_26 : wp S d 63 26 [a0, some (.int x)] st h Q = wp S d 63 27 [a0, some (.int x)] (.int x :: st) h Q := wp_p hc63 dX5_save_26 rfl
theorem e63_27 : wp S d 63 27 [a0, a1] st h Q = wp S d 63 30 [a0, a1] (.int (nI 186) :: st) h Q := wp_p hc63 dX5_save_27 rfl
theorem e63_30 : wp S d 63 30 [a0, a1] (.int y :: .int x :: st) h Q = wp S d 63 31 [a0, a1] (.int (x + y) :: st) h Q := wp_p hc63 dX5_save_30 rfl
theorem e63_31 : wp S d 63 31 [a0, a1] (.int x :: .ref r :: st) h Q = am_iaK h r x (fun z => wp S d 63 32 [a0, a1] (.int z :: st) h Q) := wp_ia hc63 dX5_save_31
theorem e63_32 : wp S d 63 32 [a0, a1] (.int y :: .int x :: .ref r :: st) h Q = am_isK h r x y (fun h => wp S d 63 33 [a0, a1] st h Q) := wp_is hc63 dX5_save_32
theorem e63_33 : wp S d 63 33 [a0, some (.int x)] st h Q = wp S d 63 36 [a0, some (.int (x + nI 1))] st h Q := wp_p hc63 dX5_save_33 rfl
theorem e63_36 : wp S d 63 36 [a0, a1] st h Q = wp S d 63 10 [a0, a1] st h Q := wp_p hc63 dX5_save_36 rfl
theorem e63_39 : wp S d 63 39 [some (.ref r), a1] st h Q = wp S d 63 40 [some (.ref r), a1] (.ref r :: st) h Q := wp_p hc63 dX5_save_39 rfl
theorem e63_40 : wp S d 63 40 [a0, a1] (.ref r :: st) h Q = wp S d 63 41 [a0, a1] (.ref r :: .ref r :: st) h Q := wp_p hc63 dX5_save_40 rfl
theorem e63_40i : wp S d 63 40 [a0, a1] (.int x :: st) h Q = wp S d 63 41 [a0, a1] (.int x :: .int x :: st) h Q := wp_p hc63 dX5_save_40 rfl
theorem e63_41 : wp S d 63 41 [a0, a1] (.ref r :: st) h Q = am_gfK h r 5 2 (fun w => wp S d 63 44 [a0, a1] (w :: st) h Q) := wp_gf hc63 dX5_save_41 ho63 fl5_49
theorem e63_44 : wp S d 63 44 [a0, a1] st h Q = wp S d 63 45 [a0, a1] (.int (nI 1) :: st) h Q := wp_p hc63 dX5_save_44 rfl
theorem e63_45 : wp S d 63 45 [a0, a1] (.int y :: .int x :: st) h Q = wp S d 63 46 [a0, a1] (.int (x - y) :: st) h Q := wp_p hc63 dX5_save_45 rfl
theorem e63_46 : wp S d 63 46 [a0, a1] (w :: .ref r :: st) h Q = am_pfK 63 h r 5 2 false w (fun h => wp S d 63 49 [a0, a1] st h Q) := wp_pf hc63 dX5_save_46 ho63 fl5_49
theorem e63_49 : wp S d 63 49 [a0, a1] st h Q = wp S d 63 50 [a0, a1] (.int (nI 0) :: st) h Q := wp_p hc63 dX5_save_49 rfl
theorem e63_50 : wp S d 63 50 [a0, a1] (.int x :: st) h Q = wp S d 63 51 [a0, some (.int x)] st h Q := wp_p hc63 dX5_save_50 rfl
theorem e63_51 : wp S d 63 51 [a0, some (.int x)] st h Q = wp S d 63 52 [a0, some (.int x)] (.int x :: st) h Q := wp_p hc63 dX5_save_51 rfl
theorem e63_52 : wp S d 63 52 [a0, a1] st h Q = wp S d 63 55 [a0, a1] (.int (nI 186) :: st) h Q := wp_p hc63 dX5_save_52 rfl
theorem e63_55 : wp S d 63 55 [a0, a1] (.int y :: .int x :: st) h Q = if y ≤ x then wp S d 63 85 [a0, a1] st h Q else wp S d 63 58 [a0, a1] st h Q := wp_ge hc63 dX5_save_55 rfl
theorem e63_58 : wp S d 63 58 [some (.ref r), a1] st h Q = wp S d 63 59 [some (.ref r), a1] (.ref r :: st) h Q := wp_p hc63 dX5_save_58 rfl
theorem e63_59 : wp S d 63 59 [a0, a1] (.ref r :: st) h Q = am_gfK h r 5 1 (fun w => wp S d 63 62 [a0, a1] (w :: st) h Q) := wp_gf hc63 dX5_save_59 ho63 fl5_13
theorem e63_62 : wp S d 63 62 [a0, a1] st h Q = wp S d 63 65 [a0, a1] (.int (nI 186) :: st) h Q := wp_p hc63 dX5_save_62 rfl
theorem e63_65 : wp S d 63 65 [some (.ref r), a1] st h Q = wp S d 63 66 [some (.ref r), a1] (.ref r :: st) h Q := wp_p hc63 dX5_save_65 rfl
theorem e63_66 : wp S d 63 66 [a0, a1] (.ref r :: st) h Q = am_gfK h r 5 2 (fun w => wp S d 63 69 [a0, a1] (w :: st) h Q) := wp_gf hc63 dX5_save_66 ho63 fl5_49
theorem e63_69 : wp S d 63 69 [a0, a1] (.int y :: .int x :: st) h Q = wp S d 63 70 [a0, a1] (.int (x * y) :: st) h Q := wp_p hc63 dX5_save_69 rfl
theorem e63_70 : wp S d 63 70 [a0, some (.int x)] st h Q = wp S d 63 71 [a0, some (.int x)] (.int x :: st) h Q := wp_p hc63 dX5_save_70 rfl
theorem e63_71 : wp S d 63 71 [a0, a1] (.int y :: .int x :: st) h Q = wp S d 63 72 [a0, a1] (.int (x + y) :: st) h Q := wp_p hc63 dX5_save_71 rfl
theorem e63_72 : wp S d 63 72 [some (.ref r), a1] st h Q = wp S d 63 73 [some (.ref r), a1] (.ref r :: st) h Q := wp_p hc63 dX5_save_72 rfl
theorem e63_73 : wp S d 63 73 [a0, a1] (.ref r :: st) h Q = am_gfK h r 5 0 (fun w => wp S d 63 76 [a0, a1] (w :: st) h Q) := wp_gf hc63 dX5_save_73 ho63 fl5_7
theorem e63_76 : wp S d 63 76 [a0, some (.int x)] st h Q = wp S d 63 77 [a0, some (.int x)] (.int x :: st) h Q := wp_p hc63 dX5_save_76 rfl
theorem e63_77 : wp S d 63 77 [a0, a1] (.int x :: .ref r :: st) h Q = am_iaK h r x (fun z => wp S d 63 78 [a0, a1] (.int z :: st) h Q) := wp_ia hc63 dX5_save_77
theorem e63_78 : wp S d 63 78 [a0, a1] (.int y :: .int x :: .ref r :: st) h Q = am_isK h r x y (fun h => wp S d 63 79 [a0, a1] st h Q) := wp_is hc63 dX5_save_78
theorem e63_79 : wp S d 63 79 [a0, some (.int x)] st h Q = wp S d 63 82 [a0, some (.int (x + nI 1))] st h Q := wp_p hc63 dX5_save_79 rfl
theorem e63_82 : wp S d 63 82 [a0, a1] st h Q = wp S d 63 51 [a0, a1] st h Q := wp_p hc63 dX5_save_82 rfl
theorem e63_85 : wp S d 63 85 [some (.ref r), a1] st h Q = wp S d 63 86 [some (.ref r), a1] (.ref r :: st) h Q := wp_p hc63 dX5_save_85 rfl
theorem e63_86 : wp S d 63 86 [a0, a1] (.ref r :: st) h Q = wp S d 63 87 [a0, a1] (.ref r :: .ref r :: st) h Q := wp_p hc63 dX5_save_86 rfl
theorem e63_86i : wp S d 63 86 [a0, a1] (.int x :: st) h Q = wp S d 63 87 [a0, a1] (.int x :: .int x :: st) h Q := wp_p hc63 dX5_save_86 rfl
theorem e63_87 : wp S d 63 87 [a0, a1] (.ref r :: st) h Q = am_gfK h r 5 2 (fun w => wp S d 63 90 [a0, a1] (w :: st) h Q) := wp_gf hc63 dX5_save_87 ho63 fl5_49
theorem e63_90 : wp S d 63 90 [a0, a1] st h Q = wp S d 63 91 [a0, a1] (.int (nI 1) :: st) h Q := wp_p hc63 dX5_save_90 rfl
theorem e63_91 : wp S d 63 91 [a0, a1] (.int y :: .int x :: st) h Q = wp S d 63 92 [a0, a1] (.int (x + y) :: st) h Q := wp_p hc63 dX5_save_91 rfl
theorem e63_92 : wp S d 63 92 [a0, a1] (w :: .ref r :: st) h Q = am_pfK 63 h r 5 2 false w (fun h => wp S d 63 95 [a0, a1] st h Q) := wp_pf hc63 dX5_save_92 ho63 fl5_49
theorem e63_95 : wp S d 63 95 ls [] h Q = Q (.inl none, h) := wp_r hc63 dX5_save_95 rfl rfl ⟨rfl, rfl, rfl⟩
theorem e64_0 : wp S d 64 0 [some (.ref r), a1] st h Q = wp S d 64 1 [some (.ref r), a1] (.ref r :: st) h Q := wp_p hc64 dX5_error_0 rfl
theorem e64_1 : wp S d 64 1 [a0, a1] (.ref r :: st) h Q = am_gfK h r 5 3 (fun w => wp S d 64 4 [a0, a1] (w :: st) h Q) := wp_gf hc64 dX5_error_1 ho64 fl5_16
theorem e64_4 : wp S d 64 4 [a0, a1] st h Q = wp S d 64 6 [a0, a1] (.int ((-2)) :: st) h Q := wp_p hc64 dX5_error_4 rfl
theorem e64_6 : wp S d 64 6 [a0, some (.int x)] st h Q = wp S d 64 7 [a0, some (.int x)] (.int x :: st) h Q := wp_p hc64 dX5_error_6 rfl
theorem e64_7 : wp S d 64 7 [a0, a1] (.int y :: .int x :: st) h Q = wp S d 64 8 [a0, a1] (.int (x - y) :: st) h Q := wp_p hc64 dX5_error_7 rfl
theorem e64_8 : wp S d 64 8 [a0, a1] (.int x :: .ref r :: st) h Q = wp S d 64 9 [a0, a1] (.int x :: .ref r :: .int x :: .ref r :: st) h Q := wp_p hc64 dX5_error_8 rfl
theorem e64_9 : wp S d 64 9 [a0, a1] (.int x :: .ref r :: st) h Q = am_iaK h r x (fun z => wp S d 64 10 [a0, a1] (.int z :: st) h Q) := wp_ia hc64 dX5_error_9
theorem e64_10 : wp S d 64 10 [a0, a1] st h Q = wp S d 64 11 [a0, a1] (.int (nI 1) :: st) h Q := wp_p hc64 dX5_error_10 rfl
theorem e64_11 : wp S d 64 11 [a0, a1] (.int y :: .int x :: st) h Q = wp S d 64 12 [a0, a1] (.int (x + y) :: st) h Q := wp_p hc64 dX5_error_11 rfl
theorem e64_12 : wp S d 64 12 [a0, a1] (.int y :: .int x :: .ref r :: st) h Q = am_isK h r x y (fun h => wp S d 64 13 [a0, a1] st h Q) := wp_is hc64 dX5_error_12
theorem e64_13 : wp S d 64 13 [a0, some (.int x)] st h Q = wp S d 64 14 [a0, some (.int x)] (.int x :: st) h Q := wp_p hc64 dX5_error_13 rfl
theorem e64_14 : wp S d 64 14 ls [.int x] h Q = Q (.inl (some (.int x)), h) := wp_r hc64 dX5_error_14 rfl rfl ⟨x, _, rfl, rfl, rfl, rfl⟩
theorem e65_0 : wp S d 65 0 [a0, some (.int x), a2, a3, a4] st h Q = wp S d 65 1 [a0, some (.int x), a2, a3, a4] (.int x :: st) h Q := wp_p hc65 dX5_setNew_0 rfl
theorem e65_1 : wp S (d + 1) 65 1 [a0, a1, a2, a3, a4] (.int x1 :: st) h Q = (am_w8 st ∧ wp S d 60 0 [some (.int x1)] [] h (am_kr S 0 (d + 1) 65 1 [a0, a1, a2, a3, a4] st Q)) := wp_cS [.int x1] hc65 dX5_setNew_1 ho65 cl5_62 (by decide) ns5_62 hst60 hnp60 hml60 hlsl60 rfl rfl rfl
theorem e65_4 : wp S d 65 4 [a0, a1, a2, a3, a4] (.int x :: st) h Q = if x = 0 then wp S d 65 33 [a0, a1, a2, a3, a4] st h Q else wp S d 65 7 [a0, a1, a2, a3, a4] st h Q := wp_eq hc65 dX5_setNew_4 rfl
theorem e65_7 : wp S d 65 7 [a0, a1, some (.int x), a3, a4] st h Q = wp S d 65 8 [a0, a1, some (.int x), a3, a4] (.int x :: st) h Q := wp_p hc65 dX5_setNew_7 rfl
theorem e65_8 : wp S d 65 8 [a0, a1, a2, a3, a4] (.int x :: st) h Q = wp S d 65 9 [a0, a1, a2, a3, a4] (.long x.toInt64 :: st) h Q := wp_p hc65 dX5_setNew_8 rfl
theorem e65_9 : wp S d 65 9 [a0, a1, a2, a3, a4] st h Q = wp S d 65 10 [a0, a1, a2, a3, a4] (.long (nI 0).toInt64 :: st) h Q := wp_p hc65 dX5_setNew_9 rfl
theorem e65_10 : wp S d 65 10 [a0, a1, a2, a3, a4] st h Q = wp S d 65 13 [a0, a1, a2, a3, a4] (.long ((nI 4 : Int32).toInt64) :: st) h Q := wp_l2 hc65 dX5_setNew_10 ho65 l25_76
theorem e65_13 : wp S (d + 1) 65 13 [a0, a1, a2, a3, a4] (.long u3 :: .long u2 :: .long u1 :: st) h Q = (am_w8 st ∧ wp S d 61 0 [some (.long u1), none, some (.long u2), none, some (.long u3), none] [] h (am_kr S 0 (d + 1) 65 13 [a0, a1, a2, a3, a4] st Q)) := wp_cS [.long u1, .long u2, .long u3] hc65 dX5_setNew_13 ho65 cl5_55 (by decide) ns5_55 hst61 hnp61 hml61 hlsl61 rfl rfl rfl
theorem e65_16 : wp S d 65 16 [a0, a1, a2, a3, a4] (.int x :: st) h Q = if x = 0 then wp S d 65 33 [a0, a1, a2, a3, a4] st h Q else wp S d 65 19 [a0, a1, a2, a3, a4] st h Q := wp_eq hc65 dX5_setNew_16 rfl
theorem e65_19 : wp S d 65 19 [a0, a1, a2, some (.int x), a4] st h Q = wp S d 65 20 [a0, a1, a2, some (.int x), a4] (.int x :: st) h Q := wp_p hc65 dX5_setNew_19 rfl
theorem e65_20 : wp S d 65 20 [a0, a1, a2, a3, a4] (.int x :: st) h Q = wp S d 65 21 [a0, a1, a2, a3, a4] (.long x.toInt64 :: st) h Q := wp_p hc65 dX5_setNew_20 rfl
theorem e65_21 : wp S d 65 21 [a0, a1, a2, a3, a4] st h Q = wp S d 65 22 [a0, a1, a2, a3, a4] (.long (nI 0).toInt64 :: st) h Q := wp_p hc65 dX5_setNew_21 rfl
theorem e65_22 : wp S d 65 22 [a0, a1, a2, a3, a4] st h Q = wp S d 65 23 [a0, a1, a2, a3, a4] (.long (nI 1).toInt64 :: st) h Q := wp_p hc65 dX5_setNew_22 rfl
theorem e65_23 : wp S (d + 1) 65 23 [a0, a1, a2, a3, a4] (.long u3 :: .long u2 :: .long u1 :: st) h Q = (am_w8 st ∧ wp S d 61 0 [some (.long u1), none, some (.long u2), none, some (.long u3), none] [] h (am_kr S 0 (d + 1) 65 23 [a0, a1, a2, a3, a4] st Q)) := wp_cS [.long u1, .long u2, .long u3] hc65 dX5_setNew_23 ho65 cl5_55 (by decide) ns5_55 hst61 hnp61 hml61 hlsl61 rfl rfl rfl
theorem e65_26 : wp S d 65 26 [a0, a1, a2, a3, a4] (.int x :: st) h Q = if x = 0 then wp S d 65 33 [a0, a1, a2, a3, a4] st h Q else wp S d 65 29 [a0, a1, a2, a3, a4] st h Q := wp_eq hc65 dX5_setNew_26 rfl
theorem e65_29 : wp S d 65 29 [a0, a1, a2, a3, a4] st h Q = wp S d 65 30 [a0, a1, a2, a3, a4] (.int (nI 1) :: st) h Q := wp_p hc65 dX5_setNew_29 rfl
theorem e65_30 : wp S d 65 30 [a0, a1, a2, a3, a4] st h Q = wp S d 65 34 [a0, a1, a2, a3, a4] st h Q := wp_p hc65 dX5_setNew_30 rfl
theorem e65_33 : wp S d 65 33 [a0, a1, a2, a3, a4] st h Q = wp S d 65 34 [a0, a1, a2, a3, a4] (.int (nI 0) :: st) h Q := wp_p hc65 dX5_setNew_33 rfl
theorem e65_34 : wp S d 65 34 [a0, a1, a2, a3, a4] (.int x :: st) h Q = wp S d 65 36 [a0, a1, a2, a3, some (.int x)] st h Q := wp_p hc65 dX5_setNew_34 rfl
theorem e65_36 : wp S d 65 36 [a0, a1, a2, a3, some (.int x)] st h Q = wp S d 65 38 [a0, a1, a2, a3, some (.int x)] (.int x :: st) h Q := wp_p hc65 dX5_setNew_36 rfl
theorem e65_38 : wp S d 65 38 [a0, a1, a2, a3, a4] (.int x :: st) h Q = if x = 0 then wp S d 65 57 [a0, a1, a2, a3, a4] st h Q else wp S d 65 41 [a0, a1, a2, a3, a4] st h Q := wp_eq hc65 dX5_setNew_38 rfl
theorem e65_41 : wp S d 65 41 [some (.ref r), a1, a2, a3, a4] st h Q = wp S d 65 42 [some (.ref r), a1, a2, a3, a4] (.ref r :: st) h Q := wp_p hc65 dX5_setNew_41 rfl
theorem e65_42 : wp S d 65 42 [a0, a1, a2, a3, a4] st h Q = wp S d 65 44 [a0, a1, a2, a3, a4] (.int (nI 42) :: st) h Q := wp_p hc65 dX5_setNew_42 rfl
theorem e65_44 : wp S d 65 44 [a0, a1, a2, a3, a4] st h Q = wp S d 65 46 [a0, a1, a2, a3, a4] (.int (nI 7) :: st) h Q := wp_p hc65 dX5_setNew_44 rfl
theorem e65_46 : wp S d 65 46 [a0, some (.int x), a2, a3, a4] st h Q = wp S d 65 47 [a0, some (.int x), a2, a3, a4] (.int x :: st) h Q := wp_p hc65 dX5_setNew_46 rfl
theorem e65_47 : wp S d 65 47 [a0, a1, a2, a3, a4] (.int y :: .int x :: st) h Q = wp S d 65 48 [a0, a1, a2, a3, a4] (.int (x * y) :: st) h Q := wp_p hc65 dX5_setNew_47 rfl
theorem e65_48 : wp S d 65 48 [a0, a1, a2, a3, a4] (.int y :: .int x :: st) h Q = wp S d 65 49 [a0, a1, a2, a3, a4] (.int (x + y) :: st) h Q := wp_p hc65 dX5_setNew_48 rfl
theorem e65_49 : wp S d 65 49 [a0, a1, some (.int x), a3, a4] st h Q = wp S d 65 50 [a0, a1, some (.int x), a3, a4] (.int x :: st) h Q := wp_p hc65 dX5_setNew_49 rfl
theorem e65_50 : wp S d 65 50 [a0, a1, a2, some (.int x), a4] st h Q = wp S d 65 51 [a0, a1, a2, some (.int x), a4] (.int x :: st) h Q := wp_p hc65 dX5_setNew_50 rfl
theorem e65_51 : wp S (d + 1) 65 51 [a0, a1, a2, a3, a4] (.int x3 :: .int x2 :: .int x1 :: .ref r0 :: st) h Q = (am_w8 st ∧ am_rcv h 2 62 (.ref r0) = true ∧ wp S d 62 0 [some (.ref r0), some (.int x1), some (.int x2), some (.int x3), none] [] h (am_kr S 2 (d + 1) 65 51 [a0, a1, a2, a3, a4] st Q)) := wp_cV (.ref r0) [.int x1, .int x2, .int x3] hc65 dX5_setNew_51 ho65 cl5_68 (by decide) ns5_68 hst62 hnp62 hml62 hlsl62 rfl rfl rfl
theorem e65_54 : wp S d 65 54 [a0, a1, a2, a3, a4] st h Q = wp S d 65 63 [a0, a1, a2, a3, a4] st h Q := wp_p hc65 dX5_setNew_54 rfl
theorem e65_57 : wp S d 65 57 [some (.ref r), a1, a2, a3, a4] st h Q = wp S d 65 58 [some (.ref r), a1, a2, a3, a4] (.ref r :: st) h Q := wp_p hc65 dX5_setNew_57 rfl
theorem e65_58 : wp S d 65 58 [a0, a1, a2, a3, a4] st h Q = wp S d 65 60 [a0, a1, a2, a3, a4] (.int ((-2)) :: st) h Q := wp_p hc65 dX5_setNew_58 rfl
theorem e65_60 : wp S (d + 1) 65 60 [a0, a1, a2, a3, a4] (.int x1 :: .ref r0 :: st) h Q = (am_w8 st ∧ am_rcv h 2 64 (.ref r0) = true ∧ wp S d 64 0 [some (.ref r0), some (.int x1)] [] h (am_kr S 2 (d + 1) 65 60 [a0, a1, a2, a3, a4] st Q)) := wp_cV (.ref r0) [.int x1] hc65 dX5_setNew_60 ho65 cl5_72 (by decide) ns5_72 hst64 hnp64 hml64 hlsl64 rfl rfl rfl
theorem e65_63 : wp S d 65 63 ls [.int x] h Q = Q (.inl (some (.int x)), h) := wp_r hc65 dX5_setNew_63 rfl rfl ⟨x, _, rfl, rfl, rfl, rfl⟩
theorem e66_0 : wp S d 66 0 [some (.ref r), a1, a2, a3] st h Q = wp S d 66 1 [some (.ref r), a1, a2, a3] (.ref r :: st) h Q := wp_p hc66 dX5_setOldTerm_0 rfl
theorem e66_1 : wp S d 66 1 [a0, a1, a2, a3] st h Q = wp S d 66 2 [a0, a1, a2, a3] (.int (nI 0) :: st) h Q := wp_p hc66 dX5_setOldTerm_1 rfl
theorem e66_2 : wp S d 66 2 [a0, some (.int x), a2, a3] st h Q = wp S d 66 3 [a0, some (.int x), a2, a3] (.int x :: st) h Q := wp_p hc66 dX5_setOldTerm_2 rfl
theorem e66_3 : wp S d 66 3 [a0, a1, some (.int x), a3] st h Q = wp S d 66 4 [a0, a1, some (.int x), a3] (.int x :: st) h Q := wp_p hc66 dX5_setOldTerm_3 rfl
theorem e66_4 : wp S d 66 4 [a0, a1, a2, some (.int x)] st h Q = wp S d 66 5 [a0, a1, a2, some (.int x)] (.int x :: st) h Q := wp_p hc66 dX5_setOldTerm_4 rfl
theorem e66_5 : wp S (d + 1) 66 5 [a0, a1, a2, a3] (.int x4 :: .int x3 :: .int x2 :: .int x1 :: .ref r0 :: st) h Q = (am_w8 st ∧ am_rcv h 2 67 (.ref r0) = true ∧ wp S d 67 0 [some (.ref r0), some (.int x1), some (.int x2), some (.int x3), some (.int x4), none, none] [] h (am_kr S 2 (d + 1) 66 5 [a0, a1, a2, a3] st Q)) := wp_cV (.ref r0) [.int x1, .int x2, .int x3, .int x4] hc66 dX5_setOldTerm_5 ho66 cl5_82 (by decide) ns5_82 hst67 hnp67 hml67 hlsl67 rfl rfl rfl
theorem e66_8 : wp S d 66 8 ls [.int x] h Q = Q (.inl (some (.int x)), h) := wp_r hc66 dX5_setOldTerm_8 rfl rfl ⟨x, _, rfl, rfl, rfl, rfl⟩
theorem e67_0 : wp S d 67 0 [a0, a1, some (.int x), a3, a4, a5, a6] st h Q = wp S d 67 1 [a0, a1, some (.int x), a3, a4, a5, a6] (.int x :: st) h Q := wp_p hc67 dX5_setsTerm_0 rfl
theorem e67_1 : wp S (d + 1) 67 1 [a0, a1, a2, a3, a4, a5, a6] (.int x1 :: st) h Q = (am_w8 st ∧ wp S d 60 0 [some (.int x1)] [] h (am_kr S 0 (d + 1) 67 1 [a0, a1, a2, a3, a4, a5, a6] st Q)) := wp_cS [.int x1] hc67 dX5_setsTerm_1 ho67 cl5_62 (by decide) ns5_62 hst60 hnp60 hml60 hlsl60 rfl rfl rfl
theorem e67_4 : wp S d 67 4 [a0, a1, a2, a3, a4, a5, a6] (.int x :: st) h Q = if x = 0 then wp S d 67 34 [a0, a1, a2, a3, a4, a5, a6] st h Q else wp S d 67 7 [a0, a1, a2, a3, a4, a5, a6] st h Q := wp_eq hc67 dX5_setsTerm_4 rfl
theorem e67_7 : wp S d 67 7 [a0, a1, a2, some (.int x), a4, a5, a6] st h Q = wp S d 67 8 [a0, a1, a2, some (.int x), a4, a5, a6] (.int x :: st) h Q := wp_p hc67 dX5_setsTerm_7 rfl
theorem e67_8 : wp S d 67 8 [a0, a1, a2, a3, a4, a5, a6] (.int x :: st) h Q = wp S d 67 9 [a0, a1, a2, a3, a4, a5, a6] (.long x.toInt64 :: st) h Q := wp_p hc67 dX5_setsTerm_8 rfl
theorem e67_9 : wp S d 67 9 [a0, a1, a2, a3, a4, a5, a6] st h Q = wp S d 67 12 [a0, a1, a2, a3, a4, a5, a6] (.long (((-1) : Int32).toInt64) :: st) h Q := wp_l2 hc67 dX5_setsTerm_9 ho67 l25_78
theorem e67_12 : wp S d 67 12 [a0, a1, a2, a3, a4, a5, a6] st h Q = wp S d 67 15 [a0, a1, a2, a3, a4, a5, a6] (.long ((nI 3 : Int32).toInt64) :: st) h Q := wp_l2 hc67 dX5_setsTerm_12 ho67 l25_66
theorem e67_15 : wp S (d + 1) 67 15 [a0, a1, a2, a3, a4, a5, a6] (.long u3 :: .long u2 :: .long u1 :: st) h Q = (am_w8 st ∧ wp S d 61 0 [some (.long u1), none, some (.long u2), none, some (.long u3), none] [] h (am_kr S 0 (d + 1) 67 15 [a0, a1, a2, a3, a4, a5, a6] st Q)) := wp_cS [.long u1, .long u2, .long u3] hc67 dX5_setsTerm_15 ho67 cl5_55 (by decide) ns5_55 hst61 hnp61 hml61 hlsl61 rfl rfl rfl
theorem e67_18 : wp S d 67 18 [a0, a1, a2, a3, a4, a5, a6] (.int x :: st) h Q = if x = 0 then wp S d 67 34 [a0, a1, a2, a3, a4, a5, a6] st h Q else wp S d 67 21 [a0, a1, a2, a3, a4, a5, a6] st h Q := wp_eq hc67 dX5_setsTerm_18 rfl
theorem e67_21 : wp S d 67 21 [a0, a1, a2, a3, some (.int x), a5, a6] st h Q = wp S d 67 23 [a0, a1, a2, a3, some (.int x), a5, a6] (.int x :: st) h Q := wp_p hc67 dX5_setsTerm_21 rfl
theorem e67_23 : wp S d 67 23 [a0, a1, a2, a3, a4, a5, a6] (.int x :: st) h Q = wp S d 67 24 [a0, a1, a2, a3, a4, a5, a6] (.long x.toInt64 :: st) h Q := wp_p hc67 dX5_setsTerm_23 rfl
theorem e67_24 : wp S d 67 24 [a0, a1, a2, a3, a4, a5, a6] st h Q = wp S d 67 25 [a0, a1, a2, a3, a4, a5, a6] (.long (nI 0).toInt64 :: st) h Q := wp_p hc67 dX5_setsTerm_24 rfl
theorem e67_25 : wp S d 67 25 [a0, a1, a2, a3, a4, a5, a6] st h Q = wp S d 67 28 [a0, a1, a2, a3, a4, a5, a6] (.long ((nI 99 : Int32).toInt64) :: st) h Q := wp_l2 hc67 dX5_setsTerm_25 ho67 l25_80
theorem e67_28 : wp S (d + 1) 67 28 [a0, a1, a2, a3, a4, a5, a6] (.long u3 :: .long u2 :: .long u1 :: st) h Q = (am_w8 st ∧ wp S d 61 0 [some (.long u1), none, some (.long u2), none, some (.long u3), none] [] h (am_kr S 0 (d + 1) 67 28 [a0, a1, a2, a3, a4, a5, a6] st Q)) := wp_cS [.long u1, .long u2, .long u3] hc67 dX5_setsTerm_28 ho67 cl5_55 (by decide) ns5_55 hst61 hnp61 hml61 hlsl61 rfl rfl rfl
theorem e67_31 : wp S d 67 31 [a0, a1, a2, a3, a4, a5, a6] (.int x :: st) h Q = if x = 0 then wp S d 67 34 [a0, a1, a2, a3, a4, a5, a6] st h Q else wp S d 67 41 [a0, a1, a2, a3, a4, a5, a6] st h Q := wp_ne hc67 dX5_setsTerm_31 rfl
theorem e67_34 : wp S d 67 34 [some (.ref r), a1, a2, a3, a4, a5, a6] st h Q = wp S d 67 35 [some (.ref r), a1, a2, a3, a4, a5, a6] (.ref r :: st) h Q := wp_p hc67 dX5_setsTerm_34 rfl
theorem e67_35 : wp S d 67 35 [a0, a1, a2, a3, a4, a5, a6] st h Q = wp S d 67 37 [a0, a1, a2, a3, a4, a5, a6] (.int ((-2)) :: st) h Q := wp_p hc67 dX5_setsTerm_35 rfl
theorem e67_37 : wp S (d + 1) 67 37 [a0, a1, a2, a3, a4, a5, a6] (.int x1 :: .ref r0 :: st) h Q = (am_w8 st ∧ am_rcv h 2 64 (.ref r0) = true ∧ wp S d 64 0 [some (.ref r0), some (.int x1)] [] h (am_kr S 2 (d + 1) 67 37 [a0, a1, a2, a3, a4, a5, a6] st Q)) := wp_cV (.ref r0) [.int x1] hc67 dX5_setsTerm_37 ho67 cl5_72 (by decide) ns5_72 hst64 hnp64 hml64 hlsl64 rfl rfl rfl
theorem e67_40 : wp S d 67 40 ls [.int x] h Q = Q (.inl (some (.int x)), h) := wp_r hc67 dX5_setsTerm_40 rfl rfl ⟨x, _, rfl, rfl, rfl, rfl⟩
theorem e67_41 : wp S d 67 41 [some (.ref r), a1, a2, a3, a4, a5, a6] st h Q = wp S d 67 42 [some (.ref r), a1, a2, a3, a4, a5, a6] (.ref r :: st) h Q := wp_p hc67 dX5_setsTerm_41 rfl
theorem e67_42 : wp S (d + 1) 67 42 [a0, a1, a2, a3, a4, a5, a6] (.ref r0 :: st) h Q = (am_w8 st ∧ am_rcv h 2 63 (.ref r0) = true ∧ wp S d 63 0 [some (.ref r0), none] [] h (am_kr S 2 (d + 1) 67 42 [a0, a1, a2, a3, a4, a5, a6] st Q)) := wp_cV (.ref r0) [] hc67 dX5_setsTerm_42 ho67 cl5_59 (by decide) ns5_59 hst63 hnp63 hml63 hlsl63 rfl rfl rfl
theorem e67_45 : wp S d 67 45 [a0, some (.int x), a2, a3, a4, a5, a6] st h Q = wp S d 67 46 [a0, some (.int x), a2, a3, a4, a5, a6] (.int x :: st) h Q := wp_p hc67 dX5_setsTerm_45 rfl
theorem e67_46 : wp S d 67 46 [a0, a1, a2, a3, a4, a5, a6] st h Q = wp S d 67 48 [a0, a1, a2, a3, a4, a5, a6] (.int (nI 7) :: st) h Q := wp_p hc67 dX5_setsTerm_46 rfl
theorem e67_48 : wp S d 67 48 [a0, a1, some (.int x), a3, a4, a5, a6] st h Q = wp S d 67 49 [a0, a1, some (.int x), a3, a4, a5, a6] (.int x :: st) h Q := wp_p hc67 dX5_setsTerm_48 rfl
theorem e67_49 : wp S d 67 49 [a0, a1, a2, a3, a4, a5, a6] (.int y :: .int x :: st) h Q = wp S d 67 50 [a0, a1, a2, a3, a4, a5, a6] (.int (x * y) :: st) h Q := wp_p hc67 dX5_setsTerm_49 rfl
theorem e67_50 : wp S d 67 50 [a0, a1, a2, a3, a4, a5, a6] (.int y :: .int x :: st) h Q = wp S d 67 51 [a0, a1, a2, a3, a4, a5, a6] (.int (x + y) :: st) h Q := wp_p hc67 dX5_setsTerm_50 rfl
theorem e67_51 : wp S d 67 51 [a0, a1, a2, a3, a4, a5, a6] st h Q = wp S d 67 52 [a0, a1, a2, a3, a4, a5, a6] (.int (nI 2) :: st) h Q := wp_p hc67 dX5_setsTerm_51 rfl
theorem e67_52 : wp S d 67 52 [a0, a1, a2, a3, a4, a5, a6] (.int y :: .int x :: st) h Q = wp S d 67 53 [a0, a1, a2, a3, a4, a5, a6] (.int (x + y) :: st) h Q := wp_p hc67 dX5_setsTerm_52 rfl
theorem e67_53 : wp S d 67 53 [a0, a1, a2, a3, a4, a5, a6] st h Q = wp S d 67 54 [a0, a1, a2, a3, a4, a5, a6] (.int (nI 1) :: st) h Q := wp_p hc67 dX5_setsTerm_53 rfl
theorem e67_54 : wp S d 67 54 [a0, a1, a2, a3, a4, a5, a6] (.int y :: .int x :: st) h Q = wp S d 67 55 [a0, a1, a2, a3, a4, a5, a6] (.int (x + y) :: st) h Q := wp_p hc67 dX5_setsTerm_54 rfl
theorem e67_55 : wp S d 67 55 [a0, a1, a2, some (.int x), a4, a5, a6] st h Q = wp S d 67 56 [a0, a1, a2, some (.int x), a4, a5, a6] (.int x :: st) h Q := wp_p hc67 dX5_setsTerm_55 rfl
theorem e67_56 : wp S d 67 56 [a0, a1, a2, a3, a4, a5, a6] (.int y :: .int x :: st) h Q = wp S d 67 57 [a0, a1, a2, a3, a4, a5, a6] (.int (x + y) :: st) h Q := wp_p hc67 dX5_setsTerm_56 rfl
theorem e67_57 : wp S d 67 57 [a0, a1, a2, a3, a4, a5, a6] (.int x :: st) h Q = wp S d 67 59 [a0, a1, a2, a3, a4, some (.int x), a6] st h Q := wp_p hc67 dX5_setsTerm_57 rfl
theorem e67_59 : wp S d 67 59 [some (.ref r), a1, a2, a3, a4, a5, a6] st h Q = wp S d 67 60 [some (.ref r), a1, a2, a3, a4, a5, a6] (.ref r :: st) h Q := wp_p hc67 dX5_setsTerm_59 rfl
theorem e67_60 : wp S d 67 60 [a0, a1, a2, a3, a4, a5, a6] (.ref r :: st) h Q = am_gfK h r 5 0 (fun w => wp S d 67 63 [a0, a1, a2, a3, a4, a5, a6] (w :: st) h Q) := wp_gf hc67 dX5_setsTerm_60 ho67 fl5_7
theorem e67_63 : wp S d 67 63 [a0, a1, a2, a3, a4, some (.int x), a6] st h Q = wp S d 67 65 [a0, a1, a2, a3, a4, some (.int x), a6] (.int x :: st) h Q := wp_p hc67 dX5_setsTerm_63 rfl
theorem e67_65 : wp S d 67 65 [a0, a1, a2, a3, a4, a5, a6] (.int x :: .ref r :: st) h Q = am_iaK h r x (fun z => wp S d 67 66 [a0, a1, a2, a3, a4, a5, a6] (.int z :: st) h Q) := wp_ia hc67 dX5_setsTerm_65
theorem e67_66 : wp S d 67 66 [a0, a1, a2, a3, a4, a5, a6] (.int x :: st) h Q = wp S d 67 68 [a0, a1, a2, a3, a4, a5, some (.int x)] st h Q := wp_p hc67 dX5_setsTerm_66 rfl
theorem e67_68 : wp S d 67 68 [some (.ref r), a1, a2, a3, a4, a5, a6] st h Q = wp S d 67 69 [some (.ref r), a1, a2, a3, a4, a5, a6] (.ref r :: st) h Q := wp_p hc67 dX5_setsTerm_68 rfl
theorem e67_69 : wp S d 67 69 [a0, a1, a2, a3, a4, a5, a6] (.ref r :: st) h Q = am_gfK h r 5 0 (fun w => wp S d 67 72 [a0, a1, a2, a3, a4, a5, a6] (w :: st) h Q) := wp_gf hc67 dX5_setsTerm_69 ho67 fl5_7
theorem e67_72 : wp S d 67 72 [a0, a1, a2, a3, a4, some (.int x), a6] st h Q = wp S d 67 74 [a0, a1, a2, a3, a4, some (.int x), a6] (.int x :: st) h Q := wp_p hc67 dX5_setsTerm_72 rfl
theorem e67_74 : wp S d 67 74 [a0, a1, a2, a3, some (.int x), a5, a6] st h Q = wp S d 67 76 [a0, a1, a2, a3, some (.int x), a5, a6] (.int x :: st) h Q := wp_p hc67 dX5_setsTerm_74 rfl
theorem e67_76 : wp S d 67 76 [a0, a1, a2, a3, a4, a5, a6] (.int y :: .int x :: .ref r :: st) h Q = am_isK h r x y (fun h => wp S d 67 77 [a0, a1, a2, a3, a4, a5, a6] st h Q) := wp_is hc67 dX5_setsTerm_76
theorem e67_77 : wp S d 67 77 [a0, a1, a2, a3, a4, a5, some (.int x)] st h Q = wp S d 67 79 [a0, a1, a2, a3, a4, a5, some (.int x)] (.int x :: st) h Q := wp_p hc67 dX5_setsTerm_77 rfl
theorem e67_79 : wp S d 67 79 ls [.int x] h Q = Q (.inl (some (.int x)), h) := wp_r hc67 dX5_setsTerm_79 rfl rfl ⟨x, _, rfl, rfl, rfl, rfl⟩
theorem e68_0 : wp S d 68 0 [some (.ref r), a1, a2, a3] st h Q = wp S d 68 1 [some (.ref r), a1, a2, a3] (.ref r :: st) h Q := wp_p hc68 dX5_setNewTerm_0 rfl
theorem e68_1 : wp S d 68 1 [a0, a1, a2, a3] st h Q = wp S d 68 3 [a0, a1, a2, a3] (.int (nI 42) :: st) h Q := wp_p hc68 dX5_setNewTerm_1 rfl
theorem e68_3 : wp S d 68 3 [a0, some (.int x), a2, a3] st h Q = wp S d 68 4 [a0, some (.int x), a2, a3] (.int x :: st) h Q := wp_p hc68 dX5_setNewTerm_3 rfl
theorem e68_4 : wp S d 68 4 [a0, a1, some (.int x), a3] st h Q = wp S d 68 5 [a0, a1, some (.int x), a3] (.int x :: st) h Q := wp_p hc68 dX5_setNewTerm_4 rfl
theorem e68_5 : wp S d 68 5 [a0, a1, a2, some (.int x)] st h Q = wp S d 68 6 [a0, a1, a2, some (.int x)] (.int x :: st) h Q := wp_p hc68 dX5_setNewTerm_5 rfl
theorem e68_6 : wp S (d + 1) 68 6 [a0, a1, a2, a3] (.int x4 :: .int x3 :: .int x2 :: .int x1 :: .ref r0 :: st) h Q = (am_w8 st ∧ am_rcv h 2 67 (.ref r0) = true ∧ wp S d 67 0 [some (.ref r0), some (.int x1), some (.int x2), some (.int x3), some (.int x4), none, none] [] h (am_kr S 2 (d + 1) 68 6 [a0, a1, a2, a3] st Q)) := wp_cV (.ref r0) [.int x1, .int x2, .int x3, .int x4] hc68 dX5_setNewTerm_6 ho68 cl5_82 (by decide) ns5_82 hst67 hnp67 hml67 hlsl67 rfl rfl rfl
theorem e68_9 : wp S d 68 9 ls [.int x] h Q = Q (.inl (some (.int x)), h) := wp_r hc68 dX5_setNewTerm_9 rfl rfl ⟨x, _, rfl, rfl, rfl, rfl⟩
theorem e69_0 : wp S d 69 0 [a0, some (.int x), a2, a3] st h Q = wp S d 69 1 [a0, some (.int x), a2, a3] (.int x :: st) h Q := wp_p hc69 dX5_map_0 rfl
theorem e69_1 : wp S (d + 1) 69 1 [a0, a1, a2, a3] (.int x1 :: st) h Q = (am_w8 st ∧ wp S d 60 0 [some (.int x1)] [] h (am_kr S 0 (d + 1) 69 1 [a0, a1, a2, a3] st Q)) := wp_cS [.int x1] hc69 dX5_map_1 ho69 cl5_62 (by decide) ns5_62 hst60 hnp60 hml60 hlsl60 rfl rfl rfl
theorem e69_4 : wp S d 69 4 [a0, a1, a2, a3] (.int x :: st) h Q = if x = 0 then wp S d 69 14 [a0, a1, a2, a3] st h Q else wp S d 69 7 [a0, a1, a2, a3] st h Q := wp_eq hc69 dX5_map_4 rfl
theorem e69_7 : wp S d 69 7 [a0, a1, some (.int x), a3] st h Q = wp S d 69 8 [a0, a1, some (.int x), a3] (.int x :: st) h Q := wp_p hc69 dX5_map_7 rfl
theorem e69_8 : wp S (d + 1) 69 8 [a0, a1, a2, a3] (.int x1 :: st) h Q = (am_w8 st ∧ wp S d 60 0 [some (.int x1)] [] h (am_kr S 0 (d + 1) 69 8 [a0, a1, a2, a3] st Q)) := wp_cS [.int x1] hc69 dX5_map_8 ho69 cl5_62 (by decide) ns5_62 hst60 hnp60 hml60 hlsl60 rfl rfl rfl
theorem e69_11 : wp S d 69 11 [a0, a1, a2, a3] (.int x :: st) h Q = if x = 0 then wp S d 69 14 [a0, a1, a2, a3] st h Q else wp S d 69 21 [a0, a1, a2, a3] st h Q := wp_ne hc69 dX5_map_11 rfl
theorem e69_14 : wp S d 69 14 [some (.ref r), a1, a2, a3] st h Q = wp S d 69 15 [some (.ref r), a1, a2, a3] (.ref r :: st) h Q := wp_p hc69 dX5_map_14 rfl
theorem e69_15 : wp S d 69 15 [a0, a1, a2, a3] st h Q = wp S d 69 17 [a0, a1, a2, a3] (.int ((-2)) :: st) h Q := wp_p hc69 dX5_map_15 rfl
theorem e69_17 : wp S (d + 1) 69 17 [a0, a1, a2, a3] (.int x1 :: .ref r0 :: st) h Q = (am_w8 st ∧ am_rcv h 2 64 (.ref r0) = true ∧ wp S d 64 0 [some (.ref r0), some (.int x1)] [] h (am_kr S 2 (d + 1) 69 17 [a0, a1, a2, a3] st Q)) := wp_cV (.ref r0) [.int x1] hc69 dX5_map_17 ho69 cl5_72 (by decide) ns5_72 hst64 hnp64 hml64 hlsl64 rfl rfl rfl
theorem e69_20 : wp S d 69 20 ls [.int x] h Q = Q (.inl (some (.int x)), h) := wp_r hc69 dX5_map_20 rfl rfl ⟨x, _, rfl, rfl, rfl, rfl⟩
theorem e69_21 : wp S d 69 21 [some (.ref r), a1, a2, a3] st h Q = wp S d 69 22 [some (.ref r), a1, a2, a3] (.ref r :: st) h Q := wp_p hc69 dX5_map_21 rfl
theorem e69_22 : wp S (d + 1) 69 22 [a0, a1, a2, a3] (.ref r0 :: st) h Q = (am_w8 st ∧ am_rcv h 2 63 (.ref r0) = true ∧ wp S d 63 0 [some (.ref r0), none] [] h (am_kr S 2 (d + 1) 69 22 [a0, a1, a2, a3] st Q)) := wp_cV (.ref r0) [] hc69 dX5_map_22 ho69 cl5_59 (by decide) ns5_59 hst63 hnp63 hml63 hlsl63 rfl rfl rfl
theorem e69_25 : wp S d 69 25 [a0, a1, a2, a3] st h Q = wp S d 69 27 [a0, a1, a2, a3] (.int (nI 117) :: st) h Q := wp_p hc69 dX5_map_25 rfl
theorem e69_27 : wp S d 69 27 [a0, a1, a2, a3] st h Q = wp S d 69 28 [a0, a1, a2, a3] (.int (nI 5) :: st) h Q := wp_p hc69 dX5_map_27 rfl
theorem e69_28 : wp S d 69 28 [a0, some (.int x), a2, a3] st h Q = wp S d 69 29 [a0, some (.int x), a2, a3] (.int x :: st) h Q := wp_p hc69 dX5_map_28 rfl
theorem e69_29 : wp S d 69 29 [a0, a1, a2, a3] (.int y :: .int x :: st) h Q = wp S d 69 30 [a0, a1, a2, a3] (.int (x * y) :: st) h Q := wp_p hc69 dX5_map_29 rfl
theorem e69_30 : wp S d 69 30 [a0, a1, a2, a3] (.int y :: .int x :: st) h Q = wp S d 69 31 [a0, a1, a2, a3] (.int (x + y) :: st) h Q := wp_p hc69 dX5_map_30 rfl
theorem e69_31 : wp S d 69 31 [a0, a1, a2, a3] (.int x :: st) h Q = wp S d 69 32 [a0, a1, a2, some (.int x)] st h Q := wp_p hc69 dX5_map_31 rfl
theorem e69_32 : wp S d 69 32 [some (.ref r), a1, a2, a3] st h Q = wp S d 69 33 [some (.ref r), a1, a2, a3] (.ref r :: st) h Q := wp_p hc69 dX5_map_32 rfl
theorem e69_33 : wp S d 69 33 [a0, a1, a2, a3] (.ref r :: st) h Q = am_gfK h r 5 0 (fun w => wp S d 69 36 [a0, a1, a2, a3] (w :: st) h Q) := wp_gf hc69 dX5_map_33 ho69 fl5_7
theorem e69_36 : wp S d 69 36 [a0, a1, a2, some (.int x)] st h Q = wp S d 69 37 [a0, a1, a2, some (.int x)] (.int x :: st) h Q := wp_p hc69 dX5_map_36 rfl
theorem e69_37 : wp S d 69 37 [a0, a1, a2, a3] (.int x :: .ref r :: st) h Q = am_iaK h r x (fun z => wp S d 69 38 [a0, a1, a2, a3] (.int z :: st) h Q) := wp_ia hc69 dX5_map_37
theorem e69_38 : wp S d 69 38 [a0, a1, a2, a3] st h Q = wp S d 69 39 [a0, a1, a2, a3] (.int ((-1)) :: st) h Q := wp_p hc69 dX5_map_38 rfl
theorem e69_39 : wp S d 69 39 [a0, a1, a2, a3] (.int y :: .int x :: st) h Q = if x = y then wp S d 69 42 [a0, a1, a2, a3] st h Q else wp S d 69 79 [a0, a1, a2, a3] st h Q := wp_ne hc69 dX5_map_39 rfl
theorem e69_42 : wp S d 69 42 [some (.ref r), a1, a2, a3] st h Q = wp S d 69 43 [some (.ref r), a1, a2, a3] (.ref r :: st) h Q := wp_p hc69 dX5_map_42 rfl
theorem e69_43 : wp S d 69 43 [a0, a1, a2, a3] (.ref r :: st) h Q = am_gfK h r 5 0 (fun w => wp S d 69 46 [a0, a1, a2, a3] (w :: st) h Q) := wp_gf hc69 dX5_map_43 ho69 fl5_7
theorem e69_46 : wp S d 69 46 [a0, a1, a2, some (.int x)] st h Q = wp S d 69 47 [a0, a1, a2, some (.int x)] (.int x :: st) h Q := wp_p hc69 dX5_map_46 rfl
theorem e69_47 : wp S d 69 47 [a0, a1, a2, a3] st h Q = wp S d 69 48 [a0, a1, a2, a3] (.int (nI 1) :: st) h Q := wp_p hc69 dX5_map_47 rfl
theorem e69_48 : wp S d 69 48 [a0, a1, a2, a3] (.int y :: .int x :: st) h Q = wp S d 69 49 [a0, a1, a2, a3] (.int (x + y) :: st) h Q := wp_p hc69 dX5_map_48 rfl
theorem e69_49 : wp S d 69 49 [a0, a1, a2, a3] st h Q = wp S d 69 50 [a0, a1, a2, a3] (.int (nI 0) :: st) h Q := wp_p hc69 dX5_map_49 rfl
theorem e69_50 : wp S d 69 50 [a0, a1, a2, a3] (.int y :: .int x :: .ref r :: st) h Q = am_isK h r x y (fun h => wp S d 69 51 [a0, a1, a2, a3] st h Q) := wp_is hc69 dX5_map_50
theorem e69_51 : wp S d 69 51 [some (.ref r), a1, a2, a3] st h Q = wp S d 69 52 [some (.ref r), a1, a2, a3] (.ref r :: st) h Q := wp_p hc69 dX5_map_51 rfl
theorem e69_52 : wp S d 69 52 [a0, a1, a2, a3] (.ref r :: st) h Q = am_gfK h r 5 0 (fun w => wp S d 69 55 [a0, a1, a2, a3] (w :: st) h Q) := wp_gf hc69 dX5_map_52 ho69 fl5_7
theorem e69_55 : wp S d 69 55 [a0, a1, a2, some (.int x)] st h Q = wp S d 69 56 [a0, a1, a2, some (.int x)] (.int x :: st) h Q := wp_p hc69 dX5_map_55 rfl
theorem e69_56 : wp S d 69 56 [a0, a1, a2, a3] st h Q = wp S d 69 57 [a0, a1, a2, a3] (.int (nI 2) :: st) h Q := wp_p hc69 dX5_map_56 rfl
theorem e69_57 : wp S d 69 57 [a0, a1, a2, a3] (.int y :: .int x :: st) h Q = wp S d 69 58 [a0, a1, a2, a3] (.int (x + y) :: st) h Q := wp_p hc69 dX5_map_57 rfl
theorem e69_58 : wp S d 69 58 [a0, a1, a2, a3] st h Q = wp S d 69 59 [a0, a1, a2, a3] (.int (nI 1) :: st) h Q := wp_p hc69 dX5_map_58 rfl
theorem e69_59 : wp S d 69 59 [a0, a1, a2, a3] (.int y :: .int x :: .ref r :: st) h Q = am_isK h r x y (fun h => wp S d 69 60 [a0, a1, a2, a3] st h Q) := wp_is hc69 dX5_map_59
theorem e69_60 : wp S d 69 60 [some (.ref r), a1, a2, a3] st h Q = wp S d 69 61 [some (.ref r), a1, a2, a3] (.ref r :: st) h Q := wp_p hc69 dX5_map_60 rfl
theorem e69_61 : wp S d 69 61 [a0, a1, a2, a3] (.ref r :: st) h Q = am_gfK h r 5 0 (fun w => wp S d 69 64 [a0, a1, a2, a3] (w :: st) h Q) := wp_gf hc69 dX5_map_61 ho69 fl5_7
theorem e69_64 : wp S d 69 64 [a0, a1, a2, some (.int x)] st h Q = wp S d 69 65 [a0, a1, a2, some (.int x)] (.int x :: st) h Q := wp_p hc69 dX5_map_64 rfl
theorem e69_65 : wp S d 69 65 [a0, a1, a2, a3] st h Q = wp S d 69 66 [a0, a1, a2, a3] (.int (nI 3) :: st) h Q := wp_p hc69 dX5_map_65 rfl
theorem e69_66 : wp S d 69 66 [a0, a1, a2, a3] (.int y :: .int x :: st) h Q = wp S d 69 67 [a0, a1, a2, a3] (.int (x + y) :: st) h Q := wp_p hc69 dX5_map_66 rfl
theorem e69_67 : wp S d 69 67 [a0, a1, a2, a3] st h Q = wp S d 69 68 [a0, a1, a2, a3] (.int (nI 2) :: st) h Q := wp_p hc69 dX5_map_67 rfl
theorem e69_68 : wp S d 69 68 [a0, a1, a2, a3] (.int y :: .int x :: .ref r :: st) h Q = am_isK h r x y (fun h => wp S d 69 69 [a0, a1, a2, a3] st h Q) := wp_is hc69 dX5_map_68
theorem e69_69 : wp S d 69 69 [some (.ref r), a1, a2, a3] st h Q = wp S d 69 70 [some (.ref r), a1, a2, a3] (.ref r :: st) h Q := wp_p hc69 dX5_map_69 rfl
theorem e69_70 : wp S d 69 70 [a0, a1, a2, a3] (.ref r :: st) h Q = am_gfK h r 5 0 (fun w => wp S d 69 73 [a0, a1, a2, a3] (w :: st) h Q) := wp_gf hc69 dX5_map_70 ho69 fl5_7
theorem e69_73 : wp S d 69 73 [a0, a1, a2, some (.int x)] st h Q = wp S d 69 74 [a0, a1, a2, some (.int x)] (.int x :: st) h Q := wp_p hc69 dX5_map_73 rfl
theorem e69_74 : wp S d 69 74 [a0, a1, a2, a3] st h Q = wp S d 69 75 [a0, a1, a2, a3] (.int (nI 4) :: st) h Q := wp_p hc69 dX5_map_74 rfl
theorem e69_75 : wp S d 69 75 [a0, a1, a2, a3] (.int y :: .int x :: st) h Q = wp S d 69 76 [a0, a1, a2, a3] (.int (x + y) :: st) h Q := wp_p hc69 dX5_map_75 rfl
theorem e69_76 : wp S d 69 76 [a0, a1, a2, a3] st h Q = wp S d 69 78 [a0, a1, a2, a3] (.int (nI 100) :: st) h Q := wp_p hc69 dX5_map_76 rfl
theorem e69_78 : wp S d 69 78 [a0, a1, a2, a3] (.int y :: .int x :: .ref r :: st) h Q = am_isK h r x y (fun h => wp S d 69 79 [a0, a1, a2, a3] st h Q) := wp_is hc69 dX5_map_78
theorem e69_79 : wp S d 69 79 [some (.ref r), a1, a2, a3] st h Q = wp S d 69 80 [some (.ref r), a1, a2, a3] (.ref r :: st) h Q := wp_p hc69 dX5_map_79 rfl
theorem e69_80 : wp S d 69 80 [a0, a1, a2, a3] (.ref r :: st) h Q = am_gfK h r 5 0 (fun w => wp S d 69 83 [a0, a1, a2, a3] (w :: st) h Q) := wp_gf hc69 dX5_map_80 ho69 fl5_7
theorem e69_83 : wp S d 69 83 [a0, a1, a2, some (.int x)] st h Q = wp S d 69 84 [a0, a1, a2, some (.int x)] (.int x :: st) h Q := wp_p hc69 dX5_map_83 rfl
theorem e69_84 : wp S d 69 84 [a0, a1, some (.int x), a3] st h Q = wp S d 69 85 [a0, a1, some (.int x), a3] (.int x :: st) h Q := wp_p hc69 dX5_map_84 rfl
theorem e69_85 : wp S d 69 85 [a0, a1, a2, a3] (.int y :: .int x :: .ref r :: st) h Q = am_isK h r x y (fun h => wp S d 69 86 [a0, a1, a2, a3] st h Q) := wp_is hc69 dX5_map_85
theorem e69_86 : wp S d 69 86 [some (.ref r), a1, a2, a3] st h Q = wp S d 69 87 [some (.ref r), a1, a2, a3] (.ref r :: st) h Q := wp_p hc69 dX5_map_86 rfl
theorem e69_87 : wp S d 69 87 [a0, some (.int x), a2, a3] st h Q = wp S d 69 88 [a0, some (.int x), a2, a3] (.int x :: st) h Q := wp_p hc69 dX5_map_87 rfl
theorem e69_88 : wp S (d + 1) 69 88 [a0, a1, a2, a3] (.int x1 :: .ref r0 :: st) h Q = (am_w8 st ∧ am_rcv h 2 70 (.ref r0) = true ∧ wp S d 70 0 [some (.ref r0), some (.int x1)] [] h (am_kr S 2 (d + 1) 69 88 [a0, a1, a2, a3] st Q)) := wp_cV (.ref r0) [.int x1] hc69 dX5_map_88 ho69 cl5_99 (by decide) ns5_99 hst70 hnp70 hml70 hlsl70 rfl rfl rfl
theorem e69_91 : wp S d 69 91 ls [.int x] h Q = Q (.inl (some (.int x)), h) := wp_r hc69 dX5_map_91 rfl rfl ⟨x, _, rfl, rfl, rfl, rfl⟩
theorem e70_0 : wp S d 70 0 [some (.ref r), a1] st h Q = wp S d 70 1 [some (.ref r), a1] (.ref r :: st) h Q := wp_p hc70 dX5_faithful_0 rfl
theorem e70_1 : wp S d 70 1 [a0, some (.int x)] st h Q = wp S d 70 2 [a0, some (.int x)] (.int x :: st) h Q := wp_p hc70 dX5_faithful_1 rfl
theorem e70_2 : wp S (d + 1) 70 2 [a0, a1] (.int x1 :: .ref r0 :: st) h Q = (am_w8 st ∧ am_rcv h 2 71 (.ref r0) = true ∧ wp S d 71 0 [some (.ref r0), some (.int x1), none, none, none, none, none, none, none] [] h (am_kr S 2 (d + 1) 70 2 [a0, a1] st Q)) := wp_cV (.ref r0) [.int x1] hc70 dX5_faithful_2 ho70 cl5_96 (by decide) ns5_96 hst71 hnp71 hml71 hlsl71 rfl rfl rfl
theorem e70_5 : wp S d 70 5 [a0, a1] (.int x :: st) h Q = if x = 0 then wp S d 70 12 [a0, a1] st h Q else wp S d 70 8 [a0, a1] st h Q := wp_eq hc70 dX5_faithful_5 rfl
theorem e70_8 : wp S d 70 8 [a0, a1] st h Q = wp S d 70 9 [a0, a1] (.int (nI 1) :: st) h Q := wp_p hc70 dX5_faithful_8 rfl
theorem e70_9 : wp S d 70 9 [a0, a1] st h Q = wp S d 70 13 [a0, a1] st h Q := wp_p hc70 dX5_faithful_9 rfl
theorem e70_12 : wp S d 70 12 [a0, a1] st h Q = wp S d 70 13 [a0, a1] (.int (nI 0) :: st) h Q := wp_p hc70 dX5_faithful_12 rfl
theorem e70_13 : wp S d 70 13 ls [.int x] h Q = Q (.inl (some (.int x)), h) := wp_r hc70 dX5_faithful_13 rfl rfl ⟨x, _, rfl, rfl, rfl, rfl⟩
theorem e71_0 : wp S d 71 0 [a0, a1, a2, a3, a4, a5, a6, a7, a8] st h Q = wp S d 71 2 [a0, a1, a2, a3, a4, a5, a6, a7, a8] (.int (nI 42) :: st) h Q := wp_p hc71 dX5_isTrue_0 rfl
theorem e71_2 : wp S d 71 2 [a0, a1, a2, a3, a4, a5, a6, a7, a8] st h Q = wp S d 71 4 [a0, a1, a2, a3, a4, a5, a6, a7, a8] (.int (nI 7) :: st) h Q := wp_p hc71 dX5_isTrue_2 rfl
theorem e71_4 : wp S d 71 4 [some (.ref r), a1, a2, a3, a4, a5, a6, a7, a8] st h Q = wp S d 71 5 [some (.ref r), a1, a2, a3, a4, a5, a6, a7, a8] (.ref r :: st) h Q := wp_p hc71 dX5_isTrue_4 rfl
theorem e71_5 : wp S d 71 5 [a0, some (.int x), a2, a3, a4, a5, a6, a7, a8] st h Q = wp S d 71 6 [a0, some (.int x), a2, a3, a4, a5, a6, a7, a8] (.int x :: st) h Q := wp_p hc71 dX5_isTrue_5 rfl
theorem e71_6 : wp S (d + 1) 71 6 [a0, a1, a2, a3, a4, a5, a6, a7, a8] (.int x1 :: .ref r0 :: st) h Q = (am_w8 st ∧ am_rcv h 2 72 (.ref r0) = true ∧ wp S d 72 0 [some (.ref r0), some (.int x1)] [] h (am_kr S 2 (d + 1) 71 6 [a0, a1, a2, a3, a4, a5, a6, a7, a8] st Q)) := wp_cV (.ref r0) [.int x1] hc71 dX5_isTrue_6 ho71 cl5_86 (by decide) ns5_86 hst72 hnp72 hml72 hlsl72 rfl rfl rfl
theorem e71_9 : wp S d 71 9 [a0, a1, a2, a3, a4, a5, a6, a7, a8] (.int y :: .int x :: st) h Q = wp S d 71 10 [a0, a1, a2, a3, a4, a5, a6, a7, a8] (.int (x * y) :: st) h Q := wp_p hc71 dX5_isTrue_9 rfl
theorem e71_10 : wp S d 71 10 [a0, a1, a2, a3, a4, a5, a6, a7, a8] (.int y :: .int x :: st) h Q = wp S d 71 11 [a0, a1, a2, a3, a4, a5, a6, a7, a8] (.int (x + y) :: st) h Q := wp_p hc71 dX5_isTrue_10 rfl
theorem e71_11 : wp S d 71 11 [a0, a1, a2, a3, a4, a5, a6, a7, a8] (.int x :: st) h Q = wp S d 71 12 [a0, a1, some (.int x), a3, a4, a5, a6, a7, a8] st h Q := wp_p hc71 dX5_isTrue_11 rfl
theorem e71_12 : wp S d 71 12 [some (.ref r), a1, a2, a3, a4, a5, a6, a7, a8] st h Q = wp S d 71 13 [some (.ref r), a1, a2, a3, a4, a5, a6, a7, a8] (.ref r :: st) h Q := wp_p hc71 dX5_isTrue_12 rfl
theorem e71_13 : wp S d 71 13 [a0, a1, a2, a3, a4, a5, a6, a7, a8] (.ref r :: st) h Q = am_gfK h r 5 0 (fun w => wp S d 71 16 [a0, a1, a2, a3, a4, a5, a6, a7, a8] (w :: st) h Q) := wp_gf hc71 dX5_isTrue_13 ho71 fl5_7
theorem e71_16 : wp S d 71 16 [a0, a1, some (.int x), a3, a4, a5, a6, a7, a8] st h Q = wp S d 71 17 [a0, a1, some (.int x), a3, a4, a5, a6, a7, a8] (.int x :: st) h Q := wp_p hc71 dX5_isTrue_16 rfl
theorem e71_17 : wp S d 71 17 [a0, a1, a2, a3, a4, a5, a6, a7, a8] st h Q = wp S d 71 18 [a0, a1, a2, a3, a4, a5, a6, a7, a8] (.int (nI 2) :: st) h Q := wp_p hc71 dX5_isTrue_17 rfl
theorem e71_18 : wp S d 71 18 [a0, a1, a2, a3, a4, a5, a6, a7, a8] (.int y :: .int x :: st) h Q = wp S d 71 19 [a0, a1, a2, a3, a4, a5, a6, a7, a8] (.int (x + y) :: st) h Q := wp_p hc71 dX5_isTrue_18 rfl
theorem e71_19 : wp S d 71 19 [a0, a1, a2, a3, a4, a5, a6, a7, a8] (.int x :: .ref r :: st) h Q = am_iaK h r x (fun z => wp S d 71 20 [a0, a1, a2, a3, a4, a5, a6, a7, a8] (.int z :: st) h Q) := wp_ia hc71 dX5_isTrue_19
theorem e71_20 : wp S d 71 20 [a0, a1, a2, a3, a4, a5, a6, a7, a8] (.int x :: st) h Q = wp S d 71 21 [a0, a1, a2, some (.int x), a4, a5, a6, a7, a8] st h Q := wp_p hc71 dX5_isTrue_20 rfl
theorem e71_21 : wp S d 71 21 [some (.ref r), a1, a2, a3, a4, a5, a6, a7, a8] st h Q = wp S d 71 22 [some (.ref r), a1, a2, a3, a4, a5, a6, a7, a8] (.ref r :: st) h Q := wp_p hc71 dX5_isTrue_21 rfl
theorem e71_22 : wp S d 71 22 [a0, some (.int x), a2, a3, a4, a5, a6, a7, a8] st h Q = wp S d 71 23 [a0, some (.int x), a2, a3, a4, a5, a6, a7, a8] (.int x :: st) h Q := wp_p hc71 dX5_isTrue_22 rfl
theorem e71_23 : wp S (d + 1) 71 23 [a0, a1, a2, a3, a4, a5, a6, a7, a8] (.int x1 :: .ref r0 :: st) h Q = (am_w8 st ∧ am_rcv h 2 73 (.ref r0) = true ∧ wp S d 73 0 [some (.ref r0), some (.int x1)] [] h (am_kr S 2 (d + 1) 71 23 [a0, a1, a2, a3, a4, a5, a6, a7, a8] st Q)) := wp_cV (.ref r0) [.int x1] hc71 dX5_isTrue_23 ho71 cl5_89 (by decide) ns5_89 hst73 hnp73 hml73 hlsl73 rfl rfl rfl
theorem e71_26 : wp S d 71 26 [a0, a1, a2, a3, a4, a5, a6, a7, a8] (.int x :: st) h Q = wp S d 71 28 [a0, a1, a2, a3, some (.int x), a5, a6, a7, a8] st h Q := wp_p hc71 dX5_isTrue_26 rfl
theorem e71_28 : wp S d 71 28 [a0, a1, a2, a3, a4, a5, a6, a7, a8] st h Q = wp S d 71 29 [a0, a1, a2, a3, a4, a5, a6, a7, a8] (.int (nI 0) :: st) h Q := wp_p hc71 dX5_isTrue_28 rfl
theorem e71_29 : wp S d 71 29 [a0, a1, a2, a3, a4, a5, a6, a7, a8] (.int x :: st) h Q = wp S d 71 31 [a0, a1, a2, a3, a4, some (.int x), a6, a7, a8] st h Q := wp_p hc71 dX5_isTrue_29 rfl
theorem e71_31 : wp S d 71 31 [a0, a1, a2, a3, a4, some (.int x), a6, a7, a8] st h Q = wp S d 71 33 [a0, a1, a2, a3, a4, some (.int x), a6, a7, a8] (.int x :: st) h Q := wp_p hc71 dX5_isTrue_31 rfl
theorem e71_33 : wp S d 71 33 [a0, a1, a2, a3, some (.int x), a5, a6, a7, a8] st h Q = wp S d 71 35 [a0, a1, a2, a3, some (.int x), a5, a6, a7, a8] (.int x :: st) h Q := wp_p hc71 dX5_isTrue_33 rfl
theorem e71_35 : wp S d 71 35 [a0, a1, a2, a3, a4, a5, a6, a7, a8] (.int y :: .int x :: st) h Q = if y ≤ x then wp S d 71 113 [a0, a1, a2, a3, a4, a5, a6, a7, a8] st h Q else wp S d 71 38 [a0, a1, a2, a3, a4, a5, a6, a7, a8] st h Q := wp_ge hc71 dX5_isTrue_35 rfl
theorem e71_38 : wp S d 71 38 [some (.ref r), a1, a2, a3, a4, a5, a6, a7, a8] st h Q = wp S d 71 39 [some (.ref r), a1, a2, a3, a4, a5, a6, a7, a8] (.ref r :: st) h Q := wp_p hc71 dX5_isTrue_38 rfl
theorem e71_39 : wp S d 71 39 [a0, some (.int x), a2, a3, a4, a5, a6, a7, a8] st h Q = wp S d 71 40 [a0, some (.int x), a2, a3, a4, a5, a6, a7, a8] (.int x :: st) h Q := wp_p hc71 dX5_isTrue_39 rfl
theorem e71_40 : wp S d 71 40 [a0, a1, a2, a3, a4, some (.int x), a6, a7, a8] st h Q = wp S d 71 42 [a0, a1, a2, a3, a4, some (.int x), a6, a7, a8] (.int x :: st) h Q := wp_p hc71 dX5_isTrue_40 rfl
theorem e71_42 : wp S (d + 1) 71 42 [a0, a1, a2, a3, a4, a5, a6, a7, a8] (.int x2 :: .int x1 :: .ref r0 :: st) h Q = (am_w8 st ∧ am_rcv h 2 74 (.ref r0) = true ∧ wp S d 74 0 [some (.ref r0), some (.int x1), some (.int x2)] [] h (am_kr S 2 (d + 1) 71 42 [a0, a1, a2, a3, a4, a5, a6, a7, a8] st Q)) := wp_cV (.ref r0) [.int x1, .int x2] hc71 dX5_isTrue_42 ho71 cl5_92 (by decide) ns5_92 hst74 hnp74 hml74 hlsl74 rfl rfl rfl
theorem e71_45 : wp S d 71 45 [a0, a1, a2, a3, a4, a5, a6, a7, a8] (.int x :: st) h Q = wp S d 71 47 [a0, a1, a2, a3, a4, a5, some (.int x), a7, a8] st h Q := wp_p hc71 dX5_isTrue_45 rfl
theorem e71_47 : wp S d 71 47 [a0, a1, a2, a3, a4, a5, some (.int x), a7, a8] st h Q = wp S d 71 49 [a0, a1, a2, a3, a4, a5, some (.int x), a7, a8] (.int x :: st) h Q := wp_p hc71 dX5_isTrue_47 rfl
theorem e71_49 : wp S d 71 49 [a0, a1, a2, a3, a4, a5, a6, a7, a8] st h Q = wp S d 71 51 [a0, a1, a2, a3, a4, a5, a6, a7, a8] (.int (nI 100) :: st) h Q := wp_p hc71 dX5_isTrue_49 rfl
theorem e71_51 : wp S d 71 51 [a0, a1, a2, a3, a4, a5, a6, a7, a8] (.int y :: .int x :: st) h Q = if y ≤ x then wp S d 71 74 [a0, a1, a2, a3, a4, a5, a6, a7, a8] st h Q else wp S d 71 54 [a0, a1, a2, a3, a4, a5, a6, a7, a8] st h Q := wp_ge hc71 dX5_isTrue_51 rfl
theorem e71_54 : wp S d 71 54 [a0, a1, a2, a3, a4, a5, some (.int x), a7, a8] st h Q = wp S d 71 56 [a0, a1, a2, a3, a4, a5, some (.int x), a7, a8] (.int x :: st) h Q := wp_p hc71 dX5_isTrue_54 rfl
theorem e71_56 : wp S d 71 56 [some (.ref r), a1, a2, a3, a4, a5, a6, a7, a8] st h Q = wp S d 71 57 [some (.ref r), a1, a2, a3, a4, a5, a6, a7, a8] (.ref r :: st) h Q := wp_p hc71 dX5_isTrue_56 rfl
theorem e71_57 : wp S d 71 57 [a0, a1, a2, a3, a4, a5, a6, a7, a8] (.ref r :: st) h Q = am_gfK h r 5 0 (fun w => wp S d 71 60 [a0, a1, a2, a3, a4, a5, a6, a7, a8] (w :: st) h Q) := wp_gf hc71 dX5_isTrue_57 ho71 fl5_7
theorem e71_60 : wp S d 71 60 [a0, a1, a2, a3, a4, a5, a6, a7, a8] st h Q = wp S d 71 61 [a0, a1, a2, a3, a4, a5, a6, a7, a8] (.int (nI 0) :: st) h Q := wp_p hc71 dX5_isTrue_60 rfl
theorem e71_61 : wp S d 71 61 [a0, a1, a2, a3, a4, a5, a6, a7, a8] st h Q = wp S d 71 63 [a0, a1, a2, a3, a4, a5, a6, a7, a8] (.int (nI 7) :: st) h Q := wp_p hc71 dX5_isTrue_61 rfl
theorem e71_63 : wp S d 71 63 [a0, some (.int x), a2, a3, a4, a5, a6, a7, a8] st h Q = wp S d 71 64 [a0, some (.int x), a2, a3, a4, a5, a6, a7, a8] (.int x :: st) h Q := wp_p hc71 dX5_isTrue_63 rfl
theorem e71_64 : wp S d 71 64 [a0, a1, a2, a3, a4, a5, a6, a7, a8] (.int y :: .int x :: st) h Q = wp S d 71 65 [a0, a1, a2, a3, a4, a5, a6, a7, a8] (.int (x * y) :: st) h Q := wp_p hc71 dX5_isTrue_64 rfl
theorem e71_65 : wp S d 71 65 [a0, a1, a2, a3, a4, a5, a6, a7, a8] (.int y :: .int x :: st) h Q = wp S d 71 66 [a0, a1, a2, a3, a4, a5, a6, a7, a8] (.int (x + y) :: st) h Q := wp_p hc71 dX5_isTrue_65 rfl
theorem e71_66 : wp S d 71 66 [a0, a1, a2, a3, a4, a5, a6, a7, a8] st h Q = wp S d 71 67 [a0, a1, a2, a3, a4, a5, a6, a7, a8] (.int (nI 0) :: st) h Q := wp_p hc71 dX5_isTrue_66 rfl
theorem e71_67 : wp S d 71 67 [a0, a1, a2, a3, a4, a5, a6, a7, a8] (.int y :: .int x :: st) h Q = wp S d 71 68 [a0, a1, a2, a3, a4, a5, a6, a7, a8] (.int (x + y) :: st) h Q := wp_p hc71 dX5_isTrue_67 rfl
theorem e71_68 : wp S d 71 68 [a0, a1, a2, a3, a4, a5, a6, a7, a8] (.int x :: .ref r :: st) h Q = am_iaK h r x (fun z => wp S d 71 69 [a0, a1, a2, a3, a4, a5, a6, a7, a8] (.int z :: st) h Q) := wp_ia hc71 dX5_isTrue_68
theorem e71_69 : wp S d 71 69 [a0, a1, a2, a3, a4, a5, a6, a7, a8] (.int y :: .int x :: st) h Q = if x < y then wp S d 71 74 [a0, a1, a2, a3, a4, a5, a6, a7, a8] st h Q else wp S d 71 72 [a0, a1, a2, a3, a4, a5, a6, a7, a8] st h Q := wp_lt hc71 dX5_isTrue_69 rfl
theorem e71_72 : wp S d 71 72 [a0, a1, a2, a3, a4, a5, a6, a7, a8] st h Q = wp S d 71 73 [a0, a1, a2, a3, a4, a5, a6, a7, a8] (.int (nI 0) :: st) h Q := wp_p hc71 dX5_isTrue_72 rfl
theorem e71_73 : wp S d 71 73 ls [.int x] h Q = (narrow .boolean (.int x) = .int x ∧ Q (.inl (some (.int x)), h)) := wp_rI hc71 dX5_isTrue_73 rfl
theorem e71_74 : wp S d 71 74 [a0, a1, a2, some (.int x), a4, a5, a6, a7, a8] st h Q = wp S d 71 75 [a0, a1, a2, some (.int x), a4, a5, a6, a7, a8] (.int x :: st) h Q := wp_p hc71 dX5_isTrue_74 rfl
theorem e71_75 : wp S d 71 75 [a0, a1, a2, a3, a4, a5, some (.int x), a7, a8] st h Q = wp S d 71 77 [a0, a1, a2, a3, a4, a5, some (.int x), a7, a8] (.int x :: st) h Q := wp_p hc71 dX5_isTrue_75 rfl
theorem e71_77 : wp S d 71 77 [a0, a1, a2, a3, a4, a5, a6, a7, a8] st h Q = wp S d 71 79 [a0, a1, a2, a3, a4, a5, a6, a7, a8] (.int (nI 100) :: st) h Q := wp_p hc71 dX5_isTrue_77 rfl
theorem e71_79 : wp S d 71 79 [a0, a1, a2, a3, a4, a5, a6, a7, a8] (.int y :: .int x :: st) h Q = if y ≤ x then wp S d 71 86 [a0, a1, a2, a3, a4, a5, a6, a7, a8] st h Q else wp S d 71 82 [a0, a1, a2, a3, a4, a5, a6, a7, a8] st h Q := wp_ge hc71 dX5_isTrue_79 rfl
theorem e71_82 : wp S d 71 82 [a0, a1, a2, a3, a4, a5, a6, a7, a8] st h Q = wp S d 71 83 [a0, a1, a2, a3, a4, a5, a6, a7, a8] (.int (nI 0) :: st) h Q := wp_p hc71 dX5_isTrue_82 rfl
theorem e71_83 : wp S d 71 83 [a0, a1, a2, a3, a4, a5, a6, a7, a8] st h Q = wp S d 71 105 [a0, a1, a2, a3, a4, a5, a6, a7, a8] st h Q := wp_p hc71 dX5_isTrue_83 rfl
theorem e71_86 : wp S d 71 86 [some (.ref r), a1, a2, a3, a4, a5, a6, a7, a8] st h Q = wp S d 71 87 [some (.ref r), a1, a2, a3, a4, a5, a6, a7, a8] (.ref r :: st) h Q := wp_p hc71 dX5_isTrue_86 rfl
theorem e71_87 : wp S d 71 87 [a0, a1, a2, a3, a4, a5, a6, a7, a8] (.ref r :: st) h Q = am_gfK h r 5 0 (fun w => wp S d 71 90 [a0, a1, a2, a3, a4, a5, a6, a7, a8] (w :: st) h Q) := wp_gf hc71 dX5_isTrue_87 ho71 fl5_7
theorem e71_90 : wp S d 71 90 [a0, a1, some (.int x), a3, a4, a5, a6, a7, a8] st h Q = wp S d 71 91 [a0, a1, some (.int x), a3, a4, a5, a6, a7, a8] (.int x :: st) h Q := wp_p hc71 dX5_isTrue_90 rfl
theorem e71_91 : wp S d 71 91 [a0, a1, a2, a3, a4, a5, a6, a7, a8] st h Q = wp S d 71 92 [a0, a1, a2, a3, a4, a5, a6, a7, a8] (.int (nI 2) :: st) h Q := wp_p hc71 dX5_isTrue_91 rfl
theorem e71_92 : wp S d 71 92 [a0, a1, a2, a3, a4, a5, a6, a7, a8] (.int y :: .int x :: st) h Q = wp S d 71 93 [a0, a1, a2, a3, a4, a5, a6, a7, a8] (.int (x + y) :: st) h Q := wp_p hc71 dX5_isTrue_92 rfl
theorem e71_93 : wp S d 71 93 [a0, a1, a2, a3, a4, a5, a6, a7, a8] st h Q = wp S d 71 94 [a0, a1, a2, a3, a4, a5, a6, a7, a8] (.int (nI 1) :: st) h Q := wp_p hc71 dX5_isTrue_93 rfl
theorem e71_94 : wp S d 71 94 [a0, a1, a2, a3, a4, a5, a6, a7, a8] (.int y :: .int x :: st) h Q = wp S d 71 95 [a0, a1, a2, a3, a4, a5, a6, a7, a8] (.int (x + y) :: st) h Q := wp_p hc71 dX5_isTrue_94 rfl
theorem e71_95 : wp S d 71 95 [a0, a1, a2, a3, a4, some (.int x), a6, a7, a8] st h Q = wp S d 71 97 [a0, a1, a2, a3, a4, some (.int x), a6, a7, a8] (.int x :: st) h Q := wp_p hc71 dX5_isTrue_95 rfl
theorem e71_97 : wp S d 71 97 [a0, a1, a2, a3, a4, a5, a6, a7, a8] (.int y :: .int x :: st) h Q = wp S d 71 98 [a0, a1, a2, a3, a4, a5, a6, a7, a8] (.int (x + y) :: st) h Q := wp_p hc71 dX5_isTrue_97 rfl
theorem e71_98 : wp S d 71 98 [a0, a1, a2, a3, a4, a5, a6, a7, a8] (.int x :: .ref r :: st) h Q = am_iaK h r x (fun z => wp S d 71 99 [a0, a1, a2, a3, a4, a5, a6, a7, a8] (.int z :: st) h Q) := wp_ia hc71 dX5_isTrue_98
theorem e71_99 : wp S d 71 99 [a0, a1, a2, a3, a4, a5, some (.int x), a7, a8] st h Q = wp S d 71 101 [a0, a1, a2, a3, a4, a5, some (.int x), a7, a8] (.int x :: st) h Q := wp_p hc71 dX5_isTrue_99 rfl
theorem e71_101 : wp S d 71 101 [a0, a1, a2, a3, a4, a5, a6, a7, a8] st h Q = wp S d 71 103 [a0, a1, a2, a3, a4, a5, a6, a7, a8] (.int (nI 100) :: st) h Q := wp_p hc71 dX5_isTrue_101 rfl
theorem e71_103 : wp S d 71 103 [a0, a1, a2, a3, a4, a5, a6, a7, a8] (.int y :: .int x :: st) h Q = wp S d 71 104 [a0, a1, a2, a3, a4, a5, a6, a7, a8] (.int (x - y) :: st) h Q := wp_p hc71 dX5_isTrue_103 rfl
theorem e71_104 : wp S d 71 104 [a0, a1, a2, a3, a4, a5, a6, a7, a8] (.int y :: .int x :: st) h Q = wp S d 71 105 [a0, a1, a2, a3, a4, a5, a6, a7, a8] (.int (x * y) :: st) h Q := wp_p hc71 dX5_isTrue_104 rfl
theorem e71_105 : wp S d 71 105 [a0, a1, a2, a3, a4, a5, a6, a7, a8] (.int y :: .int x :: st) h Q = wp S d 71 106 [a0, a1, a2, a3, a4, a5, a6, a7, a8] (.int (x + y) :: st) h Q := wp_p hc71 dX5_isTrue_105 rfl
theorem e71_106 : wp S d 71 106 [a0, a1, a2, a3, a4, a5, a6, a7, a8] (.int x :: st) h Q = wp S d 71 107 [a0, a1, a2, some (.int x), a4, a5, a6, a7, a8] st h Q := wp_p hc71 dX5_isTrue_106 rfl
theorem e71_107 : wp S d 71 107 [a0, a1, a2, a3, a4, some (.int x), a6, a7, a8] st h Q = wp S d 71 110 [a0, a1, a2, a3, a4, some (.int (x + nI 1)), a6, a7, a8] st h Q := wp_p hc71 dX5_isTrue_107 rfl
theorem e71_110 : wp S d 71 110 [a0, a1, a2, a3, a4, a5, a6, a7, a8] st h Q = wp S d 71 31 [a0, a1, a2, a3, a4, a5, a6, a7, a8] st h Q := wp_p hc71 dX5_isTrue_110 rfl
theorem e71_113 : wp S d 71 113 [a0, a1, a2, some (.int x), a4, a5, a6, a7, a8] st h Q = wp S d 71 114 [a0, a1, a2, some (.int x), a4, a5, a6, a7, a8] (.int x :: st) h Q := wp_p hc71 dX5_isTrue_113 rfl
theorem e71_114 : wp S d 71 114 [a0, a1, a2, a3, a4, a5, a6, a7, a8] st h Q = wp S d 71 117 [a0, a1, a2, a3, a4, a5, a6, a7, a8] (.int (nI 1000) :: st) h Q := wp_p hc71 dX5_isTrue_114 rfl
theorem e71_117 : wp S d 71 117 [a0, a1, a2, a3, a4, a5, a6, a7, a8] (.int y :: .int x :: st) h Q = (¬ y = 0 ∧ wp S d 71 118 [a0, a1, a2, a3, a4, a5, a6, a7, a8] (.int (x - x / y * y) :: st) h Q) := wp_ir hc71 dX5_isTrue_117
theorem e71_118 : wp S d 71 118 [some (.ref r), a1, a2, a3, a4, a5, a6, a7, a8] st h Q = wp S d 71 119 [some (.ref r), a1, a2, a3, a4, a5, a6, a7, a8] (.ref r :: st) h Q := wp_p hc71 dX5_isTrue_118 rfl
theorem e71_119 : wp S d 71 119 [a0, a1, a2, a3, a4, a5, a6, a7, a8] (.ref r :: st) h Q = am_gfK h r 5 0 (fun w => wp S d 71 122 [a0, a1, a2, a3, a4, a5, a6, a7, a8] (w :: st) h Q) := wp_gf hc71 dX5_isTrue_119 ho71 fl5_7
theorem e71_122 : wp S d 71 122 [a0, a1, a2, a3, a4, a5, a6, a7, a8] st h Q = wp S d 71 123 [a0, a1, a2, a3, a4, a5, a6, a7, a8] (.int (nI 0) :: st) h Q := wp_p hc71 dX5_isTrue_122 rfl
theorem e71_123 : wp S d 71 123 [a0, a1, a2, a3, a4, a5, a6, a7, a8] st h Q = wp S d 71 125 [a0, a1, a2, a3, a4, a5, a6, a7, a8] (.int (nI 7) :: st) h Q := wp_p hc71 dX5_isTrue_123 rfl
theorem e71_125 : wp S d 71 125 [a0, some (.int x), a2, a3, a4, a5, a6, a7, a8] st h Q = wp S d 71 126 [a0, some (.int x), a2, a3, a4, a5, a6, a7, a8] (.int x :: st) h Q := wp_p hc71 dX5_isTrue_125 rfl
theorem e71_126 : wp S d 71 126 [a0, a1, a2, a3, a4, a5, a6, a7, a8] (.int y :: .int x :: st) h Q = wp S d 71 127 [a0, a1, a2, a3, a4, a5, a6, a7, a8] (.int (x * y) :: st) h Q := wp_p hc71 dX5_isTrue_126 rfl
theorem e71_127 : wp S d 71 127 [a0, a1, a2, a3, a4, a5, a6, a7, a8] (.int y :: .int x :: st) h Q = wp S d 71 128 [a0, a1, a2, a3, a4, a5, a6, a7, a8] (.int (x + y) :: st) h Q := wp_p hc71 dX5_isTrue_127 rfl
theorem e71_128 : wp S d 71 128 [a0, a1, a2, a3, a4, a5, a6, a7, a8] st h Q = wp S d 71 129 [a0, a1, a2, a3, a4, a5, a6, a7, a8] (.int (nI 2) :: st) h Q := wp_p hc71 dX5_isTrue_128 rfl
theorem e71_129 : wp S d 71 129 [a0, a1, a2, a3, a4, a5, a6, a7, a8] (.int y :: .int x :: st) h Q = wp S d 71 130 [a0, a1, a2, a3, a4, a5, a6, a7, a8] (.int (x + y) :: st) h Q := wp_p hc71 dX5_isTrue_129 rfl
theorem e71_130 : wp S d 71 130 [a0, a1, a2, a3, a4, a5, a6, a7, a8] (.int x :: .ref r :: st) h Q = am_iaK h r x (fun z => wp S d 71 131 [a0, a1, a2, a3, a4, a5, a6, a7, a8] (.int z :: st) h Q) := wp_ia hc71 dX5_isTrue_130
theorem e71_131 : wp S d 71 131 [a0, a1, a2, a3, a4, a5, a6, a7, a8] (.int y :: .int x :: st) h Q = if x = y then wp S d 71 134 [a0, a1, a2, a3, a4, a5, a6, a7, a8] st h Q else wp S d 71 138 [a0, a1, a2, a3, a4, a5, a6, a7, a8] st h Q := wp_ne hc71 dX5_isTrue_131 rfl
theorem e71_134 : wp S d 71 134 [a0, a1, a2, a3, a4, a5, a6, a7, a8] st h Q = wp S d 71 135 [a0, a1, a2, a3, a4, a5, a6, a7, a8] (.int (nI 1) :: st) h Q := wp_p hc71 dX5_isTrue_134 rfl
theorem e71_135 : wp S d 71 135 [a0, a1, a2, a3, a4, a5, a6, a7, a8] st h Q = wp S d 71 139 [a0, a1, a2, a3, a4, a5, a6, a7, a8] st h Q := wp_p hc71 dX5_isTrue_135 rfl
theorem e71_138 : wp S d 71 138 [a0, a1, a2, a3, a4, a5, a6, a7, a8] st h Q = wp S d 71 139 [a0, a1, a2, a3, a4, a5, a6, a7, a8] (.int (nI 0) :: st) h Q := wp_p hc71 dX5_isTrue_138 rfl
theorem e71_139 : wp S d 71 139 [a0, a1, a2, a3, a4, a5, a6, a7, a8] (.int x :: st) h Q = wp S d 71 141 [a0, a1, a2, a3, a4, some (.int x), a6, a7, a8] st h Q := wp_p hc71 dX5_isTrue_139 rfl
theorem e71_141 : wp S d 71 141 [a0, a1, a2, a3, a4, a5, a6, a7, a8] st h Q = wp S d 71 142 [a0, a1, a2, a3, a4, a5, a6, a7, a8] (.int (nI 0) :: st) h Q := wp_p hc71 dX5_isTrue_141 rfl
theorem e71_142 : wp S d 71 142 [a0, a1, a2, a3, a4, a5, a6, a7, a8] (.int x :: st) h Q = wp S d 71 144 [a0, a1, a2, a3, a4, a5, some (.int x), a7, a8] st h Q := wp_p hc71 dX5_isTrue_142 rfl
theorem e71_144 : wp S d 71 144 [a0, a1, a2, a3, a4, a5, some (.int x), a7, a8] st h Q = wp S d 71 146 [a0, a1, a2, a3, a4, a5, some (.int x), a7, a8] (.int x :: st) h Q := wp_p hc71 dX5_isTrue_144 rfl
theorem e71_146 : wp S d 71 146 [some (.ref r), a1, a2, a3, a4, a5, a6, a7, a8] st h Q = wp S d 71 147 [some (.ref r), a1, a2, a3, a4, a5, a6, a7, a8] (.ref r :: st) h Q := wp_p hc71 dX5_isTrue_146 rfl
theorem e71_147 : wp S d 71 147 [a0, a1, a2, a3, a4, a5, a6, a7, a8] (.ref r :: st) h Q = am_gfK h r 5 0 (fun w => wp S d 71 150 [a0, a1, a2, a3, a4, a5, a6, a7, a8] (w :: st) h Q) := wp_gf hc71 dX5_isTrue_147 ho71 fl5_7
theorem e71_150 : wp S d 71 150 [a0, a1, a2, a3, a4, a5, a6, a7, a8] st h Q = wp S d 71 151 [a0, a1, a2, a3, a4, a5, a6, a7, a8] (.int (nI 0) :: st) h Q := wp_p hc71 dX5_isTrue_150 rfl
theorem e71_151 : wp S d 71 151 [a0, a1, a2, a3, a4, a5, a6, a7, a8] st h Q = wp S d 71 153 [a0, a1, a2, a3, a4, a5, a6, a7, a8] (.int (nI 7) :: st) h Q := wp_p hc71 dX5_isTrue_151 rfl
theorem e71_153 : wp S d 71 153 [a0, some (.int x), a2, a3, a4, a5, a6, a7, a8] st h Q = wp S d 71 154 [a0, some (.int x), a2, a3, a4, a5, a6, a7, a8] (.int x :: st) h Q := wp_p hc71 dX5_isTrue_153 rfl
theorem e71_154 : wp S d 71 154 [a0, a1, a2, a3, a4, a5, a6, a7, a8] (.int y :: .int x :: st) h Q = wp S d 71 155 [a0, a1, a2, a3, a4, a5, a6, a7, a8] (.int (x * y) :: st) h Q := wp_p hc71 dX5_isTrue_154 rfl
theorem e71_155 : wp S d 71 155 [a0, a1, a2, a3, a4, a5, a6, a7, a8] (.int y :: .int x :: st) h Q = wp S d 71 156 [a0, a1, a2, a3, a4, a5, a6, a7, a8] (.int (x + y) :: st) h Q := wp_p hc71 dX5_isTrue_155 rfl
theorem e71_156 : wp S d 71 156 [a0, a1, a2, a3, a4, a5, a6, a7, a8] st h Q = wp S d 71 157 [a0, a1, a2, a3, a4, a5, a6, a7, a8] (.int (nI 0) :: st) h Q := wp_p hc71 dX5_isTrue_156 rfl
theorem e71_157 : wp S d 71 157 [a0, a1, a2, a3, a4, a5, a6, a7, a8] (.int y :: .int x :: st) h Q = wp S d 71 158 [a0, a1, a2, a3, a4, a5, a6, a7, a8] (.int (x + y) :: st) h Q := wp_p hc71 dX5_isTrue_157 rfl
theorem e71_158 : wp S d 71 158 [a0, a1, a2, a3, a4, a5, a6, a7, a8] (.int x :: .ref r :: st) h Q = am_iaK h r x (fun z => wp S d 71 159 [a0, a1, a2, a3, a4, a5, a6, a7, a8] (.int z :: st) h Q) := wp_ia hc71 dX5_isTrue_158
theorem e71_159 : wp S d 71 159 [a0, a1, a2, a3, a4, a5, a6, a7, a8] (.int y :: .int x :: st) h Q = if y ≤ x then wp S d 71 256 [a0, a1, a2, a3, a4, a5, a6, a7, a8] st h Q else wp S d 71 162 [a0, a1, a2, a3, a4, a5, a6, a7, a8] st h Q := wp_ge hc71 dX5_isTrue_159 rfl
theorem e71_162 : wp S d 71 162 [a0, a1, a2, a3, a4, a5, a6, a7, a8] st h Q = wp S d 71 163 [a0, a1, a2, a3, a4, a5, a6, a7, a8] (.int (nI 0) :: st) h Q := wp_p hc71 dX5_isTrue_162 rfl
theorem e71_163 : wp S d 71 163 [a0, a1, a2, a3, a4, a5, a6, a7, a8] (.int x :: st) h Q = wp S d 71 165 [a0, a1, a2, a3, a4, a5, a6, some (.int x), a8] st h Q := wp_p hc71 dX5_isTrue_163 rfl
theorem e71_165 : wp S d 71 165 [a0, a1, a2, a3, a4, a5, a6, a7, a8] st h Q = wp S d 71 166 [a0, a1, a2, a3, a4, a5, a6, a7, a8] (.int (nI 0) :: st) h Q := wp_p hc71 dX5_isTrue_165 rfl
theorem e71_166 : wp S d 71 166 [a0, a1, a2, a3, a4, a5, a6, a7, a8] (.int x :: st) h Q = wp S d 71 168 [a0, a1, a2, a3, a4, a5, a6, a7, some (.int x)] st h Q := wp_p hc71 dX5_isTrue_166 rfl
theorem e71_168 : wp S d 71 168 [a0, a1, a2, a3, a4, a5, a6, a7, some (.int x)] st h Q = wp S d 71 170 [a0, a1, a2, a3, a4, a5, a6, a7, some (.int x)] (.int x :: st) h Q := wp_p hc71 dX5_isTrue_168 rfl
theorem e71_170 : wp S d 71 170 [a0, a1, a2, a3, some (.int x), a5, a6, a7, a8] st h Q = wp S d 71 172 [a0, a1, a2, a3, some (.int x), a5, a6, a7, a8] (.int x :: st) h Q := wp_p hc71 dX5_isTrue_170 rfl
theorem e71_172 : wp S d 71 172 [a0, a1, a2, a3, a4, a5, a6, a7, a8] (.int y :: .int x :: st) h Q = if y ≤ x then wp S d 71 215 [a0, a1, a2, a3, a4, a5, a6, a7, a8] st h Q else wp S d 71 175 [a0, a1, a2, a3, a4, a5, a6, a7, a8] st h Q := wp_ge hc71 dX5_isTrue_172 rfl
theorem e71_175 : wp S d 71 175 [a0, a1, a2, a3, a4, a5, a6, some (.int x), a8] st h Q = wp S d 71 177 [a0, a1, a2, a3, a4, a5, a6, some (.int x), a8] (.int x :: st) h Q := wp_p hc71 dX5_isTrue_175 rfl
theorem e71_177 : wp S d 71 177 [some (.ref r), a1, a2, a3, a4, a5, a6, a7, a8] st h Q = wp S d 71 178 [some (.ref r), a1, a2, a3, a4, a5, a6, a7, a8] (.ref r :: st) h Q := wp_p hc71 dX5_isTrue_177 rfl
theorem e71_178 : wp S d 71 178 [a0, some (.int x), a2, a3, a4, a5, a6, a7, a8] st h Q = wp S d 71 179 [a0, some (.int x), a2, a3, a4, a5, a6, a7, a8] (.int x :: st) h Q := wp_p hc71 dX5_isTrue_178 rfl
theorem e71_179 : wp S d 71 179 [a0, a1, a2, a3, a4, a5, a6, a7, some (.int x)] st h Q = wp S d 71 181 [a0, a1, a2, a3, a4, a5, a6, a7, some (.int x)] (.int x :: st) h Q := wp_p hc71 dX5_isTrue_179 rfl
theorem e71_181 : wp S (d + 1) 71 181 [a0, a1, a2, a3, a4, a5, a6, a7, a8] (.int x2 :: .int x1 :: .ref r0 :: st) h Q = (am_w8 st ∧ am_rcv h 2 74 (.ref r0) = true ∧ wp S d 74 0 [some (.ref r0), some (.int x1), some (.int x2)] [] h (am_kr S 2 (d + 1) 71 181 [a0, a1, a2, a3, a4, a5, a6, a7, a8] st Q)) := wp_cV (.ref r0) [.int x1, .int x2] hc71 dX5_isTrue_181 ho71 cl5_92 (by decide) ns5_92 hst74 hnp74 hml74 hlsl74 rfl rfl rfl
theorem e71_184 : wp S d 71 184 [a0, a1, a2, a3, a4, a5, some (.int x), a7, a8] st h Q = wp S d 71 186 [a0, a1, a2, a3, a4, a5, some (.int x), a7, a8] (.int x :: st) h Q := wp_p hc71 dX5_isTrue_184 rfl
theorem e71_186 : wp S d 71 186 [a0, a1, a2, a3, a4, a5, a6, a7, a8] (.int y :: .int x :: st) h Q = if x = y then wp S d 71 189 [a0, a1, a2, a3, a4, a5, a6, a7, a8] st h Q else wp S d 71 205 [a0, a1, a2, a3, a4, a5, a6, a7, a8] st h Q := wp_ne hc71 dX5_isTrue_186 rfl
theorem e71_189 : wp S d 71 189 [some (.ref r), a1, a2, a3, a4, a5, a6, a7, a8] st h Q = wp S d 71 190 [some (.ref r), a1, a2, a3, a4, a5, a6, a7, a8] (.ref r :: st) h Q := wp_p hc71 dX5_isTrue_189 rfl
theorem e71_190 : wp S d 71 190 [a0, a1, a2, a3, a4, a5, a6, a7, a8] (.ref r :: st) h Q = am_gfK h r 5 0 (fun w => wp S d 71 193 [a0, a1, a2, a3, a4, a5, a6, a7, a8] (w :: st) h Q) := wp_gf hc71 dX5_isTrue_190 ho71 fl5_7
theorem e71_193 : wp S d 71 193 [a0, a1, some (.int x), a3, a4, a5, a6, a7, a8] st h Q = wp S d 71 194 [a0, a1, some (.int x), a3, a4, a5, a6, a7, a8] (.int x :: st) h Q := wp_p hc71 dX5_isTrue_193 rfl
theorem e71_194 : wp S d 71 194 [a0, a1, a2, a3, a4, a5, a6, a7, a8] st h Q = wp S d 71 195 [a0, a1, a2, a3, a4, a5, a6, a7, a8] (.int (nI 2) :: st) h Q := wp_p hc71 dX5_isTrue_194 rfl
theorem e71_195 : wp S d 71 195 [a0, a1, a2, a3, a4, a5, a6, a7, a8] (.int y :: .int x :: st) h Q = wp S d 71 196 [a0, a1, a2, a3, a4, a5, a6, a7, a8] (.int (x + y) :: st) h Q := wp_p hc71 dX5_isTrue_195 rfl
theorem e71_196 : wp S d 71 196 [a0, a1, a2, a3, a4, a5, a6, a7, a8] st h Q = wp S d 71 197 [a0, a1, a2, a3, a4, a5, a6, a7, a8] (.int (nI 1) :: st) h Q := wp_p hc71 dX5_isTrue_196 rfl
theorem e71_197 : wp S d 71 197 [a0, a1, a2, a3, a4, a5, a6, a7, a8] (.int y :: .int x :: st) h Q = wp S d 71 198 [a0, a1, a2, a3, a4, a5, a6, a7, a8] (.int (x + y) :: st) h Q := wp_p hc71 dX5_isTrue_197 rfl
theorem e71_198 : wp S d 71 198 [a0, a1, a2, a3, a4, a5, a6, a7, some (.int x)] st h Q = wp S d 71 200 [a0, a1, a2, a3, a4, a5, a6, a7, some (.int x)] (.int x :: st) h Q := wp_p hc71 dX5_isTrue_198 rfl
theorem e71_200 : wp S d 71 200 [a0, a1, a2, a3, a4, a5, a6, a7, a8] (.int y :: .int x :: st) h Q = wp S d 71 201 [a0, a1, a2, a3, a4, a5, a6, a7, a8] (.int (x + y) :: st) h Q := wp_p hc71 dX5_isTrue_200 rfl
theorem e71_201 : wp S d 71 201 [a0, a1, a2, a3, a4, a5, a6, a7, a8] (.int x :: .ref r :: st) h Q = am_iaK h r x (fun z => wp S d 71 202 [a0, a1, a2, a3, a4, a5, a6, a7, a8] (.int z :: st) h Q) := wp_ia hc71 dX5_isTrue_201
theorem e71_202 : wp S d 71 202 [a0, a1, a2, a3, a4, a5, a6, a7, a8] st h Q = wp S d 71 206 [a0, a1, a2, a3, a4, a5, a6, a7, a8] st h Q := wp_p hc71 dX5_isTrue_202 rfl
theorem e71_205 : wp S d 71 205 [a0, a1, a2, a3, a4, a5, a6, a7, a8] st h Q = wp S d 71 206 [a0, a1, a2, a3, a4, a5, a6, a7, a8] (.int (nI 0) :: st) h Q := wp_p hc71 dX5_isTrue_205 rfl
theorem e71_206 : wp S d 71 206 [a0, a1, a2, a3, a4, a5, a6, a7, a8] (.int y :: .int x :: st) h Q = wp S d 71 207 [a0, a1, a2, a3, a4, a5, a6, a7, a8] (.int (x + y) :: st) h Q := wp_p hc71 dX5_isTrue_206 rfl
theorem e71_207 : wp S d 71 207 [a0, a1, a2, a3, a4, a5, a6, a7, a8] (.int x :: st) h Q = wp S d 71 209 [a0, a1, a2, a3, a4, a5, a6, some (.int x), a8] st h Q := wp_p hc71 dX5_isTrue_207 rfl
theorem e71_209 : wp S d 71 209 [a0, a1, a2, a3, a4, a5, a6, a7, some (.int x)] st h Q = wp S d 71 212 [a0, a1, a2, a3, a4, a5, a6, a7, some (.int (x + nI 1))] st h Q := wp_p hc71 dX5_isTrue_209 rfl
theorem e71_212 : wp S d 71 212 [a0, a1, a2, a3, a4, a5, a6, a7, a8] st h Q = wp S d 71 168 [a0, a1, a2, a3, a4, a5, a6, a7, a8] st h Q := wp_p hc71 dX5_isTrue_212 rfl
theorem e71_215 : wp S d 71 215 [a0, a1, a2, a3, a4, some (.int x), a6, a7, a8] st h Q = wp S d 71 217 [a0, a1, a2, a3, a4, some (.int x), a6, a7, a8] (.int x :: st) h Q := wp_p hc71 dX5_isTrue_215 rfl
theorem e71_217 : wp S d 71 217 [a0, a1, a2, a3, a4, a5, a6, a7, a8] (.int x :: st) h Q = if x = 0 then wp S d 71 247 [a0, a1, a2, a3, a4, a5, a6, a7, a8] st h Q else wp S d 71 220 [a0, a1, a2, a3, a4, a5, a6, a7, a8] st h Q := wp_eq hc71 dX5_isTrue_217 rfl
theorem e71_220 : wp S d 71 220 [a0, a1, a2, a3, a4, a5, a6, some (.int x), a8] st h Q = wp S d 71 222 [a0, a1, a2, a3, a4, a5, a6, some (.int x), a8] (.int x :: st) h Q := wp_p hc71 dX5_isTrue_220 rfl
theorem e71_222 : wp S d 71 222 [some (.ref r), a1, a2, a3, a4, a5, a6, a7, a8] st h Q = wp S d 71 223 [some (.ref r), a1, a2, a3, a4, a5, a6, a7, a8] (.ref r :: st) h Q := wp_p hc71 dX5_isTrue_222 rfl
theorem e71_223 : wp S d 71 223 [a0, a1, a2, a3, a4, a5, a6, a7, a8] (.ref r :: st) h Q = am_gfK h r 5 0 (fun w => wp S d 71 226 [a0, a1, a2, a3, a4, a5, a6, a7, a8] (w :: st) h Q) := wp_gf hc71 dX5_isTrue_223 ho71 fl5_7
theorem e71_226 : wp S d 71 226 [a0, a1, a2, a3, a4, a5, a6, a7, a8] st h Q = wp S d 71 227 [a0, a1, a2, a3, a4, a5, a6, a7, a8] (.int (nI 0) :: st) h Q := wp_p hc71 dX5_isTrue_226 rfl
theorem e71_227 : wp S d 71 227 [a0, a1, a2, a3, a4, a5, a6, a7, a8] st h Q = wp S d 71 229 [a0, a1, a2, a3, a4, a5, a6, a7, a8] (.int (nI 7) :: st) h Q := wp_p hc71 dX5_isTrue_227 rfl
theorem e71_229 : wp S d 71 229 [a0, some (.int x), a2, a3, a4, a5, a6, a7, a8] st h Q = wp S d 71 230 [a0, some (.int x), a2, a3, a4, a5, a6, a7, a8] (.int x :: st) h Q := wp_p hc71 dX5_isTrue_229 rfl
theorem e71_230 : wp S d 71 230 [a0, a1, a2, a3, a4, a5, a6, a7, a8] (.int y :: .int x :: st) h Q = wp S d 71 231 [a0, a1, a2, a3, a4, a5, a6, a7, a8] (.int (x * y) :: st) h Q := wp_p hc71 dX5_isTrue_230 rfl
theorem e71_231 : wp S d 71 231 [a0, a1, a2, a3, a4, a5, a6, a7, a8] (.int y :: .int x :: st) h Q = wp S d 71 232 [a0, a1, a2, a3, a4, a5, a6, a7, a8] (.int (x + y) :: st) h Q := wp_p hc71 dX5_isTrue_231 rfl
theorem e71_232 : wp S d 71 232 [a0, a1, a2, a3, a4, a5, a6, a7, a8] st h Q = wp S d 71 233 [a0, a1, a2, a3, a4, a5, a6, a7, a8] (.int (nI 2) :: st) h Q := wp_p hc71 dX5_isTrue_232 rfl
theorem e71_233 : wp S d 71 233 [a0, a1, a2, a3, a4, a5, a6, a7, a8] (.int y :: .int x :: st) h Q = wp S d 71 234 [a0, a1, a2, a3, a4, a5, a6, a7, a8] (.int (x + y) :: st) h Q := wp_p hc71 dX5_isTrue_233 rfl
theorem e71_234 : wp S d 71 234 [a0, a1, a2, a3, a4, a5, a6, a7, a8] st h Q = wp S d 71 235 [a0, a1, a2, a3, a4, a5, a6, a7, a8] (.int (nI 1) :: st) h Q := wp_p hc71 dX5_isTrue_234 rfl
theorem e71_235 : wp S d 71 235 [a0, a1, a2, a3, a4, a5, a6, a7, a8] (.int y :: .int x :: st) h Q = wp S d 71 236 [a0, a1, a2, a3, a4, a5, a6, a7, a8] (.int (x + y) :: st) h Q := wp_p hc71 dX5_isTrue_235 rfl
theorem e71_236 : wp S d 71 236 [a0, a1, a2, a3, a4, a5, some (.int x), a7, a8] st h Q = wp S d 71 238 [a0, a1, a2, a3, a4, a5, some (.int x), a7, a8] (.int x :: st) h Q := wp_p hc71 dX5_isTrue_236 rfl
theorem e71_238 : wp S d 71 238 [a0, a1, a2, a3, a4, a5, a6, a7, a8] (.int y :: .int x :: st) h Q = wp S d 71 239 [a0, a1, a2, a3, a4, a5, a6, a7, a8] (.int (x + y) :: st) h Q := wp_p hc71 dX5_isTrue_238 rfl
theorem e71_239 : wp S d 71 239 [a0, a1, a2, a3, a4, a5, a6, a7, a8] (.int x :: .ref r :: st) h Q = am_iaK h r x (fun z => wp S d 71 240 [a0, a1, a2, a3, a4, a5, a6, a7, a8] (.int z :: st) h Q) := wp_ia hc71 dX5_isTrue_239
theorem e71_240 : wp S d 71 240 [a0, a1, a2, a3, a4, a5, a6, a7, a8] (.int y :: .int x :: st) h Q = if x = y then wp S d 71 243 [a0, a1, a2, a3, a4, a5, a6, a7, a8] st h Q else wp S d 71 247 [a0, a1, a2, a3, a4, a5, a6, a7, a8] st h Q := wp_ne hc71 dX5_isTrue_240 rfl
theorem e71_243 : wp S d 71 243 [a0, a1, a2, a3, a4, a5, a6, a7, a8] st h Q = wp S d 71 244 [a0, a1, a2, a3, a4, a5, a6, a7, a8] (.int (nI 1) :: st) h Q := wp_p hc71 dX5_isTrue_243 rfl
theorem e71_244 : wp S d 71 244 [a0, a1, a2, a3, a4, a5, a6, a7, a8] st h Q = wp S d 71 248 [a0, a1, a2, a3, a4, a5, a6, a7, a8] st h Q := wp_p hc71 dX5_isTrue_244 rfl
theorem e71_247 : wp S d 71 247 [a0, a1, a2, a3, a4, a5, a6, a7, a8] st h Q = wp S d 71 248 [a0, a1, a2, a3, a4, a5, a6, a7, a8] (.int (nI 0) :: st) h Q := wp_p hc71 dX5_isTrue_247 rfl
theorem e71_248 : wp S d 71 248 [a0, a1, a2, a3, a4, a5, a6, a7, a8] (.int x :: st) h Q = wp S d 71 250 [a0, a1, a2, a3, a4, some (.int x), a6, a7, a8] st h Q := wp_p hc71 dX5_isTrue_248 rfl
theorem e71_250 : wp S d 71 250 [a0, a1, a2, a3, a4, a5, some (.int x), a7, a8] st h Q = wp S d 71 253 [a0, a1, a2, a3, a4, a5, some (.int (x + nI 1)), a7, a8] st h Q := wp_p hc71 dX5_isTrue_250 rfl
theorem e71_253 : wp S d 71 253 [a0, a1, a2, a3, a4, a5, a6, a7, a8] st h Q = wp S d 71 144 [a0, a1, a2, a3, a4, a5, a6, a7, a8] st h Q := wp_p hc71 dX5_isTrue_253 rfl
theorem e71_256 : wp S d 71 256 [a0, a1, a2, a3, a4, some (.int x), a6, a7, a8] st h Q = wp S d 71 258 [a0, a1, a2, a3, a4, some (.int x), a6, a7, a8] (.int x :: st) h Q := wp_p hc71 dX5_isTrue_256 rfl
theorem e71_258 : wp S d 71 258 ls [.int x] h Q = (narrow .boolean (.int x) = .int x ∧ Q (.inl (some (.int x)), h)) := wp_rI hc71 dX5_isTrue_258 rfl
theorem e72_0 : wp S d 72 0 [some (.ref r), a1] st h Q = wp S d 72 1 [some (.ref r), a1] (.ref r :: st) h Q := wp_p hc72 dX5_newOf_0 rfl
theorem e72_1 : wp S d 72 1 [a0, a1] (.ref r :: st) h Q = am_gfK h r 5 0 (fun w => wp S d 72 4 [a0, a1] (w :: st) h Q) := wp_gf hc72 dX5_newOf_1 ho72 fl5_7
theorem e72_4 : wp S d 72 4 [a0, a1] st h Q = wp S d 72 6 [a0, a1] (.int (nI 117) :: st) h Q := wp_p hc72 dX5_newOf_4 rfl
theorem e72_6 : wp S d 72 6 [a0, a1] st h Q = wp S d 72 7 [a0, a1] (.int (nI 5) :: st) h Q := wp_p hc72 dX5_newOf_6 rfl
theorem e72_7 : wp S d 72 7 [a0, some (.int x)] st h Q = wp S d 72 8 [a0, some (.int x)] (.int x :: st) h Q := wp_p hc72 dX5_newOf_7 rfl
theorem e72_8 : wp S d 72 8 [a0, a1] (.int y :: .int x :: st) h Q = wp S d 72 9 [a0, a1] (.int (x * y) :: st) h Q := wp_p hc72 dX5_newOf_8 rfl
theorem e72_9 : wp S d 72 9 [a0, a1] (.int y :: .int x :: st) h Q = wp S d 72 10 [a0, a1] (.int (x + y) :: st) h Q := wp_p hc72 dX5_newOf_9 rfl
theorem e72_10 : wp S d 72 10 [a0, a1] (.int x :: .ref r :: st) h Q = am_iaK h r x (fun z => wp S d 72 11 [a0, a1] (.int z :: st) h Q) := wp_ia hc72 dX5_newOf_10
theorem e72_11 : wp S d 72 11 ls [.int x] h Q = Q (.inl (some (.int x)), h) := wp_r hc72 dX5_newOf_11 rfl rfl ⟨x, _, rfl, rfl, rfl, rfl⟩
theorem e73_0 : wp S d 73 0 [some (.ref r), a1] st h Q = wp S d 73 1 [some (.ref r), a1] (.ref r :: st) h Q := wp_p hc73 dX5_used_0 rfl
theorem e73_1 : wp S d 73 1 [a0, a1] (.ref r :: st) h Q = am_gfK h r 5 0 (fun w => wp S d 73 4 [a0, a1] (w :: st) h Q) := wp_gf hc73 dX5_used_1 ho73 fl5_7
theorem e73_4 : wp S d 73 4 [a0, a1] st h Q = wp S d 73 6 [a0, a1] (.int (nI 42) :: st) h Q := wp_p hc73 dX5_used_4 rfl
theorem e73_6 : wp S d 73 6 [a0, a1] st h Q = wp S d 73 8 [a0, a1] (.int (nI 7) :: st) h Q := wp_p hc73 dX5_used_6 rfl
theorem e73_8 : wp S d 73 8 [some (.ref r), a1] st h Q = wp S d 73 9 [some (.ref r), a1] (.ref r :: st) h Q := wp_p hc73 dX5_used_8 rfl
theorem e73_9 : wp S d 73 9 [a0, some (.int x)] st h Q = wp S d 73 10 [a0, some (.int x)] (.int x :: st) h Q := wp_p hc73 dX5_used_9 rfl
theorem e73_10 : wp S (d + 1) 73 10 [a0, a1] (.int x1 :: .ref r0 :: st) h Q = (am_w8 st ∧ am_rcv h 2 72 (.ref r0) = true ∧ wp S d 72 0 [some (.ref r0), some (.int x1)] [] h (am_kr S 2 (d + 1) 73 10 [a0, a1] st Q)) := wp_cV (.ref r0) [.int x1] hc73 dX5_used_10 ho73 cl5_86 (by decide) ns5_86 hst72 hnp72 hml72 hlsl72 rfl rfl rfl
theorem e73_13 : wp S d 73 13 [a0, a1] (.int y :: .int x :: st) h Q = wp S d 73 14 [a0, a1] (.int (x * y) :: st) h Q := wp_p hc73 dX5_used_13 rfl
theorem e73_14 : wp S d 73 14 [a0, a1] (.int y :: .int x :: st) h Q = wp S d 73 15 [a0, a1] (.int (x + y) :: st) h Q := wp_p hc73 dX5_used_14 rfl
theorem e73_15 : wp S d 73 15 [a0, a1] st h Q = wp S d 73 16 [a0, a1] (.int (nI 0) :: st) h Q := wp_p hc73 dX5_used_15 rfl
theorem e73_16 : wp S d 73 16 [a0, a1] (.int y :: .int x :: st) h Q = wp S d 73 17 [a0, a1] (.int (x + y) :: st) h Q := wp_p hc73 dX5_used_16 rfl
theorem e73_17 : wp S d 73 17 [a0, a1] (.int x :: .ref r :: st) h Q = am_iaK h r x (fun z => wp S d 73 18 [a0, a1] (.int z :: st) h Q) := wp_ia hc73 dX5_used_17
theorem e73_18 : wp S d 73 18 ls [.int x] h Q = Q (.inl (some (.int x)), h) := wp_r hc73 dX5_used_18 rfl rfl ⟨x, _, rfl, rfl, rfl, rfl⟩
theorem e74_0 : wp S d 74 0 [some (.ref r), a1, a2] st h Q = wp S d 74 1 [some (.ref r), a1, a2] (.ref r :: st) h Q := wp_p hc74 dX5_entry_0 rfl
theorem e74_1 : wp S d 74 1 [a0, a1, a2] (.ref r :: st) h Q = am_gfK h r 5 0 (fun w => wp S d 74 4 [a0, a1, a2] (w :: st) h Q) := wp_gf hc74 dX5_entry_1 ho74 fl5_7
theorem e74_4 : wp S d 74 4 [a0, a1, a2] st h Q = wp S d 74 6 [a0, a1, a2] (.int (nI 117) :: st) h Q := wp_p hc74 dX5_entry_4 rfl
theorem e74_6 : wp S d 74 6 [a0, a1, a2] st h Q = wp S d 74 7 [a0, a1, a2] (.int (nI 5) :: st) h Q := wp_p hc74 dX5_entry_6 rfl
theorem e74_7 : wp S d 74 7 [a0, some (.int x), a2] st h Q = wp S d 74 8 [a0, some (.int x), a2] (.int x :: st) h Q := wp_p hc74 dX5_entry_7 rfl
theorem e74_8 : wp S d 74 8 [a0, a1, a2] (.int y :: .int x :: st) h Q = wp S d 74 9 [a0, a1, a2] (.int (x * y) :: st) h Q := wp_p hc74 dX5_entry_8 rfl
theorem e74_9 : wp S d 74 9 [a0, a1, a2] (.int y :: .int x :: st) h Q = wp S d 74 10 [a0, a1, a2] (.int (x + y) :: st) h Q := wp_p hc74 dX5_entry_9 rfl
theorem e74_10 : wp S d 74 10 [a0, a1, a2] st h Q = wp S d 74 11 [a0, a1, a2] (.int (nI 1) :: st) h Q := wp_p hc74 dX5_entry_10 rfl
theorem e74_11 : wp S d 74 11 [a0, a1, a2] (.int y :: .int x :: st) h Q = wp S d 74 12 [a0, a1, a2] (.int (x + y) :: st) h Q := wp_p hc74 dX5_entry_11 rfl
theorem e74_12 : wp S d 74 12 [a0, a1, some (.int x)] st h Q = wp S d 74 13 [a0, a1, some (.int x)] (.int x :: st) h Q := wp_p hc74 dX5_entry_12 rfl
theorem e74_13 : wp S d 74 13 [a0, a1, a2] (.int y :: .int x :: st) h Q = wp S d 74 14 [a0, a1, a2] (.int (x + y) :: st) h Q := wp_p hc74 dX5_entry_13 rfl
theorem e74_14 : wp S d 74 14 [a0, a1, a2] (.int x :: .ref r :: st) h Q = am_iaK h r x (fun z => wp S d 74 15 [a0, a1, a2] (.int z :: st) h Q) := wp_ia hc74 dX5_entry_14
theorem e74_15 : wp S d 74 15 ls [.int x] h Q = Q (.inl (some (.int x)), h) := wp_r hc74 dX5_entry_15 rfl rfl ⟨x, _, rfl, rfl, rfl, rfl⟩
theorem e75_0 : wp S d 75 0 [a0, some (.int x), a2] st h Q = wp S d 75 1 [a0, some (.int x), a2] (.int x :: st) h Q := wp_p hc75 dX5_unmap_0 rfl
theorem e75_1 : wp S (d + 1) 75 1 [a0, a1, a2] (.int x1 :: st) h Q = (am_w8 st ∧ wp S d 60 0 [some (.int x1)] [] h (am_kr S 0 (d + 1) 75 1 [a0, a1, a2] st Q)) := wp_cS [.int x1] hc75 dX5_unmap_1 ho75 cl5_62 (by decide) ns5_62 hst60 hnp60 hml60 hlsl60 rfl rfl rfl
theorem e75_4 : wp S d 75 4 [a0, a1, a2] (.int x :: st) h Q = if x = 0 then wp S d 75 7 [a0, a1, a2] st h Q else wp S d 75 14 [a0, a1, a2] st h Q := wp_ne hc75 dX5_unmap_4 rfl
theorem e75_7 : wp S d 75 7 [some (.ref r), a1, a2] st h Q = wp S d 75 8 [some (.ref r), a1, a2] (.ref r :: st) h Q := wp_p hc75 dX5_unmap_7 rfl
theorem e75_8 : wp S d 75 8 [a0, a1, a2] st h Q = wp S d 75 10 [a0, a1, a2] (.int ((-2)) :: st) h Q := wp_p hc75 dX5_unmap_8 rfl
theorem e75_10 : wp S (d + 1) 75 10 [a0, a1, a2] (.int x1 :: .ref r0 :: st) h Q = (am_w8 st ∧ am_rcv h 2 64 (.ref r0) = true ∧ wp S d 64 0 [some (.ref r0), some (.int x1)] [] h (am_kr S 2 (d + 1) 75 10 [a0, a1, a2] st Q)) := wp_cV (.ref r0) [.int x1] hc75 dX5_unmap_10 ho75 cl5_72 (by decide) ns5_72 hst64 hnp64 hml64 hlsl64 rfl rfl rfl
theorem e75_13 : wp S d 75 13 ls [.int x] h Q = Q (.inl (some (.int x)), h) := wp_r hc75 dX5_unmap_13 rfl rfl ⟨x, _, rfl, rfl, rfl, rfl⟩
theorem e75_14 : wp S d 75 14 [some (.ref r), a1, a2] st h Q = wp S d 75 15 [some (.ref r), a1, a2] (.ref r :: st) h Q := wp_p hc75 dX5_unmap_14 rfl
theorem e75_15 : wp S d 75 15 [a0, some (.int x), a2] st h Q = wp S d 75 16 [a0, some (.int x), a2] (.int x :: st) h Q := wp_p hc75 dX5_unmap_15 rfl
theorem e75_16 : wp S (d + 1) 75 16 [a0, a1, a2] (.int x1 :: .ref r0 :: st) h Q = (am_w8 st ∧ am_rcv h 2 72 (.ref r0) = true ∧ wp S d 72 0 [some (.ref r0), some (.int x1)] [] h (am_kr S 2 (d + 1) 75 16 [a0, a1, a2] st Q)) := wp_cV (.ref r0) [.int x1] hc75 dX5_unmap_16 ho75 cl5_86 (by decide) ns5_86 hst72 hnp72 hml72 hlsl72 rfl rfl rfl
theorem e75_19 : wp S d 75 19 [a0, a1, a2] (.int x :: st) h Q = wp S d 75 20 [a0, a1, some (.int x)] st h Q := wp_p hc75 dX5_unmap_19 rfl
theorem e75_20 : wp S d 75 20 [a0, a1, some (.int x)] st h Q = wp S d 75 21 [a0, a1, some (.int x)] (.int x :: st) h Q := wp_p hc75 dX5_unmap_20 rfl
theorem e75_21 : wp S d 75 21 [a0, a1, a2] st h Q = wp S d 75 22 [a0, a1, a2] (.int ((-1)) :: st) h Q := wp_p hc75 dX5_unmap_21 rfl
theorem e75_22 : wp S d 75 22 [a0, a1, a2] (.int y :: .int x :: st) h Q = if x = y then wp S d 75 25 [a0, a1, a2] st h Q else wp S d 75 32 [a0, a1, a2] st h Q := wp_ne hc75 dX5_unmap_22 rfl
theorem e75_25 : wp S d 75 25 [some (.ref r), a1, a2] st h Q = wp S d 75 26 [some (.ref r), a1, a2] (.ref r :: st) h Q := wp_p hc75 dX5_unmap_25 rfl
theorem e75_26 : wp S d 75 26 [a0, a1, a2] st h Q = wp S d 75 28 [a0, a1, a2] (.int ((-3)) :: st) h Q := wp_p hc75 dX5_unmap_26 rfl
theorem e75_28 : wp S (d + 1) 75 28 [a0, a1, a2] (.int x1 :: .ref r0 :: st) h Q = (am_w8 st ∧ am_rcv h 2 64 (.ref r0) = true ∧ wp S d 64 0 [some (.ref r0), some (.int x1)] [] h (am_kr S 2 (d + 1) 75 28 [a0, a1, a2] st Q)) := wp_cV (.ref r0) [.int x1] hc75 dX5_unmap_28 ho75 cl5_72 (by decide) ns5_72 hst64 hnp64 hml64 hlsl64 rfl rfl rfl
theorem e75_31 : wp S d 75 31 ls [.int x] h Q = Q (.inl (some (.int x)), h) := wp_r hc75 dX5_unmap_31 rfl rfl ⟨x, _, rfl, rfl, rfl, rfl⟩
theorem e75_32 : wp S d 75 32 [some (.ref r), a1, a2] st h Q = wp S d 75 33 [some (.ref r), a1, a2] (.ref r :: st) h Q := wp_p hc75 dX5_unmap_32 rfl
theorem e75_33 : wp S (d + 1) 75 33 [a0, a1, a2] (.ref r0 :: st) h Q = (am_w8 st ∧ am_rcv h 2 63 (.ref r0) = true ∧ wp S d 63 0 [some (.ref r0), none] [] h (am_kr S 2 (d + 1) 75 33 [a0, a1, a2] st Q)) := wp_cV (.ref r0) [] hc75 dX5_unmap_33 ho75 cl5_59 (by decide) ns5_59 hst63 hnp63 hml63 hlsl63 rfl rfl rfl
theorem e75_36 : wp S d 75 36 [some (.ref r), a1, a2] st h Q = wp S d 75 37 [some (.ref r), a1, a2] (.ref r :: st) h Q := wp_p hc75 dX5_unmap_36 rfl
theorem e75_37 : wp S d 75 37 [a0, a1, a2] (.ref r :: st) h Q = am_gfK h r 5 0 (fun w => wp S d 75 40 [a0, a1, a2] (w :: st) h Q) := wp_gf hc75 dX5_unmap_37 ho75 fl5_7
theorem e75_40 : wp S d 75 40 [a0, a1, a2] st h Q = wp S d 75 42 [a0, a1, a2] (.int (nI 117) :: st) h Q := wp_p hc75 dX5_unmap_40 rfl
theorem e75_42 : wp S d 75 42 [a0, a1, a2] st h Q = wp S d 75 43 [a0, a1, a2] (.int (nI 5) :: st) h Q := wp_p hc75 dX5_unmap_42 rfl
theorem e75_43 : wp S d 75 43 [a0, some (.int x), a2] st h Q = wp S d 75 44 [a0, some (.int x), a2] (.int x :: st) h Q := wp_p hc75 dX5_unmap_43 rfl
theorem e75_44 : wp S d 75 44 [a0, a1, a2] (.int y :: .int x :: st) h Q = wp S d 75 45 [a0, a1, a2] (.int (x * y) :: st) h Q := wp_p hc75 dX5_unmap_44 rfl
theorem e75_45 : wp S d 75 45 [a0, a1, a2] (.int y :: .int x :: st) h Q = wp S d 75 46 [a0, a1, a2] (.int (x + y) :: st) h Q := wp_p hc75 dX5_unmap_45 rfl
theorem e75_46 : wp S d 75 46 [a0, a1, a2] st h Q = wp S d 75 47 [a0, a1, a2] (.int ((-1)) :: st) h Q := wp_p hc75 dX5_unmap_46 rfl
theorem e75_47 : wp S d 75 47 [a0, a1, a2] (.int y :: .int x :: .ref r :: st) h Q = am_isK h r x y (fun h => wp S d 75 48 [a0, a1, a2] st h Q) := wp_is hc75 dX5_unmap_47
theorem e75_48 : wp S d 75 48 [a0, a1, some (.int x)] st h Q = wp S d 75 49 [a0, a1, some (.int x)] (.int x :: st) h Q := wp_p hc75 dX5_unmap_48 rfl
theorem e75_49 : wp S d 75 49 ls [.int x] h Q = Q (.inl (some (.int x)), h) := wp_r hc75 dX5_unmap_49 rfl rfl ⟨x, _, rfl, rfl, rfl, rfl⟩
theorem e76_0 : wp S d 76 0 [some (.ref r), a1, a2, a3] st h Q = wp S d 76 1 [some (.ref r), a1, a2, a3] (.ref r :: st) h Q := wp_p hc76 dX5_setSource_0 rfl
theorem e76_1 : wp S d 76 1 [a0, some (.int x), a2, a3] st h Q = wp S d 76 2 [a0, some (.int x), a2, a3] (.int x :: st) h Q := wp_p hc76 dX5_setSource_1 rfl
theorem e76_2 : wp S d 76 2 [a0, a1, some (.int x), a3] st h Q = wp S d 76 3 [a0, a1, some (.int x), a3] (.int x :: st) h Q := wp_p hc76 dX5_setSource_2 rfl
theorem e76_3 : wp S d 76 3 [a0, a1, a2, some (.int x)] st h Q = wp S d 76 4 [a0, a1, a2, some (.int x)] (.int x :: st) h Q := wp_p hc76 dX5_setSource_3 rfl
theorem e76_4 : wp S d 76 4 [a0, a1, a2, some (.int x)] st h Q = wp S d 76 5 [a0, a1, a2, some (.int x)] (.int x :: st) h Q := wp_p hc76 dX5_setSource_4 rfl
theorem e76_5 : wp S d 76 5 [a0, a1, a2, a3] (.int x :: st) h Q = wp S d 76 6 [a0, a1, a2, a3] (.long x.toInt64 :: st) h Q := wp_p hc76 dX5_setSource_5 rfl
theorem e76_6 : wp S d 76 6 [a0, a1, a2, a3] st h Q = wp S d 76 7 [a0, a1, a2, a3] (.long (nI 0).toInt64 :: st) h Q := wp_p hc76 dX5_setSource_6 rfl
theorem e76_7 : wp S d 76 7 [a0, a1, a2, a3] st h Q = wp S d 76 10 [a0, a1, a2, a3] (.long ((nI 2 : Int32).toInt64) :: st) h Q := wp_l2 hc76 dX5_setSource_7 ho76 l25_102
theorem e76_10 : wp S (d + 1) 76 10 [a0, a1, a2, a3] (.long u3 :: .long u2 :: .long u1 :: st) h Q = (am_w8 st ∧ wp S d 61 0 [some (.long u1), none, some (.long u2), none, some (.long u3), none] [] h (am_kr S 0 (d + 1) 76 10 [a0, a1, a2, a3] st Q)) := wp_cS [.long u1, .long u2, .long u3] hc76 dX5_setSource_10 ho76 cl5_55 (by decide) ns5_55 hst61 hnp61 hml61 hlsl61 rfl rfl rfl
theorem e76_13 : wp S (d + 1) 76 13 [a0, a1, a2, a3] (.int x4 :: .int x3 :: .int x2 :: .int x1 :: .ref r0 :: st) h Q = (am_w8 st ∧ am_rcv h 2 77 (.ref r0) = true ∧ wp S d 77 0 [some (.ref r0), some (.int x1), some (.int x2), some (.int x3), some (.int x4)] [] h (am_kr S 2 (d + 1) 76 13 [a0, a1, a2, a3] st Q)) := wp_cV (.ref r0) [.int x1, .int x2, .int x3, .int x4] hc76 dX5_setSource_13 ho76 cl5_104 (by decide) ns5_104 hst77 hnp77 hml77 hlsl77 rfl rfl rfl
theorem e76_16 : wp S d 76 16 ls [.int x] h Q = Q (.inl (some (.int x)), h) := wp_r hc76 dX5_setSource_16 rfl rfl ⟨x, _, rfl, rfl, rfl, rfl⟩
theorem e77_0 : wp S d 77 0 [a0, some (.int x), a2, a3, a4] st h Q = wp S d 77 1 [a0, some (.int x), a2, a3, a4] (.int x :: st) h Q := wp_p hc77 dX5_setsEntry_0 rfl
theorem e77_1 : wp S (d + 1) 77 1 [a0, a1, a2, a3, a4] (.int x1 :: st) h Q = (am_w8 st ∧ wp S d 60 0 [some (.int x1)] [] h (am_kr S 0 (d + 1) 77 1 [a0, a1, a2, a3, a4] st Q)) := wp_cS [.int x1] hc77 dX5_setsEntry_1 ho77 cl5_62 (by decide) ns5_62 hst60 hnp60 hml60 hlsl60 rfl rfl rfl
theorem e77_4 : wp S d 77 4 [a0, a1, a2, a3, a4] (.int x :: st) h Q = if x = 0 then wp S d 77 24 [a0, a1, a2, a3, a4] st h Q else wp S d 77 7 [a0, a1, a2, a3, a4] st h Q := wp_eq hc77 dX5_setsEntry_4 rfl
theorem e77_7 : wp S d 77 7 [a0, a1, some (.int x), a3, a4] st h Q = wp S d 77 8 [a0, a1, some (.int x), a3, a4] (.int x :: st) h Q := wp_p hc77 dX5_setsEntry_7 rfl
theorem e77_8 : wp S d 77 8 [a0, a1, a2, a3, a4] (.int x :: st) h Q = wp S d 77 9 [a0, a1, a2, a3, a4] (.long x.toInt64 :: st) h Q := wp_p hc77 dX5_setsEntry_8 rfl
theorem e77_9 : wp S d 77 9 [a0, a1, a2, a3, a4] st h Q = wp S d 77 10 [a0, a1, a2, a3, a4] (.long (nI 0).toInt64 :: st) h Q := wp_p hc77 dX5_setsEntry_9 rfl
theorem e77_10 : wp S d 77 10 [a0, a1, a2, a3, a4] st h Q = wp S d 77 13 [a0, a1, a2, a3, a4] (.long ((nI 3 : Int32).toInt64) :: st) h Q := wp_l2 hc77 dX5_setsEntry_10 ho77 l25_66
theorem e77_13 : wp S (d + 1) 77 13 [a0, a1, a2, a3, a4] (.long u3 :: .long u2 :: .long u1 :: st) h Q = (am_w8 st ∧ wp S d 61 0 [some (.long u1), none, some (.long u2), none, some (.long u3), none] [] h (am_kr S 0 (d + 1) 77 13 [a0, a1, a2, a3, a4] st Q)) := wp_cS [.long u1, .long u2, .long u3] hc77 dX5_setsEntry_13 ho77 cl5_55 (by decide) ns5_55 hst61 hnp61 hml61 hlsl61 rfl rfl rfl
theorem e77_16 : wp S d 77 16 [a0, a1, a2, a3, a4] (.int x :: st) h Q = if x = 0 then wp S d 77 24 [a0, a1, a2, a3, a4] st h Q else wp S d 77 19 [a0, a1, a2, a3, a4] st h Q := wp_eq hc77 dX5_setsEntry_16 rfl
theorem e77_19 : wp S d 77 19 [a0, a1, a2, a3, some (.int x)] st h Q = wp S d 77 21 [a0, a1, a2, a3, some (.int x)] (.int x :: st) h Q := wp_p hc77 dX5_setsEntry_19 rfl
theorem e77_21 : wp S d 77 21 [a0, a1, a2, a3, a4] (.int x :: st) h Q = if x = 0 then wp S d 77 24 [a0, a1, a2, a3, a4] st h Q else wp S d 77 31 [a0, a1, a2, a3, a4] st h Q := wp_ne hc77 dX5_setsEntry_21 rfl
theorem e77_24 : wp S d 77 24 [some (.ref r), a1, a2, a3, a4] st h Q = wp S d 77 25 [some (.ref r), a1, a2, a3, a4] (.ref r :: st) h Q := wp_p hc77 dX5_setsEntry_24 rfl
theorem e77_25 : wp S d 77 25 [a0, a1, a2, a3, a4] st h Q = wp S d 77 27 [a0, a1, a2, a3, a4] (.int ((-2)) :: st) h Q := wp_p hc77 dX5_setsEntry_25 rfl
theorem e77_27 : wp S (d + 1) 77 27 [a0, a1, a2, a3, a4] (.int x1 :: .ref r0 :: st) h Q = (am_w8 st ∧ am_rcv h 2 64 (.ref r0) = true ∧ wp S d 64 0 [some (.ref r0), some (.int x1)] [] h (am_kr S 2 (d + 1) 77 27 [a0, a1, a2, a3, a4] st Q)) := wp_cV (.ref r0) [.int x1] hc77 dX5_setsEntry_27 ho77 cl5_72 (by decide) ns5_72 hst64 hnp64 hml64 hlsl64 rfl rfl rfl
theorem e77_30 : wp S d 77 30 ls [.int x] h Q = Q (.inl (some (.int x)), h) := wp_r hc77 dX5_setsEntry_30 rfl rfl ⟨x, _, rfl, rfl, rfl, rfl⟩
theorem e77_31 : wp S d 77 31 [some (.ref r), a1, a2, a3, a4] st h Q = wp S d 77 32 [some (.ref r), a1, a2, a3, a4] (.ref r :: st) h Q := wp_p hc77 dX5_setsEntry_31 rfl
theorem e77_32 : wp S d 77 32 [a0, some (.int x), a2, a3, a4] st h Q = wp S d 77 33 [a0, some (.int x), a2, a3, a4] (.int x :: st) h Q := wp_p hc77 dX5_setsEntry_32 rfl
theorem e77_33 : wp S (d + 1) 77 33 [a0, a1, a2, a3, a4] (.int x1 :: .ref r0 :: st) h Q = (am_w8 st ∧ am_rcv h 2 72 (.ref r0) = true ∧ wp S d 72 0 [some (.ref r0), some (.int x1)] [] h (am_kr S 2 (d + 1) 77 33 [a0, a1, a2, a3, a4] st Q)) := wp_cV (.ref r0) [.int x1] hc77 dX5_setsEntry_33 ho77 cl5_86 (by decide) ns5_86 hst72 hnp72 hml72 hlsl72 rfl rfl rfl
theorem e77_36 : wp S d 77 36 [a0, a1, a2, a3, a4] st h Q = wp S d 77 37 [a0, a1, a2, a3, a4] (.int ((-1)) :: st) h Q := wp_p hc77 dX5_setsEntry_36 rfl
theorem e77_37 : wp S d 77 37 [a0, a1, a2, a3, a4] (.int y :: .int x :: st) h Q = if x = y then wp S d 77 40 [a0, a1, a2, a3, a4] st h Q else wp S d 77 47 [a0, a1, a2, a3, a4] st h Q := wp_ne hc77 dX5_setsEntry_37 rfl
theorem e77_40 : wp S d 77 40 [some (.ref r), a1, a2, a3, a4] st h Q = wp S d 77 41 [some (.ref r), a1, a2, a3, a4] (.ref r :: st) h Q := wp_p hc77 dX5_setsEntry_40 rfl
theorem e77_41 : wp S d 77 41 [a0, a1, a2, a3, a4] st h Q = wp S d 77 43 [a0, a1, a2, a3, a4] (.int ((-3)) :: st) h Q := wp_p hc77 dX5_setsEntry_41 rfl
theorem e77_43 : wp S (d + 1) 77 43 [a0, a1, a2, a3, a4] (.int x1 :: .ref r0 :: st) h Q = (am_w8 st ∧ am_rcv h 2 64 (.ref r0) = true ∧ wp S d 64 0 [some (.ref r0), some (.int x1)] [] h (am_kr S 2 (d + 1) 77 43 [a0, a1, a2, a3, a4] st Q)) := wp_cV (.ref r0) [.int x1] hc77 dX5_setsEntry_43 ho77 cl5_72 (by decide) ns5_72 hst64 hnp64 hml64 hlsl64 rfl rfl rfl
theorem e77_46 : wp S d 77 46 ls [.int x] h Q = Q (.inl (some (.int x)), h) := wp_r hc77 dX5_setsEntry_46 rfl rfl ⟨x, _, rfl, rfl, rfl, rfl⟩
theorem e77_47 : wp S d 77 47 [some (.ref r), a1, a2, a3, a4] st h Q = wp S d 77 48 [some (.ref r), a1, a2, a3, a4] (.ref r :: st) h Q := wp_p hc77 dX5_setsEntry_47 rfl
theorem e77_48 : wp S (d + 1) 77 48 [a0, a1, a2, a3, a4] (.ref r0 :: st) h Q = (am_w8 st ∧ am_rcv h 2 63 (.ref r0) = true ∧ wp S d 63 0 [some (.ref r0), none] [] h (am_kr S 2 (d + 1) 77 48 [a0, a1, a2, a3, a4] st Q)) := wp_cV (.ref r0) [] hc77 dX5_setsEntry_48 ho77 cl5_59 (by decide) ns5_59 hst63 hnp63 hml63 hlsl63 rfl rfl rfl
theorem e77_51 : wp S d 77 51 [some (.ref r), a1, a2, a3, a4] st h Q = wp S d 77 52 [some (.ref r), a1, a2, a3, a4] (.ref r :: st) h Q := wp_p hc77 dX5_setsEntry_51 rfl
theorem e77_52 : wp S d 77 52 [a0, a1, a2, a3, a4] (.ref r :: st) h Q = am_gfK h r 5 0 (fun w => wp S d 77 55 [a0, a1, a2, a3, a4] (w :: st) h Q) := wp_gf hc77 dX5_setsEntry_52 ho77 fl5_7
theorem e77_55 : wp S d 77 55 [a0, a1, a2, a3, a4] st h Q = wp S d 77 57 [a0, a1, a2, a3, a4] (.int (nI 117) :: st) h Q := wp_p hc77 dX5_setsEntry_55 rfl
theorem e77_57 : wp S d 77 57 [a0, a1, a2, a3, a4] st h Q = wp S d 77 58 [a0, a1, a2, a3, a4] (.int (nI 5) :: st) h Q := wp_p hc77 dX5_setsEntry_57 rfl
theorem e77_58 : wp S d 77 58 [a0, some (.int x), a2, a3, a4] st h Q = wp S d 77 59 [a0, some (.int x), a2, a3, a4] (.int x :: st) h Q := wp_p hc77 dX5_setsEntry_58 rfl
theorem e77_59 : wp S d 77 59 [a0, a1, a2, a3, a4] (.int y :: .int x :: st) h Q = wp S d 77 60 [a0, a1, a2, a3, a4] (.int (x * y) :: st) h Q := wp_p hc77 dX5_setsEntry_59 rfl
theorem e77_60 : wp S d 77 60 [a0, a1, a2, a3, a4] (.int y :: .int x :: st) h Q = wp S d 77 61 [a0, a1, a2, a3, a4] (.int (x + y) :: st) h Q := wp_p hc77 dX5_setsEntry_60 rfl
theorem e77_61 : wp S d 77 61 [a0, a1, a2, a3, a4] st h Q = wp S d 77 62 [a0, a1, a2, a3, a4] (.int (nI 1) :: st) h Q := wp_p hc77 dX5_setsEntry_61 rfl
theorem e77_62 : wp S d 77 62 [a0, a1, a2, a3, a4] (.int y :: .int x :: st) h Q = wp S d 77 63 [a0, a1, a2, a3, a4] (.int (x + y) :: st) h Q := wp_p hc77 dX5_setsEntry_62 rfl
theorem e77_63 : wp S d 77 63 [a0, a1, some (.int x), a3, a4] st h Q = wp S d 77 64 [a0, a1, some (.int x), a3, a4] (.int x :: st) h Q := wp_p hc77 dX5_setsEntry_63 rfl
theorem e77_64 : wp S d 77 64 [a0, a1, a2, a3, a4] (.int y :: .int x :: st) h Q = wp S d 77 65 [a0, a1, a2, a3, a4] (.int (x + y) :: st) h Q := wp_p hc77 dX5_setsEntry_64 rfl
theorem e77_65 : wp S d 77 65 [a0, a1, a2, some (.int x), a4] st h Q = wp S d 77 66 [a0, a1, a2, some (.int x), a4] (.int x :: st) h Q := wp_p hc77 dX5_setsEntry_65 rfl
theorem e77_66 : wp S d 77 66 [a0, a1, a2, a3, a4] (.int y :: .int x :: .ref r :: st) h Q = am_isK h r x y (fun h => wp S d 77 67 [a0, a1, a2, a3, a4] st h Q) := wp_is hc77 dX5_setsEntry_66
theorem e77_67 : wp S d 77 67 [some (.ref r), a1, a2, a3, a4] st h Q = wp S d 77 68 [some (.ref r), a1, a2, a3, a4] (.ref r :: st) h Q := wp_p hc77 dX5_setsEntry_67 rfl
theorem e77_68 : wp S d 77 68 [a0, some (.int x), a2, a3, a4] st h Q = wp S d 77 69 [a0, some (.int x), a2, a3, a4] (.int x :: st) h Q := wp_p hc77 dX5_setsEntry_68 rfl
theorem e77_69 : wp S (d + 1) 77 69 [a0, a1, a2, a3, a4] (.int x1 :: .ref r0 :: st) h Q = (am_w8 st ∧ am_rcv h 2 70 (.ref r0) = true ∧ wp S d 70 0 [some (.ref r0), some (.int x1)] [] h (am_kr S 2 (d + 1) 77 69 [a0, a1, a2, a3, a4] st Q)) := wp_cV (.ref r0) [.int x1] hc77 dX5_setsEntry_69 ho77 cl5_99 (by decide) ns5_99 hst70 hnp70 hml70 hlsl70 rfl rfl rfl
theorem e77_72 : wp S d 77 72 ls [.int x] h Q = Q (.inl (some (.int x)), h) := wp_r hc77 dX5_setsEntry_72 rfl rfl ⟨x, _, rfl, rfl, rfl, rfl⟩
theorem e78_0 : wp S d 78 0 [a0, a1, a2, some (.int x), a4] st h Q = wp S d 78 1 [a0, a1, a2, some (.int x), a4] (.int x :: st) h Q := wp_p hc78 dX5_setConstant_0 rfl
theorem e78_1 : wp S d 78 1 [a0, a1, a2, a3, a4] (.int x :: st) h Q = wp S d 78 2 [a0, a1, a2, a3, a4] (.long x.toInt64 :: st) h Q := wp_p hc78 dX5_setConstant_1 rfl
theorem e78_2 : wp S d 78 2 [a0, a1, a2, a3, a4] st h Q = wp S d 78 3 [a0, a1, a2, a3, a4] (.long (nI 0).toInt64 :: st) h Q := wp_p hc78 dX5_setConstant_2 rfl
theorem e78_3 : wp S d 78 3 [a0, a1, a2, a3, a4] st h Q = wp S d 78 6 [a0, a1, a2, a3, a4] (.long ((nI 99 : Int32).toInt64) :: st) h Q := wp_l2 hc78 dX5_setConstant_3 ho78 l25_80
theorem e78_6 : wp S (d + 1) 78 6 [a0, a1, a2, a3, a4] (.long u3 :: .long u2 :: .long u1 :: st) h Q = (am_w8 st ∧ wp S d 61 0 [some (.long u1), none, some (.long u2), none, some (.long u3), none] [] h (am_kr S 0 (d + 1) 78 6 [a0, a1, a2, a3, a4] st Q)) := wp_cS [.long u1, .long u2, .long u3] hc78 dX5_setConstant_6 ho78 cl5_55 (by decide) ns5_55 hst61 hnp61 hml61 hlsl61 rfl rfl rfl
theorem e78_9 : wp S d 78 9 [a0, a1, a2, a3, a4] (.int x :: st) h Q = wp S d 78 11 [a0, a1, a2, a3, some (.int x)] st h Q := wp_p hc78 dX5_setConstant_9 rfl
theorem e78_11 : wp S d 78 11 [some (.ref r), a1, a2, a3, a4] st h Q = wp S d 78 12 [some (.ref r), a1, a2, a3, a4] (.ref r :: st) h Q := wp_p hc78 dX5_setConstant_11 rfl
theorem e78_12 : wp S d 78 12 [a0, some (.int x), a2, a3, a4] st h Q = wp S d 78 13 [a0, some (.int x), a2, a3, a4] (.int x :: st) h Q := wp_p hc78 dX5_setConstant_12 rfl
theorem e78_13 : wp S d 78 13 [a0, a1, some (.int x), a3, a4] st h Q = wp S d 78 14 [a0, a1, some (.int x), a3, a4] (.int x :: st) h Q := wp_p hc78 dX5_setConstant_13 rfl
theorem e78_14 : wp S d 78 14 [a0, a1, a2, a3, some (.int x)] st h Q = wp S d 78 16 [a0, a1, a2, a3, some (.int x)] (.int x :: st) h Q := wp_p hc78 dX5_setConstant_14 rfl
theorem e78_16 : wp S d 78 16 [a0, a1, a2, a3, a4] (.int x :: st) h Q = if x = 0 then wp S d 78 26 [a0, a1, a2, a3, a4] st h Q else wp S d 78 19 [a0, a1, a2, a3, a4] st h Q := wp_eq hc78 dX5_setConstant_16 rfl
theorem e78_19 : wp S d 78 19 [a0, a1, a2, a3, a4] st h Q = wp S d 78 21 [a0, a1, a2, a3, a4] (.int (nI 100) :: st) h Q := wp_p hc78 dX5_setConstant_19 rfl
theorem e78_21 : wp S d 78 21 [a0, a1, a2, some (.int x), a4] st h Q = wp S d 78 22 [a0, a1, a2, some (.int x), a4] (.int x :: st) h Q := wp_p hc78 dX5_setConstant_21 rfl
theorem e78_22 : wp S d 78 22 [a0, a1, a2, a3, a4] (.int y :: .int x :: st) h Q = wp S d 78 23 [a0, a1, a2, a3, a4] (.int (x + y) :: st) h Q := wp_p hc78 dX5_setConstant_22 rfl
theorem e78_23 : wp S d 78 23 [a0, a1, a2, a3, a4] st h Q = wp S d 78 27 [a0, a1, a2, a3, a4] st h Q := wp_p hc78 dX5_setConstant_23 rfl
theorem e78_26 : wp S d 78 26 [a0, a1, a2, a3, a4] st h Q = wp S d 78 27 [a0, a1, a2, a3, a4] (.int (nI 0) :: st) h Q := wp_p hc78 dX5_setConstant_26 rfl
theorem e78_27 : wp S d 78 27 [a0, a1, a2, a3, some (.int x)] st h Q = wp S d 78 29 [a0, a1, a2, a3, some (.int x)] (.int x :: st) h Q := wp_p hc78 dX5_setConstant_27 rfl
theorem e78_29 : wp S (d + 1) 78 29 [a0, a1, a2, a3, a4] (.int x4 :: .int x3 :: .int x2 :: .int x1 :: .ref r0 :: st) h Q = (am_w8 st ∧ am_rcv h 2 77 (.ref r0) = true ∧ wp S d 77 0 [some (.ref r0), some (.int x1), some (.int x2), some (.int x3), some (.int x4)] [] h (am_kr S 2 (d + 1) 78 29 [a0, a1, a2, a3, a4] st Q)) := wp_cV (.ref r0) [.int x1, .int x2, .int x3, .int x4] hc78 dX5_setConstant_29 ho78 cl5_104 (by decide) ns5_104 hst77 hnp77 hml77 hlsl77 rfl rfl rfl
theorem e78_32 : wp S d 78 32 ls [.int x] h Q = Q (.inl (some (.int x)), h) := wp_r hc78 dX5_setConstant_32 rfl rfl ⟨x, _, rfl, rfl, rfl, rfl⟩
theorem e79_0 : wp S d 79 0 [a0, some (.int x)] st h Q = wp S d 79 1 [a0, some (.int x)] (.int x :: st) h Q := wp_p hc79 dX5_isFaithful_0 rfl
theorem e79_1 : wp S (d + 1) 79 1 [a0, a1] (.int x1 :: st) h Q = (am_w8 st ∧ wp S d 60 0 [some (.int x1)] [] h (am_kr S 0 (d + 1) 79 1 [a0, a1] st Q)) := wp_cS [.int x1] hc79 dX5_isFaithful_1 ho79 cl5_62 (by decide) ns5_62 hst60 hnp60 hml60 hlsl60 rfl rfl rfl
theorem e79_4 : wp S d 79 4 [a0, a1] (.int x :: st) h Q = if x = 0 then wp S d 79 7 [a0, a1] st h Q else wp S d 79 14 [a0, a1] st h Q := wp_ne hc79 dX5_isFaithful_4 rfl
theorem e79_7 : wp S d 79 7 [some (.ref r), a1] st h Q = wp S d 79 8 [some (.ref r), a1] (.ref r :: st) h Q := wp_p hc79 dX5_isFaithful_7 rfl
theorem e79_8 : wp S d 79 8 [a0, a1] st h Q = wp S d 79 10 [a0, a1] (.int ((-2)) :: st) h Q := wp_p hc79 dX5_isFaithful_8 rfl
theorem e79_10 : wp S (d + 1) 79 10 [a0, a1] (.int x1 :: .ref r0 :: st) h Q = (am_w8 st ∧ am_rcv h 2 64 (.ref r0) = true ∧ wp S d 64 0 [some (.ref r0), some (.int x1)] [] h (am_kr S 2 (d + 1) 79 10 [a0, a1] st Q)) := wp_cV (.ref r0) [.int x1] hc79 dX5_isFaithful_10 ho79 cl5_72 (by decide) ns5_72 hst64 hnp64 hml64 hlsl64 rfl rfl rfl
theorem e79_13 : wp S d 79 13 ls [.int x] h Q = Q (.inl (some (.int x)), h) := wp_r hc79 dX5_isFaithful_13 rfl rfl ⟨x, _, rfl, rfl, rfl, rfl⟩
theorem e79_14 : wp S d 79 14 [some (.ref r), a1] st h Q = wp S d 79 15 [some (.ref r), a1] (.ref r :: st) h Q := wp_p hc79 dX5_isFaithful_14 rfl
theorem e79_15 : wp S d 79 15 [a0, some (.int x)] st h Q = wp S d 79 16 [a0, some (.int x)] (.int x :: st) h Q := wp_p hc79 dX5_isFaithful_15 rfl
theorem e79_16 : wp S (d + 1) 79 16 [a0, a1] (.int x1 :: .ref r0 :: st) h Q = (am_w8 st ∧ am_rcv h 2 72 (.ref r0) = true ∧ wp S d 72 0 [some (.ref r0), some (.int x1)] [] h (am_kr S 2 (d + 1) 79 16 [a0, a1] st Q)) := wp_cV (.ref r0) [.int x1] hc79 dX5_isFaithful_16 ho79 cl5_86 (by decide) ns5_86 hst72 hnp72 hml72 hlsl72 rfl rfl rfl
theorem e79_19 : wp S d 79 19 [a0, a1] st h Q = wp S d 79 20 [a0, a1] (.int ((-1)) :: st) h Q := wp_p hc79 dX5_isFaithful_19 rfl
theorem e79_20 : wp S d 79 20 [a0, a1] (.int y :: .int x :: st) h Q = if x = y then wp S d 79 23 [a0, a1] st h Q else wp S d 79 32 [a0, a1] st h Q := wp_ne hc79 dX5_isFaithful_20 rfl
theorem e79_23 : wp S d 79 23 [some (.ref r), a1] st h Q = wp S d 79 24 [some (.ref r), a1] (.ref r :: st) h Q := wp_p hc79 dX5_isFaithful_23 rfl
theorem e79_24 : wp S d 79 24 [a0, a1] st h Q = wp S d 79 26 [a0, a1] (.int ((-3)) :: st) h Q := wp_p hc79 dX5_isFaithful_24 rfl
theorem e79_26 : wp S (d + 1) 79 26 [a0, a1] (.int x1 :: .ref r0 :: st) h Q = (am_w8 st ∧ am_rcv h 2 64 (.ref r0) = true ∧ wp S d 64 0 [some (.ref r0), some (.int x1)] [] h (am_kr S 2 (d + 1) 79 26 [a0, a1] st Q)) := wp_cV (.ref r0) [.int x1] hc79 dX5_isFaithful_26 ho79 cl5_72 (by decide) ns5_72 hst64 hnp64 hml64 hlsl64 rfl rfl rfl
theorem e79_29 : wp S d 79 29 [a0, a1] st h Q = wp S d 79 37 [a0, a1] st h Q := wp_p hc79 dX5_isFaithful_29 rfl
theorem e79_32 : wp S d 79 32 [some (.ref r), a1] st h Q = wp S d 79 33 [some (.ref r), a1] (.ref r :: st) h Q := wp_p hc79 dX5_isFaithful_32 rfl
theorem e79_33 : wp S d 79 33 [a0, some (.int x)] st h Q = wp S d 79 34 [a0, some (.int x)] (.int x :: st) h Q := wp_p hc79 dX5_isFaithful_33 rfl
theorem e79_34 : wp S (d + 1) 79 34 [a0, a1] (.int x1 :: .ref r0 :: st) h Q = (am_w8 st ∧ am_rcv h 2 70 (.ref r0) = true ∧ wp S d 70 0 [some (.ref r0), some (.int x1)] [] h (am_kr S 2 (d + 1) 79 34 [a0, a1] st Q)) := wp_cV (.ref r0) [.int x1] hc79 dX5_isFaithful_34 ho79 cl5_99 (by decide) ns5_99 hst70 hnp70 hml70 hlsl70 rfl rfl rfl
theorem e79_37 : wp S d 79 37 ls [.int x] h Q = Q (.inl (some (.int x)), h) := wp_r hc79 dX5_isFaithful_37 rfl rfl ⟨x, _, rfl, rfl, rfl, rfl⟩
theorem e80_0 : wp S d 80 0 [a0, some (.int x), a2] st h Q = wp S d 80 1 [a0, some (.int x), a2] (.int x :: st) h Q := wp_p hc80 dX5_allowAdapters_0 rfl
theorem e80_1 : wp S d 80 1 [a0, a1, a2] (.int x :: st) h Q = wp S d 80 2 [a0, a1, a2] (.long x.toInt64 :: st) h Q := wp_p hc80 dX5_allowAdapters_1 rfl
theorem e80_2 : wp S d 80 2 [a0, a1, a2] st h Q = wp S d 80 3 [a0, a1, a2] (.long (nI 0).toInt64 :: st) h Q := wp_p hc80 dX5_allowAdapters_2 rfl
theorem e80_3 : wp S d 80 3 [a0, a1, a2] st h Q = wp S d 80 4 [a0, a1, a2] (.long (nI 1).toInt64 :: st) h Q := wp_p hc80 dX5_allowAdapters_3 rfl
theorem e80_4 : wp S (d + 1) 80 4 [a0, a1, a2] (.long u3 :: .long u2 :: .long u1 :: st) h Q = (am_w8 st ∧ wp S d 61 0 [some (.long u1), none, some (.long u2), none, some (.long u3), none] [] h (am_kr S 0 (d + 1) 80 4 [a0, a1, a2] st Q)) := wp_cS [.long u1, .long u2, .long u3] hc80 dX5_allowAdapters_4 ho80 cl5_55 (by decide) ns5_55 hst61 hnp61 hml61 hlsl61 rfl rfl rfl
theorem e80_7 : wp S d 80 7 [a0, a1, a2] (.int x :: st) h Q = if x = 0 then wp S d 80 10 [a0, a1, a2] st h Q else wp S d 80 17 [a0, a1, a2] st h Q := wp_ne hc80 dX5_allowAdapters_7 rfl
theorem e80_10 : wp S d 80 10 [some (.ref r), a1, a2] st h Q = wp S d 80 11 [some (.ref r), a1, a2] (.ref r :: st) h Q := wp_p hc80 dX5_allowAdapters_10 rfl
theorem e80_11 : wp S d 80 11 [a0, a1, a2] st h Q = wp S d 80 13 [a0, a1, a2] (.int ((-2)) :: st) h Q := wp_p hc80 dX5_allowAdapters_11 rfl
theorem e80_13 : wp S (d + 1) 80 13 [a0, a1, a2] (.int x1 :: .ref r0 :: st) h Q = (am_w8 st ∧ am_rcv h 2 64 (.ref r0) = true ∧ wp S d 64 0 [some (.ref r0), some (.int x1)] [] h (am_kr S 2 (d + 1) 80 13 [a0, a1, a2] st Q)) := wp_cV (.ref r0) [.int x1] hc80 dX5_allowAdapters_13 ho80 cl5_72 (by decide) ns5_72 hst64 hnp64 hml64 hlsl64 rfl rfl rfl
theorem e80_16 : wp S d 80 16 ls [.int x] h Q = Q (.inl (some (.int x)), h) := wp_r hc80 dX5_allowAdapters_16 rfl rfl ⟨x, _, rfl, rfl, rfl, rfl⟩
theorem e80_17 : wp S d 80 17 [some (.ref r), a1, a2] st h Q = wp S d 80 18 [some (.ref r), a1, a2] (.ref r :: st) h Q := wp_p hc80 dX5_allowAdapters_17 rfl
theorem e80_18 : wp S (d + 1) 80 18 [a0, a1, a2] (.ref r0 :: st) h Q = (am_w8 st ∧ am_rcv h 2 63 (.ref r0) = true ∧ wp S d 63 0 [some (.ref r0), none] [] h (am_kr S 2 (d + 1) 80 18 [a0, a1, a2] st Q)) := wp_cV (.ref r0) [] hc80 dX5_allowAdapters_18 ho80 cl5_59 (by decide) ns5_59 hst63 hnp63 hml63 hlsl63 rfl rfl rfl
theorem e80_21 : wp S d 80 21 [some (.ref r), a1, a2] st h Q = wp S d 80 22 [some (.ref r), a1, a2] (.ref r :: st) h Q := wp_p hc80 dX5_allowAdapters_21 rfl
theorem e80_22 : wp S d 80 22 [a0, a1, a2] (.ref r :: st) h Q = am_gfK h r 5 0 (fun w => wp S d 80 25 [a0, a1, a2] (w :: st) h Q) := wp_gf hc80 dX5_allowAdapters_22 ho80 fl5_7
theorem e80_25 : wp S d 80 25 [a0, a1, a2] st h Q = wp S d 80 28 [a0, a1, a2] (.int (nI 147) :: st) h Q := wp_p hc80 dX5_allowAdapters_25 rfl
theorem e80_28 : wp S d 80 28 [a0, a1, a2] (.int x :: .ref r :: st) h Q = am_iaK h r x (fun z => wp S d 80 29 [a0, a1, a2] (.int z :: st) h Q) := wp_ia hc80 dX5_allowAdapters_28
theorem e80_29 : wp S d 80 29 [a0, a1, a2] (.int x :: st) h Q = wp S d 80 30 [a0, a1, some (.int x)] st h Q := wp_p hc80 dX5_allowAdapters_29 rfl
theorem e80_30 : wp S d 80 30 [some (.ref r), a1, a2] st h Q = wp S d 80 31 [some (.ref r), a1, a2] (.ref r :: st) h Q := wp_p hc80 dX5_allowAdapters_30 rfl
theorem e80_31 : wp S d 80 31 [a0, a1, a2] (.ref r :: st) h Q = am_gfK h r 5 0 (fun w => wp S d 80 34 [a0, a1, a2] (w :: st) h Q) := wp_gf hc80 dX5_allowAdapters_31 ho80 fl5_7
theorem e80_34 : wp S d 80 34 [a0, a1, a2] st h Q = wp S d 80 37 [a0, a1, a2] (.int (nI 147) :: st) h Q := wp_p hc80 dX5_allowAdapters_34 rfl
theorem e80_37 : wp S d 80 37 [a0, some (.int x), a2] st h Q = wp S d 80 38 [a0, some (.int x), a2] (.int x :: st) h Q := wp_p hc80 dX5_allowAdapters_37 rfl
theorem e80_38 : wp S d 80 38 [a0, a1, a2] (.int y :: .int x :: .ref r :: st) h Q = am_isK h r x y (fun h => wp S d 80 39 [a0, a1, a2] st h Q) := wp_is hc80 dX5_allowAdapters_38
theorem e80_39 : wp S d 80 39 [a0, a1, some (.int x)] st h Q = wp S d 80 40 [a0, a1, some (.int x)] (.int x :: st) h Q := wp_p hc80 dX5_allowAdapters_39 rfl
theorem e80_40 : wp S d 80 40 ls [.int x] h Q = Q (.inl (some (.int x)), h) := wp_r hc80 dX5_allowAdapters_40 rfl rfl ⟨x, _, rfl, rfl, rfl, rfl⟩
theorem e81_0 : wp S d 81 0 [a0, some (.int x), a2] st h Q = wp S d 81 1 [a0, some (.int x), a2] (.int x :: st) h Q := wp_p hc81 dX5_adapterOf_0 rfl
theorem e81_1 : wp S (d + 1) 81 1 [a0, a1, a2] (.int x1 :: st) h Q = (am_w8 st ∧ wp S d 60 0 [some (.int x1)] [] h (am_kr S 0 (d + 1) 81 1 [a0, a1, a2] st Q)) := wp_cS [.int x1] hc81 dX5_adapterOf_1 ho81 cl5_62 (by decide) ns5_62 hst60 hnp60 hml60 hlsl60 rfl rfl rfl
theorem e81_4 : wp S d 81 4 [a0, a1, a2] (.int x :: st) h Q = if x = 0 then wp S d 81 7 [a0, a1, a2] st h Q else wp S d 81 14 [a0, a1, a2] st h Q := wp_ne hc81 dX5_adapterOf_4 rfl
theorem e81_7 : wp S d 81 7 [some (.ref r), a1, a2] st h Q = wp S d 81 8 [some (.ref r), a1, a2] (.ref r :: st) h Q := wp_p hc81 dX5_adapterOf_7 rfl
theorem e81_8 : wp S d 81 8 [a0, a1, a2] st h Q = wp S d 81 10 [a0, a1, a2] (.int ((-2)) :: st) h Q := wp_p hc81 dX5_adapterOf_8 rfl
theorem e81_10 : wp S (d + 1) 81 10 [a0, a1, a2] (.int x1 :: .ref r0 :: st) h Q = (am_w8 st ∧ am_rcv h 2 64 (.ref r0) = true ∧ wp S d 64 0 [some (.ref r0), some (.int x1)] [] h (am_kr S 2 (d + 1) 81 10 [a0, a1, a2] st Q)) := wp_cV (.ref r0) [.int x1] hc81 dX5_adapterOf_10 ho81 cl5_72 (by decide) ns5_72 hst64 hnp64 hml64 hlsl64 rfl rfl rfl
theorem e81_13 : wp S d 81 13 ls [.int x] h Q = Q (.inl (some (.int x)), h) := wp_r hc81 dX5_adapterOf_13 rfl rfl ⟨x, _, rfl, rfl, rfl, rfl⟩
theorem e81_14 : wp S d 81 14 [some (.ref r), a1, a2] st h Q = wp S d 81 15 [some (.ref r), a1, a2] (.ref r :: st) h Q := wp_p hc81 dX5_adapterOf_14 rfl
theorem e81_15 : wp S d 81 15 [a0, some (.int x), a2] st h Q = wp S d 81 16 [a0, some (.int x), a2] (.int x :: st) h Q := wp_p hc81 dX5_adapterOf_15 rfl
theorem e81_16 : wp S (d + 1) 81 16 [a0, a1, a2] (.int x1 :: .ref r0 :: st) h Q = (am_w8 st ∧ am_rcv h 2 82 (.ref r0) = true ∧ wp S d 82 0 [some (.ref r0), some (.int x1), none, none] [] h (am_kr S 2 (d + 1) 81 16 [a0, a1, a2] st Q)) := wp_cV (.ref r0) [.int x1] hc81 dX5_adapterOf_16 ho81 cl5_108 (by decide) ns5_108 hst82 hnp82 hml82 hlsl82 rfl rfl rfl
theorem e81_19 : wp S d 81 19 [a0, a1, a2] (.int x :: st) h Q = wp S d 81 20 [a0, a1, some (.int x)] st h Q := wp_p hc81 dX5_adapterOf_19 rfl
theorem e81_20 : wp S d 81 20 [a0, a1, some (.int x)] st h Q = wp S d 81 21 [a0, a1, some (.int x)] (.int x :: st) h Q := wp_p hc81 dX5_adapterOf_20 rfl
theorem e81_21 : wp S d 81 21 [a0, a1, a2] st h Q = wp S d 81 22 [a0, a1, a2] (.int ((-1)) :: st) h Q := wp_p hc81 dX5_adapterOf_21 rfl
theorem e81_22 : wp S d 81 22 [a0, a1, a2] (.int y :: .int x :: st) h Q = if x = y then wp S d 81 25 [a0, a1, a2] st h Q else wp S d 81 34 [a0, a1, a2] st h Q := wp_ne hc81 dX5_adapterOf_22 rfl
theorem e81_25 : wp S d 81 25 [some (.ref r), a1, a2] st h Q = wp S d 81 26 [some (.ref r), a1, a2] (.ref r :: st) h Q := wp_p hc81 dX5_adapterOf_25 rfl
theorem e81_26 : wp S d 81 26 [a0, a1, a2] st h Q = wp S d 81 28 [a0, a1, a2] (.int ((-3)) :: st) h Q := wp_p hc81 dX5_adapterOf_26 rfl
theorem e81_28 : wp S (d + 1) 81 28 [a0, a1, a2] (.int x1 :: .ref r0 :: st) h Q = (am_w8 st ∧ am_rcv h 2 64 (.ref r0) = true ∧ wp S d 64 0 [some (.ref r0), some (.int x1)] [] h (am_kr S 2 (d + 1) 81 28 [a0, a1, a2] st Q)) := wp_cV (.ref r0) [.int x1] hc81 dX5_adapterOf_28 ho81 cl5_72 (by decide) ns5_72 hst64 hnp64 hml64 hlsl64 rfl rfl rfl
theorem e81_31 : wp S d 81 31 [a0, a1, a2] st h Q = wp S d 81 35 [a0, a1, a2] st h Q := wp_p hc81 dX5_adapterOf_31 rfl
theorem e81_34 : wp S d 81 34 [a0, a1, some (.int x)] st h Q = wp S d 81 35 [a0, a1, some (.int x)] (.int x :: st) h Q := wp_p hc81 dX5_adapterOf_34 rfl
theorem e81_35 : wp S d 81 35 ls [.int x] h Q = Q (.inl (some (.int x)), h) := wp_r hc81 dX5_adapterOf_35 rfl rfl ⟨x, _, rfl, rfl, rfl, rfl⟩
theorem e82_0 : wp S d 82 0 [a0, a1, a2, a3] st h Q = wp S d 82 1 [a0, a1, a2, a3] (.int ((-1)) :: st) h Q := wp_p hc82 dX5_adapter_0 rfl
theorem e82_1 : wp S d 82 1 [a0, a1, a2, a3] (.int x :: st) h Q = wp S d 82 2 [a0, a1, some (.int x), a3] st h Q := wp_p hc82 dX5_adapter_1 rfl
theorem e82_2 : wp S d 82 2 [a0, a1, a2, a3] st h Q = wp S d 82 3 [a0, a1, a2, a3] (.int (nI 0) :: st) h Q := wp_p hc82 dX5_adapter_2 rfl
theorem e82_3 : wp S d 82 3 [a0, a1, a2, a3] (.int x :: st) h Q = wp S d 82 4 [a0, a1, a2, some (.int x)] st h Q := wp_p hc82 dX5_adapter_3 rfl
theorem e82_4 : wp S d 82 4 [a0, a1, a2, some (.int x)] st h Q = wp S d 82 5 [a0, a1, a2, some (.int x)] (.int x :: st) h Q := wp_p hc82 dX5_adapter_4 rfl
theorem e82_5 : wp S d 82 5 [some (.ref r), a1, a2, a3] st h Q = wp S d 82 6 [some (.ref r), a1, a2, a3] (.ref r :: st) h Q := wp_p hc82 dX5_adapter_5 rfl
theorem e82_6 : wp S d 82 6 [a0, a1, a2, a3] (.ref r :: st) h Q = am_gfK h r 5 0 (fun w => wp S d 82 9 [a0, a1, a2, a3] (w :: st) h Q) := wp_gf hc82 dX5_adapter_6 ho82 fl5_7
theorem e82_9 : wp S d 82 9 [a0, a1, a2, a3] st h Q = wp S d 82 11 [a0, a1, a2, a3] (.int (nI 116) :: st) h Q := wp_p hc82 dX5_adapter_9 rfl
theorem e82_11 : wp S d 82 11 [a0, a1, a2, a3] (.int x :: .ref r :: st) h Q = am_iaK h r x (fun z => wp S d 82 12 [a0, a1, a2, a3] (.int z :: st) h Q) := wp_ia hc82 dX5_adapter_11
theorem e82_12 : wp S d 82 12 [a0, a1, a2, a3] (.int y :: .int x :: st) h Q = if y ≤ x then wp S d 82 46 [a0, a1, a2, a3] st h Q else wp S d 82 15 [a0, a1, a2, a3] st h Q := wp_ge hc82 dX5_adapter_12 rfl
theorem e82_15 : wp S d 82 15 [some (.ref r), a1, a2, a3] st h Q = wp S d 82 16 [some (.ref r), a1, a2, a3] (.ref r :: st) h Q := wp_p hc82 dX5_adapter_15 rfl
theorem e82_16 : wp S d 82 16 [a0, a1, a2, a3] (.ref r :: st) h Q = am_gfK h r 5 0 (fun w => wp S d 82 19 [a0, a1, a2, a3] (w :: st) h Q) := wp_gf hc82 dX5_adapter_16 ho82 fl5_7
theorem e82_19 : wp S d 82 19 [a0, a1, a2, a3] st h Q = wp S d 82 21 [a0, a1, a2, a3] (.int (nI 84) :: st) h Q := wp_p hc82 dX5_adapter_19 rfl
theorem e82_21 : wp S d 82 21 [a0, a1, a2, a3] st h Q = wp S d 82 23 [a0, a1, a2, a3] (.int (nI 8) :: st) h Q := wp_p hc82 dX5_adapter_21 rfl
theorem e82_23 : wp S d 82 23 [a0, a1, a2, some (.int x)] st h Q = wp S d 82 24 [a0, a1, a2, some (.int x)] (.int x :: st) h Q := wp_p hc82 dX5_adapter_23 rfl
theorem e82_24 : wp S d 82 24 [a0, a1, a2, a3] (.int y :: .int x :: st) h Q = wp S d 82 25 [a0, a1, a2, a3] (.int (x * y) :: st) h Q := wp_p hc82 dX5_adapter_24 rfl
theorem e82_25 : wp S d 82 25 [a0, a1, a2, a3] (.int y :: .int x :: st) h Q = wp S d 82 26 [a0, a1, a2, a3] (.int (x + y) :: st) h Q := wp_p hc82 dX5_adapter_25 rfl
theorem e82_26 : wp S d 82 26 [a0, a1, a2, a3] st h Q = wp S d 82 28 [a0, a1, a2, a3] (.int (nI 7) :: st) h Q := wp_p hc82 dX5_adapter_26 rfl
theorem e82_28 : wp S d 82 28 [a0, a1, a2, a3] (.int y :: .int x :: st) h Q = wp S d 82 29 [a0, a1, a2, a3] (.int (x + y) :: st) h Q := wp_p hc82 dX5_adapter_28 rfl
theorem e82_29 : wp S d 82 29 [a0, a1, a2, a3] (.int x :: .ref r :: st) h Q = am_iaK h r x (fun z => wp S d 82 30 [a0, a1, a2, a3] (.int z :: st) h Q) := wp_ia hc82 dX5_adapter_29
theorem e82_30 : wp S d 82 30 [a0, some (.int x), a2, a3] st h Q = wp S d 82 31 [a0, some (.int x), a2, a3] (.int x :: st) h Q := wp_p hc82 dX5_adapter_30 rfl
theorem e82_31 : wp S d 82 31 [a0, a1, a2, a3] (.int y :: .int x :: st) h Q = if x = y then wp S d 82 34 [a0, a1, a2, a3] st h Q else wp S d 82 38 [a0, a1, a2, a3] st h Q := wp_ne hc82 dX5_adapter_31 rfl
theorem e82_34 : wp S d 82 34 [a0, a1, a2, some (.int x)] st h Q = wp S d 82 35 [a0, a1, a2, some (.int x)] (.int x :: st) h Q := wp_p hc82 dX5_adapter_34 rfl
theorem e82_35 : wp S d 82 35 [a0, a1, a2, a3] st h Q = wp S d 82 39 [a0, a1, a2, a3] st h Q := wp_p hc82 dX5_adapter_35 rfl
theorem e82_38 : wp S d 82 38 [a0, a1, some (.int x), a3] st h Q = wp S d 82 39 [a0, a1, some (.int x), a3] (.int x :: st) h Q := wp_p hc82 dX5_adapter_38 rfl
theorem e82_39 : wp S d 82 39 [a0, a1, a2, a3] (.int x :: st) h Q = wp S d 82 40 [a0, a1, some (.int x), a3] st h Q := wp_p hc82 dX5_adapter_39 rfl
theorem e82_40 : wp S d 82 40 [a0, a1, a2, some (.int x)] st h Q = wp S d 82 43 [a0, a1, a2, some (.int (x + nI 1))] st h Q := wp_p hc82 dX5_adapter_40 rfl
theorem e82_43 : wp S d 82 43 [a0, a1, a2, a3] st h Q = wp S d 82 4 [a0, a1, a2, a3] st h Q := wp_p hc82 dX5_adapter_43 rfl
theorem e82_46 : wp S d 82 46 [a0, a1, some (.int x), a3] st h Q = wp S d 82 47 [a0, a1, some (.int x), a3] (.int x :: st) h Q := wp_p hc82 dX5_adapter_46 rfl
theorem e82_47 : wp S d 82 47 ls [.int x] h Q = Q (.inl (some (.int x)), h) := wp_r hc82 dX5_adapter_47 rfl rfl ⟨x, _, rfl, rfl, rfl, rfl⟩
theorem e83_0 : wp S d 83 0 [a0, some (.int x)] st h Q = wp S d 83 1 [a0, some (.int x)] (.int x :: st) h Q := wp_p hc83 dX5_append_0 rfl
theorem e83_1 : wp S d 83 1 [a0, a1] (.int x :: st) h Q = wp S d 83 2 [a0, a1] (.long x.toInt64 :: st) h Q := wp_p hc83 dX5_append_1 rfl
theorem e83_2 : wp S d 83 2 [a0, a1] st h Q = wp S d 83 3 [a0, a1] (.long (nI 0).toInt64 :: st) h Q := wp_p hc83 dX5_append_2 rfl
theorem e83_3 : wp S d 83 3 [a0, a1] st h Q = wp S d 83 6 [a0, a1] (.long ((nI 127 : Int32).toInt64) :: st) h Q := wp_l2 hc83 dX5_append_3 ho83 l25_117
theorem e83_6 : wp S (d + 1) 83 6 [a0, a1] (.long u3 :: .long u2 :: .long u1 :: st) h Q = (am_w8 st ∧ wp S d 61 0 [some (.long u1), none, some (.long u2), none, some (.long u3), none] [] h (am_kr S 0 (d + 1) 83 6 [a0, a1] st Q)) := wp_cS [.long u1, .long u2, .long u3] hc83 dX5_append_6 ho83 cl5_55 (by decide) ns5_55 hst61 hnp61 hml61 hlsl61 rfl rfl rfl
theorem e83_9 : wp S d 83 9 [a0, a1] (.int x :: st) h Q = if x = 0 then wp S d 83 12 [a0, a1] st h Q else wp S d 83 19 [a0, a1] st h Q := wp_ne hc83 dX5_append_9 rfl
theorem e83_12 : wp S d 83 12 [some (.ref r), a1] st h Q = wp S d 83 13 [some (.ref r), a1] (.ref r :: st) h Q := wp_p hc83 dX5_append_12 rfl
theorem e83_13 : wp S d 83 13 [a0, a1] st h Q = wp S d 83 15 [a0, a1] (.int ((-2)) :: st) h Q := wp_p hc83 dX5_append_13 rfl
theorem e83_15 : wp S (d + 1) 83 15 [a0, a1] (.int x1 :: .ref r0 :: st) h Q = (am_w8 st ∧ am_rcv h 2 64 (.ref r0) = true ∧ wp S d 64 0 [some (.ref r0), some (.int x1)] [] h (am_kr S 2 (d + 1) 83 15 [a0, a1] st Q)) := wp_cV (.ref r0) [.int x1] hc83 dX5_append_15 ho83 cl5_72 (by decide) ns5_72 hst64 hnp64 hml64 hlsl64 rfl rfl rfl
theorem e83_18 : wp S d 83 18 ls [.int x] h Q = Q (.inl (some (.int x)), h) := wp_r hc83 dX5_append_18 rfl rfl ⟨x, _, rfl, rfl, rfl, rfl⟩
theorem e83_19 : wp S d 83 19 [some (.ref r), a1] st h Q = wp S d 83 20 [some (.ref r), a1] (.ref r :: st) h Q := wp_p hc83 dX5_append_19 rfl
theorem e83_20 : wp S d 83 20 [a0, a1] (.ref r :: st) h Q = am_gfK h r 5 5 (fun w => wp S d 83 23 [a0, a1] (w :: st) h Q) := wp_gf hc83 dX5_append_20 ho83 fl5_119
theorem e83_23 : wp S d 83 23 [a0, a1] st h Q = wp S d 83 25 [a0, a1] (.int (nI 120) :: st) h Q := wp_p hc83 dX5_append_23 rfl
theorem e83_25 : wp S d 83 25 [a0, a1] (.int y :: .int x :: st) h Q = if x = y then wp S d 83 28 [a0, a1] st h Q else wp S d 83 35 [a0, a1] st h Q := wp_ne hc83 dX5_append_25 rfl
theorem e83_28 : wp S d 83 28 [some (.ref r), a1] st h Q = wp S d 83 29 [some (.ref r), a1] (.ref r :: st) h Q := wp_p hc83 dX5_append_28 rfl
theorem e83_29 : wp S d 83 29 [a0, a1] st h Q = wp S d 83 31 [a0, a1] (.int ((-4)) :: st) h Q := wp_p hc83 dX5_append_29 rfl
theorem e83_31 : wp S (d + 1) 83 31 [a0, a1] (.int x1 :: .ref r0 :: st) h Q = (am_w8 st ∧ am_rcv h 2 64 (.ref r0) = true ∧ wp S d 64 0 [some (.ref r0), some (.int x1)] [] h (am_kr S 2 (d + 1) 83 31 [a0, a1] st Q)) := wp_cV (.ref r0) [.int x1] hc83 dX5_append_31 ho83 cl5_72 (by decide) ns5_72 hst64 hnp64 hml64 hlsl64 rfl rfl rfl
theorem e83_34 : wp S d 83 34 ls [.int x] h Q = Q (.inl (some (.int x)), h) := wp_r hc83 dX5_append_34 rfl rfl ⟨x, _, rfl, rfl, rfl, rfl⟩
theorem e83_35 : wp S d 83 35 [some (.ref r), a1] st h Q = wp S d 83 36 [some (.ref r), a1] (.ref r :: st) h Q := wp_p hc83 dX5_append_35 rfl
theorem e83_36 : wp S d 83 36 [a0, a1] (.ref r :: st) h Q = am_gfK h r 5 4 (fun w => wp S d 83 39 [a0, a1] (w :: st) h Q) := wp_gf hc83 dX5_append_36 ho83 fl5_19
theorem e83_39 : wp S d 83 39 [some (.ref r), a1] st h Q = wp S d 83 40 [some (.ref r), a1] (.ref r :: st) h Q := wp_p hc83 dX5_append_39 rfl
theorem e83_40 : wp S d 83 40 [a0, a1] (.ref r :: st) h Q = am_gfK h r 5 5 (fun w => wp S d 83 43 [a0, a1] (w :: st) h Q) := wp_gf hc83 dX5_append_40 ho83 fl5_119
theorem e83_43 : wp S d 83 43 [a0, some (.int x)] st h Q = wp S d 83 44 [a0, some (.int x)] (.int x :: st) h Q := wp_p hc83 dX5_append_43 rfl
theorem e83_44 : wp S d 83 44 [a0, a1] (.int y :: .int x :: .ref r :: st) h Q = am_isK h r x y (fun h => wp S d 83 45 [a0, a1] st h Q) := wp_is hc83 dX5_append_44
theorem e83_45 : wp S d 83 45 [some (.ref r), a1] st h Q = wp S d 83 46 [some (.ref r), a1] (.ref r :: st) h Q := wp_p hc83 dX5_append_45 rfl
theorem e83_46 : wp S d 83 46 [a0, a1] (.ref r :: st) h Q = wp S d 83 47 [a0, a1] (.ref r :: .ref r :: st) h Q := wp_p hc83 dX5_append_46 rfl
theorem e83_46i : wp S d 83 46 [a0, a1] (.int x :: st) h Q = wp S d 83 47 [a0, a1] (.int x :: .int x :: st) h Q := wp_p hc83 dX5_append_46 rfl
theorem e83_47 : wp S d 83 47 [a0, a1] (.ref r :: st) h Q = am_gfK h r 5 5 (fun w => wp S d 83 50 [a0, a1] (w :: st) h Q) := wp_gf hc83 dX5_append_47 ho83 fl5_119
theorem e83_50 : wp S d 83 50 [a0, a1] st h Q = wp S d 83 51 [a0, a1] (.int (nI 1) :: st) h Q := wp_p hc83 dX5_append_50 rfl
theorem e83_51 : wp S d 83 51 [a0, a1] (.int y :: .int x :: st) h Q = wp S d 83 52 [a0, a1] (.int (x + y) :: st) h Q := wp_p hc83 dX5_append_51 rfl
theorem e83_52 : wp S d 83 52 [a0, a1] (w :: .ref r :: st) h Q = am_pfK 83 h r 5 5 false w (fun h => wp S d 83 55 [a0, a1] st h Q) := wp_pf hc83 dX5_append_52 ho83 fl5_119
theorem e83_55 : wp S d 83 55 [some (.ref r), a1] st h Q = wp S d 83 56 [some (.ref r), a1] (.ref r :: st) h Q := wp_p hc83 dX5_append_55 rfl
theorem e83_56 : wp S d 83 56 [a0, a1] (.ref r :: st) h Q = am_gfK h r 5 5 (fun w => wp S d 83 59 [a0, a1] (w :: st) h Q) := wp_gf hc83 dX5_append_56 ho83 fl5_119
theorem e83_59 : wp S d 83 59 ls [.int x] h Q = Q (.inl (some (.int x)), h) := wp_r hc83 dX5_append_59 rfl rfl ⟨x, _, rfl, rfl, rfl, rfl⟩
theorem e84_0 : wp S d 84 0 [some (.ref r), a1] st h Q = wp S d 84 1 [some (.ref r), a1] (.ref r :: st) h Q := wp_p hc84 dX5_clearText_0 rfl
theorem e84_1 : wp S d 84 1 [a0, a1] (.ref r :: st) h Q = am_gfK h r 5 5 (fun w => wp S d 84 4 [a0, a1] (w :: st) h Q) := wp_gf hc84 dX5_clearText_1 ho84 fl5_119
theorem e84_4 : wp S d 84 4 [a0, a1] (.int x :: st) h Q = wp S d 84 5 [a0, some (.int x)] st h Q := wp_p hc84 dX5_clearText_4 rfl
theorem e84_5 : wp S d 84 5 [some (.ref r), a1] st h Q = wp S d 84 6 [some (.ref r), a1] (.ref r :: st) h Q := wp_p hc84 dX5_clearText_5 rfl
theorem e84_6 : wp S d 84 6 [a0, a1] st h Q = wp S d 84 7 [a0, a1] (.int (nI 0) :: st) h Q := wp_p hc84 dX5_clearText_6 rfl
theorem e84_7 : wp S d 84 7 [a0, a1] (w :: .ref r :: st) h Q = am_pfK 84 h r 5 5 false w (fun h => wp S d 84 10 [a0, a1] st h Q) := wp_pf hc84 dX5_clearText_7 ho84 fl5_119
theorem e84_10 : wp S d 84 10 [a0, some (.int x)] st h Q = wp S d 84 11 [a0, some (.int x)] (.int x :: st) h Q := wp_p hc84 dX5_clearText_10 rfl
theorem e84_11 : wp S d 84 11 ls [.int x] h Q = Q (.inl (some (.int x)), h) := wp_r hc84 dX5_clearText_11 rfl rfl ⟨x, _, rfl, rfl, rfl, rfl⟩
theorem e85_0 : wp S d 85 0 [some (.ref r), a1] st h Q = wp S d 85 1 [some (.ref r), a1] (.ref r :: st) h Q := wp_p hc85 dX5_parse_0 rfl
theorem e85_1 : wp S d 85 1 [a0, a1] st h Q = wp S d 85 2 [a0, a1] (.int (nI 0) :: st) h Q := wp_p hc85 dX5_parse_1 rfl
theorem e85_2 : wp S d 85 2 [a0, a1] (w :: .ref r :: st) h Q = am_pfK 85 h r 5 10 false w (fun h => wp S d 85 5 [a0, a1] st h Q) := wp_pf hc85 dX5_parse_2 ho85 fl5_139
theorem e85_5 : wp S d 85 5 [some (.ref r), a1] st h Q = wp S d 85 6 [some (.ref r), a1] (.ref r :: st) h Q := wp_p hc85 dX5_parse_5 rfl
theorem e85_6 : wp S d 85 6 [a0, a1] st h Q = wp S d 85 7 [a0, a1] (.int (nI 0) :: st) h Q := wp_p hc85 dX5_parse_6 rfl
theorem e85_7 : wp S d 85 7 [a0, a1] (w :: .ref r :: st) h Q = am_pfK 85 h r 5 7 false w (fun h => wp S d 85 10 [a0, a1] st h Q) := wp_pf hc85 dX5_parse_7 ho85 fl5_151
theorem e85_10 : wp S d 85 10 [some (.ref r), a1] st h Q = wp S d 85 11 [some (.ref r), a1] (.ref r :: st) h Q := wp_p hc85 dX5_parse_10 rfl
theorem e85_11 : wp S d 85 11 [a0, a1] st h Q = wp S d 85 12 [a0, a1] (.int (nI 0) :: st) h Q := wp_p hc85 dX5_parse_11 rfl
theorem e85_12 : wp S d 85 12 [a0, a1] (w :: .ref r :: st) h Q = am_pfK 85 h r 5 9 false w (fun h => wp S d 85 15 [a0, a1] st h Q) := wp_pf hc85 dX5_parse_12 ho85 fl5_157
theorem e85_15 : wp S d 85 15 [some (.ref r), a1] st h Q = wp S d 85 16 [some (.ref r), a1] (.ref r :: st) h Q := wp_p hc85 dX5_parse_15 rfl
theorem e85_16 : wp S (d + 1) 85 16 [a0, a1] (.ref r0 :: st) h Q = (am_w8 st ∧ am_rcv h 2 86 (.ref r0) = true ∧ wp S d 86 0 [some (.ref r0), none, none, none] [] h (am_kr S 2 (d + 1) 85 16 [a0, a1] st Q)) := wp_cV (.ref r0) [] hc85 dX5_parse_16 ho85 cl5_164 (by decide) ns5_164 hst86 hnp86 hml86 hlsl86 rfl rfl rfl
theorem e85_19 : wp S d 85 19 [a0, a1] (.int x :: st) h Q = if x = 0 then wp S d 85 22 [a0, a1] st h Q else wp S d 85 30 [a0, a1] st h Q := wp_ne hc85 dX5_parse_19 rfl
theorem e85_22 : wp S d 85 22 [a0, a1] st h Q = wp S d 85 24 [a0, a1] (.int ((-10)) :: st) h Q := wp_p hc85 dX5_parse_22 rfl
theorem e85_24 : wp S d 85 24 [some (.ref r), a1] st h Q = wp S d 85 25 [some (.ref r), a1] (.ref r :: st) h Q := wp_p hc85 dX5_parse_24 rfl
theorem e85_25 : wp S d 85 25 [a0, a1] (.ref r :: st) h Q = am_gfK h r 5 10 (fun w => wp S d 85 28 [a0, a1] (w :: st) h Q) := wp_gf hc85 dX5_parse_25 ho85 fl5_139
theorem e85_28 : wp S d 85 28 [a0, a1] (.int y :: .int x :: st) h Q = wp S d 85 29 [a0, a1] (.int (x - y) :: st) h Q := wp_p hc85 dX5_parse_28 rfl
theorem e85_29 : wp S d 85 29 ls [.int x] h Q = Q (.inl (some (.int x)), h) := wp_r hc85 dX5_parse_29 rfl rfl ⟨x, _, rfl, rfl, rfl, rfl⟩
theorem e85_30 : wp S d 85 30 [some (.ref r), a1] st h Q = wp S d 85 31 [some (.ref r), a1] (.ref r :: st) h Q := wp_p hc85 dX5_parse_30 rfl
theorem e85_31 : wp S d 85 31 [a0, a1] (.ref r :: st) h Q = am_gfK h r 5 9 (fun w => wp S d 85 34 [a0, a1] (w :: st) h Q) := wp_gf hc85 dX5_parse_31 ho85 fl5_157
theorem e85_34 : wp S d 85 34 [a0, a1] (.int x :: st) h Q = if 0 < x then wp S d 85 15 [a0, a1] st h Q else wp S d 85 37 [a0, a1] st h Q := wp_gt hc85 dX5_parse_34 rfl
theorem e85_37 : wp S d 85 37 [some (.ref r), a1] st h Q = wp S d 85 38 [some (.ref r), a1] (.ref r :: st) h Q := wp_p hc85 dX5_parse_37 rfl
theorem e85_38 : wp S d 85 38 [a0, a1] (.ref r :: st) h Q = am_gfK h r 5 10 (fun w => wp S d 85 41 [a0, a1] (w :: st) h Q) := wp_gf hc85 dX5_parse_38 ho85 fl5_139
theorem e85_41 : wp S d 85 41 [some (.ref r), a1] st h Q = wp S d 85 42 [some (.ref r), a1] (.ref r :: st) h Q := wp_p hc85 dX5_parse_41 rfl
theorem e85_42 : wp S d 85 42 [a0, a1] (.ref r :: st) h Q = am_gfK h r 5 5 (fun w => wp S d 85 45 [a0, a1] (w :: st) h Q) := wp_gf hc85 dX5_parse_42 ho85 fl5_119
theorem e85_45 : wp S d 85 45 [a0, a1] (.int y :: .int x :: st) h Q = if y ≤ x then wp S d 85 56 [a0, a1] st h Q else wp S d 85 48 [a0, a1] st h Q := wp_ge hc85 dX5_parse_45 rfl
theorem e85_48 : wp S d 85 48 [a0, a1] st h Q = wp S d 85 50 [a0, a1] (.int ((-10)) :: st) h Q := wp_p hc85 dX5_parse_48 rfl
theorem e85_50 : wp S d 85 50 [some (.ref r), a1] st h Q = wp S d 85 51 [some (.ref r), a1] (.ref r :: st) h Q := wp_p hc85 dX5_parse_50 rfl
theorem e85_51 : wp S d 85 51 [a0, a1] (.ref r :: st) h Q = am_gfK h r 5 10 (fun w => wp S d 85 54 [a0, a1] (w :: st) h Q) := wp_gf hc85 dX5_parse_51 ho85 fl5_139
theorem e85_54 : wp S d 85 54 [a0, a1] (.int y :: .int x :: st) h Q = wp S d 85 55 [a0, a1] (.int (x - y) :: st) h Q := wp_p hc85 dX5_parse_54 rfl
theorem e85_55 : wp S d 85 55 ls [.int x] h Q = Q (.inl (some (.int x)), h) := wp_r hc85 dX5_parse_55 rfl rfl ⟨x, _, rfl, rfl, rfl, rfl⟩
theorem e85_56 : wp S d 85 56 [some (.ref r), a1] st h Q = wp S d 85 57 [some (.ref r), a1] (.ref r :: st) h Q := wp_p hc85 dX5_parse_56 rfl
theorem e85_57 : wp S (d + 1) 85 57 [a0, a1] (.ref r0 :: st) h Q = (am_w8 st ∧ am_rcv h 2 63 (.ref r0) = true ∧ wp S d 63 0 [some (.ref r0), none] [] h (am_kr S 2 (d + 1) 85 57 [a0, a1] st Q)) := wp_cV (.ref r0) [] hc85 dX5_parse_57 ho85 cl5_59 (by decide) ns5_59 hst63 hnp63 hml63 hlsl63 rfl rfl rfl
theorem e85_60 : wp S d 85 60 [a0, a1] st h Q = wp S d 85 61 [a0, a1] (.int (nI 0) :: st) h Q := wp_p hc85 dX5_parse_60 rfl
theorem e85_61 : wp S d 85 61 [a0, a1] (.int x :: st) h Q = wp S d 85 62 [a0, some (.int x)] st h Q := wp_p hc85 dX5_parse_61 rfl
theorem e85_62 : wp S d 85 62 [a0, some (.int x)] st h Q = wp S d 85 63 [a0, some (.int x)] (.int x :: st) h Q := wp_p hc85 dX5_parse_62 rfl
theorem e85_63 : wp S d 85 63 [some (.ref r), a1] st h Q = wp S d 85 64 [some (.ref r), a1] (.ref r :: st) h Q := wp_p hc85 dX5_parse_63 rfl
theorem e85_64 : wp S d 85 64 [a0, a1] (.ref r :: st) h Q = am_gfK h r 5 7 (fun w => wp S d 85 67 [a0, a1] (w :: st) h Q) := wp_gf hc85 dX5_parse_64 ho85 fl5_151
theorem e85_67 : wp S d 85 67 [a0, a1] (.int y :: .int x :: st) h Q = if y ≤ x then wp S d 85 92 [a0, a1] st h Q else wp S d 85 70 [a0, a1] st h Q := wp_ge hc85 dX5_parse_67 rfl
theorem e85_70 : wp S d 85 70 [some (.ref r), a1] st h Q = wp S d 85 71 [some (.ref r), a1] (.ref r :: st) h Q := wp_p hc85 dX5_parse_70 rfl
theorem e85_71 : wp S d 85 71 [a0, a1] (.ref r :: st) h Q = am_gfK h r 5 0 (fun w => wp S d 85 74 [a0, a1] (w :: st) h Q) := wp_gf hc85 dX5_parse_71 ho85 fl5_7
theorem e85_74 : wp S d 85 74 [a0, a1] st h Q = wp S d 85 77 [a0, a1] (.int (nI 149) :: st) h Q := wp_p hc85 dX5_parse_74 rfl
theorem e85_77 : wp S d 85 77 [a0, some (.int x)] st h Q = wp S d 85 78 [a0, some (.int x)] (.int x :: st) h Q := wp_p hc85 dX5_parse_77 rfl
theorem e85_78 : wp S d 85 78 [a0, a1] (.int y :: .int x :: st) h Q = wp S d 85 79 [a0, a1] (.int (x + y) :: st) h Q := wp_p hc85 dX5_parse_78 rfl
theorem e85_79 : wp S d 85 79 [some (.ref r), a1] st h Q = wp S d 85 80 [some (.ref r), a1] (.ref r :: st) h Q := wp_p hc85 dX5_parse_79 rfl
theorem e85_80 : wp S d 85 80 [a0, a1] (.ref r :: st) h Q = am_gfK h r 5 6 (fun w => wp S d 85 83 [a0, a1] (w :: st) h Q) := wp_gf hc85 dX5_parse_80 ho85 fl5_22
theorem e85_83 : wp S d 85 83 [a0, some (.int x)] st h Q = wp S d 85 84 [a0, some (.int x)] (.int x :: st) h Q := wp_p hc85 dX5_parse_83 rfl
theorem e85_84 : wp S d 85 84 [a0, a1] (.int x :: .ref r :: st) h Q = am_iaK h r x (fun z => wp S d 85 85 [a0, a1] (.int z :: st) h Q) := wp_ia hc85 dX5_parse_84
theorem e85_85 : wp S d 85 85 [a0, a1] (.int y :: .int x :: .ref r :: st) h Q = am_isK h r x y (fun h => wp S d 85 86 [a0, a1] st h Q) := wp_is hc85 dX5_parse_85
theorem e85_86 : wp S d 85 86 [a0, some (.int x)] st h Q = wp S d 85 89 [a0, some (.int (x + nI 1))] st h Q := wp_p hc85 dX5_parse_86 rfl
theorem e85_89 : wp S d 85 89 [a0, a1] st h Q = wp S d 85 62 [a0, a1] st h Q := wp_p hc85 dX5_parse_89 rfl
theorem e85_92 : wp S d 85 92 [some (.ref r), a1] st h Q = wp S d 85 93 [some (.ref r), a1] (.ref r :: st) h Q := wp_p hc85 dX5_parse_92 rfl
theorem e85_93 : wp S d 85 93 [a0, a1] (.ref r :: st) h Q = am_gfK h r 5 0 (fun w => wp S d 85 96 [a0, a1] (w :: st) h Q) := wp_gf hc85 dX5_parse_93 ho85 fl5_7
theorem e85_96 : wp S d 85 96 [a0, a1] st h Q = wp S d 85 99 [a0, a1] (.int (nI 148) :: st) h Q := wp_p hc85 dX5_parse_96 rfl
theorem e85_99 : wp S d 85 99 [some (.ref r), a1] st h Q = wp S d 85 100 [some (.ref r), a1] (.ref r :: st) h Q := wp_p hc85 dX5_parse_99 rfl
theorem e85_100 : wp S d 85 100 [a0, a1] (.ref r :: st) h Q = am_gfK h r 5 7 (fun w => wp S d 85 103 [a0, a1] (w :: st) h Q) := wp_gf hc85 dX5_parse_100 ho85 fl5_151
theorem e85_103 : wp S d 85 103 [a0, a1] (.int y :: .int x :: .ref r :: st) h Q = am_isK h r x y (fun h => wp S d 85 104 [a0, a1] st h Q) := wp_is hc85 dX5_parse_103
theorem e85_104 : wp S d 85 104 [some (.ref r), a1] st h Q = wp S d 85 105 [some (.ref r), a1] (.ref r :: st) h Q := wp_p hc85 dX5_parse_104 rfl
theorem e85_105 : wp S d 85 105 [a0, a1] (.ref r :: st) h Q = am_gfK h r 5 7 (fun w => wp S d 85 108 [a0, a1] (w :: st) h Q) := wp_gf hc85 dX5_parse_105 ho85 fl5_151
theorem e85_108 : wp S d 85 108 ls [.int x] h Q = Q (.inl (some (.int x)), h) := wp_r hc85 dX5_parse_108 rfl rfl ⟨x, _, rfl, rfl, rfl, rfl⟩
theorem e86_0 : wp S d 86 0 [some (.ref r), a1, a2, a3] st h Q = wp S d 86 1 [some (.ref r), a1, a2, a3] (.ref r :: st) h Q := wp_p hc86 dX5_readsNode_0 rfl
theorem e86_1 : wp S d 86 1 [some (.ref r), a1, a2, a3] st h Q = wp S d 86 2 [some (.ref r), a1, a2, a3] (.ref r :: st) h Q := wp_p hc86 dX5_readsNode_1 rfl
theorem e86_2 : wp S d 86 2 [a0, a1, a2, a3] (.ref r :: st) h Q = am_gfK h r 5 10 (fun w => wp S d 86 5 [a0, a1, a2, a3] (w :: st) h Q) := wp_gf hc86 dX5_readsNode_2 ho86 fl5_139
theorem e86_5 : wp S (d + 1) 86 5 [a0, a1, a2, a3] (.int x1 :: .ref r0 :: st) h Q = (am_w8 st ∧ am_rcv h 2 87 (.ref r0) = true ∧ wp S d 87 0 [some (.ref r0), some (.int x1)] [] h (am_kr S 2 (d + 1) 86 5 [a0, a1, a2, a3] st Q)) := wp_cV (.ref r0) [.int x1] hc86 dX5_readsNode_5 ho86 cl5_142 (by decide) ns5_142 hst87 hnp87 hml87 hlsl87 rfl rfl rfl
theorem e86_8 : wp S d 86 8 [a0, a1, a2, a3] (.int x :: st) h Q = wp S d 86 9 [a0, some (.int x), a2, a3] st h Q := wp_p hc86 dX5_readsNode_8 rfl
theorem e86_9 : wp S d 86 9 [a0, some (.int x), a2, a3] st h Q = wp S d 86 10 [a0, some (.int x), a2, a3] (.int x :: st) h Q := wp_p hc86 dX5_readsNode_9 rfl
theorem e86_10 : wp S (d + 1) 86 10 [a0, a1, a2, a3] (.int x1 :: st) h Q = (am_w8 st ∧ wp S d 88 0 [some (.int x1)] [] h (am_kr S 0 (d + 1) 86 10 [a0, a1, a2, a3] st Q)) := wp_cS [.int x1] hc86 dX5_readsNode_10 ho86 cl5_145 (by decide) ns5_145 hst88 hnp88 hml88 hlsl88 rfl rfl rfl
theorem e86_13 : wp S d 86 13 [a0, a1, a2, a3] (.int x :: st) h Q = if x = 0 then wp S d 86 28 [a0, a1, a2, a3] st h Q else wp S d 86 16 [a0, a1, a2, a3] st h Q := wp_eq hc86 dX5_readsNode_13 rfl
theorem e86_16 : wp S d 86 16 [a0, a1, a2, a3] st h Q = wp S d 86 17 [a0, a1, a2, a3] (.int (nI 0) :: st) h Q := wp_p hc86 dX5_readsNode_16 rfl
theorem e86_17 : wp S d 86 17 [a0, some (.int x), a2, a3] st h Q = wp S d 86 18 [a0, some (.int x), a2, a3] (.int x :: st) h Q := wp_p hc86 dX5_readsNode_17 rfl
theorem e86_18 : wp S d 86 18 [a0, a1, a2, a3] st h Q = wp S d 86 20 [a0, a1, a2, a3] (.int (nI 48) :: st) h Q := wp_p hc86 dX5_readsNode_18 rfl
theorem e86_20 : wp S d 86 20 [a0, a1, a2, a3] (.int y :: .int x :: st) h Q = wp S d 86 21 [a0, a1, a2, a3] (.int (x - y) :: st) h Q := wp_p hc86 dX5_readsNode_20 rfl
theorem e86_21 : wp S d 86 21 [a0, a1, a2, a3] st h Q = wp S d 86 22 [a0, a1, a2, a3] (.int (nI 0) :: st) h Q := wp_p hc86 dX5_readsNode_21 rfl
theorem e86_22 : wp S (d + 1) 86 22 [a0, a1, a2, a3] (.int x3 :: .int x2 :: .int x1 :: st) h Q = (am_w8 st ∧ wp S d 89 0 [some (.int x1), some (.int x2), some (.int x3)] [] h (am_kr S 0 (d + 1) 86 22 [a0, a1, a2, a3] st Q)) := wp_cS [.int x1, .int x2, .int x3] hc86 dX5_readsNode_22 ho86 cl5_126 (by decide) ns5_126 hst89 hnp89 hml89 hlsl89 rfl rfl rfl
theorem e86_25 : wp S d 86 25 [a0, a1, a2, a3] st h Q = wp S d 86 33 [a0, a1, a2, a3] st h Q := wp_p hc86 dX5_readsNode_25 rfl
theorem e86_28 : wp S d 86 28 [some (.ref r), a1, a2, a3] st h Q = wp S d 86 29 [some (.ref r), a1, a2, a3] (.ref r :: st) h Q := wp_p hc86 dX5_readsNode_28 rfl
theorem e86_29 : wp S d 86 29 [a0, some (.int x), a2, a3] st h Q = wp S d 86 30 [a0, some (.int x), a2, a3] (.int x :: st) h Q := wp_p hc86 dX5_readsNode_29 rfl
theorem e86_30 : wp S (d + 1) 86 30 [a0, a1, a2, a3] (.int x1 :: .ref r0 :: st) h Q = (am_w8 st ∧ am_rcv h 2 90 (.ref r0) = true ∧ wp S d 90 0 [some (.ref r0), some (.int x1)] [] h (am_kr S 2 (d + 1) 86 30 [a0, a1, a2, a3] st Q)) := wp_cV (.ref r0) [.int x1] hc86 dX5_readsNode_30 ho86 cl5_148 (by decide) ns5_148 hst90 hnp90 hml90 hlsl90 rfl rfl rfl
theorem e86_33 : wp S d 86 33 [a0, a1, a2, a3] (.int x :: st) h Q = wp S d 86 34 [a0, a1, some (.int x), a3] st h Q := wp_p hc86 dX5_readsNode_33 rfl
theorem e86_34 : wp S d 86 34 [a0, a1, some (.int x), a3] st h Q = wp S d 86 35 [a0, a1, some (.int x), a3] (.int x :: st) h Q := wp_p hc86 dX5_readsNode_34 rfl
theorem e86_35 : wp S d 86 35 [a0, a1, a2, a3] st h Q = wp S d 86 36 [a0, a1, a2, a3] (.int ((-1)) :: st) h Q := wp_p hc86 dX5_readsNode_35 rfl
theorem e86_36 : wp S d 86 36 [a0, a1, a2, a3] (.int y :: .int x :: st) h Q = if x = y then wp S d 86 48 [a0, a1, a2, a3] st h Q else wp S d 86 39 [a0, a1, a2, a3] st h Q := wp_eq hc86 dX5_readsNode_36 rfl
theorem e86_39 : wp S d 86 39 [some (.ref r), a1, a2, a3] st h Q = wp S d 86 40 [some (.ref r), a1, a2, a3] (.ref r :: st) h Q := wp_p hc86 dX5_readsNode_39 rfl
theorem e86_40 : wp S d 86 40 [a0, a1, a2, a3] (.ref r :: st) h Q = am_gfK h r 5 7 (fun w => wp S d 86 43 [a0, a1, a2, a3] (w :: st) h Q) := wp_gf hc86 dX5_readsNode_40 ho86 fl5_151
theorem e86_43 : wp S d 86 43 [a0, a1, a2, a3] st h Q = wp S d 86 45 [a0, a1, a2, a3] (.int (nI 30) :: st) h Q := wp_p hc86 dX5_readsNode_43 rfl
theorem e86_45 : wp S d 86 45 [a0, a1, a2, a3] (.int y :: .int x :: st) h Q = if x = y then wp S d 86 48 [a0, a1, a2, a3] st h Q else wp S d 86 50 [a0, a1, a2, a3] st h Q := wp_ne hc86 dX5_readsNode_45 rfl
theorem e86_48 : wp S d 86 48 [a0, a1, a2, a3] st h Q = wp S d 86 49 [a0, a1, a2, a3] (.int (nI 0) :: st) h Q := wp_p hc86 dX5_readsNode_48 rfl
theorem e86_49 : wp S d 86 49 ls [.int x] h Q = (narrow .boolean (.int x) = .int x ∧ Q (.inl (some (.int x)), h)) := wp_rI hc86 dX5_readsNode_49 rfl
theorem e86_50 : wp S d 86 50 [some (.ref r), a1, a2, a3] st h Q = wp S d 86 51 [some (.ref r), a1, a2, a3] (.ref r :: st) h Q := wp_p hc86 dX5_readsNode_50 rfl
theorem e86_51 : wp S d 86 51 [a0, a1, a2, a3] (.ref r :: st) h Q = wp S d 86 52 [a0, a1, a2, a3] (.ref r :: .ref r :: st) h Q := wp_p hc86 dX5_readsNode_51 rfl
theorem e86_51i : wp S d 86 51 [a0, a1, a2, a3] (.int x :: st) h Q = wp S d 86 52 [a0, a1, a2, a3] (.int x :: .int x :: st) h Q := wp_p hc86 dX5_readsNode_51 rfl
theorem e86_52 : wp S d 86 52 [a0, a1, a2, a3] (.ref r :: st) h Q = am_gfK h r 5 10 (fun w => wp S d 86 55 [a0, a1, a2, a3] (w :: st) h Q) := wp_gf hc86 dX5_readsNode_52 ho86 fl5_139
theorem e86_55 : wp S d 86 55 [a0, a1, a2, a3] st h Q = wp S d 86 56 [a0, a1, a2, a3] (.int (nI 1) :: st) h Q := wp_p hc86 dX5_readsNode_55 rfl
theorem e86_56 : wp S d 86 56 [a0, a1, a2, a3] (.int y :: .int x :: st) h Q = wp S d 86 57 [a0, a1, a2, a3] (.int (x + y) :: st) h Q := wp_p hc86 dX5_readsNode_56 rfl
theorem e86_57 : wp S d 86 57 [a0, a1, a2, a3] (w :: .ref r :: st) h Q = am_pfK 86 h r 5 10 false w (fun h => wp S d 86 60 [a0, a1, a2, a3] st h Q) := wp_pf hc86 dX5_readsNode_57 ho86 fl5_139
theorem e86_60 : wp S d 86 60 [a0, a1, a2, a3] st h Q = wp S d 86 61 [a0, a1, a2, a3] (.int (nI 0) :: st) h Q := wp_p hc86 dX5_readsNode_60 rfl
theorem e86_61 : wp S d 86 61 [a0, a1, a2, a3] (.int x :: st) h Q = wp S d 86 62 [a0, a1, a2, some (.int x)] st h Q := wp_p hc86 dX5_readsNode_61 rfl
theorem e86_62 : wp S d 86 62 [a0, some (.int x), a2, a3] st h Q = wp S d 86 63 [a0, some (.int x), a2, a3] (.int x :: st) h Q := wp_p hc86 dX5_readsNode_62 rfl
theorem e86_63 : wp S (d + 1) 86 63 [a0, a1, a2, a3] (.int x1 :: st) h Q = (am_w8 st ∧ wp S d 88 0 [some (.int x1)] [] h (am_kr S 0 (d + 1) 86 63 [a0, a1, a2, a3] st Q)) := wp_cS [.int x1] hc86 dX5_readsNode_63 ho86 cl5_145 (by decide) ns5_145 hst88 hnp88 hml88 hlsl88 rfl rfl rfl
theorem e86_66 : wp S d 86 66 [a0, a1, a2, a3] (.int x :: st) h Q = if x = 0 then wp S d 86 118 [a0, a1, a2, a3] st h Q else wp S d 86 69 [a0, a1, a2, a3] st h Q := wp_eq hc86 dX5_readsNode_66 rfl
theorem e86_69 : wp S d 86 69 [some (.ref r), a1, a2, a3] st h Q = wp S d 86 70 [some (.ref r), a1, a2, a3] (.ref r :: st) h Q := wp_p hc86 dX5_readsNode_69 rfl
theorem e86_70 : wp S d 86 70 [some (.ref r), a1, a2, a3] st h Q = wp S d 86 71 [some (.ref r), a1, a2, a3] (.ref r :: st) h Q := wp_p hc86 dX5_readsNode_70 rfl
theorem e86_71 : wp S d 86 71 [a0, a1, a2, a3] (.ref r :: st) h Q = am_gfK h r 5 10 (fun w => wp S d 86 74 [a0, a1, a2, a3] (w :: st) h Q) := wp_gf hc86 dX5_readsNode_71 ho86 fl5_139
theorem e86_74 : wp S (d + 1) 86 74 [a0, a1, a2, a3] (.int x1 :: .ref r0 :: st) h Q = (am_w8 st ∧ am_rcv h 2 87 (.ref r0) = true ∧ wp S d 87 0 [some (.ref r0), some (.int x1)] [] h (am_kr S 2 (d + 1) 86 74 [a0, a1, a2, a3] st Q)) := wp_cV (.ref r0) [.int x1] hc86 dX5_readsNode_74 ho86 cl5_142 (by decide) ns5_142 hst87 hnp87 hml87 hlsl87 rfl rfl rfl
theorem e86_77 : wp S (d + 1) 86 77 [a0, a1, a2, a3] (.int x1 :: st) h Q = (am_w8 st ∧ wp S d 88 0 [some (.int x1)] [] h (am_kr S 0 (d + 1) 86 77 [a0, a1, a2, a3] st Q)) := wp_cS [.int x1] hc86 dX5_readsNode_77 ho86 cl5_145 (by decide) ns5_145 hst88 hnp88 hml88 hlsl88 rfl rfl rfl
theorem e86_80 : wp S d 86 80 [a0, a1, a2, a3] (.int x :: st) h Q = if x = 0 then wp S d 86 118 [a0, a1, a2, a3] st h Q else wp S d 86 83 [a0, a1, a2, a3] st h Q := wp_eq hc86 dX5_readsNode_80 rfl
theorem e86_83 : wp S d 86 83 [a0, a1, a2, a3] st h Q = wp S d 86 84 [a0, a1, a2, a3] (.int (nI 0) :: st) h Q := wp_p hc86 dX5_readsNode_83 rfl
theorem e86_84 : wp S d 86 84 [a0, a1, a2, a3] st h Q = wp S d 86 86 [a0, a1, a2, a3] (.int (nI 10) :: st) h Q := wp_p hc86 dX5_readsNode_84 rfl
theorem e86_86 : wp S d 86 86 [a0, some (.int x), a2, a3] st h Q = wp S d 86 87 [a0, some (.int x), a2, a3] (.int x :: st) h Q := wp_p hc86 dX5_readsNode_86 rfl
theorem e86_87 : wp S d 86 87 [a0, a1, a2, a3] st h Q = wp S d 86 89 [a0, a1, a2, a3] (.int (nI 48) :: st) h Q := wp_p hc86 dX5_readsNode_87 rfl
theorem e86_89 : wp S d 86 89 [a0, a1, a2, a3] (.int y :: .int x :: st) h Q = wp S d 86 90 [a0, a1, a2, a3] (.int (x - y) :: st) h Q := wp_p hc86 dX5_readsNode_89 rfl
theorem e86_90 : wp S d 86 90 [a0, a1, a2, a3] (.int y :: .int x :: st) h Q = wp S d 86 91 [a0, a1, a2, a3] (.int (x * y) :: st) h Q := wp_p hc86 dX5_readsNode_90 rfl
theorem e86_91 : wp S d 86 91 [some (.ref r), a1, a2, a3] st h Q = wp S d 86 92 [some (.ref r), a1, a2, a3] (.ref r :: st) h Q := wp_p hc86 dX5_readsNode_91 rfl
theorem e86_92 : wp S d 86 92 [some (.ref r), a1, a2, a3] st h Q = wp S d 86 93 [some (.ref r), a1, a2, a3] (.ref r :: st) h Q := wp_p hc86 dX5_readsNode_92 rfl
theorem e86_93 : wp S d 86 93 [a0, a1, a2, a3] (.ref r :: st) h Q = am_gfK h r 5 10 (fun w => wp S d 86 96 [a0, a1, a2, a3] (w :: st) h Q) := wp_gf hc86 dX5_readsNode_93 ho86 fl5_139
theorem e86_96 : wp S (d + 1) 86 96 [a0, a1, a2, a3] (.int x1 :: .ref r0 :: st) h Q = (am_w8 st ∧ am_rcv h 2 87 (.ref r0) = true ∧ wp S d 87 0 [some (.ref r0), some (.int x1)] [] h (am_kr S 2 (d + 1) 86 96 [a0, a1, a2, a3] st Q)) := wp_cV (.ref r0) [.int x1] hc86 dX5_readsNode_96 ho86 cl5_142 (by decide) ns5_142 hst87 hnp87 hml87 hlsl87 rfl rfl rfl
theorem e86_99 : wp S d 86 99 [a0, a1, a2, a3] (.int y :: .int x :: st) h Q = wp S d 86 100 [a0, a1, a2, a3] (.int (x + y) :: st) h Q := wp_p hc86 dX5_readsNode_99 rfl
theorem e86_100 : wp S d 86 100 [a0, a1, a2, a3] st h Q = wp S d 86 102 [a0, a1, a2, a3] (.int (nI 48) :: st) h Q := wp_p hc86 dX5_readsNode_100 rfl
theorem e86_102 : wp S d 86 102 [a0, a1, a2, a3] (.int y :: .int x :: st) h Q = wp S d 86 103 [a0, a1, a2, a3] (.int (x - y) :: st) h Q := wp_p hc86 dX5_readsNode_102 rfl
theorem e86_103 : wp S d 86 103 [a0, a1, a2, a3] st h Q = wp S d 86 104 [a0, a1, a2, a3] (.int (nI 0) :: st) h Q := wp_p hc86 dX5_readsNode_103 rfl
theorem e86_104 : wp S (d + 1) 86 104 [a0, a1, a2, a3] (.int x3 :: .int x2 :: .int x1 :: st) h Q = (am_w8 st ∧ wp S d 89 0 [some (.int x1), some (.int x2), some (.int x3)] [] h (am_kr S 0 (d + 1) 86 104 [a0, a1, a2, a3] st Q)) := wp_cS [.int x1, .int x2, .int x3] hc86 dX5_readsNode_104 ho86 cl5_126 (by decide) ns5_126 hst89 hnp89 hml89 hlsl89 rfl rfl rfl
theorem e86_107 : wp S d 86 107 [a0, a1, a2, a3] (.int x :: st) h Q = wp S d 86 108 [a0, a1, some (.int x), a3] st h Q := wp_p hc86 dX5_readsNode_107 rfl
theorem e86_108 : wp S d 86 108 [some (.ref r), a1, a2, a3] st h Q = wp S d 86 109 [some (.ref r), a1, a2, a3] (.ref r :: st) h Q := wp_p hc86 dX5_readsNode_108 rfl
theorem e86_109 : wp S d 86 109 [a0, a1, a2, a3] (.ref r :: st) h Q = wp S d 86 110 [a0, a1, a2, a3] (.ref r :: .ref r :: st) h Q := wp_p hc86 dX5_readsNode_109 rfl
theorem e86_109i : wp S d 86 109 [a0, a1, a2, a3] (.int x :: st) h Q = wp S d 86 110 [a0, a1, a2, a3] (.int x :: .int x :: st) h Q := wp_p hc86 dX5_readsNode_109 rfl
theorem e86_110 : wp S d 86 110 [a0, a1, a2, a3] (.ref r :: st) h Q = am_gfK h r 5 10 (fun w => wp S d 86 113 [a0, a1, a2, a3] (w :: st) h Q) := wp_gf hc86 dX5_readsNode_110 ho86 fl5_139
theorem e86_113 : wp S d 86 113 [a0, a1, a2, a3] st h Q = wp S d 86 114 [a0, a1, a2, a3] (.int (nI 1) :: st) h Q := wp_p hc86 dX5_readsNode_113 rfl
theorem e86_114 : wp S d 86 114 [a0, a1, a2, a3] (.int y :: .int x :: st) h Q = wp S d 86 115 [a0, a1, a2, a3] (.int (x + y) :: st) h Q := wp_p hc86 dX5_readsNode_114 rfl
theorem e86_115 : wp S d 86 115 [a0, a1, a2, a3] (w :: .ref r :: st) h Q = am_pfK 86 h r 5 10 false w (fun h => wp S d 86 118 [a0, a1, a2, a3] st h Q) := wp_pf hc86 dX5_readsNode_115 ho86 fl5_139
theorem e86_118 : wp S d 86 118 [a0, a1, some (.int x), a3] st h Q = wp S d 86 119 [a0, a1, some (.int x), a3] (.int x :: st) h Q := wp_p hc86 dX5_readsNode_118 rfl
theorem e86_119 : wp S (d + 1) 86 119 [a0, a1, a2, a3] (.int x1 :: st) h Q = (am_w8 st ∧ wp S d 91 0 [some (.int x1)] [] h (am_kr S 0 (d + 1) 86 119 [a0, a1, a2, a3] st Q)) := wp_cS [.int x1] hc86 dX5_readsNode_119 ho86 cl5_111 (by decide) ns5_111 hst91 hnp91 hml91 hlsl91 rfl rfl rfl
theorem e86_122 : wp S d 86 122 [a0, a1, a2, a3] st h Q = wp S d 86 123 [a0, a1, a2, a3] (.int (nI 2) :: st) h Q := wp_p hc86 dX5_readsNode_122 rfl
theorem e86_123 : wp S d 86 123 [a0, a1, a2, a3] (.int y :: .int x :: st) h Q = if x ≤ y then wp S d 86 164 [a0, a1, a2, a3] st h Q else wp S d 86 126 [a0, a1, a2, a3] st h Q := wp_le hc86 dX5_readsNode_123 rfl
theorem e86_126 : wp S d 86 126 [some (.ref r), a1, a2, a3] st h Q = wp S d 86 127 [some (.ref r), a1, a2, a3] (.ref r :: st) h Q := wp_p hc86 dX5_readsNode_126 rfl
theorem e86_127 : wp S d 86 127 [a0, a1, a2, a3] (.ref r :: st) h Q = am_gfK h r 5 0 (fun w => wp S d 86 130 [a0, a1, a2, a3] (w :: st) h Q) := wp_gf hc86 dX5_readsNode_127 ho86 fl5_7
theorem e86_130 : wp S d 86 130 [some (.ref r), a1, a2, a3] st h Q = wp S d 86 131 [some (.ref r), a1, a2, a3] (.ref r :: st) h Q := wp_p hc86 dX5_readsNode_130 rfl
theorem e86_131 : wp S d 86 131 [a0, a1, some (.int x), a3] st h Q = wp S d 86 132 [a0, a1, some (.int x), a3] (.int x :: st) h Q := wp_p hc86 dX5_readsNode_131 rfl
theorem e86_132 : wp S (d + 1) 86 132 [a0, a1, a2, a3] (.int x1 :: .ref r0 :: st) h Q = (am_w8 st ∧ am_rcv h 2 92 (.ref r0) = true ∧ wp S d 92 0 [some (.ref r0), some (.int x1)] [] h (am_kr S 2 (d + 1) 86 132 [a0, a1, a2, a3] st Q)) := wp_cV (.ref r0) [.int x1] hc86 dX5_readsNode_132 ho86 cl5_154 (by decide) ns5_154 hst92 hnp92 hml92 hlsl92 rfl rfl rfl
theorem e86_135 : wp S d 86 135 [a0, a1, a2, a3] st h Q = wp S d 86 136 [a0, a1, a2, a3] (.int (nI 0) :: st) h Q := wp_p hc86 dX5_readsNode_135 rfl
theorem e86_136 : wp S d 86 136 [a0, a1, a2, a3] (.int y :: .int x :: st) h Q = wp S d 86 137 [a0, a1, a2, a3] (.int (x + y) :: st) h Q := wp_p hc86 dX5_readsNode_136 rfl
theorem e86_137 : wp S d 86 137 [a0, a1, a2, a3] (.int x :: .ref r :: st) h Q = am_iaK h r x (fun z => wp S d 86 138 [a0, a1, a2, a3] (.int z :: st) h Q) := wp_ia hc86 dX5_readsNode_137
theorem e86_138 : wp S d 86 138 [a0, a1, a2, a3] (.int x :: st) h Q = wp S d 86 139 [a0, a1, a2, some (.int x)] st h Q := wp_p hc86 dX5_readsNode_138 rfl
theorem e86_139 : wp S d 86 139 [some (.ref r), a1, a2, a3] st h Q = wp S d 86 140 [some (.ref r), a1, a2, a3] (.ref r :: st) h Q := wp_p hc86 dX5_readsNode_139 rfl
theorem e86_140 : wp S d 86 140 [some (.ref r), a1, a2, a3] st h Q = wp S d 86 141 [some (.ref r), a1, a2, a3] (.ref r :: st) h Q := wp_p hc86 dX5_readsNode_140 rfl
theorem e86_141 : wp S d 86 141 [a0, a1, a2, a3] (.ref r :: st) h Q = am_gfK h r 5 10 (fun w => wp S d 86 144 [a0, a1, a2, a3] (w :: st) h Q) := wp_gf hc86 dX5_readsNode_141 ho86 fl5_139
theorem e86_144 : wp S (d + 1) 86 144 [a0, a1, a2, a3] (.int x1 :: .ref r0 :: st) h Q = (am_w8 st ∧ am_rcv h 2 87 (.ref r0) = true ∧ wp S d 87 0 [some (.ref r0), some (.int x1)] [] h (am_kr S 2 (d + 1) 86 144 [a0, a1, a2, a3] st Q)) := wp_cV (.ref r0) [.int x1] hc86 dX5_readsNode_144 ho86 cl5_142 (by decide) ns5_142 hst87 hnp87 hml87 hlsl87 rfl rfl rfl
theorem e86_147 : wp S d 86 147 [a0, a1, a2, a3] st h Q = wp S d 86 149 [a0, a1, a2, a3] (.int (nI 40) :: st) h Q := wp_p hc86 dX5_readsNode_147 rfl
theorem e86_149 : wp S d 86 149 [a0, a1, a2, a3] (.int y :: .int x :: st) h Q = if x = y then wp S d 86 154 [a0, a1, a2, a3] st h Q else wp S d 86 152 [a0, a1, a2, a3] st h Q := wp_eq hc86 dX5_readsNode_149 rfl
theorem e86_152 : wp S d 86 152 [a0, a1, a2, a3] st h Q = wp S d 86 153 [a0, a1, a2, a3] (.int (nI 0) :: st) h Q := wp_p hc86 dX5_readsNode_152 rfl
theorem e86_153 : wp S d 86 153 ls [.int x] h Q = (narrow .boolean (.int x) = .int x ∧ Q (.inl (some (.int x)), h)) := wp_rI hc86 dX5_readsNode_153 rfl
theorem e86_154 : wp S d 86 154 [some (.ref r), a1, a2, a3] st h Q = wp S d 86 155 [some (.ref r), a1, a2, a3] (.ref r :: st) h Q := wp_p hc86 dX5_readsNode_154 rfl
theorem e86_155 : wp S d 86 155 [a0, a1, a2, a3] (.ref r :: st) h Q = wp S d 86 156 [a0, a1, a2, a3] (.ref r :: .ref r :: st) h Q := wp_p hc86 dX5_readsNode_155 rfl
theorem e86_155i : wp S d 86 155 [a0, a1, a2, a3] (.int x :: st) h Q = wp S d 86 156 [a0, a1, a2, a3] (.int x :: .int x :: st) h Q := wp_p hc86 dX5_readsNode_155 rfl
theorem e86_156 : wp S d 86 156 [a0, a1, a2, a3] (.ref r :: st) h Q = am_gfK h r 5 10 (fun w => wp S d 86 159 [a0, a1, a2, a3] (w :: st) h Q) := wp_gf hc86 dX5_readsNode_156 ho86 fl5_139
theorem e86_159 : wp S d 86 159 [a0, a1, a2, a3] st h Q = wp S d 86 160 [a0, a1, a2, a3] (.int (nI 1) :: st) h Q := wp_p hc86 dX5_readsNode_159 rfl
theorem e86_160 : wp S d 86 160 [a0, a1, a2, a3] (.int y :: .int x :: st) h Q = wp S d 86 161 [a0, a1, a2, a3] (.int (x + y) :: st) h Q := wp_p hc86 dX5_readsNode_160 rfl
theorem e86_161 : wp S d 86 161 [a0, a1, a2, a3] (w :: .ref r :: st) h Q = am_pfK 86 h r 5 10 false w (fun h => wp S d 86 164 [a0, a1, a2, a3] st h Q) := wp_pf hc86 dX5_readsNode_161 ho86 fl5_139
theorem e86_164 : wp S d 86 164 [some (.ref r), a1, a2, a3] st h Q = wp S d 86 165 [some (.ref r), a1, a2, a3] (.ref r :: st) h Q := wp_p hc86 dX5_readsNode_164 rfl
theorem e86_165 : wp S d 86 165 [a0, a1, a2, a3] (.ref r :: st) h Q = am_gfK h r 5 6 (fun w => wp S d 86 168 [a0, a1, a2, a3] (w :: st) h Q) := wp_gf hc86 dX5_readsNode_165 ho86 fl5_22
theorem e86_168 : wp S d 86 168 [some (.ref r), a1, a2, a3] st h Q = wp S d 86 169 [some (.ref r), a1, a2, a3] (.ref r :: st) h Q := wp_p hc86 dX5_readsNode_168 rfl
theorem e86_169 : wp S d 86 169 [a0, a1, a2, a3] (.ref r :: st) h Q = am_gfK h r 5 7 (fun w => wp S d 86 172 [a0, a1, a2, a3] (w :: st) h Q) := wp_gf hc86 dX5_readsNode_169 ho86 fl5_151
theorem e86_172 : wp S d 86 172 [a0, a1, some (.int x), a3] st h Q = wp S d 86 173 [a0, a1, some (.int x), a3] (.int x :: st) h Q := wp_p hc86 dX5_readsNode_172 rfl
theorem e86_173 : wp S d 86 173 [a0, a1, a2, some (.int x)] st h Q = wp S d 86 174 [a0, a1, a2, some (.int x)] (.int x :: st) h Q := wp_p hc86 dX5_readsNode_173 rfl
theorem e86_174 : wp S d 86 174 [a0, a1, a2, a3] (.int y :: .int x :: st) h Q = wp S d 86 175 [a0, a1, a2, a3] (.int (x + y) :: st) h Q := wp_p hc86 dX5_readsNode_174 rfl
theorem e86_175 : wp S d 86 175 [a0, a1, a2, a3] (.int y :: .int x :: .ref r :: st) h Q = am_isK h r x y (fun h => wp S d 86 176 [a0, a1, a2, a3] st h Q) := wp_is hc86 dX5_readsNode_175
theorem e86_176 : wp S d 86 176 [some (.ref r), a1, a2, a3] st h Q = wp S d 86 177 [some (.ref r), a1, a2, a3] (.ref r :: st) h Q := wp_p hc86 dX5_readsNode_176 rfl
theorem e86_177 : wp S d 86 177 [a0, a1, a2, a3] (.ref r :: st) h Q = wp S d 86 178 [a0, a1, a2, a3] (.ref r :: .ref r :: st) h Q := wp_p hc86 dX5_readsNode_177 rfl
theorem e86_177i : wp S d 86 177 [a0, a1, a2, a3] (.int x :: st) h Q = wp S d 86 178 [a0, a1, a2, a3] (.int x :: .int x :: st) h Q := wp_p hc86 dX5_readsNode_177 rfl
theorem e86_178 : wp S d 86 178 [a0, a1, a2, a3] (.ref r :: st) h Q = am_gfK h r 5 7 (fun w => wp S d 86 181 [a0, a1, a2, a3] (w :: st) h Q) := wp_gf hc86 dX5_readsNode_178 ho86 fl5_151
theorem e86_181 : wp S d 86 181 [a0, a1, a2, a3] st h Q = wp S d 86 182 [a0, a1, a2, a3] (.int (nI 1) :: st) h Q := wp_p hc86 dX5_readsNode_181 rfl
theorem e86_182 : wp S d 86 182 [a0, a1, a2, a3] (.int y :: .int x :: st) h Q = wp S d 86 183 [a0, a1, a2, a3] (.int (x + y) :: st) h Q := wp_p hc86 dX5_readsNode_182 rfl
theorem e86_183 : wp S d 86 183 [a0, a1, a2, a3] (w :: .ref r :: st) h Q = am_pfK 86 h r 5 7 false w (fun h => wp S d 86 186 [a0, a1, a2, a3] st h Q) := wp_pf hc86 dX5_readsNode_183 ho86 fl5_151
theorem e86_186 : wp S d 86 186 [a0, a1, a2, some (.int x)] st h Q = wp S d 86 187 [a0, a1, a2, some (.int x)] (.int x :: st) h Q := wp_p hc86 dX5_readsNode_186 rfl
theorem e86_187 : wp S d 86 187 [a0, a1, a2, a3] (.int x :: st) h Q = if x ≤ 0 then wp S d 86 212 [a0, a1, a2, a3] st h Q else wp S d 86 190 [a0, a1, a2, a3] st h Q := wp_le hc86 dX5_readsNode_187 rfl
theorem e86_190 : wp S d 86 190 [some (.ref r), a1, a2, a3] st h Q = wp S d 86 191 [some (.ref r), a1, a2, a3] (.ref r :: st) h Q := wp_p hc86 dX5_readsNode_190 rfl
theorem e86_191 : wp S d 86 191 [a0, a1, a2, a3] (.ref r :: st) h Q = am_gfK h r 5 8 (fun w => wp S d 86 194 [a0, a1, a2, a3] (w :: st) h Q) := wp_gf hc86 dX5_readsNode_191 ho86 fl5_25
theorem e86_194 : wp S d 86 194 [some (.ref r), a1, a2, a3] st h Q = wp S d 86 195 [some (.ref r), a1, a2, a3] (.ref r :: st) h Q := wp_p hc86 dX5_readsNode_194 rfl
theorem e86_195 : wp S d 86 195 [a0, a1, a2, a3] (.ref r :: st) h Q = am_gfK h r 5 9 (fun w => wp S d 86 198 [a0, a1, a2, a3] (w :: st) h Q) := wp_gf hc86 dX5_readsNode_195 ho86 fl5_157
theorem e86_198 : wp S d 86 198 [a0, a1, a2, some (.int x)] st h Q = wp S d 86 199 [a0, a1, a2, some (.int x)] (.int x :: st) h Q := wp_p hc86 dX5_readsNode_198 rfl
theorem e86_199 : wp S d 86 199 [a0, a1, a2, a3] (.int y :: .int x :: .ref r :: st) h Q = am_isK h r x y (fun h => wp S d 86 200 [a0, a1, a2, a3] st h Q) := wp_is hc86 dX5_readsNode_199
theorem e86_200 : wp S d 86 200 [some (.ref r), a1, a2, a3] st h Q = wp S d 86 201 [some (.ref r), a1, a2, a3] (.ref r :: st) h Q := wp_p hc86 dX5_readsNode_200 rfl
theorem e86_201 : wp S d 86 201 [a0, a1, a2, a3] (.ref r :: st) h Q = wp S d 86 202 [a0, a1, a2, a3] (.ref r :: .ref r :: st) h Q := wp_p hc86 dX5_readsNode_201 rfl
theorem e86_201i : wp S d 86 201 [a0, a1, a2, a3] (.int x :: st) h Q = wp S d 86 202 [a0, a1, a2, a3] (.int x :: .int x :: st) h Q := wp_p hc86 dX5_readsNode_201 rfl
theorem e86_202 : wp S d 86 202 [a0, a1, a2, a3] (.ref r :: st) h Q = am_gfK h r 5 9 (fun w => wp S d 86 205 [a0, a1, a2, a3] (w :: st) h Q) := wp_gf hc86 dX5_readsNode_202 ho86 fl5_157
theorem e86_205 : wp S d 86 205 [a0, a1, a2, a3] st h Q = wp S d 86 206 [a0, a1, a2, a3] (.int (nI 1) :: st) h Q := wp_p hc86 dX5_readsNode_205 rfl
theorem e86_206 : wp S d 86 206 [a0, a1, a2, a3] (.int y :: .int x :: st) h Q = wp S d 86 207 [a0, a1, a2, a3] (.int (x + y) :: st) h Q := wp_p hc86 dX5_readsNode_206 rfl
theorem e86_207 : wp S d 86 207 [a0, a1, a2, a3] (w :: .ref r :: st) h Q = am_pfK 86 h r 5 9 false w (fun h => wp S d 86 210 [a0, a1, a2, a3] st h Q) := wp_pf hc86 dX5_readsNode_207 ho86 fl5_157
theorem e86_210 : wp S d 86 210 [a0, a1, a2, a3] st h Q = wp S d 86 211 [a0, a1, a2, a3] (.int (nI 1) :: st) h Q := wp_p hc86 dX5_readsNode_210 rfl
theorem e86_211 : wp S d 86 211 ls [.int x] h Q = (narrow .boolean (.int x) = .int x ∧ Q (.inl (some (.int x)), h)) := wp_rI hc86 dX5_readsNode_211 rfl
theorem e86_212 : wp S d 86 212 [a0, a1, some (.int x), a3] st h Q = wp S d 86 213 [a0, a1, some (.int x), a3] (.int x :: st) h Q := wp_p hc86 dX5_readsNode_212 rfl
theorem e86_213 : wp S (d + 1) 86 213 [a0, a1, a2, a3] (.int x1 :: st) h Q = (am_w8 st ∧ wp S d 91 0 [some (.int x1)] [] h (am_kr S 0 (d + 1) 86 213 [a0, a1, a2, a3] st Q)) := wp_cS [.int x1] hc86 dX5_readsNode_213 ho86 cl5_111 (by decide) ns5_111 hst91 hnp91 hml91 hlsl91 rfl rfl rfl
theorem e86_216 : wp S d 86 216 [a0, a1, a2, a3] st h Q = wp S d 86 217 [a0, a1, a2, a3] (.int (nI 2) :: st) h Q := wp_p hc86 dX5_readsNode_216 rfl
theorem e86_217 : wp S d 86 217 [a0, a1, a2, a3] (.int y :: .int x :: st) h Q = if x ≤ y then wp S d 86 245 [a0, a1, a2, a3] st h Q else wp S d 86 220 [a0, a1, a2, a3] st h Q := wp_le hc86 dX5_readsNode_217 rfl
theorem e86_220 : wp S d 86 220 [some (.ref r), a1, a2, a3] st h Q = wp S d 86 221 [some (.ref r), a1, a2, a3] (.ref r :: st) h Q := wp_p hc86 dX5_readsNode_220 rfl
theorem e86_221 : wp S d 86 221 [some (.ref r), a1, a2, a3] st h Q = wp S d 86 222 [some (.ref r), a1, a2, a3] (.ref r :: st) h Q := wp_p hc86 dX5_readsNode_221 rfl
theorem e86_222 : wp S d 86 222 [a0, a1, a2, a3] (.ref r :: st) h Q = am_gfK h r 5 10 (fun w => wp S d 86 225 [a0, a1, a2, a3] (w :: st) h Q) := wp_gf hc86 dX5_readsNode_222 ho86 fl5_139
theorem e86_225 : wp S (d + 1) 86 225 [a0, a1, a2, a3] (.int x1 :: .ref r0 :: st) h Q = (am_w8 st ∧ am_rcv h 2 87 (.ref r0) = true ∧ wp S d 87 0 [some (.ref r0), some (.int x1)] [] h (am_kr S 2 (d + 1) 86 225 [a0, a1, a2, a3] st Q)) := wp_cV (.ref r0) [.int x1] hc86 dX5_readsNode_225 ho86 cl5_142 (by decide) ns5_142 hst87 hnp87 hml87 hlsl87 rfl rfl rfl
theorem e86_228 : wp S d 86 228 [a0, a1, a2, a3] st h Q = wp S d 86 230 [a0, a1, a2, a3] (.int (nI 41) :: st) h Q := wp_p hc86 dX5_readsNode_228 rfl
theorem e86_230 : wp S d 86 230 [a0, a1, a2, a3] (.int y :: .int x :: st) h Q = if x = y then wp S d 86 235 [a0, a1, a2, a3] st h Q else wp S d 86 233 [a0, a1, a2, a3] st h Q := wp_eq hc86 dX5_readsNode_230 rfl
theorem e86_233 : wp S d 86 233 [a0, a1, a2, a3] st h Q = wp S d 86 234 [a0, a1, a2, a3] (.int (nI 0) :: st) h Q := wp_p hc86 dX5_readsNode_233 rfl
theorem e86_234 : wp S d 86 234 ls [.int x] h Q = (narrow .boolean (.int x) = .int x ∧ Q (.inl (some (.int x)), h)) := wp_rI hc86 dX5_readsNode_234 rfl
theorem e86_235 : wp S d 86 235 [some (.ref r), a1, a2, a3] st h Q = wp S d 86 236 [some (.ref r), a1, a2, a3] (.ref r :: st) h Q := wp_p hc86 dX5_readsNode_235 rfl
theorem e86_236 : wp S d 86 236 [a0, a1, a2, a3] (.ref r :: st) h Q = wp S d 86 237 [a0, a1, a2, a3] (.ref r :: .ref r :: st) h Q := wp_p hc86 dX5_readsNode_236 rfl
theorem e86_236i : wp S d 86 236 [a0, a1, a2, a3] (.int x :: st) h Q = wp S d 86 237 [a0, a1, a2, a3] (.int x :: .int x :: st) h Q := wp_p hc86 dX5_readsNode_236 rfl
theorem e86_237 : wp S d 86 237 [a0, a1, a2, a3] (.ref r :: st) h Q = am_gfK h r 5 10 (fun w => wp S d 86 240 [a0, a1, a2, a3] (w :: st) h Q) := wp_gf hc86 dX5_readsNode_237 ho86 fl5_139
theorem e86_240 : wp S d 86 240 [a0, a1, a2, a3] st h Q = wp S d 86 241 [a0, a1, a2, a3] (.int (nI 1) :: st) h Q := wp_p hc86 dX5_readsNode_240 rfl
theorem e86_241 : wp S d 86 241 [a0, a1, a2, a3] (.int y :: .int x :: st) h Q = wp S d 86 242 [a0, a1, a2, a3] (.int (x + y) :: st) h Q := wp_p hc86 dX5_readsNode_241 rfl
theorem e86_242 : wp S d 86 242 [a0, a1, a2, a3] (w :: .ref r :: st) h Q = am_pfK 86 h r 5 10 false w (fun h => wp S d 86 245 [a0, a1, a2, a3] st h Q) := wp_pf hc86 dX5_readsNode_242 ho86 fl5_139
theorem e86_245 : wp S d 86 245 [some (.ref r), a1, a2, a3] st h Q = wp S d 86 246 [some (.ref r), a1, a2, a3] (.ref r :: st) h Q := wp_p hc86 dX5_readsNode_245 rfl
theorem e86_246 : wp S (d + 1) 86 246 [a0, a1, a2, a3] (.ref r0 :: st) h Q = (am_w8 st ∧ am_rcv h 2 94 (.ref r0) = true ∧ wp S d 94 0 [some (.ref r0)] [] h (am_kr S 2 (d + 1) 86 246 [a0, a1, a2, a3] st Q)) := wp_cV (.ref r0) [] hc86 dX5_readsNode_246 ho86 cl5_160 (by decide) ns5_160 hst94 hnp94 hml94 hlsl94 rfl rfl rfl
theorem e86_249 : wp S d 86 249 ls [.int x] h Q = (narrow .boolean (.int x) = .int x ∧ Q (.inl (some (.int x)), h)) := wp_rI hc86 dX5_readsNode_249 rfl
theorem e87_0 : wp S d 87 0 [a0, some (.int x)] st h Q = wp S d 87 1 [a0, some (.int x)] (.int x :: st) h Q := wp_p hc87 dX5_here_0 rfl
theorem e87_1 : wp S d 87 1 [some (.ref r), a1] st h Q = wp S d 87 2 [some (.ref r), a1] (.ref r :: st) h Q := wp_p hc87 dX5_here_1 rfl
theorem e87_2 : wp S d 87 2 [a0, a1] (.ref r :: st) h Q = am_gfK h r 5 5 (fun w => wp S d 87 5 [a0, a1] (w :: st) h Q) := wp_gf hc87 dX5_here_2 ho87 fl5_119
theorem e87_5 : wp S d 87 5 [a0, a1] (.int y :: .int x :: st) h Q = if y ≤ x then wp S d 87 17 [a0, a1] st h Q else wp S d 87 8 [a0, a1] st h Q := wp_ge hc87 dX5_here_5 rfl
theorem e87_8 : wp S d 87 8 [some (.ref r), a1] st h Q = wp S d 87 9 [some (.ref r), a1] (.ref r :: st) h Q := wp_p hc87 dX5_here_8 rfl
theorem e87_9 : wp S d 87 9 [a0, a1] (.ref r :: st) h Q = am_gfK h r 5 4 (fun w => wp S d 87 12 [a0, a1] (w :: st) h Q) := wp_gf hc87 dX5_here_9 ho87 fl5_19
theorem e87_12 : wp S d 87 12 [a0, some (.int x)] st h Q = wp S d 87 13 [a0, some (.int x)] (.int x :: st) h Q := wp_p hc87 dX5_here_12 rfl
theorem e87_13 : wp S d 87 13 [a0, a1] (.int x :: .ref r :: st) h Q = am_iaK h r x (fun z => wp S d 87 14 [a0, a1] (.int z :: st) h Q) := wp_ia hc87 dX5_here_13
theorem e87_14 : wp S d 87 14 [a0, a1] st h Q = wp S d 87 18 [a0, a1] st h Q := wp_p hc87 dX5_here_14 rfl
theorem e87_17 : wp S d 87 17 [a0, a1] st h Q = wp S d 87 18 [a0, a1] (.int ((-1)) :: st) h Q := wp_p hc87 dX5_here_17 rfl
theorem e87_18 : wp S d 87 18 ls [.int x] h Q = Q (.inl (some (.int x)), h) := wp_r hc87 dX5_here_18 rfl rfl ⟨x, _, rfl, rfl, rfl, rfl⟩
theorem e88_0 : wp S d 88 0 [some (.int x)] st h Q = wp S d 88 1 [some (.int x)] (.int x :: st) h Q := wp_p hc88 dX5_isDigit_0 rfl
theorem e88_1 : wp S d 88 1 [a0] (.int x :: st) h Q = wp S d 88 2 [a0] (.long x.toInt64 :: st) h Q := wp_p hc88 dX5_isDigit_1 rfl
theorem e88_2 : wp S d 88 2 [a0] st h Q = wp S d 88 5 [a0] (.long ((nI 48 : Int32).toInt64) :: st) h Q := wp_l2 hc88 dX5_isDigit_2 ho88 l25_122
theorem e88_5 : wp S d 88 5 [a0] st h Q = wp S d 88 8 [a0] (.long ((nI 57 : Int32).toInt64) :: st) h Q := wp_l2 hc88 dX5_isDigit_5 ho88 l25_124
theorem e88_8 : wp S (d + 1) 88 8 [a0] (.long u3 :: .long u2 :: .long u1 :: st) h Q = (am_w8 st ∧ wp S d 61 0 [some (.long u1), none, some (.long u2), none, some (.long u3), none] [] h (am_kr S 0 (d + 1) 88 8 [a0] st Q)) := wp_cS [.long u1, .long u2, .long u3] hc88 dX5_isDigit_8 ho88 cl5_55 (by decide) ns5_55 hst61 hnp61 hml61 hlsl61 rfl rfl rfl
theorem e88_11 : wp S d 88 11 ls [.int x] h Q = (narrow .boolean (.int x) = .int x ∧ Q (.inl (some (.int x)), h)) := wp_rI hc88 dX5_isDigit_11 rfl
theorem e89_0 : wp S d 89 0 [a0, a1, a2] st h Q = wp S d 89 3 [a0, a1, a2] (.int (nI 10000) :: st) h Q := wp_p hc89 dX5_node_0 rfl
theorem e89_3 : wp S d 89 3 [some (.int x), a1, a2] st h Q = wp S d 89 4 [some (.int x), a1, a2] (.int x :: st) h Q := wp_p hc89 dX5_node_3 rfl
theorem e89_4 : wp S d 89 4 [a0, a1, a2] (.int y :: .int x :: st) h Q = wp S d 89 5 [a0, a1, a2] (.int (x * y) :: st) h Q := wp_p hc89 dX5_node_4 rfl
theorem e89_5 : wp S d 89 5 [a0, a1, a2] st h Q = wp S d 89 7 [a0, a1, a2] (.int (nI 10) :: st) h Q := wp_p hc89 dX5_node_5 rfl
theorem e89_7 : wp S d 89 7 [a0, some (.int x), a2] st h Q = wp S d 89 8 [a0, some (.int x), a2] (.int x :: st) h Q := wp_p hc89 dX5_node_7 rfl
theorem e89_8 : wp S d 89 8 [a0, a1, a2] (.int y :: .int x :: st) h Q = wp S d 89 9 [a0, a1, a2] (.int (x * y) :: st) h Q := wp_p hc89 dX5_node_8 rfl
theorem e89_9 : wp S d 89 9 [a0, a1, a2] (.int y :: .int x :: st) h Q = wp S d 89 10 [a0, a1, a2] (.int (x + y) :: st) h Q := wp_p hc89 dX5_node_9 rfl
theorem e89_10 : wp S d 89 10 [a0, a1, some (.int x)] st h Q = wp S d 89 11 [a0, a1, some (.int x)] (.int x :: st) h Q := wp_p hc89 dX5_node_10 rfl
theorem e89_11 : wp S d 89 11 [a0, a1, a2] (.int y :: .int x :: st) h Q = wp S d 89 12 [a0, a1, a2] (.int (x + y) :: st) h Q := wp_p hc89 dX5_node_11 rfl
theorem e89_12 : wp S d 89 12 ls [.int x] h Q = Q (.inl (some (.int x)), h) := wp_r hc89 dX5_node_12 rfl rfl ⟨x, _, rfl, rfl, rfl, rfl⟩
theorem e90_0 : wp S d 90 0 [a0, some (.int x)] st h Q = wp S d 90 1 [a0, some (.int x)] (.int x :: st) h Q := wp_p hc90 dX5_nodeOf_0 rfl
theorem e90_1 : wp S d 90 1 [a0, a1] st h Q = wp S d 90 3 [a0, a1] (.int (nI 120) :: st) h Q := wp_p hc90 dX5_nodeOf_1 rfl
theorem e90_3 : wp S d 90 3 [a0, a1] (.int y :: .int x :: st) h Q = if x = y then wp S d 90 12 [a0, a1] st h Q else wp S d 90 6 [a0, a1] st h Q := wp_eq hc90 dX5_nodeOf_3 rfl
theorem e90_6 : wp S d 90 6 [a0, some (.int x)] st h Q = wp S d 90 7 [a0, some (.int x)] (.int x :: st) h Q := wp_p hc90 dX5_nodeOf_6 rfl
theorem e90_7 : wp S d 90 7 [a0, a1] st h Q = wp S d 90 9 [a0, a1] (.int (nI 121) :: st) h Q := wp_p hc90 dX5_nodeOf_7 rfl
theorem e90_9 : wp S d 90 9 [a0, a1] (.int y :: .int x :: st) h Q = if x = y then wp S d 90 12 [a0, a1] st h Q else wp S d 90 29 [a0, a1] st h Q := wp_ne hc90 dX5_nodeOf_9 rfl
theorem e90_12 : wp S d 90 12 [a0, some (.int x)] st h Q = wp S d 90 13 [a0, some (.int x)] (.int x :: st) h Q := wp_p hc90 dX5_nodeOf_12 rfl
theorem e90_13 : wp S d 90 13 [a0, a1] st h Q = wp S d 90 15 [a0, a1] (.int (nI 120) :: st) h Q := wp_p hc90 dX5_nodeOf_13 rfl
theorem e90_15 : wp S d 90 15 [a0, a1] (.int y :: .int x :: st) h Q = if x = y then wp S d 90 18 [a0, a1] st h Q else wp S d 90 22 [a0, a1] st h Q := wp_ne hc90 dX5_nodeOf_15 rfl
theorem e90_18 : wp S d 90 18 [a0, a1] st h Q = wp S d 90 19 [a0, a1] (.int (nI 1) :: st) h Q := wp_p hc90 dX5_nodeOf_18 rfl
theorem e90_19 : wp S d 90 19 [a0, a1] st h Q = wp S d 90 23 [a0, a1] st h Q := wp_p hc90 dX5_nodeOf_19 rfl
theorem e90_22 : wp S d 90 22 [a0, a1] st h Q = wp S d 90 23 [a0, a1] (.int (nI 2) :: st) h Q := wp_p hc90 dX5_nodeOf_22 rfl
theorem e90_23 : wp S d 90 23 [a0, a1] st h Q = wp S d 90 24 [a0, a1] (.int (nI 0) :: st) h Q := wp_p hc90 dX5_nodeOf_23 rfl
theorem e90_24 : wp S d 90 24 [a0, a1] st h Q = wp S d 90 25 [a0, a1] (.int (nI 0) :: st) h Q := wp_p hc90 dX5_nodeOf_24 rfl
theorem e90_25 : wp S (d + 1) 90 25 [a0, a1] (.int x3 :: .int x2 :: .int x1 :: st) h Q = (am_w8 st ∧ wp S d 89 0 [some (.int x1), some (.int x2), some (.int x3)] [] h (am_kr S 0 (d + 1) 90 25 [a0, a1] st Q)) := wp_cS [.int x1, .int x2, .int x3] hc90 dX5_nodeOf_25 ho90 cl5_126 (by decide) ns5_126 hst89 hnp89 hml89 hlsl89 rfl rfl rfl
theorem e90_28 : wp S d 90 28 ls [.int x] h Q = Q (.inl (some (.int x)), h) := wp_r hc90 dX5_nodeOf_28 rfl rfl ⟨x, _, rfl, rfl, rfl, rfl⟩
theorem e90_29 : wp S d 90 29 [a0, some (.int x)] st h Q = wp S d 90 30 [a0, some (.int x)] (.int x :: st) h Q := wp_p hc90 dX5_nodeOf_29 rfl
theorem e90_30 : wp S d 90 30 [a0, a1] (.int x :: st) h Q = wp S d 90 31 [a0, a1] (.long x.toInt64 :: st) h Q := wp_p hc90 dX5_nodeOf_30 rfl
theorem e90_31 : wp S d 90 31 [a0, a1] st h Q = wp S d 90 34 [a0, a1] (.long ((nI 97 : Int32).toInt64) :: st) h Q := wp_l2 hc90 dX5_nodeOf_31 ho90 l25_129
theorem e90_34 : wp S d 90 34 [a0, a1] st h Q = wp S d 90 37 [a0, a1] (.long ((nI 102 : Int32).toInt64) :: st) h Q := wp_l2 hc90 dX5_nodeOf_34 ho90 l25_131
theorem e90_37 : wp S (d + 1) 90 37 [a0, a1] (.long u3 :: .long u2 :: .long u1 :: st) h Q = (am_w8 st ∧ wp S d 61 0 [some (.long u1), none, some (.long u2), none, some (.long u3), none] [] h (am_kr S 0 (d + 1) 90 37 [a0, a1] st Q)) := wp_cS [.long u1, .long u2, .long u3] hc90 dX5_nodeOf_37 ho90 cl5_55 (by decide) ns5_55 hst61 hnp61 hml61 hlsl61 rfl rfl rfl
theorem e90_40 : wp S d 90 40 [a0, a1] (.int x :: st) h Q = if x = 0 then wp S d 90 53 [a0, a1] st h Q else wp S d 90 43 [a0, a1] st h Q := wp_eq hc90 dX5_nodeOf_40 rfl
theorem e90_43 : wp S d 90 43 [a0, a1] st h Q = wp S d 90 44 [a0, a1] (.int (nI 3) :: st) h Q := wp_p hc90 dX5_nodeOf_43 rfl
theorem e90_44 : wp S d 90 44 [a0, some (.int x)] st h Q = wp S d 90 45 [a0, some (.int x)] (.int x :: st) h Q := wp_p hc90 dX5_nodeOf_44 rfl
theorem e90_45 : wp S d 90 45 [a0, a1] st h Q = wp S d 90 47 [a0, a1] (.int (nI 97) :: st) h Q := wp_p hc90 dX5_nodeOf_45 rfl
theorem e90_47 : wp S d 90 47 [a0, a1] (.int y :: .int x :: st) h Q = wp S d 90 48 [a0, a1] (.int (x - y) :: st) h Q := wp_p hc90 dX5_nodeOf_47 rfl
theorem e90_48 : wp S d 90 48 [a0, a1] st h Q = wp S d 90 49 [a0, a1] (.int (nI 0) :: st) h Q := wp_p hc90 dX5_nodeOf_48 rfl
theorem e90_49 : wp S (d + 1) 90 49 [a0, a1] (.int x3 :: .int x2 :: .int x1 :: st) h Q = (am_w8 st ∧ wp S d 89 0 [some (.int x1), some (.int x2), some (.int x3)] [] h (am_kr S 0 (d + 1) 90 49 [a0, a1] st Q)) := wp_cS [.int x1, .int x2, .int x3] hc90 dX5_nodeOf_49 ho90 cl5_126 (by decide) ns5_126 hst89 hnp89 hml89 hlsl89 rfl rfl rfl
theorem e90_52 : wp S d 90 52 ls [.int x] h Q = Q (.inl (some (.int x)), h) := wp_r hc90 dX5_nodeOf_52 rfl rfl ⟨x, _, rfl, rfl, rfl, rfl⟩
theorem e90_53 : wp S d 90 53 [a0, some (.int x)] st h Q = wp S d 90 54 [a0, some (.int x)] (.int x :: st) h Q := wp_p hc90 dX5_nodeOf_53 rfl
theorem e90_54 : wp S d 90 54 [a0, a1] (.int x :: st) h Q = wp S d 90 55 [a0, a1] (.long x.toInt64 :: st) h Q := wp_p hc90 dX5_nodeOf_54 rfl
theorem e90_55 : wp S d 90 55 [a0, a1] st h Q = wp S d 90 58 [a0, a1] (.long ((nI 65 : Int32).toInt64) :: st) h Q := wp_l2 hc90 dX5_nodeOf_55 ho90 l25_133
theorem e90_58 : wp S d 90 58 [a0, a1] st h Q = wp S d 90 61 [a0, a1] (.long ((nI 70 : Int32).toInt64) :: st) h Q := wp_l2 hc90 dX5_nodeOf_58 ho90 l25_135
theorem e90_61 : wp S (d + 1) 90 61 [a0, a1] (.long u3 :: .long u2 :: .long u1 :: st) h Q = (am_w8 st ∧ wp S d 61 0 [some (.long u1), none, some (.long u2), none, some (.long u3), none] [] h (am_kr S 0 (d + 1) 90 61 [a0, a1] st Q)) := wp_cS [.long u1, .long u2, .long u3] hc90 dX5_nodeOf_61 ho90 cl5_55 (by decide) ns5_55 hst61 hnp61 hml61 hlsl61 rfl rfl rfl
theorem e90_64 : wp S d 90 64 [a0, a1] (.int x :: st) h Q = if x = 0 then wp S d 90 77 [a0, a1] st h Q else wp S d 90 67 [a0, a1] st h Q := wp_eq hc90 dX5_nodeOf_64 rfl
theorem e90_67 : wp S d 90 67 [a0, a1] st h Q = wp S d 90 68 [a0, a1] (.int (nI 4) :: st) h Q := wp_p hc90 dX5_nodeOf_67 rfl
theorem e90_68 : wp S d 90 68 [a0, some (.int x)] st h Q = wp S d 90 69 [a0, some (.int x)] (.int x :: st) h Q := wp_p hc90 dX5_nodeOf_68 rfl
theorem e90_69 : wp S d 90 69 [a0, a1] st h Q = wp S d 90 71 [a0, a1] (.int (nI 65) :: st) h Q := wp_p hc90 dX5_nodeOf_69 rfl
theorem e90_71 : wp S d 90 71 [a0, a1] (.int y :: .int x :: st) h Q = wp S d 90 72 [a0, a1] (.int (x - y) :: st) h Q := wp_p hc90 dX5_nodeOf_71 rfl
theorem e90_72 : wp S d 90 72 [a0, a1] st h Q = wp S d 90 73 [a0, a1] (.int (nI 0) :: st) h Q := wp_p hc90 dX5_nodeOf_72 rfl
theorem e90_73 : wp S (d + 1) 90 73 [a0, a1] (.int x3 :: .int x2 :: .int x1 :: st) h Q = (am_w8 st ∧ wp S d 89 0 [some (.int x1), some (.int x2), some (.int x3)] [] h (am_kr S 0 (d + 1) 90 73 [a0, a1] st Q)) := wp_cS [.int x1, .int x2, .int x3] hc90 dX5_nodeOf_73 ho90 cl5_126 (by decide) ns5_126 hst89 hnp89 hml89 hlsl89 rfl rfl rfl
theorem e90_76 : wp S d 90 76 ls [.int x] h Q = Q (.inl (some (.int x)), h) := wp_r hc90 dX5_nodeOf_76 rfl rfl ⟨x, _, rfl, rfl, rfl, rfl⟩
theorem e90_77 : wp S d 90 77 [a0, some (.int x)] st h Q = wp S d 90 78 [a0, some (.int x)] (.int x :: st) h Q := wp_p hc90 dX5_nodeOf_77 rfl
theorem e90_78 : wp S d 90 78 [a0, a1] (.int x :: st) h Q = wp S d 90 79 [a0, a1] (.long x.toInt64 :: st) h Q := wp_p hc90 dX5_nodeOf_78 rfl
theorem e90_79 : wp S d 90 79 [a0, a1] st h Q = wp S d 90 82 [a0, a1] (.long ((nI 112 : Int32).toInt64) :: st) h Q := wp_l2 hc90 dX5_nodeOf_79 ho90 l25_137
theorem e90_82 : wp S d 90 82 [a0, a1] st h Q = wp S d 90 84 [a0, a1] (.int (nI 112) :: st) h Q := wp_p hc90 dX5_nodeOf_82 rfl
theorem e90_84 : wp S d 90 84 [some (.ref r), a1] st h Q = wp S d 90 85 [some (.ref r), a1] (.ref r :: st) h Q := wp_p hc90 dX5_nodeOf_84 rfl
theorem e90_85 : wp S d 90 85 [a0, a1] (.ref r :: st) h Q = am_gfK h r 5 0 (fun w => wp S d 90 88 [a0, a1] (w :: st) h Q) := wp_gf hc90 dX5_nodeOf_85 ho90 fl5_7
theorem e90_88 : wp S d 90 88 [a0, a1] st h Q = wp S d 90 90 [a0, a1] (.int (nI 116) :: st) h Q := wp_p hc90 dX5_nodeOf_88 rfl
theorem e90_90 : wp S d 90 90 [a0, a1] (.int x :: .ref r :: st) h Q = am_iaK h r x (fun z => wp S d 90 91 [a0, a1] (.int z :: st) h Q) := wp_ia hc90 dX5_nodeOf_90
theorem e90_91 : wp S d 90 91 [a0, a1] (.int y :: .int x :: st) h Q = wp S d 90 92 [a0, a1] (.int (x + y) :: st) h Q := wp_p hc90 dX5_nodeOf_91 rfl
theorem e90_92 : wp S d 90 92 [a0, a1] st h Q = wp S d 90 93 [a0, a1] (.int (nI 1) :: st) h Q := wp_p hc90 dX5_nodeOf_92 rfl
theorem e90_93 : wp S d 90 93 [a0, a1] (.int y :: .int x :: st) h Q = wp S d 90 94 [a0, a1] (.int (x - y) :: st) h Q := wp_p hc90 dX5_nodeOf_93 rfl
theorem e90_94 : wp S d 90 94 [a0, a1] (.int x :: st) h Q = wp S d 90 95 [a0, a1] (.long x.toInt64 :: st) h Q := wp_p hc90 dX5_nodeOf_94 rfl
theorem e90_95 : wp S (d + 1) 90 95 [a0, a1] (.long u3 :: .long u2 :: .long u1 :: st) h Q = (am_w8 st ∧ wp S d 61 0 [some (.long u1), none, some (.long u2), none, some (.long u3), none] [] h (am_kr S 0 (d + 1) 90 95 [a0, a1] st Q)) := wp_cS [.long u1, .long u2, .long u3] hc90 dX5_nodeOf_95 ho90 cl5_55 (by decide) ns5_55 hst61 hnp61 hml61 hlsl61 rfl rfl rfl
theorem e90_98 : wp S d 90 98 [a0, a1] (.int x :: st) h Q = if x = 0 then wp S d 90 113 [a0, a1] st h Q else wp S d 90 101 [a0, a1] st h Q := wp_eq hc90 dX5_nodeOf_98 rfl
theorem e90_101 : wp S d 90 101 [a0, a1] st h Q = wp S d 90 102 [a0, a1] (.int (nI 5) :: st) h Q := wp_p hc90 dX5_nodeOf_101 rfl
theorem e90_102 : wp S d 90 102 [a0, some (.int x)] st h Q = wp S d 90 103 [a0, some (.int x)] (.int x :: st) h Q := wp_p hc90 dX5_nodeOf_102 rfl
theorem e90_103 : wp S d 90 103 [a0, a1] st h Q = wp S d 90 105 [a0, a1] (.int (nI 112) :: st) h Q := wp_p hc90 dX5_nodeOf_103 rfl
theorem e90_105 : wp S d 90 105 [a0, a1] (.int y :: .int x :: st) h Q = wp S d 90 106 [a0, a1] (.int (x - y) :: st) h Q := wp_p hc90 dX5_nodeOf_105 rfl
theorem e90_106 : wp S d 90 106 [a0, a1] st h Q = wp S d 90 107 [a0, a1] (.int (nI 0) :: st) h Q := wp_p hc90 dX5_nodeOf_106 rfl
theorem e90_107 : wp S (d + 1) 90 107 [a0, a1] (.int x3 :: .int x2 :: .int x1 :: st) h Q = (am_w8 st ∧ wp S d 89 0 [some (.int x1), some (.int x2), some (.int x3)] [] h (am_kr S 0 (d + 1) 90 107 [a0, a1] st Q)) := wp_cS [.int x1, .int x2, .int x3] hc90 dX5_nodeOf_107 ho90 cl5_126 (by decide) ns5_126 hst89 hnp89 hml89 hlsl89 rfl rfl rfl
theorem e90_110 : wp S d 90 110 [a0, a1] st h Q = wp S d 90 114 [a0, a1] st h Q := wp_p hc90 dX5_nodeOf_110 rfl
theorem e90_113 : wp S d 90 113 [a0, a1] st h Q = wp S d 90 114 [a0, a1] (.int ((-1)) :: st) h Q := wp_p hc90 dX5_nodeOf_113 rfl
theorem e90_114 : wp S d 90 114 ls [.int x] h Q = Q (.inl (some (.int x)), h) := wp_r hc90 dX5_nodeOf_114 rfl rfl ⟨x, _, rfl, rfl, rfl, rfl⟩
theorem e91_0 : wp S d 91 0 [some (.int x)] st h Q = wp S d 91 1 [some (.int x)] (.int x :: st) h Q := wp_p hc91 dX5_kind_0 rfl
theorem e91_1 : wp S d 91 1 [a0] st h Q = wp S d 91 4 [a0] (.int (nI 10000) :: st) h Q := wp_p hc91 dX5_kind_1 rfl
theorem e91_4 : wp S d 91 4 [a0] (.int y :: .int x :: st) h Q = (¬ y = 0 ∧ wp S d 91 5 [a0] (.int (x / y) :: st) h Q) := wp_id hc91 dX5_kind_4
theorem e91_5 : wp S d 91 5 ls [.int x] h Q = Q (.inl (some (.int x)), h) := wp_r hc91 dX5_kind_5 rfl rfl ⟨x, _, rfl, rfl, rfl, rfl⟩
theorem e92_0 : wp S d 92 0 [a0, some (.int x)] st h Q = wp S d 92 1 [a0, some (.int x)] (.int x :: st) h Q := wp_p hc92 dX5_function_0 rfl
theorem e92_1 : wp S (d + 1) 92 1 [a0, a1] (.int x1 :: st) h Q = (am_w8 st ∧ wp S d 91 0 [some (.int x1)] [] h (am_kr S 0 (d + 1) 92 1 [a0, a1] st Q)) := wp_cS [.int x1] hc92 dX5_function_1 ho92 cl5_111 (by decide) ns5_111 hst91 hnp91 hml91 hlsl91 rfl rfl rfl
theorem e92_4 : wp S d 92 4 [a0, a1] st h Q = wp S d 92 5 [a0, a1] (.int (nI 3) :: st) h Q := wp_p hc92 dX5_function_4 rfl
theorem e92_5 : wp S d 92 5 [a0, a1] (.int y :: .int x :: st) h Q = if x = y then wp S d 92 8 [a0, a1] st h Q else wp S d 92 20 [a0, a1] st h Q := wp_ne hc92 dX5_function_5 rfl
theorem e92_8 : wp S d 92 8 [a0, a1] st h Q = wp S d 92 9 [a0, a1] (.int (nI 0) :: st) h Q := wp_p hc92 dX5_function_8 rfl
theorem e92_9 : wp S d 92 9 [a0, a1] st h Q = wp S d 92 11 [a0, a1] (.int (nI 7) :: st) h Q := wp_p hc92 dX5_function_9 rfl
theorem e92_11 : wp S d 92 11 [a0, some (.int x)] st h Q = wp S d 92 12 [a0, some (.int x)] (.int x :: st) h Q := wp_p hc92 dX5_function_11 rfl
theorem e92_12 : wp S (d + 1) 92 12 [a0, a1] (.int x1 :: st) h Q = (am_w8 st ∧ wp S d 93 0 [some (.int x1)] [] h (am_kr S 0 (d + 1) 92 12 [a0, a1] st Q)) := wp_cS [.int x1] hc92 dX5_function_12 ho92 cl5_114 (by decide) ns5_114 hst93 hnp93 hml93 hlsl93 rfl rfl rfl
theorem e92_15 : wp S d 92 15 [a0, a1] (.int y :: .int x :: st) h Q = wp S d 92 16 [a0, a1] (.int (x * y) :: st) h Q := wp_p hc92 dX5_function_15 rfl
theorem e92_16 : wp S d 92 16 [a0, a1] (.int y :: .int x :: st) h Q = wp S d 92 17 [a0, a1] (.int (x + y) :: st) h Q := wp_p hc92 dX5_function_16 rfl
theorem e92_17 : wp S d 92 17 [a0, a1] st h Q = wp S d 92 51 [a0, a1] st h Q := wp_p hc92 dX5_function_17 rfl
theorem e92_20 : wp S d 92 20 [a0, some (.int x)] st h Q = wp S d 92 21 [a0, some (.int x)] (.int x :: st) h Q := wp_p hc92 dX5_function_20 rfl
theorem e92_21 : wp S (d + 1) 92 21 [a0, a1] (.int x1 :: st) h Q = (am_w8 st ∧ wp S d 91 0 [some (.int x1)] [] h (am_kr S 0 (d + 1) 92 21 [a0, a1] st Q)) := wp_cS [.int x1] hc92 dX5_function_21 ho92 cl5_111 (by decide) ns5_111 hst91 hnp91 hml91 hlsl91 rfl rfl rfl
theorem e92_24 : wp S d 92 24 [a0, a1] st h Q = wp S d 92 25 [a0, a1] (.int (nI 4) :: st) h Q := wp_p hc92 dX5_function_24 rfl
theorem e92_25 : wp S d 92 25 [a0, a1] (.int y :: .int x :: st) h Q = if x = y then wp S d 92 28 [a0, a1] st h Q else wp S d 92 41 [a0, a1] st h Q := wp_ne hc92 dX5_function_25 rfl
theorem e92_28 : wp S d 92 28 [a0, a1] st h Q = wp S d 92 30 [a0, a1] (.int (nI 42) :: st) h Q := wp_p hc92 dX5_function_28 rfl
theorem e92_30 : wp S d 92 30 [a0, a1] st h Q = wp S d 92 32 [a0, a1] (.int (nI 7) :: st) h Q := wp_p hc92 dX5_function_30 rfl
theorem e92_32 : wp S d 92 32 [a0, some (.int x)] st h Q = wp S d 92 33 [a0, some (.int x)] (.int x :: st) h Q := wp_p hc92 dX5_function_32 rfl
theorem e92_33 : wp S (d + 1) 92 33 [a0, a1] (.int x1 :: st) h Q = (am_w8 st ∧ wp S d 93 0 [some (.int x1)] [] h (am_kr S 0 (d + 1) 92 33 [a0, a1] st Q)) := wp_cS [.int x1] hc92 dX5_function_33 ho92 cl5_114 (by decide) ns5_114 hst93 hnp93 hml93 hlsl93 rfl rfl rfl
theorem e92_36 : wp S d 92 36 [a0, a1] (.int y :: .int x :: st) h Q = wp S d 92 37 [a0, a1] (.int (x * y) :: st) h Q := wp_p hc92 dX5_function_36 rfl
theorem e92_37 : wp S d 92 37 [a0, a1] (.int y :: .int x :: st) h Q = wp S d 92 38 [a0, a1] (.int (x + y) :: st) h Q := wp_p hc92 dX5_function_37 rfl
theorem e92_38 : wp S d 92 38 [a0, a1] st h Q = wp S d 92 51 [a0, a1] st h Q := wp_p hc92 dX5_function_38 rfl
theorem e92_41 : wp S d 92 41 [a0, a1] st h Q = wp S d 92 43 [a0, a1] (.int (nI 84) :: st) h Q := wp_p hc92 dX5_function_41 rfl
theorem e92_43 : wp S d 92 43 [a0, a1] st h Q = wp S d 92 45 [a0, a1] (.int (nI 8) :: st) h Q := wp_p hc92 dX5_function_43 rfl
theorem e92_45 : wp S d 92 45 [a0, some (.int x)] st h Q = wp S d 92 46 [a0, some (.int x)] (.int x :: st) h Q := wp_p hc92 dX5_function_45 rfl
theorem e92_46 : wp S (d + 1) 92 46 [a0, a1] (.int x1 :: st) h Q = (am_w8 st ∧ wp S d 93 0 [some (.int x1)] [] h (am_kr S 0 (d + 1) 92 46 [a0, a1] st Q)) := wp_cS [.int x1] hc92 dX5_function_46 ho92 cl5_114 (by decide) ns5_114 hst93 hnp93 hml93 hlsl93 rfl rfl rfl
theorem e92_49 : wp S d 92 49 [a0, a1] (.int y :: .int x :: st) h Q = wp S d 92 50 [a0, a1] (.int (x * y) :: st) h Q := wp_p hc92 dX5_function_49 rfl
theorem e92_50 : wp S d 92 50 [a0, a1] (.int y :: .int x :: st) h Q = wp S d 92 51 [a0, a1] (.int (x + y) :: st) h Q := wp_p hc92 dX5_function_50 rfl
theorem e92_51 : wp S d 92 51 ls [.int x] h Q = Q (.inl (some (.int x)), h) := wp_r hc92 dX5_function_51 rfl rfl ⟨x, _, rfl, rfl, rfl, rfl⟩
theorem e93_0 : wp S d 93 0 [some (.int x)] st h Q = wp S d 93 1 [some (.int x)] (.int x :: st) h Q := wp_p hc93 dX5_which_0 rfl
theorem e93_1 : wp S d 93 1 [a0] st h Q = wp S d 93 3 [a0] (.int (nI 10) :: st) h Q := wp_p hc93 dX5_which_1 rfl
theorem e93_3 : wp S d 93 3 [a0] (.int y :: .int x :: st) h Q = (¬ y = 0 ∧ wp S d 93 4 [a0] (.int (x / y) :: st) h Q) := wp_id hc93 dX5_which_3
theorem e93_4 : wp S d 93 4 [a0] st h Q = wp S d 93 7 [a0] (.int (nI 1000) :: st) h Q := wp_p hc93 dX5_which_4 rfl
theorem e93_7 : wp S d 93 7 [a0] (.int y :: .int x :: st) h Q = (¬ y = 0 ∧ wp S d 93 8 [a0] (.int (x - x / y * y) :: st) h Q) := wp_ir hc93 dX5_which_7
theorem e93_8 : wp S d 93 8 ls [.int x] h Q = Q (.inl (some (.int x)), h) := wp_r hc93 dX5_which_8 rfl rfl ⟨x, _, rfl, rfl, rfl, rfl⟩
theorem e94_0 : wp S d 94 0 [some (.ref r)] st h Q = wp S d 94 1 [some (.ref r)] (.ref r :: st) h Q := wp_p hc94 dX5_closes_0 rfl
theorem e94_1 : wp S d 94 1 [a0] (.ref r :: st) h Q = am_gfK h r 5 9 (fun w => wp S d 94 4 [a0] (w :: st) h Q) := wp_gf hc94 dX5_closes_1 ho94 fl5_157
theorem e94_4 : wp S d 94 4 [a0] (.int x :: st) h Q = if x ≤ 0 then wp S d 94 95 [a0] st h Q else wp S d 94 7 [a0] st h Q := wp_le hc94 dX5_closes_4 rfl
theorem e94_7 : wp S d 94 7 [some (.ref r)] st h Q = wp S d 94 8 [some (.ref r)] (.ref r :: st) h Q := wp_p hc94 dX5_closes_7 rfl
theorem e94_8 : wp S d 94 8 [a0] (.ref r :: st) h Q = am_gfK h r 5 8 (fun w => wp S d 94 11 [a0] (w :: st) h Q) := wp_gf hc94 dX5_closes_8 ho94 fl5_25
theorem e94_11 : wp S d 94 11 [some (.ref r)] st h Q = wp S d 94 12 [some (.ref r)] (.ref r :: st) h Q := wp_p hc94 dX5_closes_11 rfl
theorem e94_12 : wp S d 94 12 [a0] (.ref r :: st) h Q = am_gfK h r 5 9 (fun w => wp S d 94 15 [a0] (w :: st) h Q) := wp_gf hc94 dX5_closes_12 ho94 fl5_157
theorem e94_15 : wp S d 94 15 [a0] st h Q = wp S d 94 16 [a0] (.int (nI 1) :: st) h Q := wp_p hc94 dX5_closes_15 rfl
theorem e94_16 : wp S d 94 16 [a0] (.int y :: .int x :: st) h Q = wp S d 94 17 [a0] (.int (x - y) :: st) h Q := wp_p hc94 dX5_closes_16 rfl
theorem e94_17 : wp S d 94 17 [a0] (.int x :: .ref r :: st) h Q = wp S d 94 18 [a0] (.int x :: .ref r :: .int x :: .ref r :: st) h Q := wp_p hc94 dX5_closes_17 rfl
theorem e94_18 : wp S d 94 18 [a0] (.int x :: .ref r :: st) h Q = am_iaK h r x (fun z => wp S d 94 19 [a0] (.int z :: st) h Q) := wp_ia hc94 dX5_closes_18
theorem e94_19 : wp S d 94 19 [a0] st h Q = wp S d 94 20 [a0] (.int (nI 1) :: st) h Q := wp_p hc94 dX5_closes_19 rfl
theorem e94_20 : wp S d 94 20 [a0] (.int y :: .int x :: st) h Q = wp S d 94 21 [a0] (.int (x - y) :: st) h Q := wp_p hc94 dX5_closes_20 rfl
theorem e94_21 : wp S d 94 21 [a0] (.int y :: .int x :: .ref r :: st) h Q = am_isK h r x y (fun h => wp S d 94 22 [a0] st h Q) := wp_is hc94 dX5_closes_21
theorem e94_22 : wp S d 94 22 [some (.ref r)] st h Q = wp S d 94 23 [some (.ref r)] (.ref r :: st) h Q := wp_p hc94 dX5_closes_22 rfl
theorem e94_23 : wp S d 94 23 [some (.ref r)] st h Q = wp S d 94 24 [some (.ref r)] (.ref r :: st) h Q := wp_p hc94 dX5_closes_23 rfl
theorem e94_24 : wp S d 94 24 [a0] (.ref r :: st) h Q = am_gfK h r 5 10 (fun w => wp S d 94 27 [a0] (w :: st) h Q) := wp_gf hc94 dX5_closes_24 ho94 fl5_139
theorem e94_27 : wp S (d + 1) 94 27 [a0] (.int x1 :: .ref r0 :: st) h Q = (am_w8 st ∧ am_rcv h 2 87 (.ref r0) = true ∧ wp S d 87 0 [some (.ref r0), some (.int x1)] [] h (am_kr S 2 (d + 1) 94 27 [a0] st Q)) := wp_cV (.ref r0) [.int x1] hc94 dX5_closes_27 ho94 cl5_142 (by decide) ns5_142 hst87 hnp87 hml87 hlsl87 rfl rfl rfl
theorem e94_30 : wp S d 94 30 [some (.ref r)] st h Q = wp S d 94 31 [some (.ref r)] (.ref r :: st) h Q := wp_p hc94 dX5_closes_30 rfl
theorem e94_31 : wp S d 94 31 [a0] (.ref r :: st) h Q = am_gfK h r 5 8 (fun w => wp S d 94 34 [a0] (w :: st) h Q) := wp_gf hc94 dX5_closes_31 ho94 fl5_25
theorem e94_34 : wp S d 94 34 [some (.ref r)] st h Q = wp S d 94 35 [some (.ref r)] (.ref r :: st) h Q := wp_p hc94 dX5_closes_34 rfl
theorem e94_35 : wp S d 94 35 [a0] (.ref r :: st) h Q = am_gfK h r 5 9 (fun w => wp S d 94 38 [a0] (w :: st) h Q) := wp_gf hc94 dX5_closes_35 ho94 fl5_157
theorem e94_38 : wp S d 94 38 [a0] st h Q = wp S d 94 39 [a0] (.int (nI 1) :: st) h Q := wp_p hc94 dX5_closes_38 rfl
theorem e94_39 : wp S d 94 39 [a0] (.int y :: .int x :: st) h Q = wp S d 94 40 [a0] (.int (x - y) :: st) h Q := wp_p hc94 dX5_closes_39 rfl
theorem e94_40 : wp S d 94 40 [a0] (.int x :: .ref r :: st) h Q = am_iaK h r x (fun z => wp S d 94 41 [a0] (.int z :: st) h Q) := wp_ia hc94 dX5_closes_40
theorem e94_41 : wp S d 94 41 [a0] (.int x :: st) h Q = if x ≤ 0 then wp S d 94 49 [a0] st h Q else wp S d 94 44 [a0] st h Q := wp_le hc94 dX5_closes_41 rfl
theorem e94_44 : wp S d 94 44 [a0] st h Q = wp S d 94 46 [a0] (.int (nI 44) :: st) h Q := wp_p hc94 dX5_closes_44 rfl
theorem e94_46 : wp S d 94 46 [a0] st h Q = wp S d 94 51 [a0] st h Q := wp_p hc94 dX5_closes_46 rfl
theorem e94_49 : wp S d 94 49 [a0] st h Q = wp S d 94 51 [a0] (.int (nI 41) :: st) h Q := wp_p hc94 dX5_closes_49 rfl
theorem e94_51 : wp S d 94 51 [a0] (.int y :: .int x :: st) h Q = if x = y then wp S d 94 56 [a0] st h Q else wp S d 94 54 [a0] st h Q := wp_eq hc94 dX5_closes_51 rfl
theorem e94_54 : wp S d 94 54 [a0] st h Q = wp S d 94 55 [a0] (.int (nI 0) :: st) h Q := wp_p hc94 dX5_closes_54 rfl
theorem e94_55 : wp S d 94 55 ls [.int x] h Q = (narrow .boolean (.int x) = .int x ∧ Q (.inl (some (.int x)), h)) := wp_rI hc94 dX5_closes_55 rfl
theorem e94_56 : wp S d 94 56 [some (.ref r)] st h Q = wp S d 94 57 [some (.ref r)] (.ref r :: st) h Q := wp_p hc94 dX5_closes_56 rfl
theorem e94_57 : wp S d 94 57 [a0] (.ref r :: st) h Q = wp S d 94 58 [a0] (.ref r :: .ref r :: st) h Q := wp_p hc94 dX5_closes_57 rfl
theorem e94_57i : wp S d 94 57 [a0] (.int x :: st) h Q = wp S d 94 58 [a0] (.int x :: .int x :: st) h Q := wp_p hc94 dX5_closes_57 rfl
theorem e94_58 : wp S d 94 58 [a0] (.ref r :: st) h Q = am_gfK h r 5 10 (fun w => wp S d 94 61 [a0] (w :: st) h Q) := wp_gf hc94 dX5_closes_58 ho94 fl5_139
theorem e94_61 : wp S d 94 61 [a0] st h Q = wp S d 94 62 [a0] (.int (nI 1) :: st) h Q := wp_p hc94 dX5_closes_61 rfl
theorem e94_62 : wp S d 94 62 [a0] (.int y :: .int x :: st) h Q = wp S d 94 63 [a0] (.int (x + y) :: st) h Q := wp_p hc94 dX5_closes_62 rfl
theorem e94_63 : wp S d 94 63 [a0] (w :: .ref r :: st) h Q = am_pfK 94 h r 5 10 false w (fun h => wp S d 94 66 [a0] st h Q) := wp_pf hc94 dX5_closes_63 ho94 fl5_139
theorem e94_66 : wp S d 94 66 [some (.ref r)] st h Q = wp S d 94 67 [some (.ref r)] (.ref r :: st) h Q := wp_p hc94 dX5_closes_66 rfl
theorem e94_67 : wp S d 94 67 [a0] (.ref r :: st) h Q = am_gfK h r 5 8 (fun w => wp S d 94 70 [a0] (w :: st) h Q) := wp_gf hc94 dX5_closes_67 ho94 fl5_25
theorem e94_70 : wp S d 94 70 [some (.ref r)] st h Q = wp S d 94 71 [some (.ref r)] (.ref r :: st) h Q := wp_p hc94 dX5_closes_70 rfl
theorem e94_71 : wp S d 94 71 [a0] (.ref r :: st) h Q = am_gfK h r 5 9 (fun w => wp S d 94 74 [a0] (w :: st) h Q) := wp_gf hc94 dX5_closes_71 ho94 fl5_157
theorem e94_74 : wp S d 94 74 [a0] st h Q = wp S d 94 75 [a0] (.int (nI 1) :: st) h Q := wp_p hc94 dX5_closes_74 rfl
theorem e94_75 : wp S d 94 75 [a0] (.int y :: .int x :: st) h Q = wp S d 94 76 [a0] (.int (x - y) :: st) h Q := wp_p hc94 dX5_closes_75 rfl
theorem e94_76 : wp S d 94 76 [a0] (.int x :: .ref r :: st) h Q = am_iaK h r x (fun z => wp S d 94 77 [a0] (.int z :: st) h Q) := wp_ia hc94 dX5_closes_76
theorem e94_77 : wp S d 94 77 [a0] (.int x :: st) h Q = if x ≤ 0 then wp S d 94 82 [a0] st h Q else wp S d 94 80 [a0] st h Q := wp_le hc94 dX5_closes_77 rfl
theorem e94_80 : wp S d 94 80 [a0] st h Q = wp S d 94 81 [a0] (.int (nI 1) :: st) h Q := wp_p hc94 dX5_closes_80 rfl
theorem e94_81 : wp S d 94 81 ls [.int x] h Q = (narrow .boolean (.int x) = .int x ∧ Q (.inl (some (.int x)), h)) := wp_rI hc94 dX5_closes_81 rfl
theorem e94_82 : wp S d 94 82 [some (.ref r)] st h Q = wp S d 94 83 [some (.ref r)] (.ref r :: st) h Q := wp_p hc94 dX5_closes_82 rfl
theorem e94_83 : wp S d 94 83 [a0] (.ref r :: st) h Q = wp S d 94 84 [a0] (.ref r :: .ref r :: st) h Q := wp_p hc94 dX5_closes_83 rfl
theorem e94_83i : wp S d 94 83 [a0] (.int x :: st) h Q = wp S d 94 84 [a0] (.int x :: .int x :: st) h Q := wp_p hc94 dX5_closes_83 rfl
theorem e94_84 : wp S d 94 84 [a0] (.ref r :: st) h Q = am_gfK h r 5 9 (fun w => wp S d 94 87 [a0] (w :: st) h Q) := wp_gf hc94 dX5_closes_84 ho94 fl5_157
theorem e94_87 : wp S d 94 87 [a0] st h Q = wp S d 94 88 [a0] (.int (nI 1) :: st) h Q := wp_p hc94 dX5_closes_87 rfl
theorem e94_88 : wp S d 94 88 [a0] (.int y :: .int x :: st) h Q = wp S d 94 89 [a0] (.int (x - y) :: st) h Q := wp_p hc94 dX5_closes_88 rfl
theorem e94_89 : wp S d 94 89 [a0] (w :: .ref r :: st) h Q = am_pfK 94 h r 5 9 false w (fun h => wp S d 94 92 [a0] st h Q) := wp_pf hc94 dX5_closes_89 ho94 fl5_157
theorem e94_92 : wp S d 94 92 [a0] st h Q = wp S d 94 0 [a0] st h Q := wp_p hc94 dX5_closes_92 rfl
theorem e94_95 : wp S d 94 95 [a0] st h Q = wp S d 94 96 [a0] (.int (nI 1) :: st) h Q := wp_p hc94 dX5_closes_95 rfl
theorem e94_96 : wp S d 94 96 ls [.int x] h Q = (narrow .boolean (.int x) = .int x ∧ Q (.inl (some (.int x)), h)) := wp_rI hc94 dX5_closes_96 rfl
theorem e95_0 : wp S d 95 0 [some (.ref r), a1, a2, a3] st h Q = wp S d 95 1 [some (.ref r), a1, a2, a3] (.ref r :: st) h Q := wp_p hc95 dX5_migrate_0 rfl
theorem e95_1 : wp S (d + 1) 95 1 [a0, a1, a2, a3] (.ref r0 :: st) h Q = (am_w8 st ∧ am_rcv h 2 63 (.ref r0) = true ∧ wp S d 63 0 [some (.ref r0), none] [] h (am_kr S 2 (d + 1) 95 1 [a0, a1, a2, a3] st Q)) := wp_cV (.ref r0) [] hc95 dX5_migrate_1 ho95 cl5_59 (by decide) ns5_59 hst63 hnp63 hml63 hlsl63 rfl rfl rfl
theorem e95_4 : wp S d 95 4 [a0, a1, a2, a3] st h Q = wp S d 95 5 [a0, a1, a2, a3] (.int (nI 0) :: st) h Q := wp_p hc95 dX5_migrate_4 rfl
theorem e95_5 : wp S d 95 5 [a0, a1, a2, a3] (.int x :: st) h Q = wp S d 95 6 [a0, some (.int x), a2, a3] st h Q := wp_p hc95 dX5_migrate_5 rfl
theorem e95_6 : wp S d 95 6 [a0, some (.int x), a2, a3] st h Q = wp S d 95 7 [a0, some (.int x), a2, a3] (.int x :: st) h Q := wp_p hc95 dX5_migrate_6 rfl
theorem e95_7 : wp S d 95 7 [a0, a1, a2, a3] st h Q = wp S d 95 9 [a0, a1, a2, a3] (.int (nI 7) :: st) h Q := wp_p hc95 dX5_migrate_7 rfl
theorem e95_9 : wp S d 95 9 [a0, a1, a2, a3] (.int y :: .int x :: st) h Q = if y ≤ x then wp S d 95 29 [a0, a1, a2, a3] st h Q else wp S d 95 12 [a0, a1, a2, a3] st h Q := wp_ge hc95 dX5_migrate_9 rfl
theorem e95_12 : wp S d 95 12 [some (.ref r), a1, a2, a3] st h Q = wp S d 95 13 [some (.ref r), a1, a2, a3] (.ref r :: st) h Q := wp_p hc95 dX5_migrate_12 rfl
theorem e95_13 : wp S d 95 13 [a0, a1, a2, a3] (.ref r :: st) h Q = am_gfK h r 5 0 (fun w => wp S d 95 16 [a0, a1, a2, a3] (w :: st) h Q) := wp_gf hc95 dX5_migrate_13 ho95 fl5_7
theorem e95_16 : wp S d 95 16 [a0, a1, a2, a3] st h Q = wp S d 95 19 [a0, a1, a2, a3] (.int (nI 179) :: st) h Q := wp_p hc95 dX5_migrate_16 rfl
theorem e95_19 : wp S d 95 19 [a0, some (.int x), a2, a3] st h Q = wp S d 95 20 [a0, some (.int x), a2, a3] (.int x :: st) h Q := wp_p hc95 dX5_migrate_19 rfl
theorem e95_20 : wp S d 95 20 [a0, a1, a2, a3] (.int y :: .int x :: st) h Q = wp S d 95 21 [a0, a1, a2, a3] (.int (x + y) :: st) h Q := wp_p hc95 dX5_migrate_20 rfl
theorem e95_21 : wp S d 95 21 [a0, a1, a2, a3] st h Q = wp S d 95 22 [a0, a1, a2, a3] (.int (nI 0) :: st) h Q := wp_p hc95 dX5_migrate_21 rfl
theorem e95_22 : wp S d 95 22 [a0, a1, a2, a3] (.int y :: .int x :: .ref r :: st) h Q = am_isK h r x y (fun h => wp S d 95 23 [a0, a1, a2, a3] st h Q) := wp_is hc95 dX5_migrate_22
theorem e95_23 : wp S d 95 23 [a0, some (.int x), a2, a3] st h Q = wp S d 95 26 [a0, some (.int (x + nI 1)), a2, a3] st h Q := wp_p hc95 dX5_migrate_23 rfl
theorem e95_26 : wp S d 95 26 [a0, a1, a2, a3] st h Q = wp S d 95 6 [a0, a1, a2, a3] st h Q := wp_p hc95 dX5_migrate_26 rfl
theorem e95_29 : wp S d 95 29 [some (.ref r), a1, a2, a3] st h Q = wp S d 95 30 [some (.ref r), a1, a2, a3] (.ref r :: st) h Q := wp_p hc95 dX5_migrate_29 rfl
theorem e95_30 : wp S d 95 30 [some (.ref r), a1, a2, a3] st h Q = wp S d 95 31 [some (.ref r), a1, a2, a3] (.ref r :: st) h Q := wp_p hc95 dX5_migrate_30 rfl
theorem e95_31 : wp S d 95 31 [a0, a1, a2, a3] (.ref r :: st) h Q = am_gfK h r 5 0 (fun w => wp S d 95 34 [a0, a1, a2, a3] (w :: st) h Q) := wp_gf hc95 dX5_migrate_31 ho95 fl5_7
theorem e95_34 : wp S d 95 34 [a0, a1, a2, a3] st h Q = wp S d 95 37 [a0, a1, a2, a3] (.int (nI 148) :: st) h Q := wp_p hc95 dX5_migrate_34 rfl
theorem e95_37 : wp S d 95 37 [a0, a1, a2, a3] (.int x :: .ref r :: st) h Q = am_iaK h r x (fun z => wp S d 95 38 [a0, a1, a2, a3] (.int z :: st) h Q) := wp_ia hc95 dX5_migrate_37
theorem e95_38 : wp S d 95 38 [a0, a1, a2, a3] (w :: .ref r :: st) h Q = am_pfK 95 h r 5 19 false w (fun h => wp S d 95 41 [a0, a1, a2, a3] st h Q) := wp_pf hc95 dX5_migrate_38 ho95 fl5_185
theorem e95_41 : wp S d 95 41 [some (.ref r), a1, a2, a3] st h Q = wp S d 95 42 [some (.ref r), a1, a2, a3] (.ref r :: st) h Q := wp_p hc95 dX5_migrate_41 rfl
theorem e95_42 : wp S d 95 42 [a0, a1, a2, a3] st h Q = wp S d 95 43 [a0, a1, a2, a3] (.int (nI 0) :: st) h Q := wp_p hc95 dX5_migrate_42 rfl
theorem e95_43 : wp S d 95 43 [a0, a1, a2, a3] (w :: .ref r :: st) h Q = am_pfK 95 h r 5 12 false w (fun h => wp S d 95 46 [a0, a1, a2, a3] st h Q) := wp_pf hc95 dX5_migrate_43 ho95 fl5_173
theorem e95_46 : wp S d 95 46 [some (.ref r), a1, a2, a3] st h Q = wp S d 95 47 [some (.ref r), a1, a2, a3] (.ref r :: st) h Q := wp_p hc95 dX5_migrate_46 rfl
theorem e95_47 : wp S d 95 47 [a0, a1, a2, a3] st h Q = wp S d 95 48 [a0, a1, a2, a3] (.int (nI 0) :: st) h Q := wp_p hc95 dX5_migrate_47 rfl
theorem e95_48 : wp S d 95 48 [a0, a1, a2, a3] (w :: .ref r :: st) h Q = am_pfK 95 h r 5 14 false w (fun h => wp S d 95 51 [a0, a1, a2, a3] st h Q) := wp_pf hc95 dX5_migrate_48 ho95 fl5_170
theorem e95_51 : wp S d 95 51 [some (.ref r), a1, a2, a3] st h Q = wp S d 95 52 [some (.ref r), a1, a2, a3] (.ref r :: st) h Q := wp_p hc95 dX5_migrate_51 rfl
theorem e95_52 : wp S d 95 52 [a0, a1, a2, a3] (.ref r :: st) h Q = am_gfK h r 5 13 (fun w => wp S d 95 55 [a0, a1, a2, a3] (w :: st) h Q) := wp_gf hc95 dX5_migrate_52 ho95 fl5_31
theorem e95_55 : wp S d 95 55 [a0, a1, a2, a3] st h Q = wp S d 95 56 [a0, a1, a2, a3] (.int (nI 0) :: st) h Q := wp_p hc95 dX5_migrate_55 rfl
theorem e95_56 : wp S d 95 56 [a0, a1, a2, a3] st h Q = wp S d 95 57 [a0, a1, a2, a3] (.int (nI 0) :: st) h Q := wp_p hc95 dX5_migrate_56 rfl
theorem e95_57 : wp S d 95 57 [a0, a1, a2, a3] (.int y :: .int x :: .ref r :: st) h Q = am_isK h r x y (fun h => wp S d 95 58 [a0, a1, a2, a3] st h Q) := wp_is hc95 dX5_migrate_57
theorem e95_58 : wp S d 95 58 [some (.ref r), a1, a2, a3] st h Q = wp S d 95 59 [some (.ref r), a1, a2, a3] (.ref r :: st) h Q := wp_p hc95 dX5_migrate_58 rfl
theorem e95_59 : wp S d 95 59 [a0, a1, a2, a3] st h Q = wp S d 95 60 [a0, a1, a2, a3] (.int (nI 0) :: st) h Q := wp_p hc95 dX5_migrate_59 rfl
theorem e95_60 : wp S d 95 60 [a0, a1, a2, a3] (w :: .ref r :: st) h Q = am_pfK 95 h r 5 18 false w (fun h => wp S d 95 63 [a0, a1, a2, a3] st h Q) := wp_pf hc95 dX5_migrate_60 ho95 fl5_207
theorem e95_63 : wp S d 95 63 [a0, a1, a2, a3] st h Q = wp S d 95 64 [a0, a1, a2, a3] (.int (nI 0) :: st) h Q := wp_p hc95 dX5_migrate_63 rfl
theorem e95_64 : wp S d 95 64 [a0, a1, a2, a3] (.int x :: st) h Q = wp S d 95 65 [a0, some (.int x), a2, a3] st h Q := wp_p hc95 dX5_migrate_64 rfl
theorem e95_65 : wp S d 95 65 [a0, a1, a2, a3] st h Q = wp S d 95 66 [a0, a1, a2, a3] (.int (nI 0) :: st) h Q := wp_p hc95 dX5_migrate_65 rfl
theorem e95_66 : wp S d 95 66 [a0, a1, a2, a3] (.int x :: st) h Q = wp S d 95 67 [a0, a1, some (.int x), a3] st h Q := wp_p hc95 dX5_migrate_66 rfl
theorem e95_67 : wp S d 95 67 [a0, a1, some (.int x), a3] st h Q = wp S d 95 68 [a0, a1, some (.int x), a3] (.int x :: st) h Q := wp_p hc95 dX5_migrate_67 rfl
theorem e95_68 : wp S d 95 68 [some (.ref r), a1, a2, a3] st h Q = wp S d 95 69 [some (.ref r), a1, a2, a3] (.ref r :: st) h Q := wp_p hc95 dX5_migrate_68 rfl
theorem e95_69 : wp S d 95 69 [a0, a1, a2, a3] (.ref r :: st) h Q = am_gfK h r 5 0 (fun w => wp S d 95 72 [a0, a1, a2, a3] (w :: st) h Q) := wp_gf hc95 dX5_migrate_69 ho95 fl5_7
theorem e95_72 : wp S d 95 72 [a0, a1, a2, a3] st h Q = wp S d 95 75 [a0, a1, a2, a3] (.int (nI 148) :: st) h Q := wp_p hc95 dX5_migrate_72 rfl
theorem e95_75 : wp S d 95 75 [a0, a1, a2, a3] (.int x :: .ref r :: st) h Q = am_iaK h r x (fun z => wp S d 95 76 [a0, a1, a2, a3] (.int z :: st) h Q) := wp_ia hc95 dX5_migrate_75
theorem e95_76 : wp S d 95 76 [a0, a1, a2, a3] (.int y :: .int x :: st) h Q = if y ≤ x then wp S d 95 154 [a0, a1, a2, a3] st h Q else wp S d 95 79 [a0, a1, a2, a3] st h Q := wp_ge hc95 dX5_migrate_76 rfl
theorem e95_79 : wp S d 95 79 [some (.ref r), a1, a2, a3] st h Q = wp S d 95 80 [some (.ref r), a1, a2, a3] (.ref r :: st) h Q := wp_p hc95 dX5_migrate_79 rfl
theorem e95_80 : wp S d 95 80 [a0, a1, a2, a3] (.ref r :: st) h Q = am_gfK h r 5 0 (fun w => wp S d 95 83 [a0, a1, a2, a3] (w :: st) h Q) := wp_gf hc95 dX5_migrate_80 ho95 fl5_7
theorem e95_83 : wp S d 95 83 [a0, a1, a2, a3] st h Q = wp S d 95 86 [a0, a1, a2, a3] (.int (nI 149) :: st) h Q := wp_p hc95 dX5_migrate_83 rfl
theorem e95_86 : wp S d 95 86 [a0, a1, some (.int x), a3] st h Q = wp S d 95 87 [a0, a1, some (.int x), a3] (.int x :: st) h Q := wp_p hc95 dX5_migrate_86 rfl
theorem e95_87 : wp S d 95 87 [a0, a1, a2, a3] (.int y :: .int x :: st) h Q = wp S d 95 88 [a0, a1, a2, a3] (.int (x + y) :: st) h Q := wp_p hc95 dX5_migrate_87 rfl
theorem e95_88 : wp S d 95 88 [a0, a1, a2, a3] (.int x :: .ref r :: st) h Q = am_iaK h r x (fun z => wp S d 95 89 [a0, a1, a2, a3] (.int z :: st) h Q) := wp_ia hc95 dX5_migrate_88
theorem e95_89 : wp S d 95 89 [a0, a1, a2, a3] (.int x :: st) h Q = wp S d 95 90 [a0, a1, a2, some (.int x)] st h Q := wp_p hc95 dX5_migrate_89 rfl
theorem e95_90 : wp S d 95 90 [a0, a1, a2, some (.int x)] st h Q = wp S d 95 91 [a0, a1, a2, some (.int x)] (.int x :: st) h Q := wp_p hc95 dX5_migrate_90 rfl
theorem e95_91 : wp S (d + 1) 95 91 [a0, a1, a2, a3] (.int x1 :: st) h Q = (am_w8 st ∧ wp S d 96 0 [some (.int x1)] [] h (am_kr S 0 (d + 1) 95 91 [a0, a1, a2, a3] st Q)) := wp_cS [.int x1] hc95 dX5_migrate_91 ho95 cl5_167 (by decide) ns5_167 hst96 hnp96 hml96 hlsl96 rfl rfl rfl
theorem e95_94 : wp S d 95 94 [a0, a1, a2, a3] (.int x :: st) h Q = if x ≤ 0 then wp S d 95 133 [a0, a1, a2, a3] st h Q else wp S d 95 97 [a0, a1, a2, a3] st h Q := wp_le hc95 dX5_migrate_94 rfl
theorem e95_97 : wp S d 95 97 [some (.ref r), a1, a2, a3] st h Q = wp S d 95 98 [some (.ref r), a1, a2, a3] (.ref r :: st) h Q := wp_p hc95 dX5_migrate_97 rfl
theorem e95_98 : wp S d 95 98 [a0, a1, a2, a3] (.ref r :: st) h Q = am_gfK h r 5 16 (fun w => wp S d 95 101 [a0, a1, a2, a3] (w :: st) h Q) := wp_gf hc95 dX5_migrate_98 ho95 fl5_37
theorem e95_101 : wp S d 95 101 [some (.ref r), a1, a2, a3] st h Q = wp S d 95 102 [some (.ref r), a1, a2, a3] (.ref r :: st) h Q := wp_p hc95 dX5_migrate_101 rfl
theorem e95_102 : wp S d 95 102 [a0, a1, a2, a3] (.ref r :: st) h Q = am_gfK h r 5 18 (fun w => wp S d 95 105 [a0, a1, a2, a3] (w :: st) h Q) := wp_gf hc95 dX5_migrate_102 ho95 fl5_207
theorem e95_105 : wp S d 95 105 [a0, a1, a2, some (.int x)] st h Q = wp S d 95 106 [a0, a1, a2, some (.int x)] (.int x :: st) h Q := wp_p hc95 dX5_migrate_105 rfl
theorem e95_106 : wp S d 95 106 [a0, a1, a2, a3] (.int y :: .int x :: .ref r :: st) h Q = am_isK h r x y (fun h => wp S d 95 107 [a0, a1, a2, a3] st h Q) := wp_is hc95 dX5_migrate_106
theorem e95_107 : wp S d 95 107 [some (.ref r), a1, a2, a3] st h Q = wp S d 95 108 [some (.ref r), a1, a2, a3] (.ref r :: st) h Q := wp_p hc95 dX5_migrate_107 rfl
theorem e95_108 : wp S d 95 108 [a0, a1, a2, a3] (.ref r :: st) h Q = am_gfK h r 5 17 (fun w => wp S d 95 111 [a0, a1, a2, a3] (w :: st) h Q) := wp_gf hc95 dX5_migrate_108 ho95 fl5_40
theorem e95_111 : wp S d 95 111 [some (.ref r), a1, a2, a3] st h Q = wp S d 95 112 [some (.ref r), a1, a2, a3] (.ref r :: st) h Q := wp_p hc95 dX5_migrate_111 rfl
theorem e95_112 : wp S d 95 112 [a0, a1, a2, a3] (.ref r :: st) h Q = am_gfK h r 5 18 (fun w => wp S d 95 115 [a0, a1, a2, a3] (w :: st) h Q) := wp_gf hc95 dX5_migrate_112 ho95 fl5_207
theorem e95_115 : wp S d 95 115 [a0, a1, a2, some (.int x)] st h Q = wp S d 95 116 [a0, a1, a2, some (.int x)] (.int x :: st) h Q := wp_p hc95 dX5_migrate_115 rfl
theorem e95_116 : wp S (d + 1) 95 116 [a0, a1, a2, a3] (.int x1 :: st) h Q = (am_w8 st ∧ wp S d 96 0 [some (.int x1)] [] h (am_kr S 0 (d + 1) 95 116 [a0, a1, a2, a3] st Q)) := wp_cS [.int x1] hc95 dX5_migrate_116 ho95 cl5_167 (by decide) ns5_167 hst96 hnp96 hml96 hlsl96 rfl rfl rfl
theorem e95_119 : wp S d 95 119 [a0, a1, a2, a3] (.int y :: .int x :: .ref r :: st) h Q = am_isK h r x y (fun h => wp S d 95 120 [a0, a1, a2, a3] st h Q) := wp_is hc95 dX5_migrate_119
theorem e95_120 : wp S d 95 120 [some (.ref r), a1, a2, a3] st h Q = wp S d 95 121 [some (.ref r), a1, a2, a3] (.ref r :: st) h Q := wp_p hc95 dX5_migrate_120 rfl
theorem e95_121 : wp S d 95 121 [a0, a1, a2, a3] (.ref r :: st) h Q = wp S d 95 122 [a0, a1, a2, a3] (.ref r :: .ref r :: st) h Q := wp_p hc95 dX5_migrate_121 rfl
theorem e95_121i : wp S d 95 121 [a0, a1, a2, a3] (.int x :: st) h Q = wp S d 95 122 [a0, a1, a2, a3] (.int x :: .int x :: st) h Q := wp_p hc95 dX5_migrate_121 rfl
theorem e95_122 : wp S d 95 122 [a0, a1, a2, a3] (.ref r :: st) h Q = am_gfK h r 5 18 (fun w => wp S d 95 125 [a0, a1, a2, a3] (w :: st) h Q) := wp_gf hc95 dX5_migrate_122 ho95 fl5_207
theorem e95_125 : wp S d 95 125 [a0, a1, a2, a3] st h Q = wp S d 95 126 [a0, a1, a2, a3] (.int (nI 1) :: st) h Q := wp_p hc95 dX5_migrate_125 rfl
theorem e95_126 : wp S d 95 126 [a0, a1, a2, a3] (.int y :: .int x :: st) h Q = wp S d 95 127 [a0, a1, a2, a3] (.int (x + y) :: st) h Q := wp_p hc95 dX5_migrate_126 rfl
theorem e95_127 : wp S d 95 127 [a0, a1, a2, a3] (w :: .ref r :: st) h Q = am_pfK 95 h r 5 18 false w (fun h => wp S d 95 130 [a0, a1, a2, a3] st h Q) := wp_pf hc95 dX5_migrate_127 ho95 fl5_207
theorem e95_130 : wp S d 95 130 [a0, a1, a2, a3] st h Q = wp S d 95 148 [a0, a1, a2, a3] st h Q := wp_p hc95 dX5_migrate_130 rfl
theorem e95_133 : wp S d 95 133 [a0, some (.int x), a2, a3] st h Q = wp S d 95 134 [a0, some (.int x), a2, a3] (.int x :: st) h Q := wp_p hc95 dX5_migrate_133 rfl
theorem e95_134 : wp S d 95 134 [some (.ref r), a1, a2, a3] st h Q = wp S d 95 135 [some (.ref r), a1, a2, a3] (.ref r :: st) h Q := wp_p hc95 dX5_migrate_134 rfl
theorem e95_135 : wp S d 95 135 [a0, a1, a2, some (.int x)] st h Q = wp S d 95 136 [a0, a1, a2, some (.int x)] (.int x :: st) h Q := wp_p hc95 dX5_migrate_135 rfl
theorem e95_136 : wp S (d + 1) 95 136 [a0, a1, a2, a3] (.int x1 :: .ref r0 :: st) h Q = (am_w8 st ∧ am_rcv h 2 97 (.ref r0) = true ∧ wp S d 97 0 [some (.ref r0), some (.int x1)] [] h (am_kr S 2 (d + 1) 95 136 [a0, a1, a2, a3] st Q)) := wp_cV (.ref r0) [.int x1] hc95 dX5_migrate_136 ho95 cl5_210 (by decide) ns5_210 hst97 hnp97 hml97 hlsl97 rfl rfl rfl
theorem e95_139 : wp S d 95 139 [a0, a1, a2, a3] (.int y :: .int x :: st) h Q = wp S d 95 140 [a0, a1, a2, a3] (.int (x + y) :: st) h Q := wp_p hc95 dX5_migrate_139 rfl
theorem e95_140 : wp S d 95 140 [a0, a1, a2, a3] (.int x :: st) h Q = wp S d 95 141 [a0, some (.int x), a2, a3] st h Q := wp_p hc95 dX5_migrate_140 rfl
theorem e95_141 : wp S d 95 141 [a0, some (.int x), a2, a3] st h Q = wp S d 95 142 [a0, some (.int x), a2, a3] (.int x :: st) h Q := wp_p hc95 dX5_migrate_141 rfl
theorem e95_142 : wp S d 95 142 [some (.ref r), a1, a2, a3] st h Q = wp S d 95 143 [some (.ref r), a1, a2, a3] (.ref r :: st) h Q := wp_p hc95 dX5_migrate_142 rfl
theorem e95_143 : wp S (d + 1) 95 143 [a0, a1, a2, a3] (.ref r0 :: st) h Q = (am_w8 st ∧ am_rcv h 2 108 (.ref r0) = true ∧ wp S d 108 0 [some (.ref r0), none, none] [] h (am_kr S 2 (d + 1) 95 143 [a0, a1, a2, a3] st Q)) := wp_cV (.ref r0) [] hc95 dX5_migrate_143 ho95 cl5_213 (by decide) ns5_213 hst108 hnp108 hml108 hlsl108 rfl rfl rfl
theorem e95_146 : wp S d 95 146 [a0, a1, a2, a3] (.int y :: .int x :: st) h Q = wp S d 95 147 [a0, a1, a2, a3] (.int (x + y) :: st) h Q := wp_p hc95 dX5_migrate_146 rfl
theorem e95_147 : wp S d 95 147 [a0, a1, a2, a3] (.int x :: st) h Q = wp S d 95 148 [a0, some (.int x), a2, a3] st h Q := wp_p hc95 dX5_migrate_147 rfl
theorem e95_148 : wp S d 95 148 [a0, a1, some (.int x), a3] st h Q = wp S d 95 151 [a0, a1, some (.int (x + nI 1)), a3] st h Q := wp_p hc95 dX5_migrate_148 rfl
theorem e95_151 : wp S d 95 151 [a0, a1, a2, a3] st h Q = wp S d 95 67 [a0, a1, a2, a3] st h Q := wp_p hc95 dX5_migrate_151 rfl
theorem e95_154 : wp S d 95 154 [a0, a1, a2, a3] st h Q = wp S d 95 155 [a0, a1, a2, a3] (.int (nI 0) :: st) h Q := wp_p hc95 dX5_migrate_154 rfl
theorem e95_155 : wp S d 95 155 [a0, a1, a2, a3] (.int x :: st) h Q = wp S d 95 156 [a0, a1, some (.int x), a3] st h Q := wp_p hc95 dX5_migrate_155 rfl
theorem e95_156 : wp S d 95 156 [a0, a1, some (.int x), a3] st h Q = wp S d 95 157 [a0, a1, some (.int x), a3] (.int x :: st) h Q := wp_p hc95 dX5_migrate_156 rfl
theorem e95_157 : wp S d 95 157 [some (.ref r), a1, a2, a3] st h Q = wp S d 95 158 [some (.ref r), a1, a2, a3] (.ref r :: st) h Q := wp_p hc95 dX5_migrate_157 rfl
theorem e95_158 : wp S d 95 158 [a0, a1, a2, a3] (.ref r :: st) h Q = am_gfK h r 5 12 (fun w => wp S d 95 161 [a0, a1, a2, a3] (w :: st) h Q) := wp_gf hc95 dX5_migrate_158 ho95 fl5_173
theorem e95_161 : wp S d 95 161 [a0, a1, a2, a3] (.int y :: .int x :: st) h Q = if y ≤ x then wp S d 95 186 [a0, a1, a2, a3] st h Q else wp S d 95 164 [a0, a1, a2, a3] st h Q := wp_ge hc95 dX5_migrate_161 rfl
theorem e95_164 : wp S d 95 164 [some (.ref r), a1, a2, a3] st h Q = wp S d 95 165 [some (.ref r), a1, a2, a3] (.ref r :: st) h Q := wp_p hc95 dX5_migrate_164 rfl
theorem e95_165 : wp S d 95 165 [a0, a1, a2, a3] (.ref r :: st) h Q = am_gfK h r 5 0 (fun w => wp S d 95 168 [a0, a1, a2, a3] (w :: st) h Q) := wp_gf hc95 dX5_migrate_165 ho95 fl5_7
theorem e95_168 : wp S d 95 168 [a0, a1, a2, a3] st h Q = wp S d 95 171 [a0, a1, a2, a3] (.int (nI 149) :: st) h Q := wp_p hc95 dX5_migrate_168 rfl
theorem e95_171 : wp S d 95 171 [a0, a1, some (.int x), a3] st h Q = wp S d 95 172 [a0, a1, some (.int x), a3] (.int x :: st) h Q := wp_p hc95 dX5_migrate_171 rfl
theorem e95_172 : wp S d 95 172 [a0, a1, a2, a3] (.int y :: .int x :: st) h Q = wp S d 95 173 [a0, a1, a2, a3] (.int (x + y) :: st) h Q := wp_p hc95 dX5_migrate_172 rfl
theorem e95_173 : wp S d 95 173 [some (.ref r), a1, a2, a3] st h Q = wp S d 95 174 [some (.ref r), a1, a2, a3] (.ref r :: st) h Q := wp_p hc95 dX5_migrate_173 rfl
theorem e95_174 : wp S d 95 174 [a0, a1, a2, a3] (.ref r :: st) h Q = am_gfK h r 5 11 (fun w => wp S d 95 177 [a0, a1, a2, a3] (w :: st) h Q) := wp_gf hc95 dX5_migrate_174 ho95 fl5_28
theorem e95_177 : wp S d 95 177 [a0, a1, some (.int x), a3] st h Q = wp S d 95 178 [a0, a1, some (.int x), a3] (.int x :: st) h Q := wp_p hc95 dX5_migrate_177 rfl
theorem e95_178 : wp S d 95 178 [a0, a1, a2, a3] (.int x :: .ref r :: st) h Q = am_iaK h r x (fun z => wp S d 95 179 [a0, a1, a2, a3] (.int z :: st) h Q) := wp_ia hc95 dX5_migrate_178
theorem e95_179 : wp S d 95 179 [a0, a1, a2, a3] (.int y :: .int x :: .ref r :: st) h Q = am_isK h r x y (fun h => wp S d 95 180 [a0, a1, a2, a3] st h Q) := wp_is hc95 dX5_migrate_179
theorem e95_180 : wp S d 95 180 [a0, a1, some (.int x), a3] st h Q = wp S d 95 183 [a0, a1, some (.int (x + nI 1)), a3] st h Q := wp_p hc95 dX5_migrate_180 rfl
theorem e95_183 : wp S d 95 183 [a0, a1, a2, a3] st h Q = wp S d 95 156 [a0, a1, a2, a3] st h Q := wp_p hc95 dX5_migrate_183 rfl
theorem e95_186 : wp S d 95 186 [some (.ref r), a1, a2, a3] st h Q = wp S d 95 187 [some (.ref r), a1, a2, a3] (.ref r :: st) h Q := wp_p hc95 dX5_migrate_186 rfl
theorem e95_187 : wp S d 95 187 [a0, a1, a2, a3] (.ref r :: st) h Q = am_gfK h r 5 0 (fun w => wp S d 95 190 [a0, a1, a2, a3] (w :: st) h Q) := wp_gf hc95 dX5_migrate_187 ho95 fl5_7
theorem e95_190 : wp S d 95 190 [a0, a1, a2, a3] st h Q = wp S d 95 193 [a0, a1, a2, a3] (.int (nI 148) :: st) h Q := wp_p hc95 dX5_migrate_190 rfl
theorem e95_193 : wp S d 95 193 [some (.ref r), a1, a2, a3] st h Q = wp S d 95 194 [some (.ref r), a1, a2, a3] (.ref r :: st) h Q := wp_p hc95 dX5_migrate_193 rfl
theorem e95_194 : wp S d 95 194 [a0, a1, a2, a3] (.ref r :: st) h Q = am_gfK h r 5 12 (fun w => wp S d 95 197 [a0, a1, a2, a3] (w :: st) h Q) := wp_gf hc95 dX5_migrate_194 ho95 fl5_173
theorem e95_197 : wp S d 95 197 [a0, a1, a2, a3] (.int y :: .int x :: .ref r :: st) h Q = am_isK h r x y (fun h => wp S d 95 198 [a0, a1, a2, a3] st h Q) := wp_is hc95 dX5_migrate_197
theorem e95_198 : wp S d 95 198 [a0, some (.int x), a2, a3] st h Q = wp S d 95 199 [a0, some (.int x), a2, a3] (.int x :: st) h Q := wp_p hc95 dX5_migrate_198 rfl
theorem e95_199 : wp S d 95 199 ls [.int x] h Q = Q (.inl (some (.int x)), h) := wp_r hc95 dX5_migrate_199 rfl rfl ⟨x, _, rfl, rfl, rfl, rfl⟩
theorem e96_0 : wp S d 96 0 [some (.int x)] st h Q = wp S d 96 1 [some (.int x)] (.int x :: st) h Q := wp_p hc96 dX5_arguments_0 rfl
theorem e96_1 : wp S d 96 1 [a0] st h Q = wp S d 96 3 [a0] (.int (nI 10) :: st) h Q := wp_p hc96 dX5_arguments_1 rfl
theorem e96_3 : wp S d 96 3 [a0] (.int y :: .int x :: st) h Q = (¬ y = 0 ∧ wp S d 96 4 [a0] (.int (x - x / y * y) :: st) h Q) := wp_ir hc96 dX5_arguments_3
theorem e96_4 : wp S d 96 4 ls [.int x] h Q = Q (.inl (some (.int x)), h) := wp_r hc96 dX5_arguments_4 rfl rfl ⟨x, _, rfl, rfl, rfl, rfl⟩
theorem e97_0 : wp S d 97 0 [some (.ref r), a1] st h Q = wp S d 97 1 [some (.ref r), a1] (.ref r :: st) h Q := wp_p hc97 dX5_treatsLeaf_0 rfl
theorem e97_1 : wp S d 97 1 [a0, some (.int x)] st h Q = wp S d 97 2 [a0, some (.int x)] (.int x :: st) h Q := wp_p hc97 dX5_treatsLeaf_1 rfl
theorem e97_2 : wp S (d + 1) 97 2 [a0, a1] (.int x1 :: .ref r0 :: st) h Q = (am_w8 st ∧ am_rcv h 2 98 (.ref r0) = true ∧ wp S d 98 0 [some (.ref r0), some (.int x1), none, none, none, none] [] h (am_kr S 2 (d + 1) 97 2 [a0, a1] st Q)) := wp_cV (.ref r0) [.int x1] hc97 dX5_treatsLeaf_2 ho97 cl5_217 (by decide) ns5_217 hst98 hnp98 hml98 hlsl98 rfl rfl rfl
theorem e97_5 : wp S d 97 5 ls [.int x] h Q = Q (.inl (some (.int x)), h) := wp_r hc97 dX5_treatsLeaf_5 rfl rfl ⟨x, _, rfl, rfl, rfl, rfl⟩
theorem e98_0 : wp S d 98 0 [a0, some (.int x), a2, a3, a4, a5] st h Q = wp S d 98 1 [a0, some (.int x), a2, a3, a4, a5] (.int x :: st) h Q := wp_p hc98 dX5_treats_0 rfl
theorem e98_1 : wp S (d + 1) 98 1 [a0, a1, a2, a3, a4, a5] (.int x1 :: st) h Q = (am_w8 st ∧ wp S d 93 0 [some (.int x1)] [] h (am_kr S 0 (d + 1) 98 1 [a0, a1, a2, a3, a4, a5] st Q)) := wp_cS [.int x1] hc98 dX5_treats_1 ho98 cl5_114 (by decide) ns5_114 hst93 hnp93 hml93 hlsl93 rfl rfl rfl
theorem e98_4 : wp S d 98 4 [a0, a1, a2, a3, a4, a5] (.int x :: st) h Q = wp S d 98 5 [a0, a1, some (.int x), a3, a4, a5] st h Q := wp_p hc98 dX5_treats_4 rfl
theorem e98_5 : wp S d 98 5 [a0, some (.int x), a2, a3, a4, a5] st h Q = wp S d 98 6 [a0, some (.int x), a2, a3, a4, a5] (.int x :: st) h Q := wp_p hc98 dX5_treats_5 rfl
theorem e98_6 : wp S (d + 1) 98 6 [a0, a1, a2, a3, a4, a5] (.int x1 :: st) h Q = (am_w8 st ∧ wp S d 91 0 [some (.int x1)] [] h (am_kr S 0 (d + 1) 98 6 [a0, a1, a2, a3, a4, a5] st Q)) := wp_cS [.int x1] hc98 dX5_treats_6 ho98 cl5_111 (by decide) ns5_111 hst91 hnp91 hml91 hlsl91 rfl rfl rfl
theorem e98_9 : wp S d 98 9 [a0, a1, a2, a3, a4, a5] st h Q = wp S d 98 10 [a0, a1, a2, a3, a4, a5] (.int (nI 3) :: st) h Q := wp_p hc98 dX5_treats_9 rfl
theorem e98_10 : wp S d 98 10 [a0, a1, a2, a3, a4, a5] (.int y :: .int x :: st) h Q = if x = y then wp S d 98 20 [a0, a1, a2, a3, a4, a5] st h Q else wp S d 98 13 [a0, a1, a2, a3, a4, a5] st h Q := wp_eq hc98 dX5_treats_10 rfl
theorem e98_13 : wp S d 98 13 [some (.ref r), a1, a2, a3, a4, a5] st h Q = wp S d 98 14 [some (.ref r), a1, a2, a3, a4, a5] (.ref r :: st) h Q := wp_p hc98 dX5_treats_13 rfl
theorem e98_14 : wp S d 98 14 [a0, some (.int x), a2, a3, a4, a5] st h Q = wp S d 98 15 [a0, some (.int x), a2, a3, a4, a5] (.int x :: st) h Q := wp_p hc98 dX5_treats_14 rfl
theorem e98_15 : wp S (d + 1) 98 15 [a0, a1, a2, a3, a4, a5] (.int x1 :: .ref r0 :: st) h Q = (am_w8 st ∧ am_rcv h 2 99 (.ref r0) = true ∧ wp S d 99 0 [some (.ref r0), some (.int x1), none, none, none] [] h (am_kr S 2 (d + 1) 98 15 [a0, a1, a2, a3, a4, a5] st Q)) := wp_cV (.ref r0) [.int x1] hc98 dX5_treats_15 ho98 cl5_194 (by decide) ns5_194 hst99 hnp99 hml99 hlsl99 rfl rfl rfl
theorem e98_18 : wp S d 98 18 [a0, a1, a2, a3, a4, a5] st h Q = wp S d 98 19 [a0, a1, a2, a3, a4, a5] (.int (nI 0) :: st) h Q := wp_p hc98 dX5_treats_18 rfl
theorem e98_19 : wp S d 98 19 ls [.int x] h Q = Q (.inl (some (.int x)), h) := wp_r hc98 dX5_treats_19 rfl rfl ⟨x, _, rfl, rfl, rfl, rfl⟩
theorem e98_20 : wp S d 98 20 [a0, a1, a2, a3, a4, a5] st h Q = wp S d 98 21 [a0, a1, a2, a3, a4, a5] (.int (nI 1) :: st) h Q := wp_p hc98 dX5_treats_20 rfl
theorem e98_21 : wp S d 98 21 [a0, a1, a2, a3, a4, a5] (.int x :: st) h Q = wp S d 98 22 [a0, a1, a2, some (.int x), a4, a5] st h Q := wp_p hc98 dX5_treats_21 rfl
theorem e98_22 : wp S d 98 22 [a0, some (.int x), a2, a3, a4, a5] st h Q = wp S d 98 23 [a0, some (.int x), a2, a3, a4, a5] (.int x :: st) h Q := wp_p hc98 dX5_treats_22 rfl
theorem e98_23 : wp S (d + 1) 98 23 [a0, a1, a2, a3, a4, a5] (.int x1 :: st) h Q = (am_w8 st ∧ wp S d 96 0 [some (.int x1)] [] h (am_kr S 0 (d + 1) 98 23 [a0, a1, a2, a3, a4, a5] st Q)) := wp_cS [.int x1] hc98 dX5_treats_23 ho98 cl5_167 (by decide) ns5_167 hst96 hnp96 hml96 hlsl96 rfl rfl rfl
theorem e98_26 : wp S d 98 26 [some (.ref r), a1, a2, a3, a4, a5] st h Q = wp S d 98 27 [some (.ref r), a1, a2, a3, a4, a5] (.ref r :: st) h Q := wp_p hc98 dX5_treats_26 rfl
theorem e98_27 : wp S d 98 27 [a0, a1, a2, a3, a4, a5] (.ref r :: st) h Q = am_gfK h r 5 0 (fun w => wp S d 98 30 [a0, a1, a2, a3, a4, a5] (w :: st) h Q) := wp_gf hc98 dX5_treats_27 ho98 fl5_7
theorem e98_30 : wp S d 98 30 [a0, a1, a2, a3, a4, a5] st h Q = wp S d 98 31 [a0, a1, a2, a3, a4, a5] (.int (nI 0) :: st) h Q := wp_p hc98 dX5_treats_30 rfl
theorem e98_31 : wp S d 98 31 [a0, a1, a2, a3, a4, a5] st h Q = wp S d 98 33 [a0, a1, a2, a3, a4, a5] (.int (nI 7) :: st) h Q := wp_p hc98 dX5_treats_31 rfl
theorem e98_33 : wp S d 98 33 [a0, a1, some (.int x), a3, a4, a5] st h Q = wp S d 98 34 [a0, a1, some (.int x), a3, a4, a5] (.int x :: st) h Q := wp_p hc98 dX5_treats_33 rfl
theorem e98_34 : wp S d 98 34 [a0, a1, a2, a3, a4, a5] (.int y :: .int x :: st) h Q = wp S d 98 35 [a0, a1, a2, a3, a4, a5] (.int (x * y) :: st) h Q := wp_p hc98 dX5_treats_34 rfl
theorem e98_35 : wp S d 98 35 [a0, a1, a2, a3, a4, a5] (.int y :: .int x :: st) h Q = wp S d 98 36 [a0, a1, a2, a3, a4, a5] (.int (x + y) :: st) h Q := wp_p hc98 dX5_treats_35 rfl
theorem e98_36 : wp S d 98 36 [a0, a1, a2, a3, a4, a5] st h Q = wp S d 98 37 [a0, a1, a2, a3, a4, a5] (.int (nI 0) :: st) h Q := wp_p hc98 dX5_treats_36 rfl
theorem e98_37 : wp S d 98 37 [a0, a1, a2, a3, a4, a5] (.int y :: .int x :: st) h Q = wp S d 98 38 [a0, a1, a2, a3, a4, a5] (.int (x + y) :: st) h Q := wp_p hc98 dX5_treats_37 rfl
theorem e98_38 : wp S d 98 38 [a0, a1, a2, a3, a4, a5] (.int x :: .ref r :: st) h Q = am_iaK h r x (fun z => wp S d 98 39 [a0, a1, a2, a3, a4, a5] (.int z :: st) h Q) := wp_ia hc98 dX5_treats_38
theorem e98_39 : wp S d 98 39 [a0, a1, a2, a3, a4, a5] (.int y :: .int x :: st) h Q = if x = y then wp S d 98 42 [a0, a1, a2, a3, a4, a5] st h Q else wp S d 98 131 [a0, a1, a2, a3, a4, a5] st h Q := wp_ne hc98 dX5_treats_39 rfl
theorem e98_42 : wp S d 98 42 [some (.ref r), a1, a2, a3, a4, a5] st h Q = wp S d 98 43 [some (.ref r), a1, a2, a3, a4, a5] (.ref r :: st) h Q := wp_p hc98 dX5_treats_42 rfl
theorem e98_43 : wp S d 98 43 [a0, a1, some (.int x), a3, a4, a5] st h Q = wp S d 98 44 [a0, a1, some (.int x), a3, a4, a5] (.int x :: st) h Q := wp_p hc98 dX5_treats_43 rfl
theorem e98_44 : wp S (d + 1) 98 44 [a0, a1, a2, a3, a4, a5] (.int x1 :: .ref r0 :: st) h Q = (am_w8 st ∧ am_rcv h 2 72 (.ref r0) = true ∧ wp S d 72 0 [some (.ref r0), some (.int x1)] [] h (am_kr S 2 (d + 1) 98 44 [a0, a1, a2, a3, a4, a5] st Q)) := wp_cV (.ref r0) [.int x1] hc98 dX5_treats_44 ho98 cl5_86 (by decide) ns5_86 hst72 hnp72 hml72 hlsl72 rfl rfl rfl
theorem e98_47 : wp S d 98 47 [a0, a1, a2, a3, a4, a5] st h Q = wp S d 98 48 [a0, a1, a2, a3, a4, a5] (.int ((-1)) :: st) h Q := wp_p hc98 dX5_treats_47 rfl
theorem e98_48 : wp S d 98 48 [a0, a1, a2, a3, a4, a5] (.int y :: .int x :: st) h Q = if x = y then wp S d 98 55 [a0, a1, a2, a3, a4, a5] st h Q else wp S d 98 51 [a0, a1, a2, a3, a4, a5] st h Q := wp_eq hc98 dX5_treats_48 rfl
theorem e98_51 : wp S d 98 51 [a0, a1, a2, a3, a4, a5] st h Q = wp S d 98 52 [a0, a1, a2, a3, a4, a5] (.int (nI 1) :: st) h Q := wp_p hc98 dX5_treats_51 rfl
theorem e98_52 : wp S d 98 52 [a0, a1, a2, a3, a4, a5] st h Q = wp S d 98 56 [a0, a1, a2, a3, a4, a5] st h Q := wp_p hc98 dX5_treats_52 rfl
theorem e98_55 : wp S d 98 55 [a0, a1, a2, a3, a4, a5] st h Q = wp S d 98 56 [a0, a1, a2, a3, a4, a5] (.int (nI 0) :: st) h Q := wp_p hc98 dX5_treats_55 rfl
theorem e98_56 : wp S d 98 56 [a0, a1, a2, a3, a4, a5] (.int x :: st) h Q = wp S d 98 58 [a0, a1, a2, a3, some (.int x), a5] st h Q := wp_p hc98 dX5_treats_56 rfl
theorem e98_58 : wp S d 98 58 [a0, a1, a2, a3, some (.int x), a5] st h Q = wp S d 98 60 [a0, a1, a2, a3, some (.int x), a5] (.int x :: st) h Q := wp_p hc98 dX5_treats_58 rfl
theorem e98_60 : wp S d 98 60 [a0, a1, a2, a3, a4, a5] (.int x :: st) h Q = if x = 0 then wp S d 98 71 [a0, a1, a2, a3, a4, a5] st h Q else wp S d 98 63 [a0, a1, a2, a3, a4, a5] st h Q := wp_eq hc98 dX5_treats_60 rfl
theorem e98_63 : wp S d 98 63 [some (.ref r), a1, a2, a3, a4, a5] st h Q = wp S d 98 64 [some (.ref r), a1, a2, a3, a4, a5] (.ref r :: st) h Q := wp_p hc98 dX5_treats_63 rfl
theorem e98_64 : wp S d 98 64 [a0, a1, some (.int x), a3, a4, a5] st h Q = wp S d 98 65 [a0, a1, some (.int x), a3, a4, a5] (.int x :: st) h Q := wp_p hc98 dX5_treats_64 rfl
theorem e98_65 : wp S (d + 1) 98 65 [a0, a1, a2, a3, a4, a5] (.int x1 :: .ref r0 :: st) h Q = (am_w8 st ∧ am_rcv h 2 71 (.ref r0) = true ∧ wp S d 71 0 [some (.ref r0), some (.int x1), none, none, none, none, none, none, none] [] h (am_kr S 2 (d + 1) 98 65 [a0, a1, a2, a3, a4, a5] st Q)) := wp_cV (.ref r0) [.int x1] hc98 dX5_treats_65 ho98 cl5_96 (by decide) ns5_96 hst71 hnp71 hml71 hlsl71 rfl rfl rfl
theorem e98_68 : wp S d 98 68 [a0, a1, a2, a3, a4, a5] (.int x :: st) h Q = if x = 0 then wp S d 98 71 [a0, a1, a2, a3, a4, a5] st h Q else wp S d 98 114 [a0, a1, a2, a3, a4, a5] st h Q := wp_ne hc98 dX5_treats_68 rfl
theorem e98_71 : wp S d 98 71 [some (.ref r), a1, a2, a3, a4, a5] st h Q = wp S d 98 72 [some (.ref r), a1, a2, a3, a4, a5] (.ref r :: st) h Q := wp_p hc98 dX5_treats_71 rfl
theorem e98_72 : wp S d 98 72 [a0, a1, some (.int x), a3, a4, a5] st h Q = wp S d 98 73 [a0, a1, some (.int x), a3, a4, a5] (.int x :: st) h Q := wp_p hc98 dX5_treats_72 rfl
theorem e98_73 : wp S (d + 1) 98 73 [a0, a1, a2, a3, a4, a5] (.int x1 :: .ref r0 :: st) h Q = (am_w8 st ∧ am_rcv h 2 100 (.ref r0) = true ∧ wp S d 100 0 [some (.ref r0), some (.int x1), none, none, none] [] h (am_kr S 2 (d + 1) 98 73 [a0, a1, a2, a3, a4, a5] st Q)) := wp_cV (.ref r0) [.int x1] hc98 dX5_treats_73 ho98 cl5_198 (by decide) ns5_198 hst100 hnp100 hml100 hlsl100 rfl rfl rfl
theorem e98_76 : wp S d 98 76 [a0, a1, a2, a3, a4, a5] (.int x :: st) h Q = wp S d 98 78 [a0, a1, a2, a3, a4, some (.int x)] st h Q := wp_p hc98 dX5_treats_76 rfl
theorem e98_78 : wp S d 98 78 [a0, a1, a2, a3, a4, some (.int x)] st h Q = wp S d 98 80 [a0, a1, a2, a3, a4, some (.int x)] (.int x :: st) h Q := wp_p hc98 dX5_treats_78 rfl
theorem e98_80 : wp S d 98 80 [a0, a1, a2, a3, a4, a5] st h Q = wp S d 98 81 [a0, a1, a2, a3, a4, a5] (.int ((-1)) :: st) h Q := wp_p hc98 dX5_treats_80 rfl
theorem e98_81 : wp S d 98 81 [a0, a1, a2, a3, a4, a5] (.int y :: .int x :: st) h Q = if x = y then wp S d 98 100 [a0, a1, a2, a3, a4, a5] st h Q else wp S d 98 84 [a0, a1, a2, a3, a4, a5] st h Q := wp_eq hc98 dX5_treats_81 rfl
theorem e98_84 : wp S d 98 84 [some (.ref r), a1, a2, a3, a4, a5] st h Q = wp S d 98 85 [some (.ref r), a1, a2, a3, a4, a5] (.ref r :: st) h Q := wp_p hc98 dX5_treats_84 rfl
theorem e98_85 : wp S d 98 85 [a0, a1, a2, a3, a4, a5] st h Q = wp S d 98 86 [a0, a1, a2, a3, a4, a5] (.int (nI 5) :: st) h Q := wp_p hc98 dX5_treats_85 rfl
theorem e98_86 : wp S d 98 86 [a0, a1, a2, a3, a4, some (.int x)] st h Q = wp S d 98 88 [a0, a1, a2, a3, a4, some (.int x)] (.int x :: st) h Q := wp_p hc98 dX5_treats_86 rfl
theorem e98_88 : wp S d 98 88 [a0, some (.int x), a2, a3, a4, a5] st h Q = wp S d 98 89 [a0, some (.int x), a2, a3, a4, a5] (.int x :: st) h Q := wp_p hc98 dX5_treats_88 rfl
theorem e98_89 : wp S (d + 1) 98 89 [a0, a1, a2, a3, a4, a5] (.int x1 :: st) h Q = (am_w8 st ∧ wp S d 96 0 [some (.int x1)] [] h (am_kr S 0 (d + 1) 98 89 [a0, a1, a2, a3, a4, a5] st Q)) := wp_cS [.int x1] hc98 dX5_treats_89 ho98 cl5_167 (by decide) ns5_167 hst96 hnp96 hml96 hlsl96 rfl rfl rfl
theorem e98_92 : wp S (d + 1) 98 92 [a0, a1, a2, a3, a4, a5] (.int x3 :: .int x2 :: .int x1 :: st) h Q = (am_w8 st ∧ wp S d 89 0 [some (.int x1), some (.int x2), some (.int x3)] [] h (am_kr S 0 (d + 1) 98 92 [a0, a1, a2, a3, a4, a5] st Q)) := wp_cS [.int x1, .int x2, .int x3] hc98 dX5_treats_92 ho98 cl5_126 (by decide) ns5_126 hst89 hnp89 hml89 hlsl89 rfl rfl rfl
theorem e98_95 : wp S (d + 1) 98 95 [a0, a1, a2, a3, a4, a5] (.int x1 :: .ref r0 :: st) h Q = (am_w8 st ∧ am_rcv h 2 99 (.ref r0) = true ∧ wp S d 99 0 [some (.ref r0), some (.int x1), none, none, none] [] h (am_kr S 2 (d + 1) 98 95 [a0, a1, a2, a3, a4, a5] st Q)) := wp_cV (.ref r0) [.int x1] hc98 dX5_treats_95 ho98 cl5_194 (by decide) ns5_194 hst99 hnp99 hml99 hlsl99 rfl rfl rfl
theorem e98_98 : wp S d 98 98 [a0, a1, a2, a3, a4, a5] st h Q = wp S d 98 99 [a0, a1, a2, a3, a4, a5] (.int (nI 1) :: st) h Q := wp_p hc98 dX5_treats_98 rfl
theorem e98_99 : wp S d 98 99 ls [.int x] h Q = Q (.inl (some (.int x)), h) := wp_r hc98 dX5_treats_99 rfl rfl ⟨x, _, rfl, rfl, rfl, rfl⟩
theorem e98_100 : wp S d 98 100 [a0, a1, a2, a3, some (.int x), a5] st h Q = wp S d 98 102 [a0, a1, a2, a3, some (.int x), a5] (.int x :: st) h Q := wp_p hc98 dX5_treats_100 rfl
theorem e98_102 : wp S d 98 102 [a0, a1, a2, a3, a4, a5] (.int x :: st) h Q = if x = 0 then wp S d 98 109 [a0, a1, a2, a3, a4, a5] st h Q else wp S d 98 105 [a0, a1, a2, a3, a4, a5] st h Q := wp_eq hc98 dX5_treats_102 rfl
theorem e98_105 : wp S d 98 105 [a0, a1, a2, a3, a4, a5] st h Q = wp S d 98 106 [a0, a1, a2, a3, a4, a5] (.int (nI 3) :: st) h Q := wp_p hc98 dX5_treats_105 rfl
theorem e98_106 : wp S d 98 106 [a0, a1, a2, a3, a4, a5] st h Q = wp S d 98 110 [a0, a1, a2, a3, a4, a5] st h Q := wp_p hc98 dX5_treats_106 rfl
theorem e98_109 : wp S d 98 109 [a0, a1, a2, a3, a4, a5] st h Q = wp S d 98 110 [a0, a1, a2, a3, a4, a5] (.int (nI 2) :: st) h Q := wp_p hc98 dX5_treats_109 rfl
theorem e98_110 : wp S d 98 110 [a0, a1, a2, a3, a4, a5] (.int x :: st) h Q = wp S d 98 111 [a0, a1, a2, some (.int x), a4, a5] st h Q := wp_p hc98 dX5_treats_110 rfl
theorem e98_111 : wp S d 98 111 [a0, a1, a2, a3, a4, a5] st h Q = wp S d 98 131 [a0, a1, a2, a3, a4, a5] st h Q := wp_p hc98 dX5_treats_111 rfl
theorem e98_114 : wp S d 98 114 [some (.ref r), a1, a2, a3, a4, a5] st h Q = wp S d 98 115 [some (.ref r), a1, a2, a3, a4, a5] (.ref r :: st) h Q := wp_p hc98 dX5_treats_114 rfl
theorem e98_115 : wp S d 98 115 [a0, some (.int x), a2, a3, a4, a5] st h Q = wp S d 98 116 [a0, some (.int x), a2, a3, a4, a5] (.int x :: st) h Q := wp_p hc98 dX5_treats_115 rfl
theorem e98_116 : wp S (d + 1) 98 116 [a0, a1, a2, a3, a4, a5] (.int x1 :: .ref r0 :: st) h Q = (am_w8 st ∧ am_rcv h 2 101 (.ref r0) = true ∧ wp S d 101 0 [some (.ref r0), some (.int x1), none, none, none, none, none, none, none] [] h (am_kr S 2 (d + 1) 98 116 [a0, a1, a2, a3, a4, a5] st Q)) := wp_cV (.ref r0) [.int x1] hc98 dX5_treats_116 ho98 cl5_201 (by decide) ns5_201 hst101 hnp101 hml101 hlsl101 rfl rfl rfl
theorem e98_119 : wp S d 98 119 [a0, a1, a2, a3, a4, a5] (.int x :: st) h Q = wp S d 98 120 [a0, a1, a2, some (.int x), a4, a5] st h Q := wp_p hc98 dX5_treats_119 rfl
theorem e98_120 : wp S d 98 120 [a0, a1, a2, some (.int x), a4, a5] st h Q = wp S d 98 121 [a0, a1, a2, some (.int x), a4, a5] (.int x :: st) h Q := wp_p hc98 dX5_treats_120 rfl
theorem e98_121 : wp S d 98 121 [a0, a1, a2, a3, a4, a5] (.int x :: st) h Q = if x = 0 then wp S d 98 124 [a0, a1, a2, a3, a4, a5] st h Q else wp S d 98 131 [a0, a1, a2, a3, a4, a5] st h Q := wp_ne hc98 dX5_treats_121 rfl
theorem e98_124 : wp S d 98 124 [some (.ref r), a1, a2, a3, a4, a5] st h Q = wp S d 98 125 [some (.ref r), a1, a2, a3, a4, a5] (.ref r :: st) h Q := wp_p hc98 dX5_treats_124 rfl
theorem e98_125 : wp S d 98 125 [a0, some (.int x), a2, a3, a4, a5] st h Q = wp S d 98 126 [a0, some (.int x), a2, a3, a4, a5] (.int x :: st) h Q := wp_p hc98 dX5_treats_125 rfl
theorem e98_126 : wp S (d + 1) 98 126 [a0, a1, a2, a3, a4, a5] (.int x1 :: .ref r0 :: st) h Q = (am_w8 st ∧ am_rcv h 2 107 (.ref r0) = true ∧ wp S d 107 0 [some (.ref r0), some (.int x1), none, none, none, none, none, none] [] h (am_kr S 2 (d + 1) 98 126 [a0, a1, a2, a3, a4, a5] st Q)) := wp_cV (.ref r0) [.int x1] hc98 dX5_treats_126 ho98 cl5_204 (by decide) ns5_204 hst107 hnp107 hml107 hlsl107 rfl rfl rfl
theorem e98_129 : wp S d 98 129 [a0, a1, a2, a3, a4, a5] st h Q = wp S d 98 130 [a0, a1, a2, a3, a4, a5] (.int (nI 1) :: st) h Q := wp_p hc98 dX5_treats_129 rfl
theorem e98_130 : wp S d 98 130 ls [.int x] h Q = Q (.inl (some (.int x)), h) := wp_r hc98 dX5_treats_130 rfl rfl ⟨x, _, rfl, rfl, rfl, rfl⟩
theorem e98_131 : wp S d 98 131 [some (.ref r), a1, a2, a3, a4, a5] st h Q = wp S d 98 132 [some (.ref r), a1, a2, a3, a4, a5] (.ref r :: st) h Q := wp_p hc98 dX5_treats_131 rfl
theorem e98_132 : wp S d 98 132 [a0, a1, a2, a3, a4, a5] (.ref r :: st) h Q = am_gfK h r 5 0 (fun w => wp S d 98 135 [a0, a1, a2, a3, a4, a5] (w :: st) h Q) := wp_gf hc98 dX5_treats_132 ho98 fl5_7
theorem e98_135 : wp S d 98 135 [a0, a1, a2, a3, a4, a5] st h Q = wp S d 98 138 [a0, a1, a2, a3, a4, a5] (.int (nI 179) :: st) h Q := wp_p hc98 dX5_treats_135 rfl
theorem e98_138 : wp S d 98 138 [a0, a1, a2, some (.int x), a4, a5] st h Q = wp S d 98 139 [a0, a1, a2, some (.int x), a4, a5] (.int x :: st) h Q := wp_p hc98 dX5_treats_138 rfl
theorem e98_139 : wp S d 98 139 [a0, a1, a2, a3, a4, a5] (.int y :: .int x :: st) h Q = wp S d 98 140 [a0, a1, a2, a3, a4, a5] (.int (x + y) :: st) h Q := wp_p hc98 dX5_treats_139 rfl
theorem e98_140 : wp S d 98 140 [a0, a1, a2, a3, a4, a5] st h Q = wp S d 98 141 [a0, a1, a2, a3, a4, a5] (.int (nI 1) :: st) h Q := wp_p hc98 dX5_treats_140 rfl
theorem e98_141 : wp S d 98 141 [a0, a1, a2, a3, a4, a5] (.int y :: .int x :: st) h Q = wp S d 98 142 [a0, a1, a2, a3, a4, a5] (.int (x - y) :: st) h Q := wp_p hc98 dX5_treats_141 rfl
theorem e98_142 : wp S d 98 142 [a0, a1, a2, a3, a4, a5] (.int x :: .ref r :: st) h Q = wp S d 98 143 [a0, a1, a2, a3, a4, a5] (.int x :: .ref r :: .int x :: .ref r :: st) h Q := wp_p hc98 dX5_treats_142 rfl
theorem e98_143 : wp S d 98 143 [a0, a1, a2, a3, a4, a5] (.int x :: .ref r :: st) h Q = am_iaK h r x (fun z => wp S d 98 144 [a0, a1, a2, a3, a4, a5] (.int z :: st) h Q) := wp_ia hc98 dX5_treats_143
theorem e98_144 : wp S d 98 144 [a0, a1, a2, a3, a4, a5] st h Q = wp S d 98 145 [a0, a1, a2, a3, a4, a5] (.int (nI 1) :: st) h Q := wp_p hc98 dX5_treats_144 rfl
theorem e98_145 : wp S d 98 145 [a0, a1, a2, a3, a4, a5] (.int y :: .int x :: st) h Q = wp S d 98 146 [a0, a1, a2, a3, a4, a5] (.int (x + y) :: st) h Q := wp_p hc98 dX5_treats_145 rfl
theorem e98_146 : wp S d 98 146 [a0, a1, a2, a3, a4, a5] (.int y :: .int x :: .ref r :: st) h Q = am_isK h r x y (fun h => wp S d 98 147 [a0, a1, a2, a3, a4, a5] st h Q) := wp_is hc98 dX5_treats_146
theorem e98_147 : wp S d 98 147 [some (.ref r), a1, a2, a3, a4, a5] st h Q = wp S d 98 148 [some (.ref r), a1, a2, a3, a4, a5] (.ref r :: st) h Q := wp_p hc98 dX5_treats_147 rfl
theorem e98_148 : wp S d 98 148 [a0, some (.int x), a2, a3, a4, a5] st h Q = wp S d 98 149 [a0, some (.int x), a2, a3, a4, a5] (.int x :: st) h Q := wp_p hc98 dX5_treats_148 rfl
theorem e98_149 : wp S (d + 1) 98 149 [a0, a1, a2, a3, a4, a5] (.int x1 :: .ref r0 :: st) h Q = (am_w8 st ∧ am_rcv h 2 99 (.ref r0) = true ∧ wp S d 99 0 [some (.ref r0), some (.int x1), none, none, none] [] h (am_kr S 2 (d + 1) 98 149 [a0, a1, a2, a3, a4, a5] st Q)) := wp_cV (.ref r0) [.int x1] hc98 dX5_treats_149 ho98 cl5_194 (by decide) ns5_194 hst99 hnp99 hml99 hlsl99 rfl rfl rfl
theorem e98_152 : wp S d 98 152 [a0, a1, a2, a3, a4, a5] st h Q = wp S d 98 153 [a0, a1, a2, a3, a4, a5] (.int (nI 0) :: st) h Q := wp_p hc98 dX5_treats_152 rfl
theorem e98_153 : wp S d 98 153 ls [.int x] h Q = Q (.inl (some (.int x)), h) := wp_r hc98 dX5_treats_153 rfl rfl ⟨x, _, rfl, rfl, rfl, rfl⟩
theorem e99_0 : wp S d 99 0 [a0, some (.int x), a2, a3, a4] st h Q = wp S d 99 1 [a0, some (.int x), a2, a3, a4] (.int x :: st) h Q := wp_p hc99 dX5_putsCall_0 rfl
theorem e99_1 : wp S (d + 1) 99 1 [a0, a1, a2, a3, a4] (.int x1 :: st) h Q = (am_w8 st ∧ wp S d 96 0 [some (.int x1)] [] h (am_kr S 0 (d + 1) 99 1 [a0, a1, a2, a3, a4] st Q)) := wp_cS [.int x1] hc99 dX5_putsCall_1 ho99 cl5_167 (by decide) ns5_167 hst96 hnp96 hml96 hlsl96 rfl rfl rfl
theorem e99_4 : wp S d 99 4 [a0, a1, a2, a3, a4] (.int x :: st) h Q = wp S d 99 5 [a0, a1, some (.int x), a3, a4] st h Q := wp_p hc99 dX5_putsCall_4 rfl
theorem e99_5 : wp S d 99 5 [some (.ref r), a1, a2, a3, a4] st h Q = wp S d 99 6 [some (.ref r), a1, a2, a3, a4] (.ref r :: st) h Q := wp_p hc99 dX5_putsCall_5 rfl
theorem e99_6 : wp S d 99 6 [a0, a1, a2, a3, a4] (.ref r :: st) h Q = am_gfK h r 5 13 (fun w => wp S d 99 9 [a0, a1, a2, a3, a4] (w :: st) h Q) := wp_gf hc99 dX5_putsCall_6 ho99 fl5_31
theorem e99_9 : wp S d 99 9 [some (.ref r), a1, a2, a3, a4] st h Q = wp S d 99 10 [some (.ref r), a1, a2, a3, a4] (.ref r :: st) h Q := wp_p hc99 dX5_putsCall_9 rfl
theorem e99_10 : wp S d 99 10 [a0, a1, a2, a3, a4] (.ref r :: st) h Q = am_gfK h r 5 14 (fun w => wp S d 99 13 [a0, a1, a2, a3, a4] (w :: st) h Q) := wp_gf hc99 dX5_putsCall_10 ho99 fl5_170
theorem e99_13 : wp S d 99 13 [a0, a1, some (.int x), a3, a4] st h Q = wp S d 99 14 [a0, a1, some (.int x), a3, a4] (.int x :: st) h Q := wp_p hc99 dX5_putsCall_13 rfl
theorem e99_14 : wp S d 99 14 [a0, a1, a2, a3, a4] (.int y :: .int x :: st) h Q = wp S d 99 15 [a0, a1, a2, a3, a4] (.int (x - y) :: st) h Q := wp_p hc99 dX5_putsCall_14 rfl
theorem e99_15 : wp S d 99 15 [a0, a1, a2, a3, a4] (.int x :: .ref r :: st) h Q = am_iaK h r x (fun z => wp S d 99 16 [a0, a1, a2, a3, a4] (.int z :: st) h Q) := wp_ia hc99 dX5_putsCall_15
theorem e99_16 : wp S d 99 16 [a0, a1, a2, a3, a4] (.int x :: st) h Q = wp S d 99 17 [a0, a1, a2, some (.int x), a4] st h Q := wp_p hc99 dX5_putsCall_16 rfl
theorem e99_17 : wp S d 99 17 [some (.ref r), a1, a2, a3, a4] st h Q = wp S d 99 18 [some (.ref r), a1, a2, a3, a4] (.ref r :: st) h Q := wp_p hc99 dX5_putsCall_17 rfl
theorem e99_18 : wp S d 99 18 [a0, a1, a2, a3, a4] (.ref r :: st) h Q = am_gfK h r 5 12 (fun w => wp S d 99 21 [a0, a1, a2, a3, a4] (w :: st) h Q) := wp_gf hc99 dX5_putsCall_18 ho99 fl5_173
theorem e99_21 : wp S d 99 21 [a0, a1, a2, a3, a4] (.int x :: st) h Q = wp S d 99 23 [a0, a1, a2, a3, some (.int x)] st h Q := wp_p hc99 dX5_putsCall_21 rfl
theorem e99_23 : wp S d 99 23 [a0, a1, a2, a3, some (.int x)] st h Q = wp S d 99 25 [a0, a1, a2, a3, some (.int x)] (.int x :: st) h Q := wp_p hc99 dX5_putsCall_23 rfl
theorem e99_25 : wp S d 99 25 [a0, a1, a2, some (.int x), a4] st h Q = wp S d 99 26 [a0, a1, a2, some (.int x), a4] (.int x :: st) h Q := wp_p hc99 dX5_putsCall_25 rfl
theorem e99_26 : wp S d 99 26 [a0, a1, a2, a3, a4] (.int y :: .int x :: st) h Q = if x ≤ y then wp S d 99 51 [a0, a1, a2, a3, a4] st h Q else wp S d 99 29 [a0, a1, a2, a3, a4] st h Q := wp_le hc99 dX5_putsCall_26 rfl
theorem e99_29 : wp S d 99 29 [some (.ref r), a1, a2, a3, a4] st h Q = wp S d 99 30 [some (.ref r), a1, a2, a3, a4] (.ref r :: st) h Q := wp_p hc99 dX5_putsCall_29 rfl
theorem e99_30 : wp S d 99 30 [a0, a1, a2, a3, a4] (.ref r :: st) h Q = am_gfK h r 5 11 (fun w => wp S d 99 33 [a0, a1, a2, a3, a4] (w :: st) h Q) := wp_gf hc99 dX5_putsCall_30 ho99 fl5_28
theorem e99_33 : wp S d 99 33 [a0, a1, a2, a3, some (.int x)] st h Q = wp S d 99 35 [a0, a1, a2, a3, some (.int x)] (.int x :: st) h Q := wp_p hc99 dX5_putsCall_33 rfl
theorem e99_35 : wp S d 99 35 [some (.ref r), a1, a2, a3, a4] st h Q = wp S d 99 36 [some (.ref r), a1, a2, a3, a4] (.ref r :: st) h Q := wp_p hc99 dX5_putsCall_35 rfl
theorem e99_36 : wp S d 99 36 [a0, a1, a2, a3, a4] (.ref r :: st) h Q = am_gfK h r 5 11 (fun w => wp S d 99 39 [a0, a1, a2, a3, a4] (w :: st) h Q) := wp_gf hc99 dX5_putsCall_36 ho99 fl5_28
theorem e99_39 : wp S d 99 39 [a0, a1, a2, a3, some (.int x)] st h Q = wp S d 99 41 [a0, a1, a2, a3, some (.int x)] (.int x :: st) h Q := wp_p hc99 dX5_putsCall_39 rfl
theorem e99_41 : wp S d 99 41 [a0, a1, a2, a3, a4] st h Q = wp S d 99 42 [a0, a1, a2, a3, a4] (.int (nI 1) :: st) h Q := wp_p hc99 dX5_putsCall_41 rfl
theorem e99_42 : wp S d 99 42 [a0, a1, a2, a3, a4] (.int y :: .int x :: st) h Q = wp S d 99 43 [a0, a1, a2, a3, a4] (.int (x - y) :: st) h Q := wp_p hc99 dX5_putsCall_42 rfl
theorem e99_43 : wp S d 99 43 [a0, a1, a2, a3, a4] (.int x :: .ref r :: st) h Q = am_iaK h r x (fun z => wp S d 99 44 [a0, a1, a2, a3, a4] (.int z :: st) h Q) := wp_ia hc99 dX5_putsCall_43
theorem e99_44 : wp S d 99 44 [a0, a1, a2, a3, a4] (.int y :: .int x :: .ref r :: st) h Q = am_isK h r x y (fun h => wp S d 99 45 [a0, a1, a2, a3, a4] st h Q) := wp_is hc99 dX5_putsCall_44
theorem e99_45 : wp S d 99 45 [a0, a1, a2, a3, some (.int x)] st h Q = wp S d 99 48 [a0, a1, a2, a3, some (.int (x + (-1)))] st h Q := wp_p hc99 dX5_putsCall_45 rfl
theorem e99_48 : wp S d 99 48 [a0, a1, a2, a3, a4] st h Q = wp S d 99 23 [a0, a1, a2, a3, a4] st h Q := wp_p hc99 dX5_putsCall_48 rfl
theorem e99_51 : wp S d 99 51 [some (.ref r), a1, a2, a3, a4] st h Q = wp S d 99 52 [some (.ref r), a1, a2, a3, a4] (.ref r :: st) h Q := wp_p hc99 dX5_putsCall_51 rfl
theorem e99_52 : wp S d 99 52 [a0, a1, a2, a3, a4] (.ref r :: st) h Q = am_gfK h r 5 11 (fun w => wp S d 99 55 [a0, a1, a2, a3, a4] (w :: st) h Q) := wp_gf hc99 dX5_putsCall_52 ho99 fl5_28
theorem e99_55 : wp S d 99 55 [a0, a1, a2, some (.int x), a4] st h Q = wp S d 99 56 [a0, a1, a2, some (.int x), a4] (.int x :: st) h Q := wp_p hc99 dX5_putsCall_55 rfl
theorem e99_56 : wp S d 99 56 [a0, some (.int x), a2, a3, a4] st h Q = wp S d 99 57 [a0, some (.int x), a2, a3, a4] (.int x :: st) h Q := wp_p hc99 dX5_putsCall_56 rfl
theorem e99_57 : wp S d 99 57 [a0, a1, a2, a3, a4] (.int y :: .int x :: .ref r :: st) h Q = am_isK h r x y (fun h => wp S d 99 58 [a0, a1, a2, a3, a4] st h Q) := wp_is hc99 dX5_putsCall_57
theorem e99_58 : wp S d 99 58 [some (.ref r), a1, a2, a3, a4] st h Q = wp S d 99 59 [some (.ref r), a1, a2, a3, a4] (.ref r :: st) h Q := wp_p hc99 dX5_putsCall_58 rfl
theorem e99_59 : wp S d 99 59 [a0, a1, a2, a3, a4] (.ref r :: st) h Q = wp S d 99 60 [a0, a1, a2, a3, a4] (.ref r :: .ref r :: st) h Q := wp_p hc99 dX5_putsCall_59 rfl
theorem e99_59i : wp S d 99 59 [a0, a1, a2, a3, a4] (.int x :: st) h Q = wp S d 99 60 [a0, a1, a2, a3, a4] (.int x :: .int x :: st) h Q := wp_p hc99 dX5_putsCall_59 rfl
theorem e99_60 : wp S d 99 60 [a0, a1, a2, a3, a4] (.ref r :: st) h Q = am_gfK h r 5 12 (fun w => wp S d 99 63 [a0, a1, a2, a3, a4] (w :: st) h Q) := wp_gf hc99 dX5_putsCall_60 ho99 fl5_173
theorem e99_63 : wp S d 99 63 [a0, a1, a2, a3, a4] st h Q = wp S d 99 64 [a0, a1, a2, a3, a4] (.int (nI 1) :: st) h Q := wp_p hc99 dX5_putsCall_63 rfl
theorem e99_64 : wp S d 99 64 [a0, a1, a2, a3, a4] (.int y :: .int x :: st) h Q = wp S d 99 65 [a0, a1, a2, a3, a4] (.int (x + y) :: st) h Q := wp_p hc99 dX5_putsCall_64 rfl
theorem e99_65 : wp S d 99 65 [a0, a1, a2, a3, a4] (w :: .ref r :: st) h Q = am_pfK 99 h r 5 12 false w (fun h => wp S d 99 68 [a0, a1, a2, a3, a4] st h Q) := wp_pf hc99 dX5_putsCall_65 ho99 fl5_173
theorem e99_68 : wp S d 99 68 [some (.ref r), a1, a2, a3, a4] st h Q = wp S d 99 69 [some (.ref r), a1, a2, a3, a4] (.ref r :: st) h Q := wp_p hc99 dX5_putsCall_68 rfl
theorem e99_69 : wp S d 99 69 [a0, a1, a2, a3, a4] (.ref r :: st) h Q = wp S d 99 70 [a0, a1, a2, a3, a4] (.ref r :: .ref r :: st) h Q := wp_p hc99 dX5_putsCall_69 rfl
theorem e99_69i : wp S d 99 69 [a0, a1, a2, a3, a4] (.int x :: st) h Q = wp S d 99 70 [a0, a1, a2, a3, a4] (.int x :: .int x :: st) h Q := wp_p hc99 dX5_putsCall_69 rfl
theorem e99_70 : wp S d 99 70 [a0, a1, a2, a3, a4] (.ref r :: st) h Q = am_gfK h r 5 14 (fun w => wp S d 99 73 [a0, a1, a2, a3, a4] (w :: st) h Q) := wp_gf hc99 dX5_putsCall_70 ho99 fl5_170
theorem e99_73 : wp S d 99 73 [a0, a1, a2, a3, a4] st h Q = wp S d 99 74 [a0, a1, a2, a3, a4] (.int (nI 1) :: st) h Q := wp_p hc99 dX5_putsCall_73 rfl
theorem e99_74 : wp S d 99 74 [a0, a1, some (.int x), a3, a4] st h Q = wp S d 99 75 [a0, a1, some (.int x), a3, a4] (.int x :: st) h Q := wp_p hc99 dX5_putsCall_74 rfl
theorem e99_75 : wp S d 99 75 [a0, a1, a2, a3, a4] (.int y :: .int x :: st) h Q = wp S d 99 76 [a0, a1, a2, a3, a4] (.int (x - y) :: st) h Q := wp_p hc99 dX5_putsCall_75 rfl
theorem e99_76 : wp S d 99 76 [a0, a1, a2, a3, a4] (.int y :: .int x :: st) h Q = wp S d 99 77 [a0, a1, a2, a3, a4] (.int (x + y) :: st) h Q := wp_p hc99 dX5_putsCall_76 rfl
theorem e99_77 : wp S d 99 77 [a0, a1, a2, a3, a4] (w :: .ref r :: st) h Q = am_pfK 99 h r 5 14 false w (fun h => wp S d 99 80 [a0, a1, a2, a3, a4] st h Q) := wp_pf hc99 dX5_putsCall_77 ho99 fl5_170
theorem e99_80 : wp S d 99 80 [some (.ref r), a1, a2, a3, a4] st h Q = wp S d 99 81 [some (.ref r), a1, a2, a3, a4] (.ref r :: st) h Q := wp_p hc99 dX5_putsCall_80 rfl
theorem e99_81 : wp S d 99 81 [a0, a1, a2, a3, a4] (.ref r :: st) h Q = am_gfK h r 5 13 (fun w => wp S d 99 84 [a0, a1, a2, a3, a4] (w :: st) h Q) := wp_gf hc99 dX5_putsCall_81 ho99 fl5_31
theorem e99_84 : wp S d 99 84 [some (.ref r), a1, a2, a3, a4] st h Q = wp S d 99 85 [some (.ref r), a1, a2, a3, a4] (.ref r :: st) h Q := wp_p hc99 dX5_putsCall_84 rfl
theorem e99_85 : wp S d 99 85 [a0, a1, a2, a3, a4] (.ref r :: st) h Q = am_gfK h r 5 14 (fun w => wp S d 99 88 [a0, a1, a2, a3, a4] (w :: st) h Q) := wp_gf hc99 dX5_putsCall_85 ho99 fl5_170
theorem e99_88 : wp S d 99 88 [some (.ref r), a1, a2, a3, a4] st h Q = wp S d 99 89 [some (.ref r), a1, a2, a3, a4] (.ref r :: st) h Q := wp_p hc99 dX5_putsCall_88 rfl
theorem e99_89 : wp S d 99 89 [a0, a1, a2, a3, a4] (.ref r :: st) h Q = am_gfK h r 5 12 (fun w => wp S d 99 92 [a0, a1, a2, a3, a4] (w :: st) h Q) := wp_gf hc99 dX5_putsCall_89 ho99 fl5_173
theorem e99_92 : wp S d 99 92 [a0, a1, a2, a3, a4] (.int y :: .int x :: .ref r :: st) h Q = am_isK h r x y (fun h => wp S d 99 93 [a0, a1, a2, a3, a4] st h Q) := wp_is hc99 dX5_putsCall_92
theorem e99_93 : wp S d 99 93 ls [] h Q = Q (.inl none, h) := wp_r hc99 dX5_putsCall_93 rfl rfl ⟨rfl, rfl, rfl⟩
theorem e100_0 : wp S d 100 0 [some (.ref r), a1, a2, a3, a4] st h Q = wp S d 100 1 [some (.ref r), a1, a2, a3, a4] (.ref r :: st) h Q := wp_p hc100 dX5_adapterFor_0 rfl
theorem e100_1 : wp S d 100 1 [a0, some (.int x), a2, a3, a4] st h Q = wp S d 100 2 [a0, some (.int x), a2, a3, a4] (.int x :: st) h Q := wp_p hc100 dX5_adapterFor_1 rfl
theorem e100_2 : wp S (d + 1) 100 2 [a0, a1, a2, a3, a4] (.int x1 :: .ref r0 :: st) h Q = (am_w8 st ∧ am_rcv h 2 82 (.ref r0) = true ∧ wp S d 82 0 [some (.ref r0), some (.int x1), none, none] [] h (am_kr S 2 (d + 1) 100 2 [a0, a1, a2, a3, a4] st Q)) := wp_cV (.ref r0) [.int x1] hc100 dX5_adapterFor_2 ho100 cl5_108 (by decide) ns5_108 hst82 hnp82 hml82 hlsl82 rfl rfl rfl
theorem e100_5 : wp S d 100 5 [a0, a1, a2, a3, a4] (.int x :: st) h Q = wp S d 100 6 [a0, a1, some (.int x), a3, a4] st h Q := wp_p hc100 dX5_adapterFor_5 rfl
theorem e100_6 : wp S d 100 6 [some (.ref r), a1, a2, a3, a4] st h Q = wp S d 100 7 [some (.ref r), a1, a2, a3, a4] (.ref r :: st) h Q := wp_p hc100 dX5_adapterFor_6 rfl
theorem e100_7 : wp S d 100 7 [a0, a1, a2, a3, a4] (.ref r :: st) h Q = am_gfK h r 5 0 (fun w => wp S d 100 10 [a0, a1, a2, a3, a4] (w :: st) h Q) := wp_gf hc100 dX5_adapterFor_7 ho100 fl5_7
theorem e100_10 : wp S d 100 10 [a0, a1, a2, a3, a4] st h Q = wp S d 100 13 [a0, a1, a2, a3, a4] (.int (nI 147) :: st) h Q := wp_p hc100 dX5_adapterFor_10 rfl
theorem e100_13 : wp S d 100 13 [a0, a1, a2, a3, a4] (.int x :: .ref r :: st) h Q = am_iaK h r x (fun z => wp S d 100 14 [a0, a1, a2, a3, a4] (.int z :: st) h Q) := wp_ia hc100 dX5_adapterFor_13
theorem e100_14 : wp S d 100 14 [a0, a1, a2, a3, a4] (.int x :: st) h Q = if x = 0 then wp S d 100 33 [a0, a1, a2, a3, a4] st h Q else wp S d 100 17 [a0, a1, a2, a3, a4] st h Q := wp_eq hc100 dX5_adapterFor_14 rfl
theorem e100_17 : wp S d 100 17 [a0, a1, some (.int x), a3, a4] st h Q = wp S d 100 18 [a0, a1, some (.int x), a3, a4] (.int x :: st) h Q := wp_p hc100 dX5_adapterFor_17 rfl
theorem e100_18 : wp S d 100 18 [a0, a1, a2, a3, a4] st h Q = wp S d 100 19 [a0, a1, a2, a3, a4] (.int ((-1)) :: st) h Q := wp_p hc100 dX5_adapterFor_18 rfl
theorem e100_19 : wp S d 100 19 [a0, a1, a2, a3, a4] (.int y :: .int x :: st) h Q = if x = y then wp S d 100 22 [a0, a1, a2, a3, a4] st h Q else wp S d 100 35 [a0, a1, a2, a3, a4] st h Q := wp_ne hc100 dX5_adapterFor_19 rfl
theorem e100_22 : wp S d 100 22 [some (.ref r), a1, a2, a3, a4] st h Q = wp S d 100 23 [some (.ref r), a1, a2, a3, a4] (.ref r :: st) h Q := wp_p hc100 dX5_adapterFor_22 rfl
theorem e100_23 : wp S d 100 23 [a0, a1, a2, a3, a4] (.ref r :: st) h Q = am_gfK h r 5 0 (fun w => wp S d 100 26 [a0, a1, a2, a3, a4] (w :: st) h Q) := wp_gf hc100 dX5_adapterFor_23 ho100 fl5_7
theorem e100_26 : wp S d 100 26 [a0, a1, a2, a3, a4] st h Q = wp S d 100 28 [a0, a1, a2, a3, a4] (.int (nI 116) :: st) h Q := wp_p hc100 dX5_adapterFor_26 rfl
theorem e100_28 : wp S d 100 28 [a0, a1, a2, a3, a4] (.int x :: .ref r :: st) h Q = am_iaK h r x (fun z => wp S d 100 29 [a0, a1, a2, a3, a4] (.int z :: st) h Q) := wp_ia hc100 dX5_adapterFor_28
theorem e100_29 : wp S d 100 29 [a0, a1, a2, a3, a4] st h Q = wp S d 100 30 [a0, a1, a2, a3, a4] (.int (nI 4) :: st) h Q := wp_p hc100 dX5_adapterFor_29 rfl
theorem e100_30 : wp S d 100 30 [a0, a1, a2, a3, a4] (.int y :: .int x :: st) h Q = if x = y then wp S d 100 33 [a0, a1, a2, a3, a4] st h Q else wp S d 100 35 [a0, a1, a2, a3, a4] st h Q := wp_ne hc100 dX5_adapterFor_30 rfl
theorem e100_33 : wp S d 100 33 [a0, a1, a2, a3, a4] st h Q = wp S d 100 34 [a0, a1, a2, a3, a4] (.int ((-1)) :: st) h Q := wp_p hc100 dX5_adapterFor_33 rfl
theorem e100_34 : wp S d 100 34 ls [.int x] h Q = Q (.inl (some (.int x)), h) := wp_r hc100 dX5_adapterFor_34 rfl rfl ⟨x, _, rfl, rfl, rfl, rfl⟩
theorem e100_35 : wp S d 100 35 [a0, a1, some (.int x), a3, a4] st h Q = wp S d 100 36 [a0, a1, some (.int x), a3, a4] (.int x :: st) h Q := wp_p hc100 dX5_adapterFor_35 rfl
theorem e100_36 : wp S d 100 36 [a0, a1, a2, a3, a4] st h Q = wp S d 100 37 [a0, a1, a2, a3, a4] (.int ((-1)) :: st) h Q := wp_p hc100 dX5_adapterFor_36 rfl
theorem e100_37 : wp S d 100 37 [a0, a1, a2, a3, a4] (.int y :: .int x :: st) h Q = if x = y then wp S d 100 42 [a0, a1, a2, a3, a4] st h Q else wp S d 100 40 [a0, a1, a2, a3, a4] st h Q := wp_eq hc100 dX5_adapterFor_37 rfl
theorem e100_40 : wp S d 100 40 [a0, a1, some (.int x), a3, a4] st h Q = wp S d 100 41 [a0, a1, some (.int x), a3, a4] (.int x :: st) h Q := wp_p hc100 dX5_adapterFor_40 rfl
theorem e100_41 : wp S d 100 41 ls [.int x] h Q = Q (.inl (some (.int x)), h) := wp_r hc100 dX5_adapterFor_41 rfl rfl ⟨x, _, rfl, rfl, rfl, rfl⟩
theorem e100_42 : wp S d 100 42 [a0, a1, a2, a3, a4] st h Q = wp S d 100 44 [a0, a1, a2, a3, a4] (.int (nI 84) :: st) h Q := wp_p hc100 dX5_adapterFor_42 rfl
theorem e100_44 : wp S d 100 44 [a0, a1, a2, a3, a4] st h Q = wp S d 100 46 [a0, a1, a2, a3, a4] (.int (nI 8) :: st) h Q := wp_p hc100 dX5_adapterFor_44 rfl
theorem e100_46 : wp S d 100 46 [some (.ref r), a1, a2, a3, a4] st h Q = wp S d 100 47 [some (.ref r), a1, a2, a3, a4] (.ref r :: st) h Q := wp_p hc100 dX5_adapterFor_46 rfl
theorem e100_47 : wp S d 100 47 [a0, a1, a2, a3, a4] (.ref r :: st) h Q = am_gfK h r 5 0 (fun w => wp S d 100 50 [a0, a1, a2, a3, a4] (w :: st) h Q) := wp_gf hc100 dX5_adapterFor_47 ho100 fl5_7
theorem e100_50 : wp S d 100 50 [a0, a1, a2, a3, a4] st h Q = wp S d 100 52 [a0, a1, a2, a3, a4] (.int (nI 116) :: st) h Q := wp_p hc100 dX5_adapterFor_50 rfl
theorem e100_52 : wp S d 100 52 [a0, a1, a2, a3, a4] (.int x :: .ref r :: st) h Q = am_iaK h r x (fun z => wp S d 100 53 [a0, a1, a2, a3, a4] (.int z :: st) h Q) := wp_ia hc100 dX5_adapterFor_52
theorem e100_53 : wp S d 100 53 [a0, a1, a2, a3, a4] (.int y :: .int x :: st) h Q = wp S d 100 54 [a0, a1, a2, a3, a4] (.int (x * y) :: st) h Q := wp_p hc100 dX5_adapterFor_53 rfl
theorem e100_54 : wp S d 100 54 [a0, a1, a2, a3, a4] (.int y :: .int x :: st) h Q = wp S d 100 55 [a0, a1, a2, a3, a4] (.int (x + y) :: st) h Q := wp_p hc100 dX5_adapterFor_54 rfl
theorem e100_55 : wp S d 100 55 [a0, a1, a2, a3, a4] (.int x :: st) h Q = wp S d 100 56 [a0, a1, a2, some (.int x), a4] st h Q := wp_p hc100 dX5_adapterFor_55 rfl
theorem e100_56 : wp S d 100 56 [a0, a1, a2, a3, a4] st h Q = wp S d 100 57 [a0, a1, a2, a3, a4] (.int (nI 0) :: st) h Q := wp_p hc100 dX5_adapterFor_56 rfl
theorem e100_57 : wp S d 100 57 [a0, a1, a2, a3, a4] (.int x :: st) h Q = wp S d 100 59 [a0, a1, a2, a3, some (.int x)] st h Q := wp_p hc100 dX5_adapterFor_57 rfl
theorem e100_59 : wp S d 100 59 [a0, a1, a2, a3, some (.int x)] st h Q = wp S d 100 61 [a0, a1, a2, a3, some (.int x)] (.int x :: st) h Q := wp_p hc100 dX5_adapterFor_59 rfl
theorem e100_61 : wp S d 100 61 [a0, a1, a2, a3, a4] st h Q = wp S d 100 63 [a0, a1, a2, a3, a4] (.int (nI 7) :: st) h Q := wp_p hc100 dX5_adapterFor_61 rfl
theorem e100_63 : wp S d 100 63 [a0, a1, a2, a3, a4] (.int y :: .int x :: st) h Q = if y ≤ x then wp S d 100 95 [a0, a1, a2, a3, a4] st h Q else wp S d 100 66 [a0, a1, a2, a3, a4] st h Q := wp_ge hc100 dX5_adapterFor_63 rfl
theorem e100_66 : wp S d 100 66 [some (.ref r), a1, a2, a3, a4] st h Q = wp S d 100 67 [some (.ref r), a1, a2, a3, a4] (.ref r :: st) h Q := wp_p hc100 dX5_adapterFor_66 rfl
theorem e100_67 : wp S d 100 67 [a0, a1, a2, a3, a4] (.ref r :: st) h Q = am_gfK h r 5 0 (fun w => wp S d 100 70 [a0, a1, a2, a3, a4] (w :: st) h Q) := wp_gf hc100 dX5_adapterFor_67 ho100 fl5_7
theorem e100_70 : wp S d 100 70 [a0, a1, a2, some (.int x), a4] st h Q = wp S d 100 71 [a0, a1, a2, some (.int x), a4] (.int x :: st) h Q := wp_p hc100 dX5_adapterFor_70 rfl
theorem e100_71 : wp S d 100 71 [a0, a1, a2, a3, some (.int x)] st h Q = wp S d 100 73 [a0, a1, a2, a3, some (.int x)] (.int x :: st) h Q := wp_p hc100 dX5_adapterFor_71 rfl
theorem e100_73 : wp S d 100 73 [a0, a1, a2, a3, a4] (.int y :: .int x :: st) h Q = wp S d 100 74 [a0, a1, a2, a3, a4] (.int (x + y) :: st) h Q := wp_p hc100 dX5_adapterFor_73 rfl
theorem e100_74 : wp S d 100 74 [some (.ref r), a1, a2, a3, a4] st h Q = wp S d 100 75 [some (.ref r), a1, a2, a3, a4] (.ref r :: st) h Q := wp_p hc100 dX5_adapterFor_74 rfl
theorem e100_75 : wp S d 100 75 [a0, a1, a2, a3, a4] (.ref r :: st) h Q = am_gfK h r 5 0 (fun w => wp S d 100 78 [a0, a1, a2, a3, a4] (w :: st) h Q) := wp_gf hc100 dX5_adapterFor_75 ho100 fl5_7
theorem e100_78 : wp S d 100 78 [a0, a1, a2, a3, a4] st h Q = wp S d 100 79 [a0, a1, a2, a3, a4] (.int (nI 0) :: st) h Q := wp_p hc100 dX5_adapterFor_78 rfl
theorem e100_79 : wp S d 100 79 [a0, a1, a2, a3, a4] st h Q = wp S d 100 81 [a0, a1, a2, a3, a4] (.int (nI 7) :: st) h Q := wp_p hc100 dX5_adapterFor_79 rfl
theorem e100_81 : wp S d 100 81 [a0, some (.int x), a2, a3, a4] st h Q = wp S d 100 82 [a0, some (.int x), a2, a3, a4] (.int x :: st) h Q := wp_p hc100 dX5_adapterFor_81 rfl
theorem e100_82 : wp S d 100 82 [a0, a1, a2, a3, a4] (.int y :: .int x :: st) h Q = wp S d 100 83 [a0, a1, a2, a3, a4] (.int (x * y) :: st) h Q := wp_p hc100 dX5_adapterFor_82 rfl
theorem e100_83 : wp S d 100 83 [a0, a1, a2, a3, a4] (.int y :: .int x :: st) h Q = wp S d 100 84 [a0, a1, a2, a3, a4] (.int (x + y) :: st) h Q := wp_p hc100 dX5_adapterFor_83 rfl
theorem e100_84 : wp S d 100 84 [a0, a1, a2, a3, some (.int x)] st h Q = wp S d 100 86 [a0, a1, a2, a3, some (.int x)] (.int x :: st) h Q := wp_p hc100 dX5_adapterFor_84 rfl
theorem e100_86 : wp S d 100 86 [a0, a1, a2, a3, a4] (.int y :: .int x :: st) h Q = wp S d 100 87 [a0, a1, a2, a3, a4] (.int (x + y) :: st) h Q := wp_p hc100 dX5_adapterFor_86 rfl
theorem e100_87 : wp S d 100 87 [a0, a1, a2, a3, a4] (.int x :: .ref r :: st) h Q = am_iaK h r x (fun z => wp S d 100 88 [a0, a1, a2, a3, a4] (.int z :: st) h Q) := wp_ia hc100 dX5_adapterFor_87
theorem e100_88 : wp S d 100 88 [a0, a1, a2, a3, a4] (.int y :: .int x :: .ref r :: st) h Q = am_isK h r x y (fun h => wp S d 100 89 [a0, a1, a2, a3, a4] st h Q) := wp_is hc100 dX5_adapterFor_88
theorem e100_89 : wp S d 100 89 [a0, a1, a2, a3, some (.int x)] st h Q = wp S d 100 92 [a0, a1, a2, a3, some (.int (x + nI 1))] st h Q := wp_p hc100 dX5_adapterFor_89 rfl
theorem e100_92 : wp S d 100 92 [a0, a1, a2, a3, a4] st h Q = wp S d 100 59 [a0, a1, a2, a3, a4] st h Q := wp_p hc100 dX5_adapterFor_92 rfl
theorem e100_95 : wp S d 100 95 [some (.ref r), a1, a2, a3, a4] st h Q = wp S d 100 96 [some (.ref r), a1, a2, a3, a4] (.ref r :: st) h Q := wp_p hc100 dX5_adapterFor_95 rfl
theorem e100_96 : wp S d 100 96 [a0, a1, a2, a3, a4] (.ref r :: st) h Q = am_gfK h r 5 0 (fun w => wp S d 100 99 [a0, a1, a2, a3, a4] (w :: st) h Q) := wp_gf hc100 dX5_adapterFor_96 ho100 fl5_7
theorem e100_99 : wp S d 100 99 [a0, a1, a2, some (.int x), a4] st h Q = wp S d 100 100 [a0, a1, a2, some (.int x), a4] (.int x :: st) h Q := wp_p hc100 dX5_adapterFor_99 rfl
theorem e100_100 : wp S d 100 100 [a0, a1, a2, a3, a4] st h Q = wp S d 100 102 [a0, a1, a2, a3, a4] (.int (nI 7) :: st) h Q := wp_p hc100 dX5_adapterFor_100 rfl
theorem e100_102 : wp S d 100 102 [a0, a1, a2, a3, a4] (.int y :: .int x :: st) h Q = wp S d 100 103 [a0, a1, a2, a3, a4] (.int (x + y) :: st) h Q := wp_p hc100 dX5_adapterFor_102 rfl
theorem e100_103 : wp S d 100 103 [a0, some (.int x), a2, a3, a4] st h Q = wp S d 100 104 [a0, some (.int x), a2, a3, a4] (.int x :: st) h Q := wp_p hc100 dX5_adapterFor_103 rfl
theorem e100_104 : wp S d 100 104 [a0, a1, a2, a3, a4] (.int y :: .int x :: .ref r :: st) h Q = am_isK h r x y (fun h => wp S d 100 105 [a0, a1, a2, a3, a4] st h Q) := wp_is hc100 dX5_adapterFor_104
theorem e100_105 : wp S d 100 105 [some (.ref r), a1, a2, a3, a4] st h Q = wp S d 100 106 [some (.ref r), a1, a2, a3, a4] (.ref r :: st) h Q := wp_p hc100 dX5_adapterFor_105 rfl
theorem e100_106 : wp S d 100 106 [a0, a1, a2, a3, a4] (.ref r :: st) h Q = am_gfK h r 5 0 (fun w => wp S d 100 109 [a0, a1, a2, a3, a4] (w :: st) h Q) := wp_gf hc100 dX5_adapterFor_106 ho100 fl5_7
theorem e100_109 : wp S d 100 109 [a0, a1, a2, a3, a4] st h Q = wp S d 100 111 [a0, a1, a2, a3, a4] (.int (nI 116) :: st) h Q := wp_p hc100 dX5_adapterFor_109 rfl
theorem e100_111 : wp S d 100 111 [a0, a1, a2, a3, a4] (.int x :: .ref r :: st) h Q = wp S d 100 112 [a0, a1, a2, a3, a4] (.int x :: .ref r :: .int x :: .ref r :: st) h Q := wp_p hc100 dX5_adapterFor_111 rfl
theorem e100_112 : wp S d 100 112 [a0, a1, a2, a3, a4] (.int x :: .ref r :: st) h Q = am_iaK h r x (fun z => wp S d 100 113 [a0, a1, a2, a3, a4] (.int z :: st) h Q) := wp_ia hc100 dX5_adapterFor_112
theorem e100_113 : wp S d 100 113 [a0, a1, a2, a3, a4] st h Q = wp S d 100 114 [a0, a1, a2, a3, a4] (.int (nI 1) :: st) h Q := wp_p hc100 dX5_adapterFor_113 rfl
theorem e100_114 : wp S d 100 114 [a0, a1, a2, a3, a4] (.int y :: .int x :: st) h Q = wp S d 100 115 [a0, a1, a2, a3, a4] (.int (x + y) :: st) h Q := wp_p hc100 dX5_adapterFor_114 rfl
theorem e100_115 : wp S d 100 115 [a0, a1, a2, a3, a4] (.int y :: .int x :: .ref r :: st) h Q = am_isK h r x y (fun h => wp S d 100 116 [a0, a1, a2, a3, a4] st h Q) := wp_is hc100 dX5_adapterFor_115
theorem e100_116 : wp S d 100 116 [some (.ref r), a1, a2, a3, a4] st h Q = wp S d 100 117 [some (.ref r), a1, a2, a3, a4] (.ref r :: st) h Q := wp_p hc100 dX5_adapterFor_116 rfl
theorem e100_117 : wp S d 100 117 [a0, a1, a2, a3, a4] (.ref r :: st) h Q = am_gfK h r 5 0 (fun w => wp S d 100 120 [a0, a1, a2, a3, a4] (w :: st) h Q) := wp_gf hc100 dX5_adapterFor_117 ho100 fl5_7
theorem e100_120 : wp S d 100 120 [a0, a1, a2, a3, a4] st h Q = wp S d 100 122 [a0, a1, a2, a3, a4] (.int (nI 116) :: st) h Q := wp_p hc100 dX5_adapterFor_120 rfl
theorem e100_122 : wp S d 100 122 [a0, a1, a2, a3, a4] (.int x :: .ref r :: st) h Q = am_iaK h r x (fun z => wp S d 100 123 [a0, a1, a2, a3, a4] (.int z :: st) h Q) := wp_ia hc100 dX5_adapterFor_122
theorem e100_123 : wp S d 100 123 [a0, a1, a2, a3, a4] st h Q = wp S d 100 124 [a0, a1, a2, a3, a4] (.int (nI 1) :: st) h Q := wp_p hc100 dX5_adapterFor_123 rfl
theorem e100_124 : wp S d 100 124 [a0, a1, a2, a3, a4] (.int y :: .int x :: st) h Q = wp S d 100 125 [a0, a1, a2, a3, a4] (.int (x - y) :: st) h Q := wp_p hc100 dX5_adapterFor_124 rfl
theorem e100_125 : wp S d 100 125 ls [.int x] h Q = Q (.inl (some (.int x)), h) := wp_r hc100 dX5_adapterFor_125 rfl rfl ⟨x, _, rfl, rfl, rfl, rfl⟩
theorem e101_0 : wp S d 101 0 [a0, some (.int x), a2, a3, a4, a5, a6, a7, a8] st h Q = wp S d 101 1 [a0, some (.int x), a2, a3, a4, a5, a6, a7, a8] (.int x :: st) h Q := wp_p hc101 dX5_reason_0 rfl
theorem e101_1 : wp S (d + 1) 101 1 [a0, a1, a2, a3, a4, a5, a6, a7, a8] (.int x1 :: st) h Q = (am_w8 st ∧ wp S d 93 0 [some (.int x1)] [] h (am_kr S 0 (d + 1) 101 1 [a0, a1, a2, a3, a4, a5, a6, a7, a8] st Q)) := wp_cS [.int x1] hc101 dX5_reason_1 ho101 cl5_114 (by decide) ns5_114 hst93 hnp93 hml93 hlsl93 rfl rfl rfl
theorem e101_4 : wp S d 101 4 [a0, a1, a2, a3, a4, a5, a6, a7, a8] (.int x :: st) h Q = wp S d 101 5 [a0, a1, some (.int x), a3, a4, a5, a6, a7, a8] st h Q := wp_p hc101 dX5_reason_4 rfl
theorem e101_5 : wp S d 101 5 [some (.ref r), a1, a2, a3, a4, a5, a6, a7, a8] st h Q = wp S d 101 6 [some (.ref r), a1, a2, a3, a4, a5, a6, a7, a8] (.ref r :: st) h Q := wp_p hc101 dX5_reason_5 rfl
theorem e101_6 : wp S d 101 6 [a0, some (.int x), a2, a3, a4, a5, a6, a7, a8] st h Q = wp S d 101 7 [a0, some (.int x), a2, a3, a4, a5, a6, a7, a8] (.int x :: st) h Q := wp_p hc101 dX5_reason_6 rfl
theorem e101_7 : wp S (d + 1) 101 7 [a0, a1, a2, a3, a4, a5, a6, a7, a8] (.int x1 :: .ref r0 :: st) h Q = (am_w8 st ∧ am_rcv h 2 102 (.ref r0) = true ∧ wp S d 102 0 [some (.ref r0), some (.int x1)] [] h (am_kr S 2 (d + 1) 101 7 [a0, a1, a2, a3, a4, a5, a6, a7, a8] st Q)) := wp_cV (.ref r0) [.int x1] hc101 dX5_reason_7 ho101 cl5_176 (by decide) ns5_176 hst102 hnp102 hml102 hlsl102 rfl rfl rfl
theorem e101_10 : wp S d 101 10 [a0, a1, a2, a3, a4, a5, a6, a7, a8] (.int x :: st) h Q = wp S d 101 11 [a0, a1, a2, some (.int x), a4, a5, a6, a7, a8] st h Q := wp_p hc101 dX5_reason_10 rfl
theorem e101_11 : wp S d 101 11 [a0, a1, a2, a3, a4, a5, a6, a7, a8] st h Q = wp S d 101 12 [a0, a1, a2, a3, a4, a5, a6, a7, a8] (.int (nI 0) :: st) h Q := wp_p hc101 dX5_reason_11 rfl
theorem e101_12 : wp S d 101 12 [a0, a1, a2, a3, a4, a5, a6, a7, a8] (.int x :: st) h Q = wp S d 101 14 [a0, a1, a2, a3, some (.int x), a5, a6, a7, a8] st h Q := wp_p hc101 dX5_reason_12 rfl
theorem e101_14 : wp S d 101 14 [a0, a1, a2, a3, a4, a5, a6, a7, a8] st h Q = wp S d 101 15 [a0, a1, a2, a3, a4, a5, a6, a7, a8] (.int (nI 0) :: st) h Q := wp_p hc101 dX5_reason_14 rfl
theorem e101_15 : wp S d 101 15 [a0, a1, a2, a3, a4, a5, a6, a7, a8] (.int x :: st) h Q = wp S d 101 17 [a0, a1, a2, a3, a4, some (.int x), a6, a7, a8] st h Q := wp_p hc101 dX5_reason_15 rfl
theorem e101_17 : wp S d 101 17 [a0, a1, a2, a3, a4, a5, a6, a7, a8] st h Q = wp S d 101 18 [a0, a1, a2, a3, a4, a5, a6, a7, a8] (.int (nI 0) :: st) h Q := wp_p hc101 dX5_reason_17 rfl
theorem e101_18 : wp S d 101 18 [a0, a1, a2, a3, a4, a5, a6, a7, a8] (.int x :: st) h Q = wp S d 101 20 [a0, a1, a2, a3, a4, a5, some (.int x), a7, a8] st h Q := wp_p hc101 dX5_reason_18 rfl
theorem e101_20 : wp S d 101 20 [a0, a1, a2, a3, a4, a5, some (.int x), a7, a8] st h Q = wp S d 101 22 [a0, a1, a2, a3, a4, a5, some (.int x), a7, a8] (.int x :: st) h Q := wp_p hc101 dX5_reason_20 rfl
theorem e101_22 : wp S d 101 22 [a0, some (.int x), a2, a3, a4, a5, a6, a7, a8] st h Q = wp S d 101 23 [a0, some (.int x), a2, a3, a4, a5, a6, a7, a8] (.int x :: st) h Q := wp_p hc101 dX5_reason_22 rfl
theorem e101_23 : wp S (d + 1) 101 23 [a0, a1, a2, a3, a4, a5, a6, a7, a8] (.int x1 :: st) h Q = (am_w8 st ∧ wp S d 96 0 [some (.int x1)] [] h (am_kr S 0 (d + 1) 101 23 [a0, a1, a2, a3, a4, a5, a6, a7, a8] st Q)) := wp_cS [.int x1] hc101 dX5_reason_23 ho101 cl5_167 (by decide) ns5_167 hst96 hnp96 hml96 hlsl96 rfl rfl rfl
theorem e101_26 : wp S d 101 26 [a0, a1, a2, a3, a4, a5, a6, a7, a8] (.int y :: .int x :: st) h Q = if y ≤ x then wp S d 101 102 [a0, a1, a2, a3, a4, a5, a6, a7, a8] st h Q else wp S d 101 29 [a0, a1, a2, a3, a4, a5, a6, a7, a8] st h Q := wp_ge hc101 dX5_reason_26 rfl
theorem e101_29 : wp S d 101 29 [a0, a1, a2, a3, some (.int x), a5, a6, a7, a8] st h Q = wp S d 101 31 [a0, a1, a2, a3, some (.int x), a5, a6, a7, a8] (.int x :: st) h Q := wp_p hc101 dX5_reason_29 rfl
theorem e101_31 : wp S d 101 31 [a0, a1, a2, a3, a4, a5, a6, a7, a8] (.int x :: st) h Q = if x = 0 then wp S d 101 34 [a0, a1, a2, a3, a4, a5, a6, a7, a8] st h Q else wp S d 101 56 [a0, a1, a2, a3, a4, a5, a6, a7, a8] st h Q := wp_ne hc101 dX5_reason_31 rfl
theorem e101_34 : wp S d 101 34 [some (.ref r), a1, a2, a3, a4, a5, a6, a7, a8] st h Q = wp S d 101 35 [some (.ref r), a1, a2, a3, a4, a5, a6, a7, a8] (.ref r :: st) h Q := wp_p hc101 dX5_reason_34 rfl
theorem e101_35 : wp S d 101 35 [a0, a1, a2, some (.int x), a4, a5, a6, a7, a8] st h Q = wp S d 101 36 [a0, a1, a2, some (.int x), a4, a5, a6, a7, a8] (.int x :: st) h Q := wp_p hc101 dX5_reason_35 rfl
theorem e101_36 : wp S d 101 36 [a0, a1, a2, a3, a4, a5, some (.int x), a7, a8] st h Q = wp S d 101 38 [a0, a1, a2, a3, a4, a5, some (.int x), a7, a8] (.int x :: st) h Q := wp_p hc101 dX5_reason_36 rfl
theorem e101_38 : wp S d 101 38 [a0, a1, a2, a3, a4, a5, a6, a7, a8] (.int y :: .int x :: st) h Q = wp S d 101 39 [a0, a1, a2, a3, a4, a5, a6, a7, a8] (.int (x + y) :: st) h Q := wp_p hc101 dX5_reason_38 rfl
theorem e101_39 : wp S (d + 1) 101 39 [a0, a1, a2, a3, a4, a5, a6, a7, a8] (.int x1 :: .ref r0 :: st) h Q = (am_w8 st ∧ am_rcv h 2 103 (.ref r0) = true ∧ wp S d 103 0 [some (.ref r0), some (.int x1), none, none] [] h (am_kr S 2 (d + 1) 101 39 [a0, a1, a2, a3, a4, a5, a6, a7, a8] st Q)) := wp_cV (.ref r0) [.int x1] hc101 dX5_reason_39 ho101 cl5_179 (by decide) ns5_179 hst103 hnp103 hml103 hlsl103 rfl rfl rfl
theorem e101_42 : wp S d 101 42 [a0, a1, a2, a3, a4, a5, a6, a7, a8] (.int x :: st) h Q = if x = 0 then wp S d 101 60 [a0, a1, a2, a3, a4, a5, a6, a7, a8] st h Q else wp S d 101 45 [a0, a1, a2, a3, a4, a5, a6, a7, a8] st h Q := wp_eq hc101 dX5_reason_42 rfl
theorem e101_45 : wp S d 101 45 [some (.ref r), a1, a2, a3, a4, a5, a6, a7, a8] st h Q = wp S d 101 46 [some (.ref r), a1, a2, a3, a4, a5, a6, a7, a8] (.ref r :: st) h Q := wp_p hc101 dX5_reason_45 rfl
theorem e101_46 : wp S d 101 46 [a0, a1, some (.int x), a3, a4, a5, a6, a7, a8] st h Q = wp S d 101 47 [a0, a1, some (.int x), a3, a4, a5, a6, a7, a8] (.int x :: st) h Q := wp_p hc101 dX5_reason_46 rfl
theorem e101_47 : wp S d 101 47 [a0, a1, a2, a3, a4, a5, some (.int x), a7, a8] st h Q = wp S d 101 49 [a0, a1, a2, a3, a4, a5, some (.int x), a7, a8] (.int x :: st) h Q := wp_p hc101 dX5_reason_47 rfl
theorem e101_49 : wp S (d + 1) 101 49 [a0, a1, a2, a3, a4, a5, a6, a7, a8] (.int x2 :: .int x1 :: .ref r0 :: st) h Q = (am_w8 st ∧ am_rcv h 2 104 (.ref r0) = true ∧ wp S d 104 0 [some (.ref r0), some (.int x1), some (.int x2), none, none] [] h (am_kr S 2 (d + 1) 101 49 [a0, a1, a2, a3, a4, a5, a6, a7, a8] st Q)) := wp_cV (.ref r0) [.int x1, .int x2] hc101 dX5_reason_49 ho101 cl5_182 (by decide) ns5_182 hst104 hnp104 hml104 hlsl104 rfl rfl rfl
theorem e101_52 : wp S d 101 52 [a0, a1, a2, a3, a4, a5, a6, a7, a8] st h Q = wp S d 101 53 [a0, a1, a2, a3, a4, a5, a6, a7, a8] (.int (nI 1) :: st) h Q := wp_p hc101 dX5_reason_52 rfl
theorem e101_53 : wp S d 101 53 [a0, a1, a2, a3, a4, a5, a6, a7, a8] (.int y :: .int x :: st) h Q = if x ≤ y then wp S d 101 60 [a0, a1, a2, a3, a4, a5, a6, a7, a8] st h Q else wp S d 101 56 [a0, a1, a2, a3, a4, a5, a6, a7, a8] st h Q := wp_le hc101 dX5_reason_53 rfl
theorem e101_56 : wp S d 101 56 [a0, a1, a2, a3, a4, a5, a6, a7, a8] st h Q = wp S d 101 57 [a0, a1, a2, a3, a4, a5, a6, a7, a8] (.int (nI 1) :: st) h Q := wp_p hc101 dX5_reason_56 rfl
theorem e101_57 : wp S d 101 57 [a0, a1, a2, a3, a4, a5, a6, a7, a8] st h Q = wp S d 101 61 [a0, a1, a2, a3, a4, a5, a6, a7, a8] st h Q := wp_p hc101 dX5_reason_57 rfl
theorem e101_60 : wp S d 101 60 [a0, a1, a2, a3, a4, a5, a6, a7, a8] st h Q = wp S d 101 61 [a0, a1, a2, a3, a4, a5, a6, a7, a8] (.int (nI 0) :: st) h Q := wp_p hc101 dX5_reason_60 rfl
theorem e101_61 : wp S d 101 61 [a0, a1, a2, a3, a4, a5, a6, a7, a8] (.int x :: st) h Q = wp S d 101 63 [a0, a1, a2, a3, some (.int x), a5, a6, a7, a8] st h Q := wp_p hc101 dX5_reason_61 rfl
theorem e101_63 : wp S d 101 63 [a0, a1, a2, a3, a4, some (.int x), a6, a7, a8] st h Q = wp S d 101 65 [a0, a1, a2, a3, a4, some (.int x), a6, a7, a8] (.int x :: st) h Q := wp_p hc101 dX5_reason_63 rfl
theorem e101_65 : wp S d 101 65 [a0, a1, a2, a3, a4, a5, a6, a7, a8] (.int x :: st) h Q = if x = 0 then wp S d 101 68 [a0, a1, a2, a3, a4, a5, a6, a7, a8] st h Q else wp S d 101 89 [a0, a1, a2, a3, a4, a5, a6, a7, a8] st h Q := wp_ne hc101 dX5_reason_65 rfl
theorem e101_68 : wp S d 101 68 [some (.ref r), a1, a2, a3, a4, a5, a6, a7, a8] st h Q = wp S d 101 69 [some (.ref r), a1, a2, a3, a4, a5, a6, a7, a8] (.ref r :: st) h Q := wp_p hc101 dX5_reason_68 rfl
theorem e101_69 : wp S d 101 69 [a0, a1, a2, some (.int x), a4, a5, a6, a7, a8] st h Q = wp S d 101 70 [a0, a1, a2, some (.int x), a4, a5, a6, a7, a8] (.int x :: st) h Q := wp_p hc101 dX5_reason_69 rfl
theorem e101_70 : wp S d 101 70 [a0, a1, a2, a3, a4, a5, some (.int x), a7, a8] st h Q = wp S d 101 72 [a0, a1, a2, a3, a4, a5, some (.int x), a7, a8] (.int x :: st) h Q := wp_p hc101 dX5_reason_70 rfl
theorem e101_72 : wp S d 101 72 [a0, a1, a2, a3, a4, a5, a6, a7, a8] (.int y :: .int x :: st) h Q = wp S d 101 73 [a0, a1, a2, a3, a4, a5, a6, a7, a8] (.int (x + y) :: st) h Q := wp_p hc101 dX5_reason_72 rfl
theorem e101_73 : wp S (d + 1) 101 73 [a0, a1, a2, a3, a4, a5, a6, a7, a8] (.int x1 :: .ref r0 :: st) h Q = (am_w8 st ∧ am_rcv h 2 103 (.ref r0) = true ∧ wp S d 103 0 [some (.ref r0), some (.int x1), none, none] [] h (am_kr S 2 (d + 1) 101 73 [a0, a1, a2, a3, a4, a5, a6, a7, a8] st Q)) := wp_cV (.ref r0) [.int x1] hc101 dX5_reason_73 ho101 cl5_179 (by decide) ns5_179 hst103 hnp103 hml103 hlsl103 rfl rfl rfl
theorem e101_76 : wp S d 101 76 [a0, a1, a2, a3, a4, a5, a6, a7, a8] (.int x :: st) h Q = if x = 0 then wp S d 101 93 [a0, a1, a2, a3, a4, a5, a6, a7, a8] st h Q else wp S d 101 79 [a0, a1, a2, a3, a4, a5, a6, a7, a8] st h Q := wp_eq hc101 dX5_reason_76 rfl
theorem e101_79 : wp S d 101 79 [some (.ref r), a1, a2, a3, a4, a5, a6, a7, a8] st h Q = wp S d 101 80 [some (.ref r), a1, a2, a3, a4, a5, a6, a7, a8] (.ref r :: st) h Q := wp_p hc101 dX5_reason_79 rfl
theorem e101_80 : wp S d 101 80 [a0, a1, some (.int x), a3, a4, a5, a6, a7, a8] st h Q = wp S d 101 81 [a0, a1, some (.int x), a3, a4, a5, a6, a7, a8] (.int x :: st) h Q := wp_p hc101 dX5_reason_80 rfl
theorem e101_81 : wp S d 101 81 [a0, a1, a2, a3, a4, a5, some (.int x), a7, a8] st h Q = wp S d 101 83 [a0, a1, a2, a3, a4, a5, some (.int x), a7, a8] (.int x :: st) h Q := wp_p hc101 dX5_reason_81 rfl
theorem e101_83 : wp S (d + 1) 101 83 [a0, a1, a2, a3, a4, a5, a6, a7, a8] (.int x2 :: .int x1 :: .ref r0 :: st) h Q = (am_w8 st ∧ am_rcv h 2 104 (.ref r0) = true ∧ wp S d 104 0 [some (.ref r0), some (.int x1), some (.int x2), none, none] [] h (am_kr S 2 (d + 1) 101 83 [a0, a1, a2, a3, a4, a5, a6, a7, a8] st Q)) := wp_cV (.ref r0) [.int x1, .int x2] hc101 dX5_reason_83 ho101 cl5_182 (by decide) ns5_182 hst104 hnp104 hml104 hlsl104 rfl rfl rfl
theorem e101_86 : wp S d 101 86 [a0, a1, a2, a3, a4, a5, a6, a7, a8] (.int x :: st) h Q = if x = 0 then wp S d 101 89 [a0, a1, a2, a3, a4, a5, a6, a7, a8] st h Q else wp S d 101 93 [a0, a1, a2, a3, a4, a5, a6, a7, a8] st h Q := wp_ne hc101 dX5_reason_86 rfl
theorem e101_89 : wp S d 101 89 [a0, a1, a2, a3, a4, a5, a6, a7, a8] st h Q = wp S d 101 90 [a0, a1, a2, a3, a4, a5, a6, a7, a8] (.int (nI 1) :: st) h Q := wp_p hc101 dX5_reason_89 rfl
theorem e101_90 : wp S d 101 90 [a0, a1, a2, a3, a4, a5, a6, a7, a8] st h Q = wp S d 101 94 [a0, a1, a2, a3, a4, a5, a6, a7, a8] st h Q := wp_p hc101 dX5_reason_90 rfl
theorem e101_93 : wp S d 101 93 [a0, a1, a2, a3, a4, a5, a6, a7, a8] st h Q = wp S d 101 94 [a0, a1, a2, a3, a4, a5, a6, a7, a8] (.int (nI 0) :: st) h Q := wp_p hc101 dX5_reason_93 rfl
theorem e101_94 : wp S d 101 94 [a0, a1, a2, a3, a4, a5, a6, a7, a8] (.int x :: st) h Q = wp S d 101 96 [a0, a1, a2, a3, a4, some (.int x), a6, a7, a8] st h Q := wp_p hc101 dX5_reason_94 rfl
theorem e101_96 : wp S d 101 96 [a0, a1, a2, a3, a4, a5, some (.int x), a7, a8] st h Q = wp S d 101 99 [a0, a1, a2, a3, a4, a5, some (.int (x + nI 1)), a7, a8] st h Q := wp_p hc101 dX5_reason_96 rfl
theorem e101_99 : wp S d 101 99 [a0, a1, a2, a3, a4, a5, a6, a7, a8] st h Q = wp S d 101 20 [a0, a1, a2, a3, a4, a5, a6, a7, a8] st h Q := wp_p hc101 dX5_reason_99 rfl
theorem e101_102 : wp S d 101 102 [a0, a1, a2, a3, some (.int x), a5, a6, a7, a8] st h Q = wp S d 101 104 [a0, a1, a2, a3, some (.int x), a5, a6, a7, a8] (.int x :: st) h Q := wp_p hc101 dX5_reason_102 rfl
theorem e101_104 : wp S d 101 104 [a0, a1, a2, a3, a4, a5, a6, a7, a8] (.int x :: st) h Q = if x = 0 then wp S d 101 107 [a0, a1, a2, a3, a4, a5, a6, a7, a8] st h Q else wp S d 101 112 [a0, a1, a2, a3, a4, a5, a6, a7, a8] st h Q := wp_ne hc101 dX5_reason_104 rfl
theorem e101_107 : wp S d 101 107 [a0, a1, a2, a3, a4, some (.int x), a6, a7, a8] st h Q = wp S d 101 109 [a0, a1, a2, a3, a4, some (.int x), a6, a7, a8] (.int x :: st) h Q := wp_p hc101 dX5_reason_107 rfl
theorem e101_109 : wp S d 101 109 [a0, a1, a2, a3, a4, a5, a6, a7, a8] (.int x :: st) h Q = if x = 0 then wp S d 101 123 [a0, a1, a2, a3, a4, a5, a6, a7, a8] st h Q else wp S d 101 112 [a0, a1, a2, a3, a4, a5, a6, a7, a8] st h Q := wp_eq hc101 dX5_reason_109 rfl
theorem e101_112 : wp S d 101 112 [a0, a1, a2, a3, some (.int x), a5, a6, a7, a8] st h Q = wp S d 101 114 [a0, a1, a2, a3, some (.int x), a5, a6, a7, a8] (.int x :: st) h Q := wp_p hc101 dX5_reason_112 rfl
theorem e101_114 : wp S d 101 114 [a0, a1, a2, a3, a4, a5, a6, a7, a8] (.int x :: st) h Q = if x = 0 then wp S d 101 121 [a0, a1, a2, a3, a4, a5, a6, a7, a8] st h Q else wp S d 101 117 [a0, a1, a2, a3, a4, a5, a6, a7, a8] st h Q := wp_eq hc101 dX5_reason_114 rfl
theorem e101_117 : wp S d 101 117 [a0, a1, a2, a3, a4, a5, a6, a7, a8] st h Q = wp S d 101 118 [a0, a1, a2, a3, a4, a5, a6, a7, a8] (.int (nI 4) :: st) h Q := wp_p hc101 dX5_reason_117 rfl
theorem e101_118 : wp S d 101 118 [a0, a1, a2, a3, a4, a5, a6, a7, a8] st h Q = wp S d 101 122 [a0, a1, a2, a3, a4, a5, a6, a7, a8] st h Q := wp_p hc101 dX5_reason_118 rfl
theorem e101_121 : wp S d 101 121 [a0, a1, a2, a3, a4, a5, a6, a7, a8] st h Q = wp S d 101 122 [a0, a1, a2, a3, a4, a5, a6, a7, a8] (.int (nI 5) :: st) h Q := wp_p hc101 dX5_reason_121 rfl
theorem e101_122 : wp S d 101 122 ls [.int x] h Q = Q (.inl (some (.int x)), h) := wp_r hc101 dX5_reason_122 rfl rfl ⟨x, _, rfl, rfl, rfl, rfl⟩
theorem e101_123 : wp S d 101 123 [a0, a1, a2, a3, a4, a5, a6, a7, a8] st h Q = wp S d 101 124 [a0, a1, a2, a3, a4, a5, a6, a7, a8] (.int ((-1)) :: st) h Q := wp_p hc101 dX5_reason_123 rfl
theorem e101_124 : wp S d 101 124 [a0, a1, a2, a3, a4, a5, a6, a7, a8] (.int x :: st) h Q = wp S d 101 126 [a0, a1, a2, a3, a4, a5, some (.int x), a7, a8] st h Q := wp_p hc101 dX5_reason_124 rfl
theorem e101_126 : wp S d 101 126 [a0, a1, a2, a3, a4, a5, a6, a7, a8] st h Q = wp S d 101 127 [a0, a1, a2, a3, a4, a5, a6, a7, a8] (.int (nI 0) :: st) h Q := wp_p hc101 dX5_reason_126 rfl
theorem e101_127 : wp S d 101 127 [a0, a1, a2, a3, a4, a5, a6, a7, a8] (.int x :: st) h Q = wp S d 101 129 [a0, a1, a2, a3, a4, a5, a6, some (.int x), a8] st h Q := wp_p hc101 dX5_reason_127 rfl
theorem e101_129 : wp S d 101 129 [a0, a1, a2, a3, a4, a5, a6, some (.int x), a8] st h Q = wp S d 101 131 [a0, a1, a2, a3, a4, a5, a6, some (.int x), a8] (.int x :: st) h Q := wp_p hc101 dX5_reason_129 rfl
theorem e101_131 : wp S d 101 131 [some (.ref r), a1, a2, a3, a4, a5, a6, a7, a8] st h Q = wp S d 101 132 [some (.ref r), a1, a2, a3, a4, a5, a6, a7, a8] (.ref r :: st) h Q := wp_p hc101 dX5_reason_131 rfl
theorem e101_132 : wp S d 101 132 [a0, a1, some (.int x), a3, a4, a5, a6, a7, a8] st h Q = wp S d 101 133 [a0, a1, some (.int x), a3, a4, a5, a6, a7, a8] (.int x :: st) h Q := wp_p hc101 dX5_reason_132 rfl
theorem e101_133 : wp S (d + 1) 101 133 [a0, a1, a2, a3, a4, a5, a6, a7, a8] (.int x1 :: .ref r0 :: st) h Q = (am_w8 st ∧ am_rcv h 2 73 (.ref r0) = true ∧ wp S d 73 0 [some (.ref r0), some (.int x1)] [] h (am_kr S 2 (d + 1) 101 133 [a0, a1, a2, a3, a4, a5, a6, a7, a8] st Q)) := wp_cV (.ref r0) [.int x1] hc101 dX5_reason_133 ho101 cl5_89 (by decide) ns5_89 hst73 hnp73 hml73 hlsl73 rfl rfl rfl
theorem e101_136 : wp S d 101 136 [a0, a1, a2, a3, a4, a5, a6, a7, a8] (.int y :: .int x :: st) h Q = if y ≤ x then wp S d 101 186 [a0, a1, a2, a3, a4, a5, a6, a7, a8] st h Q else wp S d 101 139 [a0, a1, a2, a3, a4, a5, a6, a7, a8] st h Q := wp_ge hc101 dX5_reason_136 rfl
theorem e101_139 : wp S d 101 139 [some (.ref r), a1, a2, a3, a4, a5, a6, a7, a8] st h Q = wp S d 101 140 [some (.ref r), a1, a2, a3, a4, a5, a6, a7, a8] (.ref r :: st) h Q := wp_p hc101 dX5_reason_139 rfl
theorem e101_140 : wp S d 101 140 [a0, a1, some (.int x), a3, a4, a5, a6, a7, a8] st h Q = wp S d 101 141 [a0, a1, some (.int x), a3, a4, a5, a6, a7, a8] (.int x :: st) h Q := wp_p hc101 dX5_reason_140 rfl
theorem e101_141 : wp S d 101 141 [a0, a1, a2, a3, a4, a5, a6, some (.int x), a8] st h Q = wp S d 101 143 [a0, a1, a2, a3, a4, a5, a6, some (.int x), a8] (.int x :: st) h Q := wp_p hc101 dX5_reason_141 rfl
theorem e101_143 : wp S (d + 1) 101 143 [a0, a1, a2, a3, a4, a5, a6, a7, a8] (.int x2 :: .int x1 :: .ref r0 :: st) h Q = (am_w8 st ∧ am_rcv h 2 74 (.ref r0) = true ∧ wp S d 74 0 [some (.ref r0), some (.int x1), some (.int x2)] [] h (am_kr S 2 (d + 1) 101 143 [a0, a1, a2, a3, a4, a5, a6, a7, a8] st Q)) := wp_cV (.ref r0) [.int x1, .int x2] hc101 dX5_reason_143 ho101 cl5_92 (by decide) ns5_92 hst74 hnp74 hml74 hlsl74 rfl rfl rfl
theorem e101_146 : wp S d 101 146 [a0, a1, a2, a3, a4, a5, a6, a7, a8] (.int x :: st) h Q = wp S d 101 148 [a0, a1, a2, a3, a4, a5, a6, a7, some (.int x)] st h Q := wp_p hc101 dX5_reason_146 rfl
theorem e101_148 : wp S d 101 148 [a0, a1, a2, a3, a4, a5, a6, a7, some (.int x)] st h Q = wp S d 101 150 [a0, a1, a2, a3, a4, a5, a6, a7, some (.int x)] (.int x :: st) h Q := wp_p hc101 dX5_reason_148 rfl
theorem e101_150 : wp S d 101 150 [a0, a1, a2, a3, a4, a5, a6, a7, a8] st h Q = wp S d 101 152 [a0, a1, a2, a3, a4, a5, a6, a7, a8] (.int (nI 100) :: st) h Q := wp_p hc101 dX5_reason_150 rfl
theorem e101_152 : wp S d 101 152 [a0, a1, a2, a3, a4, a5, a6, a7, a8] (.int y :: .int x :: st) h Q = if y ≤ x then wp S d 101 180 [a0, a1, a2, a3, a4, a5, a6, a7, a8] st h Q else wp S d 101 155 [a0, a1, a2, a3, a4, a5, a6, a7, a8] st h Q := wp_ge hc101 dX5_reason_152 rfl
theorem e101_155 : wp S d 101 155 [some (.ref r), a1, a2, a3, a4, a5, a6, a7, a8] st h Q = wp S d 101 156 [some (.ref r), a1, a2, a3, a4, a5, a6, a7, a8] (.ref r :: st) h Q := wp_p hc101 dX5_reason_155 rfl
theorem e101_156 : wp S d 101 156 [a0, a1, a2, some (.int x), a4, a5, a6, a7, a8] st h Q = wp S d 101 157 [a0, a1, a2, some (.int x), a4, a5, a6, a7, a8] (.int x :: st) h Q := wp_p hc101 dX5_reason_156 rfl
theorem e101_157 : wp S d 101 157 [a0, a1, a2, a3, a4, a5, a6, a7, some (.int x)] st h Q = wp S d 101 159 [a0, a1, a2, a3, a4, a5, a6, a7, some (.int x)] (.int x :: st) h Q := wp_p hc101 dX5_reason_157 rfl
theorem e101_159 : wp S d 101 159 [a0, a1, a2, a3, a4, a5, a6, a7, a8] (.int y :: .int x :: st) h Q = wp S d 101 160 [a0, a1, a2, a3, a4, a5, a6, a7, a8] (.int (x + y) :: st) h Q := wp_p hc101 dX5_reason_159 rfl
theorem e101_160 : wp S (d + 1) 101 160 [a0, a1, a2, a3, a4, a5, a6, a7, a8] (.int x1 :: .ref r0 :: st) h Q = (am_w8 st ∧ am_rcv h 2 103 (.ref r0) = true ∧ wp S d 103 0 [some (.ref r0), some (.int x1), none, none] [] h (am_kr S 2 (d + 1) 101 160 [a0, a1, a2, a3, a4, a5, a6, a7, a8] st Q)) := wp_cV (.ref r0) [.int x1] hc101 dX5_reason_160 ho101 cl5_179 (by decide) ns5_179 hst103 hnp103 hml103 hlsl103 rfl rfl rfl
theorem e101_163 : wp S d 101 163 [a0, a1, a2, a3, a4, a5, a6, a7, a8] (.int x :: st) h Q = if x = 0 then wp S d 101 180 [a0, a1, a2, a3, a4, a5, a6, a7, a8] st h Q else wp S d 101 166 [a0, a1, a2, a3, a4, a5, a6, a7, a8] st h Q := wp_eq hc101 dX5_reason_163 rfl
theorem e101_166 : wp S d 101 166 [a0, a1, a2, a3, a4, a5, a6, a7, some (.int x)] st h Q = wp S d 101 168 [a0, a1, a2, a3, a4, a5, a6, a7, some (.int x)] (.int x :: st) h Q := wp_p hc101 dX5_reason_166 rfl
theorem e101_168 : wp S d 101 168 [a0, a1, a2, a3, a4, a5, some (.int x), a7, a8] st h Q = wp S d 101 170 [a0, a1, a2, a3, a4, a5, some (.int x), a7, a8] (.int x :: st) h Q := wp_p hc101 dX5_reason_168 rfl
theorem e101_170 : wp S d 101 170 [a0, a1, a2, a3, a4, a5, a6, a7, a8] (.int y :: .int x :: st) h Q = if y ≤ x then wp S d 101 176 [a0, a1, a2, a3, a4, a5, a6, a7, a8] st h Q else wp S d 101 173 [a0, a1, a2, a3, a4, a5, a6, a7, a8] st h Q := wp_ge hc101 dX5_reason_170 rfl
theorem e101_173 : wp S d 101 173 [a0, a1, a2, a3, a4, a5, a6, a7, a8] st h Q = wp S d 101 175 [a0, a1, a2, a3, a4, a5, a6, a7, a8] (.int (nI 6) :: st) h Q := wp_p hc101 dX5_reason_173 rfl
theorem e101_175 : wp S d 101 175 ls [.int x] h Q = Q (.inl (some (.int x)), h) := wp_r hc101 dX5_reason_175 rfl rfl ⟨x, _, rfl, rfl, rfl, rfl⟩
theorem e101_176 : wp S d 101 176 [a0, a1, a2, a3, a4, a5, a6, a7, some (.int x)] st h Q = wp S d 101 178 [a0, a1, a2, a3, a4, a5, a6, a7, some (.int x)] (.int x :: st) h Q := wp_p hc101 dX5_reason_176 rfl
theorem e101_178 : wp S d 101 178 [a0, a1, a2, a3, a4, a5, a6, a7, a8] (.int x :: st) h Q = wp S d 101 180 [a0, a1, a2, a3, a4, a5, some (.int x), a7, a8] st h Q := wp_p hc101 dX5_reason_178 rfl
theorem e101_180 : wp S d 101 180 [a0, a1, a2, a3, a4, a5, a6, some (.int x), a8] st h Q = wp S d 101 183 [a0, a1, a2, a3, a4, a5, a6, some (.int (x + nI 1)), a8] st h Q := wp_p hc101 dX5_reason_180 rfl
theorem e101_183 : wp S d 101 183 [a0, a1, a2, a3, a4, a5, a6, a7, a8] st h Q = wp S d 101 129 [a0, a1, a2, a3, a4, a5, a6, a7, a8] st h Q := wp_p hc101 dX5_reason_183 rfl
theorem e101_186 : wp S d 101 186 [some (.ref r), a1, a2, a3, a4, a5, a6, a7, a8] st h Q = wp S d 101 187 [some (.ref r), a1, a2, a3, a4, a5, a6, a7, a8] (.ref r :: st) h Q := wp_p hc101 dX5_reason_186 rfl
theorem e101_187 : wp S d 101 187 [a0, a1, a2, a3, a4, a5, a6, a7, a8] (.ref r :: st) h Q = am_gfK h r 5 19 (fun w => wp S d 101 190 [a0, a1, a2, a3, a4, a5, a6, a7, a8] (w :: st) h Q) := wp_gf hc101 dX5_reason_187 ho101 fl5_185
theorem e101_190 : wp S d 101 190 [some (.ref r), a1, a2, a3, a4, a5, a6, a7, a8] st h Q = wp S d 101 191 [some (.ref r), a1, a2, a3, a4, a5, a6, a7, a8] (.ref r :: st) h Q := wp_p hc101 dX5_reason_190 rfl
theorem e101_191 : wp S d 101 191 [a0, a1, a2, some (.int x), a4, a5, a6, a7, a8] st h Q = wp S d 101 192 [a0, a1, a2, some (.int x), a4, a5, a6, a7, a8] (.int x :: st) h Q := wp_p hc101 dX5_reason_191 rfl
theorem e101_192 : wp S d 101 192 [some (.ref r), a1, a2, a3, a4, a5, a6, a7, a8] st h Q = wp S d 101 193 [some (.ref r), a1, a2, a3, a4, a5, a6, a7, a8] (.ref r :: st) h Q := wp_p hc101 dX5_reason_192 rfl
theorem e101_193 : wp S d 101 193 [a0, a1, a2, a3, a4, a5, a6, a7, a8] (.ref r :: st) h Q = am_gfK h r 5 14 (fun w => wp S d 101 196 [a0, a1, a2, a3, a4, a5, a6, a7, a8] (w :: st) h Q) := wp_gf hc101 dX5_reason_193 ho101 fl5_170
theorem e101_196 : wp S (d + 1) 101 196 [a0, a1, a2, a3, a4, a5, a6, a7, a8] (.int x2 :: .int x1 :: .ref r0 :: st) h Q = (am_w8 st ∧ am_rcv h 2 105 (.ref r0) = true ∧ wp S d 105 0 [some (.ref r0), some (.int x1), some (.int x2)] [] h (am_kr S 2 (d + 1) 101 196 [a0, a1, a2, a3, a4, a5, a6, a7, a8] st Q)) := wp_cV (.ref r0) [.int x1, .int x2] hc101 dX5_reason_196 ho101 cl5_188 (by decide) ns5_188 hst105 hnp105 hml105 hlsl105 rfl rfl rfl
theorem e101_199 : wp S d 101 199 [a0, a1, a2, a3, a4, a5, a6, a7, a8] (.int y :: .int x :: st) h Q = wp S d 101 200 [a0, a1, a2, a3, a4, a5, a6, a7, a8] (.int (x - y) :: st) h Q := wp_p hc101 dX5_reason_199 rfl
theorem e101_200 : wp S d 101 200 [some (.ref r), a1, a2, a3, a4, a5, a6, a7, a8] st h Q = wp S d 101 201 [some (.ref r), a1, a2, a3, a4, a5, a6, a7, a8] (.ref r :: st) h Q := wp_p hc101 dX5_reason_200 rfl
theorem e101_201 : wp S d 101 201 [a0, a1, some (.int x), a3, a4, a5, a6, a7, a8] st h Q = wp S d 101 202 [a0, a1, some (.int x), a3, a4, a5, a6, a7, a8] (.int x :: st) h Q := wp_p hc101 dX5_reason_201 rfl
theorem e101_202 : wp S d 101 202 [a0, a1, a2, some (.int x), a4, a5, a6, a7, a8] st h Q = wp S d 101 203 [a0, a1, a2, some (.int x), a4, a5, a6, a7, a8] (.int x :: st) h Q := wp_p hc101 dX5_reason_202 rfl
theorem e101_203 : wp S (d + 1) 101 203 [a0, a1, a2, a3, a4, a5, a6, a7, a8] (.int x2 :: .int x1 :: .ref r0 :: st) h Q = (am_w8 st ∧ am_rcv h 2 106 (.ref r0) = true ∧ wp S d 106 0 [some (.ref r0), some (.int x1), some (.int x2), none, none, none] [] h (am_kr S 2 (d + 1) 101 203 [a0, a1, a2, a3, a4, a5, a6, a7, a8] st Q)) := wp_cV (.ref r0) [.int x1, .int x2] hc101 dX5_reason_203 ho101 cl5_191 (by decide) ns5_191 hst106 hnp106 hml106 hlsl106 rfl rfl rfl
theorem e101_206 : wp S d 101 206 [a0, a1, a2, a3, a4, a5, a6, a7, a8] (.int y :: .int x :: st) h Q = wp S d 101 207 [a0, a1, a2, a3, a4, a5, a6, a7, a8] (.int (x + y) :: st) h Q := wp_p hc101 dX5_reason_206 rfl
theorem e101_207 : wp S d 101 207 [a0, a1, a2, a3, a4, a5, a6, a7, a8] st h Q = wp S d 101 209 [a0, a1, a2, a3, a4, a5, a6, a7, a8] (.int (nI 30) :: st) h Q := wp_p hc101 dX5_reason_207 rfl
theorem e101_209 : wp S d 101 209 [a0, a1, a2, a3, a4, a5, a6, a7, a8] (.int y :: .int x :: st) h Q = if x ≤ y then wp S d 101 217 [a0, a1, a2, a3, a4, a5, a6, a7, a8] st h Q else wp S d 101 212 [a0, a1, a2, a3, a4, a5, a6, a7, a8] st h Q := wp_le hc101 dX5_reason_209 rfl
theorem e101_212 : wp S d 101 212 [a0, a1, a2, a3, a4, a5, a6, a7, a8] st h Q = wp S d 101 214 [a0, a1, a2, a3, a4, a5, a6, a7, a8] (.int (nI 7) :: st) h Q := wp_p hc101 dX5_reason_212 rfl
theorem e101_214 : wp S d 101 214 [a0, a1, a2, a3, a4, a5, a6, a7, a8] st h Q = wp S d 101 218 [a0, a1, a2, a3, a4, a5, a6, a7, a8] st h Q := wp_p hc101 dX5_reason_214 rfl
theorem e101_217 : wp S d 101 217 [a0, a1, a2, a3, a4, a5, a6, a7, a8] st h Q = wp S d 101 218 [a0, a1, a2, a3, a4, a5, a6, a7, a8] (.int (nI 0) :: st) h Q := wp_p hc101 dX5_reason_217 rfl
theorem e101_218 : wp S d 101 218 ls [.int x] h Q = Q (.inl (some (.int x)), h) := wp_r hc101 dX5_reason_218 rfl rfl ⟨x, _, rfl, rfl, rfl, rfl⟩
theorem e102_0 : wp S d 102 0 [some (.ref r), a1] st h Q = wp S d 102 1 [some (.ref r), a1] (.ref r :: st) h Q := wp_p hc102 dX5_first_0 rfl
theorem e102_1 : wp S d 102 1 [a0, a1] (.ref r :: st) h Q = am_gfK h r 5 14 (fun w => wp S d 102 4 [a0, a1] (w :: st) h Q) := wp_gf hc102 dX5_first_1 ho102 fl5_170
theorem e102_4 : wp S d 102 4 [a0, some (.int x)] st h Q = wp S d 102 5 [a0, some (.int x)] (.int x :: st) h Q := wp_p hc102 dX5_first_4 rfl
theorem e102_5 : wp S (d + 1) 102 5 [a0, a1] (.int x1 :: st) h Q = (am_w8 st ∧ wp S d 96 0 [some (.int x1)] [] h (am_kr S 0 (d + 1) 102 5 [a0, a1] st Q)) := wp_cS [.int x1] hc102 dX5_first_5 ho102 cl5_167 (by decide) ns5_167 hst96 hnp96 hml96 hlsl96 rfl rfl rfl
theorem e102_8 : wp S d 102 8 [a0, a1] (.int y :: .int x :: st) h Q = wp S d 102 9 [a0, a1] (.int (x - y) :: st) h Q := wp_p hc102 dX5_first_8 rfl
theorem e102_9 : wp S d 102 9 ls [.int x] h Q = Q (.inl (some (.int x)), h) := wp_r hc102 dX5_first_9 rfl rfl ⟨x, _, rfl, rfl, rfl, rfl⟩
theorem e103_0 : wp S d 103 0 [a0, a1, a2, a3] st h Q = wp S d 103 1 [a0, a1, a2, a3] (.int (nI 0) :: st) h Q := wp_p hc103 dX5_hasEffect_0 rfl
theorem e103_1 : wp S d 103 1 [a0, a1, a2, a3] (.int x :: st) h Q = wp S d 103 2 [a0, a1, some (.int x), a3] st h Q := wp_p hc103 dX5_hasEffect_1 rfl
theorem e103_2 : wp S d 103 2 [some (.ref r), a1, a2, a3] st h Q = wp S d 103 3 [some (.ref r), a1, a2, a3] (.ref r :: st) h Q := wp_p hc103 dX5_hasEffect_2 rfl
theorem e103_3 : wp S d 103 3 [a0, a1, a2, a3] (.ref r :: st) h Q = am_gfK h r 5 13 (fun w => wp S d 103 6 [a0, a1, a2, a3] (w :: st) h Q) := wp_gf hc103 dX5_hasEffect_3 ho103 fl5_31
theorem e103_6 : wp S d 103 6 [a0, some (.int x), a2, a3] st h Q = wp S d 103 7 [a0, some (.int x), a2, a3] (.int x :: st) h Q := wp_p hc103 dX5_hasEffect_6 rfl
theorem e103_7 : wp S d 103 7 [a0, a1, a2, a3] (.int x :: .ref r :: st) h Q = am_iaK h r x (fun z => wp S d 103 8 [a0, a1, a2, a3] (.int z :: st) h Q) := wp_ia hc103 dX5_hasEffect_7
theorem e103_8 : wp S d 103 8 [a0, a1, a2, a3] (.int x :: st) h Q = wp S d 103 9 [a0, a1, a2, some (.int x)] st h Q := wp_p hc103 dX5_hasEffect_8 rfl
theorem e103_9 : wp S d 103 9 [a0, a1, a2, some (.int x)] st h Q = wp S d 103 10 [a0, a1, a2, some (.int x)] (.int x :: st) h Q := wp_p hc103 dX5_hasEffect_9 rfl
theorem e103_10 : wp S d 103 10 [some (.ref r), a1, a2, a3] st h Q = wp S d 103 11 [some (.ref r), a1, a2, a3] (.ref r :: st) h Q := wp_p hc103 dX5_hasEffect_10 rfl
theorem e103_11 : wp S d 103 11 [a0, a1, a2, a3] (.ref r :: st) h Q = am_gfK h r 5 13 (fun w => wp S d 103 14 [a0, a1, a2, a3] (w :: st) h Q) := wp_gf hc103 dX5_hasEffect_11 ho103 fl5_31
theorem e103_14 : wp S d 103 14 [a0, some (.int x), a2, a3] st h Q = wp S d 103 15 [a0, some (.int x), a2, a3] (.int x :: st) h Q := wp_p hc103 dX5_hasEffect_14 rfl
theorem e103_15 : wp S d 103 15 [a0, a1, a2, a3] st h Q = wp S d 103 16 [a0, a1, a2, a3] (.int (nI 1) :: st) h Q := wp_p hc103 dX5_hasEffect_15 rfl
theorem e103_16 : wp S d 103 16 [a0, a1, a2, a3] (.int y :: .int x :: st) h Q = wp S d 103 17 [a0, a1, a2, a3] (.int (x + y) :: st) h Q := wp_p hc103 dX5_hasEffect_16 rfl
theorem e103_17 : wp S d 103 17 [a0, a1, a2, a3] (.int x :: .ref r :: st) h Q = am_iaK h r x (fun z => wp S d 103 18 [a0, a1, a2, a3] (.int z :: st) h Q) := wp_ia hc103 dX5_hasEffect_17
theorem e103_18 : wp S d 103 18 [a0, a1, a2, a3] (.int y :: .int x :: st) h Q = if y ≤ x then wp S d 103 71 [a0, a1, a2, a3] st h Q else wp S d 103 21 [a0, a1, a2, a3] st h Q := wp_ge hc103 dX5_hasEffect_18 rfl
theorem e103_21 : wp S d 103 21 [a0, a1, some (.int x), a3] st h Q = wp S d 103 22 [a0, a1, some (.int x), a3] (.int x :: st) h Q := wp_p hc103 dX5_hasEffect_21 rfl
theorem e103_22 : wp S d 103 22 [a0, a1, a2, a3] (.int x :: st) h Q = if x = 0 then wp S d 103 25 [a0, a1, a2, a3] st h Q else wp S d 103 59 [a0, a1, a2, a3] st h Q := wp_ne hc103 dX5_hasEffect_22 rfl
theorem e103_25 : wp S d 103 25 [some (.ref r), a1, a2, a3] st h Q = wp S d 103 26 [some (.ref r), a1, a2, a3] (.ref r :: st) h Q := wp_p hc103 dX5_hasEffect_25 rfl
theorem e103_26 : wp S d 103 26 [a0, a1, a2, a3] (.ref r :: st) h Q = am_gfK h r 5 11 (fun w => wp S d 103 29 [a0, a1, a2, a3] (w :: st) h Q) := wp_gf hc103 dX5_hasEffect_26 ho103 fl5_28
theorem e103_29 : wp S d 103 29 [a0, a1, a2, some (.int x)] st h Q = wp S d 103 30 [a0, a1, a2, some (.int x)] (.int x :: st) h Q := wp_p hc103 dX5_hasEffect_29 rfl
theorem e103_30 : wp S d 103 30 [a0, a1, a2, a3] (.int x :: .ref r :: st) h Q = am_iaK h r x (fun z => wp S d 103 31 [a0, a1, a2, a3] (.int z :: st) h Q) := wp_ia hc103 dX5_hasEffect_30
theorem e103_31 : wp S (d + 1) 103 31 [a0, a1, a2, a3] (.int x1 :: st) h Q = (am_w8 st ∧ wp S d 91 0 [some (.int x1)] [] h (am_kr S 0 (d + 1) 103 31 [a0, a1, a2, a3] st Q)) := wp_cS [.int x1] hc103 dX5_hasEffect_31 ho103 cl5_111 (by decide) ns5_111 hst91 hnp91 hml91 hlsl91 rfl rfl rfl
theorem e103_34 : wp S d 103 34 [a0, a1, a2, a3] st h Q = wp S d 103 35 [a0, a1, a2, a3] (.int (nI 2) :: st) h Q := wp_p hc103 dX5_hasEffect_34 rfl
theorem e103_35 : wp S d 103 35 [a0, a1, a2, a3] (.int y :: .int x :: st) h Q = if x ≤ y then wp S d 103 63 [a0, a1, a2, a3] st h Q else wp S d 103 38 [a0, a1, a2, a3] st h Q := wp_le hc103 dX5_hasEffect_35 rfl
theorem e103_38 : wp S d 103 38 [some (.ref r), a1, a2, a3] st h Q = wp S d 103 39 [some (.ref r), a1, a2, a3] (.ref r :: st) h Q := wp_p hc103 dX5_hasEffect_38 rfl
theorem e103_39 : wp S d 103 39 [a0, a1, a2, a3] (.ref r :: st) h Q = am_gfK h r 5 0 (fun w => wp S d 103 42 [a0, a1, a2, a3] (w :: st) h Q) := wp_gf hc103 dX5_hasEffect_39 ho103 fl5_7
theorem e103_42 : wp S d 103 42 [some (.ref r), a1, a2, a3] st h Q = wp S d 103 43 [some (.ref r), a1, a2, a3] (.ref r :: st) h Q := wp_p hc103 dX5_hasEffect_42 rfl
theorem e103_43 : wp S d 103 43 [some (.ref r), a1, a2, a3] st h Q = wp S d 103 44 [some (.ref r), a1, a2, a3] (.ref r :: st) h Q := wp_p hc103 dX5_hasEffect_43 rfl
theorem e103_44 : wp S d 103 44 [a0, a1, a2, a3] (.ref r :: st) h Q = am_gfK h r 5 11 (fun w => wp S d 103 47 [a0, a1, a2, a3] (w :: st) h Q) := wp_gf hc103 dX5_hasEffect_44 ho103 fl5_28
theorem e103_47 : wp S d 103 47 [a0, a1, a2, some (.int x)] st h Q = wp S d 103 48 [a0, a1, a2, some (.int x)] (.int x :: st) h Q := wp_p hc103 dX5_hasEffect_47 rfl
theorem e103_48 : wp S d 103 48 [a0, a1, a2, a3] (.int x :: .ref r :: st) h Q = am_iaK h r x (fun z => wp S d 103 49 [a0, a1, a2, a3] (.int z :: st) h Q) := wp_ia hc103 dX5_hasEffect_48
theorem e103_49 : wp S (d + 1) 103 49 [a0, a1, a2, a3] (.int x1 :: .ref r0 :: st) h Q = (am_w8 st ∧ am_rcv h 2 92 (.ref r0) = true ∧ wp S d 92 0 [some (.ref r0), some (.int x1)] [] h (am_kr S 2 (d + 1) 103 49 [a0, a1, a2, a3] st Q)) := wp_cV (.ref r0) [.int x1] hc103 dX5_hasEffect_49 ho103 cl5_154 (by decide) ns5_154 hst92 hnp92 hml92 hlsl92 rfl rfl rfl
theorem e103_52 : wp S d 103 52 [a0, a1, a2, a3] st h Q = wp S d 103 53 [a0, a1, a2, a3] (.int (nI 1) :: st) h Q := wp_p hc103 dX5_hasEffect_52 rfl
theorem e103_53 : wp S d 103 53 [a0, a1, a2, a3] (.int y :: .int x :: st) h Q = wp S d 103 54 [a0, a1, a2, a3] (.int (x + y) :: st) h Q := wp_p hc103 dX5_hasEffect_53 rfl
theorem e103_54 : wp S d 103 54 [a0, a1, a2, a3] (.int x :: .ref r :: st) h Q = am_iaK h r x (fun z => wp S d 103 55 [a0, a1, a2, a3] (.int z :: st) h Q) := wp_ia hc103 dX5_hasEffect_54
theorem e103_55 : wp S d 103 55 [a0, a1, a2, a3] st h Q = wp S d 103 56 [a0, a1, a2, a3] (.int (nI 1) :: st) h Q := wp_p hc103 dX5_hasEffect_55 rfl
theorem e103_56 : wp S d 103 56 [a0, a1, a2, a3] (.int y :: .int x :: st) h Q = if x = y then wp S d 103 59 [a0, a1, a2, a3] st h Q else wp S d 103 63 [a0, a1, a2, a3] st h Q := wp_ne hc103 dX5_hasEffect_56 rfl
theorem e103_59 : wp S d 103 59 [a0, a1, a2, a3] st h Q = wp S d 103 60 [a0, a1, a2, a3] (.int (nI 1) :: st) h Q := wp_p hc103 dX5_hasEffect_59 rfl
theorem e103_60 : wp S d 103 60 [a0, a1, a2, a3] st h Q = wp S d 103 64 [a0, a1, a2, a3] st h Q := wp_p hc103 dX5_hasEffect_60 rfl
theorem e103_63 : wp S d 103 63 [a0, a1, a2, a3] st h Q = wp S d 103 64 [a0, a1, a2, a3] (.int (nI 0) :: st) h Q := wp_p hc103 dX5_hasEffect_63 rfl
theorem e103_64 : wp S d 103 64 [a0, a1, a2, a3] (.int x :: st) h Q = wp S d 103 65 [a0, a1, some (.int x), a3] st h Q := wp_p hc103 dX5_hasEffect_64 rfl
theorem e103_65 : wp S d 103 65 [a0, a1, a2, some (.int x)] st h Q = wp S d 103 68 [a0, a1, a2, some (.int (x + nI 1))] st h Q := wp_p hc103 dX5_hasEffect_65 rfl
theorem e103_68 : wp S d 103 68 [a0, a1, a2, a3] st h Q = wp S d 103 9 [a0, a1, a2, a3] st h Q := wp_p hc103 dX5_hasEffect_68 rfl
theorem e103_71 : wp S d 103 71 [a0, a1, some (.int x), a3] st h Q = wp S d 103 72 [a0, a1, some (.int x), a3] (.int x :: st) h Q := wp_p hc103 dX5_hasEffect_71 rfl
theorem e103_72 : wp S d 103 72 ls [.int x] h Q = (narrow .boolean (.int x) = .int x ∧ Q (.inl (some (.int x)), h)) := wp_rI hc103 dX5_hasEffect_72 rfl
theorem e104_0 : wp S d 104 0 [a0, a1, a2, a3, a4] st h Q = wp S d 104 1 [a0, a1, a2, a3, a4] (.int (nI 0) :: st) h Q := wp_p hc104 dX5_uses_0 rfl
theorem e104_1 : wp S d 104 1 [a0, a1, a2, a3, a4] (.int x :: st) h Q = wp S d 104 2 [a0, a1, a2, some (.int x), a4] st h Q := wp_p hc104 dX5_uses_1 rfl
theorem e104_2 : wp S d 104 2 [a0, a1, a2, a3, a4] st h Q = wp S d 104 3 [a0, a1, a2, a3, a4] (.int (nI 0) :: st) h Q := wp_p hc104 dX5_uses_2 rfl
theorem e104_3 : wp S d 104 3 [a0, a1, a2, a3, a4] (.int x :: st) h Q = wp S d 104 5 [a0, a1, a2, a3, some (.int x)] st h Q := wp_p hc104 dX5_uses_3 rfl
theorem e104_5 : wp S d 104 5 [a0, a1, a2, a3, some (.int x)] st h Q = wp S d 104 7 [a0, a1, a2, a3, some (.int x)] (.int x :: st) h Q := wp_p hc104 dX5_uses_5 rfl
theorem e104_7 : wp S d 104 7 [some (.ref r), a1, a2, a3, a4] st h Q = wp S d 104 8 [some (.ref r), a1, a2, a3, a4] (.ref r :: st) h Q := wp_p hc104 dX5_uses_7 rfl
theorem e104_8 : wp S d 104 8 [a0, some (.int x), a2, a3, a4] st h Q = wp S d 104 9 [a0, some (.int x), a2, a3, a4] (.int x :: st) h Q := wp_p hc104 dX5_uses_8 rfl
theorem e104_9 : wp S (d + 1) 104 9 [a0, a1, a2, a3, a4] (.int x1 :: .ref r0 :: st) h Q = (am_w8 st ∧ am_rcv h 2 73 (.ref r0) = true ∧ wp S d 73 0 [some (.ref r0), some (.int x1)] [] h (am_kr S 2 (d + 1) 104 9 [a0, a1, a2, a3, a4] st Q)) := wp_cV (.ref r0) [.int x1] hc104 dX5_uses_9 ho104 cl5_89 (by decide) ns5_89 hst73 hnp73 hml73 hlsl73 rfl rfl rfl
theorem e104_12 : wp S d 104 12 [a0, a1, a2, a3, a4] (.int y :: .int x :: st) h Q = if y ≤ x then wp S d 104 40 [a0, a1, a2, a3, a4] st h Q else wp S d 104 15 [a0, a1, a2, a3, a4] st h Q := wp_ge hc104 dX5_uses_12 rfl
theorem e104_15 : wp S d 104 15 [a0, a1, a2, some (.int x), a4] st h Q = wp S d 104 16 [a0, a1, a2, some (.int x), a4] (.int x :: st) h Q := wp_p hc104 dX5_uses_15 rfl
theorem e104_16 : wp S d 104 16 [some (.ref r), a1, a2, a3, a4] st h Q = wp S d 104 17 [some (.ref r), a1, a2, a3, a4] (.ref r :: st) h Q := wp_p hc104 dX5_uses_16 rfl
theorem e104_17 : wp S d 104 17 [a0, some (.int x), a2, a3, a4] st h Q = wp S d 104 18 [a0, some (.int x), a2, a3, a4] (.int x :: st) h Q := wp_p hc104 dX5_uses_17 rfl
theorem e104_18 : wp S d 104 18 [a0, a1, a2, a3, some (.int x)] st h Q = wp S d 104 20 [a0, a1, a2, a3, some (.int x)] (.int x :: st) h Q := wp_p hc104 dX5_uses_18 rfl
theorem e104_20 : wp S (d + 1) 104 20 [a0, a1, a2, a3, a4] (.int x2 :: .int x1 :: .ref r0 :: st) h Q = (am_w8 st ∧ am_rcv h 2 74 (.ref r0) = true ∧ wp S d 74 0 [some (.ref r0), some (.int x1), some (.int x2)] [] h (am_kr S 2 (d + 1) 104 20 [a0, a1, a2, a3, a4] st Q)) := wp_cV (.ref r0) [.int x1, .int x2] hc104 dX5_uses_20 ho104 cl5_92 (by decide) ns5_92 hst74 hnp74 hml74 hlsl74 rfl rfl rfl
theorem e104_23 : wp S d 104 23 [a0, a1, some (.int x), a3, a4] st h Q = wp S d 104 24 [a0, a1, some (.int x), a3, a4] (.int x :: st) h Q := wp_p hc104 dX5_uses_23 rfl
theorem e104_24 : wp S d 104 24 [a0, a1, a2, a3, a4] (.int y :: .int x :: st) h Q = if x = y then wp S d 104 27 [a0, a1, a2, a3, a4] st h Q else wp S d 104 31 [a0, a1, a2, a3, a4] st h Q := wp_ne hc104 dX5_uses_24 rfl
theorem e104_27 : wp S d 104 27 [a0, a1, a2, a3, a4] st h Q = wp S d 104 28 [a0, a1, a2, a3, a4] (.int (nI 1) :: st) h Q := wp_p hc104 dX5_uses_27 rfl
theorem e104_28 : wp S d 104 28 [a0, a1, a2, a3, a4] st h Q = wp S d 104 32 [a0, a1, a2, a3, a4] st h Q := wp_p hc104 dX5_uses_28 rfl
theorem e104_31 : wp S d 104 31 [a0, a1, a2, a3, a4] st h Q = wp S d 104 32 [a0, a1, a2, a3, a4] (.int (nI 0) :: st) h Q := wp_p hc104 dX5_uses_31 rfl
theorem e104_32 : wp S d 104 32 [a0, a1, a2, a3, a4] (.int y :: .int x :: st) h Q = wp S d 104 33 [a0, a1, a2, a3, a4] (.int (x + y) :: st) h Q := wp_p hc104 dX5_uses_32 rfl
theorem e104_33 : wp S d 104 33 [a0, a1, a2, a3, a4] (.int x :: st) h Q = wp S d 104 34 [a0, a1, a2, some (.int x), a4] st h Q := wp_p hc104 dX5_uses_33 rfl
theorem e104_34 : wp S d 104 34 [a0, a1, a2, a3, some (.int x)] st h Q = wp S d 104 37 [a0, a1, a2, a3, some (.int (x + nI 1))] st h Q := wp_p hc104 dX5_uses_34 rfl
theorem e104_37 : wp S d 104 37 [a0, a1, a2, a3, a4] st h Q = wp S d 104 5 [a0, a1, a2, a3, a4] st h Q := wp_p hc104 dX5_uses_37 rfl
theorem e104_40 : wp S d 104 40 [a0, a1, a2, some (.int x), a4] st h Q = wp S d 104 41 [a0, a1, a2, some (.int x), a4] (.int x :: st) h Q := wp_p hc104 dX5_uses_40 rfl
theorem e104_41 : wp S d 104 41 ls [.int x] h Q = Q (.inl (some (.int x)), h) := wp_r hc104 dX5_uses_41 rfl rfl ⟨x, _, rfl, rfl, rfl, rfl⟩
theorem e105_0 : wp S d 105 0 [some (.ref r), a1, a2] st h Q = wp S d 105 1 [some (.ref r), a1, a2] (.ref r :: st) h Q := wp_p hc105 dX5_size_0 rfl
theorem e105_1 : wp S d 105 1 [a0, a1, a2] (.ref r :: st) h Q = am_gfK h r 5 13 (fun w => wp S d 105 4 [a0, a1, a2] (w :: st) h Q) := wp_gf hc105 dX5_size_1 ho105 fl5_31
theorem e105_4 : wp S d 105 4 [a0, a1, some (.int x)] st h Q = wp S d 105 5 [a0, a1, some (.int x)] (.int x :: st) h Q := wp_p hc105 dX5_size_4 rfl
theorem e105_5 : wp S d 105 5 [a0, a1, a2] (.int x :: .ref r :: st) h Q = am_iaK h r x (fun z => wp S d 105 6 [a0, a1, a2] (.int z :: st) h Q) := wp_ia hc105 dX5_size_5
theorem e105_6 : wp S d 105 6 [some (.ref r), a1, a2] st h Q = wp S d 105 7 [some (.ref r), a1, a2] (.ref r :: st) h Q := wp_p hc105 dX5_size_6 rfl
theorem e105_7 : wp S d 105 7 [a0, a1, a2] (.ref r :: st) h Q = am_gfK h r 5 13 (fun w => wp S d 105 10 [a0, a1, a2] (w :: st) h Q) := wp_gf hc105 dX5_size_7 ho105 fl5_31
theorem e105_10 : wp S d 105 10 [a0, some (.int x), a2] st h Q = wp S d 105 11 [a0, some (.int x), a2] (.int x :: st) h Q := wp_p hc105 dX5_size_10 rfl
theorem e105_11 : wp S d 105 11 [a0, a1, a2] (.int x :: .ref r :: st) h Q = am_iaK h r x (fun z => wp S d 105 12 [a0, a1, a2] (.int z :: st) h Q) := wp_ia hc105 dX5_size_11
theorem e105_12 : wp S d 105 12 [a0, a1, a2] (.int y :: .int x :: st) h Q = wp S d 105 13 [a0, a1, a2] (.int (x - y) :: st) h Q := wp_p hc105 dX5_size_12 rfl
theorem e105_13 : wp S d 105 13 ls [.int x] h Q = Q (.inl (some (.int x)), h) := wp_r hc105 dX5_size_13 rfl rfl ⟨x, _, rfl, rfl, rfl, rfl⟩
theorem e106_0 : wp S d 106 0 [a0, a1, a2, a3, a4, a5] st h Q = wp S d 106 1 [a0, a1, a2, a3, a4, a5] (.int (nI 0) :: st) h Q := wp_p hc106 dX5_sizeThen_0 rfl
theorem e106_1 : wp S d 106 1 [a0, a1, a2, a3, a4, a5] (.int x :: st) h Q = wp S d 106 2 [a0, a1, a2, some (.int x), a4, a5] st h Q := wp_p hc106 dX5_sizeThen_1 rfl
theorem e106_2 : wp S d 106 2 [a0, a1, a2, a3, a4, a5] st h Q = wp S d 106 3 [a0, a1, a2, a3, a4, a5] (.int (nI 0) :: st) h Q := wp_p hc106 dX5_sizeThen_2 rfl
theorem e106_3 : wp S d 106 3 [a0, a1, a2, a3, a4, a5] (.int x :: st) h Q = wp S d 106 5 [a0, a1, a2, a3, some (.int x), a5] st h Q := wp_p hc106 dX5_sizeThen_3 rfl
theorem e106_5 : wp S d 106 5 [a0, a1, a2, a3, some (.int x), a5] st h Q = wp S d 106 7 [a0, a1, a2, a3, some (.int x), a5] (.int x :: st) h Q := wp_p hc106 dX5_sizeThen_5 rfl
theorem e106_7 : wp S d 106 7 [some (.ref r), a1, a2, a3, a4, a5] st h Q = wp S d 106 8 [some (.ref r), a1, a2, a3, a4, a5] (.ref r :: st) h Q := wp_p hc106 dX5_sizeThen_7 rfl
theorem e106_8 : wp S d 106 8 [a0, some (.int x), a2, a3, a4, a5] st h Q = wp S d 106 9 [a0, some (.int x), a2, a3, a4, a5] (.int x :: st) h Q := wp_p hc106 dX5_sizeThen_8 rfl
theorem e106_9 : wp S (d + 1) 106 9 [a0, a1, a2, a3, a4, a5] (.int x1 :: .ref r0 :: st) h Q = (am_w8 st ∧ am_rcv h 2 73 (.ref r0) = true ∧ wp S d 73 0 [some (.ref r0), some (.int x1)] [] h (am_kr S 2 (d + 1) 106 9 [a0, a1, a2, a3, a4, a5] st Q)) := wp_cV (.ref r0) [.int x1] hc106 dX5_sizeThen_9 ho106 cl5_89 (by decide) ns5_89 hst73 hnp73 hml73 hlsl73 rfl rfl rfl
theorem e106_12 : wp S d 106 12 [a0, a1, a2, a3, a4, a5] (.int y :: .int x :: st) h Q = if y ≤ x then wp S d 106 58 [a0, a1, a2, a3, a4, a5] st h Q else wp S d 106 15 [a0, a1, a2, a3, a4, a5] st h Q := wp_ge hc106 dX5_sizeThen_12 rfl
theorem e106_15 : wp S d 106 15 [some (.ref r), a1, a2, a3, a4, a5] st h Q = wp S d 106 16 [some (.ref r), a1, a2, a3, a4, a5] (.ref r :: st) h Q := wp_p hc106 dX5_sizeThen_15 rfl
theorem e106_16 : wp S d 106 16 [a0, some (.int x), a2, a3, a4, a5] st h Q = wp S d 106 17 [a0, some (.int x), a2, a3, a4, a5] (.int x :: st) h Q := wp_p hc106 dX5_sizeThen_16 rfl
theorem e106_17 : wp S d 106 17 [a0, a1, a2, a3, some (.int x), a5] st h Q = wp S d 106 19 [a0, a1, a2, a3, some (.int x), a5] (.int x :: st) h Q := wp_p hc106 dX5_sizeThen_17 rfl
theorem e106_19 : wp S (d + 1) 106 19 [a0, a1, a2, a3, a4, a5] (.int x2 :: .int x1 :: .ref r0 :: st) h Q = (am_w8 st ∧ am_rcv h 2 74 (.ref r0) = true ∧ wp S d 74 0 [some (.ref r0), some (.int x1), some (.int x2)] [] h (am_kr S 2 (d + 1) 106 19 [a0, a1, a2, a3, a4, a5] st Q)) := wp_cV (.ref r0) [.int x1, .int x2] hc106 dX5_sizeThen_19 ho106 cl5_92 (by decide) ns5_92 hst74 hnp74 hml74 hlsl74 rfl rfl rfl
theorem e106_22 : wp S d 106 22 [a0, a1, a2, a3, a4, a5] (.int x :: st) h Q = wp S d 106 24 [a0, a1, a2, a3, a4, some (.int x)] st h Q := wp_p hc106 dX5_sizeThen_22 rfl
theorem e106_24 : wp S d 106 24 [a0, a1, a2, some (.int x), a4, a5] st h Q = wp S d 106 25 [a0, a1, a2, some (.int x), a4, a5] (.int x :: st) h Q := wp_p hc106 dX5_sizeThen_24 rfl
theorem e106_25 : wp S d 106 25 [a0, a1, a2, a3, a4, some (.int x)] st h Q = wp S d 106 27 [a0, a1, a2, a3, a4, some (.int x)] (.int x :: st) h Q := wp_p hc106 dX5_sizeThen_25 rfl
theorem e106_27 : wp S d 106 27 [a0, a1, a2, a3, a4, a5] st h Q = wp S d 106 29 [a0, a1, a2, a3, a4, a5] (.int (nI 100) :: st) h Q := wp_p hc106 dX5_sizeThen_27 rfl
theorem e106_29 : wp S d 106 29 [a0, a1, a2, a3, a4, a5] (.int y :: .int x :: st) h Q = if y ≤ x then wp S d 106 49 [a0, a1, a2, a3, a4, a5] st h Q else wp S d 106 32 [a0, a1, a2, a3, a4, a5] st h Q := wp_ge hc106 dX5_sizeThen_29 rfl
theorem e106_32 : wp S d 106 32 [some (.ref r), a1, a2, a3, a4, a5] st h Q = wp S d 106 33 [some (.ref r), a1, a2, a3, a4, a5] (.ref r :: st) h Q := wp_p hc106 dX5_sizeThen_32 rfl
theorem e106_33 : wp S d 106 33 [a0, a1, some (.int x), a3, a4, a5] st h Q = wp S d 106 34 [a0, a1, some (.int x), a3, a4, a5] (.int x :: st) h Q := wp_p hc106 dX5_sizeThen_33 rfl
theorem e106_34 : wp S d 106 34 [a0, a1, a2, a3, a4, some (.int x)] st h Q = wp S d 106 36 [a0, a1, a2, a3, a4, some (.int x)] (.int x :: st) h Q := wp_p hc106 dX5_sizeThen_34 rfl
theorem e106_36 : wp S d 106 36 [a0, a1, a2, a3, a4, a5] (.int y :: .int x :: st) h Q = wp S d 106 37 [a0, a1, a2, a3, a4, a5] (.int (x + y) :: st) h Q := wp_p hc106 dX5_sizeThen_36 rfl
theorem e106_37 : wp S d 106 37 [a0, a1, some (.int x), a3, a4, a5] st h Q = wp S d 106 38 [a0, a1, some (.int x), a3, a4, a5] (.int x :: st) h Q := wp_p hc106 dX5_sizeThen_37 rfl
theorem e106_38 : wp S d 106 38 [a0, a1, a2, a3, a4, some (.int x)] st h Q = wp S d 106 40 [a0, a1, a2, a3, a4, some (.int x)] (.int x :: st) h Q := wp_p hc106 dX5_sizeThen_38 rfl
theorem e106_40 : wp S d 106 40 [a0, a1, a2, a3, a4, a5] (.int y :: .int x :: st) h Q = wp S d 106 41 [a0, a1, a2, a3, a4, a5] (.int (x + y) :: st) h Q := wp_p hc106 dX5_sizeThen_40 rfl
theorem e106_41 : wp S d 106 41 [a0, a1, a2, a3, a4, a5] st h Q = wp S d 106 42 [a0, a1, a2, a3, a4, a5] (.int (nI 1) :: st) h Q := wp_p hc106 dX5_sizeThen_41 rfl
theorem e106_42 : wp S d 106 42 [a0, a1, a2, a3, a4, a5] (.int y :: .int x :: st) h Q = wp S d 106 43 [a0, a1, a2, a3, a4, a5] (.int (x + y) :: st) h Q := wp_p hc106 dX5_sizeThen_42 rfl
theorem e106_43 : wp S (d + 1) 106 43 [a0, a1, a2, a3, a4, a5] (.int x2 :: .int x1 :: .ref r0 :: st) h Q = (am_w8 st ∧ am_rcv h 2 105 (.ref r0) = true ∧ wp S d 105 0 [some (.ref r0), some (.int x1), some (.int x2)] [] h (am_kr S 2 (d + 1) 106 43 [a0, a1, a2, a3, a4, a5] st Q)) := wp_cV (.ref r0) [.int x1, .int x2] hc106 dX5_sizeThen_43 ho106 cl5_188 (by decide) ns5_188 hst105 hnp105 hml105 hlsl105 rfl rfl rfl
theorem e106_46 : wp S d 106 46 [a0, a1, a2, a3, a4, a5] st h Q = wp S d 106 50 [a0, a1, a2, a3, a4, a5] st h Q := wp_p hc106 dX5_sizeThen_46 rfl
theorem e106_49 : wp S d 106 49 [a0, a1, a2, a3, a4, a5] st h Q = wp S d 106 50 [a0, a1, a2, a3, a4, a5] (.int (nI 1) :: st) h Q := wp_p hc106 dX5_sizeThen_49 rfl
theorem e106_50 : wp S d 106 50 [a0, a1, a2, a3, a4, a5] (.int y :: .int x :: st) h Q = wp S d 106 51 [a0, a1, a2, a3, a4, a5] (.int (x + y) :: st) h Q := wp_p hc106 dX5_sizeThen_50 rfl
theorem e106_51 : wp S d 106 51 [a0, a1, a2, a3, a4, a5] (.int x :: st) h Q = wp S d 106 52 [a0, a1, a2, some (.int x), a4, a5] st h Q := wp_p hc106 dX5_sizeThen_51 rfl
theorem e106_52 : wp S d 106 52 [a0, a1, a2, a3, some (.int x), a5] st h Q = wp S d 106 55 [a0, a1, a2, a3, some (.int (x + nI 1)), a5] st h Q := wp_p hc106 dX5_sizeThen_52 rfl
theorem e106_55 : wp S d 106 55 [a0, a1, a2, a3, a4, a5] st h Q = wp S d 106 5 [a0, a1, a2, a3, a4, a5] st h Q := wp_p hc106 dX5_sizeThen_55 rfl
theorem e106_58 : wp S d 106 58 [a0, a1, a2, some (.int x), a4, a5] st h Q = wp S d 106 59 [a0, a1, a2, some (.int x), a4, a5] (.int x :: st) h Q := wp_p hc106 dX5_sizeThen_58 rfl
theorem e106_59 : wp S d 106 59 ls [.int x] h Q = Q (.inl (some (.int x)), h) := wp_r hc106 dX5_sizeThen_59 rfl rfl ⟨x, _, rfl, rfl, rfl, rfl⟩
theorem e107_0 : wp S d 107 0 [a0, some (.int x), a2, a3, a4, a5, a6, a7] st h Q = wp S d 107 1 [a0, some (.int x), a2, a3, a4, a5, a6, a7] (.int x :: st) h Q := wp_p hc107 dX5_becomesNew_0 rfl
theorem e107_1 : wp S (d + 1) 107 1 [a0, a1, a2, a3, a4, a5, a6, a7] (.int x1 :: st) h Q = (am_w8 st ∧ wp S d 93 0 [some (.int x1)] [] h (am_kr S 0 (d + 1) 107 1 [a0, a1, a2, a3, a4, a5, a6, a7] st Q)) := wp_cS [.int x1] hc107 dX5_becomesNew_1 ho107 cl5_114 (by decide) ns5_114 hst93 hnp93 hml93 hlsl93 rfl rfl rfl
theorem e107_4 : wp S d 107 4 [a0, a1, a2, a3, a4, a5, a6, a7] (.int x :: st) h Q = wp S d 107 5 [a0, a1, some (.int x), a3, a4, a5, a6, a7] st h Q := wp_p hc107 dX5_becomesNew_4 rfl
theorem e107_5 : wp S d 107 5 [some (.ref r), a1, a2, a3, a4, a5, a6, a7] st h Q = wp S d 107 6 [some (.ref r), a1, a2, a3, a4, a5, a6, a7] (.ref r :: st) h Q := wp_p hc107 dX5_becomesNew_5 rfl
theorem e107_6 : wp S d 107 6 [a0, some (.int x), a2, a3, a4, a5, a6, a7] st h Q = wp S d 107 7 [a0, some (.int x), a2, a3, a4, a5, a6, a7] (.int x :: st) h Q := wp_p hc107 dX5_becomesNew_6 rfl
theorem e107_7 : wp S (d + 1) 107 7 [a0, a1, a2, a3, a4, a5, a6, a7] (.int x1 :: .ref r0 :: st) h Q = (am_w8 st ∧ am_rcv h 2 102 (.ref r0) = true ∧ wp S d 102 0 [some (.ref r0), some (.int x1)] [] h (am_kr S 2 (d + 1) 107 7 [a0, a1, a2, a3, a4, a5, a6, a7] st Q)) := wp_cV (.ref r0) [.int x1] hc107 dX5_becomesNew_7 ho107 cl5_176 (by decide) ns5_176 hst102 hnp102 hml102 hlsl102 rfl rfl rfl
theorem e107_10 : wp S d 107 10 [a0, a1, a2, a3, a4, a5, a6, a7] (.int x :: st) h Q = wp S d 107 11 [a0, a1, a2, some (.int x), a4, a5, a6, a7] st h Q := wp_p hc107 dX5_becomesNew_10 rfl
theorem e107_11 : wp S d 107 11 [a0, a1, a2, a3, a4, a5, a6, a7] st h Q = wp S d 107 12 [a0, a1, a2, a3, a4, a5, a6, a7] (.int (nI 0) :: st) h Q := wp_p hc107 dX5_becomesNew_11 rfl
theorem e107_12 : wp S d 107 12 [a0, a1, a2, a3, a4, a5, a6, a7] (.int x :: st) h Q = wp S d 107 14 [a0, a1, a2, a3, some (.int x), a5, a6, a7] st h Q := wp_p hc107 dX5_becomesNew_12 rfl
theorem e107_14 : wp S d 107 14 [some (.ref r), a1, a2, a3, a4, a5, a6, a7] st h Q = wp S d 107 15 [some (.ref r), a1, a2, a3, a4, a5, a6, a7] (.ref r :: st) h Q := wp_p hc107 dX5_becomesNew_14 rfl
theorem e107_15 : wp S d 107 15 [a0, a1, a2, a3, a4, a5, a6, a7] (.ref r :: st) h Q = am_gfK h r 5 15 (fun w => wp S d 107 18 [a0, a1, a2, a3, a4, a5, a6, a7] (w :: st) h Q) := wp_gf hc107 dX5_becomesNew_15 ho107 fl5_34
theorem e107_18 : wp S d 107 18 [a0, a1, a2, a3, some (.int x), a5, a6, a7] st h Q = wp S d 107 20 [a0, a1, a2, a3, some (.int x), a5, a6, a7] (.int x :: st) h Q := wp_p hc107 dX5_becomesNew_18 rfl
theorem e107_20 : wp S d 107 20 [a0, a1, a2, a3, a4, a5, a6, a7] st h Q = wp S d 107 21 [a0, a1, a2, a3, a4, a5, a6, a7] (.int (nI 4) :: st) h Q := wp_p hc107 dX5_becomesNew_20 rfl
theorem e107_21 : wp S d 107 21 [some (.ref r), a1, a2, a3, a4, a5, a6, a7] st h Q = wp S d 107 22 [some (.ref r), a1, a2, a3, a4, a5, a6, a7] (.ref r :: st) h Q := wp_p hc107 dX5_becomesNew_21 rfl
theorem e107_22 : wp S d 107 22 [a0, a1, some (.int x), a3, a4, a5, a6, a7] st h Q = wp S d 107 23 [a0, a1, some (.int x), a3, a4, a5, a6, a7] (.int x :: st) h Q := wp_p hc107 dX5_becomesNew_22 rfl
theorem e107_23 : wp S (d + 1) 107 23 [a0, a1, a2, a3, a4, a5, a6, a7] (.int x1 :: .ref r0 :: st) h Q = (am_w8 st ∧ am_rcv h 2 72 (.ref r0) = true ∧ wp S d 72 0 [some (.ref r0), some (.int x1)] [] h (am_kr S 2 (d + 1) 107 23 [a0, a1, a2, a3, a4, a5, a6, a7] st Q)) := wp_cV (.ref r0) [.int x1] hc107 dX5_becomesNew_23 ho107 cl5_86 (by decide) ns5_86 hst72 hnp72 hml72 hlsl72 rfl rfl rfl
theorem e107_26 : wp S d 107 26 [some (.ref r), a1, a2, a3, a4, a5, a6, a7] st h Q = wp S d 107 27 [some (.ref r), a1, a2, a3, a4, a5, a6, a7] (.ref r :: st) h Q := wp_p hc107 dX5_becomesNew_26 rfl
theorem e107_27 : wp S d 107 27 [a0, a1, some (.int x), a3, a4, a5, a6, a7] st h Q = wp S d 107 28 [a0, a1, some (.int x), a3, a4, a5, a6, a7] (.int x :: st) h Q := wp_p hc107 dX5_becomesNew_27 rfl
theorem e107_28 : wp S (d + 1) 107 28 [a0, a1, a2, a3, a4, a5, a6, a7] (.int x1 :: .ref r0 :: st) h Q = (am_w8 st ∧ am_rcv h 2 73 (.ref r0) = true ∧ wp S d 73 0 [some (.ref r0), some (.int x1)] [] h (am_kr S 2 (d + 1) 107 28 [a0, a1, a2, a3, a4, a5, a6, a7] st Q)) := wp_cV (.ref r0) [.int x1] hc107 dX5_becomesNew_28 ho107 cl5_89 (by decide) ns5_89 hst73 hnp73 hml73 hlsl73 rfl rfl rfl
theorem e107_31 : wp S (d + 1) 107 31 [a0, a1, a2, a3, a4, a5, a6, a7] (.int x3 :: .int x2 :: .int x1 :: st) h Q = (am_w8 st ∧ wp S d 89 0 [some (.int x1), some (.int x2), some (.int x3)] [] h (am_kr S 0 (d + 1) 107 31 [a0, a1, a2, a3, a4, a5, a6, a7] st Q)) := wp_cS [.int x1, .int x2, .int x3] hc107 dX5_becomesNew_31 ho107 cl5_126 (by decide) ns5_126 hst89 hnp89 hml89 hlsl89 rfl rfl rfl
theorem e107_34 : wp S d 107 34 [a0, a1, a2, a3, a4, a5, a6, a7] (.int y :: .int x :: .ref r :: st) h Q = am_isK h r x y (fun h => wp S d 107 35 [a0, a1, a2, a3, a4, a5, a6, a7] st h Q) := wp_is hc107 dX5_becomesNew_34
theorem e107_35 : wp S d 107 35 [a0, a1, a2, a3, some (.int x), a5, a6, a7] st h Q = wp S d 107 38 [a0, a1, a2, a3, some (.int (x + nI 1)), a5, a6, a7] st h Q := wp_p hc107 dX5_becomesNew_35 rfl
theorem e107_38 : wp S d 107 38 [some (.ref r), a1, a2, a3, a4, a5, a6, a7] st h Q = wp S d 107 39 [some (.ref r), a1, a2, a3, a4, a5, a6, a7] (.ref r :: st) h Q := wp_p hc107 dX5_becomesNew_38 rfl
theorem e107_39 : wp S d 107 39 [a0, a1, a2, a3, a4, a5, a6, a7] (.ref r :: st) h Q = wp S d 107 40 [a0, a1, a2, a3, a4, a5, a6, a7] (.ref r :: .ref r :: st) h Q := wp_p hc107 dX5_becomesNew_39 rfl
theorem e107_39i : wp S d 107 39 [a0, a1, a2, a3, a4, a5, a6, a7] (.int x :: st) h Q = wp S d 107 40 [a0, a1, a2, a3, a4, a5, a6, a7] (.int x :: .int x :: st) h Q := wp_p hc107 dX5_becomesNew_39 rfl
theorem e107_40 : wp S d 107 40 [a0, a1, a2, a3, a4, a5, a6, a7] (.ref r :: st) h Q = am_gfK h r 5 19 (fun w => wp S d 107 43 [a0, a1, a2, a3, a4, a5, a6, a7] (w :: st) h Q) := wp_gf hc107 dX5_becomesNew_40 ho107 fl5_185
theorem e107_43 : wp S d 107 43 [some (.ref r), a1, a2, a3, a4, a5, a6, a7] st h Q = wp S d 107 44 [some (.ref r), a1, a2, a3, a4, a5, a6, a7] (.ref r :: st) h Q := wp_p hc107 dX5_becomesNew_43 rfl
theorem e107_44 : wp S d 107 44 [a0, a1, some (.int x), a3, a4, a5, a6, a7] st h Q = wp S d 107 45 [a0, a1, some (.int x), a3, a4, a5, a6, a7] (.int x :: st) h Q := wp_p hc107 dX5_becomesNew_44 rfl
theorem e107_45 : wp S d 107 45 [a0, a1, a2, some (.int x), a4, a5, a6, a7] st h Q = wp S d 107 46 [a0, a1, a2, some (.int x), a4, a5, a6, a7] (.int x :: st) h Q := wp_p hc107 dX5_becomesNew_45 rfl
theorem e107_46 : wp S (d + 1) 107 46 [a0, a1, a2, a3, a4, a5, a6, a7] (.int x2 :: .int x1 :: .ref r0 :: st) h Q = (am_w8 st ∧ am_rcv h 2 106 (.ref r0) = true ∧ wp S d 106 0 [some (.ref r0), some (.int x1), some (.int x2), none, none, none] [] h (am_kr S 2 (d + 1) 107 46 [a0, a1, a2, a3, a4, a5, a6, a7] st Q)) := wp_cV (.ref r0) [.int x1, .int x2] hc107 dX5_becomesNew_46 ho107 cl5_191 (by decide) ns5_191 hst106 hnp106 hml106 hlsl106 rfl rfl rfl
theorem e107_49 : wp S d 107 49 [some (.ref r), a1, a2, a3, a4, a5, a6, a7] st h Q = wp S d 107 50 [some (.ref r), a1, a2, a3, a4, a5, a6, a7] (.ref r :: st) h Q := wp_p hc107 dX5_becomesNew_49 rfl
theorem e107_50 : wp S d 107 50 [a0, a1, a2, some (.int x), a4, a5, a6, a7] st h Q = wp S d 107 51 [a0, a1, a2, some (.int x), a4, a5, a6, a7] (.int x :: st) h Q := wp_p hc107 dX5_becomesNew_50 rfl
theorem e107_51 : wp S d 107 51 [some (.ref r), a1, a2, a3, a4, a5, a6, a7] st h Q = wp S d 107 52 [some (.ref r), a1, a2, a3, a4, a5, a6, a7] (.ref r :: st) h Q := wp_p hc107 dX5_becomesNew_51 rfl
theorem e107_52 : wp S d 107 52 [a0, a1, a2, a3, a4, a5, a6, a7] (.ref r :: st) h Q = am_gfK h r 5 14 (fun w => wp S d 107 55 [a0, a1, a2, a3, a4, a5, a6, a7] (w :: st) h Q) := wp_gf hc107 dX5_becomesNew_52 ho107 fl5_170
theorem e107_55 : wp S (d + 1) 107 55 [a0, a1, a2, a3, a4, a5, a6, a7] (.int x2 :: .int x1 :: .ref r0 :: st) h Q = (am_w8 st ∧ am_rcv h 2 105 (.ref r0) = true ∧ wp S d 105 0 [some (.ref r0), some (.int x1), some (.int x2)] [] h (am_kr S 2 (d + 1) 107 55 [a0, a1, a2, a3, a4, a5, a6, a7] st Q)) := wp_cV (.ref r0) [.int x1, .int x2] hc107 dX5_becomesNew_55 ho107 cl5_188 (by decide) ns5_188 hst105 hnp105 hml105 hlsl105 rfl rfl rfl
theorem e107_58 : wp S d 107 58 [a0, a1, a2, a3, a4, a5, a6, a7] (.int y :: .int x :: st) h Q = wp S d 107 59 [a0, a1, a2, a3, a4, a5, a6, a7] (.int (x - y) :: st) h Q := wp_p hc107 dX5_becomesNew_58 rfl
theorem e107_59 : wp S d 107 59 [a0, a1, a2, a3, a4, a5, a6, a7] (.int y :: .int x :: st) h Q = wp S d 107 60 [a0, a1, a2, a3, a4, a5, a6, a7] (.int (x + y) :: st) h Q := wp_p hc107 dX5_becomesNew_59 rfl
theorem e107_60 : wp S d 107 60 [a0, a1, a2, a3, a4, a5, a6, a7] (w :: .ref r :: st) h Q = am_pfK 107 h r 5 19 false w (fun h => wp S d 107 63 [a0, a1, a2, a3, a4, a5, a6, a7] st h Q) := wp_pf hc107 dX5_becomesNew_60 ho107 fl5_185
theorem e107_63 : wp S d 107 63 [a0, a1, a2, a3, a4, a5, a6, a7] st h Q = wp S d 107 64 [a0, a1, a2, a3, a4, a5, a6, a7] (.int (nI 0) :: st) h Q := wp_p hc107 dX5_becomesNew_63 rfl
theorem e107_64 : wp S d 107 64 [a0, a1, a2, a3, a4, a5, a6, a7] (.int x :: st) h Q = wp S d 107 66 [a0, a1, a2, a3, a4, some (.int x), a6, a7] st h Q := wp_p hc107 dX5_becomesNew_64 rfl
theorem e107_66 : wp S d 107 66 [a0, a1, a2, a3, a4, some (.int x), a6, a7] st h Q = wp S d 107 68 [a0, a1, a2, a3, a4, some (.int x), a6, a7] (.int x :: st) h Q := wp_p hc107 dX5_becomesNew_66 rfl
theorem e107_68 : wp S d 107 68 [some (.ref r), a1, a2, a3, a4, a5, a6, a7] st h Q = wp S d 107 69 [some (.ref r), a1, a2, a3, a4, a5, a6, a7] (.ref r :: st) h Q := wp_p hc107 dX5_becomesNew_68 rfl
theorem e107_69 : wp S d 107 69 [a0, a1, some (.int x), a3, a4, a5, a6, a7] st h Q = wp S d 107 70 [a0, a1, some (.int x), a3, a4, a5, a6, a7] (.int x :: st) h Q := wp_p hc107 dX5_becomesNew_69 rfl
theorem e107_70 : wp S (d + 1) 107 70 [a0, a1, a2, a3, a4, a5, a6, a7] (.int x1 :: .ref r0 :: st) h Q = (am_w8 st ∧ am_rcv h 2 73 (.ref r0) = true ∧ wp S d 73 0 [some (.ref r0), some (.int x1)] [] h (am_kr S 2 (d + 1) 107 70 [a0, a1, a2, a3, a4, a5, a6, a7] st Q)) := wp_cV (.ref r0) [.int x1] hc107 dX5_becomesNew_70 ho107 cl5_89 (by decide) ns5_89 hst73 hnp73 hml73 hlsl73 rfl rfl rfl
theorem e107_73 : wp S d 107 73 [a0, a1, a2, a3, a4, a5, a6, a7] (.int y :: .int x :: st) h Q = if y ≤ x then wp S d 107 171 [a0, a1, a2, a3, a4, a5, a6, a7] st h Q else wp S d 107 76 [a0, a1, a2, a3, a4, a5, a6, a7] st h Q := wp_ge hc107 dX5_becomesNew_73 rfl
theorem e107_76 : wp S d 107 76 [some (.ref r), a1, a2, a3, a4, a5, a6, a7] st h Q = wp S d 107 77 [some (.ref r), a1, a2, a3, a4, a5, a6, a7] (.ref r :: st) h Q := wp_p hc107 dX5_becomesNew_76 rfl
theorem e107_77 : wp S d 107 77 [a0, a1, some (.int x), a3, a4, a5, a6, a7] st h Q = wp S d 107 78 [a0, a1, some (.int x), a3, a4, a5, a6, a7] (.int x :: st) h Q := wp_p hc107 dX5_becomesNew_77 rfl
theorem e107_78 : wp S d 107 78 [a0, a1, a2, a3, a4, some (.int x), a6, a7] st h Q = wp S d 107 80 [a0, a1, a2, a3, a4, some (.int x), a6, a7] (.int x :: st) h Q := wp_p hc107 dX5_becomesNew_78 rfl
theorem e107_80 : wp S (d + 1) 107 80 [a0, a1, a2, a3, a4, a5, a6, a7] (.int x2 :: .int x1 :: .ref r0 :: st) h Q = (am_w8 st ∧ am_rcv h 2 74 (.ref r0) = true ∧ wp S d 74 0 [some (.ref r0), some (.int x1), some (.int x2)] [] h (am_kr S 2 (d + 1) 107 80 [a0, a1, a2, a3, a4, a5, a6, a7] st Q)) := wp_cV (.ref r0) [.int x1, .int x2] hc107 dX5_becomesNew_80 ho107 cl5_92 (by decide) ns5_92 hst74 hnp74 hml74 hlsl74 rfl rfl rfl
theorem e107_83 : wp S d 107 83 [a0, a1, a2, a3, a4, a5, a6, a7] (.int x :: st) h Q = wp S d 107 85 [a0, a1, a2, a3, a4, a5, some (.int x), a7] st h Q := wp_p hc107 dX5_becomesNew_83 rfl
theorem e107_85 : wp S d 107 85 [a0, a1, a2, a3, a4, a5, some (.int x), a7] st h Q = wp S d 107 87 [a0, a1, a2, a3, a4, a5, some (.int x), a7] (.int x :: st) h Q := wp_p hc107 dX5_becomesNew_85 rfl
theorem e107_87 : wp S d 107 87 [a0, a1, a2, a3, a4, a5, a6, a7] st h Q = wp S d 107 89 [a0, a1, a2, a3, a4, a5, a6, a7] (.int (nI 100) :: st) h Q := wp_p hc107 dX5_becomesNew_87 rfl
theorem e107_89 : wp S d 107 89 [a0, a1, a2, a3, a4, a5, a6, a7] (.int y :: .int x :: st) h Q = if x < y then wp S d 107 115 [a0, a1, a2, a3, a4, a5, a6, a7] st h Q else wp S d 107 92 [a0, a1, a2, a3, a4, a5, a6, a7] st h Q := wp_lt hc107 dX5_becomesNew_89 rfl
theorem e107_92 : wp S d 107 92 [some (.ref r), a1, a2, a3, a4, a5, a6, a7] st h Q = wp S d 107 93 [some (.ref r), a1, a2, a3, a4, a5, a6, a7] (.ref r :: st) h Q := wp_p hc107 dX5_becomesNew_92 rfl
theorem e107_93 : wp S d 107 93 [a0, a1, a2, a3, a4, a5, a6, a7] (.ref r :: st) h Q = am_gfK h r 5 15 (fun w => wp S d 107 96 [a0, a1, a2, a3, a4, a5, a6, a7] (w :: st) h Q) := wp_gf hc107 dX5_becomesNew_93 ho107 fl5_34
theorem e107_96 : wp S d 107 96 [a0, a1, a2, a3, some (.int x), a5, a6, a7] st h Q = wp S d 107 98 [a0, a1, a2, a3, some (.int x), a5, a6, a7] (.int x :: st) h Q := wp_p hc107 dX5_becomesNew_96 rfl
theorem e107_98 : wp S d 107 98 [a0, a1, a2, a3, a4, a5, a6, a7] st h Q = wp S d 107 99 [a0, a1, a2, a3, a4, a5, a6, a7] (.int (nI 0) :: st) h Q := wp_p hc107 dX5_becomesNew_98 rfl
theorem e107_99 : wp S d 107 99 [a0, a1, a2, a3, a4, a5, some (.int x), a7] st h Q = wp S d 107 101 [a0, a1, a2, a3, a4, a5, some (.int x), a7] (.int x :: st) h Q := wp_p hc107 dX5_becomesNew_99 rfl
theorem e107_101 : wp S d 107 101 [a0, a1, a2, a3, a4, a5, a6, a7] st h Q = wp S d 107 103 [a0, a1, a2, a3, a4, a5, a6, a7] (.int (nI 100) :: st) h Q := wp_p hc107 dX5_becomesNew_101 rfl
theorem e107_103 : wp S d 107 103 [a0, a1, a2, a3, a4, a5, a6, a7] (.int y :: .int x :: st) h Q = wp S d 107 104 [a0, a1, a2, a3, a4, a5, a6, a7] (.int (x - y) :: st) h Q := wp_p hc107 dX5_becomesNew_103 rfl
theorem e107_104 : wp S d 107 104 [a0, a1, a2, a3, a4, a5, a6, a7] st h Q = wp S d 107 105 [a0, a1, a2, a3, a4, a5, a6, a7] (.int (nI 0) :: st) h Q := wp_p hc107 dX5_becomesNew_104 rfl
theorem e107_105 : wp S (d + 1) 107 105 [a0, a1, a2, a3, a4, a5, a6, a7] (.int x3 :: .int x2 :: .int x1 :: st) h Q = (am_w8 st ∧ wp S d 89 0 [some (.int x1), some (.int x2), some (.int x3)] [] h (am_kr S 0 (d + 1) 107 105 [a0, a1, a2, a3, a4, a5, a6, a7] st Q)) := wp_cS [.int x1, .int x2, .int x3] hc107 dX5_becomesNew_105 ho107 cl5_126 (by decide) ns5_126 hst89 hnp89 hml89 hlsl89 rfl rfl rfl
theorem e107_108 : wp S d 107 108 [a0, a1, a2, a3, a4, a5, a6, a7] (.int y :: .int x :: .ref r :: st) h Q = am_isK h r x y (fun h => wp S d 107 109 [a0, a1, a2, a3, a4, a5, a6, a7] st h Q) := wp_is hc107 dX5_becomesNew_108
theorem e107_109 : wp S d 107 109 [a0, a1, a2, a3, some (.int x), a5, a6, a7] st h Q = wp S d 107 112 [a0, a1, a2, a3, some (.int (x + nI 1)), a5, a6, a7] st h Q := wp_p hc107 dX5_becomesNew_109 rfl
theorem e107_112 : wp S d 107 112 [a0, a1, a2, a3, a4, a5, a6, a7] st h Q = wp S d 107 165 [a0, a1, a2, a3, a4, a5, a6, a7] st h Q := wp_p hc107 dX5_becomesNew_112 rfl
theorem e107_115 : wp S d 107 115 [some (.ref r), a1, a2, a3, a4, a5, a6, a7] st h Q = wp S d 107 116 [some (.ref r), a1, a2, a3, a4, a5, a6, a7] (.ref r :: st) h Q := wp_p hc107 dX5_becomesNew_115 rfl
theorem e107_116 : wp S d 107 116 [a0, a1, a2, a3, a4, a5, a6, a7] (.ref r :: st) h Q = am_gfK h r 5 13 (fun w => wp S d 107 119 [a0, a1, a2, a3, a4, a5, a6, a7] (w :: st) h Q) := wp_gf hc107 dX5_becomesNew_116 ho107 fl5_31
theorem e107_119 : wp S d 107 119 [a0, a1, a2, some (.int x), a4, a5, a6, a7] st h Q = wp S d 107 120 [a0, a1, a2, some (.int x), a4, a5, a6, a7] (.int x :: st) h Q := wp_p hc107 dX5_becomesNew_119 rfl
theorem e107_120 : wp S d 107 120 [a0, a1, a2, a3, a4, a5, some (.int x), a7] st h Q = wp S d 107 122 [a0, a1, a2, a3, a4, a5, some (.int x), a7] (.int x :: st) h Q := wp_p hc107 dX5_becomesNew_120 rfl
theorem e107_122 : wp S d 107 122 [a0, a1, a2, a3, a4, a5, a6, a7] (.int y :: .int x :: st) h Q = wp S d 107 123 [a0, a1, a2, a3, a4, a5, a6, a7] (.int (x + y) :: st) h Q := wp_p hc107 dX5_becomesNew_122 rfl
theorem e107_123 : wp S d 107 123 [a0, a1, a2, a3, a4, a5, a6, a7] (.int x :: .ref r :: st) h Q = am_iaK h r x (fun z => wp S d 107 124 [a0, a1, a2, a3, a4, a5, a6, a7] (.int z :: st) h Q) := wp_ia hc107 dX5_becomesNew_123
theorem e107_124 : wp S d 107 124 [a0, a1, a2, a3, a4, a5, a6, a7] (.int x :: st) h Q = wp S d 107 126 [a0, a1, a2, a3, a4, a5, a6, some (.int x)] st h Q := wp_p hc107 dX5_becomesNew_124 rfl
theorem e107_126 : wp S d 107 126 [a0, a1, a2, a3, a4, a5, a6, some (.int x)] st h Q = wp S d 107 128 [a0, a1, a2, a3, a4, a5, a6, some (.int x)] (.int x :: st) h Q := wp_p hc107 dX5_becomesNew_126 rfl
theorem e107_128 : wp S d 107 128 [some (.ref r), a1, a2, a3, a4, a5, a6, a7] st h Q = wp S d 107 129 [some (.ref r), a1, a2, a3, a4, a5, a6, a7] (.ref r :: st) h Q := wp_p hc107 dX5_becomesNew_128 rfl
theorem e107_129 : wp S d 107 129 [a0, a1, a2, a3, a4, a5, a6, a7] (.ref r :: st) h Q = am_gfK h r 5 13 (fun w => wp S d 107 132 [a0, a1, a2, a3, a4, a5, a6, a7] (w :: st) h Q) := wp_gf hc107 dX5_becomesNew_129 ho107 fl5_31
theorem e107_132 : wp S d 107 132 [a0, a1, a2, some (.int x), a4, a5, a6, a7] st h Q = wp S d 107 133 [a0, a1, a2, some (.int x), a4, a5, a6, a7] (.int x :: st) h Q := wp_p hc107 dX5_becomesNew_132 rfl
theorem e107_133 : wp S d 107 133 [a0, a1, a2, a3, a4, a5, some (.int x), a7] st h Q = wp S d 107 135 [a0, a1, a2, a3, a4, a5, some (.int x), a7] (.int x :: st) h Q := wp_p hc107 dX5_becomesNew_133 rfl
theorem e107_135 : wp S d 107 135 [a0, a1, a2, a3, a4, a5, a6, a7] (.int y :: .int x :: st) h Q = wp S d 107 136 [a0, a1, a2, a3, a4, a5, a6, a7] (.int (x + y) :: st) h Q := wp_p hc107 dX5_becomesNew_135 rfl
theorem e107_136 : wp S d 107 136 [a0, a1, a2, a3, a4, a5, a6, a7] st h Q = wp S d 107 137 [a0, a1, a2, a3, a4, a5, a6, a7] (.int (nI 1) :: st) h Q := wp_p hc107 dX5_becomesNew_136 rfl
theorem e107_137 : wp S d 107 137 [a0, a1, a2, a3, a4, a5, a6, a7] (.int y :: .int x :: st) h Q = wp S d 107 138 [a0, a1, a2, a3, a4, a5, a6, a7] (.int (x + y) :: st) h Q := wp_p hc107 dX5_becomesNew_137 rfl
theorem e107_138 : wp S d 107 138 [a0, a1, a2, a3, a4, a5, a6, a7] (.int x :: .ref r :: st) h Q = am_iaK h r x (fun z => wp S d 107 139 [a0, a1, a2, a3, a4, a5, a6, a7] (.int z :: st) h Q) := wp_ia hc107 dX5_becomesNew_138
theorem e107_139 : wp S d 107 139 [a0, a1, a2, a3, a4, a5, a6, a7] (.int y :: .int x :: st) h Q = if y ≤ x then wp S d 107 165 [a0, a1, a2, a3, a4, a5, a6, a7] st h Q else wp S d 107 142 [a0, a1, a2, a3, a4, a5, a6, a7] st h Q := wp_ge hc107 dX5_becomesNew_139 rfl
theorem e107_142 : wp S d 107 142 [some (.ref r), a1, a2, a3, a4, a5, a6, a7] st h Q = wp S d 107 143 [some (.ref r), a1, a2, a3, a4, a5, a6, a7] (.ref r :: st) h Q := wp_p hc107 dX5_becomesNew_142 rfl
theorem e107_143 : wp S d 107 143 [a0, a1, a2, a3, a4, a5, a6, a7] (.ref r :: st) h Q = am_gfK h r 5 15 (fun w => wp S d 107 146 [a0, a1, a2, a3, a4, a5, a6, a7] (w :: st) h Q) := wp_gf hc107 dX5_becomesNew_143 ho107 fl5_34
theorem e107_146 : wp S d 107 146 [a0, a1, a2, a3, some (.int x), a5, a6, a7] st h Q = wp S d 107 148 [a0, a1, a2, a3, some (.int x), a5, a6, a7] (.int x :: st) h Q := wp_p hc107 dX5_becomesNew_146 rfl
theorem e107_148 : wp S d 107 148 [some (.ref r), a1, a2, a3, a4, a5, a6, a7] st h Q = wp S d 107 149 [some (.ref r), a1, a2, a3, a4, a5, a6, a7] (.ref r :: st) h Q := wp_p hc107 dX5_becomesNew_148 rfl
theorem e107_149 : wp S d 107 149 [a0, a1, a2, a3, a4, a5, a6, a7] (.ref r :: st) h Q = am_gfK h r 5 11 (fun w => wp S d 107 152 [a0, a1, a2, a3, a4, a5, a6, a7] (w :: st) h Q) := wp_gf hc107 dX5_becomesNew_149 ho107 fl5_28
theorem e107_152 : wp S d 107 152 [a0, a1, a2, a3, a4, a5, a6, some (.int x)] st h Q = wp S d 107 154 [a0, a1, a2, a3, a4, a5, a6, some (.int x)] (.int x :: st) h Q := wp_p hc107 dX5_becomesNew_152 rfl
theorem e107_154 : wp S d 107 154 [a0, a1, a2, a3, a4, a5, a6, a7] (.int x :: .ref r :: st) h Q = am_iaK h r x (fun z => wp S d 107 155 [a0, a1, a2, a3, a4, a5, a6, a7] (.int z :: st) h Q) := wp_ia hc107 dX5_becomesNew_154
theorem e107_155 : wp S d 107 155 [a0, a1, a2, a3, a4, a5, a6, a7] (.int y :: .int x :: .ref r :: st) h Q = am_isK h r x y (fun h => wp S d 107 156 [a0, a1, a2, a3, a4, a5, a6, a7] st h Q) := wp_is hc107 dX5_becomesNew_155
theorem e107_156 : wp S d 107 156 [a0, a1, a2, a3, some (.int x), a5, a6, a7] st h Q = wp S d 107 159 [a0, a1, a2, a3, some (.int (x + nI 1)), a5, a6, a7] st h Q := wp_p hc107 dX5_becomesNew_156 rfl
theorem e107_159 : wp S d 107 159 [a0, a1, a2, a3, a4, a5, a6, some (.int x)] st h Q = wp S d 107 162 [a0, a1, a2, a3, a4, a5, a6, some (.int (x + nI 1))] st h Q := wp_p hc107 dX5_becomesNew_159 rfl
theorem e107_162 : wp S d 107 162 [a0, a1, a2, a3, a4, a5, a6, a7] st h Q = wp S d 107 126 [a0, a1, a2, a3, a4, a5, a6, a7] st h Q := wp_p hc107 dX5_becomesNew_162 rfl
theorem e107_165 : wp S d 107 165 [a0, a1, a2, a3, a4, some (.int x), a6, a7] st h Q = wp S d 107 168 [a0, a1, a2, a3, a4, some (.int (x + nI 1)), a6, a7] st h Q := wp_p hc107 dX5_becomesNew_165 rfl
theorem e107_168 : wp S d 107 168 [a0, a1, a2, a3, a4, a5, a6, a7] st h Q = wp S d 107 66 [a0, a1, a2, a3, a4, a5, a6, a7] st h Q := wp_p hc107 dX5_becomesNew_168 rfl
theorem e107_171 : wp S d 107 171 [some (.ref r), a1, a2, a3, a4, a5, a6, a7] st h Q = wp S d 107 172 [some (.ref r), a1, a2, a3, a4, a5, a6, a7] (.ref r :: st) h Q := wp_p hc107 dX5_becomesNew_171 rfl
theorem e107_172 : wp S d 107 172 [a0, a1, a2, a3, a4, a5, a6, a7] (.ref r :: st) h Q = am_gfK h r 5 13 (fun w => wp S d 107 175 [a0, a1, a2, a3, a4, a5, a6, a7] (w :: st) h Q) := wp_gf hc107 dX5_becomesNew_172 ho107 fl5_31
theorem e107_175 : wp S d 107 175 [a0, a1, a2, some (.int x), a4, a5, a6, a7] st h Q = wp S d 107 176 [a0, a1, a2, some (.int x), a4, a5, a6, a7] (.int x :: st) h Q := wp_p hc107 dX5_becomesNew_175 rfl
theorem e107_176 : wp S d 107 176 [a0, a1, a2, a3, a4, a5, a6, a7] (.int x :: .ref r :: st) h Q = am_iaK h r x (fun z => wp S d 107 177 [a0, a1, a2, a3, a4, a5, a6, a7] (.int z :: st) h Q) := wp_ia hc107 dX5_becomesNew_176
theorem e107_177 : wp S d 107 177 [a0, a1, a2, a3, a4, a5, a6, a7] (.int x :: st) h Q = wp S d 107 179 [a0, a1, a2, a3, a4, some (.int x), a6, a7] st h Q := wp_p hc107 dX5_becomesNew_177 rfl
theorem e107_179 : wp S d 107 179 [a0, a1, a2, a3, a4, a5, a6, a7] st h Q = wp S d 107 180 [a0, a1, a2, a3, a4, a5, a6, a7] (.int (nI 0) :: st) h Q := wp_p hc107 dX5_becomesNew_179 rfl
theorem e107_180 : wp S d 107 180 [a0, a1, a2, a3, a4, a5, a6, a7] (.int x :: st) h Q = wp S d 107 182 [a0, a1, a2, a3, a4, a5, some (.int x), a7] st h Q := wp_p hc107 dX5_becomesNew_180 rfl
theorem e107_182 : wp S d 107 182 [a0, a1, a2, a3, a4, a5, some (.int x), a7] st h Q = wp S d 107 184 [a0, a1, a2, a3, a4, a5, some (.int x), a7] (.int x :: st) h Q := wp_p hc107 dX5_becomesNew_182 rfl
theorem e107_184 : wp S d 107 184 [a0, a1, a2, a3, some (.int x), a5, a6, a7] st h Q = wp S d 107 186 [a0, a1, a2, a3, some (.int x), a5, a6, a7] (.int x :: st) h Q := wp_p hc107 dX5_becomesNew_184 rfl
theorem e107_186 : wp S d 107 186 [a0, a1, a2, a3, a4, a5, a6, a7] (.int y :: .int x :: st) h Q = if y ≤ x then wp S d 107 212 [a0, a1, a2, a3, a4, a5, a6, a7] st h Q else wp S d 107 189 [a0, a1, a2, a3, a4, a5, a6, a7] st h Q := wp_ge hc107 dX5_becomesNew_186 rfl
theorem e107_189 : wp S d 107 189 [some (.ref r), a1, a2, a3, a4, a5, a6, a7] st h Q = wp S d 107 190 [some (.ref r), a1, a2, a3, a4, a5, a6, a7] (.ref r :: st) h Q := wp_p hc107 dX5_becomesNew_189 rfl
theorem e107_190 : wp S d 107 190 [a0, a1, a2, a3, a4, a5, a6, a7] (.ref r :: st) h Q = am_gfK h r 5 11 (fun w => wp S d 107 193 [a0, a1, a2, a3, a4, a5, a6, a7] (w :: st) h Q) := wp_gf hc107 dX5_becomesNew_190 ho107 fl5_28
theorem e107_193 : wp S d 107 193 [a0, a1, a2, a3, a4, some (.int x), a6, a7] st h Q = wp S d 107 195 [a0, a1, a2, a3, a4, some (.int x), a6, a7] (.int x :: st) h Q := wp_p hc107 dX5_becomesNew_193 rfl
theorem e107_195 : wp S d 107 195 [a0, a1, a2, a3, a4, a5, some (.int x), a7] st h Q = wp S d 107 197 [a0, a1, a2, a3, a4, a5, some (.int x), a7] (.int x :: st) h Q := wp_p hc107 dX5_becomesNew_195 rfl
theorem e107_197 : wp S d 107 197 [a0, a1, a2, a3, a4, a5, a6, a7] (.int y :: .int x :: st) h Q = wp S d 107 198 [a0, a1, a2, a3, a4, a5, a6, a7] (.int (x + y) :: st) h Q := wp_p hc107 dX5_becomesNew_197 rfl
theorem e107_198 : wp S d 107 198 [some (.ref r), a1, a2, a3, a4, a5, a6, a7] st h Q = wp S d 107 199 [some (.ref r), a1, a2, a3, a4, a5, a6, a7] (.ref r :: st) h Q := wp_p hc107 dX5_becomesNew_198 rfl
theorem e107_199 : wp S d 107 199 [a0, a1, a2, a3, a4, a5, a6, a7] (.ref r :: st) h Q = am_gfK h r 5 15 (fun w => wp S d 107 202 [a0, a1, a2, a3, a4, a5, a6, a7] (w :: st) h Q) := wp_gf hc107 dX5_becomesNew_199 ho107 fl5_34
theorem e107_202 : wp S d 107 202 [a0, a1, a2, a3, a4, a5, some (.int x), a7] st h Q = wp S d 107 204 [a0, a1, a2, a3, a4, a5, some (.int x), a7] (.int x :: st) h Q := wp_p hc107 dX5_becomesNew_202 rfl
theorem e107_204 : wp S d 107 204 [a0, a1, a2, a3, a4, a5, a6, a7] (.int x :: .ref r :: st) h Q = am_iaK h r x (fun z => wp S d 107 205 [a0, a1, a2, a3, a4, a5, a6, a7] (.int z :: st) h Q) := wp_ia hc107 dX5_becomesNew_204
theorem e107_205 : wp S d 107 205 [a0, a1, a2, a3, a4, a5, a6, a7] (.int y :: .int x :: .ref r :: st) h Q = am_isK h r x y (fun h => wp S d 107 206 [a0, a1, a2, a3, a4, a5, a6, a7] st h Q) := wp_is hc107 dX5_becomesNew_205
theorem e107_206 : wp S d 107 206 [a0, a1, a2, a3, a4, a5, some (.int x), a7] st h Q = wp S d 107 209 [a0, a1, a2, a3, a4, a5, some (.int (x + nI 1)), a7] st h Q := wp_p hc107 dX5_becomesNew_206 rfl
theorem e107_209 : wp S d 107 209 [a0, a1, a2, a3, a4, a5, a6, a7] st h Q = wp S d 107 182 [a0, a1, a2, a3, a4, a5, a6, a7] st h Q := wp_p hc107 dX5_becomesNew_209 rfl
theorem e107_212 : wp S d 107 212 [some (.ref r), a1, a2, a3, a4, a5, a6, a7] st h Q = wp S d 107 213 [some (.ref r), a1, a2, a3, a4, a5, a6, a7] (.ref r :: st) h Q := wp_p hc107 dX5_becomesNew_212 rfl
theorem e107_213 : wp S d 107 213 [a0, a1, a2, a3, a4, some (.int x), a6, a7] st h Q = wp S d 107 215 [a0, a1, a2, a3, a4, some (.int x), a6, a7] (.int x :: st) h Q := wp_p hc107 dX5_becomesNew_213 rfl
theorem e107_215 : wp S d 107 215 [a0, a1, a2, a3, some (.int x), a5, a6, a7] st h Q = wp S d 107 217 [a0, a1, a2, a3, some (.int x), a5, a6, a7] (.int x :: st) h Q := wp_p hc107 dX5_becomesNew_215 rfl
theorem e107_217 : wp S d 107 217 [a0, a1, a2, a3, a4, a5, a6, a7] (.int y :: .int x :: st) h Q = wp S d 107 218 [a0, a1, a2, a3, a4, a5, a6, a7] (.int (x + y) :: st) h Q := wp_p hc107 dX5_becomesNew_217 rfl
theorem e107_218 : wp S d 107 218 [a0, a1, a2, a3, a4, a5, a6, a7] (w :: .ref r :: st) h Q = am_pfK 107 h r 5 12 false w (fun h => wp S d 107 221 [a0, a1, a2, a3, a4, a5, a6, a7] st h Q) := wp_pf hc107 dX5_becomesNew_218 ho107 fl5_173
theorem e107_221 : wp S d 107 221 [some (.ref r), a1, a2, a3, a4, a5, a6, a7] st h Q = wp S d 107 222 [some (.ref r), a1, a2, a3, a4, a5, a6, a7] (.ref r :: st) h Q := wp_p hc107 dX5_becomesNew_221 rfl
theorem e107_222 : wp S d 107 222 [a0, a1, a2, some (.int x), a4, a5, a6, a7] st h Q = wp S d 107 223 [a0, a1, a2, some (.int x), a4, a5, a6, a7] (.int x :: st) h Q := wp_p hc107 dX5_becomesNew_222 rfl
theorem e107_223 : wp S d 107 223 [a0, a1, a2, a3, a4, a5, a6, a7] st h Q = wp S d 107 224 [a0, a1, a2, a3, a4, a5, a6, a7] (.int (nI 1) :: st) h Q := wp_p hc107 dX5_becomesNew_223 rfl
theorem e107_224 : wp S d 107 224 [a0, a1, a2, a3, a4, a5, a6, a7] (.int y :: .int x :: st) h Q = wp S d 107 225 [a0, a1, a2, a3, a4, a5, a6, a7] (.int (x + y) :: st) h Q := wp_p hc107 dX5_becomesNew_224 rfl
theorem e107_225 : wp S d 107 225 [a0, a1, a2, a3, a4, a5, a6, a7] (w :: .ref r :: st) h Q = am_pfK 107 h r 5 14 false w (fun h => wp S d 107 228 [a0, a1, a2, a3, a4, a5, a6, a7] st h Q) := wp_pf hc107 dX5_becomesNew_225 ho107 fl5_170
theorem e107_228 : wp S d 107 228 [some (.ref r), a1, a2, a3, a4, a5, a6, a7] st h Q = wp S d 107 229 [some (.ref r), a1, a2, a3, a4, a5, a6, a7] (.ref r :: st) h Q := wp_p hc107 dX5_becomesNew_228 rfl
theorem e107_229 : wp S d 107 229 [a0, a1, a2, a3, a4, a5, a6, a7] (.ref r :: st) h Q = am_gfK h r 5 13 (fun w => wp S d 107 232 [a0, a1, a2, a3, a4, a5, a6, a7] (w :: st) h Q) := wp_gf hc107 dX5_becomesNew_229 ho107 fl5_31
theorem e107_232 : wp S d 107 232 [some (.ref r), a1, a2, a3, a4, a5, a6, a7] st h Q = wp S d 107 233 [some (.ref r), a1, a2, a3, a4, a5, a6, a7] (.ref r :: st) h Q := wp_p hc107 dX5_becomesNew_232 rfl
theorem e107_233 : wp S d 107 233 [a0, a1, a2, a3, a4, a5, a6, a7] (.ref r :: st) h Q = am_gfK h r 5 14 (fun w => wp S d 107 236 [a0, a1, a2, a3, a4, a5, a6, a7] (w :: st) h Q) := wp_gf hc107 dX5_becomesNew_233 ho107 fl5_170
theorem e107_236 : wp S d 107 236 [some (.ref r), a1, a2, a3, a4, a5, a6, a7] st h Q = wp S d 107 237 [some (.ref r), a1, a2, a3, a4, a5, a6, a7] (.ref r :: st) h Q := wp_p hc107 dX5_becomesNew_236 rfl
theorem e107_237 : wp S d 107 237 [a0, a1, a2, a3, a4, a5, a6, a7] (.ref r :: st) h Q = am_gfK h r 5 12 (fun w => wp S d 107 240 [a0, a1, a2, a3, a4, a5, a6, a7] (w :: st) h Q) := wp_gf hc107 dX5_becomesNew_237 ho107 fl5_173
theorem e107_240 : wp S d 107 240 [a0, a1, a2, a3, a4, a5, a6, a7] (.int y :: .int x :: .ref r :: st) h Q = am_isK h r x y (fun h => wp S d 107 241 [a0, a1, a2, a3, a4, a5, a6, a7] st h Q) := wp_is hc107 dX5_becomesNew_240
theorem e107_241 : wp S d 107 241 ls [] h Q = Q (.inl none, h) := wp_r hc107 dX5_becomesNew_241 rfl rfl ⟨rfl, rfl, rfl⟩
theorem e108_0 : wp S d 108 0 [a0, a1, a2] st h Q = wp S d 108 1 [a0, a1, a2] (.int (nI 0) :: st) h Q := wp_p hc108 dX5_treatsOpen_0 rfl
theorem e108_1 : wp S d 108 1 [a0, a1, a2] (.int x :: st) h Q = wp S d 108 2 [a0, some (.int x), a2] st h Q := wp_p hc108 dX5_treatsOpen_1 rfl
theorem e108_2 : wp S d 108 2 [some (.ref r), a1, a2] st h Q = wp S d 108 3 [some (.ref r), a1, a2] (.ref r :: st) h Q := wp_p hc108 dX5_treatsOpen_2 rfl
theorem e108_3 : wp S d 108 3 [a0, a1, a2] (.ref r :: st) h Q = am_gfK h r 5 18 (fun w => wp S d 108 6 [a0, a1, a2] (w :: st) h Q) := wp_gf hc108 dX5_treatsOpen_3 ho108 fl5_207
theorem e108_6 : wp S d 108 6 [a0, a1, a2] (.int x :: st) h Q = if x ≤ 0 then wp S d 108 13 [a0, a1, a2] st h Q else wp S d 108 9 [a0, a1, a2] st h Q := wp_le hc108 dX5_treatsOpen_6 rfl
theorem e108_9 : wp S d 108 9 [a0, a1, a2] st h Q = wp S d 108 10 [a0, a1, a2] (.int (nI 1) :: st) h Q := wp_p hc108 dX5_treatsOpen_9 rfl
theorem e108_10 : wp S d 108 10 [a0, a1, a2] st h Q = wp S d 108 14 [a0, a1, a2] st h Q := wp_p hc108 dX5_treatsOpen_10 rfl
theorem e108_13 : wp S d 108 13 [a0, a1, a2] st h Q = wp S d 108 14 [a0, a1, a2] (.int (nI 0) :: st) h Q := wp_p hc108 dX5_treatsOpen_13 rfl
theorem e108_14 : wp S d 108 14 [a0, a1, a2] (.int x :: st) h Q = wp S d 108 15 [a0, a1, some (.int x)] st h Q := wp_p hc108 dX5_treatsOpen_14 rfl
theorem e108_15 : wp S d 108 15 [a0, a1, some (.int x)] st h Q = wp S d 108 16 [a0, a1, some (.int x)] (.int x :: st) h Q := wp_p hc108 dX5_treatsOpen_15 rfl
theorem e108_16 : wp S d 108 16 [a0, a1, a2] (.int x :: st) h Q = if x = 0 then wp S d 108 100 [a0, a1, a2] st h Q else wp S d 108 19 [a0, a1, a2] st h Q := wp_eq hc108 dX5_treatsOpen_16 rfl
theorem e108_19 : wp S d 108 19 [some (.ref r), a1, a2] st h Q = wp S d 108 20 [some (.ref r), a1, a2] (.ref r :: st) h Q := wp_p hc108 dX5_treatsOpen_19 rfl
theorem e108_20 : wp S d 108 20 [a0, a1, a2] (.ref r :: st) h Q = am_gfK h r 5 17 (fun w => wp S d 108 23 [a0, a1, a2] (w :: st) h Q) := wp_gf hc108 dX5_treatsOpen_20 ho108 fl5_40
theorem e108_23 : wp S d 108 23 [some (.ref r), a1, a2] st h Q = wp S d 108 24 [some (.ref r), a1, a2] (.ref r :: st) h Q := wp_p hc108 dX5_treatsOpen_23 rfl
theorem e108_24 : wp S d 108 24 [a0, a1, a2] (.ref r :: st) h Q = am_gfK h r 5 18 (fun w => wp S d 108 27 [a0, a1, a2] (w :: st) h Q) := wp_gf hc108 dX5_treatsOpen_24 ho108 fl5_207
theorem e108_27 : wp S d 108 27 [a0, a1, a2] st h Q = wp S d 108 28 [a0, a1, a2] (.int (nI 1) :: st) h Q := wp_p hc108 dX5_treatsOpen_27 rfl
theorem e108_28 : wp S d 108 28 [a0, a1, a2] (.int y :: .int x :: st) h Q = wp S d 108 29 [a0, a1, a2] (.int (x - y) :: st) h Q := wp_p hc108 dX5_treatsOpen_28 rfl
theorem e108_29 : wp S d 108 29 [a0, a1, a2] (.int x :: .ref r :: st) h Q = wp S d 108 30 [a0, a1, a2] (.int x :: .ref r :: .int x :: .ref r :: st) h Q := wp_p hc108 dX5_treatsOpen_29 rfl
theorem e108_30 : wp S d 108 30 [a0, a1, a2] (.int x :: .ref r :: st) h Q = am_iaK h r x (fun z => wp S d 108 31 [a0, a1, a2] (.int z :: st) h Q) := wp_ia hc108 dX5_treatsOpen_30
theorem e108_31 : wp S d 108 31 [a0, a1, a2] st h Q = wp S d 108 32 [a0, a1, a2] (.int (nI 1) :: st) h Q := wp_p hc108 dX5_treatsOpen_31 rfl
theorem e108_32 : wp S d 108 32 [a0, a1, a2] (.int y :: .int x :: st) h Q = wp S d 108 33 [a0, a1, a2] (.int (x - y) :: st) h Q := wp_p hc108 dX5_treatsOpen_32 rfl
theorem e108_33 : wp S d 108 33 [a0, a1, a2] (.int y :: .int x :: .ref r :: st) h Q = am_isK h r x y (fun h => wp S d 108 34 [a0, a1, a2] st h Q) := wp_is hc108 dX5_treatsOpen_33
theorem e108_34 : wp S d 108 34 [some (.ref r), a1, a2] st h Q = wp S d 108 35 [some (.ref r), a1, a2] (.ref r :: st) h Q := wp_p hc108 dX5_treatsOpen_34 rfl
theorem e108_35 : wp S d 108 35 [a0, a1, a2] (.ref r :: st) h Q = am_gfK h r 5 17 (fun w => wp S d 108 38 [a0, a1, a2] (w :: st) h Q) := wp_gf hc108 dX5_treatsOpen_35 ho108 fl5_40
theorem e108_38 : wp S d 108 38 [some (.ref r), a1, a2] st h Q = wp S d 108 39 [some (.ref r), a1, a2] (.ref r :: st) h Q := wp_p hc108 dX5_treatsOpen_38 rfl
theorem e108_39 : wp S d 108 39 [a0, a1, a2] (.ref r :: st) h Q = am_gfK h r 5 18 (fun w => wp S d 108 42 [a0, a1, a2] (w :: st) h Q) := wp_gf hc108 dX5_treatsOpen_39 ho108 fl5_207
theorem e108_42 : wp S d 108 42 [a0, a1, a2] st h Q = wp S d 108 43 [a0, a1, a2] (.int (nI 1) :: st) h Q := wp_p hc108 dX5_treatsOpen_42 rfl
theorem e108_43 : wp S d 108 43 [a0, a1, a2] (.int y :: .int x :: st) h Q = wp S d 108 44 [a0, a1, a2] (.int (x - y) :: st) h Q := wp_p hc108 dX5_treatsOpen_43 rfl
theorem e108_44 : wp S d 108 44 [a0, a1, a2] (.int x :: .ref r :: st) h Q = am_iaK h r x (fun z => wp S d 108 45 [a0, a1, a2] (.int z :: st) h Q) := wp_ia hc108 dX5_treatsOpen_44
theorem e108_45 : wp S d 108 45 [a0, a1, a2] (.int x :: st) h Q = if x = 0 then wp S d 108 48 [a0, a1, a2] st h Q else wp S d 108 52 [a0, a1, a2] st h Q := wp_ne hc108 dX5_treatsOpen_45 rfl
theorem e108_48 : wp S d 108 48 [a0, a1, a2] st h Q = wp S d 108 49 [a0, a1, a2] (.int (nI 1) :: st) h Q := wp_p hc108 dX5_treatsOpen_48 rfl
theorem e108_49 : wp S d 108 49 [a0, a1, a2] st h Q = wp S d 108 53 [a0, a1, a2] st h Q := wp_p hc108 dX5_treatsOpen_49 rfl
theorem e108_52 : wp S d 108 52 [a0, a1, a2] st h Q = wp S d 108 53 [a0, a1, a2] (.int (nI 0) :: st) h Q := wp_p hc108 dX5_treatsOpen_52 rfl
theorem e108_53 : wp S d 108 53 [a0, a1, a2] (.int x :: st) h Q = wp S d 108 54 [a0, a1, some (.int x)] st h Q := wp_p hc108 dX5_treatsOpen_53 rfl
theorem e108_54 : wp S d 108 54 [a0, a1, some (.int x)] st h Q = wp S d 108 55 [a0, a1, some (.int x)] (.int x :: st) h Q := wp_p hc108 dX5_treatsOpen_54 rfl
theorem e108_55 : wp S d 108 55 [a0, a1, a2] (.int x :: st) h Q = if x = 0 then wp S d 108 15 [a0, a1, a2] st h Q else wp S d 108 58 [a0, a1, a2] st h Q := wp_eq hc108 dX5_treatsOpen_55 rfl
theorem e108_58 : wp S d 108 58 [some (.ref r), a1, a2] st h Q = wp S d 108 59 [some (.ref r), a1, a2] (.ref r :: st) h Q := wp_p hc108 dX5_treatsOpen_58 rfl
theorem e108_59 : wp S d 108 59 [a0, a1, a2] (.ref r :: st) h Q = wp S d 108 60 [a0, a1, a2] (.ref r :: .ref r :: st) h Q := wp_p hc108 dX5_treatsOpen_59 rfl
theorem e108_59i : wp S d 108 59 [a0, a1, a2] (.int x :: st) h Q = wp S d 108 60 [a0, a1, a2] (.int x :: .int x :: st) h Q := wp_p hc108 dX5_treatsOpen_59 rfl
theorem e108_60 : wp S d 108 60 [a0, a1, a2] (.ref r :: st) h Q = am_gfK h r 5 18 (fun w => wp S d 108 63 [a0, a1, a2] (w :: st) h Q) := wp_gf hc108 dX5_treatsOpen_60 ho108 fl5_207
theorem e108_63 : wp S d 108 63 [a0, a1, a2] st h Q = wp S d 108 64 [a0, a1, a2] (.int (nI 1) :: st) h Q := wp_p hc108 dX5_treatsOpen_63 rfl
theorem e108_64 : wp S d 108 64 [a0, a1, a2] (.int y :: .int x :: st) h Q = wp S d 108 65 [a0, a1, a2] (.int (x - y) :: st) h Q := wp_p hc108 dX5_treatsOpen_64 rfl
theorem e108_65 : wp S d 108 65 [a0, a1, a2] (w :: .ref r :: st) h Q = am_pfK 108 h r 5 18 false w (fun h => wp S d 108 68 [a0, a1, a2] st h Q) := wp_pf hc108 dX5_treatsOpen_65 ho108 fl5_207
theorem e108_68 : wp S d 108 68 [a0, some (.int x), a2] st h Q = wp S d 108 69 [a0, some (.int x), a2] (.int x :: st) h Q := wp_p hc108 dX5_treatsOpen_68 rfl
theorem e108_69 : wp S d 108 69 [some (.ref r), a1, a2] st h Q = wp S d 108 70 [some (.ref r), a1, a2] (.ref r :: st) h Q := wp_p hc108 dX5_treatsOpen_69 rfl
theorem e108_70 : wp S d 108 70 [some (.ref r), a1, a2] st h Q = wp S d 108 71 [some (.ref r), a1, a2] (.ref r :: st) h Q := wp_p hc108 dX5_treatsOpen_70 rfl
theorem e108_71 : wp S d 108 71 [a0, a1, a2] (.ref r :: st) h Q = am_gfK h r 5 16 (fun w => wp S d 108 74 [a0, a1, a2] (w :: st) h Q) := wp_gf hc108 dX5_treatsOpen_71 ho108 fl5_37
theorem e108_74 : wp S d 108 74 [some (.ref r), a1, a2] st h Q = wp S d 108 75 [some (.ref r), a1, a2] (.ref r :: st) h Q := wp_p hc108 dX5_treatsOpen_74 rfl
theorem e108_75 : wp S d 108 75 [a0, a1, a2] (.ref r :: st) h Q = am_gfK h r 5 18 (fun w => wp S d 108 78 [a0, a1, a2] (w :: st) h Q) := wp_gf hc108 dX5_treatsOpen_75 ho108 fl5_207
theorem e108_78 : wp S d 108 78 [a0, a1, a2] (.int x :: .ref r :: st) h Q = am_iaK h r x (fun z => wp S d 108 79 [a0, a1, a2] (.int z :: st) h Q) := wp_ia hc108 dX5_treatsOpen_78
theorem e108_79 : wp S (d + 1) 108 79 [a0, a1, a2] (.int x1 :: .ref r0 :: st) h Q = (am_w8 st ∧ am_rcv h 2 98 (.ref r0) = true ∧ wp S d 98 0 [some (.ref r0), some (.int x1), none, none, none, none] [] h (am_kr S 2 (d + 1) 108 79 [a0, a1, a2] st Q)) := wp_cV (.ref r0) [.int x1] hc108 dX5_treatsOpen_79 ho108 cl5_217 (by decide) ns5_217 hst98 hnp98 hml98 hlsl98 rfl rfl rfl
theorem e108_82 : wp S d 108 82 [a0, a1, a2] (.int y :: .int x :: st) h Q = wp S d 108 83 [a0, a1, a2] (.int (x + y) :: st) h Q := wp_p hc108 dX5_treatsOpen_82 rfl
theorem e108_83 : wp S d 108 83 [a0, a1, a2] (.int x :: st) h Q = wp S d 108 84 [a0, some (.int x), a2] st h Q := wp_p hc108 dX5_treatsOpen_83 rfl
theorem e108_84 : wp S d 108 84 [some (.ref r), a1, a2] st h Q = wp S d 108 85 [some (.ref r), a1, a2] (.ref r :: st) h Q := wp_p hc108 dX5_treatsOpen_84 rfl
theorem e108_85 : wp S d 108 85 [a0, a1, a2] (.ref r :: st) h Q = am_gfK h r 5 18 (fun w => wp S d 108 88 [a0, a1, a2] (w :: st) h Q) := wp_gf hc108 dX5_treatsOpen_85 ho108 fl5_207
theorem e108_88 : wp S d 108 88 [a0, a1, a2] (.int x :: st) h Q = if x ≤ 0 then wp S d 108 95 [a0, a1, a2] st h Q else wp S d 108 91 [a0, a1, a2] st h Q := wp_le hc108 dX5_treatsOpen_88 rfl
theorem e108_91 : wp S d 108 91 [a0, a1, a2] st h Q = wp S d 108 92 [a0, a1, a2] (.int (nI 1) :: st) h Q := wp_p hc108 dX5_treatsOpen_91 rfl
theorem e108_92 : wp S d 108 92 [a0, a1, a2] st h Q = wp S d 108 96 [a0, a1, a2] st h Q := wp_p hc108 dX5_treatsOpen_92 rfl
theorem e108_95 : wp S d 108 95 [a0, a1, a2] st h Q = wp S d 108 96 [a0, a1, a2] (.int (nI 0) :: st) h Q := wp_p hc108 dX5_treatsOpen_95 rfl
theorem e108_96 : wp S d 108 96 [a0, a1, a2] (.int x :: st) h Q = wp S d 108 97 [a0, a1, some (.int x)] st h Q := wp_p hc108 dX5_treatsOpen_96 rfl
theorem e108_97 : wp S d 108 97 [a0, a1, a2] st h Q = wp S d 108 15 [a0, a1, a2] st h Q := wp_p hc108 dX5_treatsOpen_97 rfl
theorem e108_100 : wp S d 108 100 [a0, some (.int x), a2] st h Q = wp S d 108 101 [a0, some (.int x), a2] (.int x :: st) h Q := wp_p hc108 dX5_treatsOpen_100 rfl
theorem e108_101 : wp S d 108 101 ls [.int x] h Q = Q (.inl (some (.int x)), h) := wp_r hc108 dX5_treatsOpen_101 rfl rfl ⟨x, _, rfl, rfl, rfl, rfl⟩
theorem e109_0 : wp S d 109 0 [a0, some (.int x)] st h Q = wp S d 109 1 [a0, some (.int x)] (.int x :: st) h Q := wp_p hc109 dX5_left_0 rfl
theorem e109_1 : wp S d 109 1 [a0, a1] (.int x :: st) h Q = wp S d 109 2 [a0, a1] (.long x.toInt64 :: st) h Q := wp_p hc109 dX5_left_1 rfl
theorem e109_2 : wp S d 109 2 [a0, a1] st h Q = wp S d 109 3 [a0, a1] (.long (nI 1).toInt64 :: st) h Q := wp_p hc109 dX5_left_2 rfl
theorem e109_3 : wp S d 109 3 [a0, a1] st h Q = wp S d 109 6 [a0, a1] (.long ((nI 7 : Int32).toInt64) :: st) h Q := wp_l2 hc109 dX5_left_3 ho109 l25_220
theorem e109_6 : wp S (d + 1) 109 6 [a0, a1] (.long u3 :: .long u2 :: .long u1 :: st) h Q = (am_w8 st ∧ wp S d 61 0 [some (.long u1), none, some (.long u2), none, some (.long u3), none] [] h (am_kr S 0 (d + 1) 109 6 [a0, a1] st Q)) := wp_cS [.long u1, .long u2, .long u3] hc109 dX5_left_6 ho109 cl5_55 (by decide) ns5_55 hst61 hnp61 hml61 hlsl61 rfl rfl rfl
theorem e109_9 : wp S d 109 9 [a0, a1] (.int x :: st) h Q = if x = 0 then wp S d 109 27 [a0, a1] st h Q else wp S d 109 12 [a0, a1] st h Q := wp_eq hc109 dX5_left_9 rfl
theorem e109_12 : wp S d 109 12 [some (.ref r), a1] st h Q = wp S d 109 13 [some (.ref r), a1] (.ref r :: st) h Q := wp_p hc109 dX5_left_12 rfl
theorem e109_13 : wp S d 109 13 [a0, a1] (.ref r :: st) h Q = am_gfK h r 5 0 (fun w => wp S d 109 16 [a0, a1] (w :: st) h Q) := wp_gf hc109 dX5_left_13 ho109 fl5_7
theorem e109_16 : wp S d 109 16 [a0, a1] st h Q = wp S d 109 19 [a0, a1] (.int (nI 179) :: st) h Q := wp_p hc109 dX5_left_16 rfl
theorem e109_19 : wp S d 109 19 [a0, some (.int x)] st h Q = wp S d 109 20 [a0, some (.int x)] (.int x :: st) h Q := wp_p hc109 dX5_left_19 rfl
theorem e109_20 : wp S d 109 20 [a0, a1] (.int y :: .int x :: st) h Q = wp S d 109 21 [a0, a1] (.int (x + y) :: st) h Q := wp_p hc109 dX5_left_20 rfl
theorem e109_21 : wp S d 109 21 [a0, a1] st h Q = wp S d 109 22 [a0, a1] (.int (nI 1) :: st) h Q := wp_p hc109 dX5_left_21 rfl
theorem e109_22 : wp S d 109 22 [a0, a1] (.int y :: .int x :: st) h Q = wp S d 109 23 [a0, a1] (.int (x - y) :: st) h Q := wp_p hc109 dX5_left_22 rfl
theorem e109_23 : wp S d 109 23 [a0, a1] (.int x :: .ref r :: st) h Q = am_iaK h r x (fun z => wp S d 109 24 [a0, a1] (.int z :: st) h Q) := wp_ia hc109 dX5_left_23
theorem e109_24 : wp S d 109 24 [a0, a1] st h Q = wp S d 109 33 [a0, a1] st h Q := wp_p hc109 dX5_left_24 rfl
theorem e109_27 : wp S d 109 27 [some (.ref r), a1] st h Q = wp S d 109 28 [some (.ref r), a1] (.ref r :: st) h Q := wp_p hc109 dX5_left_27 rfl
theorem e109_28 : wp S d 109 28 [a0, a1] st h Q = wp S d 109 30 [a0, a1] (.int ((-2)) :: st) h Q := wp_p hc109 dX5_left_28 rfl
theorem e109_30 : wp S (d + 1) 109 30 [a0, a1] (.int x1 :: .ref r0 :: st) h Q = (am_w8 st ∧ am_rcv h 2 64 (.ref r0) = true ∧ wp S d 64 0 [some (.ref r0), some (.int x1)] [] h (am_kr S 2 (d + 1) 109 30 [a0, a1] st Q)) := wp_cV (.ref r0) [.int x1] hc109 dX5_left_30 ho109 cl5_72 (by decide) ns5_72 hst64 hnp64 hml64 hlsl64 rfl rfl rfl
theorem e109_33 : wp S d 109 33 ls [.int x] h Q = Q (.inl (some (.int x)), h) := wp_r hc109 dX5_left_33 rfl rfl ⟨x, _, rfl, rfl, rfl, rfl⟩
theorem e110_0 : wp S d 110 0 [some (.ref r)] st h Q = wp S d 110 1 [some (.ref r)] (.ref r :: st) h Q := wp_p hc110 dX5_sites_0 rfl
theorem e110_1 : wp S (d + 1) 110 1 [a0] (.ref r0 :: st) h Q = (am_w8 st ∧ am_rcv h 2 111 (.ref r0) = true ∧ wp S d 111 0 [some (.ref r0), none, none] [] h (am_kr S 2 (d + 1) 110 1 [a0] st Q)) := wp_cV (.ref r0) [] hc110 dX5_sites_1 ho110 cl5_222 (by decide) ns5_222 hst111 hnp111 hml111 hlsl111 rfl rfl rfl
theorem e110_4 : wp S d 110 4 ls [.int x] h Q = Q (.inl (some (.int x)), h) := wp_r hc110 dX5_sites_4 rfl rfl ⟨x, _, rfl, rfl, rfl, rfl⟩
theorem e111_0 : wp S d 111 0 [a0, a1, a2] st h Q = wp S d 111 1 [a0, a1, a2] (.int (nI 0) :: st) h Q := wp_p hc111 dX5_siteMany_0 rfl
theorem e111_1 : wp S d 111 1 [a0, a1, a2] (.int x :: st) h Q = wp S d 111 2 [a0, some (.int x), a2] st h Q := wp_p hc111 dX5_siteMany_1 rfl
theorem e111_2 : wp S d 111 2 [a0, a1, a2] st h Q = wp S d 111 3 [a0, a1, a2] (.int (nI 0) :: st) h Q := wp_p hc111 dX5_siteMany_2 rfl
theorem e111_3 : wp S d 111 3 [a0, a1, a2] (.int x :: st) h Q = wp S d 111 4 [a0, a1, some (.int x)] st h Q := wp_p hc111 dX5_siteMany_3 rfl
theorem e111_4 : wp S d 111 4 [a0, a1, some (.int x)] st h Q = wp S d 111 5 [a0, a1, some (.int x)] (.int x :: st) h Q := wp_p hc111 dX5_siteMany_4 rfl
theorem e111_5 : wp S d 111 5 [some (.ref r), a1, a2] st h Q = wp S d 111 6 [some (.ref r), a1, a2] (.ref r :: st) h Q := wp_p hc111 dX5_siteMany_5 rfl
theorem e111_6 : wp S d 111 6 [a0, a1, a2] (.ref r :: st) h Q = am_gfK h r 5 0 (fun w => wp S d 111 9 [a0, a1, a2] (w :: st) h Q) := wp_gf hc111 dX5_siteMany_6 ho111 fl5_7
theorem e111_9 : wp S d 111 9 [a0, a1, a2] st h Q = wp S d 111 12 [a0, a1, a2] (.int (nI 148) :: st) h Q := wp_p hc111 dX5_siteMany_9 rfl
theorem e111_12 : wp S d 111 12 [a0, a1, a2] (.int x :: .ref r :: st) h Q = am_iaK h r x (fun z => wp S d 111 13 [a0, a1, a2] (.int z :: st) h Q) := wp_ia hc111 dX5_siteMany_12
theorem e111_13 : wp S d 111 13 [a0, a1, a2] (.int y :: .int x :: st) h Q = if y ≤ x then wp S d 111 47 [a0, a1, a2] st h Q else wp S d 111 16 [a0, a1, a2] st h Q := wp_ge hc111 dX5_siteMany_13 rfl
theorem e111_16 : wp S d 111 16 [a0, some (.int x), a2] st h Q = wp S d 111 17 [a0, some (.int x), a2] (.int x :: st) h Q := wp_p hc111 dX5_siteMany_16 rfl
theorem e111_17 : wp S d 111 17 [some (.ref r), a1, a2] st h Q = wp S d 111 18 [some (.ref r), a1, a2] (.ref r :: st) h Q := wp_p hc111 dX5_siteMany_17 rfl
theorem e111_18 : wp S d 111 18 [a0, a1, a2] (.ref r :: st) h Q = am_gfK h r 5 0 (fun w => wp S d 111 21 [a0, a1, a2] (w :: st) h Q) := wp_gf hc111 dX5_siteMany_18 ho111 fl5_7
theorem e111_21 : wp S d 111 21 [a0, a1, a2] st h Q = wp S d 111 24 [a0, a1, a2] (.int (nI 149) :: st) h Q := wp_p hc111 dX5_siteMany_21 rfl
theorem e111_24 : wp S d 111 24 [a0, a1, some (.int x)] st h Q = wp S d 111 25 [a0, a1, some (.int x)] (.int x :: st) h Q := wp_p hc111 dX5_siteMany_24 rfl
theorem e111_25 : wp S d 111 25 [a0, a1, a2] (.int y :: .int x :: st) h Q = wp S d 111 26 [a0, a1, a2] (.int (x + y) :: st) h Q := wp_p hc111 dX5_siteMany_25 rfl
theorem e111_26 : wp S d 111 26 [a0, a1, a2] (.int x :: .ref r :: st) h Q = am_iaK h r x (fun z => wp S d 111 27 [a0, a1, a2] (.int z :: st) h Q) := wp_ia hc111 dX5_siteMany_26
theorem e111_27 : wp S (d + 1) 111 27 [a0, a1, a2] (.int x1 :: st) h Q = (am_w8 st ∧ wp S d 91 0 [some (.int x1)] [] h (am_kr S 0 (d + 1) 111 27 [a0, a1, a2] st Q)) := wp_cS [.int x1] hc111 dX5_siteMany_27 ho111 cl5_111 (by decide) ns5_111 hst91 hnp91 hml91 hlsl91 rfl rfl rfl
theorem e111_30 : wp S d 111 30 [a0, a1, a2] st h Q = wp S d 111 31 [a0, a1, a2] (.int (nI 3) :: st) h Q := wp_p hc111 dX5_siteMany_30 rfl
theorem e111_31 : wp S d 111 31 [a0, a1, a2] (.int y :: .int x :: st) h Q = if x = y then wp S d 111 34 [a0, a1, a2] st h Q else wp S d 111 38 [a0, a1, a2] st h Q := wp_ne hc111 dX5_siteMany_31 rfl
theorem e111_34 : wp S d 111 34 [a0, a1, a2] st h Q = wp S d 111 35 [a0, a1, a2] (.int (nI 1) :: st) h Q := wp_p hc111 dX5_siteMany_34 rfl
theorem e111_35 : wp S d 111 35 [a0, a1, a2] st h Q = wp S d 111 39 [a0, a1, a2] st h Q := wp_p hc111 dX5_siteMany_35 rfl
theorem e111_38 : wp S d 111 38 [a0, a1, a2] st h Q = wp S d 111 39 [a0, a1, a2] (.int (nI 0) :: st) h Q := wp_p hc111 dX5_siteMany_38 rfl
theorem e111_39 : wp S d 111 39 [a0, a1, a2] (.int y :: .int x :: st) h Q = wp S d 111 40 [a0, a1, a2] (.int (x + y) :: st) h Q := wp_p hc111 dX5_siteMany_39 rfl
theorem e111_40 : wp S d 111 40 [a0, a1, a2] (.int x :: st) h Q = wp S d 111 41 [a0, some (.int x), a2] st h Q := wp_p hc111 dX5_siteMany_40 rfl
theorem e111_41 : wp S d 111 41 [a0, a1, some (.int x)] st h Q = wp S d 111 44 [a0, a1, some (.int (x + nI 1))] st h Q := wp_p hc111 dX5_siteMany_41 rfl
theorem e111_44 : wp S d 111 44 [a0, a1, a2] st h Q = wp S d 111 4 [a0, a1, a2] st h Q := wp_p hc111 dX5_siteMany_44 rfl
theorem e111_47 : wp S d 111 47 [a0, some (.int x), a2] st h Q = wp S d 111 48 [a0, some (.int x), a2] (.int x :: st) h Q := wp_p hc111 dX5_siteMany_47 rfl
theorem e111_48 : wp S d 111 48 ls [.int x] h Q = Q (.inl (some (.int x)), h) := wp_r hc111 dX5_siteMany_48 rfl rfl ⟨x, _, rfl, rfl, rfl, rfl⟩
theorem e112_0 : wp S d 112 0 [some (.ref r)] st h Q = wp S d 112 1 [some (.ref r)] (.ref r :: st) h Q := wp_p hc112 dX5_nodes_0 rfl
theorem e112_1 : wp S d 112 1 [a0] (.ref r :: st) h Q = am_gfK h r 5 0 (fun w => wp S d 112 4 [a0] (w :: st) h Q) := wp_gf hc112 dX5_nodes_1 ho112 fl5_7
theorem e112_4 : wp S d 112 4 [a0] st h Q = wp S d 112 7 [a0] (.int (nI 148) :: st) h Q := wp_p hc112 dX5_nodes_4 rfl
theorem e112_7 : wp S d 112 7 [a0] (.int x :: .ref r :: st) h Q = am_iaK h r x (fun z => wp S d 112 8 [a0] (.int z :: st) h Q) := wp_ia hc112 dX5_nodes_7
theorem e112_8 : wp S d 112 8 ls [.int x] h Q = Q (.inl (some (.int x)), h) := wp_r hc112 dX5_nodes_8 rfl rfl ⟨x, _, rfl, rfl, rfl, rfl⟩
theorem e113_0 : wp S d 113 0 [a0, some (.int x), a2, a3, a4, a5, a6, a7, a8] st h Q = wp S d 113 1 [a0, some (.int x), a2, a3, a4, a5, a6, a7, a8] (.int x :: st) h Q := wp_p hc113 dX5_value_0 rfl
theorem e113_1 : wp S d 113 1 [a0, a1, a2, a3, a4, a5, a6, a7, a8] (.int x :: st) h Q = wp S d 113 2 [a0, a1, a2, a3, a4, a5, a6, a7, a8] (.long x.toInt64 :: st) h Q := wp_p hc113 dX5_value_1 rfl
theorem e113_2 : wp S d 113 2 [a0, a1, a2, a3, a4, a5, a6, a7, a8] st h Q = wp S d 113 3 [a0, a1, a2, a3, a4, a5, a6, a7, a8] (.long (nI 0).toInt64 :: st) h Q := wp_p hc113 dX5_value_2 rfl
theorem e113_3 : wp S d 113 3 [a0, a1, a2, a3, a4, a5, a6, a7, a8] st h Q = wp S d 113 6 [a0, a1, a2, a3, a4, a5, a6, a7, a8] (.long ((nI 999 : Int32).toInt64) :: st) h Q := wp_l2 hc113 dX5_value_3 ho113 l25_225
theorem e113_6 : wp S (d + 1) 113 6 [a0, a1, a2, a3, a4, a5, a6, a7, a8] (.long u3 :: .long u2 :: .long u1 :: st) h Q = (am_w8 st ∧ wp S d 61 0 [some (.long u1), none, some (.long u2), none, some (.long u3), none] [] h (am_kr S 0 (d + 1) 113 6 [a0, a1, a2, a3, a4, a5, a6, a7, a8] st Q)) := wp_cS [.long u1, .long u2, .long u3] hc113 dX5_value_6 ho113 cl5_55 (by decide) ns5_55 hst61 hnp61 hml61 hlsl61 rfl rfl rfl
theorem e113_9 : wp S d 113 9 [a0, a1, a2, a3, a4, a5, a6, a7, a8] (.int x :: st) h Q = if x = 0 then wp S d 113 24 [a0, a1, a2, a3, a4, a5, a6, a7, a8] st h Q else wp S d 113 12 [a0, a1, a2, a3, a4, a5, a6, a7, a8] st h Q := wp_eq hc113 dX5_value_9 rfl
theorem e113_12 : wp S d 113 12 [a0, a1, some (.int x), a3, a4, a5, a6, a7, a8] st h Q = wp S d 113 13 [a0, a1, some (.int x), a3, a4, a5, a6, a7, a8] (.int x :: st) h Q := wp_p hc113 dX5_value_12 rfl
theorem e113_13 : wp S d 113 13 [a0, a1, a2, a3, a4, a5, a6, a7, a8] (.int x :: st) h Q = wp S d 113 14 [a0, a1, a2, a3, a4, a5, a6, a7, a8] (.long x.toInt64 :: st) h Q := wp_p hc113 dX5_value_13 rfl
theorem e113_14 : wp S d 113 14 [a0, a1, a2, a3, a4, a5, a6, a7, a8] st h Q = wp S d 113 15 [a0, a1, a2, a3, a4, a5, a6, a7, a8] (.long (nI 0).toInt64 :: st) h Q := wp_p hc113 dX5_value_14 rfl
theorem e113_15 : wp S d 113 15 [a0, a1, a2, a3, a4, a5, a6, a7, a8] st h Q = wp S d 113 18 [a0, a1, a2, a3, a4, a5, a6, a7, a8] (.long ((nI 999 : Int32).toInt64) :: st) h Q := wp_l2 hc113 dX5_value_15 ho113 l25_225
theorem e113_18 : wp S (d + 1) 113 18 [a0, a1, a2, a3, a4, a5, a6, a7, a8] (.long u3 :: .long u2 :: .long u1 :: st) h Q = (am_w8 st ∧ wp S d 61 0 [some (.long u1), none, some (.long u2), none, some (.long u3), none] [] h (am_kr S 0 (d + 1) 113 18 [a0, a1, a2, a3, a4, a5, a6, a7, a8] st Q)) := wp_cS [.long u1, .long u2, .long u3] hc113 dX5_value_18 ho113 cl5_55 (by decide) ns5_55 hst61 hnp61 hml61 hlsl61 rfl rfl rfl
theorem e113_21 : wp S d 113 21 [a0, a1, a2, a3, a4, a5, a6, a7, a8] (.int x :: st) h Q = if x = 0 then wp S d 113 24 [a0, a1, a2, a3, a4, a5, a6, a7, a8] st h Q else wp S d 113 31 [a0, a1, a2, a3, a4, a5, a6, a7, a8] st h Q := wp_ne hc113 dX5_value_21 rfl
theorem e113_24 : wp S d 113 24 [some (.ref r), a1, a2, a3, a4, a5, a6, a7, a8] st h Q = wp S d 113 25 [some (.ref r), a1, a2, a3, a4, a5, a6, a7, a8] (.ref r :: st) h Q := wp_p hc113 dX5_value_24 rfl
theorem e113_25 : wp S d 113 25 [a0, a1, a2, a3, a4, a5, a6, a7, a8] st h Q = wp S d 113 27 [a0, a1, a2, a3, a4, a5, a6, a7, a8] (.int ((-2)) :: st) h Q := wp_p hc113 dX5_value_25 rfl
theorem e113_27 : wp S (d + 1) 113 27 [a0, a1, a2, a3, a4, a5, a6, a7, a8] (.int x1 :: .ref r0 :: st) h Q = (am_w8 st ∧ am_rcv h 2 64 (.ref r0) = true ∧ wp S d 64 0 [some (.ref r0), some (.int x1)] [] h (am_kr S 2 (d + 1) 113 27 [a0, a1, a2, a3, a4, a5, a6, a7, a8] st Q)) := wp_cV (.ref r0) [.int x1] hc113 dX5_value_27 ho113 cl5_72 (by decide) ns5_72 hst64 hnp64 hml64 hlsl64 rfl rfl rfl
theorem e113_30 : wp S d 113 30 ls [.int x] h Q = Q (.inl (some (.int x)), h) := wp_r hc113 dX5_value_30 rfl rfl ⟨x, _, rfl, rfl, rfl, rfl⟩
theorem e113_31 : wp S d 113 31 [a0, a1, a2, a3, a4, a5, a6, a7, a8] st h Q = wp S d 113 32 [a0, a1, a2, a3, a4, a5, a6, a7, a8] (.int (nI 0) :: st) h Q := wp_p hc113 dX5_value_31 rfl
theorem e113_32 : wp S d 113 32 [a0, a1, a2, a3, a4, a5, a6, a7, a8] (.int x :: st) h Q = wp S d 113 33 [a0, a1, a2, some (.int x), a4, a5, a6, a7, a8] st h Q := wp_p hc113 dX5_value_32 rfl
theorem e113_33 : wp S d 113 33 [some (.ref r), a1, a2, a3, a4, a5, a6, a7, a8] st h Q = wp S d 113 34 [some (.ref r), a1, a2, a3, a4, a5, a6, a7, a8] (.ref r :: st) h Q := wp_p hc113 dX5_value_33 rfl
theorem e113_34 : wp S d 113 34 [a0, a1, a2, a3, a4, a5, a6, a7, a8] (.ref r :: st) h Q = am_gfK h r 5 0 (fun w => wp S d 113 37 [a0, a1, a2, a3, a4, a5, a6, a7, a8] (w :: st) h Q) := wp_gf hc113 dX5_value_34 ho113 fl5_7
theorem e113_37 : wp S d 113 37 [a0, a1, a2, a3, a4, a5, a6, a7, a8] st h Q = wp S d 113 40 [a0, a1, a2, a3, a4, a5, a6, a7, a8] (.int (nI 148) :: st) h Q := wp_p hc113 dX5_value_37 rfl
theorem e113_40 : wp S d 113 40 [a0, a1, a2, a3, a4, a5, a6, a7, a8] (.int x :: .ref r :: st) h Q = am_iaK h r x (fun z => wp S d 113 41 [a0, a1, a2, a3, a4, a5, a6, a7, a8] (.int z :: st) h Q) := wp_ia hc113 dX5_value_40
theorem e113_41 : wp S d 113 41 [a0, a1, a2, a3, a4, a5, a6, a7, a8] st h Q = wp S d 113 42 [a0, a1, a2, a3, a4, a5, a6, a7, a8] (.int (nI 1) :: st) h Q := wp_p hc113 dX5_value_41 rfl
theorem e113_42 : wp S d 113 42 [a0, a1, a2, a3, a4, a5, a6, a7, a8] (.int y :: .int x :: st) h Q = wp S d 113 43 [a0, a1, a2, a3, a4, a5, a6, a7, a8] (.int (x - y) :: st) h Q := wp_p hc113 dX5_value_42 rfl
theorem e113_43 : wp S d 113 43 [a0, a1, a2, a3, a4, a5, a6, a7, a8] (.int x :: st) h Q = wp S d 113 45 [a0, a1, a2, a3, some (.int x), a5, a6, a7, a8] st h Q := wp_p hc113 dX5_value_43 rfl
theorem e113_45 : wp S d 113 45 [a0, a1, a2, a3, some (.int x), a5, a6, a7, a8] st h Q = wp S d 113 47 [a0, a1, a2, a3, some (.int x), a5, a6, a7, a8] (.int x :: st) h Q := wp_p hc113 dX5_value_45 rfl
theorem e113_47 : wp S d 113 47 [a0, a1, a2, a3, a4, a5, a6, a7, a8] (.int x :: st) h Q = if x < 0 then wp S d 113 190 [a0, a1, a2, a3, a4, a5, a6, a7, a8] st h Q else wp S d 113 50 [a0, a1, a2, a3, a4, a5, a6, a7, a8] st h Q := wp_lt hc113 dX5_value_47 rfl
theorem e113_50 : wp S d 113 50 [some (.ref r), a1, a2, a3, a4, a5, a6, a7, a8] st h Q = wp S d 113 51 [some (.ref r), a1, a2, a3, a4, a5, a6, a7, a8] (.ref r :: st) h Q := wp_p hc113 dX5_value_50 rfl
theorem e113_51 : wp S d 113 51 [a0, a1, a2, a3, a4, a5, a6, a7, a8] (.ref r :: st) h Q = am_gfK h r 5 0 (fun w => wp S d 113 54 [a0, a1, a2, a3, a4, a5, a6, a7, a8] (w :: st) h Q) := wp_gf hc113 dX5_value_51 ho113 fl5_7
theorem e113_54 : wp S d 113 54 [a0, a1, a2, a3, a4, a5, a6, a7, a8] st h Q = wp S d 113 57 [a0, a1, a2, a3, a4, a5, a6, a7, a8] (.int (nI 149) :: st) h Q := wp_p hc113 dX5_value_54 rfl
theorem e113_57 : wp S d 113 57 [a0, a1, a2, a3, some (.int x), a5, a6, a7, a8] st h Q = wp S d 113 59 [a0, a1, a2, a3, some (.int x), a5, a6, a7, a8] (.int x :: st) h Q := wp_p hc113 dX5_value_57 rfl
theorem e113_59 : wp S d 113 59 [a0, a1, a2, a3, a4, a5, a6, a7, a8] (.int y :: .int x :: st) h Q = wp S d 113 60 [a0, a1, a2, a3, a4, a5, a6, a7, a8] (.int (x + y) :: st) h Q := wp_p hc113 dX5_value_59 rfl
theorem e113_60 : wp S d 113 60 [a0, a1, a2, a3, a4, a5, a6, a7, a8] (.int x :: .ref r :: st) h Q = am_iaK h r x (fun z => wp S d 113 61 [a0, a1, a2, a3, a4, a5, a6, a7, a8] (.int z :: st) h Q) := wp_ia hc113 dX5_value_60
theorem e113_61 : wp S d 113 61 [a0, a1, a2, a3, a4, a5, a6, a7, a8] (.int x :: st) h Q = wp S d 113 63 [a0, a1, a2, a3, a4, some (.int x), a6, a7, a8] st h Q := wp_p hc113 dX5_value_61 rfl
theorem e113_63 : wp S d 113 63 [a0, a1, a2, a3, a4, some (.int x), a6, a7, a8] st h Q = wp S d 113 65 [a0, a1, a2, a3, a4, some (.int x), a6, a7, a8] (.int x :: st) h Q := wp_p hc113 dX5_value_63 rfl
theorem e113_65 : wp S (d + 1) 113 65 [a0, a1, a2, a3, a4, a5, a6, a7, a8] (.int x1 :: st) h Q = (am_w8 st ∧ wp S d 91 0 [some (.int x1)] [] h (am_kr S 0 (d + 1) 113 65 [a0, a1, a2, a3, a4, a5, a6, a7, a8] st Q)) := wp_cS [.int x1] hc113 dX5_value_65 ho113 cl5_111 (by decide) ns5_111 hst91 hnp91 hml91 hlsl91 rfl rfl rfl
theorem e113_68 : wp S d 113 68 [a0, a1, a2, a3, a4, a5, a6, a7, a8] (.int x :: st) h Q = if x = 0 then wp S d 113 71 [a0, a1, a2, a3, a4, a5, a6, a7, a8] st h Q else wp S d 113 79 [a0, a1, a2, a3, a4, a5, a6, a7, a8] st h Q := wp_ne hc113 dX5_value_68 rfl
theorem e113_71 : wp S d 113 71 [a0, a1, a2, a3, a4, some (.int x), a6, a7, a8] st h Q = wp S d 113 73 [a0, a1, a2, a3, a4, some (.int x), a6, a7, a8] (.int x :: st) h Q := wp_p hc113 dX5_value_71 rfl
theorem e113_73 : wp S (d + 1) 113 73 [a0, a1, a2, a3, a4, a5, a6, a7, a8] (.int x1 :: st) h Q = (am_w8 st ∧ wp S d 93 0 [some (.int x1)] [] h (am_kr S 0 (d + 1) 113 73 [a0, a1, a2, a3, a4, a5, a6, a7, a8] st Q)) := wp_cS [.int x1] hc113 dX5_value_73 ho113 cl5_114 (by decide) ns5_114 hst93 hnp93 hml93 hlsl93 rfl rfl rfl
theorem e113_76 : wp S d 113 76 [a0, a1, a2, a3, a4, a5, a6, a7, a8] st h Q = wp S d 113 93 [a0, a1, a2, a3, a4, a5, a6, a7, a8] st h Q := wp_p hc113 dX5_value_76 rfl
theorem e113_79 : wp S d 113 79 [a0, a1, a2, a3, a4, some (.int x), a6, a7, a8] st h Q = wp S d 113 81 [a0, a1, a2, a3, a4, some (.int x), a6, a7, a8] (.int x :: st) h Q := wp_p hc113 dX5_value_79 rfl
theorem e113_81 : wp S (d + 1) 113 81 [a0, a1, a2, a3, a4, a5, a6, a7, a8] (.int x1 :: st) h Q = (am_w8 st ∧ wp S d 91 0 [some (.int x1)] [] h (am_kr S 0 (d + 1) 113 81 [a0, a1, a2, a3, a4, a5, a6, a7, a8] st Q)) := wp_cS [.int x1] hc113 dX5_value_81 ho113 cl5_111 (by decide) ns5_111 hst91 hnp91 hml91 hlsl91 rfl rfl rfl
theorem e113_84 : wp S d 113 84 [a0, a1, a2, a3, a4, a5, a6, a7, a8] st h Q = wp S d 113 85 [a0, a1, a2, a3, a4, a5, a6, a7, a8] (.int (nI 1) :: st) h Q := wp_p hc113 dX5_value_84 rfl
theorem e113_85 : wp S d 113 85 [a0, a1, a2, a3, a4, a5, a6, a7, a8] (.int y :: .int x :: st) h Q = if x = y then wp S d 113 88 [a0, a1, a2, a3, a4, a5, a6, a7, a8] st h Q else wp S d 113 92 [a0, a1, a2, a3, a4, a5, a6, a7, a8] st h Q := wp_ne hc113 dX5_value_85 rfl
theorem e113_88 : wp S d 113 88 [a0, some (.int x), a2, a3, a4, a5, a6, a7, a8] st h Q = wp S d 113 89 [a0, some (.int x), a2, a3, a4, a5, a6, a7, a8] (.int x :: st) h Q := wp_p hc113 dX5_value_88 rfl
theorem e113_89 : wp S d 113 89 [a0, a1, a2, a3, a4, a5, a6, a7, a8] st h Q = wp S d 113 93 [a0, a1, a2, a3, a4, a5, a6, a7, a8] st h Q := wp_p hc113 dX5_value_89 rfl
theorem e113_92 : wp S d 113 92 [a0, a1, some (.int x), a3, a4, a5, a6, a7, a8] st h Q = wp S d 113 93 [a0, a1, some (.int x), a3, a4, a5, a6, a7, a8] (.int x :: st) h Q := wp_p hc113 dX5_value_92 rfl
theorem e113_93 : wp S d 113 93 [a0, a1, a2, a3, a4, a5, a6, a7, a8] (.int x :: st) h Q = wp S d 113 95 [a0, a1, a2, a3, a4, a5, some (.int x), a7, a8] st h Q := wp_p hc113 dX5_value_93 rfl
theorem e113_95 : wp S d 113 95 [a0, a1, a2, a3, a4, some (.int x), a6, a7, a8] st h Q = wp S d 113 97 [a0, a1, a2, a3, a4, some (.int x), a6, a7, a8] (.int x :: st) h Q := wp_p hc113 dX5_value_95 rfl
theorem e113_97 : wp S (d + 1) 113 97 [a0, a1, a2, a3, a4, a5, a6, a7, a8] (.int x1 :: st) h Q = (am_w8 st ∧ wp S d 91 0 [some (.int x1)] [] h (am_kr S 0 (d + 1) 113 97 [a0, a1, a2, a3, a4, a5, a6, a7, a8] st Q)) := wp_cS [.int x1] hc113 dX5_value_97 ho113 cl5_111 (by decide) ns5_111 hst91 hnp91 hml91 hlsl91 rfl rfl rfl
theorem e113_100 : wp S d 113 100 [a0, a1, a2, a3, a4, a5, a6, a7, a8] st h Q = wp S d 113 101 [a0, a1, a2, a3, a4, a5, a6, a7, a8] (.int (nI 2) :: st) h Q := wp_p hc113 dX5_value_100 rfl
theorem e113_101 : wp S d 113 101 [a0, a1, a2, a3, a4, a5, a6, a7, a8] (.int y :: .int x :: st) h Q = if x ≤ y then wp S d 113 169 [a0, a1, a2, a3, a4, a5, a6, a7, a8] st h Q else wp S d 113 104 [a0, a1, a2, a3, a4, a5, a6, a7, a8] st h Q := wp_le hc113 dX5_value_101 rfl
theorem e113_104 : wp S d 113 104 [some (.ref r), a1, a2, a3, a4, a5, a6, a7, a8] st h Q = wp S d 113 105 [some (.ref r), a1, a2, a3, a4, a5, a6, a7, a8] (.ref r :: st) h Q := wp_p hc113 dX5_value_104 rfl
theorem e113_105 : wp S d 113 105 [a0, a1, a2, a3, a4, some (.int x), a6, a7, a8] st h Q = wp S d 113 107 [a0, a1, a2, a3, a4, some (.int x), a6, a7, a8] (.int x :: st) h Q := wp_p hc113 dX5_value_105 rfl
theorem e113_107 : wp S (d + 1) 113 107 [a0, a1, a2, a3, a4, a5, a6, a7, a8] (.int x1 :: .ref r0 :: st) h Q = (am_w8 st ∧ am_rcv h 2 92 (.ref r0) = true ∧ wp S d 92 0 [some (.ref r0), some (.int x1)] [] h (am_kr S 2 (d + 1) 113 107 [a0, a1, a2, a3, a4, a5, a6, a7, a8] st Q)) := wp_cV (.ref r0) [.int x1] hc113 dX5_value_107 ho113 cl5_154 (by decide) ns5_154 hst92 hnp92 hml92 hlsl92 rfl rfl rfl
theorem e113_110 : wp S d 113 110 [a0, a1, a2, a3, a4, a5, a6, a7, a8] st h Q = wp S d 113 111 [a0, a1, a2, a3, a4, a5, a6, a7, a8] (.int (nI 2) :: st) h Q := wp_p hc113 dX5_value_110 rfl
theorem e113_111 : wp S d 113 111 [a0, a1, a2, a3, a4, a5, a6, a7, a8] (.int y :: .int x :: st) h Q = wp S d 113 112 [a0, a1, a2, a3, a4, a5, a6, a7, a8] (.int (x + y) :: st) h Q := wp_p hc113 dX5_value_111 rfl
theorem e113_112 : wp S d 113 112 [a0, a1, a2, a3, a4, a5, a6, a7, a8] (.int x :: st) h Q = wp S d 113 114 [a0, a1, a2, a3, a4, a5, a6, some (.int x), a8] st h Q := wp_p hc113 dX5_value_112 rfl
theorem e113_114 : wp S d 113 114 [some (.ref r), a1, a2, a3, a4, a5, a6, a7, a8] st h Q = wp S d 113 115 [some (.ref r), a1, a2, a3, a4, a5, a6, a7, a8] (.ref r :: st) h Q := wp_p hc113 dX5_value_114 rfl
theorem e113_115 : wp S d 113 115 [a0, a1, a2, a3, a4, a5, a6, a7, a8] (.ref r :: st) h Q = am_gfK h r 5 0 (fun w => wp S d 113 118 [a0, a1, a2, a3, a4, a5, a6, a7, a8] (w :: st) h Q) := wp_gf hc113 dX5_value_115 ho113 fl5_7
theorem e113_118 : wp S d 113 118 [a0, a1, a2, a3, a4, a5, a6, some (.int x), a8] st h Q = wp S d 113 120 [a0, a1, a2, a3, a4, a5, a6, some (.int x), a8] (.int x :: st) h Q := wp_p hc113 dX5_value_118 rfl
theorem e113_120 : wp S d 113 120 [a0, a1, a2, a3, a4, a5, a6, a7, a8] (.int x :: .ref r :: st) h Q = am_iaK h r x (fun z => wp S d 113 121 [a0, a1, a2, a3, a4, a5, a6, a7, a8] (.int z :: st) h Q) := wp_ia hc113 dX5_value_120
theorem e113_121 : wp S d 113 121 [a0, a1, a2, a3, a4, a5, a6, a7, a8] (.int x :: st) h Q = wp S d 113 123 [a0, a1, a2, a3, a4, a5, some (.int x), a7, a8] st h Q := wp_p hc113 dX5_value_121 rfl
theorem e113_123 : wp S d 113 123 [a0, a1, a2, a3, a4, a5, a6, a7, a8] st h Q = wp S d 113 124 [a0, a1, a2, a3, a4, a5, a6, a7, a8] (.int (nI 0) :: st) h Q := wp_p hc113 dX5_value_123 rfl
theorem e113_124 : wp S d 113 124 [a0, a1, a2, a3, a4, a5, a6, a7, a8] (.int x :: st) h Q = wp S d 113 126 [a0, a1, a2, a3, a4, a5, a6, a7, some (.int x)] st h Q := wp_p hc113 dX5_value_124 rfl
theorem e113_126 : wp S d 113 126 [a0, a1, a2, a3, a4, a5, a6, a7, some (.int x)] st h Q = wp S d 113 128 [a0, a1, a2, a3, a4, a5, a6, a7, some (.int x)] (.int x :: st) h Q := wp_p hc113 dX5_value_126 rfl
theorem e113_128 : wp S d 113 128 [a0, a1, a2, a3, a4, some (.int x), a6, a7, a8] st h Q = wp S d 113 130 [a0, a1, a2, a3, a4, some (.int x), a6, a7, a8] (.int x :: st) h Q := wp_p hc113 dX5_value_128 rfl
theorem e113_130 : wp S (d + 1) 113 130 [a0, a1, a2, a3, a4, a5, a6, a7, a8] (.int x1 :: st) h Q = (am_w8 st ∧ wp S d 96 0 [some (.int x1)] [] h (am_kr S 0 (d + 1) 113 130 [a0, a1, a2, a3, a4, a5, a6, a7, a8] st Q)) := wp_cS [.int x1] hc113 dX5_value_130 ho113 cl5_167 (by decide) ns5_167 hst96 hnp96 hml96 hlsl96 rfl rfl rfl
theorem e113_133 : wp S d 113 133 [a0, a1, a2, a3, a4, a5, a6, a7, a8] (.int y :: .int x :: st) h Q = if y ≤ x then wp S d 113 169 [a0, a1, a2, a3, a4, a5, a6, a7, a8] st h Q else wp S d 113 136 [a0, a1, a2, a3, a4, a5, a6, a7, a8] st h Q := wp_ge hc113 dX5_value_133 rfl
theorem e113_136 : wp S d 113 136 [a0, a1, a2, some (.int x), a4, a5, a6, a7, a8] st h Q = wp S d 113 139 [a0, a1, a2, some (.int (x + (-1))), a4, a5, a6, a7, a8] st h Q := wp_p hc113 dX5_value_136 rfl
theorem e113_139 : wp S d 113 139 [a0, a1, a2, a3, a4, a5, some (.int x), a7, a8] st h Q = wp S d 113 141 [a0, a1, a2, a3, a4, a5, some (.int x), a7, a8] (.int x :: st) h Q := wp_p hc113 dX5_value_139 rfl
theorem e113_141 : wp S d 113 141 [some (.ref r), a1, a2, a3, a4, a5, a6, a7, a8] st h Q = wp S d 113 142 [some (.ref r), a1, a2, a3, a4, a5, a6, a7, a8] (.ref r :: st) h Q := wp_p hc113 dX5_value_141 rfl
theorem e113_142 : wp S d 113 142 [a0, a1, a2, a3, a4, a5, a6, a7, a8] (.ref r :: st) h Q = am_gfK h r 5 0 (fun w => wp S d 113 145 [a0, a1, a2, a3, a4, a5, a6, a7, a8] (w :: st) h Q) := wp_gf hc113 dX5_value_142 ho113 fl5_7
theorem e113_145 : wp S d 113 145 [a0, a1, a2, a3, a4, a5, a6, some (.int x), a8] st h Q = wp S d 113 147 [a0, a1, a2, a3, a4, a5, a6, some (.int x), a8] (.int x :: st) h Q := wp_p hc113 dX5_value_145 rfl
theorem e113_147 : wp S d 113 147 [a0, a1, a2, a3, a4, a5, a6, a7, a8] st h Q = wp S d 113 148 [a0, a1, a2, a3, a4, a5, a6, a7, a8] (.int (nI 1) :: st) h Q := wp_p hc113 dX5_value_147 rfl
theorem e113_148 : wp S d 113 148 [a0, a1, a2, a3, a4, a5, a6, a7, a8] (.int y :: .int x :: st) h Q = wp S d 113 149 [a0, a1, a2, a3, a4, a5, a6, a7, a8] (.int (x + y) :: st) h Q := wp_p hc113 dX5_value_148 rfl
theorem e113_149 : wp S d 113 149 [a0, a1, a2, a3, a4, a5, a6, a7, some (.int x)] st h Q = wp S d 113 151 [a0, a1, a2, a3, a4, a5, a6, a7, some (.int x)] (.int x :: st) h Q := wp_p hc113 dX5_value_149 rfl
theorem e113_151 : wp S d 113 151 [a0, a1, a2, a3, a4, a5, a6, a7, a8] (.int y :: .int x :: st) h Q = wp S d 113 152 [a0, a1, a2, a3, a4, a5, a6, a7, a8] (.int (x + y) :: st) h Q := wp_p hc113 dX5_value_151 rfl
theorem e113_152 : wp S d 113 152 [a0, a1, a2, a3, a4, a5, a6, a7, a8] (.int x :: .ref r :: st) h Q = am_iaK h r x (fun z => wp S d 113 153 [a0, a1, a2, a3, a4, a5, a6, a7, a8] (.int z :: st) h Q) := wp_ia hc113 dX5_value_152
theorem e113_153 : wp S d 113 153 [some (.ref r), a1, a2, a3, a4, a5, a6, a7, a8] st h Q = wp S d 113 154 [some (.ref r), a1, a2, a3, a4, a5, a6, a7, a8] (.ref r :: st) h Q := wp_p hc113 dX5_value_153 rfl
theorem e113_154 : wp S d 113 154 [a0, a1, a2, a3, a4, a5, a6, a7, a8] (.ref r :: st) h Q = am_gfK h r 5 20 (fun w => wp S d 113 157 [a0, a1, a2, a3, a4, a5, a6, a7, a8] (w :: st) h Q) := wp_gf hc113 dX5_value_154 ho113 fl5_43
theorem e113_157 : wp S d 113 157 [a0, a1, a2, some (.int x), a4, a5, a6, a7, a8] st h Q = wp S d 113 158 [a0, a1, a2, some (.int x), a4, a5, a6, a7, a8] (.int x :: st) h Q := wp_p hc113 dX5_value_157 rfl
theorem e113_158 : wp S d 113 158 [a0, a1, a2, a3, a4, a5, a6, a7, a8] (.int x :: .ref r :: st) h Q = am_iaK h r x (fun z => wp S d 113 159 [a0, a1, a2, a3, a4, a5, a6, a7, a8] (.int z :: st) h Q) := wp_ia hc113 dX5_value_158
theorem e113_159 : wp S d 113 159 [a0, a1, a2, a3, a4, a5, a6, a7, a8] (.int y :: .int x :: st) h Q = wp S d 113 160 [a0, a1, a2, a3, a4, a5, a6, a7, a8] (.int (x * y) :: st) h Q := wp_p hc113 dX5_value_159 rfl
theorem e113_160 : wp S d 113 160 [a0, a1, a2, a3, a4, a5, a6, a7, a8] (.int y :: .int x :: st) h Q = wp S d 113 161 [a0, a1, a2, a3, a4, a5, a6, a7, a8] (.int (x + y) :: st) h Q := wp_p hc113 dX5_value_160 rfl
theorem e113_161 : wp S d 113 161 [a0, a1, a2, a3, a4, a5, a6, a7, a8] (.int x :: st) h Q = wp S d 113 163 [a0, a1, a2, a3, a4, a5, some (.int x), a7, a8] st h Q := wp_p hc113 dX5_value_161 rfl
theorem e113_163 : wp S d 113 163 [a0, a1, a2, a3, a4, a5, a6, a7, some (.int x)] st h Q = wp S d 113 166 [a0, a1, a2, a3, a4, a5, a6, a7, some (.int (x + nI 1))] st h Q := wp_p hc113 dX5_value_163 rfl
theorem e113_166 : wp S d 113 166 [a0, a1, a2, a3, a4, a5, a6, a7, a8] st h Q = wp S d 113 126 [a0, a1, a2, a3, a4, a5, a6, a7, a8] st h Q := wp_p hc113 dX5_value_166 rfl
theorem e113_169 : wp S d 113 169 [some (.ref r), a1, a2, a3, a4, a5, a6, a7, a8] st h Q = wp S d 113 170 [some (.ref r), a1, a2, a3, a4, a5, a6, a7, a8] (.ref r :: st) h Q := wp_p hc113 dX5_value_169 rfl
theorem e113_170 : wp S d 113 170 [a0, a1, a2, a3, a4, a5, a6, a7, a8] (.ref r :: st) h Q = am_gfK h r 5 20 (fun w => wp S d 113 173 [a0, a1, a2, a3, a4, a5, a6, a7, a8] (w :: st) h Q) := wp_gf hc113 dX5_value_170 ho113 fl5_43
theorem e113_173 : wp S d 113 173 [a0, a1, a2, some (.int x), a4, a5, a6, a7, a8] st h Q = wp S d 113 174 [a0, a1, a2, some (.int x), a4, a5, a6, a7, a8] (.int x :: st) h Q := wp_p hc113 dX5_value_173 rfl
theorem e113_174 : wp S d 113 174 [a0, a1, a2, a3, a4, a5, some (.int x), a7, a8] st h Q = wp S d 113 176 [a0, a1, a2, a3, a4, a5, some (.int x), a7, a8] (.int x :: st) h Q := wp_p hc113 dX5_value_174 rfl
theorem e113_176 : wp S d 113 176 [a0, a1, a2, a3, a4, a5, a6, a7, a8] st h Q = wp S d 113 179 [a0, a1, a2, a3, a4, a5, a6, a7, a8] (.int (nI 1000) :: st) h Q := wp_p hc113 dX5_value_176 rfl
theorem e113_179 : wp S d 113 179 [a0, a1, a2, a3, a4, a5, a6, a7, a8] (.int y :: .int x :: st) h Q = (¬ y = 0 ∧ wp S d 113 180 [a0, a1, a2, a3, a4, a5, a6, a7, a8] (.int (x - x / y * y) :: st) h Q) := wp_ir hc113 dX5_value_179
theorem e113_180 : wp S d 113 180 [a0, a1, a2, a3, a4, a5, a6, a7, a8] (.int y :: .int x :: .ref r :: st) h Q = am_isK h r x y (fun h => wp S d 113 181 [a0, a1, a2, a3, a4, a5, a6, a7, a8] st h Q) := wp_is hc113 dX5_value_180
theorem e113_181 : wp S d 113 181 [a0, a1, a2, some (.int x), a4, a5, a6, a7, a8] st h Q = wp S d 113 184 [a0, a1, a2, some (.int (x + nI 1)), a4, a5, a6, a7, a8] st h Q := wp_p hc113 dX5_value_181 rfl
theorem e113_184 : wp S d 113 184 [a0, a1, a2, a3, some (.int x), a5, a6, a7, a8] st h Q = wp S d 113 187 [a0, a1, a2, a3, some (.int (x + (-1))), a5, a6, a7, a8] st h Q := wp_p hc113 dX5_value_184 rfl
theorem e113_187 : wp S d 113 187 [a0, a1, a2, a3, a4, a5, a6, a7, a8] st h Q = wp S d 113 45 [a0, a1, a2, a3, a4, a5, a6, a7, a8] st h Q := wp_p hc113 dX5_value_187 rfl
theorem e113_190 : wp S d 113 190 [some (.ref r), a1, a2, a3, a4, a5, a6, a7, a8] st h Q = wp S d 113 191 [some (.ref r), a1, a2, a3, a4, a5, a6, a7, a8] (.ref r :: st) h Q := wp_p hc113 dX5_value_190 rfl
theorem e113_191 : wp S d 113 191 [a0, a1, a2, a3, a4, a5, a6, a7, a8] (.ref r :: st) h Q = am_gfK h r 5 20 (fun w => wp S d 113 194 [a0, a1, a2, a3, a4, a5, a6, a7, a8] (w :: st) h Q) := wp_gf hc113 dX5_value_191 ho113 fl5_43
theorem e113_194 : wp S d 113 194 [a0, a1, a2, a3, a4, a5, a6, a7, a8] st h Q = wp S d 113 195 [a0, a1, a2, a3, a4, a5, a6, a7, a8] (.int (nI 0) :: st) h Q := wp_p hc113 dX5_value_194 rfl
theorem e113_195 : wp S d 113 195 [a0, a1, a2, a3, a4, a5, a6, a7, a8] (.int x :: .ref r :: st) h Q = am_iaK h r x (fun z => wp S d 113 196 [a0, a1, a2, a3, a4, a5, a6, a7, a8] (.int z :: st) h Q) := wp_ia hc113 dX5_value_195
theorem e113_196 : wp S d 113 196 ls [.int x] h Q = Q (.inl (some (.int x)), h) := wp_r hc113 dX5_value_196 rfl rfl ⟨x, _, rfl, rfl, rfl, rfl⟩
theorem e114_0 : wp S d 114 0 [a0, some (.int x)] st h Q = wp S d 114 1 [a0, some (.int x)] (.int x :: st) h Q := wp_p hc114 dX5_textByte_0 rfl
theorem e114_1 : wp S d 114 1 [a0, a1] st h Q = wp S d 114 2 [a0, a1] (.int ((-1)) :: st) h Q := wp_p hc114 dX5_textByte_1 rfl
theorem e114_2 : wp S d 114 2 [a0, a1] (.int y :: .int x :: st) h Q = if y ≤ x then wp S d 114 12 [a0, a1] st h Q else wp S d 114 5 [a0, a1] st h Q := wp_ge hc114 dX5_textByte_2 rfl
theorem e114_5 : wp S d 114 5 [some (.ref r), a1] st h Q = wp S d 114 6 [some (.ref r), a1] (.ref r :: st) h Q := wp_p hc114 dX5_textByte_5 rfl
theorem e114_6 : wp S d 114 6 [a0, a1] st h Q = wp S d 114 8 [a0, a1] (.int ((-2)) :: st) h Q := wp_p hc114 dX5_textByte_6 rfl
theorem e114_8 : wp S (d + 1) 114 8 [a0, a1] (.int x1 :: .ref r0 :: st) h Q = (am_w8 st ∧ am_rcv h 2 64 (.ref r0) = true ∧ wp S d 64 0 [some (.ref r0), some (.int x1)] [] h (am_kr S 2 (d + 1) 114 8 [a0, a1] st Q)) := wp_cV (.ref r0) [.int x1] hc114 dX5_textByte_8 ho114 cl5_72 (by decide) ns5_72 hst64 hnp64 hml64 hlsl64 rfl rfl rfl
theorem e114_11 : wp S d 114 11 ls [.int x] h Q = Q (.inl (some (.int x)), h) := wp_r hc114 dX5_textByte_11 rfl rfl ⟨x, _, rfl, rfl, rfl, rfl⟩
theorem e114_12 : wp S d 114 12 [some (.ref r), a1] st h Q = wp S d 114 13 [some (.ref r), a1] (.ref r :: st) h Q := wp_p hc114 dX5_textByte_12 rfl
theorem e114_13 : wp S (d + 1) 114 13 [a0, a1] (.ref r0 :: st) h Q = (am_w8 st ∧ am_rcv h 2 115 (.ref r0) = true ∧ wp S d 115 0 [some (.ref r0), none, none] [] h (am_kr S 2 (d + 1) 114 13 [a0, a1] st Q)) := wp_cV (.ref r0) [] hc114 dX5_textByte_13 ho114 cl5_239 (by decide) ns5_239 hst115 hnp115 hml115 hlsl115 rfl rfl rfl
theorem e114_16 : wp S d 114 16 [a0, some (.int x)] st h Q = wp S d 114 17 [a0, some (.int x)] (.int x :: st) h Q := wp_p hc114 dX5_textByte_16 rfl
theorem e114_17 : wp S d 114 17 [a0, a1] st h Q = wp S d 114 18 [a0, a1] (.int ((-1)) :: st) h Q := wp_p hc114 dX5_textByte_17 rfl
theorem e114_18 : wp S d 114 18 [a0, a1] (.int y :: .int x :: st) h Q = if x = y then wp S d 114 21 [a0, a1] st h Q else wp S d 114 28 [a0, a1] st h Q := wp_ne hc114 dX5_textByte_18 rfl
theorem e114_21 : wp S d 114 21 [some (.ref r), a1] st h Q = wp S d 114 22 [some (.ref r), a1] (.ref r :: st) h Q := wp_p hc114 dX5_textByte_21 rfl
theorem e114_22 : wp S d 114 22 [a0, a1] (.ref r :: st) h Q = am_gfK h r 5 22 (fun w => wp S d 114 25 [a0, a1] (w :: st) h Q) := wp_gf hc114 dX5_textByte_22 ho114 fl5_227
theorem e114_25 : wp S d 114 25 [a0, a1] st h Q = wp S d 114 46 [a0, a1] st h Q := wp_p hc114 dX5_textByte_25 rfl
theorem e114_28 : wp S d 114 28 [a0, some (.int x)] st h Q = wp S d 114 29 [a0, some (.int x)] (.int x :: st) h Q := wp_p hc114 dX5_textByte_28 rfl
theorem e114_29 : wp S d 114 29 [some (.ref r), a1] st h Q = wp S d 114 30 [some (.ref r), a1] (.ref r :: st) h Q := wp_p hc114 dX5_textByte_29 rfl
theorem e114_30 : wp S d 114 30 [a0, a1] (.ref r :: st) h Q = am_gfK h r 5 22 (fun w => wp S d 114 33 [a0, a1] (w :: st) h Q) := wp_gf hc114 dX5_textByte_30 ho114 fl5_227
theorem e114_33 : wp S d 114 33 [a0, a1] (.int y :: .int x :: st) h Q = if y ≤ x then wp S d 114 45 [a0, a1] st h Q else wp S d 114 36 [a0, a1] st h Q := wp_ge hc114 dX5_textByte_33 rfl
theorem e114_36 : wp S d 114 36 [some (.ref r), a1] st h Q = wp S d 114 37 [some (.ref r), a1] (.ref r :: st) h Q := wp_p hc114 dX5_textByte_36 rfl
theorem e114_37 : wp S d 114 37 [a0, a1] (.ref r :: st) h Q = am_gfK h r 5 21 (fun w => wp S d 114 40 [a0, a1] (w :: st) h Q) := wp_gf hc114 dX5_textByte_37 ho114 fl5_46
theorem e114_40 : wp S d 114 40 [a0, some (.int x)] st h Q = wp S d 114 41 [a0, some (.int x)] (.int x :: st) h Q := wp_p hc114 dX5_textByte_40 rfl
theorem e114_41 : wp S d 114 41 [a0, a1] (.int x :: .ref r :: st) h Q = am_iaK h r x (fun z => wp S d 114 42 [a0, a1] (.int z :: st) h Q) := wp_ia hc114 dX5_textByte_41
theorem e114_42 : wp S d 114 42 [a0, a1] st h Q = wp S d 114 46 [a0, a1] st h Q := wp_p hc114 dX5_textByte_42 rfl
theorem e114_45 : wp S d 114 45 [a0, a1] st h Q = wp S d 114 46 [a0, a1] (.int ((-1)) :: st) h Q := wp_p hc114 dX5_textByte_45 rfl
theorem e114_46 : wp S d 114 46 ls [.int x] h Q = Q (.inl (some (.int x)), h) := wp_r hc114 dX5_textByte_46 rfl rfl ⟨x, _, rfl, rfl, rfl, rfl⟩
theorem e115_0 : wp S d 115 0 [some (.ref r), a1, a2] st h Q = wp S d 115 1 [some (.ref r), a1, a2] (.ref r :: st) h Q := wp_p hc115 dX5_tellsAll_0 rfl
theorem e115_1 : wp S d 115 1 [a0, a1, a2] st h Q = wp S d 115 2 [a0, a1, a2] (.int (nI 0) :: st) h Q := wp_p hc115 dX5_tellsAll_1 rfl
theorem e115_2 : wp S d 115 2 [a0, a1, a2] (w :: .ref r :: st) h Q = am_pfK 115 h r 5 22 false w (fun h => wp S d 115 5 [a0, a1, a2] st h Q) := wp_pf hc115 dX5_tellsAll_2 ho115 fl5_227
theorem e115_5 : wp S d 115 5 [some (.ref r), a1, a2] st h Q = wp S d 115 6 [some (.ref r), a1, a2] (.ref r :: st) h Q := wp_p hc115 dX5_tellsAll_5 rfl
theorem e115_6 : wp S d 115 6 [a0, a1, a2] st h Q = wp S d 115 7 [a0, a1, a2] (.int (nI 0) :: st) h Q := wp_p hc115 dX5_tellsAll_6 rfl
theorem e115_7 : wp S d 115 7 [a0, a1, a2] (w :: .ref r :: st) h Q = am_pfK 115 h r 5 9 false w (fun h => wp S d 115 10 [a0, a1, a2] st h Q) := wp_pf hc115 dX5_tellsAll_7 ho115 fl5_157
theorem e115_10 : wp S d 115 10 [a0, a1, a2] st h Q = wp S d 115 11 [a0, a1, a2] (.int (nI 0) :: st) h Q := wp_p hc115 dX5_tellsAll_10 rfl
theorem e115_11 : wp S d 115 11 [a0, a1, a2] (.int x :: st) h Q = wp S d 115 12 [a0, some (.int x), a2] st h Q := wp_p hc115 dX5_tellsAll_11 rfl
theorem e115_12 : wp S d 115 12 [a0, some (.int x), a2] st h Q = wp S d 115 13 [a0, some (.int x), a2] (.int x :: st) h Q := wp_p hc115 dX5_tellsAll_12 rfl
theorem e115_13 : wp S d 115 13 [some (.ref r), a1, a2] st h Q = wp S d 115 14 [some (.ref r), a1, a2] (.ref r :: st) h Q := wp_p hc115 dX5_tellsAll_13 rfl
theorem e115_14 : wp S d 115 14 [a0, a1, a2] (.ref r :: st) h Q = am_gfK h r 5 0 (fun w => wp S d 115 17 [a0, a1, a2] (w :: st) h Q) := wp_gf hc115 dX5_tellsAll_14 ho115 fl5_7
theorem e115_17 : wp S d 115 17 [a0, a1, a2] st h Q = wp S d 115 20 [a0, a1, a2] (.int (nI 148) :: st) h Q := wp_p hc115 dX5_tellsAll_17 rfl
theorem e115_20 : wp S d 115 20 [a0, a1, a2] (.int x :: .ref r :: st) h Q = am_iaK h r x (fun z => wp S d 115 21 [a0, a1, a2] (.int z :: st) h Q) := wp_ia hc115 dX5_tellsAll_20
theorem e115_21 : wp S d 115 21 [a0, a1, a2] (.int y :: .int x :: st) h Q = if y ≤ x then wp S d 115 97 [a0, a1, a2] st h Q else wp S d 115 24 [a0, a1, a2] st h Q := wp_ge hc115 dX5_tellsAll_21 rfl
theorem e115_24 : wp S d 115 24 [some (.ref r), a1, a2] st h Q = wp S d 115 25 [some (.ref r), a1, a2] (.ref r :: st) h Q := wp_p hc115 dX5_tellsAll_24 rfl
theorem e115_25 : wp S d 115 25 [a0, a1, a2] (.ref r :: st) h Q = am_gfK h r 5 0 (fun w => wp S d 115 28 [a0, a1, a2] (w :: st) h Q) := wp_gf hc115 dX5_tellsAll_25 ho115 fl5_7
theorem e115_28 : wp S d 115 28 [a0, a1, a2] st h Q = wp S d 115 31 [a0, a1, a2] (.int (nI 149) :: st) h Q := wp_p hc115 dX5_tellsAll_28 rfl
theorem e115_31 : wp S d 115 31 [a0, some (.int x), a2] st h Q = wp S d 115 32 [a0, some (.int x), a2] (.int x :: st) h Q := wp_p hc115 dX5_tellsAll_31 rfl
theorem e115_32 : wp S d 115 32 [a0, a1, a2] (.int y :: .int x :: st) h Q = wp S d 115 33 [a0, a1, a2] (.int (x + y) :: st) h Q := wp_p hc115 dX5_tellsAll_32 rfl
theorem e115_33 : wp S d 115 33 [a0, a1, a2] (.int x :: .ref r :: st) h Q = am_iaK h r x (fun z => wp S d 115 34 [a0, a1, a2] (.int z :: st) h Q) := wp_ia hc115 dX5_tellsAll_33
theorem e115_34 : wp S d 115 34 [a0, a1, a2] (.int x :: st) h Q = wp S d 115 35 [a0, a1, some (.int x)] st h Q := wp_p hc115 dX5_tellsAll_34 rfl
theorem e115_35 : wp S d 115 35 [some (.ref r), a1, a2] st h Q = wp S d 115 36 [some (.ref r), a1, a2] (.ref r :: st) h Q := wp_p hc115 dX5_tellsAll_35 rfl
theorem e115_36 : wp S d 115 36 [a0, a1, some (.int x)] st h Q = wp S d 115 37 [a0, a1, some (.int x)] (.int x :: st) h Q := wp_p hc115 dX5_tellsAll_36 rfl
theorem e115_37 : wp S (d + 1) 115 37 [a0, a1, a2] (.int x1 :: .ref r0 :: st) h Q = (am_w8 st ∧ am_rcv h 2 116 (.ref r0) = true ∧ wp S d 116 0 [some (.ref r0), some (.int x1), none] [] h (am_kr S 2 (d + 1) 115 37 [a0, a1, a2] st Q)) := wp_cV (.ref r0) [.int x1] hc115 dX5_tellsAll_37 ho115 cl5_233 (by decide) ns5_233 hst116 hnp116 hml116 hlsl116 rfl rfl rfl
theorem e115_40 : wp S d 115 40 [a0, a1, some (.int x)] st h Q = wp S d 115 41 [a0, a1, some (.int x)] (.int x :: st) h Q := wp_p hc115 dX5_tellsAll_40 rfl
theorem e115_41 : wp S (d + 1) 115 41 [a0, a1, a2] (.int x1 :: st) h Q = (am_w8 st ∧ wp S d 96 0 [some (.int x1)] [] h (am_kr S 0 (d + 1) 115 41 [a0, a1, a2] st Q)) := wp_cS [.int x1] hc115 dX5_tellsAll_41 ho115 cl5_167 (by decide) ns5_167 hst96 hnp96 hml96 hlsl96 rfl rfl rfl
theorem e115_44 : wp S d 115 44 [a0, a1, a2] (.int x :: st) h Q = if x ≤ 0 then wp S d 115 73 [a0, a1, a2] st h Q else wp S d 115 47 [a0, a1, a2] st h Q := wp_le hc115 dX5_tellsAll_44 rfl
theorem e115_47 : wp S d 115 47 [some (.ref r), a1, a2] st h Q = wp S d 115 48 [some (.ref r), a1, a2] (.ref r :: st) h Q := wp_p hc115 dX5_tellsAll_47 rfl
theorem e115_48 : wp S d 115 48 [a0, a1, a2] (.ref r :: st) h Q = am_gfK h r 5 8 (fun w => wp S d 115 51 [a0, a1, a2] (w :: st) h Q) := wp_gf hc115 dX5_tellsAll_48 ho115 fl5_25
theorem e115_51 : wp S d 115 51 [some (.ref r), a1, a2] st h Q = wp S d 115 52 [some (.ref r), a1, a2] (.ref r :: st) h Q := wp_p hc115 dX5_tellsAll_51 rfl
theorem e115_52 : wp S d 115 52 [a0, a1, a2] (.ref r :: st) h Q = am_gfK h r 5 9 (fun w => wp S d 115 55 [a0, a1, a2] (w :: st) h Q) := wp_gf hc115 dX5_tellsAll_52 ho115 fl5_157
theorem e115_55 : wp S d 115 55 [a0, a1, some (.int x)] st h Q = wp S d 115 56 [a0, a1, some (.int x)] (.int x :: st) h Q := wp_p hc115 dX5_tellsAll_55 rfl
theorem e115_56 : wp S (d + 1) 115 56 [a0, a1, a2] (.int x1 :: st) h Q = (am_w8 st ∧ wp S d 96 0 [some (.int x1)] [] h (am_kr S 0 (d + 1) 115 56 [a0, a1, a2] st Q)) := wp_cS [.int x1] hc115 dX5_tellsAll_56 ho115 cl5_167 (by decide) ns5_167 hst96 hnp96 hml96 hlsl96 rfl rfl rfl
theorem e115_59 : wp S d 115 59 [a0, a1, a2] (.int y :: .int x :: .ref r :: st) h Q = am_isK h r x y (fun h => wp S d 115 60 [a0, a1, a2] st h Q) := wp_is hc115 dX5_tellsAll_59
theorem e115_60 : wp S d 115 60 [some (.ref r), a1, a2] st h Q = wp S d 115 61 [some (.ref r), a1, a2] (.ref r :: st) h Q := wp_p hc115 dX5_tellsAll_60 rfl
theorem e115_61 : wp S d 115 61 [a0, a1, a2] (.ref r :: st) h Q = wp S d 115 62 [a0, a1, a2] (.ref r :: .ref r :: st) h Q := wp_p hc115 dX5_tellsAll_61 rfl
theorem e115_61i : wp S d 115 61 [a0, a1, a2] (.int x :: st) h Q = wp S d 115 62 [a0, a1, a2] (.int x :: .int x :: st) h Q := wp_p hc115 dX5_tellsAll_61 rfl
theorem e115_62 : wp S d 115 62 [a0, a1, a2] (.ref r :: st) h Q = am_gfK h r 5 9 (fun w => wp S d 115 65 [a0, a1, a2] (w :: st) h Q) := wp_gf hc115 dX5_tellsAll_62 ho115 fl5_157
theorem e115_65 : wp S d 115 65 [a0, a1, a2] st h Q = wp S d 115 66 [a0, a1, a2] (.int (nI 1) :: st) h Q := wp_p hc115 dX5_tellsAll_65 rfl
theorem e115_66 : wp S d 115 66 [a0, a1, a2] (.int y :: .int x :: st) h Q = wp S d 115 67 [a0, a1, a2] (.int (x + y) :: st) h Q := wp_p hc115 dX5_tellsAll_66 rfl
theorem e115_67 : wp S d 115 67 [a0, a1, a2] (w :: .ref r :: st) h Q = am_pfK 115 h r 5 9 false w (fun h => wp S d 115 70 [a0, a1, a2] st h Q) := wp_pf hc115 dX5_tellsAll_67 ho115 fl5_157
theorem e115_70 : wp S d 115 70 [a0, a1, a2] st h Q = wp S d 115 91 [a0, a1, a2] st h Q := wp_p hc115 dX5_tellsAll_70 rfl
theorem e115_73 : wp S d 115 73 [a0, a1, some (.int x)] st h Q = wp S d 115 74 [a0, a1, some (.int x)] (.int x :: st) h Q := wp_p hc115 dX5_tellsAll_73 rfl
theorem e115_74 : wp S (d + 1) 115 74 [a0, a1, a2] (.int x1 :: st) h Q = (am_w8 st ∧ wp S d 91 0 [some (.int x1)] [] h (am_kr S 0 (d + 1) 115 74 [a0, a1, a2] st Q)) := wp_cS [.int x1] hc115 dX5_tellsAll_74 ho115 cl5_111 (by decide) ns5_111 hst91 hnp91 hml91 hlsl91 rfl rfl rfl
theorem e115_77 : wp S d 115 77 [a0, a1, a2] st h Q = wp S d 115 78 [a0, a1, a2] (.int (nI 2) :: st) h Q := wp_p hc115 dX5_tellsAll_77 rfl
theorem e115_78 : wp S d 115 78 [a0, a1, a2] (.int y :: .int x :: st) h Q = if x ≤ y then wp S d 115 87 [a0, a1, a2] st h Q else wp S d 115 81 [a0, a1, a2] st h Q := wp_le hc115 dX5_tellsAll_78 rfl
theorem e115_81 : wp S d 115 81 [some (.ref r), a1, a2] st h Q = wp S d 115 82 [some (.ref r), a1, a2] (.ref r :: st) h Q := wp_p hc115 dX5_tellsAll_81 rfl
theorem e115_82 : wp S d 115 82 [a0, a1, a2] st h Q = wp S d 115 84 [a0, a1, a2] (.int (nI 41) :: st) h Q := wp_p hc115 dX5_tellsAll_82 rfl
theorem e115_84 : wp S (d + 1) 115 84 [a0, a1, a2] (.int x1 :: .ref r0 :: st) h Q = (am_w8 st ∧ am_rcv h 2 117 (.ref r0) = true ∧ wp S d 117 0 [some (.ref r0), some (.int x1)] [] h (am_kr S 2 (d + 1) 115 84 [a0, a1, a2] st Q)) := wp_cV (.ref r0) [.int x1] hc115 dX5_tellsAll_84 ho115 cl5_230 (by decide) ns5_230 hst117 hnp117 hml117 hlsl117 rfl rfl rfl
theorem e115_87 : wp S d 115 87 [some (.ref r), a1, a2] st h Q = wp S d 115 88 [some (.ref r), a1, a2] (.ref r :: st) h Q := wp_p hc115 dX5_tellsAll_87 rfl
theorem e115_88 : wp S (d + 1) 115 88 [a0, a1, a2] (.ref r0 :: st) h Q = (am_w8 st ∧ am_rcv h 2 118 (.ref r0) = true ∧ wp S d 118 0 [some (.ref r0), none] [] h (am_kr S 2 (d + 1) 115 88 [a0, a1, a2] st Q)) := wp_cV (.ref r0) [] hc115 dX5_tellsAll_88 ho115 cl5_236 (by decide) ns5_236 hst118 hnp118 hml118 hlsl118 rfl rfl rfl
theorem e115_91 : wp S d 115 91 [a0, some (.int x), a2] st h Q = wp S d 115 94 [a0, some (.int (x + nI 1)), a2] st h Q := wp_p hc115 dX5_tellsAll_91 rfl
theorem e115_94 : wp S d 115 94 [a0, a1, a2] st h Q = wp S d 115 12 [a0, a1, a2] st h Q := wp_p hc115 dX5_tellsAll_94 rfl
theorem e115_97 : wp S d 115 97 ls [] h Q = Q (.inl none, h) := wp_r hc115 dX5_tellsAll_97 rfl rfl ⟨rfl, rfl, rfl⟩
theorem e116_0 : wp S d 116 0 [a0, some (.int x), a2] st h Q = wp S d 116 1 [a0, some (.int x), a2] (.int x :: st) h Q := wp_p hc116 dX5_tellsNode_0 rfl
theorem e116_1 : wp S (d + 1) 116 1 [a0, a1, a2] (.int x1 :: st) h Q = (am_w8 st ∧ wp S d 93 0 [some (.int x1)] [] h (am_kr S 0 (d + 1) 116 1 [a0, a1, a2] st Q)) := wp_cS [.int x1] hc116 dX5_tellsNode_1 ho116 cl5_114 (by decide) ns5_114 hst93 hnp93 hml93 hlsl93 rfl rfl rfl
theorem e116_4 : wp S d 116 4 [a0, a1, a2] (.int x :: st) h Q = wp S d 116 5 [a0, a1, some (.int x)] st h Q := wp_p hc116 dX5_tellsNode_4 rfl
theorem e116_5 : wp S d 116 5 [a0, some (.int x), a2] st h Q = wp S d 116 6 [a0, some (.int x), a2] (.int x :: st) h Q := wp_p hc116 dX5_tellsNode_5 rfl
theorem e116_6 : wp S (d + 1) 116 6 [a0, a1, a2] (.int x1 :: st) h Q = (am_w8 st ∧ wp S d 91 0 [some (.int x1)] [] h (am_kr S 0 (d + 1) 116 6 [a0, a1, a2] st Q)) := wp_cS [.int x1] hc116 dX5_tellsNode_6 ho116 cl5_111 (by decide) ns5_111 hst91 hnp91 hml91 hlsl91 rfl rfl rfl
theorem e116_9_0 : wp S d 116 9 [a0, a1, a2] (.int (nI 0) :: st) h Q = wp S d 116 36 [a0, a1, a2] st h Q := wp_p hc116 dX5_tellsNode_9 rfl
theorem e116_9_1 : wp S d 116 9 [a0, a1, a2] (.int (nI 1) :: st) h Q = wp S d 116 67 [a0, a1, a2] st h Q := wp_p hc116 dX5_tellsNode_9 rfl
theorem e116_9_2 : wp S d 116 9 [a0, a1, a2] (.int (nI 2) :: st) h Q = wp S d 116 76 [a0, a1, a2] st h Q := wp_p hc116 dX5_tellsNode_9 rfl
theorem e116_9_3 : wp S d 116 9 [a0, a1, a2] (.int (nI 3) :: st) h Q = wp S d 116 85 [a0, a1, a2] st h Q := wp_p hc116 dX5_tellsNode_9 rfl
theorem e116_9_4 : wp S d 116 9 [a0, a1, a2] (.int (nI 4) :: st) h Q = wp S d 116 85 [a0, a1, a2] st h Q := wp_p hc116 dX5_tellsNode_9 rfl
theorem e116_9_5 : wp S d 116 9 [a0, a1, a2] (.int (nI 5) :: st) h Q = wp S d 116 85 [a0, a1, a2] st h Q := wp_p hc116 dX5_tellsNode_9 rfl
theorem e116_9_6 : wp S d 116 9 [a0, a1, a2] (.int (nI 6) :: st) h Q = wp S d 116 85 [a0, a1, a2] st h Q := wp_p hc116 dX5_tellsNode_9 rfl
theorem e116_9_7 : wp S d 116 9 [a0, a1, a2] (.int (nI 7) :: st) h Q = wp S d 116 85 [a0, a1, a2] st h Q := wp_p hc116 dX5_tellsNode_9 rfl
theorem e116_9_8 : wp S d 116 9 [a0, a1, a2] (.int (nI 8) :: st) h Q = wp S d 116 85 [a0, a1, a2] st h Q := wp_p hc116 dX5_tellsNode_9 rfl
theorem e116_9_9 : wp S d 116 9 [a0, a1, a2] (.int (nI 9) :: st) h Q = wp S d 116 85 [a0, a1, a2] st h Q := wp_p hc116 dX5_tellsNode_9 rfl
theorem e116_36 : wp S d 116 36 [a0, a1, some (.int x)] st h Q = wp S d 116 37 [a0, a1, some (.int x)] (.int x :: st) h Q := wp_p hc116 dX5_tellsNode_36 rfl
theorem e116_37 : wp S d 116 37 [a0, a1, a2] st h Q = wp S d 116 39 [a0, a1, a2] (.int (nI 9) :: st) h Q := wp_p hc116 dX5_tellsNode_37 rfl
theorem e116_39 : wp S d 116 39 [a0, a1, a2] (.int y :: .int x :: st) h Q = if x ≤ y then wp S d 116 53 [a0, a1, a2] st h Q else wp S d 116 42 [a0, a1, a2] st h Q := wp_le hc116 dX5_tellsNode_39 rfl
theorem e116_42 : wp S d 116 42 [some (.ref r), a1, a2] st h Q = wp S d 116 43 [some (.ref r), a1, a2] (.ref r :: st) h Q := wp_p hc116 dX5_tellsNode_42 rfl
theorem e116_43 : wp S d 116 43 [a0, a1, a2] st h Q = wp S d 116 45 [a0, a1, a2] (.int (nI 48) :: st) h Q := wp_p hc116 dX5_tellsNode_43 rfl
theorem e116_45 : wp S d 116 45 [a0, a1, some (.int x)] st h Q = wp S d 116 46 [a0, a1, some (.int x)] (.int x :: st) h Q := wp_p hc116 dX5_tellsNode_45 rfl
theorem e116_46 : wp S d 116 46 [a0, a1, a2] st h Q = wp S d 116 48 [a0, a1, a2] (.int (nI 10) :: st) h Q := wp_p hc116 dX5_tellsNode_46 rfl
theorem e116_48 : wp S d 116 48 [a0, a1, a2] (.int y :: .int x :: st) h Q = (¬ y = 0 ∧ wp S d 116 49 [a0, a1, a2] (.int (x / y) :: st) h Q) := wp_id hc116 dX5_tellsNode_48
theorem e116_49 : wp S d 116 49 [a0, a1, a2] (.int y :: .int x :: st) h Q = wp S d 116 50 [a0, a1, a2] (.int (x + y) :: st) h Q := wp_p hc116 dX5_tellsNode_49 rfl
theorem e116_50 : wp S (d + 1) 116 50 [a0, a1, a2] (.int x1 :: .ref r0 :: st) h Q = (am_w8 st ∧ am_rcv h 2 117 (.ref r0) = true ∧ wp S d 117 0 [some (.ref r0), some (.int x1)] [] h (am_kr S 2 (d + 1) 116 50 [a0, a1, a2] st Q)) := wp_cV (.ref r0) [.int x1] hc116 dX5_tellsNode_50 ho116 cl5_230 (by decide) ns5_230 hst117 hnp117 hml117 hlsl117 rfl rfl rfl
theorem e116_53 : wp S d 116 53 [some (.ref r), a1, a2] st h Q = wp S d 116 54 [some (.ref r), a1, a2] (.ref r :: st) h Q := wp_p hc116 dX5_tellsNode_53 rfl
theorem e116_54 : wp S d 116 54 [a0, a1, a2] st h Q = wp S d 116 56 [a0, a1, a2] (.int (nI 48) :: st) h Q := wp_p hc116 dX5_tellsNode_54 rfl
theorem e116_56 : wp S d 116 56 [a0, a1, some (.int x)] st h Q = wp S d 116 57 [a0, a1, some (.int x)] (.int x :: st) h Q := wp_p hc116 dX5_tellsNode_56 rfl
theorem e116_57 : wp S d 116 57 [a0, a1, a2] st h Q = wp S d 116 59 [a0, a1, a2] (.int (nI 10) :: st) h Q := wp_p hc116 dX5_tellsNode_57 rfl
theorem e116_59 : wp S d 116 59 [a0, a1, a2] (.int y :: .int x :: st) h Q = (¬ y = 0 ∧ wp S d 116 60 [a0, a1, a2] (.int (x - x / y * y) :: st) h Q) := wp_ir hc116 dX5_tellsNode_59
theorem e116_60 : wp S d 116 60 [a0, a1, a2] (.int y :: .int x :: st) h Q = wp S d 116 61 [a0, a1, a2] (.int (x + y) :: st) h Q := wp_p hc116 dX5_tellsNode_60 rfl
theorem e116_61 : wp S (d + 1) 116 61 [a0, a1, a2] (.int x1 :: .ref r0 :: st) h Q = (am_w8 st ∧ am_rcv h 2 117 (.ref r0) = true ∧ wp S d 117 0 [some (.ref r0), some (.int x1)] [] h (am_kr S 2 (d + 1) 116 61 [a0, a1, a2] st Q)) := wp_cV (.ref r0) [.int x1] hc116 dX5_tellsNode_61 ho116 cl5_230 (by decide) ns5_230 hst117 hnp117 hml117 hlsl117 rfl rfl rfl
theorem e116_64 : wp S d 116 64 [a0, a1, a2] st h Q = wp S d 116 125 [a0, a1, a2] st h Q := wp_p hc116 dX5_tellsNode_64 rfl
theorem e116_67 : wp S d 116 67 [some (.ref r), a1, a2] st h Q = wp S d 116 68 [some (.ref r), a1, a2] (.ref r :: st) h Q := wp_p hc116 dX5_tellsNode_67 rfl
theorem e116_68 : wp S d 116 68 [a0, a1, a2] st h Q = wp S d 116 70 [a0, a1, a2] (.int (nI 120) :: st) h Q := wp_p hc116 dX5_tellsNode_68 rfl
theorem e116_70 : wp S (d + 1) 116 70 [a0, a1, a2] (.int x1 :: .ref r0 :: st) h Q = (am_w8 st ∧ am_rcv h 2 117 (.ref r0) = true ∧ wp S d 117 0 [some (.ref r0), some (.int x1)] [] h (am_kr S 2 (d + 1) 116 70 [a0, a1, a2] st Q)) := wp_cV (.ref r0) [.int x1] hc116 dX5_tellsNode_70 ho116 cl5_230 (by decide) ns5_230 hst117 hnp117 hml117 hlsl117 rfl rfl rfl
theorem e116_73 : wp S d 116 73 [a0, a1, a2] st h Q = wp S d 116 125 [a0, a1, a2] st h Q := wp_p hc116 dX5_tellsNode_73 rfl
theorem e116_76 : wp S d 116 76 [some (.ref r), a1, a2] st h Q = wp S d 116 77 [some (.ref r), a1, a2] (.ref r :: st) h Q := wp_p hc116 dX5_tellsNode_76 rfl
theorem e116_77 : wp S d 116 77 [a0, a1, a2] st h Q = wp S d 116 79 [a0, a1, a2] (.int (nI 121) :: st) h Q := wp_p hc116 dX5_tellsNode_77 rfl
theorem e116_79 : wp S (d + 1) 116 79 [a0, a1, a2] (.int x1 :: .ref r0 :: st) h Q = (am_w8 st ∧ am_rcv h 2 117 (.ref r0) = true ∧ wp S d 117 0 [some (.ref r0), some (.int x1)] [] h (am_kr S 2 (d + 1) 116 79 [a0, a1, a2] st Q)) := wp_cV (.ref r0) [.int x1] hc116 dX5_tellsNode_79 ho116 cl5_230 (by decide) ns5_230 hst117 hnp117 hml117 hlsl117 rfl rfl rfl
theorem e116_82 : wp S d 116 82 [a0, a1, a2] st h Q = wp S d 116 125 [a0, a1, a2] st h Q := wp_p hc116 dX5_tellsNode_82 rfl
theorem e116_85 : wp S d 116 85 [some (.ref r), a1, a2] st h Q = wp S d 116 86 [some (.ref r), a1, a2] (.ref r :: st) h Q := wp_p hc116 dX5_tellsNode_85 rfl
theorem e116_86 : wp S d 116 86 [a0, some (.int x), a2] st h Q = wp S d 116 87 [a0, some (.int x), a2] (.int x :: st) h Q := wp_p hc116 dX5_tellsNode_86 rfl
theorem e116_87 : wp S (d + 1) 116 87 [a0, a1, a2] (.int x1 :: st) h Q = (am_w8 st ∧ wp S d 91 0 [some (.int x1)] [] h (am_kr S 0 (d + 1) 116 87 [a0, a1, a2] st Q)) := wp_cS [.int x1] hc116 dX5_tellsNode_87 ho116 cl5_111 (by decide) ns5_111 hst91 hnp91 hml91 hlsl91 rfl rfl rfl
theorem e116_90 : wp S d 116 90 [a0, a1, a2] st h Q = wp S d 116 91 [a0, a1, a2] (.int (nI 3) :: st) h Q := wp_p hc116 dX5_tellsNode_90 rfl
theorem e116_91 : wp S d 116 91 [a0, a1, a2] (.int y :: .int x :: st) h Q = if x = y then wp S d 116 94 [a0, a1, a2] st h Q else wp S d 116 99 [a0, a1, a2] st h Q := wp_ne hc116 dX5_tellsNode_91 rfl
theorem e116_94 : wp S d 116 94 [a0, a1, a2] st h Q = wp S d 116 96 [a0, a1, a2] (.int (nI 97) :: st) h Q := wp_p hc116 dX5_tellsNode_94 rfl
theorem e116_96 : wp S d 116 96 [a0, a1, a2] st h Q = wp S d 116 114 [a0, a1, a2] st h Q := wp_p hc116 dX5_tellsNode_96 rfl
theorem e116_99 : wp S d 116 99 [a0, some (.int x), a2] st h Q = wp S d 116 100 [a0, some (.int x), a2] (.int x :: st) h Q := wp_p hc116 dX5_tellsNode_99 rfl
theorem e116_100 : wp S (d + 1) 116 100 [a0, a1, a2] (.int x1 :: st) h Q = (am_w8 st ∧ wp S d 91 0 [some (.int x1)] [] h (am_kr S 0 (d + 1) 116 100 [a0, a1, a2] st Q)) := wp_cS [.int x1] hc116 dX5_tellsNode_100 ho116 cl5_111 (by decide) ns5_111 hst91 hnp91 hml91 hlsl91 rfl rfl rfl
theorem e116_103 : wp S d 116 103 [a0, a1, a2] st h Q = wp S d 116 104 [a0, a1, a2] (.int (nI 4) :: st) h Q := wp_p hc116 dX5_tellsNode_103 rfl
theorem e116_104 : wp S d 116 104 [a0, a1, a2] (.int y :: .int x :: st) h Q = if x = y then wp S d 116 107 [a0, a1, a2] st h Q else wp S d 116 112 [a0, a1, a2] st h Q := wp_ne hc116 dX5_tellsNode_104 rfl
theorem e116_107 : wp S d 116 107 [a0, a1, a2] st h Q = wp S d 116 109 [a0, a1, a2] (.int (nI 65) :: st) h Q := wp_p hc116 dX5_tellsNode_107 rfl
theorem e116_109 : wp S d 116 109 [a0, a1, a2] st h Q = wp S d 116 114 [a0, a1, a2] st h Q := wp_p hc116 dX5_tellsNode_109 rfl
theorem e116_112 : wp S d 116 112 [a0, a1, a2] st h Q = wp S d 116 114 [a0, a1, a2] (.int (nI 112) :: st) h Q := wp_p hc116 dX5_tellsNode_112 rfl
theorem e116_114 : wp S d 116 114 [a0, a1, some (.int x)] st h Q = wp S d 116 115 [a0, a1, some (.int x)] (.int x :: st) h Q := wp_p hc116 dX5_tellsNode_114 rfl
theorem e116_115 : wp S d 116 115 [a0, a1, a2] (.int y :: .int x :: st) h Q = wp S d 116 116 [a0, a1, a2] (.int (x + y) :: st) h Q := wp_p hc116 dX5_tellsNode_115 rfl
theorem e116_116 : wp S (d + 1) 116 116 [a0, a1, a2] (.int x1 :: .ref r0 :: st) h Q = (am_w8 st ∧ am_rcv h 2 117 (.ref r0) = true ∧ wp S d 117 0 [some (.ref r0), some (.int x1)] [] h (am_kr S 2 (d + 1) 116 116 [a0, a1, a2] st Q)) := wp_cV (.ref r0) [.int x1] hc116 dX5_tellsNode_116 ho116 cl5_230 (by decide) ns5_230 hst117 hnp117 hml117 hlsl117 rfl rfl rfl
theorem e116_119 : wp S d 116 119 [some (.ref r), a1, a2] st h Q = wp S d 116 120 [some (.ref r), a1, a2] (.ref r :: st) h Q := wp_p hc116 dX5_tellsNode_119 rfl
theorem e116_120 : wp S d 116 120 [a0, a1, a2] st h Q = wp S d 116 122 [a0, a1, a2] (.int (nI 40) :: st) h Q := wp_p hc116 dX5_tellsNode_120 rfl
theorem e116_122 : wp S (d + 1) 116 122 [a0, a1, a2] (.int x1 :: .ref r0 :: st) h Q = (am_w8 st ∧ am_rcv h 2 117 (.ref r0) = true ∧ wp S d 117 0 [some (.ref r0), some (.int x1)] [] h (am_kr S 2 (d + 1) 116 122 [a0, a1, a2] st Q)) := wp_cV (.ref r0) [.int x1] hc116 dX5_tellsNode_122 ho116 cl5_230 (by decide) ns5_230 hst117 hnp117 hml117 hlsl117 rfl rfl rfl
theorem e116_125 : wp S d 116 125 ls [] h Q = Q (.inl none, h) := wp_r hc116 dX5_tellsNode_125 rfl rfl ⟨rfl, rfl, rfl⟩
theorem e117_0 : wp S d 117 0 [some (.ref r), a1] st h Q = wp S d 117 1 [some (.ref r), a1] (.ref r :: st) h Q := wp_p hc117 dX5_tells_0 rfl
theorem e117_1 : wp S d 117 1 [a0, a1] (.ref r :: st) h Q = am_gfK h r 5 21 (fun w => wp S d 117 4 [a0, a1] (w :: st) h Q) := wp_gf hc117 dX5_tells_1 ho117 fl5_46
theorem e117_4 : wp S d 117 4 [some (.ref r), a1] st h Q = wp S d 117 5 [some (.ref r), a1] (.ref r :: st) h Q := wp_p hc117 dX5_tells_4 rfl
theorem e117_5 : wp S d 117 5 [a0, a1] (.ref r :: st) h Q = am_gfK h r 5 22 (fun w => wp S d 117 8 [a0, a1] (w :: st) h Q) := wp_gf hc117 dX5_tells_5 ho117 fl5_227
theorem e117_8 : wp S d 117 8 [a0, some (.int x)] st h Q = wp S d 117 9 [a0, some (.int x)] (.int x :: st) h Q := wp_p hc117 dX5_tells_8 rfl
theorem e117_9 : wp S d 117 9 [a0, a1] (.int y :: .int x :: .ref r :: st) h Q = am_isK h r x y (fun h => wp S d 117 10 [a0, a1] st h Q) := wp_is hc117 dX5_tells_9
theorem e117_10 : wp S d 117 10 [some (.ref r), a1] st h Q = wp S d 117 11 [some (.ref r), a1] (.ref r :: st) h Q := wp_p hc117 dX5_tells_10 rfl
theorem e117_11 : wp S d 117 11 [a0, a1] (.ref r :: st) h Q = wp S d 117 12 [a0, a1] (.ref r :: .ref r :: st) h Q := wp_p hc117 dX5_tells_11 rfl
theorem e117_11i : wp S d 117 11 [a0, a1] (.int x :: st) h Q = wp S d 117 12 [a0, a1] (.int x :: .int x :: st) h Q := wp_p hc117 dX5_tells_11 rfl
theorem e117_12 : wp S d 117 12 [a0, a1] (.ref r :: st) h Q = am_gfK h r 5 22 (fun w => wp S d 117 15 [a0, a1] (w :: st) h Q) := wp_gf hc117 dX5_tells_12 ho117 fl5_227
theorem e117_15 : wp S d 117 15 [a0, a1] st h Q = wp S d 117 16 [a0, a1] (.int (nI 1) :: st) h Q := wp_p hc117 dX5_tells_15 rfl
theorem e117_16 : wp S d 117 16 [a0, a1] (.int y :: .int x :: st) h Q = wp S d 117 17 [a0, a1] (.int (x + y) :: st) h Q := wp_p hc117 dX5_tells_16 rfl
theorem e117_17 : wp S d 117 17 [a0, a1] (w :: .ref r :: st) h Q = am_pfK 117 h r 5 22 false w (fun h => wp S d 117 20 [a0, a1] st h Q) := wp_pf hc117 dX5_tells_17 ho117 fl5_227
theorem e117_20 : wp S d 117 20 ls [] h Q = Q (.inl none, h) := wp_r hc117 dX5_tells_20 rfl rfl ⟨rfl, rfl, rfl⟩
theorem e118_0 : wp S d 118 0 [some (.ref r), a1] st h Q = wp S d 118 1 [some (.ref r), a1] (.ref r :: st) h Q := wp_p hc118 dX5_tellsEnds_0 rfl
theorem e118_1 : wp S d 118 1 [a0, a1] (.ref r :: st) h Q = am_gfK h r 5 9 (fun w => wp S d 118 4 [a0, a1] (w :: st) h Q) := wp_gf hc118 dX5_tellsEnds_1 ho118 fl5_157
theorem e118_4 : wp S d 118 4 [a0, a1] (.int x :: st) h Q = if x ≤ 0 then wp S d 118 11 [a0, a1] st h Q else wp S d 118 7 [a0, a1] st h Q := wp_le hc118 dX5_tellsEnds_4 rfl
theorem e118_7 : wp S d 118 7 [a0, a1] st h Q = wp S d 118 8 [a0, a1] (.int (nI 1) :: st) h Q := wp_p hc118 dX5_tellsEnds_7 rfl
theorem e118_8 : wp S d 118 8 [a0, a1] st h Q = wp S d 118 12 [a0, a1] st h Q := wp_p hc118 dX5_tellsEnds_8 rfl
theorem e118_11 : wp S d 118 11 [a0, a1] st h Q = wp S d 118 12 [a0, a1] (.int (nI 0) :: st) h Q := wp_p hc118 dX5_tellsEnds_11 rfl
theorem e118_12 : wp S d 118 12 [a0, a1] (.int x :: st) h Q = wp S d 118 13 [a0, some (.int x)] st h Q := wp_p hc118 dX5_tellsEnds_12 rfl
theorem e118_13 : wp S d 118 13 [a0, some (.int x)] st h Q = wp S d 118 14 [a0, some (.int x)] (.int x :: st) h Q := wp_p hc118 dX5_tellsEnds_13 rfl
theorem e118_14 : wp S d 118 14 [a0, a1] (.int x :: st) h Q = if x = 0 then wp S d 118 105 [a0, a1] st h Q else wp S d 118 17 [a0, a1] st h Q := wp_eq hc118 dX5_tellsEnds_14 rfl
theorem e118_17 : wp S d 118 17 [some (.ref r), a1] st h Q = wp S d 118 18 [some (.ref r), a1] (.ref r :: st) h Q := wp_p hc118 dX5_tellsEnds_17 rfl
theorem e118_18 : wp S d 118 18 [a0, a1] (.ref r :: st) h Q = am_gfK h r 5 8 (fun w => wp S d 118 21 [a0, a1] (w :: st) h Q) := wp_gf hc118 dX5_tellsEnds_18 ho118 fl5_25
theorem e118_21 : wp S d 118 21 [some (.ref r), a1] st h Q = wp S d 118 22 [some (.ref r), a1] (.ref r :: st) h Q := wp_p hc118 dX5_tellsEnds_21 rfl
theorem e118_22 : wp S d 118 22 [a0, a1] (.ref r :: st) h Q = am_gfK h r 5 9 (fun w => wp S d 118 25 [a0, a1] (w :: st) h Q) := wp_gf hc118 dX5_tellsEnds_22 ho118 fl5_157
theorem e118_25 : wp S d 118 25 [a0, a1] st h Q = wp S d 118 26 [a0, a1] (.int (nI 1) :: st) h Q := wp_p hc118 dX5_tellsEnds_25 rfl
theorem e118_26 : wp S d 118 26 [a0, a1] (.int y :: .int x :: st) h Q = wp S d 118 27 [a0, a1] (.int (x - y) :: st) h Q := wp_p hc118 dX5_tellsEnds_26 rfl
theorem e118_27 : wp S d 118 27 [a0, a1] (.int x :: .ref r :: st) h Q = wp S d 118 28 [a0, a1] (.int x :: .ref r :: .int x :: .ref r :: st) h Q := wp_p hc118 dX5_tellsEnds_27 rfl
theorem e118_28 : wp S d 118 28 [a0, a1] (.int x :: .ref r :: st) h Q = am_iaK h r x (fun z => wp S d 118 29 [a0, a1] (.int z :: st) h Q) := wp_ia hc118 dX5_tellsEnds_28
theorem e118_29 : wp S d 118 29 [a0, a1] st h Q = wp S d 118 30 [a0, a1] (.int (nI 1) :: st) h Q := wp_p hc118 dX5_tellsEnds_29 rfl
theorem e118_30 : wp S d 118 30 [a0, a1] (.int y :: .int x :: st) h Q = wp S d 118 31 [a0, a1] (.int (x - y) :: st) h Q := wp_p hc118 dX5_tellsEnds_30 rfl
theorem e118_31 : wp S d 118 31 [a0, a1] (.int y :: .int x :: .ref r :: st) h Q = am_isK h r x y (fun h => wp S d 118 32 [a0, a1] st h Q) := wp_is hc118 dX5_tellsEnds_31
theorem e118_32 : wp S d 118 32 [some (.ref r), a1] st h Q = wp S d 118 33 [some (.ref r), a1] (.ref r :: st) h Q := wp_p hc118 dX5_tellsEnds_32 rfl
theorem e118_33 : wp S d 118 33 [a0, a1] (.ref r :: st) h Q = am_gfK h r 5 8 (fun w => wp S d 118 36 [a0, a1] (w :: st) h Q) := wp_gf hc118 dX5_tellsEnds_33 ho118 fl5_25
theorem e118_36 : wp S d 118 36 [some (.ref r), a1] st h Q = wp S d 118 37 [some (.ref r), a1] (.ref r :: st) h Q := wp_p hc118 dX5_tellsEnds_36 rfl
theorem e118_37 : wp S d 118 37 [a0, a1] (.ref r :: st) h Q = am_gfK h r 5 9 (fun w => wp S d 118 40 [a0, a1] (w :: st) h Q) := wp_gf hc118 dX5_tellsEnds_37 ho118 fl5_157
theorem e118_40 : wp S d 118 40 [a0, a1] st h Q = wp S d 118 41 [a0, a1] (.int (nI 1) :: st) h Q := wp_p hc118 dX5_tellsEnds_40 rfl
theorem e118_41 : wp S d 118 41 [a0, a1] (.int y :: .int x :: st) h Q = wp S d 118 42 [a0, a1] (.int (x - y) :: st) h Q := wp_p hc118 dX5_tellsEnds_41 rfl
theorem e118_42 : wp S d 118 42 [a0, a1] (.int x :: .ref r :: st) h Q = am_iaK h r x (fun z => wp S d 118 43 [a0, a1] (.int z :: st) h Q) := wp_ia hc118 dX5_tellsEnds_42
theorem e118_43 : wp S d 118 43 [a0, a1] (.int x :: st) h Q = if x = 0 then wp S d 118 46 [a0, a1] st h Q else wp S d 118 50 [a0, a1] st h Q := wp_ne hc118 dX5_tellsEnds_43 rfl
theorem e118_46 : wp S d 118 46 [a0, a1] st h Q = wp S d 118 47 [a0, a1] (.int (nI 1) :: st) h Q := wp_p hc118 dX5_tellsEnds_46 rfl
theorem e118_47 : wp S d 118 47 [a0, a1] st h Q = wp S d 118 51 [a0, a1] st h Q := wp_p hc118 dX5_tellsEnds_47 rfl
theorem e118_50 : wp S d 118 50 [a0, a1] st h Q = wp S d 118 51 [a0, a1] (.int (nI 0) :: st) h Q := wp_p hc118 dX5_tellsEnds_50 rfl
theorem e118_51 : wp S d 118 51 [a0, a1] (.int x :: st) h Q = wp S d 118 52 [a0, some (.int x)] st h Q := wp_p hc118 dX5_tellsEnds_51 rfl
theorem e118_52 : wp S d 118 52 [some (.ref r), a1] st h Q = wp S d 118 53 [some (.ref r), a1] (.ref r :: st) h Q := wp_p hc118 dX5_tellsEnds_52 rfl
theorem e118_53 : wp S d 118 53 [a0, some (.int x)] st h Q = wp S d 118 54 [a0, some (.int x)] (.int x :: st) h Q := wp_p hc118 dX5_tellsEnds_53 rfl
theorem e118_54 : wp S d 118 54 [a0, a1] (.int x :: st) h Q = if x = 0 then wp S d 118 62 [a0, a1] st h Q else wp S d 118 57 [a0, a1] st h Q := wp_eq hc118 dX5_tellsEnds_54 rfl
theorem e118_57 : wp S d 118 57 [a0, a1] st h Q = wp S d 118 59 [a0, a1] (.int (nI 41) :: st) h Q := wp_p hc118 dX5_tellsEnds_57 rfl
theorem e118_59 : wp S d 118 59 [a0, a1] st h Q = wp S d 118 64 [a0, a1] st h Q := wp_p hc118 dX5_tellsEnds_59 rfl
theorem e118_62 : wp S d 118 62 [a0, a1] st h Q = wp S d 118 64 [a0, a1] (.int (nI 44) :: st) h Q := wp_p hc118 dX5_tellsEnds_62 rfl
theorem e118_64 : wp S (d + 1) 118 64 [a0, a1] (.int x1 :: .ref r0 :: st) h Q = (am_w8 st ∧ am_rcv h 2 117 (.ref r0) = true ∧ wp S d 117 0 [some (.ref r0), some (.int x1)] [] h (am_kr S 2 (d + 1) 118 64 [a0, a1] st Q)) := wp_cV (.ref r0) [.int x1] hc118 dX5_tellsEnds_64 ho118 cl5_230 (by decide) ns5_230 hst117 hnp117 hml117 hlsl117 rfl rfl rfl
theorem e118_67 : wp S d 118 67 [some (.ref r), a1] st h Q = wp S d 118 68 [some (.ref r), a1] (.ref r :: st) h Q := wp_p hc118 dX5_tellsEnds_67 rfl
theorem e118_68 : wp S d 118 68 [a0, a1] (.ref r :: st) h Q = wp S d 118 69 [a0, a1] (.ref r :: .ref r :: st) h Q := wp_p hc118 dX5_tellsEnds_68 rfl
theorem e118_68i : wp S d 118 68 [a0, a1] (.int x :: st) h Q = wp S d 118 69 [a0, a1] (.int x :: .int x :: st) h Q := wp_p hc118 dX5_tellsEnds_68 rfl
theorem e118_69 : wp S d 118 69 [a0, a1] (.ref r :: st) h Q = am_gfK h r 5 9 (fun w => wp S d 118 72 [a0, a1] (w :: st) h Q) := wp_gf hc118 dX5_tellsEnds_69 ho118 fl5_157
theorem e118_72 : wp S d 118 72 [a0, some (.int x)] st h Q = wp S d 118 73 [a0, some (.int x)] (.int x :: st) h Q := wp_p hc118 dX5_tellsEnds_72 rfl
theorem e118_73 : wp S d 118 73 [a0, a1] (.int x :: st) h Q = if x = 0 then wp S d 118 80 [a0, a1] st h Q else wp S d 118 76 [a0, a1] st h Q := wp_eq hc118 dX5_tellsEnds_73 rfl
theorem e118_76 : wp S d 118 76 [a0, a1] st h Q = wp S d 118 77 [a0, a1] (.int (nI 1) :: st) h Q := wp_p hc118 dX5_tellsEnds_76 rfl
theorem e118_77 : wp S d 118 77 [a0, a1] st h Q = wp S d 118 81 [a0, a1] st h Q := wp_p hc118 dX5_tellsEnds_77 rfl
theorem e118_80 : wp S d 118 80 [a0, a1] st h Q = wp S d 118 81 [a0, a1] (.int (nI 0) :: st) h Q := wp_p hc118 dX5_tellsEnds_80 rfl
theorem e118_81 : wp S d 118 81 [a0, a1] (.int y :: .int x :: st) h Q = wp S d 118 82 [a0, a1] (.int (x - y) :: st) h Q := wp_p hc118 dX5_tellsEnds_81 rfl
theorem e118_82 : wp S d 118 82 [a0, a1] (w :: .ref r :: st) h Q = am_pfK 118 h r 5 9 false w (fun h => wp S d 118 85 [a0, a1] st h Q) := wp_pf hc118 dX5_tellsEnds_82 ho118 fl5_157
theorem e118_85 : wp S d 118 85 [a0, some (.int x)] st h Q = wp S d 118 86 [a0, some (.int x)] (.int x :: st) h Q := wp_p hc118 dX5_tellsEnds_85 rfl
theorem e118_86 : wp S d 118 86 [a0, a1] (.int x :: st) h Q = if x = 0 then wp S d 118 100 [a0, a1] st h Q else wp S d 118 89 [a0, a1] st h Q := wp_eq hc118 dX5_tellsEnds_86 rfl
theorem e118_89 : wp S d 118 89 [some (.ref r), a1] st h Q = wp S d 118 90 [some (.ref r), a1] (.ref r :: st) h Q := wp_p hc118 dX5_tellsEnds_89 rfl
theorem e118_90 : wp S d 118 90 [a0, a1] (.ref r :: st) h Q = am_gfK h r 5 9 (fun w => wp S d 118 93 [a0, a1] (w :: st) h Q) := wp_gf hc118 dX5_tellsEnds_90 ho118 fl5_157
theorem e118_93 : wp S d 118 93 [a0, a1] (.int x :: st) h Q = if x ≤ 0 then wp S d 118 100 [a0, a1] st h Q else wp S d 118 96 [a0, a1] st h Q := wp_le hc118 dX5_tellsEnds_93 rfl
theorem e118_96 : wp S d 118 96 [a0, a1] st h Q = wp S d 118 97 [a0, a1] (.int (nI 1) :: st) h Q := wp_p hc118 dX5_tellsEnds_96 rfl
theorem e118_97 : wp S d 118 97 [a0, a1] st h Q = wp S d 118 101 [a0, a1] st h Q := wp_p hc118 dX5_tellsEnds_97 rfl
theorem e118_100 : wp S d 118 100 [a0, a1] st h Q = wp S d 118 101 [a0, a1] (.int (nI 0) :: st) h Q := wp_p hc118 dX5_tellsEnds_100 rfl
theorem e118_101 : wp S d 118 101 [a0, a1] (.int x :: st) h Q = wp S d 118 102 [a0, some (.int x)] st h Q := wp_p hc118 dX5_tellsEnds_101 rfl
theorem e118_102 : wp S d 118 102 [a0, a1] st h Q = wp S d 118 13 [a0, a1] st h Q := wp_p hc118 dX5_tellsEnds_102 rfl
theorem e118_105 : wp S d 118 105 ls [] h Q = Q (.inl none, h) := wp_r hc118 dX5_tellsEnds_105 rfl rfl ⟨rfl, rfl, rfl⟩
theorem e119_0 : wp S d 119 0 [some (.ref r), a1] st h Q = wp S d 119 1 [some (.ref r), a1] (.ref r :: st) h Q := wp_p hc119 dX5_undo_0 rfl
theorem e119_1 : wp S d 119 1 [a0, a1] (.ref r :: st) h Q = am_gfK h r 5 2 (fun w => wp S d 119 4 [a0, a1] (w :: st) h Q) := wp_gf hc119 dX5_undo_1 ho119 fl5_49
theorem e119_4 : wp S d 119 4 [a0, a1] (.int x :: st) h Q = if x = 0 then wp S d 119 7 [a0, a1] st h Q else wp S d 119 14 [a0, a1] st h Q := wp_ne hc119 dX5_undo_4 rfl
theorem e119_7 : wp S d 119 7 [some (.ref r), a1] st h Q = wp S d 119 8 [some (.ref r), a1] (.ref r :: st) h Q := wp_p hc119 dX5_undo_7 rfl
theorem e119_8 : wp S d 119 8 [a0, a1] st h Q = wp S d 119 10 [a0, a1] (.int ((-5)) :: st) h Q := wp_p hc119 dX5_undo_8 rfl
theorem e119_10 : wp S (d + 1) 119 10 [a0, a1] (.int x1 :: .ref r0 :: st) h Q = (am_w8 st ∧ am_rcv h 2 64 (.ref r0) = true ∧ wp S d 64 0 [some (.ref r0), some (.int x1)] [] h (am_kr S 2 (d + 1) 119 10 [a0, a1] st Q)) := wp_cV (.ref r0) [.int x1] hc119 dX5_undo_10 ho119 cl5_72 (by decide) ns5_72 hst64 hnp64 hml64 hlsl64 rfl rfl rfl
theorem e119_13 : wp S d 119 13 ls [.int x] h Q = Q (.inl (some (.int x)), h) := wp_r hc119 dX5_undo_13 rfl rfl ⟨x, _, rfl, rfl, rfl, rfl⟩
theorem e119_14 : wp S d 119 14 [some (.ref r), a1] st h Q = wp S d 119 15 [some (.ref r), a1] (.ref r :: st) h Q := wp_p hc119 dX5_undo_14 rfl
theorem e119_15 : wp S d 119 15 [a0, a1] (.ref r :: st) h Q = wp S d 119 16 [a0, a1] (.ref r :: .ref r :: st) h Q := wp_p hc119 dX5_undo_15 rfl
theorem e119_15i : wp S d 119 15 [a0, a1] (.int x :: st) h Q = wp S d 119 16 [a0, a1] (.int x :: .int x :: st) h Q := wp_p hc119 dX5_undo_15 rfl
theorem e119_16 : wp S d 119 16 [a0, a1] (.ref r :: st) h Q = am_gfK h r 5 2 (fun w => wp S d 119 19 [a0, a1] (w :: st) h Q) := wp_gf hc119 dX5_undo_16 ho119 fl5_49
theorem e119_19 : wp S d 119 19 [a0, a1] st h Q = wp S d 119 20 [a0, a1] (.int (nI 1) :: st) h Q := wp_p hc119 dX5_undo_19 rfl
theorem e119_20 : wp S d 119 20 [a0, a1] (.int y :: .int x :: st) h Q = wp S d 119 21 [a0, a1] (.int (x - y) :: st) h Q := wp_p hc119 dX5_undo_20 rfl
theorem e119_21 : wp S d 119 21 [a0, a1] (w :: .ref r :: st) h Q = am_pfK 119 h r 5 2 false w (fun h => wp S d 119 24 [a0, a1] st h Q) := wp_pf hc119 dX5_undo_21 ho119 fl5_49
theorem e119_24 : wp S d 119 24 [a0, a1] st h Q = wp S d 119 25 [a0, a1] (.int (nI 0) :: st) h Q := wp_p hc119 dX5_undo_24 rfl
theorem e119_25 : wp S d 119 25 [a0, a1] (.int x :: st) h Q = wp S d 119 26 [a0, some (.int x)] st h Q := wp_p hc119 dX5_undo_25 rfl
theorem e119_26 : wp S d 119 26 [a0, some (.int x)] st h Q = wp S d 119 27 [a0, some (.int x)] (.int x :: st) h Q := wp_p hc119 dX5_undo_26 rfl
theorem e119_27 : wp S d 119 27 [a0, a1] st h Q = wp S d 119 30 [a0, a1] (.int (nI 186) :: st) h Q := wp_p hc119 dX5_undo_27 rfl
theorem e119_30 : wp S d 119 30 [a0, a1] (.int y :: .int x :: st) h Q = if y ≤ x then wp S d 119 60 [a0, a1] st h Q else wp S d 119 33 [a0, a1] st h Q := wp_ge hc119 dX5_undo_30 rfl
theorem e119_33 : wp S d 119 33 [some (.ref r), a1] st h Q = wp S d 119 34 [some (.ref r), a1] (.ref r :: st) h Q := wp_p hc119 dX5_undo_33 rfl
theorem e119_34 : wp S d 119 34 [a0, a1] (.ref r :: st) h Q = am_gfK h r 5 0 (fun w => wp S d 119 37 [a0, a1] (w :: st) h Q) := wp_gf hc119 dX5_undo_34 ho119 fl5_7
theorem e119_37 : wp S d 119 37 [a0, some (.int x)] st h Q = wp S d 119 38 [a0, some (.int x)] (.int x :: st) h Q := wp_p hc119 dX5_undo_37 rfl
theorem e119_38 : wp S d 119 38 [some (.ref r), a1] st h Q = wp S d 119 39 [some (.ref r), a1] (.ref r :: st) h Q := wp_p hc119 dX5_undo_38 rfl
theorem e119_39 : wp S d 119 39 [a0, a1] (.ref r :: st) h Q = am_gfK h r 5 1 (fun w => wp S d 119 42 [a0, a1] (w :: st) h Q) := wp_gf hc119 dX5_undo_39 ho119 fl5_13
theorem e119_42 : wp S d 119 42 [a0, a1] st h Q = wp S d 119 45 [a0, a1] (.int (nI 186) :: st) h Q := wp_p hc119 dX5_undo_42 rfl
theorem e119_45 : wp S d 119 45 [some (.ref r), a1] st h Q = wp S d 119 46 [some (.ref r), a1] (.ref r :: st) h Q := wp_p hc119 dX5_undo_45 rfl
theorem e119_46 : wp S d 119 46 [a0, a1] (.ref r :: st) h Q = am_gfK h r 5 2 (fun w => wp S d 119 49 [a0, a1] (w :: st) h Q) := wp_gf hc119 dX5_undo_46 ho119 fl5_49
theorem e119_49 : wp S d 119 49 [a0, a1] (.int y :: .int x :: st) h Q = wp S d 119 50 [a0, a1] (.int (x * y) :: st) h Q := wp_p hc119 dX5_undo_49 rfl
theorem e119_50 : wp S d 119 50 [a0, some (.int x)] st h Q = wp S d 119 51 [a0, some (.int x)] (.int x :: st) h Q := wp_p hc119 dX5_undo_50 rfl
theorem e119_51 : wp S d 119 51 [a0, a1] (.int y :: .int x :: st) h Q = wp S d 119 52 [a0, a1] (.int (x + y) :: st) h Q := wp_p hc119 dX5_undo_51 rfl
theorem e119_52 : wp S d 119 52 [a0, a1] (.int x :: .ref r :: st) h Q = am_iaK h r x (fun z => wp S d 119 53 [a0, a1] (.int z :: st) h Q) := wp_ia hc119 dX5_undo_52
theorem e119_53 : wp S d 119 53 [a0, a1] (.int y :: .int x :: .ref r :: st) h Q = am_isK h r x y (fun h => wp S d 119 54 [a0, a1] st h Q) := wp_is hc119 dX5_undo_53
theorem e119_54 : wp S d 119 54 [a0, some (.int x)] st h Q = wp S d 119 57 [a0, some (.int (x + nI 1))] st h Q := wp_p hc119 dX5_undo_54 rfl
theorem e119_57 : wp S d 119 57 [a0, a1] st h Q = wp S d 119 26 [a0, a1] st h Q := wp_p hc119 dX5_undo_57 rfl
theorem e119_60 : wp S d 119 60 [some (.ref r), a1] st h Q = wp S d 119 61 [some (.ref r), a1] (.ref r :: st) h Q := wp_p hc119 dX5_undo_60 rfl
theorem e119_61 : wp S d 119 61 [a0, a1] (.ref r :: st) h Q = am_gfK h r 5 2 (fun w => wp S d 119 64 [a0, a1] (w :: st) h Q) := wp_gf hc119 dX5_undo_61 ho119 fl5_49
theorem e119_64 : wp S d 119 64 ls [.int x] h Q = Q (.inl (some (.int x)), h) := wp_r hc119 dX5_undo_64 rfl rfl ⟨x, _, rfl, rfl, rfl, rfl⟩
theorem e120_0 : wp S d 120 0 [a0, some (.int x)] st h Q = wp S d 120 1 [a0, some (.int x)] (.int x :: st) h Q := wp_p hc120 dX5_errorCount_0 rfl
theorem e120_1 : wp S d 120 1 [a0, a1] (.int x :: st) h Q = wp S d 120 2 [a0, a1] (.long x.toInt64 :: st) h Q := wp_p hc120 dX5_errorCount_1 rfl
theorem e120_2 : wp S d 120 2 [a0, a1] st h Q = wp S d 120 5 [a0, a1] (.long (((-5) : Int32).toInt64) :: st) h Q := wp_l2 hc120 dX5_errorCount_2 ho120 l25_242
theorem e120_5 : wp S d 120 5 [a0, a1] st h Q = wp S d 120 8 [a0, a1] (.long (((-2) : Int32).toInt64) :: st) h Q := wp_l2 hc120 dX5_errorCount_5 ho120 l25_244
theorem e120_8 : wp S (d + 1) 120 8 [a0, a1] (.long u3 :: .long u2 :: .long u1 :: st) h Q = (am_w8 st ∧ wp S d 61 0 [some (.long u1), none, some (.long u2), none, some (.long u3), none] [] h (am_kr S 0 (d + 1) 120 8 [a0, a1] st Q)) := wp_cS [.long u1, .long u2, .long u3] hc120 dX5_errorCount_8 ho120 cl5_55 (by decide) ns5_55 hst61 hnp61 hml61 hlsl61 rfl rfl rfl
theorem e120_11 : wp S d 120 11 [a0, a1] (.int x :: st) h Q = if x = 0 then wp S d 120 26 [a0, a1] st h Q else wp S d 120 14 [a0, a1] st h Q := wp_eq hc120 dX5_errorCount_11 rfl
theorem e120_14 : wp S d 120 14 [some (.ref r), a1] st h Q = wp S d 120 15 [some (.ref r), a1] (.ref r :: st) h Q := wp_p hc120 dX5_errorCount_14 rfl
theorem e120_15 : wp S d 120 15 [a0, a1] (.ref r :: st) h Q = am_gfK h r 5 3 (fun w => wp S d 120 18 [a0, a1] (w :: st) h Q) := wp_gf hc120 dX5_errorCount_15 ho120 fl5_16
theorem e120_18 : wp S d 120 18 [a0, a1] st h Q = wp S d 120 20 [a0, a1] (.int ((-2)) :: st) h Q := wp_p hc120 dX5_errorCount_18 rfl
theorem e120_20 : wp S d 120 20 [a0, some (.int x)] st h Q = wp S d 120 21 [a0, some (.int x)] (.int x :: st) h Q := wp_p hc120 dX5_errorCount_20 rfl
theorem e120_21 : wp S d 120 21 [a0, a1] (.int y :: .int x :: st) h Q = wp S d 120 22 [a0, a1] (.int (x - y) :: st) h Q := wp_p hc120 dX5_errorCount_21 rfl
theorem e120_22 : wp S d 120 22 [a0, a1] (.int x :: .ref r :: st) h Q = am_iaK h r x (fun z => wp S d 120 23 [a0, a1] (.int z :: st) h Q) := wp_ia hc120 dX5_errorCount_22
theorem e120_23 : wp S d 120 23 [a0, a1] st h Q = wp S d 120 32 [a0, a1] st h Q := wp_p hc120 dX5_errorCount_23 rfl
theorem e120_26 : wp S d 120 26 [some (.ref r), a1] st h Q = wp S d 120 27 [some (.ref r), a1] (.ref r :: st) h Q := wp_p hc120 dX5_errorCount_26 rfl
theorem e120_27 : wp S d 120 27 [a0, a1] st h Q = wp S d 120 29 [a0, a1] (.int ((-2)) :: st) h Q := wp_p hc120 dX5_errorCount_27 rfl
theorem e120_29 : wp S (d + 1) 120 29 [a0, a1] (.int x1 :: .ref r0 :: st) h Q = (am_w8 st ∧ am_rcv h 2 64 (.ref r0) = true ∧ wp S d 64 0 [some (.ref r0), some (.int x1)] [] h (am_kr S 2 (d + 1) 120 29 [a0, a1] st Q)) := wp_cV (.ref r0) [.int x1] hc120 dX5_errorCount_29 ho120 cl5_72 (by decide) ns5_72 hst64 hnp64 hml64 hlsl64 rfl rfl rfl
theorem e120_32 : wp S d 120 32 ls [.int x] h Q = Q (.inl (some (.int x)), h) := wp_r hc120 dX5_errorCount_32 rfl rfl ⟨x, _, rfl, rfl, rfl, rfl⟩
theorem e121_0 : wp S d 121 0 [a0, a1, a2, a3] st h Q = wp S d 121 3 [a0, a1, a2, a3] (.long ((nI 2683 : Int32).toInt64) :: st) h Q := wp_l2 hc121 dX5_digest_0 ho121 l25_246
theorem e121_3 : wp S d 121 3 [a0, a1, a2, a3] (.long u :: st) h Q = wp S d 121 4 [a0, some (.long u), none, a3] st h Q := wp_p hc121 dX5_digest_3 rfl
theorem e121_4 : wp S d 121 4 [a0, a1, a2, a3] st h Q = wp S d 121 5 [a0, a1, a2, a3] (.int (nI 0) :: st) h Q := wp_p hc121 dX5_digest_4 rfl
theorem e121_5 : wp S d 121 5 [a0, a1, a2, a3] (.int x :: st) h Q = wp S d 121 6 [a0, a1, a2, some (.int x)] st h Q := wp_p hc121 dX5_digest_5 rfl
theorem e121_6 : wp S d 121 6 [a0, a1, a2, some (.int x)] st h Q = wp S d 121 7 [a0, a1, a2, some (.int x)] (.int x :: st) h Q := wp_p hc121 dX5_digest_6 rfl
theorem e121_7 : wp S d 121 7 [a0, a1, a2, a3] st h Q = wp S d 121 8 [a0, a1, a2, a3] (.int (nI 4) :: st) h Q := wp_p hc121 dX5_digest_7 rfl
theorem e121_8 : wp S d 121 8 [a0, a1, a2, a3] (.int y :: .int x :: st) h Q = if y ≤ x then wp S d 121 31 [a0, a1, a2, a3] st h Q else wp S d 121 11 [a0, a1, a2, a3] st h Q := wp_ge hc121 dX5_digest_8 rfl
theorem e121_11 : wp S d 121 11 [a0, a1, a2, a3] st h Q = wp S d 121 14 [a0, a1, a2, a3] (.long ((nI 31 : Int32).toInt64) :: st) h Q := wp_l2 hc121 dX5_digest_11 ho121 l25_248
theorem e121_14 : wp S d 121 14 [a0, some (.long u), a2, a3] st h Q = wp S d 121 15 [a0, some (.long u), a2, a3] (.long u :: st) h Q := wp_p hc121 dX5_digest_14 rfl
theorem e121_15 : wp S d 121 15 [a0, a1, a2, a3] (.long v :: .long u :: st) h Q = wp S d 121 16 [a0, a1, a2, a3] (.long (u * v) :: st) h Q := wp_p hc121 dX5_digest_15 rfl
theorem e121_16 : wp S d 121 16 [some (.ref r), a1, a2, a3] st h Q = wp S d 121 17 [some (.ref r), a1, a2, a3] (.ref r :: st) h Q := wp_p hc121 dX5_digest_16 rfl
theorem e121_17 : wp S d 121 17 [a0, a1, a2, a3] (.ref r :: st) h Q = am_gfK h r 5 3 (fun w => wp S d 121 20 [a0, a1, a2, a3] (w :: st) h Q) := wp_gf hc121 dX5_digest_17 ho121 fl5_16
theorem e121_20 : wp S d 121 20 [a0, a1, a2, some (.int x)] st h Q = wp S d 121 21 [a0, a1, a2, some (.int x)] (.int x :: st) h Q := wp_p hc121 dX5_digest_20 rfl
theorem e121_21 : wp S d 121 21 [a0, a1, a2, a3] (.int x :: .ref r :: st) h Q = am_iaK h r x (fun z => wp S d 121 22 [a0, a1, a2, a3] (.int z :: st) h Q) := wp_ia hc121 dX5_digest_21
theorem e121_22 : wp S d 121 22 [a0, a1, a2, a3] (.int x :: st) h Q = wp S d 121 23 [a0, a1, a2, a3] (.long x.toInt64 :: st) h Q := wp_p hc121 dX5_digest_22 rfl
theorem e121_23 : wp S d 121 23 [a0, a1, a2, a3] (.long v :: .long u :: st) h Q = wp S d 121 24 [a0, a1, a2, a3] (.long (u + v) :: st) h Q := wp_p hc121 dX5_digest_23 rfl
theorem e121_24 : wp S d 121 24 [a0, a1, a2, a3] (.long u :: st) h Q = wp S d 121 25 [a0, some (.long u), none, a3] st h Q := wp_p hc121 dX5_digest_24 rfl
theorem e121_25 : wp S d 121 25 [a0, a1, a2, some (.int x)] st h Q = wp S d 121 28 [a0, a1, a2, some (.int (x + nI 1))] st h Q := wp_p hc121 dX5_digest_25 rfl
theorem e121_28 : wp S d 121 28 [a0, a1, a2, a3] st h Q = wp S d 121 6 [a0, a1, a2, a3] st h Q := wp_p hc121 dX5_digest_28 rfl
theorem e121_31 : wp S d 121 31 [a0, a1, a2, a3] st h Q = wp S d 121 34 [a0, a1, a2, a3] (.long ((nI 31 : Int32).toInt64) :: st) h Q := wp_l2 hc121 dX5_digest_31 ho121 l25_248
theorem e121_34 : wp S d 121 34 [a0, some (.long u), a2, a3] st h Q = wp S d 121 35 [a0, some (.long u), a2, a3] (.long u :: st) h Q := wp_p hc121 dX5_digest_34 rfl
theorem e121_35 : wp S d 121 35 [a0, a1, a2, a3] (.long v :: .long u :: st) h Q = wp S d 121 36 [a0, a1, a2, a3] (.long (u * v) :: st) h Q := wp_p hc121 dX5_digest_35 rfl
theorem e121_36 : wp S d 121 36 [some (.ref r), a1, a2, a3] st h Q = wp S d 121 37 [some (.ref r), a1, a2, a3] (.ref r :: st) h Q := wp_p hc121 dX5_digest_36 rfl
theorem e121_37 : wp S d 121 37 [a0, a1, a2, a3] (.ref r :: st) h Q = am_gfK h r 5 5 (fun w => wp S d 121 40 [a0, a1, a2, a3] (w :: st) h Q) := wp_gf hc121 dX5_digest_37 ho121 fl5_119
theorem e121_40 : wp S d 121 40 [a0, a1, a2, a3] (.int x :: st) h Q = wp S d 121 41 [a0, a1, a2, a3] (.long x.toInt64 :: st) h Q := wp_p hc121 dX5_digest_40 rfl
theorem e121_41 : wp S d 121 41 [a0, a1, a2, a3] (.long v :: .long u :: st) h Q = wp S d 121 42 [a0, a1, a2, a3] (.long (u + v) :: st) h Q := wp_p hc121 dX5_digest_41 rfl
theorem e121_42 : wp S d 121 42 [a0, a1, a2, a3] (.long u :: st) h Q = wp S d 121 43 [a0, some (.long u), none, a3] st h Q := wp_p hc121 dX5_digest_42 rfl
theorem e121_43 : wp S d 121 43 [a0, a1, a2, a3] st h Q = wp S d 121 44 [a0, a1, a2, a3] (.int (nI 0) :: st) h Q := wp_p hc121 dX5_digest_43 rfl
theorem e121_44 : wp S d 121 44 [a0, a1, a2, a3] (.int x :: st) h Q = wp S d 121 45 [a0, a1, a2, some (.int x)] st h Q := wp_p hc121 dX5_digest_44 rfl
theorem e121_45 : wp S d 121 45 [a0, a1, a2, some (.int x)] st h Q = wp S d 121 46 [a0, a1, a2, some (.int x)] (.int x :: st) h Q := wp_p hc121 dX5_digest_45 rfl
theorem e121_46 : wp S d 121 46 [a0, a1, a2, a3] st h Q = wp S d 121 48 [a0, a1, a2, a3] (.int (nI 84) :: st) h Q := wp_p hc121 dX5_digest_46 rfl
theorem e121_48 : wp S d 121 48 [a0, a1, a2, a3] (.int y :: .int x :: st) h Q = if y ≤ x then wp S d 121 71 [a0, a1, a2, a3] st h Q else wp S d 121 51 [a0, a1, a2, a3] st h Q := wp_ge hc121 dX5_digest_48 rfl
theorem e121_51 : wp S d 121 51 [a0, a1, a2, a3] st h Q = wp S d 121 54 [a0, a1, a2, a3] (.long ((nI 31 : Int32).toInt64) :: st) h Q := wp_l2 hc121 dX5_digest_51 ho121 l25_248
theorem e121_54 : wp S d 121 54 [a0, some (.long u), a2, a3] st h Q = wp S d 121 55 [a0, some (.long u), a2, a3] (.long u :: st) h Q := wp_p hc121 dX5_digest_54 rfl
theorem e121_55 : wp S d 121 55 [a0, a1, a2, a3] (.long v :: .long u :: st) h Q = wp S d 121 56 [a0, a1, a2, a3] (.long (u * v) :: st) h Q := wp_p hc121 dX5_digest_55 rfl
theorem e121_56 : wp S d 121 56 [some (.ref r), a1, a2, a3] st h Q = wp S d 121 57 [some (.ref r), a1, a2, a3] (.ref r :: st) h Q := wp_p hc121 dX5_digest_56 rfl
theorem e121_57 : wp S d 121 57 [a0, a1, a2, a3] (.ref r :: st) h Q = am_gfK h r 5 0 (fun w => wp S d 121 60 [a0, a1, a2, a3] (w :: st) h Q) := wp_gf hc121 dX5_digest_57 ho121 fl5_7
theorem e121_60 : wp S d 121 60 [a0, a1, a2, some (.int x)] st h Q = wp S d 121 61 [a0, a1, a2, some (.int x)] (.int x :: st) h Q := wp_p hc121 dX5_digest_60 rfl
theorem e121_61 : wp S d 121 61 [a0, a1, a2, a3] (.int x :: .ref r :: st) h Q = am_iaK h r x (fun z => wp S d 121 62 [a0, a1, a2, a3] (.int z :: st) h Q) := wp_ia hc121 dX5_digest_61
theorem e121_62 : wp S d 121 62 [a0, a1, a2, a3] (.int x :: st) h Q = wp S d 121 63 [a0, a1, a2, a3] (.long x.toInt64 :: st) h Q := wp_p hc121 dX5_digest_62 rfl
theorem e121_63 : wp S d 121 63 [a0, a1, a2, a3] (.long v :: .long u :: st) h Q = wp S d 121 64 [a0, a1, a2, a3] (.long (u + v) :: st) h Q := wp_p hc121 dX5_digest_63 rfl
theorem e121_64 : wp S d 121 64 [a0, a1, a2, a3] (.long u :: st) h Q = wp S d 121 65 [a0, some (.long u), none, a3] st h Q := wp_p hc121 dX5_digest_64 rfl
theorem e121_65 : wp S d 121 65 [a0, a1, a2, some (.int x)] st h Q = wp S d 121 68 [a0, a1, a2, some (.int (x + nI 1))] st h Q := wp_p hc121 dX5_digest_65 rfl
theorem e121_68 : wp S d 121 68 [a0, a1, a2, a3] st h Q = wp S d 121 45 [a0, a1, a2, a3] st h Q := wp_p hc121 dX5_digest_68 rfl
theorem e121_71 : wp S d 121 71 [a0, a1, a2, a3] st h Q = wp S d 121 72 [a0, a1, a2, a3] (.int (nI 0) :: st) h Q := wp_p hc121 dX5_digest_71 rfl
theorem e121_72 : wp S d 121 72 [a0, a1, a2, a3] (.int x :: st) h Q = wp S d 121 73 [a0, a1, a2, some (.int x)] st h Q := wp_p hc121 dX5_digest_72 rfl
theorem e121_73 : wp S d 121 73 [a0, a1, a2, some (.int x)] st h Q = wp S d 121 74 [a0, a1, a2, some (.int x)] (.int x :: st) h Q := wp_p hc121 dX5_digest_73 rfl
theorem e121_74 : wp S d 121 74 [a0, a1, a2, a3] st h Q = wp S d 121 76 [a0, a1, a2, a3] (.int (nI 6) :: st) h Q := wp_p hc121 dX5_digest_74 rfl
theorem e121_76 : wp S d 121 76 [a0, a1, a2, a3] (.int y :: .int x :: st) h Q = if y ≤ x then wp S d 121 126 [a0, a1, a2, a3] st h Q else wp S d 121 79 [a0, a1, a2, a3] st h Q := wp_ge hc121 dX5_digest_76 rfl
theorem e121_79 : wp S d 121 79 [a0, a1, a2, a3] st h Q = wp S d 121 82 [a0, a1, a2, a3] (.long ((nI 31 : Int32).toInt64) :: st) h Q := wp_l2 hc121 dX5_digest_79 ho121 l25_248
theorem e121_82 : wp S d 121 82 [a0, some (.long u), a2, a3] st h Q = wp S d 121 83 [a0, some (.long u), a2, a3] (.long u :: st) h Q := wp_p hc121 dX5_digest_82 rfl
theorem e121_83 : wp S d 121 83 [a0, a1, a2, a3] (.long v :: .long u :: st) h Q = wp S d 121 84 [a0, a1, a2, a3] (.long (u * v) :: st) h Q := wp_p hc121 dX5_digest_83 rfl
theorem e121_84 : wp S d 121 84 [some (.ref r), a1, a2, a3] st h Q = wp S d 121 85 [some (.ref r), a1, a2, a3] (.ref r :: st) h Q := wp_p hc121 dX5_digest_84 rfl
theorem e121_85 : wp S d 121 85 [a0, a1, a2, some (.int x)] st h Q = wp S d 121 86 [a0, a1, a2, some (.int x)] (.int x :: st) h Q := wp_p hc121 dX5_digest_85 rfl
theorem e121_86 : wp S (d + 1) 121 86 [a0, a1, a2, a3] (.int x1 :: .ref r0 :: st) h Q = (am_w8 st ∧ am_rcv h 2 72 (.ref r0) = true ∧ wp S d 72 0 [some (.ref r0), some (.int x1)] [] h (am_kr S 2 (d + 1) 121 86 [a0, a1, a2, a3] st Q)) := wp_cV (.ref r0) [.int x1] hc121 dX5_digest_86 ho121 cl5_86 (by decide) ns5_86 hst72 hnp72 hml72 hlsl72 rfl rfl rfl
theorem e121_89 : wp S d 121 89 [a0, a1, a2, a3] st h Q = wp S d 121 90 [a0, a1, a2, a3] (.int ((-1)) :: st) h Q := wp_p hc121 dX5_digest_89 rfl
theorem e121_90 : wp S d 121 90 [a0, a1, a2, a3] (.int y :: .int x :: st) h Q = if x = y then wp S d 121 93 [a0, a1, a2, a3] st h Q else wp S d 121 97 [a0, a1, a2, a3] st h Q := wp_ne hc121 dX5_digest_90 rfl
theorem e121_93 : wp S d 121 93 [a0, a1, a2, a3] st h Q = wp S d 121 94 [a0, a1, a2, a3] (.int (nI 0) :: st) h Q := wp_p hc121 dX5_digest_93 rfl
theorem e121_94 : wp S d 121 94 [a0, a1, a2, a3] st h Q = wp S d 121 104 [a0, a1, a2, a3] st h Q := wp_p hc121 dX5_digest_94 rfl
theorem e121_97 : wp S d 121 97 [a0, a1, a2, a3] st h Q = wp S d 121 98 [a0, a1, a2, a3] (.int (nI 1) :: st) h Q := wp_p hc121 dX5_digest_97 rfl
theorem e121_98 : wp S d 121 98 [some (.ref r), a1, a2, a3] st h Q = wp S d 121 99 [some (.ref r), a1, a2, a3] (.ref r :: st) h Q := wp_p hc121 dX5_digest_98 rfl
theorem e121_99 : wp S d 121 99 [a0, a1, a2, some (.int x)] st h Q = wp S d 121 100 [a0, a1, a2, some (.int x)] (.int x :: st) h Q := wp_p hc121 dX5_digest_99 rfl
theorem e121_100 : wp S (d + 1) 121 100 [a0, a1, a2, a3] (.int x1 :: .ref r0 :: st) h Q = (am_w8 st ∧ am_rcv h 2 70 (.ref r0) = true ∧ wp S d 70 0 [some (.ref r0), some (.int x1)] [] h (am_kr S 2 (d + 1) 121 100 [a0, a1, a2, a3] st Q)) := wp_cV (.ref r0) [.int x1] hc121 dX5_digest_100 ho121 cl5_99 (by decide) ns5_99 hst70 hnp70 hml70 hlsl70 rfl rfl rfl
theorem e121_103 : wp S d 121 103 [a0, a1, a2, a3] (.int y :: .int x :: st) h Q = wp S d 121 104 [a0, a1, a2, a3] (.int (x + y) :: st) h Q := wp_p hc121 dX5_digest_103 rfl
theorem e121_104 : wp S d 121 104 [a0, a1, a2, a3] (.int x :: st) h Q = wp S d 121 105 [a0, a1, a2, a3] (.long x.toInt64 :: st) h Q := wp_p hc121 dX5_digest_104 rfl
theorem e121_105 : wp S d 121 105 [a0, a1, a2, a3] (.long v :: .long u :: st) h Q = wp S d 121 106 [a0, a1, a2, a3] (.long (u + v) :: st) h Q := wp_p hc121 dX5_digest_105 rfl
theorem e121_106 : wp S d 121 106 [a0, a1, a2, a3] (.long u :: st) h Q = wp S d 121 107 [a0, some (.long u), none, a3] st h Q := wp_p hc121 dX5_digest_106 rfl
theorem e121_107 : wp S d 121 107 [a0, a1, a2, a3] st h Q = wp S d 121 110 [a0, a1, a2, a3] (.long ((nI 31 : Int32).toInt64) :: st) h Q := wp_l2 hc121 dX5_digest_107 ho121 l25_248
theorem e121_110 : wp S d 121 110 [a0, some (.long u), a2, a3] st h Q = wp S d 121 111 [a0, some (.long u), a2, a3] (.long u :: st) h Q := wp_p hc121 dX5_digest_110 rfl
theorem e121_111 : wp S d 121 111 [a0, a1, a2, a3] (.long v :: .long u :: st) h Q = wp S d 121 112 [a0, a1, a2, a3] (.long (u * v) :: st) h Q := wp_p hc121 dX5_digest_111 rfl
theorem e121_112 : wp S d 121 112 [some (.ref r), a1, a2, a3] st h Q = wp S d 121 113 [some (.ref r), a1, a2, a3] (.ref r :: st) h Q := wp_p hc121 dX5_digest_112 rfl
theorem e121_113 : wp S d 121 113 [a0, a1, a2, some (.int x)] st h Q = wp S d 121 114 [a0, a1, a2, some (.int x)] (.int x :: st) h Q := wp_p hc121 dX5_digest_113 rfl
theorem e121_114 : wp S (d + 1) 121 114 [a0, a1, a2, a3] (.int x1 :: .ref r0 :: st) h Q = (am_w8 st ∧ am_rcv h 2 82 (.ref r0) = true ∧ wp S d 82 0 [some (.ref r0), some (.int x1), none, none] [] h (am_kr S 2 (d + 1) 121 114 [a0, a1, a2, a3] st Q)) := wp_cV (.ref r0) [.int x1] hc121 dX5_digest_114 ho121 cl5_108 (by decide) ns5_108 hst82 hnp82 hml82 hlsl82 rfl rfl rfl
theorem e121_117 : wp S d 121 117 [a0, a1, a2, a3] (.int x :: st) h Q = wp S d 121 118 [a0, a1, a2, a3] (.long x.toInt64 :: st) h Q := wp_p hc121 dX5_digest_117 rfl
theorem e121_118 : wp S d 121 118 [a0, a1, a2, a3] (.long v :: .long u :: st) h Q = wp S d 121 119 [a0, a1, a2, a3] (.long (u + v) :: st) h Q := wp_p hc121 dX5_digest_118 rfl
theorem e121_119 : wp S d 121 119 [a0, a1, a2, a3] (.long u :: st) h Q = wp S d 121 120 [a0, some (.long u), none, a3] st h Q := wp_p hc121 dX5_digest_119 rfl
theorem e121_120 : wp S d 121 120 [a0, a1, a2, some (.int x)] st h Q = wp S d 121 123 [a0, a1, a2, some (.int (x + nI 1))] st h Q := wp_p hc121 dX5_digest_120 rfl
theorem e121_123 : wp S d 121 123 [a0, a1, a2, a3] st h Q = wp S d 121 73 [a0, a1, a2, a3] st h Q := wp_p hc121 dX5_digest_123 rfl
theorem e121_126 : wp S d 121 126 [a0, a1, a2, a3] st h Q = wp S d 121 129 [a0, a1, a2, a3] (.long ((nI 31 : Int32).toInt64) :: st) h Q := wp_l2 hc121 dX5_digest_126 ho121 l25_248
theorem e121_129 : wp S d 121 129 [a0, some (.long u), a2, a3] st h Q = wp S d 121 130 [a0, some (.long u), a2, a3] (.long u :: st) h Q := wp_p hc121 dX5_digest_129 rfl
theorem e121_130 : wp S d 121 130 [a0, a1, a2, a3] (.long v :: .long u :: st) h Q = wp S d 121 131 [a0, a1, a2, a3] (.long (u * v) :: st) h Q := wp_p hc121 dX5_digest_130 rfl
theorem e121_131 : wp S d 121 131 [some (.ref r), a1, a2, a3] st h Q = wp S d 121 132 [some (.ref r), a1, a2, a3] (.ref r :: st) h Q := wp_p hc121 dX5_digest_131 rfl
theorem e121_132 : wp S d 121 132 [a0, a1, a2, a3] (.ref r :: st) h Q = am_gfK h r 5 0 (fun w => wp S d 121 135 [a0, a1, a2, a3] (w :: st) h Q) := wp_gf hc121 dX5_digest_132 ho121 fl5_7
theorem e121_135 : wp S d 121 135 [a0, a1, a2, a3] st h Q = wp S d 121 138 [a0, a1, a2, a3] (.int (nI 147) :: st) h Q := wp_p hc121 dX5_digest_135 rfl
theorem e121_138 : wp S d 121 138 [a0, a1, a2, a3] (.int x :: .ref r :: st) h Q = am_iaK h r x (fun z => wp S d 121 139 [a0, a1, a2, a3] (.int z :: st) h Q) := wp_ia hc121 dX5_digest_138
theorem e121_139 : wp S d 121 139 [a0, a1, a2, a3] (.int x :: st) h Q = wp S d 121 140 [a0, a1, a2, a3] (.long x.toInt64 :: st) h Q := wp_p hc121 dX5_digest_139 rfl
theorem e121_140 : wp S d 121 140 [a0, a1, a2, a3] (.long v :: .long u :: st) h Q = wp S d 121 141 [a0, a1, a2, a3] (.long (u + v) :: st) h Q := wp_p hc121 dX5_digest_140 rfl
theorem e121_141 : wp S d 121 141 [a0, a1, a2, a3] (.long u :: st) h Q = wp S d 121 142 [a0, some (.long u), none, a3] st h Q := wp_p hc121 dX5_digest_141 rfl
theorem e121_142 : wp S d 121 142 [some (.ref r), a1, a2, a3] st h Q = wp S d 121 143 [some (.ref r), a1, a2, a3] (.ref r :: st) h Q := wp_p hc121 dX5_digest_142 rfl
theorem e121_143 : wp S (d + 1) 121 143 [a0, a1, a2, a3] (.ref r0 :: st) h Q = (am_w8 st ∧ am_rcv h 2 115 (.ref r0) = true ∧ wp S d 115 0 [some (.ref r0), none, none] [] h (am_kr S 2 (d + 1) 121 143 [a0, a1, a2, a3] st Q)) := wp_cV (.ref r0) [] hc121 dX5_digest_143 ho121 cl5_239 (by decide) ns5_239 hst115 hnp115 hml115 hlsl115 rfl rfl rfl
theorem e121_146 : wp S d 121 146 [a0, a1, a2, a3] st h Q = wp S d 121 147 [a0, a1, a2, a3] (.int (nI 0) :: st) h Q := wp_p hc121 dX5_digest_146 rfl
theorem e121_147 : wp S d 121 147 [a0, a1, a2, a3] (.int x :: st) h Q = wp S d 121 148 [a0, a1, a2, some (.int x)] st h Q := wp_p hc121 dX5_digest_147 rfl
theorem e121_148 : wp S d 121 148 [a0, a1, a2, some (.int x)] st h Q = wp S d 121 149 [a0, a1, a2, some (.int x)] (.int x :: st) h Q := wp_p hc121 dX5_digest_148 rfl
theorem e121_149 : wp S d 121 149 [some (.ref r), a1, a2, a3] st h Q = wp S d 121 150 [some (.ref r), a1, a2, a3] (.ref r :: st) h Q := wp_p hc121 dX5_digest_149 rfl
theorem e121_150 : wp S d 121 150 [a0, a1, a2, a3] (.ref r :: st) h Q = am_gfK h r 5 22 (fun w => wp S d 121 153 [a0, a1, a2, a3] (w :: st) h Q) := wp_gf hc121 dX5_digest_150 ho121 fl5_227
theorem e121_153 : wp S d 121 153 [a0, a1, a2, a3] (.int y :: .int x :: st) h Q = if y ≤ x then wp S d 121 176 [a0, a1, a2, a3] st h Q else wp S d 121 156 [a0, a1, a2, a3] st h Q := wp_ge hc121 dX5_digest_153 rfl
theorem e121_156 : wp S d 121 156 [a0, a1, a2, a3] st h Q = wp S d 121 159 [a0, a1, a2, a3] (.long ((nI 31 : Int32).toInt64) :: st) h Q := wp_l2 hc121 dX5_digest_156 ho121 l25_248
theorem e121_159 : wp S d 121 159 [a0, some (.long u), a2, a3] st h Q = wp S d 121 160 [a0, some (.long u), a2, a3] (.long u :: st) h Q := wp_p hc121 dX5_digest_159 rfl
theorem e121_160 : wp S d 121 160 [a0, a1, a2, a3] (.long v :: .long u :: st) h Q = wp S d 121 161 [a0, a1, a2, a3] (.long (u * v) :: st) h Q := wp_p hc121 dX5_digest_160 rfl
theorem e121_161 : wp S d 121 161 [some (.ref r), a1, a2, a3] st h Q = wp S d 121 162 [some (.ref r), a1, a2, a3] (.ref r :: st) h Q := wp_p hc121 dX5_digest_161 rfl
theorem e121_162 : wp S d 121 162 [a0, a1, a2, a3] (.ref r :: st) h Q = am_gfK h r 5 21 (fun w => wp S d 121 165 [a0, a1, a2, a3] (w :: st) h Q) := wp_gf hc121 dX5_digest_162 ho121 fl5_46
theorem e121_165 : wp S d 121 165 [a0, a1, a2, some (.int x)] st h Q = wp S d 121 166 [a0, a1, a2, some (.int x)] (.int x :: st) h Q := wp_p hc121 dX5_digest_165 rfl
theorem e121_166 : wp S d 121 166 [a0, a1, a2, a3] (.int x :: .ref r :: st) h Q = am_iaK h r x (fun z => wp S d 121 167 [a0, a1, a2, a3] (.int z :: st) h Q) := wp_ia hc121 dX5_digest_166
theorem e121_167 : wp S d 121 167 [a0, a1, a2, a3] (.int x :: st) h Q = wp S d 121 168 [a0, a1, a2, a3] (.long x.toInt64 :: st) h Q := wp_p hc121 dX5_digest_167 rfl
theorem e121_168 : wp S d 121 168 [a0, a1, a2, a3] (.long v :: .long u :: st) h Q = wp S d 121 169 [a0, a1, a2, a3] (.long (u + v) :: st) h Q := wp_p hc121 dX5_digest_168 rfl
theorem e121_169 : wp S d 121 169 [a0, a1, a2, a3] (.long u :: st) h Q = wp S d 121 170 [a0, some (.long u), none, a3] st h Q := wp_p hc121 dX5_digest_169 rfl
theorem e121_170 : wp S d 121 170 [a0, a1, a2, some (.int x)] st h Q = wp S d 121 173 [a0, a1, a2, some (.int (x + nI 1))] st h Q := wp_p hc121 dX5_digest_170 rfl
theorem e121_173 : wp S d 121 173 [a0, a1, a2, a3] st h Q = wp S d 121 148 [a0, a1, a2, a3] st h Q := wp_p hc121 dX5_digest_173 rfl
theorem e121_176 : wp S d 121 176 [a0, a1, a2, a3] st h Q = wp S d 121 179 [a0, a1, a2, a3] (.long ((nI 31 : Int32).toInt64) :: st) h Q := wp_l2 hc121 dX5_digest_176 ho121 l25_248
theorem e121_179 : wp S d 121 179 [a0, some (.long u), a2, a3] st h Q = wp S d 121 180 [a0, some (.long u), a2, a3] (.long u :: st) h Q := wp_p hc121 dX5_digest_179 rfl
theorem e121_180 : wp S d 121 180 [a0, a1, a2, a3] (.long v :: .long u :: st) h Q = wp S d 121 181 [a0, a1, a2, a3] (.long (u * v) :: st) h Q := wp_p hc121 dX5_digest_180 rfl
theorem e121_181 : wp S d 121 181 [some (.ref r), a1, a2, a3] st h Q = wp S d 121 182 [some (.ref r), a1, a2, a3] (.ref r :: st) h Q := wp_p hc121 dX5_digest_181 rfl
theorem e121_182 : wp S (d + 1) 121 182 [a0, a1, a2, a3] (.ref r0 :: st) h Q = (am_w8 st ∧ am_rcv h 2 111 (.ref r0) = true ∧ wp S d 111 0 [some (.ref r0), none, none] [] h (am_kr S 2 (d + 1) 121 182 [a0, a1, a2, a3] st Q)) := wp_cV (.ref r0) [] hc121 dX5_digest_182 ho121 cl5_222 (by decide) ns5_222 hst111 hnp111 hml111 hlsl111 rfl rfl rfl
theorem e121_185 : wp S d 121 185 [a0, a1, a2, a3] (.int x :: st) h Q = wp S d 121 186 [a0, a1, a2, a3] (.long x.toInt64 :: st) h Q := wp_p hc121 dX5_digest_185 rfl
theorem e121_186 : wp S d 121 186 [a0, a1, a2, a3] (.long v :: .long u :: st) h Q = wp S d 121 187 [a0, a1, a2, a3] (.long (u + v) :: st) h Q := wp_p hc121 dX5_digest_186 rfl
theorem e121_187 : wp S d 121 187 [a0, a1, a2, a3] (.long u :: st) h Q = wp S d 121 188 [a0, some (.long u), none, a3] st h Q := wp_p hc121 dX5_digest_187 rfl
theorem e121_188 : wp S d 121 188 [a0, a1, a2, a3] st h Q = wp S d 121 189 [a0, a1, a2, a3] (.int (nI 0) :: st) h Q := wp_p hc121 dX5_digest_188 rfl
theorem e121_189 : wp S d 121 189 [a0, a1, a2, a3] (.int x :: st) h Q = wp S d 121 190 [a0, a1, a2, some (.int x)] st h Q := wp_p hc121 dX5_digest_189 rfl
theorem e121_190 : wp S d 121 190 [a0, a1, a2, some (.int x)] st h Q = wp S d 121 191 [a0, a1, a2, some (.int x)] (.int x :: st) h Q := wp_p hc121 dX5_digest_190 rfl
theorem e121_191 : wp S d 121 191 [a0, a1, a2, a3] st h Q = wp S d 121 193 [a0, a1, a2, a3] (.int (nI 7) :: st) h Q := wp_p hc121 dX5_digest_191 rfl
theorem e121_193 : wp S d 121 193 [a0, a1, a2, a3] (.int y :: .int x :: st) h Q = if y ≤ x then wp S d 121 220 [a0, a1, a2, a3] st h Q else wp S d 121 196 [a0, a1, a2, a3] st h Q := wp_ge hc121 dX5_digest_193 rfl
theorem e121_196 : wp S d 121 196 [a0, a1, a2, a3] st h Q = wp S d 121 199 [a0, a1, a2, a3] (.long ((nI 31 : Int32).toInt64) :: st) h Q := wp_l2 hc121 dX5_digest_196 ho121 l25_248
theorem e121_199 : wp S d 121 199 [a0, some (.long u), a2, a3] st h Q = wp S d 121 200 [a0, some (.long u), a2, a3] (.long u :: st) h Q := wp_p hc121 dX5_digest_199 rfl
theorem e121_200 : wp S d 121 200 [a0, a1, a2, a3] (.long v :: .long u :: st) h Q = wp S d 121 201 [a0, a1, a2, a3] (.long (u * v) :: st) h Q := wp_p hc121 dX5_digest_200 rfl
theorem e121_201 : wp S d 121 201 [some (.ref r), a1, a2, a3] st h Q = wp S d 121 202 [some (.ref r), a1, a2, a3] (.ref r :: st) h Q := wp_p hc121 dX5_digest_201 rfl
theorem e121_202 : wp S d 121 202 [a0, a1, a2, a3] (.ref r :: st) h Q = am_gfK h r 5 0 (fun w => wp S d 121 205 [a0, a1, a2, a3] (w :: st) h Q) := wp_gf hc121 dX5_digest_202 ho121 fl5_7
theorem e121_205 : wp S d 121 205 [a0, a1, a2, a3] st h Q = wp S d 121 208 [a0, a1, a2, a3] (.int (nI 179) :: st) h Q := wp_p hc121 dX5_digest_205 rfl
theorem e121_208 : wp S d 121 208 [a0, a1, a2, some (.int x)] st h Q = wp S d 121 209 [a0, a1, a2, some (.int x)] (.int x :: st) h Q := wp_p hc121 dX5_digest_208 rfl
theorem e121_209 : wp S d 121 209 [a0, a1, a2, a3] (.int y :: .int x :: st) h Q = wp S d 121 210 [a0, a1, a2, a3] (.int (x + y) :: st) h Q := wp_p hc121 dX5_digest_209 rfl
theorem e121_210 : wp S d 121 210 [a0, a1, a2, a3] (.int x :: .ref r :: st) h Q = am_iaK h r x (fun z => wp S d 121 211 [a0, a1, a2, a3] (.int z :: st) h Q) := wp_ia hc121 dX5_digest_210
theorem e121_211 : wp S d 121 211 [a0, a1, a2, a3] (.int x :: st) h Q = wp S d 121 212 [a0, a1, a2, a3] (.long x.toInt64 :: st) h Q := wp_p hc121 dX5_digest_211 rfl
theorem e121_212 : wp S d 121 212 [a0, a1, a2, a3] (.long v :: .long u :: st) h Q = wp S d 121 213 [a0, a1, a2, a3] (.long (u + v) :: st) h Q := wp_p hc121 dX5_digest_212 rfl
theorem e121_213 : wp S d 121 213 [a0, a1, a2, a3] (.long u :: st) h Q = wp S d 121 214 [a0, some (.long u), none, a3] st h Q := wp_p hc121 dX5_digest_213 rfl
theorem e121_214 : wp S d 121 214 [a0, a1, a2, some (.int x)] st h Q = wp S d 121 217 [a0, a1, a2, some (.int (x + nI 1))] st h Q := wp_p hc121 dX5_digest_214 rfl
theorem e121_217 : wp S d 121 217 [a0, a1, a2, a3] st h Q = wp S d 121 190 [a0, a1, a2, a3] st h Q := wp_p hc121 dX5_digest_217 rfl
theorem e121_220 : wp S d 121 220 [a0, a1, a2, a3] st h Q = wp S d 121 223 [a0, a1, a2, a3] (.long ((nI 31 : Int32).toInt64) :: st) h Q := wp_l2 hc121 dX5_digest_220 ho121 l25_248
theorem e121_223 : wp S d 121 223 [a0, some (.long u), a2, a3] st h Q = wp S d 121 224 [a0, some (.long u), a2, a3] (.long u :: st) h Q := wp_p hc121 dX5_digest_223 rfl
theorem e121_224 : wp S d 121 224 [a0, a1, a2, a3] (.long v :: .long u :: st) h Q = wp S d 121 225 [a0, a1, a2, a3] (.long (u * v) :: st) h Q := wp_p hc121 dX5_digest_224 rfl
theorem e121_225 : wp S d 121 225 [some (.ref r), a1, a2, a3] st h Q = wp S d 121 226 [some (.ref r), a1, a2, a3] (.ref r :: st) h Q := wp_p hc121 dX5_digest_225 rfl
theorem e121_226 : wp S d 121 226 [a0, a1, a2, a3] (.ref r :: st) h Q = am_gfK h r 5 2 (fun w => wp S d 121 229 [a0, a1, a2, a3] (w :: st) h Q) := wp_gf hc121 dX5_digest_226 ho121 fl5_49
theorem e121_229 : wp S d 121 229 [a0, a1, a2, a3] (.int x :: st) h Q = wp S d 121 230 [a0, a1, a2, a3] (.long x.toInt64 :: st) h Q := wp_p hc121 dX5_digest_229 rfl
theorem e121_230 : wp S d 121 230 [a0, a1, a2, a3] (.long v :: .long u :: st) h Q = wp S d 121 231 [a0, a1, a2, a3] (.long (u + v) :: st) h Q := wp_p hc121 dX5_digest_230 rfl
theorem e121_231 : wp S d 121 231 ls [.long u] h Q = Q (.inl (some (.long u)), h) := wp_r hc121 dX5_digest_231 rfl rfl ⟨u, rfl, rfl, rfl⟩
end EROWS
