/-! receivers (printed by gen_rcv.py) -/
theorem rcv_c {h : am_H} {k cm a c0 : Nat} (hk : k = 2 ∨ k = 7) (hc : ∀ c, (decide ((am_CL[c]?).map (fun q => q.1) = some (am_y cm).cls)) = decide (c = c0)) : am_rcv h k cm (.ref a) = am_isC h a c0 := by
  have e : am_rcv h k cm (.ref a) = (if k = 3 ∨ k = 6 then am_isC h a 9 else if k = 2 ∨ k = 7 then (match h[a]? with
    | some (.inr (.inr (c, _))) => decide ((am_CL[c]?).map (fun q => q.1) = some (am_y cm).cls)
    | _ => false) else true) := rfl
  rw [e, if_neg (by omega), if_pos hk]
  unfold am_isC
  rcases h[a]? with _ | ⟨t, n, f⟩ | ⟨t, n, f⟩ | ⟨c, fs⟩ <;> first | rfl | exact hc c
theorem rcv_s {h : am_H} {k cm a : Nat} (hk : k = 4 ∨ k = 5) : am_rcv h k cm (.ref a) = true := by
  have e : am_rcv h k cm (.ref a) = (if k = 3 ∨ k = 6 then am_isC h a 9 else if k = 2 ∨ k = 7 then (match h[a]? with
    | some (.inr (.inr (c, _))) => decide ((am_CL[c]?).map (fun q => q.1) = some (am_y cm).cls)
    | _ => false) else true) := rfl
  rw [e, if_neg (by omega), if_neg (by omega)]
theorem cl_dec {cm c0 : Nat} (h1 : (am_CL[c0]?).map (fun q => q.1) = some (am_y cm).cls) (h2 : ∀ c, c < 10 → c ≠ c0 → (am_CL[c]?).map (fun q => q.1) ≠ some (am_y cm).cls) (c : Nat) : (decide ((am_CL[c]?).map (fun q => q.1) = some (am_y cm).cls)) = decide (c = c0) := by
  by_cases q : c = c0
  · subst q; rw [decide_eq_true h1, decide_eq_true rfl]
  · rw [decide_eq_false q]
    refine decide_eq_false ?_
    by_cases q2 : c < 10
    · exact h2 c q2 q
    · rw [List.getElem?_eq_none (by simp [am_CL]; omega)]
      intro q3; cases q3
theorem rv0_4 {h : am_H} {a : Nat} : am_rcv h 4 0 (.ref a) = true := rcv_s (by decide)
theorem rv1_2 {h : am_H} {a : Nat} : am_rcv h 2 1 (.ref a) = am_isC h a 0 := rcv_c (by decide) (cl_dec (by decide) (by decide))
theorem rv2_2 {h : am_H} {a : Nat} : am_rcv h 2 2 (.ref a) = am_isC h a 0 := rcv_c (by decide) (cl_dec (by decide) (by decide))
theorem rv5_2 {h : am_H} {a : Nat} : am_rcv h 2 5 (.ref a) = am_isC h a 0 := rcv_c (by decide) (cl_dec (by decide) (by decide))
theorem rv6_2 {h : am_H} {a : Nat} : am_rcv h 2 6 (.ref a) = am_isC h a 0 := rcv_c (by decide) (cl_dec (by decide) (by decide))
theorem rv7_2 {h : am_H} {a : Nat} : am_rcv h 2 7 (.ref a) = am_isC h a 0 := rcv_c (by decide) (cl_dec (by decide) (by decide))
theorem rv8_2 {h : am_H} {a : Nat} : am_rcv h 2 8 (.ref a) = am_isC h a 0 := rcv_c (by decide) (cl_dec (by decide) (by decide))
theorem rv9_2 {h : am_H} {a : Nat} : am_rcv h 2 9 (.ref a) = am_isC h a 0 := rcv_c (by decide) (cl_dec (by decide) (by decide))
theorem rv10_2 {h : am_H} {a : Nat} : am_rcv h 2 10 (.ref a) = am_isC h a 0 := rcv_c (by decide) (cl_dec (by decide) (by decide))
theorem rv11_2 {h : am_H} {a : Nat} : am_rcv h 2 11 (.ref a) = am_isC h a 0 := rcv_c (by decide) (cl_dec (by decide) (by decide))
theorem rv12_2 {h : am_H} {a : Nat} : am_rcv h 2 12 (.ref a) = am_isC h a 0 := rcv_c (by decide) (cl_dec (by decide) (by decide))
theorem rv13_2 {h : am_H} {a : Nat} : am_rcv h 2 13 (.ref a) = am_isC h a 0 := rcv_c (by decide) (cl_dec (by decide) (by decide))
theorem rv14_2 {h : am_H} {a : Nat} : am_rcv h 2 14 (.ref a) = am_isC h a 0 := rcv_c (by decide) (cl_dec (by decide) (by decide))
theorem rv15_2 {h : am_H} {a : Nat} : am_rcv h 2 15 (.ref a) = am_isC h a 0 := rcv_c (by decide) (cl_dec (by decide) (by decide))
theorem rv17_2 {h : am_H} {a : Nat} : am_rcv h 2 17 (.ref a) = am_isC h a 0 := rcv_c (by decide) (cl_dec (by decide) (by decide))
theorem rv18_2 {h : am_H} {a : Nat} : am_rcv h 2 18 (.ref a) = am_isC h a 0 := rcv_c (by decide) (cl_dec (by decide) (by decide))
theorem rv19_2 {h : am_H} {a : Nat} : am_rcv h 2 19 (.ref a) = am_isC h a 0 := rcv_c (by decide) (cl_dec (by decide) (by decide))
theorem rv20_2 {h : am_H} {a : Nat} : am_rcv h 2 20 (.ref a) = am_isC h a 0 := rcv_c (by decide) (cl_dec (by decide) (by decide))
theorem rv21_2 {h : am_H} {a : Nat} : am_rcv h 2 21 (.ref a) = am_isC h a 0 := rcv_c (by decide) (cl_dec (by decide) (by decide))
theorem rv22_2 {h : am_H} {a : Nat} : am_rcv h 2 22 (.ref a) = am_isC h a 0 := rcv_c (by decide) (cl_dec (by decide) (by decide))
theorem rv23_7 {h : am_H} {a : Nat} : am_rcv h 7 23 (.ref a) = am_isC h a 0 := rcv_c (by decide) (cl_dec (by decide) (by decide))
theorem rv24_2 {h : am_H} {a : Nat} : am_rcv h 2 24 (.ref a) = am_isC h a 0 := rcv_c (by decide) (cl_dec (by decide) (by decide))
theorem rv25_2 {h : am_H} {a : Nat} : am_rcv h 2 25 (.ref a) = am_isC h a 0 := rcv_c (by decide) (cl_dec (by decide) (by decide))
theorem rv26_2 {h : am_H} {a : Nat} : am_rcv h 2 26 (.ref a) = am_isC h a 0 := rcv_c (by decide) (cl_dec (by decide) (by decide))
theorem rv27_2 {h : am_H} {a : Nat} : am_rcv h 2 27 (.ref a) = am_isC h a 0 := rcv_c (by decide) (cl_dec (by decide) (by decide))
theorem rv28_2 {h : am_H} {a : Nat} : am_rcv h 2 28 (.ref a) = am_isC h a 0 := rcv_c (by decide) (cl_dec (by decide) (by decide))
theorem rv29_2 {h : am_H} {a : Nat} : am_rcv h 2 29 (.ref a) = am_isC h a 0 := rcv_c (by decide) (cl_dec (by decide) (by decide))
theorem rv30_2 {h : am_H} {a : Nat} : am_rcv h 2 30 (.ref a) = am_isC h a 0 := rcv_c (by decide) (cl_dec (by decide) (by decide))
theorem rv31_2 {h : am_H} {a : Nat} : am_rcv h 2 31 (.ref a) = am_isC h a 0 := rcv_c (by decide) (cl_dec (by decide) (by decide))
theorem rv32_2 {h : am_H} {a : Nat} : am_rcv h 2 32 (.ref a) = am_isC h a 0 := rcv_c (by decide) (cl_dec (by decide) (by decide))
theorem rv33_2 {h : am_H} {a : Nat} : am_rcv h 2 33 (.ref a) = am_isC h a 0 := rcv_c (by decide) (cl_dec (by decide) (by decide))
theorem rv36_5 {h : am_H} {a : Nat} : am_rcv h 5 36 (.ref a) = true := rcv_s (by decide)
theorem rv37_2 {h : am_H} {a : Nat} : am_rcv h 2 37 (.ref a) = am_isC h a 1 := rcv_c (by decide) (cl_dec (by decide) (by decide))
theorem rv38_2 {h : am_H} {a : Nat} : am_rcv h 2 38 (.ref a) = am_isC h a 1 := rcv_c (by decide) (cl_dec (by decide) (by decide))
theorem rv39_2 {h : am_H} {a : Nat} : am_rcv h 2 39 (.ref a) = am_isC h a 1 := rcv_c (by decide) (cl_dec (by decide) (by decide))
theorem rv40_2 {h : am_H} {a : Nat} : am_rcv h 2 40 (.ref a) = am_isC h a 1 := rcv_c (by decide) (cl_dec (by decide) (by decide))
theorem rv41_2 {h : am_H} {a : Nat} : am_rcv h 2 41 (.ref a) = am_isC h a 1 := rcv_c (by decide) (cl_dec (by decide) (by decide))
theorem rv42_4 {h : am_H} {a : Nat} : am_rcv h 4 42 (.ref a) = true := rcv_s (by decide)
theorem rv43_2 {h : am_H} {a : Nat} : am_rcv h 2 43 (.ref a) = am_isC h a 2 := rcv_c (by decide) (cl_dec (by decide) (by decide))
theorem rv44_2 {h : am_H} {a : Nat} : am_rcv h 2 44 (.ref a) = am_isC h a 2 := rcv_c (by decide) (cl_dec (by decide) (by decide))
theorem rv45_4 {h : am_H} {a : Nat} : am_rcv h 4 45 (.ref a) = true := rcv_s (by decide)
theorem rv46_4 {h : am_H} {a : Nat} : am_rcv h 4 46 (.ref a) = true := rcv_s (by decide)
theorem rv47_2 {h : am_H} {a : Nat} : am_rcv h 2 47 (.ref a) = am_isC h a 3 := rcv_c (by decide) (cl_dec (by decide) (by decide))
theorem rv48_2 {h : am_H} {a : Nat} : am_rcv h 2 48 (.ref a) = am_isC h a 3 := rcv_c (by decide) (cl_dec (by decide) (by decide))
theorem rv49_2 {h : am_H} {a : Nat} : am_rcv h 2 49 (.ref a) = am_isC h a 3 := rcv_c (by decide) (cl_dec (by decide) (by decide))
theorem rv50_5 {h : am_H} {a : Nat} : am_rcv h 5 50 (.ref a) = true := rcv_s (by decide)
theorem rv51_2 {h : am_H} {a : Nat} : am_rcv h 2 51 (.ref a) = am_isC h a 4 := rcv_c (by decide) (cl_dec (by decide) (by decide))
theorem rv52_2 {h : am_H} {a : Nat} : am_rcv h 2 52 (.ref a) = am_isC h a 4 := rcv_c (by decide) (cl_dec (by decide) (by decide))
theorem rv53_2 {h : am_H} {a : Nat} : am_rcv h 2 53 (.ref a) = am_isC h a 4 := rcv_c (by decide) (cl_dec (by decide) (by decide))
theorem rv54_2 {h : am_H} {a : Nat} : am_rcv h 2 54 (.ref a) = am_isC h a 4 := rcv_c (by decide) (cl_dec (by decide) (by decide))
theorem rv55_2 {h : am_H} {a : Nat} : am_rcv h 2 55 (.ref a) = am_isC h a 4 := rcv_c (by decide) (cl_dec (by decide) (by decide))
theorem rv56_2 {h : am_H} {a : Nat} : am_rcv h 2 56 (.ref a) = am_isC h a 4 := rcv_c (by decide) (cl_dec (by decide) (by decide))
theorem rv57_2 {h : am_H} {a : Nat} : am_rcv h 2 57 (.ref a) = am_isC h a 4 := rcv_c (by decide) (cl_dec (by decide) (by decide))
theorem rv122_4 {h : am_H} {a : Nat} : am_rcv h 4 122 (.ref a) = true := rcv_s (by decide)
theorem rv123_4 {h : am_H} {a : Nat} : am_rcv h 4 123 (.ref a) = true := rcv_s (by decide)
theorem rv124_2 {h : am_H} {a : Nat} : am_rcv h 2 124 (.ref a) = am_isC h a 6 := rcv_c (by decide) (cl_dec (by decide) (by decide))
theorem rv125_2 {h : am_H} {a : Nat} : am_rcv h 2 125 (.ref a) = am_isC h a 6 := rcv_c (by decide) (cl_dec (by decide) (by decide))
theorem rv126_2 {h : am_H} {a : Nat} : am_rcv h 2 126 (.ref a) = am_isC h a 6 := rcv_c (by decide) (cl_dec (by decide) (by decide))
theorem rv127_2 {h : am_H} {a : Nat} : am_rcv h 2 127 (.ref a) = am_isC h a 6 := rcv_c (by decide) (cl_dec (by decide) (by decide))
theorem rv128_2 {h : am_H} {a : Nat} : am_rcv h 2 128 (.ref a) = am_isC h a 6 := rcv_c (by decide) (cl_dec (by decide) (by decide))
theorem rv129_4 {h : am_H} {a : Nat} : am_rcv h 4 129 (.ref a) = true := rcv_s (by decide)
theorem rv130_5 {h : am_H} {a : Nat} : am_rcv h 5 130 (.ref a) = true := rcv_s (by decide)
theorem rv131_2 {h : am_H} {a : Nat} : am_rcv h 2 131 (.ref a) = am_isC h a 8 := rcv_c (by decide) (cl_dec (by decide) (by decide))
theorem rv132_2 {h : am_H} {a : Nat} : am_rcv h 2 132 (.ref a) = am_isC h a 8 := rcv_c (by decide) (cl_dec (by decide) (by decide))
theorem rv133_2 {h : am_H} {a : Nat} : am_rcv h 2 133 (.ref a) = am_isC h a 8 := rcv_c (by decide) (cl_dec (by decide) (by decide))
theorem rv134_2 {h : am_H} {a : Nat} : am_rcv h 2 134 (.ref a) = am_isC h a 8 := rcv_c (by decide) (cl_dec (by decide) (by decide))
theorem rv135_2 {h : am_H} {a : Nat} : am_rcv h 2 135 (.ref a) = am_isC h a 8 := rcv_c (by decide) (cl_dec (by decide) (by decide))
theorem rv136_2 {h : am_H} {a : Nat} : am_rcv h 2 136 (.ref a) = am_isC h a 8 := rcv_c (by decide) (cl_dec (by decide) (by decide))
