/-! rows for reckoning with the abstract machine -/
def bi (b : Bool) : Int32 := if b then nI 1 else nI 0
theorem bi_t : bi true = nI 1 := rfl
theorem bi_f : bi false = nI 0 := rfl
theorem bi_0 (b : Bool) : (bi b = 0) = (b = false) := by cases b <;> decide
theorem bi_nar (b : Bool) : narrow .boolean (.int (bi b)) = .int (bi b) := by cases b <;> rfl
theorem b01 (c : Prop) (hc : Decidable c) : (if c then nI 1 else nI 0) = bi (decide c) := by
  by_cases h : c <;> simp [h, bi]
theorem nar0 : (narrow .boolean (.int (nI 0)) = .int (nI 0)) = True := by simp only [show narrow .boolean (.int (nI 0)) = .int (nI 0) from rfl]
theorem nar1 : (narrow .boolean (.int (nI 1)) = .int (nI 1)) = True := by simp only [show narrow .boolean (.int (nI 1)) = .int (nI 1) from rfl]
theorem nI_mul (a b : Nat) : nI a * nI b = nI (a * b) := by
  unfold nI; exact (Int32.ofNat_mul a b).symm
theorem nI_sub {a b : Nat} (h : b ≤ a) : nI a - nI b = nI (a - b) := by
  obtain ⟨c, rfl⟩ := Nat.exists_eq_add_of_le h
  rw [← nI_add, Nat.add_sub_cancel_left]
  rw [Int32.add_comm, Int32.add_sub_cancel]
theorem nI_m1 {a : Nat} (h : 1 ≤ a) : nI a + -1 = nI (a - 1) := by
  rw [← nI_sub h, Int32.sub_eq_add_neg]; rfl
theorem i_eq0 {k : Nat} (h : k < 2 ^ 31) : (nI k = 0) = (k = 0) := by
  rw [← nI_0]; exact propext (nI_eq h (by decide))
theorem i_lt0 {k : Nat} (h : k < 2 ^ 31) : (nI k < 0) = False := eq_false (nI_pos h)
theorem i_ge0 {k : Nat} (h : k < 2 ^ 31) : (0 ≤ nI k) = True := eq_true (nI_pos' h)
theorem i_gt0 {k : Nat} (h : k < 2 ^ 31) : (0 < nI k) = (0 < k) := by
  rw [← nI_0]; exact propext (nI_ltI (by decide) h)
theorem i_le0 {k : Nat} (h : k < 2 ^ 31) : (nI k ≤ 0) = (k = 0) := by
  rw [← nI_0]; exact propext ((nI_leI h (by decide)).trans (by omega))
theorem i_eq {a b : Nat} (ha : a < 2 ^ 31) (hb : b < 2 ^ 31) : (nI a = nI b) = (a = b) := propext (nI_eq ha hb)
theorem i_lt {a b : Nat} (ha : a < 2 ^ 31) (hb : b < 2 ^ 31) : (nI a < nI b) = (a < b) := propext (nI_ltI ha hb)
theorem i_le {a b : Nat} (ha : a < 2 ^ 31) (hb : b < 2 ^ 31) : (nI a ≤ nI b) = (a ≤ b) := propext (nI_leI ha hb)
theorem i_ne1 {k : Nat} (h : k < 2 ^ 31) : (nI k = -1) = False := eq_false (fun q => by
  have := nI_toInt h; rw [q] at this; have h2 : (-1 : Int32).toInt = -1 := by decide
  rw [h2] at this; omega)
theorem am_in_t {k n : Nat} (h : k < n) (hn : n < 2 ^ 31) : (am_in (nI k) n = true) = True := by
  refine eq_true ?_
  unfold am_in
  exact decide_eq_true (nI_in h hn)
theorem i_div {a b : Nat} (ha : a < 2 ^ 31) (hb : b < 2 ^ 31) : nI a / nI b = nI (a / b) := by
  have h1 := nI_toInt ha
  have h2 := nI_toInt hb
  have h3 : a / b < 2 ^ 31 := Nat.lt_of_le_of_lt (Nat.div_le_self a b) ha
  refine Int32.toInt_inj.mp ?_
  rw [Int32.toInt_div_of_ne_left _ _ (fun q => by rw [q] at h1; have h4 : Int32.minValue.toInt = -2147483648 := by decide
                                                  omega), h1, h2, nI_toInt h3]
  rfl
theorem i_rem {a b : Nat} (ha : a < 2 ^ 31) (hb : b < 2 ^ 31) : nI a - nI a / nI b * nI b = nI (a % b) := by
  rw [i_div ha hb, nI_mul, nI_sub (Nat.div_mul_le_self a b)]
  congr 1
  have := Nat.mod_add_div a b
  rw [Nat.mul_comm] at this
  omega
theorem am_kr_s {S : am_S} {k d mid pc : Nat} {ls : am_L} {st : List Value} {Q : am_Out → Prop} {v : Value} {h : am_H} : am_kr S k d mid pc ls st Q (.inl (some v), h) = wp S d mid (pc + 3) ls (v :: st) h Q := rfl
theorem am_kr_n {S : am_S} {k d mid pc : Nat} {ls : am_L} {st : List Value} {Q : am_Out → Prop} {h : am_H} : am_kr S k d mid pc ls st Q (.inl none, h) = wp S d mid (pc + 3) ls st h Q := rfl
theorem w8_nil : am_w8 [] = True := by simp [am_w8]
theorem w8_c {v : Value} {st : List Value} : am_w8 (v :: st) = (v.category + (st.map fun v => v.category).sum ≤ 8) := by simp [am_w8]
theorem w8_a {v : Value} {st : List Value} : ((v :: st).map fun v => v.category).sum = v.category + (st.map fun v => v.category).sum := by simp
theorem w8_0 : (([] : List Value).map fun v => v.category).sum = 0 := rfl
theorem ct_i {x : Int32} : (Value.int x).category = 1 := rfl
theorem ct_r {x : Nat} : (Value.ref x).category = 1 := rfl
theorem ct_n : Value.null.category = 1 := rfl
theorem ct_k {x : Nat} : (Value.retAddr x).category = 1 := rfl
theorem ct_l {x : Int64} : (Value.long x).category = 2 := rfl
theorem i64_le (a b : Int32) : (a.toInt64 ≤ b.toInt64) = (a ≤ b) := by
  rw [Int64.le_iff_toInt_le, Int32.le_iff_toInt_le, Int32.toInt_toInt64, Int32.toInt_toInt64]
theorem if_T {α : Type} {a b : α} (c : Prop) (hd : Decidable c) (h : c) : (if c then a else b) = a := if_pos h
theorem nI_lo {x : Int32} {n : Nat} (hn : n < 2 ^ 31) (h : nI 0 ≤ x ∧ x ≤ nI n) : ∃ k : Nat, k ≤ n ∧ x = nI k :=
  nI_of2 (nI_toInt hn) (by have := h.1; rw [nI_0] at this; exact Int32.not_lt.mpr this) h.2
section DEC
variable {a b : Nat}
theorem d_le_t (h : a ≤ b) (hb : b < 2 ^ 31) : (nI a ≤ nI b) = True := eq_true (nI_le h hb)
theorem d_le_f (h : b < a) (ha : a < 2 ^ 31) : (nI a ≤ nI b) = False := eq_false (nI_ge h ha)
theorem d_lt_t (h : a < b) (hb : b < 2 ^ 31) : (nI a < nI b) = True := eq_true (nI_lt h hb)
theorem d_lt_f (h : b ≤ a) (ha : a < 2 ^ 31) : (nI a < nI b) = False := eq_false (nI_nlt h ha)
theorem d_eq_t (h : a = b) : (nI a = nI b) = True := eq_true (congrArg nI h)
theorem d_eq_f (h : a ≠ b) (ha : a < 2 ^ 31) (hb : b < 2 ^ 31) : (nI a = nI b) = False := eq_false (fun q => h ((nI_eq ha hb).mp q))
theorem d_eq0_t (h : a = 0) : (nI a = 0) = True := eq_true (by rw [h]; rfl)
theorem d_eq0_f (h : 0 < a) (ha : a < 2 ^ 31) : (nI a = 0) = False := eq_false (nI_ne0 h ha)
theorem d_gt0_t (h : 0 < a) (ha : a < 2 ^ 31) : (0 < nI a) = True := by rw [i_gt0 ha]; exact eq_true h
theorem d_gt0_f (h : a = 0) : (0 < nI a) = False := by rw [h]; exact eq_false (by decide)
theorem d_le0_t (h : a = 0) : (nI a ≤ 0) = True := by rw [h]; exact eq_true (by decide)
theorem d_le0_f (h : 0 < a) (ha : a < 2 ^ 31) : (nI a ≤ 0) = False := eq_false (nI_nle h ha)
end DEC
theorem n_rem (n b : Nat) : n - n / b * b = n % b := by
  have := Nat.mod_add_div n b
  rw [Nat.mul_comm] at this
  omega
