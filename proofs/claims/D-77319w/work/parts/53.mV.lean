/-! textByte, sites, value: in plain terms, and that the model answers so -/
theorem tx_len {n : Nat} : ∀ (p st : List Nat), okS st → (∀ t, t ∈ p → tOk n t) → (tx st p).length ≤ 4 * p.length + st.length := by
  intro p
  induction p with
  | nil => intro st _ _; simp [tx]
  | cons t p ih =>
    intro st ho hp
    have htk := hp t List.mem_cons_self
    have hp2 := fun t' q => hp t' (List.mem_cons_of_mem _ q)
    have h1 := hd_len t
    have h2 := clo_len htk
    have hta : ta t ≤ 9 := by unfold ta; omega
    unfold tx
    split
    next ha =>
      have h3 := ih (ta t :: st) (okS_cons ho ha hta) hp2
      rw [List.length_cons] at h3
      rw [List.length_append, List.length_cons]; omega
    next ha =>
      have h3 := ih (ends st).2 (ends_ok st ho) hp2
      have h4 := ends_len st ho
      rw [List.length_append, List.length_append, List.length_append, List.length_cons]; omega
theorem text_len {M : Nat → Nat} {T : Nat → Option Nat} (hw : wf M T) : (text M).length ≤ 120 := by
  have h1 := tx_len (n := M 116) (prog M) [] (fun w q => by cases q) hw.2.2.2.2.2.2.2
  rw [prog_len] at h1
  have h2 := hw.2.2.2.2.2.1.2
  unfold text
  simp at h1
  omega
def sp_txt (x : Int32) (σ : sg) : Int32 × sg := if (-1 : Int32) ≤ x then (if x = -1 then nI (text σ.1.1).length else if x < nI (text σ.1.1).length then nI ((text σ.1.1).getD (cN x) 0) else -1, σ) else er2 σ
def cnt : List Nat → Nat
  | [] => 0
  | t :: p => (if tk t = 3 then 1 else 0) + cnt p
theorem cnt_le : ∀ p, cnt p ≤ p.length := by
  intro p
  induction p with
  | nil => exact Nat.le_refl _
  | cons t p ih => unfold cnt; rw [List.length_cons]; split <;> omega
def sp_sit (σ : sg) : Int32 × sg := (nI (cnt (prog σ.1.1)), σ)
def vs (M : Nat → Nat) (a : Nat) : Nat → Nat → List Nat → Nat
  | _, 0, _ => 0
  | j, n + 1, s => M (a + 2 + 1 + j) * s.headD 0 + vs M a (j + 1) n s.tail
def vOf (M : Nat → Nat) (x y t : Nat) (s : List Nat) : Nat := (if tk t = 0 then tw t else if tk t = 1 then x else if tk t = 2 then y else M (fat t + 2) + vs M (fat t) 0 (ta t) s) % 1000
def vals (M : Nat → Nat) (x y : Nat) : List Nat → List Nat
  | [] => []
  | t :: p => vOf M x y t (vals M x y p) :: (vals M x y p).drop (ta t)
def sp_val (x y : Int32) (σ : sg) : Int32 × sg := if rg x 0 999 ∧ rg y 0 999 then (nI ((vals σ.1.1 (cN x) (cN y) (prog σ.1.1)).headD 0), σ) else er2 σ
theorem need_drop : ∀ (p : List Nat) (n k : Nat), need n p → k ≤ p.length → ∃ m, need m (p.drop k) := by
  intro p
  induction p with
  | nil => intro n k hn hk; exact ⟨n, by simpa using hn⟩
  | cons t p ih =>
    intro n k hn hk
    cases k with
    | zero => exact ⟨n, hn⟩
    | succ k =>
      cases n with
      | zero => exact hn.elim
      | succ n => exact ih _ k hn (by simpa using hk)
theorem need_le : ∀ (p : List Nat) (n : Nat), need n p → n ≤ p.length := by
  intro p
  induction p with
  | nil => intro n hn; cases n with
    | zero => exact Nat.le_refl _
    | succ n => exact hn.elim
  | cons t p ih =>
    intro n hn
    cases n with
    | zero => exact hn.elim
    | succ n => have := ih _ hn; rw [List.length_cons]; omega
theorem vals_len {M : Nat → Nat} {x y : Nat} : ∀ (p : List Nat) (n : Nat), need n p → (vals M x y p).length = n := by
  intro p
  induction p with
  | nil => intro n hn; cases n with
    | zero => rfl
    | succ n => exact hn.elim
  | cons t p ih =>
    intro n hn
    cases n with
    | zero => exact hn.elim
    | succ n => have := ih _ hn; unfold vals; rw [List.length_cons, List.length_drop, this]; omega
theorem vals_lt {M : Nat → Nat} {x y : Nat} : ∀ (p : List Nat) (v : Nat), v ∈ vals M x y p → v < 1000 := by
  intro p
  induction p with
  | nil => intro v q; cases q
  | cons t p ih =>
    intro v q
    unfold vals at q
    rcases List.mem_cons.mp q with rfl | q
    · exact Nat.mod_lt _ (by decide)
    · exact ih v (List.mem_of_mem_drop q)
theorem vs_le {M : Nat → Nat} {a : Nat} : ∀ (n j : Nat) (s : List Nat), (∀ i, j ≤ i → i < j + n → M (a + 2 + 1 + i) ≤ 99) → (∀ v, v ∈ s → v < 1000) → vs M a j n s ≤ 98901 * n := by
  intro n
  induction n with
  | zero => intro j s _ _; exact Nat.le_refl _
  | succ n ih =>
    intro j s h1 h2
    have h3 := ih (j + 1) s.tail (fun i q r => h1 i (by omega) (by omega)) (fun v q => h2 v (List.mem_of_mem_tail q))
    have h4 : s.headD 0 ≤ 999 := by
      cases s with
      | nil => simp
      | cons v s => have := h2 v List.mem_cons_self; simp; omega
    have h5 := Nat.mul_le_mul (h1 j (Nat.le_refl _) (by omega)) h4
    unfold vs
    omega
theorem fat_ok {M : Nat → Nat} {T : Nat → Option Nat} {t : Nat} (hw : wf M T) (ht : tOk (M 116) t) (hk : 2 < tk t) : fOk M 4 (fat t) ∧ fat t + 6 < 117 ∧ ta t ≤ 4 := by
  unfold fat
  obtain ⟨h1, h2, ⟨h3, h3b⟩, -⟩ := hw
  unfold tOk at ht
  have h4 : (tk t = 3 ∧ tw t < 6 ∧ ta t ≤ 3) ∨ (tk t = 4 ∧ tw t < 6 ∧ ta t ≤ 4) ∨ (tk t = 5 ∧ tw t < M 116 ∧ ta t ≤ 3) := by omega
  rcases h4 with ⟨e, q, r⟩ | ⟨e, q, r⟩ | ⟨e, q, r⟩
  · rw [if_pos e]
    exact ⟨⟨by have := (h1 _ q).1; omega, (h1 _ q).2⟩, by omega, by omega⟩
  · rw [if_neg (by omega), if_pos e]
    exact ⟨h2 _ q, by omega, by omega⟩
  · rw [if_neg (by omega), if_neg (by omega)]
    exact ⟨⟨by have := (h3b _ q).1.1; omega, (h3b _ q).1.2⟩, by omega, by omega⟩
section MV
variable {S : am_S} {d : Nat} {h : am_H} {Q : am_Out → Prop} {I : Nat → Int32} {A : Nat → Nat → Int32} {M : Nat → Nat} {T : Nat → Option Nat} {σ : sg} {x y : Int32}
theorem i_m1lt {x : Int32} : (¬ (-1 : Int32) ≤ x) → x < -1 := Int32.not_le.mp
theorem MR_frT {I' : Nat → Int32} {A' : Nat → Nat → Int32} (hm : MR I A σ) (hf : frT I A I' A') : MR I' A' σ := MR_fr hm (fun j q => hf.1 j (by omega) (by omega)) (fun j q => hf.2 j (by omega) (by omega))
theorem M_txt (hl : 84 ≤ h.length) (hm : MR I A σ) (hw : wfs σ) (hQ : mQ h Q (sp_txt x σ)) : wp S (d + 4) 114 0 [some (.ref 70), some (.int x)] [] (mst h I A) Q := by
  unfold sp_txt at hQ
  have hlen := text_len hw.1
  by_cases hx : (-1 : Int32) ≤ x
  · rw [if_pos hx] at hQ
    simp (discharger := omega) only [e114_0, e114_1, e114_2, e114_5, e114_6, e114_8, e114_11, e114_12, e114_13, mg_0, mg_1, mg_2, mg_3, mg_4, mg_5, mg_6, mg_7, mg_8, mg_9, mg_10, mg_11, mg_12, mg_13, mg_14, mg_15, mg_16, mg_17, mg_18, mg_19, mg_20, mg_21, mg_22, mp_2, mp_5, mp_7, mp_9, mp_10, mp_12, mp_14, mp_18, mp_19, mp_22, ml_0, ml_1, ml_3, ml_4, ml_6, ml_8, ml_11, ml_13, ml_15, ml_16, ml_17, ml_20, ml_21, ms_0, ms_1, ms_3, ms_4, ms_6, ms_8, ms_11, ms_13, ms_15, ms_16, ms_17, ms_20, ms_21, upm_s, upm_n, pk_us, pk_un, upd_up, seA_s, seA_n, svA_n, svI_n, n_rem, d_le_t, d_le_f, d_lt_t, d_lt_f, d_eq_t, d_eq_f, d_eq0_t, d_eq0_f, d_gt0_t, d_gt0_f, d_le0_t, d_le0_f, i_lt0, i_ge0, i_ne1, am_in_t, i_div, i_rem, nI_add, nI_mul, nI_sub, nI_m1, nI_clamp, eq_self, am_kr_s, am_kr_n, w8_nil, w8_c, w8_a, w8_0, ct_i, ct_r, ct_n, ct_k, ct_l, true_and, and_true, ↓reduceIte, Nat.reduceAdd, Nat.reduceMul, Nat.reduceSub, Nat.reduceLeDiff, Nat.reduceLT, Nat.reduceDiv, Nat.reduceMod, Nat.reduceEqDiff, ne_eq, not_false_eq_true, not_true_eq_false, reduceCtorEq, mr58_4, mr59_2, mr62_2, mr63_2, mr64_2, mr65_2, mr66_2, mr67_2, mr68_2, mr69_2, mr70_2, mr71_2, mr72_2, mr73_2, mr74_2, mr75_2, mr76_2, mr77_2, mr78_2, mr79_2, mr80_2, mr81_2, mr82_2, mr83_2, mr84_2, mr85_2, mr86_2, mr87_2, mr90_2, mr92_2, mr94_2, mr95_2, mr97_2, mr98_2, mr99_2, mr100_2, mr101_2, mr102_2, mr103_2, mr104_2, mr105_2, mr106_2, mr107_2, mr108_2, mr109_2, mr110_2, mr111_2, mr112_2, mr113_2, mr114_2, mr115_2, mr116_2, mr117_2, mr118_2, mr119_2, mr120_2, mr121_2, eq_true hx]
    refine m115 hl hw.1 hm.1 (fun I' A' hf h22 hout => ?_)
    have hm' := MR_frT hm hf
    by_cases h1 : x = -1
    · rw [if_pos h1] at hQ
      simp (discharger := omega) only [am_kr_n, e114_16, e114_17, e114_18, e114_21, e114_22, e114_25, e114_28, e114_29, e114_30, e114_33, e114_36, e114_37, e114_40, e114_41, e114_42, e114_45, e114_46, mg_0, mg_1, mg_2, mg_3, mg_4, mg_5, mg_6, mg_7, mg_8, mg_9, mg_10, mg_11, mg_12, mg_13, mg_14, mg_15, mg_16, mg_17, mg_18, mg_19, mg_20, mg_21, mg_22, mp_2, mp_5, mp_7, mp_9, mp_10, mp_12, mp_14, mp_18, mp_19, mp_22, ml_0, ml_1, ml_3, ml_4, ml_6, ml_8, ml_11, ml_13, ml_15, ml_16, ml_17, ml_20, ml_21, ms_0, ms_1, ms_3, ms_4, ms_6, ms_8, ms_11, ms_13, ms_15, ms_16, ms_17, ms_20, ms_21, upm_s, upm_n, pk_us, pk_un, upd_up, seA_s, seA_n, svA_n, svI_n, n_rem, d_le_t, d_le_f, d_lt_t, d_lt_f, d_eq_t, d_eq_f, d_eq0_t, d_eq0_f, d_gt0_t, d_gt0_f, d_le0_t, d_le0_f, i_lt0, i_ge0, i_ne1, am_in_t, i_div, i_rem, nI_add, nI_mul, nI_sub, nI_m1, nI_clamp, eq_self, am_kr_s, am_kr_n, w8_nil, w8_c, w8_a, w8_0, ct_i, ct_r, ct_n, ct_k, ct_l, true_and, and_true, ↓reduceIte, Nat.reduceAdd, Nat.reduceMul, Nat.reduceSub, Nat.reduceLeDiff, Nat.reduceLT, Nat.reduceDiv, Nat.reduceMod, Nat.reduceEqDiff, ne_eq, not_false_eq_true, not_true_eq_false, reduceCtorEq, mr58_4, mr59_2, mr62_2, mr63_2, mr64_2, mr65_2, mr66_2, mr67_2, mr68_2, mr69_2, mr70_2, mr71_2, mr72_2, mr73_2, mr74_2, mr75_2, mr76_2, mr77_2, mr78_2, mr79_2, mr80_2, mr81_2, mr82_2, mr83_2, mr84_2, mr85_2, mr86_2, mr87_2, mr90_2, mr92_2, mr94_2, mr95_2, mr97_2, mr98_2, mr99_2, mr100_2, mr101_2, mr102_2, mr103_2, mr104_2, mr105_2, mr106_2, mr107_2, mr108_2, mr109_2, mr110_2, mr111_2, mr112_2, mr113_2, mr114_2, mr115_2, mr116_2, mr117_2, mr118_2, mr119_2, mr120_2, mr121_2, h1, h22]
      exact hQ _ _ hm'
    · rw [if_neg h1] at hQ
      by_cases h2 : x < nI (text σ.1.1).length
      · rw [if_pos h2] at hQ
        have h0 : ¬ x < 0 := by
          intro q
          have h3 := Int32.lt_iff_toInt_lt.mp q
          have h4 := Int32.le_iff_toInt_le.mp hx
          have h5 : ¬ x.toInt = -1 := fun q => h1 (Int32.toInt_inj.mp (q.trans (by decide)))
          have e1 : (-1 : Int32).toInt = -1 := by decide
          have e0 : (0 : Int32).toInt = 0 := by decide
          omega
        obtain ⟨k, hk, rfl⟩ := nI_of h0
        rw [nI_ltI hk (by omega)] at h2
        have e := hout k _ (List.getElem?_eq_getElem h2)
        have e3 : (text σ.1.1).getD k 0 = (text σ.1.1)[k] := by rw [List.getD_eq_getElem?_getD, List.getElem?_eq_getElem h2]; rfl
        rw [cN_n hk, e3] at hQ
        simp (discharger := omega) only [am_kr_n, e114_16, e114_17, e114_18, e114_21, e114_22, e114_25, e114_28, e114_29, e114_30, e114_33, e114_36, e114_37, e114_40, e114_41, e114_42, e114_45, e114_46, mg_0, mg_1, mg_2, mg_3, mg_4, mg_5, mg_6, mg_7, mg_8, mg_9, mg_10, mg_11, mg_12, mg_13, mg_14, mg_15, mg_16, mg_17, mg_18, mg_19, mg_20, mg_21, mg_22, mp_2, mp_5, mp_7, mp_9, mp_10, mp_12, mp_14, mp_18, mp_19, mp_22, ml_0, ml_1, ml_3, ml_4, ml_6, ml_8, ml_11, ml_13, ml_15, ml_16, ml_17, ml_20, ml_21, ms_0, ms_1, ms_3, ms_4, ms_6, ms_8, ms_11, ms_13, ms_15, ms_16, ms_17, ms_20, ms_21, upm_s, upm_n, pk_us, pk_un, upd_up, seA_s, seA_n, svA_n, svI_n, n_rem, d_le_t, d_le_f, d_lt_t, d_lt_f, d_eq_t, d_eq_f, d_eq0_t, d_eq0_f, d_gt0_t, d_gt0_f, d_le0_t, d_le0_f, i_lt0, i_ge0, i_ne1, am_in_t, i_div, i_rem, nI_add, nI_mul, nI_sub, nI_m1, nI_clamp, eq_self, am_kr_s, am_kr_n, w8_nil, w8_c, w8_a, w8_0, ct_i, ct_r, ct_n, ct_k, ct_l, true_and, and_true, ↓reduceIte, Nat.reduceAdd, Nat.reduceMul, Nat.reduceSub, Nat.reduceLeDiff, Nat.reduceLT, Nat.reduceDiv, Nat.reduceMod, Nat.reduceEqDiff, ne_eq, not_false_eq_true, not_true_eq_false, reduceCtorEq, mr58_4, mr59_2, mr62_2, mr63_2, mr64_2, mr65_2, mr66_2, mr67_2, mr68_2, mr69_2, mr70_2, mr71_2, mr72_2, mr73_2, mr74_2, mr75_2, mr76_2, mr77_2, mr78_2, mr79_2, mr80_2, mr81_2, mr82_2, mr83_2, mr84_2, mr85_2, mr86_2, mr87_2, mr90_2, mr92_2, mr94_2, mr95_2, mr97_2, mr98_2, mr99_2, mr100_2, mr101_2, mr102_2, mr103_2, mr104_2, mr105_2, mr106_2, mr107_2, mr108_2, mr109_2, mr110_2, mr111_2, mr112_2, mr113_2, mr114_2, mr115_2, mr116_2, mr117_2, mr118_2, mr119_2, mr120_2, mr121_2, eq_false h1, h22, e]
        exact hQ _ _ hm'
      · rw [if_neg h2] at hQ
        have h3 : nI (text σ.1.1).length ≤ x := Int32.not_lt.mp h2
        simp (discharger := omega) only [am_kr_n, e114_16, e114_17, e114_18, e114_21, e114_22, e114_25, e114_28, e114_29, e114_30, e114_33, e114_36, e114_37, e114_40, e114_41, e114_42, e114_45, e114_46, mg_0, mg_1, mg_2, mg_3, mg_4, mg_5, mg_6, mg_7, mg_8, mg_9, mg_10, mg_11, mg_12, mg_13, mg_14, mg_15, mg_16, mg_17, mg_18, mg_19, mg_20, mg_21, mg_22, mp_2, mp_5, mp_7, mp_9, mp_10, mp_12, mp_14, mp_18, mp_19, mp_22, ml_0, ml_1, ml_3, ml_4, ml_6, ml_8, ml_11, ml_13, ml_15, ml_16, ml_17, ml_20, ml_21, ms_0, ms_1, ms_3, ms_4, ms_6, ms_8, ms_11, ms_13, ms_15, ms_16, ms_17, ms_20, ms_21, upm_s, upm_n, pk_us, pk_un, upd_up, seA_s, seA_n, svA_n, svI_n, n_rem, d_le_t, d_le_f, d_lt_t, d_lt_f, d_eq_t, d_eq_f, d_eq0_t, d_eq0_f, d_gt0_t, d_gt0_f, d_le0_t, d_le0_f, i_lt0, i_ge0, i_ne1, am_in_t, i_div, i_rem, nI_add, nI_mul, nI_sub, nI_m1, nI_clamp, eq_self, am_kr_s, am_kr_n, w8_nil, w8_c, w8_a, w8_0, ct_i, ct_r, ct_n, ct_k, ct_l, true_and, and_true, ↓reduceIte, Nat.reduceAdd, Nat.reduceMul, Nat.reduceSub, Nat.reduceLeDiff, Nat.reduceLT, Nat.reduceDiv, Nat.reduceMod, Nat.reduceEqDiff, ne_eq, not_false_eq_true, not_true_eq_false, reduceCtorEq, mr58_4, mr59_2, mr62_2, mr63_2, mr64_2, mr65_2, mr66_2, mr67_2, mr68_2, mr69_2, mr70_2, mr71_2, mr72_2, mr73_2, mr74_2, mr75_2, mr76_2, mr77_2, mr78_2, mr79_2, mr80_2, mr81_2, mr82_2, mr83_2, mr84_2, mr85_2, mr86_2, mr87_2, mr90_2, mr92_2, mr94_2, mr95_2, mr97_2, mr98_2, mr99_2, mr100_2, mr101_2, mr102_2, mr103_2, mr104_2, mr105_2, mr106_2, mr107_2, mr108_2, mr109_2, mr110_2, mr111_2, mr112_2, mr113_2, mr114_2, mr115_2, mr116_2, mr117_2, mr118_2, mr119_2, mr120_2, mr121_2, eq_false h1, h22, eq_true h3]
        exact hQ _ _ hm'
  · rw [if_neg hx] at hQ
    simp (discharger := omega) only [e114_0, e114_1, e114_2, e114_5, e114_6, e114_8, e114_11, e114_12, e114_13, e114_16, e114_17, e114_18, e114_21, e114_22, e114_25, e114_28, e114_29, e114_30, e114_33, e114_36, e114_37, e114_40, e114_41, e114_42, e114_45, e114_46, mg_0, mg_1, mg_2, mg_3, mg_4, mg_5, mg_6, mg_7, mg_8, mg_9, mg_10, mg_11, mg_12, mg_13, mg_14, mg_15, mg_16, mg_17, mg_18, mg_19, mg_20, mg_21, mg_22, mp_2, mp_5, mp_7, mp_9, mp_10, mp_12, mp_14, mp_18, mp_19, mp_22, ml_0, ml_1, ml_3, ml_4, ml_6, ml_8, ml_11, ml_13, ml_15, ml_16, ml_17, ml_20, ml_21, ms_0, ms_1, ms_3, ms_4, ms_6, ms_8, ms_11, ms_13, ms_15, ms_16, ms_17, ms_20, ms_21, upm_s, upm_n, pk_us, pk_un, upd_up, seA_s, seA_n, svA_n, svI_n, n_rem, d_le_t, d_le_f, d_lt_t, d_lt_f, d_eq_t, d_eq_f, d_eq0_t, d_eq0_f, d_gt0_t, d_gt0_f, d_le0_t, d_le0_f, i_lt0, i_ge0, i_ne1, am_in_t, i_div, i_rem, nI_add, nI_mul, nI_sub, nI_m1, nI_clamp, eq_self, am_kr_s, am_kr_n, w8_nil, w8_c, w8_a, w8_0, ct_i, ct_r, ct_n, ct_k, ct_l, true_and, and_true, ↓reduceIte, Nat.reduceAdd, Nat.reduceMul, Nat.reduceSub, Nat.reduceLeDiff, Nat.reduceLT, Nat.reduceDiv, Nat.reduceMod, Nat.reduceEqDiff, ne_eq, not_false_eq_true, not_true_eq_false, reduceCtorEq, mr58_4, mr59_2, mr62_2, mr63_2, mr64_2, mr65_2, mr66_2, mr67_2, mr68_2, mr69_2, mr70_2, mr71_2, mr72_2, mr73_2, mr74_2, mr75_2, mr76_2, mr77_2, mr78_2, mr79_2, mr80_2, mr81_2, mr82_2, mr83_2, mr84_2, mr85_2, mr86_2, mr87_2, mr90_2, mr92_2, mr94_2, mr95_2, mr97_2, mr98_2, mr99_2, mr100_2, mr101_2, mr102_2, mr103_2, mr104_2, mr105_2, mr106_2, mr107_2, mr108_2, mr109_2, mr110_2, mr111_2, mr112_2, mr113_2, mr114_2, mr115_2, mr116_2, mr117_2, mr118_2, mr119_2, mr120_2, mr121_2, eq_false hx, m64_2 hl]
    exact mQ_e2 hm hQ
theorem m111_l (hl : 84 ≤ h.length) (hM : mEnc (A 0) M T) (hw : wf M T) : ∀ r k n, k + r = M 148 → n ≤ k → wp S (d + 1) 111 4 [some (.ref 70), some (.int (nI n)), some (.int (nI k))] [] (mst h I A) Q = Q (.inl (some (.int (nI (n + cnt ((prog M).drop k))))), mst h I A) := by
  have h30 := hw.2.2.2.2.2.1
  intro r
  induction r with
  | zero =>
    intro k n hk hn
    rw [List.drop_eq_nil_of_le (by rw [prog_len]; omega)]
    simp (discharger := omega) only [e111_4, e111_5, e111_6, e111_9, e111_12, e111_13, e111_47, e111_48, mg_0, mg_1, mg_2, mg_3, mg_4, mg_5, mg_6, mg_7, mg_8, mg_9, mg_10, mg_11, mg_12, mg_13, mg_14, mg_15, mg_16, mg_17, mg_18, mg_19, mg_20, mg_21, mg_22, mp_2, mp_5, mp_7, mp_9, mp_10, mp_12, mp_14, mp_18, mp_19, mp_22, ml_0, ml_1, ml_3, ml_4, ml_6, ml_8, ml_11, ml_13, ml_15, ml_16, ml_17, ml_20, ml_21, ms_0, ms_1, ms_3, ms_4, ms_6, ms_8, ms_11, ms_13, ms_15, ms_16, ms_17, ms_20, ms_21, upm_s, upm_n, pk_us, pk_un, upd_up, seA_s, seA_n, svA_n, svI_n, n_rem, d_le_t, d_le_f, d_lt_t, d_lt_f, d_eq_t, d_eq_f, d_eq0_t, d_eq0_f, d_gt0_t, d_gt0_f, d_le0_t, d_le0_f, i_lt0, i_ge0, i_ne1, am_in_t, i_div, i_rem, nI_add, nI_mul, nI_sub, nI_m1, nI_clamp, eq_self, am_kr_s, am_kr_n, w8_nil, w8_c, w8_a, w8_0, ct_i, ct_r, ct_n, ct_k, ct_l, true_and, and_true, ↓reduceIte, Nat.reduceAdd, Nat.reduceMul, Nat.reduceSub, Nat.reduceLeDiff, Nat.reduceLT, Nat.reduceDiv, Nat.reduceMod, Nat.reduceEqDiff, ne_eq, not_false_eq_true, not_true_eq_false, reduceCtorEq, mr58_4, mr59_2, mr62_2, mr63_2, mr64_2, mr65_2, mr66_2, mr67_2, mr68_2, mr69_2, mr70_2, mr71_2, mr72_2, mr73_2, mr74_2, mr75_2, mr76_2, mr77_2, mr78_2, mr79_2, mr80_2, mr81_2, mr82_2, mr83_2, mr84_2, mr85_2, mr86_2, mr87_2, mr90_2, mr92_2, mr94_2, mr95_2, mr97_2, mr98_2, mr99_2, mr100_2, mr101_2, mr102_2, mr103_2, mr104_2, mr105_2, mr106_2, mr107_2, mr108_2, mr109_2, mr110_2, mr111_2, mr112_2, mr113_2, mr114_2, mr115_2, mr116_2, mr117_2, mr118_2, mr119_2, mr120_2, mr121_2, hM.M, cnt, Nat.add_zero]
  | succ r ih =>
    intro k n hk hn
    have htk := hw.2.2.2.2.2.2.2 _ (prog_mem (show k < M 148 by omega))
    have h6 := tOk_lt htk
    have hk6 : tk (M (149 + k)) < 2 ^ 31 := by unfold tk; omega
    rw [prog_at (by omega), cnt, e111_4]
    by_cases h3 : tk (M (149 + k)) = 3
    · rw [if_pos h3]
      simp (discharger := omega) only [e111_5, e111_6, e111_9, e111_12, e111_13, e111_16, e111_17, e111_18, e111_21, e111_24, e111_25, e111_26, e111_27, e111_30, e111_31, e111_34, e111_35, e111_38, e111_39, e111_40, e111_41, e111_44, mg_0, mg_1, mg_2, mg_3, mg_4, mg_5, mg_6, mg_7, mg_8, mg_9, mg_10, mg_11, mg_12, mg_13, mg_14, mg_15, mg_16, mg_17, mg_18, mg_19, mg_20, mg_21, mg_22, mp_2, mp_5, mp_7, mp_9, mp_10, mp_12, mp_14, mp_18, mp_19, mp_22, ml_0, ml_1, ml_3, ml_4, ml_6, ml_8, ml_11, ml_13, ml_15, ml_16, ml_17, ml_20, ml_21, ms_0, ms_1, ms_3, ms_4, ms_6, ms_8, ms_11, ms_13, ms_15, ms_16, ms_17, ms_20, ms_21, upm_s, upm_n, pk_us, pk_un, upd_up, seA_s, seA_n, svA_n, svI_n, n_rem, d_le_t, d_le_f, d_lt_t, d_lt_f, d_eq_t, d_eq_f, d_eq0_t, d_eq0_f, d_gt0_t, d_gt0_f, d_le0_t, d_le0_f, i_lt0, i_ge0, i_ne1, am_in_t, i_div, i_rem, nI_add, nI_mul, nI_sub, nI_m1, nI_clamp, eq_self, am_kr_s, am_kr_n, w8_nil, w8_c, w8_a, w8_0, ct_i, ct_r, ct_n, ct_k, ct_l, true_and, and_true, ↓reduceIte, Nat.reduceAdd, Nat.reduceMul, Nat.reduceSub, Nat.reduceLeDiff, Nat.reduceLT, Nat.reduceDiv, Nat.reduceMod, Nat.reduceEqDiff, ne_eq, not_false_eq_true, not_true_eq_false, reduceCtorEq, mr58_4, mr59_2, mr62_2, mr63_2, mr64_2, mr65_2, mr66_2, mr67_2, mr68_2, mr69_2, mr70_2, mr71_2, mr72_2, mr73_2, mr74_2, mr75_2, mr76_2, mr77_2, mr78_2, mr79_2, mr80_2, mr81_2, mr82_2, mr83_2, mr84_2, mr85_2, mr86_2, mr87_2, mr90_2, mr92_2, mr94_2, mr95_2, mr97_2, mr98_2, mr99_2, mr100_2, mr101_2, mr102_2, mr103_2, mr104_2, mr105_2, mr106_2, mr107_2, mr108_2, mr109_2, mr110_2, mr111_2, mr112_2, mr113_2, mr114_2, mr115_2, mr116_2, mr117_2, mr118_2, mr119_2, mr120_2, mr121_2, hM.M, m91]
      rw [ih (k + 1) (n + 1) (by omega) (by omega), Nat.add_assoc]
    · rw [if_neg h3]
      simp (discharger := omega) only [e111_5, e111_6, e111_9, e111_12, e111_13, e111_16, e111_17, e111_18, e111_21, e111_24, e111_25, e111_26, e111_27, e111_30, e111_31, e111_34, e111_35, e111_38, e111_39, e111_40, e111_41, e111_44, mg_0, mg_1, mg_2, mg_3, mg_4, mg_5, mg_6, mg_7, mg_8, mg_9, mg_10, mg_11, mg_12, mg_13, mg_14, mg_15, mg_16, mg_17, mg_18, mg_19, mg_20, mg_21, mg_22, mp_2, mp_5, mp_7, mp_9, mp_10, mp_12, mp_14, mp_18, mp_19, mp_22, ml_0, ml_1, ml_3, ml_4, ml_6, ml_8, ml_11, ml_13, ml_15, ml_16, ml_17, ml_20, ml_21, ms_0, ms_1, ms_3, ms_4, ms_6, ms_8, ms_11, ms_13, ms_15, ms_16, ms_17, ms_20, ms_21, upm_s, upm_n, pk_us, pk_un, upd_up, seA_s, seA_n, svA_n, svI_n, n_rem, d_le_t, d_le_f, d_lt_t, d_lt_f, d_eq_t, d_eq_f, d_eq0_t, d_eq0_f, d_gt0_t, d_gt0_f, d_le0_t, d_le0_f, i_lt0, i_ge0, i_ne1, am_in_t, i_div, i_rem, nI_add, nI_mul, nI_sub, nI_m1, nI_clamp, eq_self, am_kr_s, am_kr_n, w8_nil, w8_c, w8_a, w8_0, ct_i, ct_r, ct_n, ct_k, ct_l, true_and, and_true, ↓reduceIte, Nat.reduceAdd, Nat.reduceMul, Nat.reduceSub, Nat.reduceLeDiff, Nat.reduceLT, Nat.reduceDiv, Nat.reduceMod, Nat.reduceEqDiff, ne_eq, not_false_eq_true, not_true_eq_false, reduceCtorEq, mr58_4, mr59_2, mr62_2, mr63_2, mr64_2, mr65_2, mr66_2, mr67_2, mr68_2, mr69_2, mr70_2, mr71_2, mr72_2, mr73_2, mr74_2, mr75_2, mr76_2, mr77_2, mr78_2, mr79_2, mr80_2, mr81_2, mr82_2, mr83_2, mr84_2, mr85_2, mr86_2, mr87_2, mr90_2, mr92_2, mr94_2, mr95_2, mr97_2, mr98_2, mr99_2, mr100_2, mr101_2, mr102_2, mr103_2, mr104_2, mr105_2, mr106_2, mr107_2, mr108_2, mr109_2, mr110_2, mr111_2, mr112_2, mr113_2, mr114_2, mr115_2, mr116_2, mr117_2, mr118_2, mr119_2, mr120_2, mr121_2, hM.M, m91, Nat.add_zero, Nat.zero_add]
      rw [ih (k + 1) n (by omega) (by omega)]
theorem m111 (hl : 84 ≤ h.length) (hM : mEnc (A 0) M T) (hw : wf M T) : wp S (d + 1) 111 0 [some (.ref 70), none, none] [] (mst h I A) Q = Q (.inl (some (.int (nI (cnt (prog M))))), mst h I A) := by
  simp (discharger := omega) only [e111_0, e111_1, e111_2, e111_3]
  rw [m111_l hl hM hw (M 148) 0 0 (by omega) (by omega), List.drop_zero, Nat.zero_add]
theorem M_sit (hl : 84 ≤ h.length) (hm : MR I A σ) (hw : wfs σ) (hQ : mQ h Q (sp_sit σ)) : wp S (d + 2) 110 0 [some (.ref 70)] [] (mst h I A) Q := by
  simp (discharger := omega) only [e110_0, e110_1, e110_4, mg_0, mg_1, mg_2, mg_3, mg_4, mg_5, mg_6, mg_7, mg_8, mg_9, mg_10, mg_11, mg_12, mg_13, mg_14, mg_15, mg_16, mg_17, mg_18, mg_19, mg_20, mg_21, mg_22, mp_2, mp_5, mp_7, mp_9, mp_10, mp_12, mp_14, mp_18, mp_19, mp_22, ml_0, ml_1, ml_3, ml_4, ml_6, ml_8, ml_11, ml_13, ml_15, ml_16, ml_17, ml_20, ml_21, ms_0, ms_1, ms_3, ms_4, ms_6, ms_8, ms_11, ms_13, ms_15, ms_16, ms_17, ms_20, ms_21, upm_s, upm_n, pk_us, pk_un, upd_up, seA_s, seA_n, svA_n, svI_n, n_rem, d_le_t, d_le_f, d_lt_t, d_lt_f, d_eq_t, d_eq_f, d_eq0_t, d_eq0_f, d_gt0_t, d_gt0_f, d_le0_t, d_le0_f, i_lt0, i_ge0, i_ne1, am_in_t, i_div, i_rem, nI_add, nI_mul, nI_sub, nI_m1, nI_clamp, eq_self, am_kr_s, am_kr_n, w8_nil, w8_c, w8_a, w8_0, ct_i, ct_r, ct_n, ct_k, ct_l, true_and, and_true, ↓reduceIte, Nat.reduceAdd, Nat.reduceMul, Nat.reduceSub, Nat.reduceLeDiff, Nat.reduceLT, Nat.reduceDiv, Nat.reduceMod, Nat.reduceEqDiff, ne_eq, not_false_eq_true, not_true_eq_false, reduceCtorEq, mr58_4, mr59_2, mr62_2, mr63_2, mr64_2, mr65_2, mr66_2, mr67_2, mr68_2, mr69_2, mr70_2, mr71_2, mr72_2, mr73_2, mr74_2, mr75_2, mr76_2, mr77_2, mr78_2, mr79_2, mr80_2, mr81_2, mr82_2, mr83_2, mr84_2, mr85_2, mr86_2, mr87_2, mr90_2, mr92_2, mr94_2, mr95_2, mr97_2, mr98_2, mr99_2, mr100_2, mr101_2, mr102_2, mr103_2, mr104_2, mr105_2, mr106_2, mr107_2, mr108_2, mr109_2, mr110_2, mr111_2, mr112_2, mr113_2, mr114_2, mr115_2, mr116_2, mr117_2, mr118_2, mr119_2, mr120_2, mr121_2, m111 hl hm.1 hw.1]
  exact hQ _ _ hm
theorem m113_i (hl : 84 ≤ h.length) (hM : mEnc (A 0) M T) {a1 a2 a4 : Option Value} {t a : Nat} (ht : t < 60000) (ha : a + 6 < 117) (hta : ta t ≤ 4) : ∀ (r j v : Nat) (s : List Nat), j + r = ta t → r ≤ s.length → s.length ≤ 30 → stk (A 20) s → wp S (d + 1) 113 126 [some (.ref 70), a1, a2, some (.int (nI s.length)), a4, some (.int (nI t)), some (.int (nI v)), some (.int (nI (a + 2))), some (.int (nI j))] [] (mst h I A) Q = wp S (d + 1) 113 169 [some (.ref 70), a1, a2, some (.int (nI (s.length - r))), a4, some (.int (nI t)), some (.int (nI (v + vs M a j r s))), some (.int (nI (a + 2))), some (.int (nI (ta t)))] [] (mst h I A) Q := by
  intro r
  induction r with
  | zero =>
    intro j v s hj hs h30 hst
    have hj : j = ta t := by omega
    subst hj
    simp (discharger := omega) only [e113_126, e113_128, e113_130, e113_133, mg_0, mg_1, mg_2, mg_3, mg_4, mg_5, mg_6, mg_7, mg_8, mg_9, mg_10, mg_11, mg_12, mg_13, mg_14, mg_15, mg_16, mg_17, mg_18, mg_19, mg_20, mg_21, mg_22, mp_2, mp_5, mp_7, mp_9, mp_10, mp_12, mp_14, mp_18, mp_19, mp_22, ml_0, ml_1, ml_3, ml_4, ml_6, ml_8, ml_11, ml_13, ml_15, ml_16, ml_17, ml_20, ml_21, ms_0, ms_1, ms_3, ms_4, ms_6, ms_8, ms_11, ms_13, ms_15, ms_16, ms_17, ms_20, ms_21, upm_s, upm_n, pk_us, pk_un, upd_up, seA_s, seA_n, svA_n, svI_n, n_rem, d_le_t, d_le_f, d_lt_t, d_lt_f, d_eq_t, d_eq_f, d_eq0_t, d_eq0_f, d_gt0_t, d_gt0_f, d_le0_t, d_le0_f, i_lt0, i_ge0, i_ne1, am_in_t, i_div, i_rem, nI_add, nI_mul, nI_sub, nI_m1, nI_clamp, eq_self, am_kr_s, am_kr_n, w8_nil, w8_c, w8_a, w8_0, ct_i, ct_r, ct_n, ct_k, ct_l, true_and, and_true, ↓reduceIte, Nat.reduceAdd, Nat.reduceMul, Nat.reduceSub, Nat.reduceLeDiff, Nat.reduceLT, Nat.reduceDiv, Nat.reduceMod, Nat.reduceEqDiff, ne_eq, not_false_eq_true, not_true_eq_false, reduceCtorEq, mr58_4, mr59_2, mr62_2, mr63_2, mr64_2, mr65_2, mr66_2, mr67_2, mr68_2, mr69_2, mr70_2, mr71_2, mr72_2, mr73_2, mr74_2, mr75_2, mr76_2, mr77_2, mr78_2, mr79_2, mr80_2, mr81_2, mr82_2, mr83_2, mr84_2, mr85_2, mr86_2, mr87_2, mr90_2, mr92_2, mr94_2, mr95_2, mr97_2, mr98_2, mr99_2, mr100_2, mr101_2, mr102_2, mr103_2, mr104_2, mr105_2, mr106_2, mr107_2, mr108_2, mr109_2, mr110_2, mr111_2, mr112_2, mr113_2, mr114_2, mr115_2, mr116_2, mr117_2, mr118_2, mr119_2, mr120_2, mr121_2, m96, vs, Nat.add_zero, Nat.sub_zero]
  | succ r ih =>
    intro j v s hj hs h30 hst
    cases s with
    | nil => simp at hs
    | cons w s =>
      have hl2 : (w :: s).length = s.length + 1 := rfl
      rw [hl2] at hs h30 ⊢
      rw [e113_126]
      simp (discharger := omega) only [e113_128, e113_130, e113_133, e113_136, e113_139, e113_141, e113_142, e113_145, e113_147, e113_148, e113_149, e113_151, e113_152, e113_153, e113_154, e113_157, e113_158, e113_159, e113_160, e113_161, e113_163, e113_166, mg_0, mg_1, mg_2, mg_3, mg_4, mg_5, mg_6, mg_7, mg_8, mg_9, mg_10, mg_11, mg_12, mg_13, mg_14, mg_15, mg_16, mg_17, mg_18, mg_19, mg_20, mg_21, mg_22, mp_2, mp_5, mp_7, mp_9, mp_10, mp_12, mp_14, mp_18, mp_19, mp_22, ml_0, ml_1, ml_3, ml_4, ml_6, ml_8, ml_11, ml_13, ml_15, ml_16, ml_17, ml_20, ml_21, ms_0, ms_1, ms_3, ms_4, ms_6, ms_8, ms_11, ms_13, ms_15, ms_16, ms_17, ms_20, ms_21, upm_s, upm_n, pk_us, pk_un, upd_up, seA_s, seA_n, svA_n, svI_n, n_rem, d_le_t, d_le_f, d_lt_t, d_lt_f, d_eq_t, d_eq_f, d_eq0_t, d_eq0_f, d_gt0_t, d_gt0_f, d_le0_t, d_le0_f, i_lt0, i_ge0, i_ne1, am_in_t, i_div, i_rem, nI_add, nI_mul, nI_sub, nI_m1, nI_clamp, eq_self, am_kr_s, am_kr_n, w8_nil, w8_c, w8_a, w8_0, ct_i, ct_r, ct_n, ct_k, ct_l, true_and, and_true, ↓reduceIte, Nat.reduceAdd, Nat.reduceMul, Nat.reduceSub, Nat.reduceLeDiff, Nat.reduceLT, Nat.reduceDiv, Nat.reduceMod, Nat.reduceEqDiff, ne_eq, not_false_eq_true, not_true_eq_false, reduceCtorEq, mr58_4, mr59_2, mr62_2, mr63_2, mr64_2, mr65_2, mr66_2, mr67_2, mr68_2, mr69_2, mr70_2, mr71_2, mr72_2, mr73_2, mr74_2, mr75_2, mr76_2, mr77_2, mr78_2, mr79_2, mr80_2, mr81_2, mr82_2, mr83_2, mr84_2, mr85_2, mr86_2, mr87_2, mr90_2, mr92_2, mr94_2, mr95_2, mr97_2, mr98_2, mr99_2, mr100_2, mr101_2, mr102_2, mr103_2, mr104_2, mr105_2, mr106_2, mr107_2, mr108_2, mr109_2, mr110_2, mr111_2, mr112_2, mr113_2, mr114_2, mr115_2, mr116_2, mr117_2, mr118_2, mr119_2, mr120_2, mr121_2, m96, hM.M, Nat.add_sub_cancel, hst.1]
      rw [ih (j + 1) _ s (by omega) (by omega) (by omega) hst.2]
      have e : vs M a j (r + 1) (w :: s) = M (a + 2 + 1 + j) * w + vs M a (j + 1) r s := rfl
      rw [e, Nat.add_assoc, show s.length + 1 - (r + 1) = s.length - r by omega]
theorem stk_drop {a : Nat → Int32} : ∀ {s : List Nat} {n : Nat}, stk a s → stk a (s.drop n) := by
  intro s
  induction s with
  | nil => intro n _; simp [stk]
  | cons w s ih =>
    intro n hs
    cases n with
    | zero => exact hs
    | succ n => exact ih hs.2
theorem m113_o (hl : 84 ≤ h.length) (hw : wf M T) {x y : Nat} (hx : x ≤ 999) (hy : y ≤ 999) : ∀ (r : Nat) (A : Nat → Nat → Int32) (a5 a6 a7 a8 : Option Value), r ≤ M 148 → mEnc (A 0) M T → stk (A 20) (vals M x y ((prog M).drop r)) → (∀ A', (∀ j, j ≠ 20 → A' j = A j) → Q (.inl (some (.int (nI ((vals M x y (prog M)).headD 0)))), mst h I A')) → wp S (d + 2) 113 45 [some (.ref 70), some (.int (nI x)), some (.int (nI y)), some (.int (nI (vals M x y ((prog M).drop r)).length)), some (.int (nI r - nI 1)), a5, a6, a7, a8] [] (mst h I A) Q := by
  have h30 := hw.2.2.2.2.2.1
  intro r
  induction r with
  | zero =>
    intro A a5 a6 a7 a8 hr hM hst hQ
    rw [List.drop_zero] at hst
    have hv := vals_len (M := M) (x := x) (y := y) _ _ hw.2.2.2.2.2.2.1
    obtain ⟨v, hv2⟩ := List.length_eq_one_iff.mp hv
    rw [hv2] at hst hQ
    have h0 : A 20 0 = nI v := hst.1
    have e : (nI 0 - nI 1 : Int32) < 0 := by decide
    simp (discharger := omega) only [e113_45, e113_47, e113_190, e113_191, e113_194, e113_195, e113_196, mg_0, mg_1, mg_2, mg_3, mg_4, mg_5, mg_6, mg_7, mg_8, mg_9, mg_10, mg_11, mg_12, mg_13, mg_14, mg_15, mg_16, mg_17, mg_18, mg_19, mg_20, mg_21, mg_22, mp_2, mp_5, mp_7, mp_9, mp_10, mp_12, mp_14, mp_18, mp_19, mp_22, ml_0, ml_1, ml_3, ml_4, ml_6, ml_8, ml_11, ml_13, ml_15, ml_16, ml_17, ml_20, ml_21, ms_0, ms_1, ms_3, ms_4, ms_6, ms_8, ms_11, ms_13, ms_15, ms_16, ms_17, ms_20, ms_21, upm_s, upm_n, pk_us, pk_un, upd_up, seA_s, seA_n, svA_n, svI_n, n_rem, d_le_t, d_le_f, d_lt_t, d_lt_f, d_eq_t, d_eq_f, d_eq0_t, d_eq0_f, d_gt0_t, d_gt0_f, d_le0_t, d_le0_f, i_lt0, i_ge0, i_ne1, am_in_t, i_div, i_rem, nI_add, nI_mul, nI_sub, nI_m1, nI_clamp, eq_self, am_kr_s, am_kr_n, w8_nil, w8_c, w8_a, w8_0, ct_i, ct_r, ct_n, ct_k, ct_l, true_and, and_true, ↓reduceIte, Nat.reduceAdd, Nat.reduceMul, Nat.reduceSub, Nat.reduceLeDiff, Nat.reduceLT, Nat.reduceDiv, Nat.reduceMod, Nat.reduceEqDiff, ne_eq, not_false_eq_true, not_true_eq_false, reduceCtorEq, mr58_4, mr59_2, mr62_2, mr63_2, mr64_2, mr65_2, mr66_2, mr67_2, mr68_2, mr69_2, mr70_2, mr71_2, mr72_2, mr73_2, mr74_2, mr75_2, mr76_2, mr77_2, mr78_2, mr79_2, mr80_2, mr81_2, mr82_2, mr83_2, mr84_2, mr85_2, mr86_2, mr87_2, mr90_2, mr92_2, mr94_2, mr95_2, mr97_2, mr98_2, mr99_2, mr100_2, mr101_2, mr102_2, mr103_2, mr104_2, mr105_2, mr106_2, mr107_2, mr108_2, mr109_2, mr110_2, mr111_2, mr112_2, mr113_2, mr114_2, mr115_2, mr116_2, mr117_2, mr118_2, mr119_2, mr120_2, mr121_2, eq_true e, h0]
    exact hQ A (fun _ _ => rfl)
  | succ r ih =>
    intro A a5 a6 a7 a8 hr hM hst hQ
    have htk := hw.2.2.2.2.2.2.2 _ (prog_mem (show r < M 148 by omega))
    have h6 := tOk_lt htk
    have hp := prog_at (M := M) (k := r) (by omega)
    obtain ⟨m, hm⟩ := need_drop (prog M) 1 r hw.2.2.2.2.2.2.1 (by rw [prog_len]; omega)
    have hlen1 := vals_len (M := M) (x := x) (y := y) _ _ hm
    have hmle := need_le _ _ hm
    rw [List.length_drop, prog_len] at hmle
    have hvlt := vals_lt (M := M) (x := x) (y := y) ((prog M).drop (r + 1))
    rw [hp] at hlen1
    have ih2 := ih
    rw [hp] at ih2
    have hlenS : ta (M (149 + r)) ≤ (vals M x y ((prog M).drop (r + 1))).length ∧ (vals M x y ((prog M).drop (r + 1))).length ≤ 30 := by
      rw [hp] at hm
      cases m with
      | zero => exact hm.elim
      | succ m =>
        have hm : need (m + ta (M (149 + r))) ((prog M).drop (r + 1)) := hm
        have h1 := vals_len (M := M) (x := x) (y := y) _ _ hm
        have h2 := need_le _ _ hm
        rw [List.length_drop, prog_len] at h2
        rw [h1]; omega
    generalize hs : vals M x y ((prog M).drop (r + 1)) = s at *
    generalize hte : M (149 + r) = t at *
    have hev : vals M x y (t :: (prog M).drop (r + 1)) = vOf M x y t s :: s.drop (ta t) := by rw [vals, hs]
    rw [hev] at ih2 hlen1
    have hlen2 : (s.drop (ta t)).length = s.length - ta t := List.length_drop
    rw [List.length_cons, hlen2] at hlen1
    have er : nI (r + 1) - nI 1 = nI r := by rw [nI_sub (by omega)]; rfl
    have em : nI r + -1 = nI r - nI 1 := by rw [Int32.sub_eq_add_neg]; rfl
    have hk6 : tk t < 2 ^ 31 := by unfold tk; omega
    have hwt : tw t < 1000 := by unfold tw; omega
    have fin : ∀ (v : Nat) (a7 a8 : Option Value), v < 2 ^ 31 → v % 1000 = vOf M x y t s → wp S (d + 2) 113 169 [some (.ref 70), some (.int (nI x)), some (.int (nI y)), some (.int (nI (s.length - ta t))), some (.int (nI r)), some (.int (nI t)), some (.int (nI v)), a7, a8] [] (mst h I A) Q := by
      intro v a7 a8 hv hve
      simp (discharger := omega) only [e113_169, e113_170, e113_173, e113_174, e113_176, e113_179, e113_180, e113_181, e113_184, e113_187, mg_0, mg_1, mg_2, mg_3, mg_4, mg_5, mg_6, mg_7, mg_8, mg_9, mg_10, mg_11, mg_12, mg_13, mg_14, mg_15, mg_16, mg_17, mg_18, mg_19, mg_20, mg_21, mg_22, mp_2, mp_5, mp_7, mp_9, mp_10, mp_12, mp_14, mp_18, mp_19, mp_22, ml_0, ml_1, ml_3, ml_4, ml_6, ml_8, ml_11, ml_13, ml_15, ml_16, ml_17, ml_20, ml_21, ms_0, ms_1, ms_3, ms_4, ms_6, ms_8, ms_11, ms_13, ms_15, ms_16, ms_17, ms_20, ms_21, upm_s, upm_n, pk_us, pk_un, upd_up, seA_s, seA_n, svA_n, svI_n, n_rem, d_le_t, d_le_f, d_lt_t, d_lt_f, d_eq_t, d_eq_f, d_eq0_t, d_eq0_f, d_gt0_t, d_gt0_f, d_le0_t, d_le0_f, i_lt0, i_ge0, i_ne1, am_in_t, i_div, i_rem, nI_add, nI_mul, nI_sub, nI_m1, nI_clamp, eq_self, am_kr_s, am_kr_n, w8_nil, w8_c, w8_a, w8_0, ct_i, ct_r, ct_n, ct_k, ct_l, true_and, and_true, ↓reduceIte, Nat.reduceAdd, Nat.reduceMul, Nat.reduceSub, Nat.reduceLeDiff, Nat.reduceLT, Nat.reduceDiv, Nat.reduceMod, Nat.reduceEqDiff, ne_eq, not_false_eq_true, not_true_eq_false, reduceCtorEq, mr58_4, mr59_2, mr62_2, mr63_2, mr64_2, mr65_2, mr66_2, mr67_2, mr68_2, mr69_2, mr70_2, mr71_2, mr72_2, mr73_2, mr74_2, mr75_2, mr76_2, mr77_2, mr78_2, mr79_2, mr80_2, mr81_2, mr82_2, mr83_2, mr84_2, mr85_2, mr86_2, mr87_2, mr90_2, mr92_2, mr94_2, mr95_2, mr97_2, mr98_2, mr99_2, mr100_2, mr101_2, mr102_2, mr103_2, mr104_2, mr105_2, mr106_2, mr107_2, mr108_2, mr109_2, mr110_2, mr111_2, mr112_2, mr113_2, mr114_2, mr115_2, mr116_2, mr117_2, mr118_2, mr119_2, mr120_2, mr121_2, hve, em]
      have h7 := ih2 (upm A 20 (s.length - ta t) (nI (vOf M x y t s))) (some (.int (nI t))) (some (.int (nI v))) a7 a8 (by omega) (by rw [upm_n (by decide)]; exact hM) ⟨by rw [upm_s, hlen2]; exact pk_us, by rw [upm_s]; exact stk_up (stk_drop hst) (by rw [hlen2]; exact Nat.le_refl _)⟩ (fun A' hA' => hQ A' (fun j hj => by rw [hA' j hj, upm_n hj]))
      rw [List.length_cons, hlen2] at h7
      exact h7
    rw [er, e113_45]
    by_cases k0 : tk t = 0
    · have hta0 : ta t = 0 := by unfold tOk at htk; omega
      have h8 := fin (tw t) a7 a8 (by omega) (by unfold vOf; rw [if_pos k0])
      rw [hta0, Nat.sub_zero] at h8
      simp (discharger := omega) only [e113_47, e113_50, e113_51, e113_54, e113_57, e113_59, e113_60, e113_61, e113_63, e113_65, e113_68, e113_71, e113_73, e113_76, e113_79, e113_81, e113_84, e113_85, e113_88, e113_89, e113_92, e113_93, e113_95, e113_97, e113_100, e113_101, mg_0, mg_1, mg_2, mg_3, mg_4, mg_5, mg_6, mg_7, mg_8, mg_9, mg_10, mg_11, mg_12, mg_13, mg_14, mg_15, mg_16, mg_17, mg_18, mg_19, mg_20, mg_21, mg_22, mp_2, mp_5, mp_7, mp_9, mp_10, mp_12, mp_14, mp_18, mp_19, mp_22, ml_0, ml_1, ml_3, ml_4, ml_6, ml_8, ml_11, ml_13, ml_15, ml_16, ml_17, ml_20, ml_21, ms_0, ms_1, ms_3, ms_4, ms_6, ms_8, ms_11, ms_13, ms_15, ms_16, ms_17, ms_20, ms_21, upm_s, upm_n, pk_us, pk_un, upd_up, seA_s, seA_n, svA_n, svI_n, n_rem, d_le_t, d_le_f, d_lt_t, d_lt_f, d_eq_t, d_eq_f, d_eq0_t, d_eq0_f, d_gt0_t, d_gt0_f, d_le0_t, d_le0_f, i_lt0, i_ge0, i_ne1, am_in_t, i_div, i_rem, nI_add, nI_mul, nI_sub, nI_m1, nI_clamp, eq_self, am_kr_s, am_kr_n, w8_nil, w8_c, w8_a, w8_0, ct_i, ct_r, ct_n, ct_k, ct_l, true_and, and_true, ↓reduceIte, Nat.reduceAdd, Nat.reduceMul, Nat.reduceSub, Nat.reduceLeDiff, Nat.reduceLT, Nat.reduceDiv, Nat.reduceMod, Nat.reduceEqDiff, ne_eq, not_false_eq_true, not_true_eq_false, reduceCtorEq, mr58_4, mr59_2, mr62_2, mr63_2, mr64_2, mr65_2, mr66_2, mr67_2, mr68_2, mr69_2, mr70_2, mr71_2, mr72_2, mr73_2, mr74_2, mr75_2, mr76_2, mr77_2, mr78_2, mr79_2, mr80_2, mr81_2, mr82_2, mr83_2, mr84_2, mr85_2, mr86_2, mr87_2, mr90_2, mr92_2, mr94_2, mr95_2, mr97_2, mr98_2, mr99_2, mr100_2, mr101_2, mr102_2, mr103_2, mr104_2, mr105_2, mr106_2, mr107_2, mr108_2, mr109_2, mr110_2, mr111_2, mr112_2, mr113_2, mr114_2, mr115_2, mr116_2, mr117_2, mr118_2, mr119_2, mr120_2, mr121_2, hM.M, hte, m91, m93, k0]
      exact h8
    · by_cases k1 : tk t = 1
      · have hta0 : ta t = 0 := by unfold tOk at htk; omega
        have h8 := fin x a7 a8 (by omega) (by unfold vOf; rw [if_neg k0, if_pos k1])
        rw [hta0, Nat.sub_zero] at h8
        simp (discharger := omega) only [e113_47, e113_50, e113_51, e113_54, e113_57, e113_59, e113_60, e113_61, e113_63, e113_65, e113_68, e113_71, e113_73, e113_76, e113_79, e113_81, e113_84, e113_85, e113_88, e113_89, e113_92, e113_93, e113_95, e113_97, e113_100, e113_101, mg_0, mg_1, mg_2, mg_3, mg_4, mg_5, mg_6, mg_7, mg_8, mg_9, mg_10, mg_11, mg_12, mg_13, mg_14, mg_15, mg_16, mg_17, mg_18, mg_19, mg_20, mg_21, mg_22, mp_2, mp_5, mp_7, mp_9, mp_10, mp_12, mp_14, mp_18, mp_19, mp_22, ml_0, ml_1, ml_3, ml_4, ml_6, ml_8, ml_11, ml_13, ml_15, ml_16, ml_17, ml_20, ml_21, ms_0, ms_1, ms_3, ms_4, ms_6, ms_8, ms_11, ms_13, ms_15, ms_16, ms_17, ms_20, ms_21, upm_s, upm_n, pk_us, pk_un, upd_up, seA_s, seA_n, svA_n, svI_n, n_rem, d_le_t, d_le_f, d_lt_t, d_lt_f, d_eq_t, d_eq_f, d_eq0_t, d_eq0_f, d_gt0_t, d_gt0_f, d_le0_t, d_le0_f, i_lt0, i_ge0, i_ne1, am_in_t, i_div, i_rem, nI_add, nI_mul, nI_sub, nI_m1, nI_clamp, eq_self, am_kr_s, am_kr_n, w8_nil, w8_c, w8_a, w8_0, ct_i, ct_r, ct_n, ct_k, ct_l, true_and, and_true, ↓reduceIte, Nat.reduceAdd, Nat.reduceMul, Nat.reduceSub, Nat.reduceLeDiff, Nat.reduceLT, Nat.reduceDiv, Nat.reduceMod, Nat.reduceEqDiff, ne_eq, not_false_eq_true, not_true_eq_false, reduceCtorEq, mr58_4, mr59_2, mr62_2, mr63_2, mr64_2, mr65_2, mr66_2, mr67_2, mr68_2, mr69_2, mr70_2, mr71_2, mr72_2, mr73_2, mr74_2, mr75_2, mr76_2, mr77_2, mr78_2, mr79_2, mr80_2, mr81_2, mr82_2, mr83_2, mr84_2, mr85_2, mr86_2, mr87_2, mr90_2, mr92_2, mr94_2, mr95_2, mr97_2, mr98_2, mr99_2, mr100_2, mr101_2, mr102_2, mr103_2, mr104_2, mr105_2, mr106_2, mr107_2, mr108_2, mr109_2, mr110_2, mr111_2, mr112_2, mr113_2, mr114_2, mr115_2, mr116_2, mr117_2, mr118_2, mr119_2, mr120_2, mr121_2, hM.M, hte, m91, m93, k1]
        exact h8
      · by_cases k2 : tk t = 2
        · have hta0 : ta t = 0 := by unfold tOk at htk; omega
          have h8 := fin y a7 a8 (by omega) (by unfold vOf; rw [if_neg k0, if_neg k1, if_pos k2])
          rw [hta0, Nat.sub_zero] at h8
          simp (discharger := omega) only [e113_47, e113_50, e113_51, e113_54, e113_57, e113_59, e113_60, e113_61, e113_63, e113_65, e113_68, e113_71, e113_73, e113_76, e113_79, e113_81, e113_84, e113_85, e113_88, e113_89, e113_92, e113_93, e113_95, e113_97, e113_100, e113_101, mg_0, mg_1, mg_2, mg_3, mg_4, mg_5, mg_6, mg_7, mg_8, mg_9, mg_10, mg_11, mg_12, mg_13, mg_14, mg_15, mg_16, mg_17, mg_18, mg_19, mg_20, mg_21, mg_22, mp_2, mp_5, mp_7, mp_9, mp_10, mp_12, mp_14, mp_18, mp_19, mp_22, ml_0, ml_1, ml_3, ml_4, ml_6, ml_8, ml_11, ml_13, ml_15, ml_16, ml_17, ml_20, ml_21, ms_0, ms_1, ms_3, ms_4, ms_6, ms_8, ms_11, ms_13, ms_15, ms_16, ms_17, ms_20, ms_21, upm_s, upm_n, pk_us, pk_un, upd_up, seA_s, seA_n, svA_n, svI_n, n_rem, d_le_t, d_le_f, d_lt_t, d_lt_f, d_eq_t, d_eq_f, d_eq0_t, d_eq0_f, d_gt0_t, d_gt0_f, d_le0_t, d_le0_f, i_lt0, i_ge0, i_ne1, am_in_t, i_div, i_rem, nI_add, nI_mul, nI_sub, nI_m1, nI_clamp, eq_self, am_kr_s, am_kr_n, w8_nil, w8_c, w8_a, w8_0, ct_i, ct_r, ct_n, ct_k, ct_l, true_and, and_true, ↓reduceIte, Nat.reduceAdd, Nat.reduceMul, Nat.reduceSub, Nat.reduceLeDiff, Nat.reduceLT, Nat.reduceDiv, Nat.reduceMod, Nat.reduceEqDiff, ne_eq, not_false_eq_true, not_true_eq_false, reduceCtorEq, mr58_4, mr59_2, mr62_2, mr63_2, mr64_2, mr65_2, mr66_2, mr67_2, mr68_2, mr69_2, mr70_2, mr71_2, mr72_2, mr73_2, mr74_2, mr75_2, mr76_2, mr77_2, mr78_2, mr79_2, mr80_2, mr81_2, mr82_2, mr83_2, mr84_2, mr85_2, mr86_2, mr87_2, mr90_2, mr92_2, mr94_2, mr95_2, mr97_2, mr98_2, mr99_2, mr100_2, mr101_2, mr102_2, mr103_2, mr104_2, mr105_2, mr106_2, mr107_2, mr108_2, mr109_2, mr110_2, mr111_2, mr112_2, mr113_2, mr114_2, mr115_2, mr116_2, mr117_2, mr118_2, mr119_2, mr120_2, mr121_2, hM.M, hte, m91, m93, k2]
          exact h8
        · have k3 : 2 < tk t := by omega
          obtain ⟨⟨f1, f2, f3⟩, f4, f5⟩ := fat_ok hw htk k3
          have hvs := vs_le (M := M) (a := fat t) (ta t) 0 s (fun i _ hi => by have := f3 (1 + i) (by omega); rw [← Nat.add_assoc] at this; exact this) hvlt
          have hc := f3 0 (by decide)
          rw [Nat.add_zero] at hc
          simp (discharger := omega) only [e113_47, e113_50, e113_51, e113_54, e113_57, e113_59, e113_60, e113_61, e113_63, e113_65, e113_68, e113_71, e113_73, e113_76, e113_79, e113_81, e113_84, e113_85, e113_88, e113_89, e113_92, e113_93, e113_95, e113_97, e113_100, e113_101, e113_104, e113_105, e113_107, e113_110, e113_111, e113_112, e113_114, e113_115, e113_118, e113_120, e113_121, e113_123, e113_124, mg_0, mg_1, mg_2, mg_3, mg_4, mg_5, mg_6, mg_7, mg_8, mg_9, mg_10, mg_11, mg_12, mg_13, mg_14, mg_15, mg_16, mg_17, mg_18, mg_19, mg_20, mg_21, mg_22, mp_2, mp_5, mp_7, mp_9, mp_10, mp_12, mp_14, mp_18, mp_19, mp_22, ml_0, ml_1, ml_3, ml_4, ml_6, ml_8, ml_11, ml_13, ml_15, ml_16, ml_17, ml_20, ml_21, ms_0, ms_1, ms_3, ms_4, ms_6, ms_8, ms_11, ms_13, ms_15, ms_16, ms_17, ms_20, ms_21, upm_s, upm_n, pk_us, pk_un, upd_up, seA_s, seA_n, svA_n, svI_n, n_rem, d_le_t, d_le_f, d_lt_t, d_lt_f, d_eq_t, d_eq_f, d_eq0_t, d_eq0_f, d_gt0_t, d_gt0_f, d_le0_t, d_le0_f, i_lt0, i_ge0, i_ne1, am_in_t, i_div, i_rem, nI_add, nI_mul, nI_sub, nI_m1, nI_clamp, eq_self, am_kr_s, am_kr_n, w8_nil, w8_c, w8_a, w8_0, ct_i, ct_r, ct_n, ct_k, ct_l, true_and, and_true, ↓reduceIte, Nat.reduceAdd, Nat.reduceMul, Nat.reduceSub, Nat.reduceLeDiff, Nat.reduceLT, Nat.reduceDiv, Nat.reduceMod, Nat.reduceEqDiff, ne_eq, not_false_eq_true, not_true_eq_false, reduceCtorEq, mr58_4, mr59_2, mr62_2, mr63_2, mr64_2, mr65_2, mr66_2, mr67_2, mr68_2, mr69_2, mr70_2, mr71_2, mr72_2, mr73_2, mr74_2, mr75_2, mr76_2, mr77_2, mr78_2, mr79_2, mr80_2, mr81_2, mr82_2, mr83_2, mr84_2, mr85_2, mr86_2, mr87_2, mr90_2, mr92_2, mr94_2, mr95_2, mr97_2, mr98_2, mr99_2, mr100_2, mr101_2, mr102_2, mr103_2, mr104_2, mr105_2, mr106_2, mr107_2, mr108_2, mr109_2, mr110_2, mr111_2, mr112_2, mr113_2, mr114_2, mr115_2, mr116_2, mr117_2, mr118_2, mr119_2, mr120_2, mr121_2, hM.M, hte, m91, m92]
          have h9 := m113_i (S := S) (d := d + 1) (Q := Q) (I := I) hl hM (a1 := some (.int (nI x))) (a2 := some (.int (nI y))) (a4 := some (.int (nI r))) h6 f4 f5 (ta t) 0 (M (fat t + 2)) s (by omega) hlenS.1 hlenS.2 hst
          rw [h9]
          exact fin _ _ _ (by omega) (by unfold vOf; rw [if_neg k0, if_neg k1, if_neg k2])
theorem M_val (hl : 84 ≤ h.length) (hm : MR I A σ) (hw : wfs σ) (hQ : mQ h Q (sp_val x y σ)) : wp S (d + 2) 113 0 [some (.ref 70), some (.int x), some (.int y), none, none, none, none, none, none] [] (mst h I A) Q := by
  unfold sp_val at hQ
  have h30 := hw.1.2.2.2.2.2.1
  by_cases hx : rg x 0 999
  · by_cases hy : rg y 0 999
    · rw [if_pos ⟨hx, hy⟩] at hQ
      simp (discharger := omega) only [e113_0, e113_1, e113_2, e113_3, e113_6, e113_9, e113_12, e113_13, e113_14, e113_15, e113_18, e113_21, e113_24, e113_25, e113_27, e113_30, mg_0, mg_1, mg_2, mg_3, mg_4, mg_5, mg_6, mg_7, mg_8, mg_9, mg_10, mg_11, mg_12, mg_13, mg_14, mg_15, mg_16, mg_17, mg_18, mg_19, mg_20, mg_21, mg_22, mp_2, mp_5, mp_7, mp_9, mp_10, mp_12, mp_14, mp_18, mp_19, mp_22, ml_0, ml_1, ml_3, ml_4, ml_6, ml_8, ml_11, ml_13, ml_15, ml_16, ml_17, ml_20, ml_21, ms_0, ms_1, ms_3, ms_4, ms_6, ms_8, ms_11, ms_13, ms_15, ms_16, ms_17, ms_20, ms_21, upm_s, upm_n, pk_us, pk_un, upd_up, seA_s, seA_n, svA_n, svI_n, n_rem, d_le_t, d_le_f, d_lt_t, d_lt_f, d_eq_t, d_eq_f, d_eq0_t, d_eq0_f, d_gt0_t, d_gt0_f, d_le0_t, d_le0_f, i_lt0, i_ge0, i_ne1, am_in_t, i_div, i_rem, nI_add, nI_mul, nI_sub, nI_m1, nI_clamp, eq_self, am_kr_s, am_kr_n, w8_nil, w8_c, w8_a, w8_0, ct_i, ct_r, ct_n, ct_k, ct_l, true_and, and_true, ↓reduceIte, Nat.reduceAdd, Nat.reduceMul, Nat.reduceSub, Nat.reduceLeDiff, Nat.reduceLT, Nat.reduceDiv, Nat.reduceMod, Nat.reduceEqDiff, ne_eq, not_false_eq_true, not_true_eq_false, reduceCtorEq, mr58_4, mr59_2, mr62_2, mr63_2, mr64_2, mr65_2, mr66_2, mr67_2, mr68_2, mr69_2, mr70_2, mr71_2, mr72_2, mr73_2, mr74_2, mr75_2, mr76_2, mr77_2, mr78_2, mr79_2, mr80_2, mr81_2, mr82_2, mr83_2, mr84_2, mr85_2, mr86_2, mr87_2, mr90_2, mr92_2, mr94_2, mr95_2, mr97_2, mr98_2, mr99_2, mr100_2, mr101_2, mr102_2, mr103_2, mr104_2, mr105_2, mr106_2, mr107_2, mr108_2, mr109_2, mr110_2, mr111_2, mr112_2, mr113_2, mr114_2, mr115_2, mr116_2, mr117_2, mr118_2, mr119_2, mr120_2, mr121_2, m61, rg_t hx, rg_t hy, decide_true, bi_t]
      obtain ⟨a, ha, rfl⟩ := nI_lo (by decide) hx
      obtain ⟨b, hb, rfl⟩ := nI_lo (by decide) hy
      simp (discharger := omega) only [cN_n] at hQ
      have e0 : (prog σ.1.1).drop (σ.1.1 148) = [] := List.drop_eq_nil_of_le (by rw [prog_len]; exact Nat.le_refl _)
      have h1 := m113_o (S := S) (d := d) (Q := Q) (I := I) (h := h) hl hw.1 ha hb (σ.1.1 148) A none none none none (Nat.le_refl _) hm.1 (by rw [e0]; trivial) (fun A' hA' => hQ _ _ (MR_fr hm (fun _ _ => rfl) (fun j q => hA' j (by omega))))
      rw [e0] at h1
      have e1 : (vals σ.1.1 a b []).length = 0 := rfl
      rw [e1, nI_sub (by omega)] at h1
      simp (discharger := omega) only [e113_31, e113_32, e113_33, e113_34, e113_37, e113_40, e113_41, e113_42, e113_43, mg_0, mg_1, mg_2, mg_3, mg_4, mg_5, mg_6, mg_7, mg_8, mg_9, mg_10, mg_11, mg_12, mg_13, mg_14, mg_15, mg_16, mg_17, mg_18, mg_19, mg_20, mg_21, mg_22, mp_2, mp_5, mp_7, mp_9, mp_10, mp_12, mp_14, mp_18, mp_19, mp_22, ml_0, ml_1, ml_3, ml_4, ml_6, ml_8, ml_11, ml_13, ml_15, ml_16, ml_17, ml_20, ml_21, ms_0, ms_1, ms_3, ms_4, ms_6, ms_8, ms_11, ms_13, ms_15, ms_16, ms_17, ms_20, ms_21, upm_s, upm_n, pk_us, pk_un, upd_up, seA_s, seA_n, svA_n, svI_n, n_rem, d_le_t, d_le_f, d_lt_t, d_lt_f, d_eq_t, d_eq_f, d_eq0_t, d_eq0_f, d_gt0_t, d_gt0_f, d_le0_t, d_le0_f, i_lt0, i_ge0, i_ne1, am_in_t, i_div, i_rem, nI_add, nI_mul, nI_sub, nI_m1, nI_clamp, eq_self, am_kr_s, am_kr_n, w8_nil, w8_c, w8_a, w8_0, ct_i, ct_r, ct_n, ct_k, ct_l, true_and, and_true, ↓reduceIte, Nat.reduceAdd, Nat.reduceMul, Nat.reduceSub, Nat.reduceLeDiff, Nat.reduceLT, Nat.reduceDiv, Nat.reduceMod, Nat.reduceEqDiff, ne_eq, not_false_eq_true, not_true_eq_false, reduceCtorEq, mr58_4, mr59_2, mr62_2, mr63_2, mr64_2, mr65_2, mr66_2, mr67_2, mr68_2, mr69_2, mr70_2, mr71_2, mr72_2, mr73_2, mr74_2, mr75_2, mr76_2, mr77_2, mr78_2, mr79_2, mr80_2, mr81_2, mr82_2, mr83_2, mr84_2, mr85_2, mr86_2, mr87_2, mr90_2, mr92_2, mr94_2, mr95_2, mr97_2, mr98_2, mr99_2, mr100_2, mr101_2, mr102_2, mr103_2, mr104_2, mr105_2, mr106_2, mr107_2, mr108_2, mr109_2, mr110_2, mr111_2, mr112_2, mr113_2, mr114_2, mr115_2, mr116_2, mr117_2, mr118_2, mr119_2, mr120_2, mr121_2, hm.1.M]
      exact h1
    · rw [if_neg (fun q => hy q.2)] at hQ
      simp (discharger := omega) only [e113_0, e113_1, e113_2, e113_3, e113_6, e113_9, e113_12, e113_13, e113_14, e113_15, e113_18, e113_21, e113_24, e113_25, e113_27, e113_30, mg_0, mg_1, mg_2, mg_3, mg_4, mg_5, mg_6, mg_7, mg_8, mg_9, mg_10, mg_11, mg_12, mg_13, mg_14, mg_15, mg_16, mg_17, mg_18, mg_19, mg_20, mg_21, mg_22, mp_2, mp_5, mp_7, mp_9, mp_10, mp_12, mp_14, mp_18, mp_19, mp_22, ml_0, ml_1, ml_3, ml_4, ml_6, ml_8, ml_11, ml_13, ml_15, ml_16, ml_17, ml_20, ml_21, ms_0, ms_1, ms_3, ms_4, ms_6, ms_8, ms_11, ms_13, ms_15, ms_16, ms_17, ms_20, ms_21, upm_s, upm_n, pk_us, pk_un, upd_up, seA_s, seA_n, svA_n, svI_n, n_rem, d_le_t, d_le_f, d_lt_t, d_lt_f, d_eq_t, d_eq_f, d_eq0_t, d_eq0_f, d_gt0_t, d_gt0_f, d_le0_t, d_le0_f, i_lt0, i_ge0, i_ne1, am_in_t, i_div, i_rem, nI_add, nI_mul, nI_sub, nI_m1, nI_clamp, eq_self, am_kr_s, am_kr_n, w8_nil, w8_c, w8_a, w8_0, ct_i, ct_r, ct_n, ct_k, ct_l, true_and, and_true, ↓reduceIte, Nat.reduceAdd, Nat.reduceMul, Nat.reduceSub, Nat.reduceLeDiff, Nat.reduceLT, Nat.reduceDiv, Nat.reduceMod, Nat.reduceEqDiff, ne_eq, not_false_eq_true, not_true_eq_false, reduceCtorEq, mr58_4, mr59_2, mr62_2, mr63_2, mr64_2, mr65_2, mr66_2, mr67_2, mr68_2, mr69_2, mr70_2, mr71_2, mr72_2, mr73_2, mr74_2, mr75_2, mr76_2, mr77_2, mr78_2, mr79_2, mr80_2, mr81_2, mr82_2, mr83_2, mr84_2, mr85_2, mr86_2, mr87_2, mr90_2, mr92_2, mr94_2, mr95_2, mr97_2, mr98_2, mr99_2, mr100_2, mr101_2, mr102_2, mr103_2, mr104_2, mr105_2, mr106_2, mr107_2, mr108_2, mr109_2, mr110_2, mr111_2, mr112_2, mr113_2, mr114_2, mr115_2, mr116_2, mr117_2, mr118_2, mr119_2, mr120_2, mr121_2, m61, rg_t hx, rg_f hy, decide_true, decide_false, bi_t, bi_f, m64_2 hl]
      exact mQ_e2 hm hQ
  · rw [if_neg (fun q => hx q.1)] at hQ
    simp (discharger := omega) only [e113_0, e113_1, e113_2, e113_3, e113_6, e113_9, e113_12, e113_13, e113_14, e113_15, e113_18, e113_21, e113_24, e113_25, e113_27, e113_30, mg_0, mg_1, mg_2, mg_3, mg_4, mg_5, mg_6, mg_7, mg_8, mg_9, mg_10, mg_11, mg_12, mg_13, mg_14, mg_15, mg_16, mg_17, mg_18, mg_19, mg_20, mg_21, mg_22, mp_2, mp_5, mp_7, mp_9, mp_10, mp_12, mp_14, mp_18, mp_19, mp_22, ml_0, ml_1, ml_3, ml_4, ml_6, ml_8, ml_11, ml_13, ml_15, ml_16, ml_17, ml_20, ml_21, ms_0, ms_1, ms_3, ms_4, ms_6, ms_8, ms_11, ms_13, ms_15, ms_16, ms_17, ms_20, ms_21, upm_s, upm_n, pk_us, pk_un, upd_up, seA_s, seA_n, svA_n, svI_n, n_rem, d_le_t, d_le_f, d_lt_t, d_lt_f, d_eq_t, d_eq_f, d_eq0_t, d_eq0_f, d_gt0_t, d_gt0_f, d_le0_t, d_le0_f, i_lt0, i_ge0, i_ne1, am_in_t, i_div, i_rem, nI_add, nI_mul, nI_sub, nI_m1, nI_clamp, eq_self, am_kr_s, am_kr_n, w8_nil, w8_c, w8_a, w8_0, ct_i, ct_r, ct_n, ct_k, ct_l, true_and, and_true, ↓reduceIte, Nat.reduceAdd, Nat.reduceMul, Nat.reduceSub, Nat.reduceLeDiff, Nat.reduceLT, Nat.reduceDiv, Nat.reduceMod, Nat.reduceEqDiff, ne_eq, not_false_eq_true, not_true_eq_false, reduceCtorEq, mr58_4, mr59_2, mr62_2, mr63_2, mr64_2, mr65_2, mr66_2, mr67_2, mr68_2, mr69_2, mr70_2, mr71_2, mr72_2, mr73_2, mr74_2, mr75_2, mr76_2, mr77_2, mr78_2, mr79_2, mr80_2, mr81_2, mr82_2, mr83_2, mr84_2, mr85_2, mr86_2, mr87_2, mr90_2, mr92_2, mr94_2, mr95_2, mr97_2, mr98_2, mr99_2, mr100_2, mr101_2, mr102_2, mr103_2, mr104_2, mr105_2, mr106_2, mr107_2, mr108_2, mr109_2, mr110_2, mr111_2, mr112_2, mr113_2, mr114_2, mr115_2, mr116_2, mr117_2, mr118_2, mr119_2, mr120_2, mr121_2, m61, rg_f hx, decide_true, decide_false, bi_t, bi_f, m64_2 hl]
    exact mQ_e2 hm hQ
end MV
