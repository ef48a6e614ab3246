/-! migration: putsCall, adapterFor -/
def frM (I : Nat → Int32) (A : Nat → Nat → Int32) (I' : Nat → Int32) (A' : Nat → Nat → Int32) : Prop := (∀ j, j ≠ 12 → j ≠ 14 → j ≠ 19 → I' j = I j) ∧ ∀ j, j ≠ 11 → j ≠ 13 → j ≠ 15 → j ≠ 0 → A' j = A j
theorem ptR_drop {a : Nat → Int32} : ∀ {ps : List (List Nat)} {n : Nat}, ptR a ps → ptR a (ps.drop n) := by
  intro ps
  induction ps with
  | nil => intro n h; simpa using h
  | cons p ps ih =>
    intro n h
    cases n with
    | zero => exact h
    | succ n => exact ih h.2
theorem ptR_up {a : Nat → Int32} {k : Nat} {x : Int32} : ∀ {ps : List (List Nat)}, ptR a ps → ps.length < k → ptR (upd a k x) ps := by
  intro ps
  induction ps with
  | nil => intro h hk; have hk : 0 < k := by simpa using hk
           show upd a k x 0 = nI 0
           rw [pk_un (by omega)]; exact h
  | cons p ps ih =>
    intro h hk
    have hk : ps.length + 1 < k := hk
    exact ⟨by rw [pk_un (by omega)]; exact h.1, ih h.2 (by omega)⟩
theorem outR_ins {a : Nat → Int32} {x y : List Nat} {t : Nat} (h : outR a (x ++ y)) : outR (upd (fun j => if x.length < j ∧ j ≤ (x ++ y).length then a (j - 1) else a j) x.length (nI t)) (x ++ t :: y) := by
  intro i c hi
  have hlt := (List.getElem?_eq_some_iff.mp hi).1
  rw [List.length_append, List.length_cons] at hlt
  rw [upd_ap, List.length_append]
  by_cases q1 : i = x.length
  · rw [if_pos q1]
    subst q1
    simp at hi
    rw [hi]
  · rw [if_neg q1]
    by_cases q2 : x.length < i
    · rw [if_pos (by omega)]
      rw [List.getElem?_append_right (by omega)] at hi
      refine h _ _ ?_
      rw [List.getElem?_append_right (by omega)]
      rw [show i - x.length = (i - 1 - x.length) + 1 by omega, List.getElem?_cons_succ] at hi
      exact hi
    · rw [if_neg (by omega)]
      rw [List.getElem?_append_left (by omega)] at hi
      refine h _ _ ?_
      rw [List.getElem?_append_left (by omega)]
      exact hi
/-- the adapter for an old function: its number, the numbers then -/
def adM (M : Nat → Nat) (o : Nat) : Nat → Nat := fun i => if 84 + 8 * M 116 ≤ i ∧ i < 84 + 8 * M 116 + 7 then M (7 * o + (i - (84 + 8 * M 116))) else if i = 84 + 8 * M 116 + 7 then o else if i = 116 then M 116 + 1 else M i
def adO (M : Nat → Nat) (o : Nat) : Option (Nat × (Nat → Nat)) := if M 147 = 0 then none else match adp M o (M 116) with
  | some k => some (k, M)
  | none => if M 116 = 4 then none else some (M 116, adM M o)
section MJ
variable {S : am_S} {d : Nat} {h : am_H} {Q : am_Out → Prop} {I : Nat → Int32} {A : Nat → Nat → Int32} {M : Nat → Nat} {T : Nat → Option Nat} {ps : List (List Nat)} {o t : Nat}
theorem m99_l (hl : 84 ≤ h.length) {fr : Nat} {a1 a2 : Option Value} : ∀ m k A, k = fr + m → k < 30 → wp S d 99 23 [some (.ref 70), a1, a2, some (.int (nI fr)), some (.int (nI k))] [] (mst h I A) Q = wp S d 99 51 [some (.ref 70), a1, a2, some (.int (nI fr)), some (.int (nI fr))] [] (mst h I (seA A 11 (fun j => if fr < j ∧ j ≤ k then A 11 (j - 1) else A 11 j))) Q := by
  intro m
  induction m with
  | zero =>
    intro k A hk h30
    have hk : k = fr := by omega
    subst hk
    rw [seA_id (fun i => if_neg (by omega))]
    simp (discharger := omega) only [e99_23, e99_25, e99_26, mg_0, mg_1, mg_2, mg_3, mg_4, mg_5, mg_6, mg_7, mg_8, mg_9, mg_10, mg_11, mg_12, mg_13, mg_14, mg_15, mg_16, mg_17, mg_18, mg_19, mg_20, mg_21, mg_22, mp_2, mp_5, mp_7, mp_9, mp_10, mp_12, mp_14, mp_18, mp_19, mp_22, ml_0, ml_1, ml_3, ml_4, ml_6, ml_8, ml_11, ml_13, ml_15, ml_16, ml_17, ml_20, ml_21, ms_0, ms_1, ms_3, ms_4, ms_6, ms_8, ms_11, ms_13, ms_15, ms_16, ms_17, ms_20, ms_21, upm_s, upm_n, pk_us, pk_un, upd_up, seA_s, seA_n, svA_n, svI_n, n_rem, d_le_t, d_le_f, d_lt_t, d_lt_f, d_eq_t, d_eq_f, d_eq0_t, d_eq0_f, d_gt0_t, d_gt0_f, d_le0_t, d_le0_f, i_lt0, i_ge0, i_ne1, am_in_t, i_div, i_rem, nI_add, nI_mul, nI_sub, nI_m1, nI_clamp, eq_self, am_kr_s, am_kr_n, w8_nil, w8_c, w8_a, w8_0, ct_i, ct_r, ct_n, ct_k, ct_l, true_and, and_true, ↓reduceIte, Nat.reduceAdd, Nat.reduceMul, Nat.reduceSub, Nat.reduceLeDiff, Nat.reduceLT, Nat.reduceDiv, Nat.reduceMod, Nat.reduceEqDiff, ne_eq, not_false_eq_true, not_true_eq_false, reduceCtorEq]
  | succ m ih =>
    intro k A hk h30
    rw [e99_23]
    simp (discharger := omega) only [e99_25, e99_26, e99_29, e99_30, e99_33, e99_35, e99_36, e99_39, e99_41, e99_42, e99_43, e99_44, e99_45, e99_48, mg_0, mg_1, mg_2, mg_3, mg_4, mg_5, mg_6, mg_7, mg_8, mg_9, mg_10, mg_11, mg_12, mg_13, mg_14, mg_15, mg_16, mg_17, mg_18, mg_19, mg_20, mg_21, mg_22, mp_2, mp_5, mp_7, mp_9, mp_10, mp_12, mp_14, mp_18, mp_19, mp_22, ml_0, ml_1, ml_3, ml_4, ml_6, ml_8, ml_11, ml_13, ml_15, ml_16, ml_17, ml_20, ml_21, ms_0, ms_1, ms_3, ms_4, ms_6, ms_8, ms_11, ms_13, ms_15, ms_16, ms_17, ms_20, ms_21, upm_s, upm_n, pk_us, pk_un, upd_up, seA_s, seA_n, svA_n, svI_n, n_rem, d_le_t, d_le_f, d_lt_t, d_lt_f, d_eq_t, d_eq_f, d_eq0_t, d_eq0_f, d_gt0_t, d_gt0_f, d_le0_t, d_le0_f, i_lt0, i_ge0, i_ne1, am_in_t, i_div, i_rem, nI_add, nI_mul, nI_sub, nI_m1, nI_clamp, eq_self, am_kr_s, am_kr_n, w8_nil, w8_c, w8_a, w8_0, ct_i, ct_r, ct_n, ct_k, ct_l, true_and, and_true, ↓reduceIte, Nat.reduceAdd, Nat.reduceMul, Nat.reduceSub, Nat.reduceLeDiff, Nat.reduceLT, Nat.reduceDiv, Nat.reduceMod, Nat.reduceEqDiff, ne_eq, not_false_eq_true, not_true_eq_false, reduceCtorEq]
    rw [ih _ _ (by omega) (by omega), seA_up]
    intro j
    simp only [upd_ap, upm_s]
    by_cases q1 : j = k
    · rw [if_neg (by omega), if_pos q1, if_pos (by omega), q1]
    · by_cases q2 : fr < j ∧ j ≤ k - 1
      · rw [if_pos q2, if_neg (by omega), if_pos (by omega)]
      · rw [if_neg q2, if_neg q1, if_neg (by omega)]
theorem nI_asub {a b c : Nat} (h : c ≤ a) : nI a + (nI b - nI c) = nI (a - c + b) := by
  obtain ⟨e, rfl⟩ := Nat.exists_eq_add_of_le h
  rw [Nat.add_sub_cancel_left, ← nI_add, ← nI_add, Int32.sub_eq_add_neg, Int32.add_comm (nI c) (nI e), Int32.add_assoc, ← Int32.add_assoc (nI c), Int32.add_comm (nI c) (nI b), Int32.add_assoc, Int32.add_right_neg, Int32.add_zero]
theorem m99 (hl : 84 ≤ h.length) (hb : BR I A ps) (ht : t < 60000) (hle : ta t ≤ ps.length) (hps : ps.length < 31) (h0 : ps.length = 30 → 0 < ta t) (hfl : (fl ps).length < 30) (hQ : ∀ I' A', (∀ j, j ≠ 12 → j ≠ 14 → I' j = I j) → (∀ j, j ≠ 11 → j ≠ 13 → A' j = A j) → BR I' A' ((t :: fl (ps.take (ta t))) :: ps.drop (ta t)) → Q (.inl none, mst h I' A')) : wp S (d + 1) 99 0 [some (.ref 70), some (.int (nI t)), none, none, none] [] (mst h I A) Q := by
  have h1 := ptR_at ps (ta t) hb.2.2.1 hle
  have hsp := fl_drop ps (ta t)
  have hlen : (fl ps).length = (fl (ps.drop (ta t))).length + (fl (ps.take (ta t))).length := by rw [← List.length_append, ← hsp]
  have hta : ta t ≤ 9 := by unfold ta; omega
  have hdl : (ps.drop (ta t)).length = ps.length - ta t := List.length_drop
  simp (discharger := omega) only [e99_0, e99_1, e99_4, e99_5, e99_6, e99_9, e99_10, e99_13, e99_14, e99_15, e99_16, e99_17, e99_18, e99_21, mg_0, mg_1, mg_2, mg_3, mg_4, mg_5, mg_6, mg_7, mg_8, mg_9, mg_10, mg_11, mg_12, mg_13, mg_14, mg_15, mg_16, mg_17, mg_18, mg_19, mg_20, mg_21, mg_22, mp_2, mp_5, mp_7, mp_9, mp_10, mp_12, mp_14, mp_18, mp_19, mp_22, ml_0, ml_1, ml_3, ml_4, ml_6, ml_8, ml_11, ml_13, ml_15, ml_16, ml_17, ml_20, ml_21, ms_0, ms_1, ms_3, ms_4, ms_6, ms_8, ms_11, ms_13, ms_15, ms_16, ms_17, ms_20, ms_21, upm_s, upm_n, pk_us, pk_un, upd_up, seA_s, seA_n, svA_n, svI_n, n_rem, d_le_t, d_le_f, d_lt_t, d_lt_f, d_eq_t, d_eq_f, d_eq0_t, d_eq0_f, d_gt0_t, d_gt0_f, d_le0_t, d_le0_f, i_lt0, i_ge0, i_ne1, am_in_t, i_div, i_rem, nI_add, nI_mul, nI_sub, nI_m1, nI_clamp, eq_self, am_kr_s, am_kr_n, w8_nil, w8_c, w8_a, w8_0, ct_i, ct_r, ct_n, ct_k, ct_l, true_and, and_true, ↓reduceIte, Nat.reduceAdd, Nat.reduceMul, Nat.reduceSub, Nat.reduceLeDiff, Nat.reduceLT, Nat.reduceDiv, Nat.reduceMod, Nat.reduceEqDiff, ne_eq, not_false_eq_true, not_true_eq_false, reduceCtorEq, mr58_4, mr59_2, mr62_2, mr63_2, mr64_2, mr65_2, mr66_2, mr67_2, mr68_2, mr69_2, mr70_2, mr71_2, mr72_2, mr73_2, mr74_2, mr75_2, mr76_2, mr77_2, mr78_2, mr79_2, mr80_2, mr81_2, mr82_2, mr83_2, mr84_2, mr85_2, mr86_2, mr87_2, mr90_2, mr92_2, mr94_2, mr95_2, mr97_2, mr98_2, mr99_2, mr100_2, mr101_2, mr102_2, mr103_2, mr104_2, mr105_2, mr106_2, mr107_2, mr108_2, mr109_2, mr110_2, mr111_2, mr112_2, mr113_2, mr114_2, mr115_2, mr116_2, mr117_2, mr118_2, mr119_2, mr120_2, mr121_2, m96, hb.1, hb.2.1, h1]
  rw [m99_l hl (fl (ps.take (ta t))).length _ _ (by omega) (by omega)]
  have e2 := nI_asub (a := ps.length) (b := 1) hle
  simp (discharger := omega) only [e99_51, e99_52, e99_55, e99_56, e99_57, e99_58, e99_59, e99_59i, e99_60, e99_63, e99_64, e99_65, e99_68, e99_69, e99_69i, e99_70, e99_73, e99_74, e99_75, e99_76, e99_77, e99_80, e99_81, e99_84, e99_85, e99_88, e99_89, e99_92, e99_93, mg_0, mg_1, mg_2, mg_3, mg_4, mg_5, mg_6, mg_7, mg_8, mg_9, mg_10, mg_11, mg_12, mg_13, mg_14, mg_15, mg_16, mg_17, mg_18, mg_19, mg_20, mg_21, mg_22, mp_2, mp_5, mp_7, mp_9, mp_10, mp_12, mp_14, mp_18, mp_19, mp_22, ml_0, ml_1, ml_3, ml_4, ml_6, ml_8, ml_11, ml_13, ml_15, ml_16, ml_17, ml_20, ml_21, ms_0, ms_1, ms_3, ms_4, ms_6, ms_8, ms_11, ms_13, ms_15, ms_16, ms_17, ms_20, ms_21, upm_s, upm_n, pk_us, pk_un, upd_up, seA_s, seA_n, svA_n, svI_n, n_rem, d_le_t, d_le_f, d_lt_t, d_lt_f, d_eq_t, d_eq_f, d_eq0_t, d_eq0_f, d_gt0_t, d_gt0_f, d_le0_t, d_le0_f, i_lt0, i_ge0, i_ne1, am_in_t, i_div, i_rem, nI_add, nI_mul, nI_sub, nI_m1, nI_clamp, eq_self, am_kr_s, am_kr_n, w8_nil, w8_c, w8_a, w8_0, ct_i, ct_r, ct_n, ct_k, ct_l, true_and, and_true, ↓reduceIte, Nat.reduceAdd, Nat.reduceMul, Nat.reduceSub, Nat.reduceLeDiff, Nat.reduceLT, Nat.reduceDiv, Nat.reduceMod, Nat.reduceEqDiff, ne_eq, not_false_eq_true, not_true_eq_false, reduceCtorEq, mr58_4, mr59_2, mr62_2, mr63_2, mr64_2, mr65_2, mr66_2, mr67_2, mr68_2, mr69_2, mr70_2, mr71_2, mr72_2, mr73_2, mr74_2, mr75_2, mr76_2, mr77_2, mr78_2, mr79_2, mr80_2, mr81_2, mr82_2, mr83_2, mr84_2, mr85_2, mr86_2, mr87_2, mr90_2, mr92_2, mr94_2, mr95_2, mr97_2, mr98_2, mr99_2, mr100_2, mr101_2, mr102_2, mr103_2, mr104_2, mr105_2, mr106_2, mr107_2, mr108_2, mr109_2, mr110_2, mr111_2, mr112_2, mr113_2, mr114_2, mr115_2, mr116_2, mr117_2, mr118_2, mr119_2, mr120_2, mr121_2, hb.1, hb.2.1, e2]
  refine hQ _ _ (fun j q1 q2 => by rw [pk_un q2, pk_un q1]) (fun j q1 q2 => by rw [upm_n q2, upm_n q1, seA_n q1]) ⟨?_, ?_, ⟨?_, ?_⟩, ?_⟩
  · rw [pk_us, List.length_cons, hdl]
  · rw [pk_un (by decide), pk_us]
    show nI ((fl ps).length + 1) = nI (fl (ps.drop (ta t)) ++ t :: fl (ps.take (ta t))).length
    rw [List.length_append, List.length_cons, hlen, Nat.add_assoc]
  · rw [upm_s, hdl]
    show _ = nI (fl (ps.drop (ta t)) ++ t :: fl (ps.take (ta t))).length
    rw [pk_us, List.length_append, List.length_cons, hlen, Nat.add_assoc]
  · rw [upm_s]
    exact ptR_up (ptR_drop (by rw [upm_n (by decide), seA_n (by decide)]; exact hb.2.2.1)) (by rw [hdl]; omega)
  · rw [upm_n (by decide), upm_s, seA_s]
    show outR _ (fl (ps.drop (ta t)) ++ t :: fl (ps.take (ta t)))
    have h3 := hb.2.2.2
    rw [hsp] at h3
    have h4 := outR_ins (t := t) h3
    rw [← hsp] at h4
    exact h4
theorem m100_l (hl : 84 ≤ h.length) {a : Nat} {a2 : Option Value} (ha : a = 84 + 8 * M 116) (hc : M 116 < 4) (ho : o < 6) : ∀ r k A, k + r = 7 → wp S d 100 59 [some (.ref 70), some (.int (nI o)), a2, some (.int (nI a)), some (.int (nI k))] [] (mst h I A) Q = wp S d 100 95 [some (.ref 70), some (.int (nI o)), a2, some (.int (nI a)), some (.int (nI 7))] [] (mst h I (seA A 0 (fun j => if a + k ≤ j ∧ j < a + 7 then A 0 (7 * o + (j - a)) else A 0 j))) Q := by
  intro r
  induction r with
  | zero =>
    intro k A hk
    have hk : k = 7 := by omega
    subst hk
    rw [seA_id (fun i => if_neg (by omega))]
    simp (discharger := omega) only [e100_59, e100_61, e100_63, mg_0, mg_1, mg_2, mg_3, mg_4, mg_5, mg_6, mg_7, mg_8, mg_9, mg_10, mg_11, mg_12, mg_13, mg_14, mg_15, mg_16, mg_17, mg_18, mg_19, mg_20, mg_21, mg_22, mp_2, mp_5, mp_7, mp_9, mp_10, mp_12, mp_14, mp_18, mp_19, mp_22, ml_0, ml_1, ml_3, ml_4, ml_6, ml_8, ml_11, ml_13, ml_15, ml_16, ml_17, ml_20, ml_21, ms_0, ms_1, ms_3, ms_4, ms_6, ms_8, ms_11, ms_13, ms_15, ms_16, ms_17, ms_20, ms_21, upm_s, upm_n, pk_us, pk_un, upd_up, seA_s, seA_n, svA_n, svI_n, n_rem, d_le_t, d_le_f, d_lt_t, d_lt_f, d_eq_t, d_eq_f, d_eq0_t, d_eq0_f, d_gt0_t, d_gt0_f, d_le0_t, d_le0_f, i_lt0, i_ge0, i_ne1, am_in_t, i_div, i_rem, nI_add, nI_mul, nI_sub, nI_m1, nI_clamp, eq_self, am_kr_s, am_kr_n, w8_nil, w8_c, w8_a, w8_0, ct_i, ct_r, ct_n, ct_k, ct_l, true_and, and_true, ↓reduceIte, Nat.reduceAdd, Nat.reduceMul, Nat.reduceSub, Nat.reduceLeDiff, Nat.reduceLT, Nat.reduceDiv, Nat.reduceMod, Nat.reduceEqDiff, ne_eq, not_false_eq_true, not_true_eq_false, reduceCtorEq]
  | succ r ih =>
    intro k A hk
    rw [e100_59]
    simp (discharger := omega) only [e100_61, e100_63, e100_66, e100_67, e100_70, e100_71, e100_73, e100_74, e100_75, e100_78, e100_79, e100_81, e100_82, e100_83, e100_84, e100_86, e100_87, e100_88, e100_89, e100_92, mg_0, mg_1, mg_2, mg_3, mg_4, mg_5, mg_6, mg_7, mg_8, mg_9, mg_10, mg_11, mg_12, mg_13, mg_14, mg_15, mg_16, mg_17, mg_18, mg_19, mg_20, mg_21, mg_22, mp_2, mp_5, mp_7, mp_9, mp_10, mp_12, mp_14, mp_18, mp_19, mp_22, ml_0, ml_1, ml_3, ml_4, ml_6, ml_8, ml_11, ml_13, ml_15, ml_16, ml_17, ml_20, ml_21, ms_0, ms_1, ms_3, ms_4, ms_6, ms_8, ms_11, ms_13, ms_15, ms_16, ms_17, ms_20, ms_21, upm_s, upm_n, pk_us, pk_un, upd_up, seA_s, seA_n, svA_n, svI_n, n_rem, d_le_t, d_le_f, d_lt_t, d_lt_f, d_eq_t, d_eq_f, d_eq0_t, d_eq0_f, d_gt0_t, d_gt0_f, d_le0_t, d_le0_f, i_lt0, i_ge0, i_ne1, am_in_t, i_div, i_rem, nI_add, nI_mul, nI_sub, nI_m1, nI_clamp, eq_self, am_kr_s, am_kr_n, w8_nil, w8_c, w8_a, w8_0, ct_i, ct_r, ct_n, ct_k, ct_l, true_and, and_true, ↓reduceIte, Nat.reduceAdd, Nat.reduceMul, Nat.reduceSub, Nat.reduceLeDiff, Nat.reduceLT, Nat.reduceDiv, Nat.reduceMod, Nat.reduceEqDiff, ne_eq, not_false_eq_true, not_true_eq_false, reduceCtorEq, Nat.zero_add]
    rw [ih _ _ (by omega), seA_up]
    intro j
    simp only [upd_ap, upm_s]
    by_cases q1 : j = a + k
    · rw [if_neg (by omega), if_pos q1, if_pos (by omega), show j - a = k by omega]
    · by_cases q2 : a + (k + 1) ≤ j ∧ j < a + 7
      · rw [if_pos q2, if_neg (by omega), if_pos (by omega)]
      · rw [if_neg q2, if_neg q1, if_neg (by omega)]
theorem m100 (hl : 84 ≤ h.length) (hw : wf M T) (hM : mEnc (A 0) M T) (ho : o < 6) (hQ : match adO M o with
    | none => Q (.inl (some (.int (-1))), mst h I A)
    | some (k, M') => ∀ A', (∀ j, j ≠ 0 → A' j = A j) → mEnc (A' 0) M' T → Q (.inl (some (.int (nI k))), mst h I A')) : wp S (d + 1) 100 0 [some (.ref 70), some (.int (nI o)), none, none, none] [] (mst h I A) Q := by
  have h4 := hw.2.2.1.1
  have h1 := hw.2.2.2.2.1
  unfold adO at hQ
  by_cases h0 : M 147 = 0
  · rw [if_pos h0] at hQ
    simp (discharger := omega) only [e100_0, e100_1, e100_2, e100_5, e100_6, e100_7, e100_10, e100_13, e100_14, e100_17, e100_18, e100_19, e100_22, e100_23, e100_26, e100_28, e100_29, e100_30, e100_33, e100_34, mg_0, mg_1, mg_2, mg_3, mg_4, mg_5, mg_6, mg_7, mg_8, mg_9, mg_10, mg_11, mg_12, mg_13, mg_14, mg_15, mg_16, mg_17, mg_18, mg_19, mg_20, mg_21, mg_22, mp_2, mp_5, mp_7, mp_9, mp_10, mp_12, mp_14, mp_18, mp_19, mp_22, ml_0, ml_1, ml_3, ml_4, ml_6, ml_8, ml_11, ml_13, ml_15, ml_16, ml_17, ml_20, ml_21, ms_0, ms_1, ms_3, ms_4, ms_6, ms_8, ms_11, ms_13, ms_15, ms_16, ms_17, ms_20, ms_21, upm_s, upm_n, pk_us, pk_un, upd_up, seA_s, seA_n, svA_n, svI_n, n_rem, d_le_t, d_le_f, d_lt_t, d_lt_f, d_eq_t, d_eq_f, d_eq0_t, d_eq0_f, d_gt0_t, d_gt0_f, d_le0_t, d_le0_f, i_lt0, i_ge0, i_ne1, am_in_t, i_div, i_rem, nI_add, nI_mul, nI_sub, nI_m1, nI_clamp, eq_self, am_kr_s, am_kr_n, w8_nil, w8_c, w8_a, w8_0, ct_i, ct_r, ct_n, ct_k, ct_l, true_and, and_true, ↓reduceIte, Nat.reduceAdd, Nat.reduceMul, Nat.reduceSub, Nat.reduceLeDiff, Nat.reduceLT, Nat.reduceDiv, Nat.reduceMod, Nat.reduceEqDiff, ne_eq, not_false_eq_true, not_true_eq_false, reduceCtorEq, mr58_4, mr59_2, mr62_2, mr63_2, mr64_2, mr65_2, mr66_2, mr67_2, mr68_2, mr69_2, mr70_2, mr71_2, mr72_2, mr73_2, mr74_2, mr75_2, mr76_2, mr77_2, mr78_2, mr79_2, mr80_2, mr81_2, mr82_2, mr83_2, mr84_2, mr85_2, mr86_2, mr87_2, mr90_2, mr92_2, mr94_2, mr95_2, mr97_2, mr98_2, mr99_2, mr100_2, mr101_2, mr102_2, mr103_2, mr104_2, mr105_2, mr106_2, mr107_2, mr108_2, mr109_2, mr110_2, mr111_2, mr112_2, mr113_2, mr114_2, mr115_2, mr116_2, mr117_2, mr118_2, mr119_2, mr120_2, mr121_2, m82 hl hM hw ho, hM.M]
    exact hQ
  · rw [if_neg h0] at hQ
    cases hc : adp M o (M 116) with
    | some k =>
      rw [hc] at hQ
      have h5 := adp_lt _ hc
      simp (discharger := omega) only [e100_0, e100_1, e100_2, e100_5, e100_6, e100_7, e100_10, e100_13, e100_14, e100_17, e100_18, e100_19, e100_22, e100_23, e100_26, e100_28, e100_29, e100_30, e100_33, e100_34, e100_35, e100_36, e100_37, e100_40, e100_41, mg_0, mg_1, mg_2, mg_3, mg_4, mg_5, mg_6, mg_7, mg_8, mg_9, mg_10, mg_11, mg_12, mg_13, mg_14, mg_15, mg_16, mg_17, mg_18, mg_19, mg_20, mg_21, mg_22, mp_2, mp_5, mp_7, mp_9, mp_10, mp_12, mp_14, mp_18, mp_19, mp_22, ml_0, ml_1, ml_3, ml_4, ml_6, ml_8, ml_11, ml_13, ml_15, ml_16, ml_17, ml_20, ml_21, ms_0, ms_1, ms_3, ms_4, ms_6, ms_8, ms_11, ms_13, ms_15, ms_16, ms_17, ms_20, ms_21, upm_s, upm_n, pk_us, pk_un, upd_up, seA_s, seA_n, svA_n, svI_n, n_rem, d_le_t, d_le_f, d_lt_t, d_lt_f, d_eq_t, d_eq_f, d_eq0_t, d_eq0_f, d_gt0_t, d_gt0_f, d_le0_t, d_le0_f, i_lt0, i_ge0, i_ne1, am_in_t, i_div, i_rem, nI_add, nI_mul, nI_sub, nI_m1, nI_clamp, eq_self, am_kr_s, am_kr_n, w8_nil, w8_c, w8_a, w8_0, ct_i, ct_r, ct_n, ct_k, ct_l, true_and, and_true, ↓reduceIte, Nat.reduceAdd, Nat.reduceMul, Nat.reduceSub, Nat.reduceLeDiff, Nat.reduceLT, Nat.reduceDiv, Nat.reduceMod, Nat.reduceEqDiff, ne_eq, not_false_eq_true, not_true_eq_false, reduceCtorEq, mr58_4, mr59_2, mr62_2, mr63_2, mr64_2, mr65_2, mr66_2, mr67_2, mr68_2, mr69_2, mr70_2, mr71_2, mr72_2, mr73_2, mr74_2, mr75_2, mr76_2, mr77_2, mr78_2, mr79_2, mr80_2, mr81_2, mr82_2, mr83_2, mr84_2, mr85_2, mr86_2, mr87_2, mr90_2, mr92_2, mr94_2, mr95_2, mr97_2, mr98_2, mr99_2, mr100_2, mr101_2, mr102_2, mr103_2, mr104_2, mr105_2, mr106_2, mr107_2, mr108_2, mr109_2, mr110_2, mr111_2, mr112_2, mr113_2, mr114_2, mr115_2, mr116_2, mr117_2, mr118_2, mr119_2, mr120_2, mr121_2, m82 hl hM hw ho, hc, tI_s, hM.M]
      exact hQ A (fun _ _ => rfl) hM
    | none =>
      rw [hc] at hQ
      by_cases h6 : M 116 = 4
      · have hQ : Q (.inl (some (.int (-1))), mst h I A) := by
          simp only [h6, if_true] at hQ
          exact hQ
        simp (discharger := omega) only [e100_0, e100_1, e100_2, e100_5, e100_6, e100_7, e100_10, e100_13, e100_14, e100_17, e100_18, e100_19, e100_22, e100_23, e100_26, e100_28, e100_29, e100_30, e100_33, e100_34, mg_0, mg_1, mg_2, mg_3, mg_4, mg_5, mg_6, mg_7, mg_8, mg_9, mg_10, mg_11, mg_12, mg_13, mg_14, mg_15, mg_16, mg_17, mg_18, mg_19, mg_20, mg_21, mg_22, mp_2, mp_5, mp_7, mp_9, mp_10, mp_12, mp_14, mp_18, mp_19, mp_22, ml_0, ml_1, ml_3, ml_4, ml_6, ml_8, ml_11, ml_13, ml_15, ml_16, ml_17, ml_20, ml_21, ms_0, ms_1, ms_3, ms_4, ms_6, ms_8, ms_11, ms_13, ms_15, ms_16, ms_17, ms_20, ms_21, upm_s, upm_n, pk_us, pk_un, upd_up, seA_s, seA_n, svA_n, svI_n, n_rem, d_le_t, d_le_f, d_lt_t, d_lt_f, d_eq_t, d_eq_f, d_eq0_t, d_eq0_f, d_gt0_t, d_gt0_f, d_le0_t, d_le0_f, i_lt0, i_ge0, i_ne1, am_in_t, i_div, i_rem, nI_add, nI_mul, nI_sub, nI_m1, nI_clamp, eq_self, am_kr_s, am_kr_n, w8_nil, w8_c, w8_a, w8_0, ct_i, ct_r, ct_n, ct_k, ct_l, true_and, and_true, ↓reduceIte, Nat.reduceAdd, Nat.reduceMul, Nat.reduceSub, Nat.reduceLeDiff, Nat.reduceLT, Nat.reduceDiv, Nat.reduceMod, Nat.reduceEqDiff, ne_eq, not_false_eq_true, not_true_eq_false, reduceCtorEq, mr58_4, mr59_2, mr62_2, mr63_2, mr64_2, mr65_2, mr66_2, mr67_2, mr68_2, mr69_2, mr70_2, mr71_2, mr72_2, mr73_2, mr74_2, mr75_2, mr76_2, mr77_2, mr78_2, mr79_2, mr80_2, mr81_2, mr82_2, mr83_2, mr84_2, mr85_2, mr86_2, mr87_2, mr90_2, mr92_2, mr94_2, mr95_2, mr97_2, mr98_2, mr99_2, mr100_2, mr101_2, mr102_2, mr103_2, mr104_2, mr105_2, mr106_2, mr107_2, mr108_2, mr109_2, mr110_2, mr111_2, mr112_2, mr113_2, mr114_2, mr115_2, mr116_2, mr117_2, mr118_2, mr119_2, mr120_2, mr121_2, m82 hl hM hw ho, hc, tI_n, hM.M]
        exact hQ
      · have hQ : ∀ A', (∀ j, j ≠ 0 → A' j = A j) → mEnc (A' 0) (adM M o) T → Q (.inl (some (.int (nI (M 116)))), mst h I A') := by
          simp only [h6, if_false] at hQ
          exact hQ
        simp (discharger := omega) only [e100_0, e100_1, e100_2, e100_5, e100_6, e100_7, e100_10, e100_13, e100_14, e100_17, e100_18, e100_19, e100_22, e100_23, e100_26, e100_28, e100_29, e100_30, e100_33, e100_34, e100_35, e100_36, e100_37, e100_40, e100_41, e100_42, e100_44, e100_46, e100_47, e100_50, e100_52, e100_53, e100_54, e100_55, e100_56, e100_57, mg_0, mg_1, mg_2, mg_3, mg_4, mg_5, mg_6, mg_7, mg_8, mg_9, mg_10, mg_11, mg_12, mg_13, mg_14, mg_15, mg_16, mg_17, mg_18, mg_19, mg_20, mg_21, mg_22, mp_2, mp_5, mp_7, mp_9, mp_10, mp_12, mp_14, mp_18, mp_19, mp_22, ml_0, ml_1, ml_3, ml_4, ml_6, ml_8, ml_11, ml_13, ml_15, ml_16, ml_17, ml_20, ml_21, ms_0, ms_1, ms_3, ms_4, ms_6, ms_8, ms_11, ms_13, ms_15, ms_16, ms_17, ms_20, ms_21, upm_s, upm_n, pk_us, pk_un, upd_up, seA_s, seA_n, svA_n, svI_n, n_rem, d_le_t, d_le_f, d_lt_t, d_lt_f, d_eq_t, d_eq_f, d_eq0_t, d_eq0_f, d_gt0_t, d_gt0_f, d_le0_t, d_le0_f, i_lt0, i_ge0, i_ne1, am_in_t, i_div, i_rem, nI_add, nI_mul, nI_sub, nI_m1, nI_clamp, eq_self, am_kr_s, am_kr_n, w8_nil, w8_c, w8_a, w8_0, ct_i, ct_r, ct_n, ct_k, ct_l, true_and, and_true, ↓reduceIte, Nat.reduceAdd, Nat.reduceMul, Nat.reduceSub, Nat.reduceLeDiff, Nat.reduceLT, Nat.reduceDiv, Nat.reduceMod, Nat.reduceEqDiff, ne_eq, not_false_eq_true, not_true_eq_false, reduceCtorEq, mr58_4, mr59_2, mr62_2, mr63_2, mr64_2, mr65_2, mr66_2, mr67_2, mr68_2, mr69_2, mr70_2, mr71_2, mr72_2, mr73_2, mr74_2, mr75_2, mr76_2, mr77_2, mr78_2, mr79_2, mr80_2, mr81_2, mr82_2, mr83_2, mr84_2, mr85_2, mr86_2, mr87_2, mr90_2, mr92_2, mr94_2, mr95_2, mr97_2, mr98_2, mr99_2, mr100_2, mr101_2, mr102_2, mr103_2, mr104_2, mr105_2, mr106_2, mr107_2, mr108_2, mr109_2, mr110_2, mr111_2, mr112_2, mr113_2, mr114_2, mr115_2, mr116_2, mr117_2, mr118_2, mr119_2, mr120_2, mr121_2, m82 hl hM hw ho, hc, tI_n, hM.M]
        rw [m100_l hl rfl (by omega) ho 7 0 A (by omega)]
        have e116 : (if 84 + 8 * M 116 + 0 ≤ 116 ∧ 116 < 84 + 8 * M 116 + 7 then A 0 (7 * o + (116 - (84 + 8 * M 116))) else A 0 116) = nI (M 116) := by
          rw [if_neg (by omega)]; exact hM.M (by decide) (by decide)
        simp (discharger := omega) only [e100_95, e100_96, e100_99, e100_100, e100_102, e100_103, e100_104, e100_105, e100_106, e100_109, e100_111, e100_112, e100_113, e100_114, e100_115, e100_116, e100_117, e100_120, e100_122, e100_123, e100_124, e100_125, mg_0, mg_1, mg_2, mg_3, mg_4, mg_5, mg_6, mg_7, mg_8, mg_9, mg_10, mg_11, mg_12, mg_13, mg_14, mg_15, mg_16, mg_17, mg_18, mg_19, mg_20, mg_21, mg_22, mp_2, mp_5, mp_7, mp_9, mp_10, mp_12, mp_14, mp_18, mp_19, mp_22, ml_0, ml_1, ml_3, ml_4, ml_6, ml_8, ml_11, ml_13, ml_15, ml_16, ml_17, ml_20, ml_21, ms_0, ms_1, ms_3, ms_4, ms_6, ms_8, ms_11, ms_13, ms_15, ms_16, ms_17, ms_20, ms_21, upm_s, upm_n, pk_us, pk_un, upd_up, seA_s, seA_n, svA_n, svI_n, n_rem, d_le_t, d_le_f, d_lt_t, d_lt_f, d_eq_t, d_eq_f, d_eq0_t, d_eq0_f, d_gt0_t, d_gt0_f, d_le0_t, d_le0_f, i_lt0, i_ge0, i_ne1, am_in_t, i_div, i_rem, nI_add, nI_mul, nI_sub, nI_m1, nI_clamp, eq_self, am_kr_s, am_kr_n, w8_nil, w8_c, w8_a, w8_0, ct_i, ct_r, ct_n, ct_k, ct_l, true_and, and_true, ↓reduceIte, Nat.reduceAdd, Nat.reduceMul, Nat.reduceSub, Nat.reduceLeDiff, Nat.reduceLT, Nat.reduceDiv, Nat.reduceMod, Nat.reduceEqDiff, ne_eq, not_false_eq_true, not_true_eq_false, reduceCtorEq, mr58_4, mr59_2, mr62_2, mr63_2, mr64_2, mr65_2, mr66_2, mr67_2, mr68_2, mr69_2, mr70_2, mr71_2, mr72_2, mr73_2, mr74_2, mr75_2, mr76_2, mr77_2, mr78_2, mr79_2, mr80_2, mr81_2, mr82_2, mr83_2, mr84_2, mr85_2, mr86_2, mr87_2, mr90_2, mr92_2, mr94_2, mr95_2, mr97_2, mr98_2, mr99_2, mr100_2, mr101_2, mr102_2, mr103_2, mr104_2, mr105_2, mr106_2, mr107_2, mr108_2, mr109_2, mr110_2, mr111_2, mr112_2, mr113_2, mr114_2, mr115_2, mr116_2, mr117_2, mr118_2, mr119_2, mr120_2, mr121_2, e116, Nat.add_sub_cancel]
        refine hQ _ (fun j q => by rw [upm_n q, upm_n q, seA_n q]) ⟨fun i i1 i2 => ?_, fun p hp => ?_⟩
        · rw [upm_s, upm_s, seA_s]
          unfold adM
          by_cases q1 : i = 116
          · subst q1
            rw [pk_us, if_neg (by omega), if_neg (by omega), if_pos rfl]
          · rw [pk_un q1]
            by_cases q2 : i = 84 + 8 * M 116 + 7
            · rw [q2, pk_us, if_neg (by omega), if_pos rfl]
            · rw [pk_un q2, if_neg q2, if_neg q1]
              by_cases q3 : 84 + 8 * M 116 ≤ i ∧ i < 84 + 8 * M 116 + 7
              · rw [if_pos q3]
                show (if 84 + 8 * M 116 + 0 ≤ i ∧ i < 84 + 8 * M 116 + 7 then _ else _) = _
                rw [if_pos (by omega)]
                exact hM.M (by omega) (by omega)
              · rw [if_neg q3]
                show (if 84 + 8 * M 116 + 0 ≤ i ∧ i < 84 + 8 * M 116 + 7 then _ else _) = _
                rw [if_neg (by omega)]
                exact hM.M i1 i2
        · rw [upm_s, upm_s, seA_s, pk_un (by omega), pk_un (by omega)]
          show (if 84 + 8 * M 116 + 0 ≤ 117 + 5 * p ∧ 117 + 5 * p < 84 + 8 * M 116 + 7 then _ else _) = _
          rw [if_neg (by omega)]
          exact hM.T hp
end MJ
