/-! migration in plain terms: parts (the last one first); the model's readers of parts -/
def fl : List (List Nat) → List Nat
  | [] => []
  | p :: ps => fl ps ++ p
def ptR (a : Nat → Int32) : List (List Nat) → Prop
  | [] => a 0 = nI 0
  | p :: ps => a (ps.length + 1) = nI (fl (p :: ps)).length ∧ ptR a ps
/-- the model in migrating: the parts that are built -/
def BR (I : Nat → Int32) (A : Nat → Nat → Int32) (ps : List (List Nat)) : Prop := I 14 = nI ps.length ∧ I 12 = nI (fl ps).length ∧ ptR (A 13) ps ∧ outR (A 11) (fl ps)
theorem ptR_at {a : Nat → Int32} : ∀ (ps : List (List Nat)) (i : Nat), ptR a ps → i ≤ ps.length → a (ps.length - i) = nI (fl (ps.drop i)).length := by
  intro ps
  induction ps with
  | nil => intro i hp hi; have hi : i = 0 := by simpa using hi
           subst hi; exact hp
  | cons p ps ih =>
    intro i hp hi
    cases i with
    | zero => exact hp.1
    | succ i =>
      rw [List.length_cons, Nat.add_sub_add_right, List.drop_succ_cons]
      exact ih i hp.2 (by simpa using hi)
theorem fl_drop : ∀ (ps : List (List Nat)) (i : Nat), fl ps = fl (ps.drop i) ++ fl (ps.take i) := by
  intro ps
  induction ps with
  | nil => intro i; simp [fl]
  | cons p ps ih =>
    intro i
    cases i with
    | zero => simp [fl]
    | succ i =>
      rw [List.drop_succ_cons, List.take_succ_cons, fl, fl, ← List.append_assoc, ← ih i]
/-- the j-th argument of a call with n arguments -/
def arg (n : Nat) (ps : List (List Nat)) (j : Nat) : List Nat := ps.getD (n - 1 - j) []
theorem fl_at {ps : List (List Nat)} {i : Nat} (hi : i < ps.length) : fl (ps.drop i) = fl (ps.drop (i + 1)) ++ ps.getD i [] := by
  rw [List.drop_eq_getElem_cons hi, fl, List.getD_eq_getElem?_getD, List.getElem?_eq_getElem hi]
  rfl
theorem outR_pre {a : Nat → Int32} {x y : List Nat} (h : outR a (x ++ y)) : outR a x := by
  intro i c hi
  exact h i c (by rw [List.getElem?_append_left (List.getElem?_eq_some_iff.mp hi).1]; exact hi)
theorem outR_app {a : Nat → Int32} {x y : List Nat} (h : outR a (x ++ y)) {q t : Nat} (hq : y[q]? = some t) : a (x.length + q) = nI t := by
  refine h _ _ ?_
  rw [List.getElem?_append_right (by omega), Nat.add_sub_cancel_left]; exact hq
theorem BR_arg {I : Nat → Int32} {A : Nat → Nat → Int32} {ps : List (List Nat)} (hb : BR I A ps) {i : Nat} (hi : i < ps.length) {q t : Nat} (hq : (ps.getD i [])[q]? = some t) : A 11 ((fl (ps.drop (i + 1))).length + q) = nI t := by
  have h1 := hb.2.2.2
  rw [fl_drop ps i] at h1
  have h2 := outR_pre h1
  rw [fl_at hi] at h2
  exact outR_app h2 hq
def efl (M : Nat → Nat) (p : List Nat) : Bool := p.any (fun t => decide (2 < tk t ∧ M (fat t + 1) = 1))
def us (M : Nat → Nat) (o j : Nat) : Nat → Nat := sm (fun k => if M (117 + 5 * o + 1 + k) = j then 1 else 0)
def szT (M : Nat → Nat) (o n : Nat) (ps : List (List Nat)) : Nat → Nat := sm (fun k => if M (117 + 5 * o + 1 + k) < 100 then (arg n ps (M (117 + 5 * o + 1 + k))).length else 1)
/-- tokens that may lie in parts -/
def okP (M : Nat → Nat) (ps : List (List Nat)) : Prop := ∀ t, t ∈ fl ps → tOk (M 116) t
theorem mem_getD {ps : List (List Nat)} : ∀ {i : Nat} {t : Nat}, t ∈ ps.getD i [] → t ∈ fl ps := by
  induction ps with
  | nil => intro i t h; simp at h
  | cons p ps ih =>
    intro i t h
    cases i with
    | zero => exact List.mem_append_right _ (by simpa using h)
    | succ i => exact List.mem_append_left _ (ih (by simpa using h))
section MI
variable {S : am_S} {d : Nat} {h : am_H} {Q : am_Out → Prop} {I : Nat → Int32} {A : Nat → Nat → Int32} {M : Nat → Nat} {T : Nat → Option Nat} {ps : List (List Nat)} {o t : Nat}
theorem m102 (hl : 84 ≤ h.length) {n : Nat} (hb : BR I A ps) (ht : t < 60000) (hn : ta t = n) (hle : n ≤ ps.length) : wp S (d + 1) 102 0 [some (.ref 70), some (.int (nI t))] [] (mst h I A) Q = Q (.inl (some (.int (nI (ps.length - n)))), mst h I A) := by
  simp (discharger := omega) only [e102_0, e102_1, e102_4, e102_5, e102_8, e102_9, mg_0, mg_1, mg_2, mg_3, mg_4, mg_5, mg_6, mg_7, mg_8, mg_9, mg_10, mg_11, mg_12, mg_13, mg_14, mg_15, mg_16, mg_17, mg_18, mg_19, mg_20, mg_21, mg_22, mp_2, mp_5, mp_7, mp_9, mp_10, mp_12, mp_14, mp_18, mp_19, mp_22, ml_0, ml_1, ml_3, ml_4, ml_6, ml_8, ml_11, ml_13, ml_15, ml_16, ml_17, ml_20, ml_21, ms_0, ms_1, ms_3, ms_4, ms_6, ms_8, ms_11, ms_13, ms_15, ms_16, ms_17, ms_20, ms_21, upm_s, upm_n, pk_us, pk_un, upd_up, seA_s, seA_n, svA_n, svI_n, n_rem, d_le_t, d_le_f, d_lt_t, d_lt_f, d_eq_t, d_eq_f, d_eq0_t, d_eq0_f, d_gt0_t, d_gt0_f, d_le0_t, d_le0_f, i_lt0, i_ge0, i_ne1, am_in_t, i_div, i_rem, nI_add, nI_mul, nI_sub, nI_m1, nI_clamp, eq_self, am_kr_s, am_kr_n, w8_nil, w8_c, w8_a, w8_0, ct_i, ct_r, ct_n, ct_k, ct_l, true_and, and_true, ↓reduceIte, Nat.reduceAdd, Nat.reduceMul, Nat.reduceSub, Nat.reduceLeDiff, Nat.reduceLT, Nat.reduceDiv, Nat.reduceMod, Nat.reduceEqDiff, ne_eq, not_false_eq_true, not_true_eq_false, reduceCtorEq, mr58_4, mr59_2, mr62_2, mr63_2, mr64_2, mr65_2, mr66_2, mr67_2, mr68_2, mr69_2, mr70_2, mr71_2, mr72_2, mr73_2, mr74_2, mr75_2, mr76_2, mr77_2, mr78_2, mr79_2, mr80_2, mr81_2, mr82_2, mr83_2, mr84_2, mr85_2, mr86_2, mr87_2, mr90_2, mr92_2, mr94_2, mr95_2, mr97_2, mr98_2, mr99_2, mr100_2, mr101_2, mr102_2, mr103_2, mr104_2, mr105_2, mr106_2, mr107_2, mr108_2, mr109_2, mr110_2, mr111_2, mr112_2, mr113_2, mr114_2, mr115_2, mr116_2, mr117_2, mr118_2, mr119_2, mr120_2, mr121_2, hb.1, m96, hn]
theorem m105 (hl : 84 ≤ h.length) (hb : BR I A ps) {i j : Nat} (hi : i ≤ ps.length) (hij : j ≤ i) (hps : ps.length ≤ 30) {a b : Nat} (ha : a = ps.length - i) (hb2 : b = ps.length - j) : wp S d 105 0 [some (.ref 70), some (.int (nI a)), some (.int (nI b))] [] (mst h I A) Q = Q (.inl (some (.int (nI ((fl (ps.drop j)).length - (fl (ps.drop i)).length)))), mst h I A) := by
  subst ha; subst hb2
  have h1 := ptR_at ps i hb.2.2.1 hi
  have h2 := ptR_at ps j hb.2.2.1 (by omega)
  have h3 : (fl (ps.drop i)).length ≤ (fl (ps.drop j)).length := by
    have e : ps.drop i = (ps.drop j).drop (i - j) := by rw [List.drop_drop]; congr 1; omega
    rw [fl_drop (ps.drop j) (i - j), ← e, List.length_append]; omega
  simp (discharger := omega) only [e105_0, e105_1, e105_4, e105_5, e105_6, e105_7, e105_10, e105_11, e105_12, e105_13, mg_0, mg_1, mg_2, mg_3, mg_4, mg_5, mg_6, mg_7, mg_8, mg_9, mg_10, mg_11, mg_12, mg_13, mg_14, mg_15, mg_16, mg_17, mg_18, mg_19, mg_20, mg_21, mg_22, mp_2, mp_5, mp_7, mp_9, mp_10, mp_12, mp_14, mp_18, mp_19, mp_22, ml_0, ml_1, ml_3, ml_4, ml_6, ml_8, ml_11, ml_13, ml_15, ml_16, ml_17, ml_20, ml_21, ms_0, ms_1, ms_3, ms_4, ms_6, ms_8, ms_11, ms_13, ms_15, ms_16, ms_17, ms_20, ms_21, upm_s, upm_n, pk_us, pk_un, upd_up, seA_s, seA_n, svA_n, svI_n, n_rem, d_le_t, d_le_f, d_lt_t, d_lt_f, d_eq_t, d_eq_f, d_eq0_t, d_eq0_f, d_gt0_t, d_gt0_f, d_le0_t, d_le0_f, i_lt0, i_ge0, i_ne1, am_in_t, i_div, i_rem, nI_add, nI_mul, nI_sub, nI_m1, nI_clamp, eq_self, am_kr_s, am_kr_n, w8_nil, w8_c, w8_a, w8_0, ct_i, ct_r, ct_n, ct_k, ct_l, true_and, and_true, ↓reduceIte, Nat.reduceAdd, Nat.reduceMul, Nat.reduceSub, Nat.reduceLeDiff, Nat.reduceLT, Nat.reduceDiv, Nat.reduceMod, Nat.reduceEqDiff, ne_eq, not_false_eq_true, not_true_eq_false, reduceCtorEq, mr58_4, mr59_2, mr62_2, mr63_2, mr64_2, mr65_2, mr66_2, mr67_2, mr68_2, mr69_2, mr70_2, mr71_2, mr72_2, mr73_2, mr74_2, mr75_2, mr76_2, mr77_2, mr78_2, mr79_2, mr80_2, mr81_2, mr82_2, mr83_2, mr84_2, mr85_2, mr86_2, mr87_2, mr90_2, mr92_2, mr94_2, mr95_2, mr97_2, mr98_2, mr99_2, mr100_2, mr101_2, mr102_2, mr103_2, mr104_2, mr105_2, mr106_2, mr107_2, mr108_2, mr109_2, mr110_2, mr111_2, mr112_2, mr113_2, mr114_2, mr115_2, mr116_2, mr117_2, mr118_2, mr119_2, mr120_2, mr121_2, h1, h2]
theorem m103_l (hl : 84 ≤ h.length) (hw : wf M T) (hM : mEnc (A 0) M T) {b : Nat} (hb : b < 30) {n : Nat} (hp : A 13 (b + 1) = nI n) (hn : n ≤ 30) : ∀ (suf : List Nat) (k : Nat) (c : Bool), k + suf.length = n → (∀ q t, suf[q]? = some t → A 11 (k + q) = nI t) → (∀ t, t ∈ suf → tOk (M 116) t) → wp S (d + 2) 103 9 [some (.ref 70), some (.int (nI b)), some (.int (bi c)), some (.int (nI k))] [] (mst h I A) Q = Q (.inl (some (.int (bi (c || efl M suf)))), mst h I A) := by
  intro suf
  induction suf with
  | nil =>
    intro k c hk hq ht
    have hk : k = n := by simpa using hk
    subst hk
    simp (discharger := omega) only [e103_9, e103_10, e103_11, e103_14, e103_15, e103_16, e103_17, e103_18, e103_71, e103_72, mg_0, mg_1, mg_2, mg_3, mg_4, mg_5, mg_6, mg_7, mg_8, mg_9, mg_10, mg_11, mg_12, mg_13, mg_14, mg_15, mg_16, mg_17, mg_18, mg_19, mg_20, mg_21, mg_22, mp_2, mp_5, mp_7, mp_9, mp_10, mp_12, mp_14, mp_18, mp_19, mp_22, ml_0, ml_1, ml_3, ml_4, ml_6, ml_8, ml_11, ml_13, ml_15, ml_16, ml_17, ml_20, ml_21, ms_0, ms_1, ms_3, ms_4, ms_6, ms_8, ms_11, ms_13, ms_15, ms_16, ms_17, ms_20, ms_21, upm_s, upm_n, pk_us, pk_un, upd_up, seA_s, seA_n, svA_n, svI_n, n_rem, d_le_t, d_le_f, d_lt_t, d_lt_f, d_eq_t, d_eq_f, d_eq0_t, d_eq0_f, d_gt0_t, d_gt0_f, d_le0_t, d_le0_f, i_lt0, i_ge0, i_ne1, am_in_t, i_div, i_rem, nI_add, nI_mul, nI_sub, nI_m1, nI_clamp, eq_self, am_kr_s, am_kr_n, w8_nil, w8_c, w8_a, w8_0, ct_i, ct_r, ct_n, ct_k, ct_l, true_and, and_true, ↓reduceIte, Nat.reduceAdd, Nat.reduceMul, Nat.reduceSub, Nat.reduceLeDiff, Nat.reduceLT, Nat.reduceDiv, Nat.reduceMod, Nat.reduceEqDiff, ne_eq, not_false_eq_true, not_true_eq_false, reduceCtorEq, mr58_4, mr59_2, mr62_2, mr63_2, mr64_2, mr65_2, mr66_2, mr67_2, mr68_2, mr69_2, mr70_2, mr71_2, mr72_2, mr73_2, mr74_2, mr75_2, mr76_2, mr77_2, mr78_2, mr79_2, mr80_2, mr81_2, mr82_2, mr83_2, mr84_2, mr85_2, mr86_2, mr87_2, mr90_2, mr92_2, mr94_2, mr95_2, mr97_2, mr98_2, mr99_2, mr100_2, mr101_2, mr102_2, mr103_2, mr104_2, mr105_2, mr106_2, mr107_2, mr108_2, mr109_2, mr110_2, mr111_2, mr112_2, mr113_2, mr114_2, mr115_2, mr116_2, mr117_2, mr118_2, mr119_2, mr120_2, mr121_2, hp, bi_nar]
    rw [efl, List.any_nil, Bool.or_false]
  | cons t suf ih =>
    intro k c hk hq ht
    rw [List.length_cons] at hk
    have htk := ht t List.mem_cons_self
    have h6 := tOk_lt htk
    have hk6 : tk t < 2 ^ 31 := by unfold tk; omega
    have e0 : A 11 k = nI t := hq 0 t rfl
    have ih2 := fun c => ih (k + 1) c (by omega) (fun q t' hq' => by rw [Nat.add_assoc, Nat.add_comm 1 q]; exact hq (q + 1) t' hq') (fun t' q => ht t' (List.mem_cons_of_mem _ q))
    have ee : efl M (t :: suf) = (decide (2 < tk t ∧ M (fat t + 1) = 1) || efl M suf) := by rw [efl, List.any_cons]; rfl
    rw [e103_9, ee, ← Bool.or_assoc]
    cases c with
    | true =>
      rw [Bool.true_or, bi_t, ← bi_t, ← ih2 true, bi_t]
      simp (discharger := omega) only [e103_10, e103_11, e103_14, e103_15, e103_16, e103_17, e103_18, e103_21, e103_22, e103_25, e103_26, e103_29, e103_30, e103_31, e103_34, e103_35, e103_38, e103_39, e103_42, e103_43, e103_44, e103_47, e103_48, e103_49, e103_52, e103_53, e103_54, e103_55, e103_56, e103_59, e103_60, e103_63, e103_64, e103_65, e103_68, mg_0, mg_1, mg_2, mg_3, mg_4, mg_5, mg_6, mg_7, mg_8, mg_9, mg_10, mg_11, mg_12, mg_13, mg_14, mg_15, mg_16, mg_17, mg_18, mg_19, mg_20, mg_21, mg_22, mp_2, mp_5, mp_7, mp_9, mp_10, mp_12, mp_14, mp_18, mp_19, mp_22, ml_0, ml_1, ml_3, ml_4, ml_6, ml_8, ml_11, ml_13, ml_15, ml_16, ml_17, ml_20, ml_21, ms_0, ms_1, ms_3, ms_4, ms_6, ms_8, ms_11, ms_13, ms_15, ms_16, ms_17, ms_20, ms_21, upm_s, upm_n, pk_us, pk_un, upd_up, seA_s, seA_n, svA_n, svI_n, n_rem, d_le_t, d_le_f, d_lt_t, d_lt_f, d_eq_t, d_eq_f, d_eq0_t, d_eq0_f, d_gt0_t, d_gt0_f, d_le0_t, d_le0_f, i_lt0, i_ge0, i_ne1, am_in_t, i_div, i_rem, nI_add, nI_mul, nI_sub, nI_m1, nI_clamp, eq_self, am_kr_s, am_kr_n, w8_nil, w8_c, w8_a, w8_0, ct_i, ct_r, ct_n, ct_k, ct_l, true_and, and_true, ↓reduceIte, Nat.reduceAdd, Nat.reduceMul, Nat.reduceSub, Nat.reduceLeDiff, Nat.reduceLT, Nat.reduceDiv, Nat.reduceMod, Nat.reduceEqDiff, ne_eq, not_false_eq_true, not_true_eq_false, reduceCtorEq, mr58_4, mr59_2, mr62_2, mr63_2, mr64_2, mr65_2, mr66_2, mr67_2, mr68_2, mr69_2, mr70_2, mr71_2, mr72_2, mr73_2, mr74_2, mr75_2, mr76_2, mr77_2, mr78_2, mr79_2, mr80_2, mr81_2, mr82_2, mr83_2, mr84_2, mr85_2, mr86_2, mr87_2, mr90_2, mr92_2, mr94_2, mr95_2, mr97_2, mr98_2, mr99_2, mr100_2, mr101_2, mr102_2, mr103_2, mr104_2, mr105_2, mr106_2, mr107_2, mr108_2, mr109_2, mr110_2, mr111_2, mr112_2, mr113_2, mr114_2, mr115_2, mr116_2, mr117_2, mr118_2, mr119_2, mr120_2, mr121_2, hp]
    | false =>
      rw [Bool.false_or]
      by_cases h2 : 2 < tk t
      · obtain ⟨⟨f1, f2, f3⟩, f4, f5⟩ := fat_ok hw htk h2
        by_cases h3 : M (fat t + 1) = 1
        · rw [decide_eq_true ⟨h2, h3⟩, ← ih2 true, bi_t, bi_f]
          simp (discharger := omega) only [e103_10, e103_11, e103_14, e103_15, e103_16, e103_17, e103_18, e103_21, e103_22, e103_25, e103_26, e103_29, e103_30, e103_31, e103_34, e103_35, e103_38, e103_39, e103_42, e103_43, e103_44, e103_47, e103_48, e103_49, e103_52, e103_53, e103_54, e103_55, e103_56, e103_59, e103_60, e103_63, e103_64, e103_65, e103_68, mg_0, mg_1, mg_2, mg_3, mg_4, mg_5, mg_6, mg_7, mg_8, mg_9, mg_10, mg_11, mg_12, mg_13, mg_14, mg_15, mg_16, mg_17, mg_18, mg_19, mg_20, mg_21, mg_22, mp_2, mp_5, mp_7, mp_9, mp_10, mp_12, mp_14, mp_18, mp_19, mp_22, ml_0, ml_1, ml_3, ml_4, ml_6, ml_8, ml_11, ml_13, ml_15, ml_16, ml_17, ml_20, ml_21, ms_0, ms_1, ms_3, ms_4, ms_6, ms_8, ms_11, ms_13, ms_15, ms_16, ms_17, ms_20, ms_21, upm_s, upm_n, pk_us, pk_un, upd_up, seA_s, seA_n, svA_n, svI_n, n_rem, d_le_t, d_le_f, d_lt_t, d_lt_f, d_eq_t, d_eq_f, d_eq0_t, d_eq0_f, d_gt0_t, d_gt0_f, d_le0_t, d_le0_f, i_lt0, i_ge0, i_ne1, am_in_t, i_div, i_rem, nI_add, nI_mul, nI_sub, nI_m1, nI_clamp, eq_self, am_kr_s, am_kr_n, w8_nil, w8_c, w8_a, w8_0, ct_i, ct_r, ct_n, ct_k, ct_l, true_and, and_true, ↓reduceIte, Nat.reduceAdd, Nat.reduceMul, Nat.reduceSub, Nat.reduceLeDiff, Nat.reduceLT, Nat.reduceDiv, Nat.reduceMod, Nat.reduceEqDiff, ne_eq, not_false_eq_true, not_true_eq_false, reduceCtorEq, mr58_4, mr59_2, mr62_2, mr63_2, mr64_2, mr65_2, mr66_2, mr67_2, mr68_2, mr69_2, mr70_2, mr71_2, mr72_2, mr73_2, mr74_2, mr75_2, mr76_2, mr77_2, mr78_2, mr79_2, mr80_2, mr81_2, mr82_2, mr83_2, mr84_2, mr85_2, mr86_2, mr87_2, mr90_2, mr92_2, mr94_2, mr95_2, mr97_2, mr98_2, mr99_2, mr100_2, mr101_2, mr102_2, mr103_2, mr104_2, mr105_2, mr106_2, mr107_2, mr108_2, mr109_2, mr110_2, mr111_2, mr112_2, mr113_2, mr114_2, mr115_2, mr116_2, mr117_2, mr118_2, mr119_2, mr120_2, mr121_2, hp, e0, m91, m92, hM.M]
        · rw [decide_eq_false (fun q => h3 q.2), ← ih2 false, bi_f]
          simp (discharger := omega) only [e103_10, e103_11, e103_14, e103_15, e103_16, e103_17, e103_18, e103_21, e103_22, e103_25, e103_26, e103_29, e103_30, e103_31, e103_34, e103_35, e103_38, e103_39, e103_42, e103_43, e103_44, e103_47, e103_48, e103_49, e103_52, e103_53, e103_54, e103_55, e103_56, e103_59, e103_60, e103_63, e103_64, e103_65, e103_68, mg_0, mg_1, mg_2, mg_3, mg_4, mg_5, mg_6, mg_7, mg_8, mg_9, mg_10, mg_11, mg_12, mg_13, mg_14, mg_15, mg_16, mg_17, mg_18, mg_19, mg_20, mg_21, mg_22, mp_2, mp_5, mp_7, mp_9, mp_10, mp_12, mp_14, mp_18, mp_19, mp_22, ml_0, ml_1, ml_3, ml_4, ml_6, ml_8, ml_11, ml_13, ml_15, ml_16, ml_17, ml_20, ml_21, ms_0, ms_1, ms_3, ms_4, ms_6, ms_8, ms_11, ms_13, ms_15, ms_16, ms_17, ms_20, ms_21, upm_s, upm_n, pk_us, pk_un, upd_up, seA_s, seA_n, svA_n, svI_n, n_rem, d_le_t, d_le_f, d_lt_t, d_lt_f, d_eq_t, d_eq_f, d_eq0_t, d_eq0_f, d_gt0_t, d_gt0_f, d_le0_t, d_le0_f, i_lt0, i_ge0, i_ne1, am_in_t, i_div, i_rem, nI_add, nI_mul, nI_sub, nI_m1, nI_clamp, eq_self, am_kr_s, am_kr_n, w8_nil, w8_c, w8_a, w8_0, ct_i, ct_r, ct_n, ct_k, ct_l, true_and, and_true, ↓reduceIte, Nat.reduceAdd, Nat.reduceMul, Nat.reduceSub, Nat.reduceLeDiff, Nat.reduceLT, Nat.reduceDiv, Nat.reduceMod, Nat.reduceEqDiff, ne_eq, not_false_eq_true, not_true_eq_false, reduceCtorEq, mr58_4, mr59_2, mr62_2, mr63_2, mr64_2, mr65_2, mr66_2, mr67_2, mr68_2, mr69_2, mr70_2, mr71_2, mr72_2, mr73_2, mr74_2, mr75_2, mr76_2, mr77_2, mr78_2, mr79_2, mr80_2, mr81_2, mr82_2, mr83_2, mr84_2, mr85_2, mr86_2, mr87_2, mr90_2, mr92_2, mr94_2, mr95_2, mr97_2, mr98_2, mr99_2, mr100_2, mr101_2, mr102_2, mr103_2, mr104_2, mr105_2, mr106_2, mr107_2, mr108_2, mr109_2, mr110_2, mr111_2, mr112_2, mr113_2, mr114_2, mr115_2, mr116_2, mr117_2, mr118_2, mr119_2, mr120_2, mr121_2, hp, e0, m91, m92, hM.M]
      · rw [decide_eq_false (fun q => h2 q.1), ← ih2 false, bi_f]
        simp (discharger := omega) only [e103_10, e103_11, e103_14, e103_15, e103_16, e103_17, e103_18, e103_21, e103_22, e103_25, e103_26, e103_29, e103_30, e103_31, e103_34, e103_35, e103_38, e103_39, e103_42, e103_43, e103_44, e103_47, e103_48, e103_49, e103_52, e103_53, e103_54, e103_55, e103_56, e103_59, e103_60, e103_63, e103_64, e103_65, e103_68, mg_0, mg_1, mg_2, mg_3, mg_4, mg_5, mg_6, mg_7, mg_8, mg_9, mg_10, mg_11, mg_12, mg_13, mg_14, mg_15, mg_16, mg_17, mg_18, mg_19, mg_20, mg_21, mg_22, mp_2, mp_5, mp_7, mp_9, mp_10, mp_12, mp_14, mp_18, mp_19, mp_22, ml_0, ml_1, ml_3, ml_4, ml_6, ml_8, ml_11, ml_13, ml_15, ml_16, ml_17, ml_20, ml_21, ms_0, ms_1, ms_3, ms_4, ms_6, ms_8, ms_11, ms_13, ms_15, ms_16, ms_17, ms_20, ms_21, upm_s, upm_n, pk_us, pk_un, upd_up, seA_s, seA_n, svA_n, svI_n, n_rem, d_le_t, d_le_f, d_lt_t, d_lt_f, d_eq_t, d_eq_f, d_eq0_t, d_eq0_f, d_gt0_t, d_gt0_f, d_le0_t, d_le0_f, i_lt0, i_ge0, i_ne1, am_in_t, i_div, i_rem, nI_add, nI_mul, nI_sub, nI_m1, nI_clamp, eq_self, am_kr_s, am_kr_n, w8_nil, w8_c, w8_a, w8_0, ct_i, ct_r, ct_n, ct_k, ct_l, true_and, and_true, ↓reduceIte, Nat.reduceAdd, Nat.reduceMul, Nat.reduceSub, Nat.reduceLeDiff, Nat.reduceLT, Nat.reduceDiv, Nat.reduceMod, Nat.reduceEqDiff, ne_eq, not_false_eq_true, not_true_eq_false, reduceCtorEq, mr58_4, mr59_2, mr62_2, mr63_2, mr64_2, mr65_2, mr66_2, mr67_2, mr68_2, mr69_2, mr70_2, mr71_2, mr72_2, mr73_2, mr74_2, mr75_2, mr76_2, mr77_2, mr78_2, mr79_2, mr80_2, mr81_2, mr82_2, mr83_2, mr84_2, mr85_2, mr86_2, mr87_2, mr90_2, mr92_2, mr94_2, mr95_2, mr97_2, mr98_2, mr99_2, mr100_2, mr101_2, mr102_2, mr103_2, mr104_2, mr105_2, mr106_2, mr107_2, mr108_2, mr109_2, mr110_2, mr111_2, mr112_2, mr113_2, mr114_2, mr115_2, mr116_2, mr117_2, mr118_2, mr119_2, mr120_2, mr121_2, hp, e0, m91, m92, hM.M]
theorem fl_len_drop (i : Nat) : (fl (ps.drop i)).length ≤ (fl ps).length := by
  rw [fl_drop ps i, List.length_append]; omega
theorem m103 (hl : 84 ≤ h.length) (hw : wf M T) (hM : mEnc (A 0) M T) (hb : BR I A ps) (hok : okP M ps) {i b : Nat} (hi : i < ps.length) (hb2 : b = ps.length - (i + 1)) (hps : ps.length ≤ 30) (hfl : (fl ps).length ≤ 30) : wp S (d + 2) 103 0 [some (.ref 70), some (.int (nI b)), none, none] [] (mst h I A) Q = Q (.inl (some (.int (bi (efl M (ps.getD i []))))), mst h I A) := by
  have h1 := ptR_at ps (i + 1) hb.2.2.1 hi
  have h2 := ptR_at ps i hb.2.2.1 (by omega)
  rw [← hb2] at h1
  rw [show ps.length - i = b + 1 by omega] at h2
  have h3 := fl_at hi
  have h4 := fl_len_drop (ps := ps) i
  have h5 : (fl (ps.drop i)).length = (fl (ps.drop (i + 1))).length + (ps.getD i []).length := by rw [h3, List.length_append]
  have h6 := m103_l (S := S) (d := d) (h := h) (Q := Q) (I := I) hl hw hM (b := b) (by omega) h2 (by omega) (ps.getD i []) (fl (ps.drop (i + 1))).length false (by omega) (fun q t hq => BR_arg hb hi hq) (fun t q => hok t (mem_getD q))
  rw [Bool.false_or, bi_f] at h6
  simp (discharger := omega) only [e103_0, e103_1, e103_2, e103_3, e103_6, e103_7, e103_8, mg_0, mg_1, mg_2, mg_3, mg_4, mg_5, mg_6, mg_7, mg_8, mg_9, mg_10, mg_11, mg_12, mg_13, mg_14, mg_15, mg_16, mg_17, mg_18, mg_19, mg_20, mg_21, mg_22, mp_2, mp_5, mp_7, mp_9, mp_10, mp_12, mp_14, mp_18, mp_19, mp_22, ml_0, ml_1, ml_3, ml_4, ml_6, ml_8, ml_11, ml_13, ml_15, ml_16, ml_17, ml_20, ml_21, ms_0, ms_1, ms_3, ms_4, ms_6, ms_8, ms_11, ms_13, ms_15, ms_16, ms_17, ms_20, ms_21, upm_s, upm_n, pk_us, pk_un, upd_up, seA_s, seA_n, svA_n, svI_n, n_rem, d_le_t, d_le_f, d_lt_t, d_lt_f, d_eq_t, d_eq_f, d_eq0_t, d_eq0_f, d_gt0_t, d_gt0_f, d_le0_t, d_le0_f, i_lt0, i_ge0, i_ne1, am_in_t, i_div, i_rem, nI_add, nI_mul, nI_sub, nI_m1, nI_clamp, eq_self, am_kr_s, am_kr_n, w8_nil, w8_c, w8_a, w8_0, ct_i, ct_r, ct_n, ct_k, ct_l, true_and, and_true, ↓reduceIte, Nat.reduceAdd, Nat.reduceMul, Nat.reduceSub, Nat.reduceLeDiff, Nat.reduceLT, Nat.reduceDiv, Nat.reduceMod, Nat.reduceEqDiff, ne_eq, not_false_eq_true, not_true_eq_false, reduceCtorEq, mr58_4, mr59_2, mr62_2, mr63_2, mr64_2, mr65_2, mr66_2, mr67_2, mr68_2, mr69_2, mr70_2, mr71_2, mr72_2, mr73_2, mr74_2, mr75_2, mr76_2, mr77_2, mr78_2, mr79_2, mr80_2, mr81_2, mr82_2, mr83_2, mr84_2, mr85_2, mr86_2, mr87_2, mr90_2, mr92_2, mr94_2, mr95_2, mr97_2, mr98_2, mr99_2, mr100_2, mr101_2, mr102_2, mr103_2, mr104_2, mr105_2, mr106_2, mr107_2, mr108_2, mr109_2, mr110_2, mr111_2, mr112_2, mr113_2, mr114_2, mr115_2, mr116_2, mr117_2, mr118_2, mr119_2, mr120_2, mr121_2, h1]
  exact h6
theorem m104_l (hl : 84 ≤ h.length) (hM : mEnc (A 0) M T) (ho : o < 6) (hT : T o = some t) (ht : t < 6) (hq : trq M o t) {j : Nat} (hj : j < 100) : ∀ r k, k + r = M (42 + 7 * t) → wp S (d + 2) 104 5 [some (.ref 70), some (.int (nI o)), some (.int (nI j)), some (.int (nI (us M o j k))), some (.int (nI k))] [] (mst h I A) Q = Q (.inl (some (.int (nI (us M o j (M (42 + 7 * t)))))), mst h I A) := by
  intro r
  have hn := hq.1
  induction r with
  | zero =>
    intro k hk
    have hk : k = M (42 + 7 * t) := by omega
    subst hk
    simp (discharger := omega) only [e104_5, e104_7, e104_8, e104_9, e104_12, e104_40, e104_41, mg_0, mg_1, mg_2, mg_3, mg_4, mg_5, mg_6, mg_7, mg_8, mg_9, mg_10, mg_11, mg_12, mg_13, mg_14, mg_15, mg_16, mg_17, mg_18, mg_19, mg_20, mg_21, mg_22, mp_2, mp_5, mp_7, mp_9, mp_10, mp_12, mp_14, mp_18, mp_19, mp_22, ml_0, ml_1, ml_3, ml_4, ml_6, ml_8, ml_11, ml_13, ml_15, ml_16, ml_17, ml_20, ml_21, ms_0, ms_1, ms_3, ms_4, ms_6, ms_8, ms_11, ms_13, ms_15, ms_16, ms_17, ms_20, ms_21, upm_s, upm_n, pk_us, pk_un, upd_up, seA_s, seA_n, svA_n, svI_n, n_rem, d_le_t, d_le_f, d_lt_t, d_lt_f, d_eq_t, d_eq_f, d_eq0_t, d_eq0_f, d_gt0_t, d_gt0_f, d_le0_t, d_le0_f, i_lt0, i_ge0, i_ne1, am_in_t, i_div, i_rem, nI_add, nI_mul, nI_sub, nI_m1, nI_clamp, eq_self, am_kr_s, am_kr_n, w8_nil, w8_c, w8_a, w8_0, ct_i, ct_r, ct_n, ct_k, ct_l, true_and, and_true, ↓reduceIte, Nat.reduceAdd, Nat.reduceMul, Nat.reduceSub, Nat.reduceLeDiff, Nat.reduceLT, Nat.reduceDiv, Nat.reduceMod, Nat.reduceEqDiff, ne_eq, not_false_eq_true, not_true_eq_false, reduceCtorEq, mr58_4, mr59_2, mr62_2, mr63_2, mr64_2, mr65_2, mr66_2, mr67_2, mr68_2, mr69_2, mr70_2, mr71_2, mr72_2, mr73_2, mr74_2, mr75_2, mr76_2, mr77_2, mr78_2, mr79_2, mr80_2, mr81_2, mr82_2, mr83_2, mr84_2, mr85_2, mr86_2, mr87_2, mr90_2, mr92_2, mr94_2, mr95_2, mr97_2, mr98_2, mr99_2, mr100_2, mr101_2, mr102_2, mr103_2, mr104_2, mr105_2, mr106_2, mr107_2, mr108_2, mr109_2, mr110_2, mr111_2, mr112_2, mr113_2, mr114_2, mr115_2, mr116_2, mr117_2, mr118_2, mr119_2, mr120_2, mr121_2, m73 hl hM ho hT ht]
  | succ r ih =>
    intro k hk
    have hE := hq.2.2.1 k (by omega)
    have e : us M o j (k + 1) = us M o j k + if M (117 + 5 * o + 1 + k) = j then 1 else 0 := rfl
    rw [e104_5]
    by_cases hc : M (117 + 5 * o + 1 + k) = j
    · rw [if_pos hc] at e
      simp (discharger := omega) only [e104_7, e104_8, e104_9, e104_12, e104_15, e104_16, e104_17, e104_18, e104_20, e104_23, e104_24, e104_27, e104_28, e104_31, e104_32, e104_33, e104_34, e104_37, mg_0, mg_1, mg_2, mg_3, mg_4, mg_5, mg_6, mg_7, mg_8, mg_9, mg_10, mg_11, mg_12, mg_13, mg_14, mg_15, mg_16, mg_17, mg_18, mg_19, mg_20, mg_21, mg_22, mp_2, mp_5, mp_7, mp_9, mp_10, mp_12, mp_14, mp_18, mp_19, mp_22, ml_0, ml_1, ml_3, ml_4, ml_6, ml_8, ml_11, ml_13, ml_15, ml_16, ml_17, ml_20, ml_21, ms_0, ms_1, ms_3, ms_4, ms_6, ms_8, ms_11, ms_13, ms_15, ms_16, ms_17, ms_20, ms_21, upm_s, upm_n, pk_us, pk_un, upd_up, seA_s, seA_n, svA_n, svI_n, n_rem, d_le_t, d_le_f, d_lt_t, d_lt_f, d_eq_t, d_eq_f, d_eq0_t, d_eq0_f, d_gt0_t, d_gt0_f, d_le0_t, d_le0_f, i_lt0, i_ge0, i_ne1, am_in_t, i_div, i_rem, nI_add, nI_mul, nI_sub, nI_m1, nI_clamp, eq_self, am_kr_s, am_kr_n, w8_nil, w8_c, w8_a, w8_0, ct_i, ct_r, ct_n, ct_k, ct_l, true_and, and_true, ↓reduceIte, Nat.reduceAdd, Nat.reduceMul, Nat.reduceSub, Nat.reduceLeDiff, Nat.reduceLT, Nat.reduceDiv, Nat.reduceMod, Nat.reduceEqDiff, ne_eq, not_false_eq_true, not_true_eq_false, reduceCtorEq, mr58_4, mr59_2, mr62_2, mr63_2, mr64_2, mr65_2, mr66_2, mr67_2, mr68_2, mr69_2, mr70_2, mr71_2, mr72_2, mr73_2, mr74_2, mr75_2, mr76_2, mr77_2, mr78_2, mr79_2, mr80_2, mr81_2, mr82_2, mr83_2, mr84_2, mr85_2, mr86_2, mr87_2, mr90_2, mr92_2, mr94_2, mr95_2, mr97_2, mr98_2, mr99_2, mr100_2, mr101_2, mr102_2, mr103_2, mr104_2, mr105_2, mr106_2, mr107_2, mr108_2, mr109_2, mr110_2, mr111_2, mr112_2, mr113_2, mr114_2, mr115_2, mr116_2, mr117_2, mr118_2, mr119_2, mr120_2, mr121_2, m73 hl hM ho hT ht, m74 hl hM ho]
      rw [← e, ih (k + 1) (by omega)]
    · rw [if_neg hc] at e
      simp (discharger := omega) only [e104_7, e104_8, e104_9, e104_12, e104_15, e104_16, e104_17, e104_18, e104_20, e104_23, e104_24, e104_27, e104_28, e104_31, e104_32, e104_33, e104_34, e104_37, mg_0, mg_1, mg_2, mg_3, mg_4, mg_5, mg_6, mg_7, mg_8, mg_9, mg_10, mg_11, mg_12, mg_13, mg_14, mg_15, mg_16, mg_17, mg_18, mg_19, mg_20, mg_21, mg_22, mp_2, mp_5, mp_7, mp_9, mp_10, mp_12, mp_14, mp_18, mp_19, mp_22, ml_0, ml_1, ml_3, ml_4, ml_6, ml_8, ml_11, ml_13, ml_15, ml_16, ml_17, ml_20, ml_21, ms_0, ms_1, ms_3, ms_4, ms_6, ms_8, ms_11, ms_13, ms_15, ms_16, ms_17, ms_20, ms_21, upm_s, upm_n, pk_us, pk_un, upd_up, seA_s, seA_n, svA_n, svI_n, n_rem, d_le_t, d_le_f, d_lt_t, d_lt_f, d_eq_t, d_eq_f, d_eq0_t, d_eq0_f, d_gt0_t, d_gt0_f, d_le0_t, d_le0_f, i_lt0, i_ge0, i_ne1, am_in_t, i_div, i_rem, nI_add, nI_mul, nI_sub, nI_m1, nI_clamp, eq_self, am_kr_s, am_kr_n, w8_nil, w8_c, w8_a, w8_0, ct_i, ct_r, ct_n, ct_k, ct_l, true_and, and_true, ↓reduceIte, Nat.reduceAdd, Nat.reduceMul, Nat.reduceSub, Nat.reduceLeDiff, Nat.reduceLT, Nat.reduceDiv, Nat.reduceMod, Nat.reduceEqDiff, ne_eq, not_false_eq_true, not_true_eq_false, reduceCtorEq, mr58_4, mr59_2, mr62_2, mr63_2, mr64_2, mr65_2, mr66_2, mr67_2, mr68_2, mr69_2, mr70_2, mr71_2, mr72_2, mr73_2, mr74_2, mr75_2, mr76_2, mr77_2, mr78_2, mr79_2, mr80_2, mr81_2, mr82_2, mr83_2, mr84_2, mr85_2, mr86_2, mr87_2, mr90_2, mr92_2, mr94_2, mr95_2, mr97_2, mr98_2, mr99_2, mr100_2, mr101_2, mr102_2, mr103_2, mr104_2, mr105_2, mr106_2, mr107_2, mr108_2, mr109_2, mr110_2, mr111_2, mr112_2, mr113_2, mr114_2, mr115_2, mr116_2, mr117_2, mr118_2, mr119_2, mr120_2, mr121_2, m73 hl hM ho hT ht, m74 hl hM ho]
      rw [← e, ih (k + 1) (by omega)]
theorem m104 (hl : 84 ≤ h.length) (hM : mEnc (A 0) M T) (ho : o < 6) (hT : T o = some t) (ht : t < 6) (hq : trq M o t) {j : Nat} (hj : j < 100) : wp S (d + 2) 104 0 [some (.ref 70), some (.int (nI o)), some (.int (nI j)), none, none] [] (mst h I A) Q = Q (.inl (some (.int (nI (us M o j (M (42 + 7 * t)))))), mst h I A) := by
  simp only [e104_0, e104_1, e104_2, e104_3]
  exact m104_l hl hM ho hT ht hq hj (M (42 + 7 * t)) 0 (by omega)
theorem m106_l (hl : 84 ≤ h.length) (hM : mEnc (A 0) M T) (ho : o < 6) (hT : T o = some t) (ht : t < 6) (hq : trq M o t) (hb : BR I A ps) (hps : ps.length ≤ 30) {n : Nat} (hn2 : n ≤ ps.length) (hE2 : ∀ k, k < M (42 + 7 * t) → M (117 + 5 * o + 1 + k) < 100 → M (117 + 5 * o + 1 + k) < n) : ∀ r k a5, k + r = M (42 + 7 * t) → wp S (d + 2) 106 5 [some (.ref 70), some (.int (nI o)), some (.int (nI (ps.length - n))), some (.int (nI (szT M o n ps k))), some (.int (nI k)), a5] [] (mst h I A) Q = Q (.inl (some (.int (nI (szT M o n ps (M (42 + 7 * t)))))), mst h I A) := by
  intro r
  have hn := hq.1
  induction r with
  | zero =>
    intro k a5 hk
    have hk : k = M (42 + 7 * t) := by omega
    subst hk
    simp (discharger := omega) only [e106_5, e106_7, e106_8, e106_9, e106_12, e106_58, e106_59, mg_0, mg_1, mg_2, mg_3, mg_4, mg_5, mg_6, mg_7, mg_8, mg_9, mg_10, mg_11, mg_12, mg_13, mg_14, mg_15, mg_16, mg_17, mg_18, mg_19, mg_20, mg_21, mg_22, mp_2, mp_5, mp_7, mp_9, mp_10, mp_12, mp_14, mp_18, mp_19, mp_22, ml_0, ml_1, ml_3, ml_4, ml_6, ml_8, ml_11, ml_13, ml_15, ml_16, ml_17, ml_20, ml_21, ms_0, ms_1, ms_3, ms_4, ms_6, ms_8, ms_11, ms_13, ms_15, ms_16, ms_17, ms_20, ms_21, upm_s, upm_n, pk_us, pk_un, upd_up, seA_s, seA_n, svA_n, svI_n, n_rem, d_le_t, d_le_f, d_lt_t, d_lt_f, d_eq_t, d_eq_f, d_eq0_t, d_eq0_f, d_gt0_t, d_gt0_f, d_le0_t, d_le0_f, i_lt0, i_ge0, i_ne1, am_in_t, i_div, i_rem, nI_add, nI_mul, nI_sub, nI_m1, nI_clamp, eq_self, am_kr_s, am_kr_n, w8_nil, w8_c, w8_a, w8_0, ct_i, ct_r, ct_n, ct_k, ct_l, true_and, and_true, ↓reduceIte, Nat.reduceAdd, Nat.reduceMul, Nat.reduceSub, Nat.reduceLeDiff, Nat.reduceLT, Nat.reduceDiv, Nat.reduceMod, Nat.reduceEqDiff, ne_eq, not_false_eq_true, not_true_eq_false, reduceCtorEq, mr58_4, mr59_2, mr62_2, mr63_2, mr64_2, mr65_2, mr66_2, mr67_2, mr68_2, mr69_2, mr70_2, mr71_2, mr72_2, mr73_2, mr74_2, mr75_2, mr76_2, mr77_2, mr78_2, mr79_2, mr80_2, mr81_2, mr82_2, mr83_2, mr84_2, mr85_2, mr86_2, mr87_2, mr90_2, mr92_2, mr94_2, mr95_2, mr97_2, mr98_2, mr99_2, mr100_2, mr101_2, mr102_2, mr103_2, mr104_2, mr105_2, mr106_2, mr107_2, mr108_2, mr109_2, mr110_2, mr111_2, mr112_2, mr113_2, mr114_2, mr115_2, mr116_2, mr117_2, mr118_2, mr119_2, mr120_2, mr121_2, m73 hl hM ho hT ht]
  | succ r ih =>
    intro k a5 hk
    have hE := hq.2.2.1 k (by omega)
    have e : szT M o n ps (k + 1) = szT M o n ps k + if M (117 + 5 * o + 1 + k) < 100 then (arg n ps (M (117 + 5 * o + 1 + k))).length else 1 := rfl
    rw [e106_5]
    by_cases hc : M (117 + 5 * o + 1 + k) < 100
    · rw [if_pos hc] at e
      have hlt := hE2 k (by omega) hc
      have h1 := fl_at (ps := ps) (i := n - 1 - M (117 + 5 * o + 1 + k)) (by omega)
      have h2 := m105 (S := S) (d := d + 1) (h := h) (Q := am_kr S 2 (d + 1 + 1) 106 43 [some (.ref 70), some (.int (nI o)), some (.int (nI (ps.length - n))), some (.int (nI (szT M o n ps k))), some (.int (nI k)), some (.int (nI (M (117 + 5 * o + 1 + k))))] [.int (nI (szT M o n ps k))] Q) hl hb (i := n - M (117 + 5 * o + 1 + k)) (j := n - 1 - M (117 + 5 * o + 1 + k)) (by omega) (by omega) hps (a := ps.length - n + M (117 + 5 * o + 1 + k)) (b := ps.length - n + M (117 + 5 * o + 1 + k) + 1) (by omega) (by omega)
      have h3 : (fl (ps.drop (n - 1 - M (117 + 5 * o + 1 + k)))).length - (fl (ps.drop (n - M (117 + 5 * o + 1 + k)))).length = (arg n ps (M (117 + 5 * o + 1 + k))).length := by
        rw [h1, List.length_append, show n - 1 - M (117 + 5 * o + 1 + k) + 1 = n - M (117 + 5 * o + 1 + k) by omega, Nat.add_sub_cancel_left]
        rfl
      rw [h3] at h2
      simp (discharger := omega) only [e106_7, e106_8, e106_9, e106_12, e106_15, e106_16, e106_17, e106_19, e106_22, e106_24, e106_25, e106_27, e106_29, e106_32, e106_33, e106_34, e106_36, e106_37, e106_38, e106_40, e106_41, e106_42, e106_43, e106_46, e106_49, e106_50, e106_51, e106_52, e106_55, mg_0, mg_1, mg_2, mg_3, mg_4, mg_5, mg_6, mg_7, mg_8, mg_9, mg_10, mg_11, mg_12, mg_13, mg_14, mg_15, mg_16, mg_17, mg_18, mg_19, mg_20, mg_21, mg_22, mp_2, mp_5, mp_7, mp_9, mp_10, mp_12, mp_14, mp_18, mp_19, mp_22, ml_0, ml_1, ml_3, ml_4, ml_6, ml_8, ml_11, ml_13, ml_15, ml_16, ml_17, ml_20, ml_21, ms_0, ms_1, ms_3, ms_4, ms_6, ms_8, ms_11, ms_13, ms_15, ms_16, ms_17, ms_20, ms_21, upm_s, upm_n, pk_us, pk_un, upd_up, seA_s, seA_n, svA_n, svI_n, n_rem, d_le_t, d_le_f, d_lt_t, d_lt_f, d_eq_t, d_eq_f, d_eq0_t, d_eq0_f, d_gt0_t, d_gt0_f, d_le0_t, d_le0_f, i_lt0, i_ge0, i_ne1, am_in_t, i_div, i_rem, nI_add, nI_mul, nI_sub, nI_m1, nI_clamp, eq_self, am_kr_s, am_kr_n, w8_nil, w8_c, w8_a, w8_0, ct_i, ct_r, ct_n, ct_k, ct_l, true_and, and_true, ↓reduceIte, Nat.reduceAdd, Nat.reduceMul, Nat.reduceSub, Nat.reduceLeDiff, Nat.reduceLT, Nat.reduceDiv, Nat.reduceMod, Nat.reduceEqDiff, ne_eq, not_false_eq_true, not_true_eq_false, reduceCtorEq, mr58_4, mr59_2, mr62_2, mr63_2, mr64_2, mr65_2, mr66_2, mr67_2, mr68_2, mr69_2, mr70_2, mr71_2, mr72_2, mr73_2, mr74_2, mr75_2, mr76_2, mr77_2, mr78_2, mr79_2, mr80_2, mr81_2, mr82_2, mr83_2, mr84_2, mr85_2, mr86_2, mr87_2, mr90_2, mr92_2, mr94_2, mr95_2, mr97_2, mr98_2, mr99_2, mr100_2, mr101_2, mr102_2, mr103_2, mr104_2, mr105_2, mr106_2, mr107_2, mr108_2, mr109_2, mr110_2, mr111_2, mr112_2, mr113_2, mr114_2, mr115_2, mr116_2, mr117_2, mr118_2, mr119_2, mr120_2, mr121_2, m73 hl hM ho hT ht, m74 hl hM ho, h2]
      rw [← e, ih (k + 1) _ (by omega)]
    · rw [if_neg hc] at e
      simp (discharger := omega) only [e106_7, e106_8, e106_9, e106_12, e106_15, e106_16, e106_17, e106_19, e106_22, e106_24, e106_25, e106_27, e106_29, e106_32, e106_33, e106_34, e106_36, e106_37, e106_38, e106_40, e106_41, e106_42, e106_43, e106_46, e106_49, e106_50, e106_51, e106_52, e106_55, mg_0, mg_1, mg_2, mg_3, mg_4, mg_5, mg_6, mg_7, mg_8, mg_9, mg_10, mg_11, mg_12, mg_13, mg_14, mg_15, mg_16, mg_17, mg_18, mg_19, mg_20, mg_21, mg_22, mp_2, mp_5, mp_7, mp_9, mp_10, mp_12, mp_14, mp_18, mp_19, mp_22, ml_0, ml_1, ml_3, ml_4, ml_6, ml_8, ml_11, ml_13, ml_15, ml_16, ml_17, ml_20, ml_21, ms_0, ms_1, ms_3, ms_4, ms_6, ms_8, ms_11, ms_13, ms_15, ms_16, ms_17, ms_20, ms_21, upm_s, upm_n, pk_us, pk_un, upd_up, seA_s, seA_n, svA_n, svI_n, n_rem, d_le_t, d_le_f, d_lt_t, d_lt_f, d_eq_t, d_eq_f, d_eq0_t, d_eq0_f, d_gt0_t, d_gt0_f, d_le0_t, d_le0_f, i_lt0, i_ge0, i_ne1, am_in_t, i_div, i_rem, nI_add, nI_mul, nI_sub, nI_m1, nI_clamp, eq_self, am_kr_s, am_kr_n, w8_nil, w8_c, w8_a, w8_0, ct_i, ct_r, ct_n, ct_k, ct_l, true_and, and_true, ↓reduceIte, Nat.reduceAdd, Nat.reduceMul, Nat.reduceSub, Nat.reduceLeDiff, Nat.reduceLT, Nat.reduceDiv, Nat.reduceMod, Nat.reduceEqDiff, ne_eq, not_false_eq_true, not_true_eq_false, reduceCtorEq, mr58_4, mr59_2, mr62_2, mr63_2, mr64_2, mr65_2, mr66_2, mr67_2, mr68_2, mr69_2, mr70_2, mr71_2, mr72_2, mr73_2, mr74_2, mr75_2, mr76_2, mr77_2, mr78_2, mr79_2, mr80_2, mr81_2, mr82_2, mr83_2, mr84_2, mr85_2, mr86_2, mr87_2, mr90_2, mr92_2, mr94_2, mr95_2, mr97_2, mr98_2, mr99_2, mr100_2, mr101_2, mr102_2, mr103_2, mr104_2, mr105_2, mr106_2, mr107_2, mr108_2, mr109_2, mr110_2, mr111_2, mr112_2, mr113_2, mr114_2, mr115_2, mr116_2, mr117_2, mr118_2, mr119_2, mr120_2, mr121_2, m73 hl hM ho hT ht, m74 hl hM ho]
      rw [← e, ih (k + 1) _ (by omega)]
theorem m106 (hl : 84 ≤ h.length) (hM : mEnc (A 0) M T) (ho : o < 6) (hT : T o = some t) (ht : t < 6) (hq : trq M o t) (hb : BR I A ps) (hps : ps.length ≤ 30) {n : Nat} (hn2 : n ≤ ps.length) (hE2 : ∀ k, k < M (42 + 7 * t) → M (117 + 5 * o + 1 + k) < 100 → M (117 + 5 * o + 1 + k) < n) : wp S (d + 2) 106 0 [some (.ref 70), some (.int (nI o)), some (.int (nI (ps.length - n))), none, none, none] [] (mst h I A) Q = Q (.inl (some (.int (nI (szT M o n ps (M (42 + 7 * t)))))), mst h I A) := by
  simp only [e106_0, e106_1, e106_2, e106_3]
  exact m106_l hl hM ho hT ht hq hb hps hn2 hE2 (M (42 + 7 * t)) 0 none (by omega)
end MI
