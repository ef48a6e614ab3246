/-! the calls in plain terms (sp_), and that the model answers so -/
def er2 (σ : sg) : Int32 × sg := (-2, sg_E σ 0)
def er3 (σ : sg) : Int32 × sg := (-3, sg_E σ 1)
def er4 (σ : sg) : Int32 × sg := (-4, sg_E σ 2)
def er5 (σ : sg) : Int32 × sg := (-5, sg_E σ 3)
def cN (x : Int32) : Nat := x.toNatClampNeg
theorem cN_n {k : Nat} (h : k < 2 ^ 31) : cN (nI k) = k := nI_clamp h
def sp_set (b most : Nat) (x y z : Int32) (σ : sg) : Int32 × sg := if rg x 0 5 ∧ rg y 0 most ∧ rg z 0 1 then (nI (σ.1.1 (b + 7 * cN x)), sg_M (sg_sv σ) (va_up (va_up σ.1.1 (b + 7 * cN x) (cN y)) (b + 7 * cN x + 1) (cN z))) else er2 σ
def sp_term (b : Nat) (x y z : Int32) (σ : sg) : Int32 × sg := if rg x 0 5 ∧ rm y ∧ rg z 0 99 then (nI (σ.1.1 (b + 7 * cN x + 2 + cN (y + nI 1))), sg_M (sg_sv σ) (va_up σ.1.1 (b + 7 * cN x + 2 + cN (y + nI 1)) (cN z))) else er2 σ
def mpM (M : Nat → Nat) (f : Nat) : Nat → Nat := va_up (va_up (va_up (va_up M (117 + 5 * f + 1) 0) (117 + 5 * f + 2) 1) (117 + 5 * f + 3) 2) (117 + 5 * f + 4) 100
def mpN (σ : sg) (f : Nat) : Nat → Nat := match σ.1.2 f with
  | none => mpM σ.1.1 f
  | some _ => σ.1.1
def sp_map (x y : Int32) (σ : sg) : Int32 × sg := if rg x 0 5 ∧ rg y 0 5 then (bi (fth (mpN σ (cN x)) (cN x) (cN y)), sg_T (sg_M (sg_sv σ) (mpN σ (cN x))) (va_up σ.1.2 (cN x) (some (cN y)))) else er2 σ
def sp_unmap (x : Int32) (σ : sg) : Int32 × sg := if rg x 0 5 then (match σ.1.2 (cN x) with
  | none => er3 σ
  | some t => (nI t, sg_T (sg_sv σ) (va_up σ.1.2 (cN x) none))) else er2 σ
def sp_ent (x y : Int32) (e : Nat) (is : Bool) (σ : sg) : Int32 × sg := if rg x 0 5 ∧ rg y 0 3 ∧ is = true then (match σ.1.2 (cN x) with
  | none => er3 σ
  | some t => (bi (fth (va_up σ.1.1 (117 + 5 * cN x + 1 + cN y) e) (cN x) t), sg_M (sg_sv σ) (va_up σ.1.1 (117 + 5 * cN x + 1 + cN y) e))) else er2 σ
def sp_src (x y z : Int32) (σ : sg) : Int32 × sg := sp_ent x y (cN z) (decide (rg z 0 2)) σ
def sp_con (x y z : Int32) (σ : sg) : Int32 × sg := sp_ent x y (100 + cN z) (decide (rg z 0 99)) σ
def sp_fth (x : Int32) (σ : sg) : Int32 × sg := if rg x 0 5 then (match σ.1.2 (cN x) with
  | none => er3 σ
  | some t => (bi (fth σ.1.1 (cN x) t), σ)) else er2 σ
def sp_alw (x : Int32) (σ : sg) : Int32 × sg := if rg x 0 1 then (nI (σ.1.1 147), sg_M (sg_sv σ) (va_up σ.1.1 147 (cN x))) else er2 σ
def sp_adp (x : Int32) (σ : sg) : Int32 × sg := if rg x 0 5 then (match adp σ.1.1 (cN x) (σ.1.1 116) with
  | none => er3 σ
  | some k => (nI k, σ)) else er2 σ
def sp_app (x : Int32) (σ : sg) : Int32 × sg := if rg x 0 127 then (if σ.2.2.2.length = 120 then er4 σ else (nI (σ.2.2.2.length + 1), sg_X σ (σ.2.2.2 ++ [cN x]))) else er2 σ
def sp_clr (σ : sg) : Int32 × sg := (nI σ.2.2.2.length, sg_X σ [])
def sp_left (x : Int32) (σ : sg) : Int32 × sg := if rg x 1 7 then (nI (σ.1.1 (179 + cN x - 1)), σ) else er2 σ
def sp_nod (σ : sg) : Int32 × sg := (nI (σ.1.1 148), σ)
def sp_undo (σ : sg) : Int32 × sg := match σ.2.1.getLast? with
  | none => er5 σ
  | some q => (nI (σ.2.1.length - 1), (q, σ.2.1.dropLast, σ.2.2.1, σ.2.2.2))
def wfs (σ : sg) : Prop := wf σ.1.1 σ.1.2 ∧ (∀ q, q ∈ σ.2.1 → wf q.1 q.2) ∧ ∀ c, c ∈ σ.2.2.2 → c ≤ 127
section ME
variable {S : am_S} {d : Nat} {h : am_H} {Q : am_Out → Prop} {x y z : Int32} {I : Nat → Int32} {A : Nat → Nat → Int32} {σ : sg} {r : Int32 × sg}
/-- the model's answer is r -/
def mQ (h : am_H) (Q : am_Out → Prop) (r : Int32 × sg) : Prop := ∀ I' A', MR I' A' r.2 → Q (.inl (some (.int r.1)), mst h I' A')
theorem mQ_e2 (hm : MR I A σ) (hQ : mQ h Q (er2 σ)) : Q (.inl (some (.int (-2))), mst h I (upm A 3 0 (A 3 0 + nI 1))) := hQ _ _ (MR_err hm (by decide))
theorem mQ_e3 (hm : MR I A σ) (hQ : mQ h Q (er3 σ)) : Q (.inl (some (.int (-3))), mst h I (upm A 3 1 (A 3 1 + nI 1))) := hQ _ _ (MR_err hm (by decide))
theorem mQ_e4 (hm : MR I A σ) (hQ : mQ h Q (er4 σ)) : Q (.inl (some (.int (-4))), mst h I (upm A 3 2 (A 3 2 + nI 1))) := hQ _ _ (MR_err hm (by decide))
theorem mQ_e5 (hm : MR I A σ) (hQ : mQ h Q (er5 σ)) : Q (.inl (some (.int (-5))), mst h I (upm A 3 3 (A 3 3 + nI 1))) := hQ _ _ (MR_err hm (by decide))
theorem M_setOld (hl : 84 ≤ h.length) (hm : MR I A σ) (hQ : mQ h Q (sp_set 0 3 x y z σ)) : wp S (d + 3) 59 0 [some (.ref 70), some (.int x), some (.int y), some (.int z), none] [] (mst h I A) Q := by
  unfold sp_set at hQ
  by_cases hc : rg x 0 5 ∧ rg y 0 3 ∧ rg z 0 1
  · rw [if_pos hc] at hQ
    obtain ⟨h1, h2, h3⟩ := hc
    obtain ⟨f, hf, rfl⟩ := nI_lo (by decide) h1
    obtain ⟨a, ha, rfl⟩ := nI_lo (by decide) h2
    obtain ⟨e, he, rfl⟩ := nI_lo (by decide) h3
    simp (discharger := omega) only [cN_n, Nat.zero_add] at hQ
    rw [m59 hl hm.2.1.2 hm.2.1.1 hf ha he, hm.1.M (by omega) (by omega)]
    exact hQ _ _ (MR_up (MR_up (MR_sv hm) (by omega)) (by omega))
  · rw [if_neg hc] at hQ
    rw [m59_n hl hc]
    exact mQ_e2 hm hQ
theorem M_setNew (hl : 84 ≤ h.length) (hm : MR I A σ) (hQ : mQ h Q (sp_set 42 4 x y z σ)) : wp S (d + 3) 65 0 [some (.ref 70), some (.int x), some (.int y), some (.int z), none] [] (mst h I A) Q := by
  unfold sp_set at hQ
  by_cases hc : rg x 0 5 ∧ rg y 0 4 ∧ rg z 0 1
  · rw [if_pos hc] at hQ
    obtain ⟨h1, h2, h3⟩ := hc
    obtain ⟨f, hf, rfl⟩ := nI_lo (by decide) h1
    obtain ⟨a, ha, rfl⟩ := nI_lo (by decide) h2
    obtain ⟨e, he, rfl⟩ := nI_lo (by decide) h3
    simp (discharger := omega) only [cN_n] at hQ
    rw [m65 hl hm.2.1.2 hm.2.1.1 hf ha he, hm.1.M (by omega) (by omega)]
    exact hQ _ _ (MR_up (MR_up (MR_sv hm) (by omega)) (by omega))
  · rw [if_neg hc] at hQ
    rw [m65_n hl hc]
    exact mQ_e2 hm hQ
theorem nI_s1 {q : Nat} : nI q - nI 1 + nI 1 = nI q := Int32.sub_add_cancel _ _
theorem M_term (hl : 84 ≤ h.length) (hm : MR I A σ) {b : Nat} (hb : b ≤ 42) (hQ : mQ h Q (sp_term b x y z σ)) : wp S (d + 3) 67 0 [some (.ref 70), some (.int (nI b)), some (.int x), some (.int y), some (.int z), none, none] [] (mst h I A) Q := by
  unfold sp_term at hQ
  by_cases hc : rg x 0 5 ∧ rm y ∧ rg z 0 99
  · rw [if_pos hc] at hQ
    obtain ⟨h1, h2, h3⟩ := hc
    obtain ⟨f, hf, rfl⟩ := nI_lo (by decide) h1
    obtain ⟨a, ha, rfl⟩ := nI_mlo h2
    obtain ⟨e, he, rfl⟩ := nI_lo (by decide) h3
    rw [nI_s1] at hQ
    simp (discharger := omega) only [cN_n] at hQ
    rw [m67 hl hm.2.1.2 hm.2.1.1 hb hf ha he, hm.1.M (by omega) (by omega)]
    exact hQ _ _ (MR_up (MR_sv hm) (by omega))
  · rw [if_neg hc] at hQ
    rw [m67_n hl hc]
    exact mQ_e2 hm hQ
theorem M_setOldTerm (hl : 84 ≤ h.length) (hm : MR I A σ) (hQ : mQ h Q (sp_term 0 x y z σ)) : wp S (d + 4) 66 0 [some (.ref 70), some (.int x), some (.int y), some (.int z)] [] (mst h I A) Q := by
  simp (discharger := omega) only [e66_0, e66_1, e66_2, e66_3, e66_4, e66_5, e66_8, mg_0, mg_1, mg_2, mg_3, mg_4, mg_5, mg_6, mg_7, mg_8, mg_9, mg_10, mg_11, mg_12, mg_13, mg_14, mg_15, mg_16, mg_17, mg_18, mg_19, mg_20, mg_21, mg_22, mp_2, mp_5, mp_7, mp_9, mp_10, mp_12, mp_14, mp_18, mp_19, mp_22, ml_0, ml_1, ml_3, ml_4, ml_6, ml_8, ml_11, ml_13, ml_15, ml_16, ml_17, ml_20, ml_21, ms_0, ms_1, ms_3, ms_4, ms_6, ms_8, ms_11, ms_13, ms_15, ms_16, ms_17, ms_20, ms_21, upm_s, upm_n, pk_us, pk_un, upd_up, seA_s, seA_n, svA_n, svI_n, n_rem, d_le_t, d_le_f, d_lt_t, d_lt_f, d_eq_t, d_eq_f, d_eq0_t, d_eq0_f, d_gt0_t, d_gt0_f, d_le0_t, d_le0_f, i_lt0, i_ge0, i_ne1, am_in_t, i_div, i_rem, nI_add, nI_mul, nI_sub, nI_m1, nI_clamp, eq_self, am_kr_s, am_kr_n, w8_nil, w8_c, w8_a, w8_0, ct_i, ct_r, ct_n, ct_k, ct_l, true_and, and_true, ↓reduceIte, Nat.reduceAdd, Nat.reduceMul, Nat.reduceSub, Nat.reduceLeDiff, Nat.reduceLT, Nat.reduceDiv, Nat.reduceMod, Nat.reduceEqDiff, ne_eq, not_false_eq_true, not_true_eq_false, reduceCtorEq, mr58_4, mr59_2, mr62_2, mr63_2, mr64_2, mr65_2, mr66_2, mr67_2, mr68_2, mr69_2, mr70_2, mr71_2, mr72_2, mr73_2, mr74_2, mr75_2, mr76_2, mr77_2, mr78_2, mr79_2, mr80_2, mr81_2, mr82_2, mr83_2, mr84_2, mr85_2, mr86_2, mr87_2, mr90_2, mr92_2, mr94_2, mr95_2, mr97_2, mr98_2, mr99_2, mr100_2, mr101_2, mr102_2, mr103_2, mr104_2, mr105_2, mr106_2, mr107_2, mr108_2, mr109_2, mr110_2, mr111_2, mr112_2, mr113_2, mr114_2, mr115_2, mr116_2, mr117_2, mr118_2, mr119_2, mr120_2, mr121_2]
  exact M_term hl hm (by decide) (fun I' A' hm' => by simp only [e66_0, e66_1, e66_2, e66_3, e66_4, e66_5, e66_8, eq_self, am_kr_s, am_kr_n, w8_nil, w8_c, w8_a, w8_0, ct_i, ct_r, ct_n, ct_k, ct_l, true_and, and_true, ↓reduceIte, Nat.reduceAdd, Nat.reduceMul, Nat.reduceSub, Nat.reduceLeDiff, Nat.reduceLT, Nat.reduceDiv, Nat.reduceMod, Nat.reduceEqDiff, ne_eq, not_false_eq_true, not_true_eq_false, reduceCtorEq]; exact hQ I' A' hm')
theorem M_setNewTerm (hl : 84 ≤ h.length) (hm : MR I A σ) (hQ : mQ h Q (sp_term 42 x y z σ)) : wp S (d + 4) 68 0 [some (.ref 70), some (.int x), some (.int y), some (.int z)] [] (mst h I A) Q := by
  simp (discharger := omega) only [e68_0, e68_1, e68_3, e68_4, e68_5, e68_6, e68_9, mg_0, mg_1, mg_2, mg_3, mg_4, mg_5, mg_6, mg_7, mg_8, mg_9, mg_10, mg_11, mg_12, mg_13, mg_14, mg_15, mg_16, mg_17, mg_18, mg_19, mg_20, mg_21, mg_22, mp_2, mp_5, mp_7, mp_9, mp_10, mp_12, mp_14, mp_18, mp_19, mp_22, ml_0, ml_1, ml_3, ml_4, ml_6, ml_8, ml_11, ml_13, ml_15, ml_16, ml_17, ml_20, ml_21, ms_0, ms_1, ms_3, ms_4, ms_6, ms_8, ms_11, ms_13, ms_15, ms_16, ms_17, ms_20, ms_21, upm_s, upm_n, pk_us, pk_un, upd_up, seA_s, seA_n, svA_n, svI_n, n_rem, d_le_t, d_le_f, d_lt_t, d_lt_f, d_eq_t, d_eq_f, d_eq0_t, d_eq0_f, d_gt0_t, d_gt0_f, d_le0_t, d_le0_f, i_lt0, i_ge0, i_ne1, am_in_t, i_div, i_rem, nI_add, nI_mul, nI_sub, nI_m1, nI_clamp, eq_self, am_kr_s, am_kr_n, w8_nil, w8_c, w8_a, w8_0, ct_i, ct_r, ct_n, ct_k, ct_l, true_and, and_true, ↓reduceIte, Nat.reduceAdd, Nat.reduceMul, Nat.reduceSub, Nat.reduceLeDiff, Nat.reduceLT, Nat.reduceDiv, Nat.reduceMod, Nat.reduceEqDiff, ne_eq, not_false_eq_true, not_true_eq_false, reduceCtorEq, mr58_4, mr59_2, mr62_2, mr63_2, mr64_2, mr65_2, mr66_2, mr67_2, mr68_2, mr69_2, mr70_2, mr71_2, mr72_2, mr73_2, mr74_2, mr75_2, mr76_2, mr77_2, mr78_2, mr79_2, mr80_2, mr81_2, mr82_2, mr83_2, mr84_2, mr85_2, mr86_2, mr87_2, mr90_2, mr92_2, mr94_2, mr95_2, mr97_2, mr98_2, mr99_2, mr100_2, mr101_2, mr102_2, mr103_2, mr104_2, mr105_2, mr106_2, mr107_2, mr108_2, mr109_2, mr110_2, mr111_2, mr112_2, mr113_2, mr114_2, mr115_2, mr116_2, mr117_2, mr118_2, mr119_2, mr120_2, mr121_2]
  exact M_term hl hm (by decide) (fun I' A' hm' => by simp only [e68_0, e68_1, e68_3, e68_4, e68_5, e68_6, e68_9, eq_self, am_kr_s, am_kr_n, w8_nil, w8_c, w8_a, w8_0, ct_i, ct_r, ct_n, ct_k, ct_l, true_and, and_true, ↓reduceIte, Nat.reduceAdd, Nat.reduceMul, Nat.reduceSub, Nat.reduceLeDiff, Nat.reduceLT, Nat.reduceDiv, Nat.reduceMod, Nat.reduceEqDiff, ne_eq, not_false_eq_true, not_true_eq_false, reduceCtorEq]; exact hQ I' A' hm')
theorem M_alw (hl : 84 ≤ h.length) (hm : MR I A σ) (hQ : mQ h Q (sp_alw x σ)) : wp S (d + 3) 80 0 [some (.ref 70), some (.int x), none] [] (mst h I A) Q := by
  unfold sp_alw at hQ
  by_cases hc : rg x 0 1
  · rw [if_pos hc] at hQ
    obtain ⟨f, hf, rfl⟩ := nI_lo (by decide) hc
    simp (discharger := omega) only [cN_n] at hQ
    have hm2 := MR_up (MR_sv hm) (i := 147) (v := f) (by decide)
    simp (discharger := omega) only [e80_0, e80_1, e80_2, e80_3, e80_4, e80_7, e80_10, e80_11, e80_13, e80_16, e80_17, e80_18, e80_21, e80_22, e80_25, e80_28, e80_29, e80_30, e80_31, e80_34, e80_37, e80_38, e80_39, e80_40, mg_0, mg_1, mg_2, mg_3, mg_4, mg_5, mg_6, mg_7, mg_8, mg_9, mg_10, mg_11, mg_12, mg_13, mg_14, mg_15, mg_16, mg_17, mg_18, mg_19, mg_20, mg_21, mg_22, mp_2, mp_5, mp_7, mp_9, mp_10, mp_12, mp_14, mp_18, mp_19, mp_22, ml_0, ml_1, ml_3, ml_4, ml_6, ml_8, ml_11, ml_13, ml_15, ml_16, ml_17, ml_20, ml_21, ms_0, ms_1, ms_3, ms_4, ms_6, ms_8, ms_11, ms_13, ms_15, ms_16, ms_17, ms_20, ms_21, upm_s, upm_n, pk_us, pk_un, upd_up, seA_s, seA_n, svA_n, svI_n, n_rem, d_le_t, d_le_f, d_lt_t, d_lt_f, d_eq_t, d_eq_f, d_eq0_t, d_eq0_f, d_gt0_t, d_gt0_f, d_le0_t, d_le0_f, i_lt0, i_ge0, i_ne1, am_in_t, i_div, i_rem, nI_add, nI_mul, nI_sub, nI_m1, nI_clamp, eq_self, am_kr_s, am_kr_n, w8_nil, w8_c, w8_a, w8_0, ct_i, ct_r, ct_n, ct_k, ct_l, true_and, and_true, ↓reduceIte, Nat.reduceAdd, Nat.reduceMul, Nat.reduceSub, Nat.reduceLeDiff, Nat.reduceLT, Nat.reduceDiv, Nat.reduceMod, Nat.reduceEqDiff, ne_eq, not_false_eq_true, not_true_eq_false, reduceCtorEq, mr58_4, mr59_2, mr62_2, mr63_2, mr64_2, mr65_2, mr66_2, mr67_2, mr68_2, mr69_2, mr70_2, mr71_2, mr72_2, mr73_2, mr74_2, mr75_2, mr76_2, mr77_2, mr78_2, mr79_2, mr80_2, mr81_2, mr82_2, mr83_2, mr84_2, mr85_2, mr86_2, mr87_2, mr90_2, mr92_2, mr94_2, mr95_2, mr97_2, mr98_2, mr99_2, mr100_2, mr101_2, mr102_2, mr103_2, mr104_2, mr105_2, mr106_2, mr107_2, mr108_2, mr109_2, mr110_2, mr111_2, mr112_2, mr113_2, mr114_2, mr115_2, mr116_2, mr117_2, mr118_2, mr119_2, mr120_2, mr121_2, m61, rg_t hc, decide_true, bi_t, m63 hl hm.2.1.2 hm.2.1.1, hm.1.M]
    exact hQ _ _ hm2
  · rw [if_neg hc] at hQ
    simp (discharger := omega) only [e80_0, e80_1, e80_2, e80_3, e80_4, e80_7, e80_10, e80_11, e80_13, e80_16, e80_17, e80_18, e80_21, e80_22, e80_25, e80_28, e80_29, e80_30, e80_31, e80_34, e80_37, e80_38, e80_39, e80_40, mg_0, mg_1, mg_2, mg_3, mg_4, mg_5, mg_6, mg_7, mg_8, mg_9, mg_10, mg_11, mg_12, mg_13, mg_14, mg_15, mg_16, mg_17, mg_18, mg_19, mg_20, mg_21, mg_22, mp_2, mp_5, mp_7, mp_9, mp_10, mp_12, mp_14, mp_18, mp_19, mp_22, ml_0, ml_1, ml_3, ml_4, ml_6, ml_8, ml_11, ml_13, ml_15, ml_16, ml_17, ml_20, ml_21, ms_0, ms_1, ms_3, ms_4, ms_6, ms_8, ms_11, ms_13, ms_15, ms_16, ms_17, ms_20, ms_21, upm_s, upm_n, pk_us, pk_un, upd_up, seA_s, seA_n, svA_n, svI_n, n_rem, d_le_t, d_le_f, d_lt_t, d_lt_f, d_eq_t, d_eq_f, d_eq0_t, d_eq0_f, d_gt0_t, d_gt0_f, d_le0_t, d_le0_f, i_lt0, i_ge0, i_ne1, am_in_t, i_div, i_rem, nI_add, nI_mul, nI_sub, nI_m1, nI_clamp, eq_self, am_kr_s, am_kr_n, w8_nil, w8_c, w8_a, w8_0, ct_i, ct_r, ct_n, ct_k, ct_l, true_and, and_true, ↓reduceIte, Nat.reduceAdd, Nat.reduceMul, Nat.reduceSub, Nat.reduceLeDiff, Nat.reduceLT, Nat.reduceDiv, Nat.reduceMod, Nat.reduceEqDiff, ne_eq, not_false_eq_true, not_true_eq_false, reduceCtorEq, mr58_4, mr59_2, mr62_2, mr63_2, mr64_2, mr65_2, mr66_2, mr67_2, mr68_2, mr69_2, mr70_2, mr71_2, mr72_2, mr73_2, mr74_2, mr75_2, mr76_2, mr77_2, mr78_2, mr79_2, mr80_2, mr81_2, mr82_2, mr83_2, mr84_2, mr85_2, mr86_2, mr87_2, mr90_2, mr92_2, mr94_2, mr95_2, mr97_2, mr98_2, mr99_2, mr100_2, mr101_2, mr102_2, mr103_2, mr104_2, mr105_2, mr106_2, mr107_2, mr108_2, mr109_2, mr110_2, mr111_2, mr112_2, mr113_2, mr114_2, mr115_2, mr116_2, mr117_2, mr118_2, mr119_2, mr120_2, mr121_2, m61, rg_f hc, decide_false, bi_f, m64_2 hl]
    exact mQ_e2 hm hQ
theorem M_clr (hl : 84 ≤ h.length) (hm : MR I A σ) (hQ : mQ h Q (sp_clr σ)) : wp S d 84 0 [some (.ref 70), none] [] (mst h I A) Q := by
  simp (discharger := omega) only [e84_0, e84_1, e84_4, e84_5, e84_6, e84_7, e84_10, e84_11, mg_0, mg_1, mg_2, mg_3, mg_4, mg_5, mg_6, mg_7, mg_8, mg_9, mg_10, mg_11, mg_12, mg_13, mg_14, mg_15, mg_16, mg_17, mg_18, mg_19, mg_20, mg_21, mg_22, mp_2, mp_5, mp_7, mp_9, mp_10, mp_12, mp_14, mp_18, mp_19, mp_22, ml_0, ml_1, ml_3, ml_4, ml_6, ml_8, ml_11, ml_13, ml_15, ml_16, ml_17, ml_20, ml_21, ms_0, ms_1, ms_3, ms_4, ms_6, ms_8, ms_11, ms_13, ms_15, ms_16, ms_17, ms_20, ms_21, upm_s, upm_n, pk_us, pk_un, upd_up, seA_s, seA_n, svA_n, svI_n, n_rem, d_le_t, d_le_f, d_lt_t, d_lt_f, d_eq_t, d_eq_f, d_eq0_t, d_eq0_f, d_gt0_t, d_gt0_f, d_le0_t, d_le0_f, i_lt0, i_ge0, i_ne1, am_in_t, i_div, i_rem, nI_add, nI_mul, nI_sub, nI_m1, nI_clamp, eq_self, am_kr_s, am_kr_n, w8_nil, w8_c, w8_a, w8_0, ct_i, ct_r, ct_n, ct_k, ct_l, true_and, and_true, ↓reduceIte, Nat.reduceAdd, Nat.reduceMul, Nat.reduceSub, Nat.reduceLeDiff, Nat.reduceLT, Nat.reduceDiv, Nat.reduceMod, Nat.reduceEqDiff, ne_eq, not_false_eq_true, not_true_eq_false, reduceCtorEq, mr58_4, mr59_2, mr62_2, mr63_2, mr64_2, mr65_2, mr66_2, mr67_2, mr68_2, mr69_2, mr70_2, mr71_2, mr72_2, mr73_2, mr74_2, mr75_2, mr76_2, mr77_2, mr78_2, mr79_2, mr80_2, mr81_2, mr82_2, mr83_2, mr84_2, mr85_2, mr86_2, mr87_2, mr90_2, mr92_2, mr94_2, mr95_2, mr97_2, mr98_2, mr99_2, mr100_2, mr101_2, mr102_2, mr103_2, mr104_2, mr105_2, mr106_2, mr107_2, mr108_2, mr109_2, mr110_2, mr111_2, mr112_2, mr113_2, mr114_2, mr115_2, mr116_2, mr117_2, mr118_2, mr119_2, mr120_2, mr121_2, hm.2.2.2.2.1.1]
  obtain ⟨h1, h2, h3, h4, h5, h6⟩ := hm
  exact hQ _ _ ⟨h1, h2, h3, h4, ⟨rfl, by show (0 : Nat) ≤ 120; omega⟩, fun i c hi => by have hi : ([] : List Nat)[i]? = some c := hi; simp at hi⟩
theorem M_app (hl : 84 ≤ h.length) (hm : MR I A σ) (hQ : mQ h Q (sp_app x σ)) : wp S (d + 3) 83 0 [some (.ref 70), some (.int x)] [] (mst h I A) Q := by
  unfold sp_app at hQ
  have hlen := hm.2.2.2.2.1.2
  by_cases hc : rg x 0 127
  · rw [if_pos hc] at hQ
    by_cases h2 : σ.2.2.2.length = 120
    · rw [if_pos h2] at hQ
      simp (discharger := omega) only [e83_0, e83_1, e83_2, e83_3, e83_6, e83_9, e83_12, e83_13, e83_15, e83_18, e83_19, e83_20, e83_23, e83_25, e83_28, e83_29, e83_31, e83_34, e83_35, e83_36, e83_39, e83_40, e83_43, e83_44, e83_45, e83_46, e83_46i, e83_47, e83_50, e83_51, e83_52, e83_55, e83_56, e83_59, mg_0, mg_1, mg_2, mg_3, mg_4, mg_5, mg_6, mg_7, mg_8, mg_9, mg_10, mg_11, mg_12, mg_13, mg_14, mg_15, mg_16, mg_17, mg_18, mg_19, mg_20, mg_21, mg_22, mp_2, mp_5, mp_7, mp_9, mp_10, mp_12, mp_14, mp_18, mp_19, mp_22, ml_0, ml_1, ml_3, ml_4, ml_6, ml_8, ml_11, ml_13, ml_15, ml_16, ml_17, ml_20, ml_21, ms_0, ms_1, ms_3, ms_4, ms_6, ms_8, ms_11, ms_13, ms_15, ms_16, ms_17, ms_20, ms_21, upm_s, upm_n, pk_us, pk_un, upd_up, seA_s, seA_n, svA_n, svI_n, n_rem, d_le_t, d_le_f, d_lt_t, d_lt_f, d_eq_t, d_eq_f, d_eq0_t, d_eq0_f, d_gt0_t, d_gt0_f, d_le0_t, d_le0_f, i_lt0, i_ge0, i_ne1, am_in_t, i_div, i_rem, nI_add, nI_mul, nI_sub, nI_m1, nI_clamp, eq_self, am_kr_s, am_kr_n, w8_nil, w8_c, w8_a, w8_0, ct_i, ct_r, ct_n, ct_k, ct_l, true_and, and_true, ↓reduceIte, Nat.reduceAdd, Nat.reduceMul, Nat.reduceSub, Nat.reduceLeDiff, Nat.reduceLT, Nat.reduceDiv, Nat.reduceMod, Nat.reduceEqDiff, ne_eq, not_false_eq_true, not_true_eq_false, reduceCtorEq, mr58_4, mr59_2, mr62_2, mr63_2, mr64_2, mr65_2, mr66_2, mr67_2, mr68_2, mr69_2, mr70_2, mr71_2, mr72_2, mr73_2, mr74_2, mr75_2, mr76_2, mr77_2, mr78_2, mr79_2, mr80_2, mr81_2, mr82_2, mr83_2, mr84_2, mr85_2, mr86_2, mr87_2, mr90_2, mr92_2, mr94_2, mr95_2, mr97_2, mr98_2, mr99_2, mr100_2, mr101_2, mr102_2, mr103_2, mr104_2, mr105_2, mr106_2, mr107_2, mr108_2, mr109_2, mr110_2, mr111_2, mr112_2, mr113_2, mr114_2, mr115_2, mr116_2, mr117_2, mr118_2, mr119_2, mr120_2, mr121_2, m61, rg_t hc, decide_true, bi_t, m64_4 hl, hm.2.2.2.2.1.1]
      exact mQ_e4 hm hQ
    · rw [if_neg h2] at hQ
      obtain ⟨f, hf, rfl⟩ := nI_lo (by decide) hc
      simp (discharger := omega) only [cN_n] at hQ
      simp (discharger := omega) only [e83_0, e83_1, e83_2, e83_3, e83_6, e83_9, e83_12, e83_13, e83_15, e83_18, e83_19, e83_20, e83_23, e83_25, e83_28, e83_29, e83_31, e83_34, e83_35, e83_36, e83_39, e83_40, e83_43, e83_44, e83_45, e83_46, e83_46i, e83_47, e83_50, e83_51, e83_52, e83_55, e83_56, e83_59, mg_0, mg_1, mg_2, mg_3, mg_4, mg_5, mg_6, mg_7, mg_8, mg_9, mg_10, mg_11, mg_12, mg_13, mg_14, mg_15, mg_16, mg_17, mg_18, mg_19, mg_20, mg_21, mg_22, mp_2, mp_5, mp_7, mp_9, mp_10, mp_12, mp_14, mp_18, mp_19, mp_22, ml_0, ml_1, ml_3, ml_4, ml_6, ml_8, ml_11, ml_13, ml_15, ml_16, ml_17, ml_20, ml_21, ms_0, ms_1, ms_3, ms_4, ms_6, ms_8, ms_11, ms_13, ms_15, ms_16, ms_17, ms_20, ms_21, upm_s, upm_n, pk_us, pk_un, upd_up, seA_s, seA_n, svA_n, svI_n, n_rem, d_le_t, d_le_f, d_lt_t, d_lt_f, d_eq_t, d_eq_f, d_eq0_t, d_eq0_f, d_gt0_t, d_gt0_f, d_le0_t, d_le0_f, i_lt0, i_ge0, i_ne1, am_in_t, i_div, i_rem, nI_add, nI_mul, nI_sub, nI_m1, nI_clamp, eq_self, am_kr_s, am_kr_n, w8_nil, w8_c, w8_a, w8_0, ct_i, ct_r, ct_n, ct_k, ct_l, true_and, and_true, ↓reduceIte, Nat.reduceAdd, Nat.reduceMul, Nat.reduceSub, Nat.reduceLeDiff, Nat.reduceLT, Nat.reduceDiv, Nat.reduceMod, Nat.reduceEqDiff, ne_eq, not_false_eq_true, not_true_eq_false, reduceCtorEq, mr58_4, mr59_2, mr62_2, mr63_2, mr64_2, mr65_2, mr66_2, mr67_2, mr68_2, mr69_2, mr70_2, mr71_2, mr72_2, mr73_2, mr74_2, mr75_2, mr76_2, mr77_2, mr78_2, mr79_2, mr80_2, mr81_2, mr82_2, mr83_2, mr84_2, mr85_2, mr86_2, mr87_2, mr90_2, mr92_2, mr94_2, mr95_2, mr97_2, mr98_2, mr99_2, mr100_2, mr101_2, mr102_2, mr103_2, mr104_2, mr105_2, mr106_2, mr107_2, mr108_2, mr109_2, mr110_2, mr111_2, mr112_2, mr113_2, mr114_2, mr115_2, mr116_2, mr117_2, mr118_2, mr119_2, mr120_2, mr121_2, m61, rg_t hc, decide_true, bi_t, m64_4 hl, hm.2.2.2.2.1.1]
      obtain ⟨h1, h2, h3, h4, h5, h6⟩ := hm
      refine hQ _ _ ⟨h1, h2, h3, h4, ⟨?_, ?_⟩, fun i c hi => ?_⟩
      · show _ = nI (σ.2.2.2 ++ [f]).length
        rw [pk_us, List.length_append]; rfl
      · show (σ.2.2.2 ++ [f]).length ≤ 120
        rw [List.length_append, List.length_singleton]; omega
      · have hi : (σ.2.2.2 ++ [f])[i]? = some c := hi
        rw [upm_s, upd_ap]
        by_cases q : i = σ.2.2.2.length
        · rw [if_pos q]
          subst q
          simp at hi
          rw [hi]
        · rw [if_neg q]
          have hi2 := (List.getElem?_eq_some_iff.mp hi).1
          rw [List.length_append, List.length_singleton] at hi2
          rw [List.getElem?_append_left (by omega)] at hi
          exact h6 i c hi
  · rw [if_neg hc] at hQ
    simp (discharger := omega) only [e83_0, e83_1, e83_2, e83_3, e83_6, e83_9, e83_12, e83_13, e83_15, e83_18, e83_19, e83_20, e83_23, e83_25, e83_28, e83_29, e83_31, e83_34, e83_35, e83_36, e83_39, e83_40, e83_43, e83_44, e83_45, e83_46, e83_46i, e83_47, e83_50, e83_51, e83_52, e83_55, e83_56, e83_59, mg_0, mg_1, mg_2, mg_3, mg_4, mg_5, mg_6, mg_7, mg_8, mg_9, mg_10, mg_11, mg_12, mg_13, mg_14, mg_15, mg_16, mg_17, mg_18, mg_19, mg_20, mg_21, mg_22, mp_2, mp_5, mp_7, mp_9, mp_10, mp_12, mp_14, mp_18, mp_19, mp_22, ml_0, ml_1, ml_3, ml_4, ml_6, ml_8, ml_11, ml_13, ml_15, ml_16, ml_17, ml_20, ml_21, ms_0, ms_1, ms_3, ms_4, ms_6, ms_8, ms_11, ms_13, ms_15, ms_16, ms_17, ms_20, ms_21, upm_s, upm_n, pk_us, pk_un, upd_up, seA_s, seA_n, svA_n, svI_n, n_rem, d_le_t, d_le_f, d_lt_t, d_lt_f, d_eq_t, d_eq_f, d_eq0_t, d_eq0_f, d_gt0_t, d_gt0_f, d_le0_t, d_le0_f, i_lt0, i_ge0, i_ne1, am_in_t, i_div, i_rem, nI_add, nI_mul, nI_sub, nI_m1, nI_clamp, eq_self, am_kr_s, am_kr_n, w8_nil, w8_c, w8_a, w8_0, ct_i, ct_r, ct_n, ct_k, ct_l, true_and, and_true, ↓reduceIte, Nat.reduceAdd, Nat.reduceMul, Nat.reduceSub, Nat.reduceLeDiff, Nat.reduceLT, Nat.reduceDiv, Nat.reduceMod, Nat.reduceEqDiff, ne_eq, not_false_eq_true, not_true_eq_false, reduceCtorEq, mr58_4, mr59_2, mr62_2, mr63_2, mr64_2, mr65_2, mr66_2, mr67_2, mr68_2, mr69_2, mr70_2, mr71_2, mr72_2, mr73_2, mr74_2, mr75_2, mr76_2, mr77_2, mr78_2, mr79_2, mr80_2, mr81_2, mr82_2, mr83_2, mr84_2, mr85_2, mr86_2, mr87_2, mr90_2, mr92_2, mr94_2, mr95_2, mr97_2, mr98_2, mr99_2, mr100_2, mr101_2, mr102_2, mr103_2, mr104_2, mr105_2, mr106_2, mr107_2, mr108_2, mr109_2, mr110_2, mr111_2, mr112_2, mr113_2, mr114_2, mr115_2, mr116_2, mr117_2, mr118_2, mr119_2, mr120_2, mr121_2, m61, rg_f hc, decide_false, bi_f, m64_2 hl]
    exact mQ_e2 hm hQ
theorem M_nod (hl : 84 ≤ h.length) (hm : MR I A σ) (hQ : mQ h Q (sp_nod σ)) : wp S d 112 0 [some (.ref 70)] [] (mst h I A) Q := by
  simp (discharger := omega) only [e112_0, e112_1, e112_4, e112_7, e112_8, mg_0, mg_1, mg_2, mg_3, mg_4, mg_5, mg_6, mg_7, mg_8, mg_9, mg_10, mg_11, mg_12, mg_13, mg_14, mg_15, mg_16, mg_17, mg_18, mg_19, mg_20, mg_21, mg_22, mp_2, mp_5, mp_7, mp_9, mp_10, mp_12, mp_14, mp_18, mp_19, mp_22, ml_0, ml_1, ml_3, ml_4, ml_6, ml_8, ml_11, ml_13, ml_15, ml_16, ml_17, ml_20, ml_21, ms_0, ms_1, ms_3, ms_4, ms_6, ms_8, ms_11, ms_13, ms_15, ms_16, ms_17, ms_20, ms_21, upm_s, upm_n, pk_us, pk_un, upd_up, seA_s, seA_n, svA_n, svI_n, n_rem, d_le_t, d_le_f, d_lt_t, d_lt_f, d_eq_t, d_eq_f, d_eq0_t, d_eq0_f, d_gt0_t, d_gt0_f, d_le0_t, d_le0_f, i_lt0, i_ge0, i_ne1, am_in_t, i_div, i_rem, nI_add, nI_mul, nI_sub, nI_m1, nI_clamp, eq_self, am_kr_s, am_kr_n, w8_nil, w8_c, w8_a, w8_0, ct_i, ct_r, ct_n, ct_k, ct_l, true_and, and_true, ↓reduceIte, Nat.reduceAdd, Nat.reduceMul, Nat.reduceSub, Nat.reduceLeDiff, Nat.reduceLT, Nat.reduceDiv, Nat.reduceMod, Nat.reduceEqDiff, ne_eq, not_false_eq_true, not_true_eq_false, reduceCtorEq, mr58_4, mr59_2, mr62_2, mr63_2, mr64_2, mr65_2, mr66_2, mr67_2, mr68_2, mr69_2, mr70_2, mr71_2, mr72_2, mr73_2, mr74_2, mr75_2, mr76_2, mr77_2, mr78_2, mr79_2, mr80_2, mr81_2, mr82_2, mr83_2, mr84_2, mr85_2, mr86_2, mr87_2, mr90_2, mr92_2, mr94_2, mr95_2, mr97_2, mr98_2, mr99_2, mr100_2, mr101_2, mr102_2, mr103_2, mr104_2, mr105_2, mr106_2, mr107_2, mr108_2, mr109_2, mr110_2, mr111_2, mr112_2, mr113_2, mr114_2, mr115_2, mr116_2, mr117_2, mr118_2, mr119_2, mr120_2, mr121_2, hm.1.M]
  exact hQ _ _ hm
end ME
