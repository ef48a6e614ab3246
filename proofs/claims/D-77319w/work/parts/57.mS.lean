/-! the model's parse -/
theorem clz_ok : ∀ (st r st' r' : List Nat), okS st → clz st r = .inr (st', r') → okS st' ∧ st'.length ≤ st.length := by
  intro st
  induction st with
  | nil => intro r st' r' ho h; cases h; exact ⟨ho, Nat.le_refl _⟩
  | cons w st ih =>
    intro r st' r' ho h
    have hw := ho w List.mem_cons_self
    have ho2 : okS st := fun w' q => ho w' (List.mem_cons_of_mem _ q)
    cases r with
    | nil => cases h
    | cons c r1 =>
      rw [clz] at h
      split at h
      · split at h
        · cases h
          exact ⟨okS_cons ho2 (by omega) (by omega), Nat.le_refl _⟩
        · cases h
      · split at h
        · have := ih _ _ _ ho2 h
          rw [List.length_cons]
          exact ⟨this.1, by omega⟩
        · cases h
theorem rdN_ok {M : Nat → Nat} {T : Nat → Option Nat} (hw : wf M T) {st r st' r' : List Nat} {t : Nat} (ho : okS st) (h : rdN M st r = .inr (t, st', r')) : okS st' ∧ st'.length ≤ st.length + 1 := by
  have hk : ∀ t0 n r1, n ≤ 9 → rdK t0 n st r1 = .inr (t, st', r') → okS st' ∧ st'.length ≤ st.length + 1 := by
    intro t0 n r1 hn hq
    unfold rdK at hq
    split at hq
    next h0 =>
      cases hq
      exact ⟨okS_cons ho h0 hn, Nat.le_refl _⟩
    next h0 =>
      cases hz : rdC t0 st r1 with
      | inl e => rw [hz] at hq; cases hq
      | inr q =>
        obtain ⟨s1, r2⟩ := q
        rw [hz] at hq
        have hq2 : s1 = st' := by cases hq; rfl
        subst hq2
        by_cases h2 : 2 < tk t0
        · cases r1 with
          | nil => rw [rdC_0 h2] at hz; cases hz
          | cons c r1 =>
            rw [rdC_c h2] at hz
            split at hz
            · have := clz_ok _ _ _ _ ho hz; exact ⟨this.1, by omega⟩
            · cases hz
        · rw [rdC_n h2] at hz
          have := clz_ok _ _ _ _ ho hz; exact ⟨this.1, by omega⟩
  unfold rdN at h
  cases h1 : rd1 M r with
  | inl e => rw [h1] at h; cases h
  | inr q =>
    obtain ⟨t0, n, r1⟩ := q
    rw [h1] at h
    refine hk t0 n r1 ?_ h
    cases r with
    | nil => cases h1
    | cons c r0 =>
      simp only [rd1] at h1
      split at h1
      · split at h1
        · cases h1; omega
        · split at h1 <;> (cases h1; omega)
      · cases h2 : ndO M c with
        | none => rw [h2] at h1; cases h1
        | some t1 =>
          rw [h2] at h1
          by_cases h3 : tk t1 ≤ 2
          · simp only [h3, if_true] at h1
            cases h1; omega
          · simp only [h3, if_false] at h1
            cases r0 with
            | nil => cases h1
            | cons c2 r2 =>
              by_cases h4 : c2 = 40
              · simp only [h4, if_true] at h1
                cases h1
                have := (fat_ok hw (ndO_ok hw h2).1 (by omega)).1.1
                omega
              · simp only [h4, if_false] at h1
                cases h1
theorem pz_len {M : Nat → Nat} : ∀ (n : Nat) (st r ts r' : List Nat), pz M n st r = .inr (ts, r') → ts.length ≤ n := by
  intro n
  induction n with
  | zero => intro st r ts r' h; cases h
  | succ n ih =>
    intro st r ts r' h
    rw [pz] at h
    cases hz : rdN M st r with
    | inl e => rw [hz] at h; cases h
    | inr q =>
      obtain ⟨t, st', r1⟩ := q
      rw [hz] at h
      cases st' with
      | nil => cases h; simp
      | cons w st1 =>
        cases hz2 : pz M n (w :: st1) r1 with
        | inl e =>
          have h : (match pz M n (w :: st1) r1 with
            | .inl e => Sum.inl e
            | .inr (ts, r2) => Sum.inr (t :: ts, r2)) = (.inr (ts, r') : List Nat ⊕ (List Nat × List Nat)) := h
          rw [hz2] at h; cases h
        | inr q =>
          obtain ⟨ts2, r2⟩ := q
          have h : (match pz M n (w :: st1) r1 with
            | .inl e => Sum.inl e
            | .inr (ts, r2) => Sum.inr (t :: ts, r2)) = (.inr (ts, r') : List Nat ⊕ (List Nat × List Nat)) := h
          rw [hz2] at h
          cases h
          have := ih _ _ _ _ hz2
          rw [List.length_cons]; omega
section MSS
variable {S : am_S} {d : Nat} {h : am_H} {Q : am_Out → Prop} {I : Nat → Int32} {A : Nat → Nat → Int32} {σ : sg} {X : List Nat}
theorem rdP_fr {acc : List Nat} {I' : Nat → Int32} {A' : Nat → Nat → Int32} {o : List Nat ⊕ (Nat × List Nat × List Nat)} (hf : frP I A I' A') (hq : rdP h Q X acc I A o) : rdP h Q X acc I' A' o := by
  cases o with
  | inl e => exact fun I2 A2 h1 h2 => hq I2 A2 (frP_tr hf h1) h2
  | inr q => exact fun I2 A2 h1 h2 => hq I2 A2 (frP_tr hf h1) h2
def pzP (S : am_S) (d : Nat) (h : am_H) (Q : am_Out → Prop) (X acc : List Nat) (I : Nat → Int32) (A : Nat → Nat → Int32) (o : List Nat ⊕ (List Nat × List Nat)) : Prop := match o with
  | .inl e => ∀ I' A', frP I A I' A' → Q (.inl (some (.int (-10 - nI (X.length - e.length)))), mst h I' A')
  | .inr (ts, r') => ∀ I' A', frP I A I' A' → PR I' A' X r' [] (acc ++ ts) → wp S d 85 37 [some (.ref 70), none] [] (mst h I' A') Q
theorem m85_l (hl : 84 ≤ h.length) (hw : wfs σ) (hX : X = σ.2.2.2) : ∀ (n : Nat) (st r acc : List Nat) (I : Nat → Int32) (A : Nat → Nat → Int32), acc.length + n = 30 → okS st → st.length ≤ acc.length → PR I A X r st acc → MR I A σ → pzP S (d + 4) h Q X acc I A (pz σ.1.1 n st r) → wp S (d + 4) 85 15 [some (.ref 70), none] [] (mst h I A) Q := by
  intro n
  induction n with
  | zero =>
    intro st r acc I A hn ho hs hp hm hq
    rw [e85_15]
    simp (discharger := omega) only [e85_16, mg_0, mg_1, mg_2, mg_3, mg_4, mg_5, mg_6, mg_7, mg_8, mg_9, mg_10, mg_11, mg_12, mg_13, mg_14, mg_15, mg_16, mg_17, mg_18, mg_19, mg_20, mg_21, mg_22, mp_2, mp_5, mp_7, mp_9, mp_10, mp_12, mp_14, mp_18, mp_19, mp_22, ml_0, ml_1, ml_3, ml_4, ml_6, ml_8, ml_11, ml_13, ml_15, ml_16, ml_17, ml_20, ml_21, ms_0, ms_1, ms_3, ms_4, ms_6, ms_8, ms_11, ms_13, ms_15, ms_16, ms_17, ms_20, ms_21, upm_s, upm_n, pk_us, pk_un, upd_up, seA_s, seA_n, svA_n, svI_n, n_rem, d_le_t, d_le_f, d_lt_t, d_lt_f, d_eq_t, d_eq_f, d_eq0_t, d_eq0_f, d_gt0_t, d_gt0_f, d_le0_t, d_le0_f, i_lt0, i_ge0, i_ne1, am_in_t, i_div, i_rem, nI_add, nI_mul, nI_sub, nI_m1, nI_clamp, eq_self, am_kr_s, am_kr_n, w8_nil, w8_c, w8_a, w8_0, ct_i, ct_r, ct_n, ct_k, ct_l, true_and, and_true, ↓reduceIte, Nat.reduceAdd, Nat.reduceMul, Nat.reduceSub, Nat.reduceLeDiff, Nat.reduceLT, Nat.reduceDiv, Nat.reduceMod, Nat.reduceEqDiff, ne_eq, not_false_eq_true, not_true_eq_false, reduceCtorEq, mr58_4, mr59_2, mr62_2, mr63_2, mr64_2, mr65_2, mr66_2, mr67_2, mr68_2, mr69_2, mr70_2, mr71_2, mr72_2, mr73_2, mr74_2, mr75_2, mr76_2, mr77_2, mr78_2, mr79_2, mr80_2, mr81_2, mr82_2, mr83_2, mr84_2, mr85_2, mr86_2, mr87_2, mr90_2, mr92_2, mr94_2, mr95_2, mr97_2, mr98_2, mr99_2, mr100_2, mr101_2, mr102_2, mr103_2, mr104_2, mr105_2, mr106_2, mr107_2, mr108_2, mr109_2, mr110_2, mr111_2, mr112_2, mr113_2, mr114_2, mr115_2, mr116_2, mr117_2, mr118_2, mr119_2, mr120_2, mr121_2]
    refine m86_30 hl hw hX (by omega) hp hm (fun I' A' hf h10 => ?_)
    simp (discharger := omega) only [am_kr_s, e85_19, e85_22, e85_24, e85_25, e85_28, e85_29, mg_0, mg_1, mg_2, mg_3, mg_4, mg_5, mg_6, mg_7, mg_8, mg_9, mg_10, mg_11, mg_12, mg_13, mg_14, mg_15, mg_16, mg_17, mg_18, mg_19, mg_20, mg_21, mg_22, mp_2, mp_5, mp_7, mp_9, mp_10, mp_12, mp_14, mp_18, mp_19, mp_22, ml_0, ml_1, ml_3, ml_4, ml_6, ml_8, ml_11, ml_13, ml_15, ml_16, ml_17, ml_20, ml_21, ms_0, ms_1, ms_3, ms_4, ms_6, ms_8, ms_11, ms_13, ms_15, ms_16, ms_17, ms_20, ms_21, upm_s, upm_n, pk_us, pk_un, upd_up, seA_s, seA_n, svA_n, svI_n, n_rem, d_le_t, d_le_f, d_lt_t, d_lt_f, d_eq_t, d_eq_f, d_eq0_t, d_eq0_f, d_gt0_t, d_gt0_f, d_le0_t, d_le0_f, i_lt0, i_ge0, i_ne1, am_in_t, i_div, i_rem, nI_add, nI_mul, nI_sub, nI_m1, nI_clamp, eq_self, am_kr_s, am_kr_n, w8_nil, w8_c, w8_a, w8_0, ct_i, ct_r, ct_n, ct_k, ct_l, true_and, and_true, ↓reduceIte, Nat.reduceAdd, Nat.reduceMul, Nat.reduceSub, Nat.reduceLeDiff, Nat.reduceLT, Nat.reduceDiv, Nat.reduceMod, Nat.reduceEqDiff, ne_eq, not_false_eq_true, not_true_eq_false, reduceCtorEq, mr58_4, mr59_2, mr62_2, mr63_2, mr64_2, mr65_2, mr66_2, mr67_2, mr68_2, mr69_2, mr70_2, mr71_2, mr72_2, mr73_2, mr74_2, mr75_2, mr76_2, mr77_2, mr78_2, mr79_2, mr80_2, mr81_2, mr82_2, mr83_2, mr84_2, mr85_2, mr86_2, mr87_2, mr90_2, mr92_2, mr94_2, mr95_2, mr97_2, mr98_2, mr99_2, mr100_2, mr101_2, mr102_2, mr103_2, mr104_2, mr105_2, mr106_2, mr107_2, mr108_2, mr109_2, mr110_2, mr111_2, mr112_2, mr113_2, mr114_2, mr115_2, mr116_2, mr117_2, mr118_2, mr119_2, mr120_2, mr121_2, h10]
    exact hq I' A' hf
  | succ n ih =>
    intro st r acc I A hn ho hs hp hm hq
    rw [e85_15]
    simp (discharger := omega) only [e85_16, mg_0, mg_1, mg_2, mg_3, mg_4, mg_5, mg_6, mg_7, mg_8, mg_9, mg_10, mg_11, mg_12, mg_13, mg_14, mg_15, mg_16, mg_17, mg_18, mg_19, mg_20, mg_21, mg_22, mp_2, mp_5, mp_7, mp_9, mp_10, mp_12, mp_14, mp_18, mp_19, mp_22, ml_0, ml_1, ml_3, ml_4, ml_6, ml_8, ml_11, ml_13, ml_15, ml_16, ml_17, ml_20, ml_21, ms_0, ms_1, ms_3, ms_4, ms_6, ms_8, ms_11, ms_13, ms_15, ms_16, ms_17, ms_20, ms_21, upm_s, upm_n, pk_us, pk_un, upd_up, seA_s, seA_n, svA_n, svI_n, n_rem, d_le_t, d_le_f, d_lt_t, d_lt_f, d_eq_t, d_eq_f, d_eq0_t, d_eq0_f, d_gt0_t, d_gt0_f, d_le0_t, d_le0_f, i_lt0, i_ge0, i_ne1, am_in_t, i_div, i_rem, nI_add, nI_mul, nI_sub, nI_m1, nI_clamp, eq_self, am_kr_s, am_kr_n, w8_nil, w8_c, w8_a, w8_0, ct_i, ct_r, ct_n, ct_k, ct_l, true_and, and_true, ↓reduceIte, Nat.reduceAdd, Nat.reduceMul, Nat.reduceSub, Nat.reduceLeDiff, Nat.reduceLT, Nat.reduceDiv, Nat.reduceMod, Nat.reduceEqDiff, ne_eq, not_false_eq_true, not_true_eq_false, reduceCtorEq, mr58_4, mr59_2, mr62_2, mr63_2, mr64_2, mr65_2, mr66_2, mr67_2, mr68_2, mr69_2, mr70_2, mr71_2, mr72_2, mr73_2, mr74_2, mr75_2, mr76_2, mr77_2, mr78_2, mr79_2, mr80_2, mr81_2, mr82_2, mr83_2, mr84_2, mr85_2, mr86_2, mr87_2, mr90_2, mr92_2, mr94_2, mr95_2, mr97_2, mr98_2, mr99_2, mr100_2, mr101_2, mr102_2, mr103_2, mr104_2, mr105_2, mr106_2, mr107_2, mr108_2, mr109_2, mr110_2, mr111_2, mr112_2, mr113_2, mr114_2, mr115_2, mr116_2, mr117_2, mr118_2, mr119_2, mr120_2, mr121_2]
    refine m86 hl hw hX (by omega) ho (by omega) hp hm ?_
    rw [pz] at hq
    cases hz : rdN σ.1.1 st r with
    | inl e =>
      rw [hz] at hq
      intro I' A' hf h10
      simp (discharger := omega) only [am_kr_s, e85_19, e85_22, e85_24, e85_25, e85_28, e85_29, mg_0, mg_1, mg_2, mg_3, mg_4, mg_5, mg_6, mg_7, mg_8, mg_9, mg_10, mg_11, mg_12, mg_13, mg_14, mg_15, mg_16, mg_17, mg_18, mg_19, mg_20, mg_21, mg_22, mp_2, mp_5, mp_7, mp_9, mp_10, mp_12, mp_14, mp_18, mp_19, mp_22, ml_0, ml_1, ml_3, ml_4, ml_6, ml_8, ml_11, ml_13, ml_15, ml_16, ml_17, ml_20, ml_21, ms_0, ms_1, ms_3, ms_4, ms_6, ms_8, ms_11, ms_13, ms_15, ms_16, ms_17, ms_20, ms_21, upm_s, upm_n, pk_us, pk_un, upd_up, seA_s, seA_n, svA_n, svI_n, n_rem, d_le_t, d_le_f, d_lt_t, d_lt_f, d_eq_t, d_eq_f, d_eq0_t, d_eq0_f, d_gt0_t, d_gt0_f, d_le0_t, d_le0_f, i_lt0, i_ge0, i_ne1, am_in_t, i_div, i_rem, nI_add, nI_mul, nI_sub, nI_m1, nI_clamp, eq_self, am_kr_s, am_kr_n, w8_nil, w8_c, w8_a, w8_0, ct_i, ct_r, ct_n, ct_k, ct_l, true_and, and_true, ↓reduceIte, Nat.reduceAdd, Nat.reduceMul, Nat.reduceSub, Nat.reduceLeDiff, Nat.reduceLT, Nat.reduceDiv, Nat.reduceMod, Nat.reduceEqDiff, ne_eq, not_false_eq_true, not_true_eq_false, reduceCtorEq, mr58_4, mr59_2, mr62_2, mr63_2, mr64_2, mr65_2, mr66_2, mr67_2, mr68_2, mr69_2, mr70_2, mr71_2, mr72_2, mr73_2, mr74_2, mr75_2, mr76_2, mr77_2, mr78_2, mr79_2, mr80_2, mr81_2, mr82_2, mr83_2, mr84_2, mr85_2, mr86_2, mr87_2, mr90_2, mr92_2, mr94_2, mr95_2, mr97_2, mr98_2, mr99_2, mr100_2, mr101_2, mr102_2, mr103_2, mr104_2, mr105_2, mr106_2, mr107_2, mr108_2, mr109_2, mr110_2, mr111_2, mr112_2, mr113_2, mr114_2, mr115_2, mr116_2, mr117_2, mr118_2, mr119_2, mr120_2, mr121_2, h10]
      exact hq I' A' hf
    | inr q =>
      obtain ⟨t, st', r'⟩ := q
      rw [hz] at hq
      have hok := rdN_ok hw.1 ho hz
      intro I' A' hf hp'
      have h9 := hp'.2.1.1
      have h9 : I' 9 = nI st'.length := h9
      cases st' with
      | nil =>
        rw [List.length_nil] at h9
        simp (discharger := omega) only [am_kr_s, e85_19, e85_22, e85_24, e85_25, e85_28, e85_29, e85_30, e85_31, e85_34, mg_0, mg_1, mg_2, mg_3, mg_4, mg_5, mg_6, mg_7, mg_8, mg_9, mg_10, mg_11, mg_12, mg_13, mg_14, mg_15, mg_16, mg_17, mg_18, mg_19, mg_20, mg_21, mg_22, mp_2, mp_5, mp_7, mp_9, mp_10, mp_12, mp_14, mp_18, mp_19, mp_22, ml_0, ml_1, ml_3, ml_4, ml_6, ml_8, ml_11, ml_13, ml_15, ml_16, ml_17, ml_20, ml_21, ms_0, ms_1, ms_3, ms_4, ms_6, ms_8, ms_11, ms_13, ms_15, ms_16, ms_17, ms_20, ms_21, upm_s, upm_n, pk_us, pk_un, upd_up, seA_s, seA_n, svA_n, svI_n, n_rem, d_le_t, d_le_f, d_lt_t, d_lt_f, d_eq_t, d_eq_f, d_eq0_t, d_eq0_f, d_gt0_t, d_gt0_f, d_le0_t, d_le0_f, i_lt0, i_ge0, i_ne1, am_in_t, i_div, i_rem, nI_add, nI_mul, nI_sub, nI_m1, nI_clamp, eq_self, am_kr_s, am_kr_n, w8_nil, w8_c, w8_a, w8_0, ct_i, ct_r, ct_n, ct_k, ct_l, true_and, and_true, ↓reduceIte, Nat.reduceAdd, Nat.reduceMul, Nat.reduceSub, Nat.reduceLeDiff, Nat.reduceLT, Nat.reduceDiv, Nat.reduceMod, Nat.reduceEqDiff, ne_eq, not_false_eq_true, not_true_eq_false, reduceCtorEq, mr58_4, mr59_2, mr62_2, mr63_2, mr64_2, mr65_2, mr66_2, mr67_2, mr68_2, mr69_2, mr70_2, mr71_2, mr72_2, mr73_2, mr74_2, mr75_2, mr76_2, mr77_2, mr78_2, mr79_2, mr80_2, mr81_2, mr82_2, mr83_2, mr84_2, mr85_2, mr86_2, mr87_2, mr90_2, mr92_2, mr94_2, mr95_2, mr97_2, mr98_2, mr99_2, mr100_2, mr101_2, mr102_2, mr103_2, mr104_2, mr105_2, mr106_2, mr107_2, mr108_2, mr109_2, mr110_2, mr111_2, mr112_2, mr113_2, mr114_2, mr115_2, mr116_2, mr117_2, mr118_2, mr119_2, mr120_2, mr121_2, h9]
        exact hq I' A' hf hp'
      | cons w st1 =>
        rw [List.length_cons] at h9
        have h6 := hok.2
        rw [List.length_cons] at h6
        have hq2 : pzP S (d + 4) h Q X acc I A (match pz σ.1.1 n (w :: st1) r' with
          | .inl e => .inl e
          | .inr (ts, r2) => .inr (t :: ts, r2)) := hq
        simp (discharger := omega) only [am_kr_s, e85_19, e85_22, e85_24, e85_25, e85_28, e85_29, e85_30, e85_31, e85_34, mg_0, mg_1, mg_2, mg_3, mg_4, mg_5, mg_6, mg_7, mg_8, mg_9, mg_10, mg_11, mg_12, mg_13, mg_14, mg_15, mg_16, mg_17, mg_18, mg_19, mg_20, mg_21, mg_22, mp_2, mp_5, mp_7, mp_9, mp_10, mp_12, mp_14, mp_18, mp_19, mp_22, ml_0, ml_1, ml_3, ml_4, ml_6, ml_8, ml_11, ml_13, ml_15, ml_16, ml_17, ml_20, ml_21, ms_0, ms_1, ms_3, ms_4, ms_6, ms_8, ms_11, ms_13, ms_15, ms_16, ms_17, ms_20, ms_21, upm_s, upm_n, pk_us, pk_un, upd_up, seA_s, seA_n, svA_n, svI_n, n_rem, d_le_t, d_le_f, d_lt_t, d_lt_f, d_eq_t, d_eq_f, d_eq0_t, d_eq0_f, d_gt0_t, d_gt0_f, d_le0_t, d_le0_f, i_lt0, i_ge0, i_ne1, am_in_t, i_div, i_rem, nI_add, nI_mul, nI_sub, nI_m1, nI_clamp, eq_self, am_kr_s, am_kr_n, w8_nil, w8_c, w8_a, w8_0, ct_i, ct_r, ct_n, ct_k, ct_l, true_and, and_true, ↓reduceIte, Nat.reduceAdd, Nat.reduceMul, Nat.reduceSub, Nat.reduceLeDiff, Nat.reduceLT, Nat.reduceDiv, Nat.reduceMod, Nat.reduceEqDiff, ne_eq, not_false_eq_true, not_true_eq_false, reduceCtorEq, mr58_4, mr59_2, mr62_2, mr63_2, mr64_2, mr65_2, mr66_2, mr67_2, mr68_2, mr69_2, mr70_2, mr71_2, mr72_2, mr73_2, mr74_2, mr75_2, mr76_2, mr77_2, mr78_2, mr79_2, mr80_2, mr81_2, mr82_2, mr83_2, mr84_2, mr85_2, mr86_2, mr87_2, mr90_2, mr92_2, mr94_2, mr95_2, mr97_2, mr98_2, mr99_2, mr100_2, mr101_2, mr102_2, mr103_2, mr104_2, mr105_2, mr106_2, mr107_2, mr108_2, mr109_2, mr110_2, mr111_2, mr112_2, mr113_2, mr114_2, mr115_2, mr116_2, mr117_2, mr118_2, mr119_2, mr120_2, mr121_2, h9]
        refine ih (w :: st1) r' (acc ++ [t]) I' A' (by rw [List.length_append, List.length_singleton]; omega) hok.1 (by rw [List.length_append, List.length_singleton, List.length_cons]; omega) hp' (MR_frP hm hf) ?_
        cases hz2 : pz σ.1.1 n (w :: st1) r' with
        | inl e =>
          rw [hz2] at hq2
          exact fun I2 A2 hf2 => hq2 I2 A2 (frP_tr hf hf2)
        | inr q =>
          rw [hz2] at hq2
          refine fun I2 A2 hf2 hp2 => hq2 I2 A2 (frP_tr hf hf2) ?_
          rw [List.append_assoc] at hp2
          exact hp2
theorem m85_k (hl : 84 ≤ h.length) {n : Nat} (hI : I 7 = nI n) (hn : n ≤ 30) : ∀ m k A, k + m = n → wp S d 85 62 [some (.ref 70), some (.int (nI k))] [] (mst h I A) Q = wp S d 85 92 [some (.ref 70), some (.int (nI n))] [] (mst h I (seA A 0 (fun j => if 149 + k ≤ j ∧ j < 149 + n then A 6 (j - 149) else A 0 j))) Q := by
  intro m
  induction m with
  | zero =>
    intro k A hk
    have hk : k = n := by omega
    subst hk
    rw [seA_id (fun i => if_neg (by omega))]
    simp (discharger := omega) only [e85_62, e85_63, e85_64, e85_67, mg_0, mg_1, mg_2, mg_3, mg_4, mg_5, mg_6, mg_7, mg_8, mg_9, mg_10, mg_11, mg_12, mg_13, mg_14, mg_15, mg_16, mg_17, mg_18, mg_19, mg_20, mg_21, mg_22, mp_2, mp_5, mp_7, mp_9, mp_10, mp_12, mp_14, mp_18, mp_19, mp_22, ml_0, ml_1, ml_3, ml_4, ml_6, ml_8, ml_11, ml_13, ml_15, ml_16, ml_17, ml_20, ml_21, ms_0, ms_1, ms_3, ms_4, ms_6, ms_8, ms_11, ms_13, ms_15, ms_16, ms_17, ms_20, ms_21, upm_s, upm_n, pk_us, pk_un, upd_up, seA_s, seA_n, svA_n, svI_n, n_rem, d_le_t, d_le_f, d_lt_t, d_lt_f, d_eq_t, d_eq_f, d_eq0_t, d_eq0_f, d_gt0_t, d_gt0_f, d_le0_t, d_le0_f, i_lt0, i_ge0, i_ne1, am_in_t, i_div, i_rem, nI_add, nI_mul, nI_sub, nI_m1, nI_clamp, eq_self, am_kr_s, am_kr_n, w8_nil, w8_c, w8_a, w8_0, ct_i, ct_r, ct_n, ct_k, ct_l, true_and, and_true, ↓reduceIte, Nat.reduceAdd, Nat.reduceMul, Nat.reduceSub, Nat.reduceLeDiff, Nat.reduceLT, Nat.reduceDiv, Nat.reduceMod, Nat.reduceEqDiff, ne_eq, not_false_eq_true, not_true_eq_false, reduceCtorEq, hI]
  | succ m ih =>
    intro k A hk
    rw [e85_62]
    simp (discharger := omega) only [e85_63, e85_64, e85_67, e85_70, e85_71, e85_74, e85_77, e85_78, e85_79, e85_80, e85_83, e85_84, e85_85, e85_86, e85_89, mg_0, mg_1, mg_2, mg_3, mg_4, mg_5, mg_6, mg_7, mg_8, mg_9, mg_10, mg_11, mg_12, mg_13, mg_14, mg_15, mg_16, mg_17, mg_18, mg_19, mg_20, mg_21, mg_22, mp_2, mp_5, mp_7, mp_9, mp_10, mp_12, mp_14, mp_18, mp_19, mp_22, ml_0, ml_1, ml_3, ml_4, ml_6, ml_8, ml_11, ml_13, ml_15, ml_16, ml_17, ml_20, ml_21, ms_0, ms_1, ms_3, ms_4, ms_6, ms_8, ms_11, ms_13, ms_15, ms_16, ms_17, ms_20, ms_21, upm_s, upm_n, pk_us, pk_un, upd_up, seA_s, seA_n, svA_n, svI_n, n_rem, d_le_t, d_le_f, d_lt_t, d_lt_f, d_eq_t, d_eq_f, d_eq0_t, d_eq0_f, d_gt0_t, d_gt0_f, d_le0_t, d_le0_f, i_lt0, i_ge0, i_ne1, am_in_t, i_div, i_rem, nI_add, nI_mul, nI_sub, nI_m1, nI_clamp, eq_self, am_kr_s, am_kr_n, w8_nil, w8_c, w8_a, w8_0, ct_i, ct_r, ct_n, ct_k, ct_l, true_and, and_true, ↓reduceIte, Nat.reduceAdd, Nat.reduceMul, Nat.reduceSub, Nat.reduceLeDiff, Nat.reduceLT, Nat.reduceDiv, Nat.reduceMod, Nat.reduceEqDiff, ne_eq, not_false_eq_true, not_true_eq_false, reduceCtorEq, hI]
    rw [ih _ _ (by omega), seA_up]
    intro j
    simp only [upd_ap, upm_s, upm_n (show (6 : Nat) ≠ 0 by decide)]
    by_cases q1 : j = 149 + k
    · rw [if_neg (by omega), if_pos q1, if_pos (by omega), show j - 149 = k by omega]
    · by_cases q2 : 149 + (k + 1) ≤ j ∧ j < 149 + n
      · rw [if_pos q2, if_pos (by omega)]
      · rw [if_neg q2, if_neg q1, if_neg (by omega)]
theorem M_par (hl : 84 ≤ h.length) (hm : MR I A σ) (hw : wfs σ) (hQ : mQ h Q (sp_par σ)) : wp S (d + 4) 85 0 [some (.ref 70), none] [] (mst h I A) Q := by
  simp (discharger := omega) only [e85_0, e85_1, e85_2, e85_5, e85_6, e85_7, e85_10, e85_11, e85_12, mg_0, mg_1, mg_2, mg_3, mg_4, mg_5, mg_6, mg_7, mg_8, mg_9, mg_10, mg_11, mg_12, mg_13, mg_14, mg_15, mg_16, mg_17, mg_18, mg_19, mg_20, mg_21, mg_22, mp_2, mp_5, mp_7, mp_9, mp_10, mp_12, mp_14, mp_18, mp_19, mp_22, ml_0, ml_1, ml_3, ml_4, ml_6, ml_8, ml_11, ml_13, ml_15, ml_16, ml_17, ml_20, ml_21, ms_0, ms_1, ms_3, ms_4, ms_6, ms_8, ms_11, ms_13, ms_15, ms_16, ms_17, ms_20, ms_21, upm_s, upm_n, pk_us, pk_un, upd_up, seA_s, seA_n, svA_n, svI_n, n_rem, d_le_t, d_le_f, d_lt_t, d_lt_f, d_eq_t, d_eq_f, d_eq0_t, d_eq0_f, d_gt0_t, d_gt0_f, d_le0_t, d_le0_f, i_lt0, i_ge0, i_ne1, am_in_t, i_div, i_rem, nI_add, nI_mul, nI_sub, nI_m1, nI_clamp, eq_self, am_kr_s, am_kr_n, w8_nil, w8_c, w8_a, w8_0, ct_i, ct_r, ct_n, ct_k, ct_l, true_and, and_true, ↓reduceIte, Nat.reduceAdd, Nat.reduceMul, Nat.reduceSub, Nat.reduceLeDiff, Nat.reduceLT, Nat.reduceDiv, Nat.reduceMod, Nat.reduceEqDiff, ne_eq, not_false_eq_true, not_true_eq_false, reduceCtorEq, mr58_4, mr59_2, mr62_2, mr63_2, mr64_2, mr65_2, mr66_2, mr67_2, mr68_2, mr69_2, mr70_2, mr71_2, mr72_2, mr73_2, mr74_2, mr75_2, mr76_2, mr77_2, mr78_2, mr79_2, mr80_2, mr81_2, mr82_2, mr83_2, mr84_2, mr85_2, mr86_2, mr87_2, mr90_2, mr92_2, mr94_2, mr95_2, mr97_2, mr98_2, mr99_2, mr100_2, mr101_2, mr102_2, mr103_2, mr104_2, mr105_2, mr106_2, mr107_2, mr108_2, mr109_2, mr110_2, mr111_2, mr112_2, mr113_2, mr114_2, mr115_2, mr116_2, mr117_2, mr118_2, mr119_2, mr120_2, mr121_2]
  have hf0 : frP I A (upd (upd (upd I 10 (nI 0)) 7 (nI 0)) 9 (nI 0)) A := ⟨fun j q1 q2 q3 => by rw [pk_un q2, pk_un q1, pk_un q3], fun _ _ _ => rfl⟩
  have hm0 := MR_frP hm hf0
  have hlen := hm.2.2.2.2.1.2
  refine m85_l hl hw rfl 30 [] σ.2.2.2 [] _ _ (by simp) (fun w q => by cases q) (by simp) ⟨⟨?_, Nat.le_refl _, ?_⟩, ⟨pk_us, trivial⟩, ?_, fun i c hi => by simp at hi⟩ hm0 ?_
  · rw [pk_un (by decide), pk_un (by decide), pk_us, Nat.sub_self]
  · rw [Nat.sub_self]; rfl
  · rw [pk_un (by decide), pk_us]; rfl
  · unfold sp_par at hQ
    cases hz : pz σ.1.1 30 [] σ.2.2.2 with
    | inl e =>
      rw [hz] at hQ
      exact fun I' A' hf => hQ I' A' (MR_frP hm0 hf)
    | inr q =>
      obtain ⟨ts, r⟩ := q
      rw [hz] at hQ
      intro I' A' hf hp
      have hm' := MR_frP hm0 hf
      obtain ⟨⟨h10, hle, hdr⟩, -, h7, hout⟩ := hp
      by_cases hr0 : r = []
      · subst hr0
        have hQ : mQ h Q (nI ts.length, sg_M (sg_sv σ) (stP σ.1.1 ts)) := by
          have e : (if ([] : List Nat) = [] then (nI ts.length, sg_M (sg_sv σ) (stP σ.1.1 ts)) else (-10 - nI (σ.2.2.2.length - ([] : List Nat).length), σ)) = (nI ts.length, sg_M (sg_sv σ) (stP σ.1.1 ts)) := if_pos rfl
          have hQ3 : mQ h Q (if ([] : List Nat) = [] then (nI ts.length, sg_M (sg_sv σ) (stP σ.1.1 ts)) else (-10 - nI (σ.2.2.2.length - ([] : List Nat).length), σ)) := hQ
          rw [e] at hQ3
          exact hQ3
        rw [List.length_nil, Nat.sub_zero] at h10
        rw [List.nil_append] at h7 hout
        have hts : ts.length ≤ 30 := pz_len _ _ _ _ _ hz
        simp (discharger := omega) only [e85_37, e85_38, e85_41, e85_42, e85_45, e85_48, e85_50, e85_51, e85_54, e85_55, e85_56, e85_57, e85_60, e85_61, mg_0, mg_1, mg_2, mg_3, mg_4, mg_5, mg_6, mg_7, mg_8, mg_9, mg_10, mg_11, mg_12, mg_13, mg_14, mg_15, mg_16, mg_17, mg_18, mg_19, mg_20, mg_21, mg_22, mp_2, mp_5, mp_7, mp_9, mp_10, mp_12, mp_14, mp_18, mp_19, mp_22, ml_0, ml_1, ml_3, ml_4, ml_6, ml_8, ml_11, ml_13, ml_15, ml_16, ml_17, ml_20, ml_21, ms_0, ms_1, ms_3, ms_4, ms_6, ms_8, ms_11, ms_13, ms_15, ms_16, ms_17, ms_20, ms_21, upm_s, upm_n, pk_us, pk_un, upd_up, seA_s, seA_n, svA_n, svI_n, n_rem, d_le_t, d_le_f, d_lt_t, d_lt_f, d_eq_t, d_eq_f, d_eq0_t, d_eq0_f, d_gt0_t, d_gt0_f, d_le0_t, d_le0_f, i_lt0, i_ge0, i_ne1, am_in_t, i_div, i_rem, nI_add, nI_mul, nI_sub, nI_m1, nI_clamp, eq_self, am_kr_s, am_kr_n, w8_nil, w8_c, w8_a, w8_0, ct_i, ct_r, ct_n, ct_k, ct_l, true_and, and_true, ↓reduceIte, Nat.reduceAdd, Nat.reduceMul, Nat.reduceSub, Nat.reduceLeDiff, Nat.reduceLT, Nat.reduceDiv, Nat.reduceMod, Nat.reduceEqDiff, ne_eq, not_false_eq_true, not_true_eq_false, reduceCtorEq, mr58_4, mr59_2, mr62_2, mr63_2, mr64_2, mr65_2, mr66_2, mr67_2, mr68_2, mr69_2, mr70_2, mr71_2, mr72_2, mr73_2, mr74_2, mr75_2, mr76_2, mr77_2, mr78_2, mr79_2, mr80_2, mr81_2, mr82_2, mr83_2, mr84_2, mr85_2, mr86_2, mr87_2, mr90_2, mr92_2, mr94_2, mr95_2, mr97_2, mr98_2, mr99_2, mr100_2, mr101_2, mr102_2, mr103_2, mr104_2, mr105_2, mr106_2, mr107_2, mr108_2, mr109_2, mr110_2, mr111_2, mr112_2, mr113_2, mr114_2, mr115_2, mr116_2, mr117_2, mr118_2, mr119_2, mr120_2, mr121_2, h10, hm'.2.2.2.2.1.1, m63 hl hm'.2.1.2 hm'.2.1.1]
        have hm2 := MR_sv hm'
        rw [m85_k hl (n := ts.length) (by rw [svI_n (by decide)]; exact h7) hts ts.length 0 _ (by omega)]
        simp (discharger := omega) only [e85_92, e85_93, e85_96, e85_99, e85_100, e85_103, e85_104, e85_105, e85_108, mg_0, mg_1, mg_2, mg_3, mg_4, mg_5, mg_6, mg_7, mg_8, mg_9, mg_10, mg_11, mg_12, mg_13, mg_14, mg_15, mg_16, mg_17, mg_18, mg_19, mg_20, mg_21, mg_22, mp_2, mp_5, mp_7, mp_9, mp_10, mp_12, mp_14, mp_18, mp_19, mp_22, ml_0, ml_1, ml_3, ml_4, ml_6, ml_8, ml_11, ml_13, ml_15, ml_16, ml_17, ml_20, ml_21, ms_0, ms_1, ms_3, ms_4, ms_6, ms_8, ms_11, ms_13, ms_15, ms_16, ms_17, ms_20, ms_21, upm_s, upm_n, pk_us, pk_un, upd_up, seA_s, seA_n, svA_n, svI_n, n_rem, d_le_t, d_le_f, d_lt_t, d_lt_f, d_eq_t, d_eq_f, d_eq0_t, d_eq0_f, d_gt0_t, d_gt0_f, d_le0_t, d_le0_f, i_lt0, i_ge0, i_ne1, am_in_t, i_div, i_rem, nI_add, nI_mul, nI_sub, nI_m1, nI_clamp, eq_self, am_kr_s, am_kr_n, w8_nil, w8_c, w8_a, w8_0, ct_i, ct_r, ct_n, ct_k, ct_l, true_and, and_true, ↓reduceIte, Nat.reduceAdd, Nat.reduceMul, Nat.reduceSub, Nat.reduceLeDiff, Nat.reduceLT, Nat.reduceDiv, Nat.reduceMod, Nat.reduceEqDiff, ne_eq, not_false_eq_true, not_true_eq_false, reduceCtorEq, mr58_4, mr59_2, mr62_2, mr63_2, mr64_2, mr65_2, mr66_2, mr67_2, mr68_2, mr69_2, mr70_2, mr71_2, mr72_2, mr73_2, mr74_2, mr75_2, mr76_2, mr77_2, mr78_2, mr79_2, mr80_2, mr81_2, mr82_2, mr83_2, mr84_2, mr85_2, mr86_2, mr87_2, mr90_2, mr92_2, mr94_2, mr95_2, mr97_2, mr98_2, mr99_2, mr100_2, mr101_2, mr102_2, mr103_2, mr104_2, mr105_2, mr106_2, mr107_2, mr108_2, mr109_2, mr110_2, mr111_2, mr112_2, mr113_2, mr114_2, mr115_2, mr116_2, mr117_2, mr118_2, mr119_2, mr120_2, mr121_2, h7]
        obtain ⟨g1, g2, g3, g4, g5, g6⟩ := hm2
        refine hQ _ _ ⟨⟨fun i i1 i2 => ?_, fun o ho => ?_⟩, g2, g3, g4, g5, g6⟩
        · show upm _ 0 148 _ 0 i = nI (stP σ.1.1 ts i)
          rw [upm_s, upd_ap]
          unfold stP
          by_cases q1 : i = 148
          · rw [if_pos q1, if_neg (by omega), if_pos q1]
          · rw [if_neg q1, seA_s]
            by_cases q2 : 149 ≤ i ∧ i < 149 + ts.length
            · rw [if_pos (by omega), if_pos q2]
              have hi : i - 149 < ts.length := by omega
              rw [hout (i - 149) _ (List.getElem?_eq_getElem hi), List.getD_eq_getElem?_getD, List.getElem?_eq_getElem hi]
              rfl
            · rw [if_neg (by omega), if_neg q2, if_neg q1]
              exact g1.1 i i1 i2
        · show upm _ 0 148 _ 0 (117 + 5 * o) = _
          rw [upm_s, pk_un (by omega), seA_s, if_neg (by omega)]
          exact g1.2 o ho
      · have hrl : 0 < r.length := List.length_pos_iff.mpr hr0
        have e : (if r = [] then (nI ts.length, sg_M (sg_sv σ) (stP σ.1.1 ts)) else (-10 - nI (σ.2.2.2.length - r.length), σ)) = (-10 - nI (σ.2.2.2.length - r.length), σ) := if_neg hr0
        have hQ2 : mQ h Q (-10 - nI (σ.2.2.2.length - r.length), σ) := by
          have hQ3 : mQ h Q (if r = [] then (nI ts.length, sg_M (sg_sv σ) (stP σ.1.1 ts)) else (-10 - nI (σ.2.2.2.length - r.length), σ)) := hQ
          rw [e] at hQ3; exact hQ3
        simp (discharger := omega) only [e85_37, e85_38, e85_41, e85_42, e85_45, e85_48, e85_50, e85_51, e85_54, e85_55, mg_0, mg_1, mg_2, mg_3, mg_4, mg_5, mg_6, mg_7, mg_8, mg_9, mg_10, mg_11, mg_12, mg_13, mg_14, mg_15, mg_16, mg_17, mg_18, mg_19, mg_20, mg_21, mg_22, mp_2, mp_5, mp_7, mp_9, mp_10, mp_12, mp_14, mp_18, mp_19, mp_22, ml_0, ml_1, ml_3, ml_4, ml_6, ml_8, ml_11, ml_13, ml_15, ml_16, ml_17, ml_20, ml_21, ms_0, ms_1, ms_3, ms_4, ms_6, ms_8, ms_11, ms_13, ms_15, ms_16, ms_17, ms_20, ms_21, upm_s, upm_n, pk_us, pk_un, upd_up, seA_s, seA_n, svA_n, svI_n, n_rem, d_le_t, d_le_f, d_lt_t, d_lt_f, d_eq_t, d_eq_f, d_eq0_t, d_eq0_f, d_gt0_t, d_gt0_f, d_le0_t, d_le0_f, i_lt0, i_ge0, i_ne1, am_in_t, i_div, i_rem, nI_add, nI_mul, nI_sub, nI_m1, nI_clamp, eq_self, am_kr_s, am_kr_n, w8_nil, w8_c, w8_a, w8_0, ct_i, ct_r, ct_n, ct_k, ct_l, true_and, and_true, ↓reduceIte, Nat.reduceAdd, Nat.reduceMul, Nat.reduceSub, Nat.reduceLeDiff, Nat.reduceLT, Nat.reduceDiv, Nat.reduceMod, Nat.reduceEqDiff, ne_eq, not_false_eq_true, not_true_eq_false, reduceCtorEq, mr58_4, mr59_2, mr62_2, mr63_2, mr64_2, mr65_2, mr66_2, mr67_2, mr68_2, mr69_2, mr70_2, mr71_2, mr72_2, mr73_2, mr74_2, mr75_2, mr76_2, mr77_2, mr78_2, mr79_2, mr80_2, mr81_2, mr82_2, mr83_2, mr84_2, mr85_2, mr86_2, mr87_2, mr90_2, mr92_2, mr94_2, mr95_2, mr97_2, mr98_2, mr99_2, mr100_2, mr101_2, mr102_2, mr103_2, mr104_2, mr105_2, mr106_2, mr107_2, mr108_2, mr109_2, mr110_2, mr111_2, mr112_2, mr113_2, mr114_2, mr115_2, mr116_2, mr117_2, mr118_2, mr119_2, mr120_2, mr121_2, h10, hm'.2.2.2.2.1.1]
        exact hQ2 I' A' hm'
end MSS
