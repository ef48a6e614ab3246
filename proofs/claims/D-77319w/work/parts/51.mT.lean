/-! the program's text: in plain terms, and that the model tells it -/
def hd (t : Nat) : List Nat := if tk t = 0 then (if 9 < tw t then [48 + tw t / 10, 48 + tw t % 10] else [48 + tw t % 10]) else if tk t = 1 then [120] else if tk t = 2 then [121] else [(if tk t = 3 then 97 else if tk t = 4 then 65 else 112) + tw t, 40]
def ends : List Nat → List Nat × List Nat
  | [] => ([], [])
  | w :: st => if w = 1 then (41 :: (ends st).1, (ends st).2) else ([44], (w - 1) :: st)
def clo (t : Nat) : List Nat := if 2 < tk t then [41] else []
def tx : List Nat → List Nat → List Nat
  | _, [] => []
  | st, t :: p => if 0 < ta t then hd t ++ tx (ta t :: st) p else hd t ++ (clo t ++ ((ends st).1 ++ tx (ends st).2 p))
def text (M : Nat → Nat) : List Nat := tx [] (prog M)
def stk (a : Nat → Int32) : List Nat → Prop
  | [] => True
  | w :: st => a st.length = nI w ∧ stk a st
theorem stk_up {a : Nat → Int32} {k : Nat} {x : Int32} : ∀ {st : List Nat}, stk a st → st.length ≤ k → stk (upd a k x) st := by
  intro st
  induction st with
  | nil => intro _ _; trivial
  | cons w st ih =>
    intro hs hk
    have hk : st.length + 1 ≤ k := hk
    exact ⟨by rw [pk_un (by omega)]; exact hs.1, ih hs.2 (by omega)⟩
def outR (a : Nat → Int32) (out : List Nat) : Prop := ∀ i c, out[i]? = some c → a i = nI c
theorem outR_up {a : Nat → Int32} {out : List Nat} {c : Nat} (ho : outR a out) : outR (upd a out.length (nI c)) (out ++ [c]) := by
  intro i e hi
  rw [upd_ap]
  by_cases q : i = out.length
  · rw [if_pos q]
    subst q
    simp at hi
    rw [hi]
  · rw [if_neg q]
    have hi2 := (List.getElem?_eq_some_iff.mp hi).1
    rw [List.length_append, List.length_singleton] at hi2
    rw [List.getElem?_append_left (by omega)] at hi
    exact ho i e hi
/-- the model in telling: the open calls, what is told -/
def TR (I : Nat → Int32) (A : Nat → Nat → Int32) (st out : List Nat) : Prop := I 9 = nI st.length ∧ stk (A 8) st ∧ I 22 = nI out.length ∧ outR (A 21) out
def frT (I : Nat → Int32) (A : Nat → Nat → Int32) (I' : Nat → Int32) (A' : Nat → Nat → Int32) : Prop := (∀ j, j ≠ 9 → j ≠ 22 → I' j = I j) ∧ ∀ j, j ≠ 8 → j ≠ 21 → A' j = A j
theorem frT_rf {I : Nat → Int32} {A : Nat → Nat → Int32} : frT I A I A := ⟨fun _ _ _ => rfl, fun _ _ _ => rfl⟩
theorem frT_tr {I I' I2 : Nat → Int32} {A A' A2 : Nat → Nat → Int32} (h1 : frT I A I' A') (h2 : frT I' A' I2 A2) : frT I A I2 A2 := ⟨fun j q r => (h2.1 j q r).trans (h1.1 j q r), fun j q r => (h2.2 j q r).trans (h1.2 j q r)⟩
def okS (st : List Nat) : Prop := ∀ w, w ∈ st → 1 ≤ w ∧ w ≤ 9
theorem ends_len : ∀ st, okS st → (ends st).1.length + (ends st).2.length ≤ st.length + 1 := by
  intro st
  induction st with
  | nil => intro _; simp [ends]
  | cons w st ih =>
    intro ho
    have h1 := ih (fun w' q => ho w' (List.mem_cons_of_mem _ q))
    unfold ends
    split <;> simp <;> omega
theorem ends_ok : ∀ st, okS st → okS (ends st).2 := by
  intro st
  induction st with
  | nil => intro _ w q; simp [ends] at q
  | cons w st ih =>
    intro ho
    have h1 := ih (fun w' q => ho w' (List.mem_cons_of_mem _ q))
    have h2 := ho w List.mem_cons_self
    unfold ends
    split
    · exact h1
    · intro w' q
      rcases List.mem_cons.mp q with rfl | q
      · omega
      · exact ho w' (List.mem_cons_of_mem _ q)
section MT
variable {S : am_S} {d : Nat} {h : am_H} {Q : am_Out → Prop} {I : Nat → Int32} {A : Nat → Nat → Int32} {st out : List Nat}
theorem m117 (hl : 84 ≤ h.length) {c n : Nat} (h3 : I 22 = nI n) (hn : n < 200) : wp S d 117 0 [some (.ref 70), some (.int (nI c))] [] (mst h I A) Q = Q (.inl none, mst h (upd I 22 (nI (n + 1))) (upm A 21 n (nI c))) := by
  simp (discharger := omega) only [e117_0, e117_1, e117_4, e117_5, e117_8, e117_9, e117_10, e117_11, e117_11i, e117_12, e117_15, e117_16, e117_17, e117_20, mg_0, mg_1, mg_2, mg_3, mg_4, mg_5, mg_6, mg_7, mg_8, mg_9, mg_10, mg_11, mg_12, mg_13, mg_14, mg_15, mg_16, mg_17, mg_18, mg_19, mg_20, mg_21, mg_22, mp_2, mp_5, mp_7, mp_9, mp_10, mp_12, mp_14, mp_18, mp_19, mp_22, ml_0, ml_1, ml_3, ml_4, ml_6, ml_8, ml_11, ml_13, ml_15, ml_16, ml_17, ml_20, ml_21, ms_0, ms_1, ms_3, ms_4, ms_6, ms_8, ms_11, ms_13, ms_15, ms_16, ms_17, ms_20, ms_21, upm_s, upm_n, pk_us, pk_un, upd_up, seA_s, seA_n, svA_n, svI_n, n_rem, d_le_t, d_le_f, d_lt_t, d_lt_f, d_eq_t, d_eq_f, d_eq0_t, d_eq0_f, d_gt0_t, d_gt0_f, d_le0_t, d_le0_f, i_lt0, i_ge0, i_ne1, am_in_t, i_div, i_rem, nI_add, nI_mul, nI_sub, nI_m1, nI_clamp, eq_self, am_kr_s, am_kr_n, w8_nil, w8_c, w8_a, w8_0, ct_i, ct_r, ct_n, ct_k, ct_l, true_and, and_true, ↓reduceIte, Nat.reduceAdd, Nat.reduceMul, Nat.reduceSub, Nat.reduceLeDiff, Nat.reduceLT, Nat.reduceDiv, Nat.reduceMod, Nat.reduceEqDiff, ne_eq, not_false_eq_true, not_true_eq_false, reduceCtorEq, mr58_4, mr59_2, mr62_2, mr63_2, mr64_2, mr65_2, mr66_2, mr67_2, mr68_2, mr69_2, mr70_2, mr71_2, mr72_2, mr73_2, mr74_2, mr75_2, mr76_2, mr77_2, mr78_2, mr79_2, mr80_2, mr81_2, mr82_2, mr83_2, mr84_2, mr85_2, mr86_2, mr87_2, mr90_2, mr92_2, mr94_2, mr95_2, mr97_2, mr98_2, mr99_2, mr100_2, mr101_2, mr102_2, mr103_2, mr104_2, mr105_2, mr106_2, mr107_2, mr108_2, mr109_2, mr110_2, mr111_2, mr112_2, mr113_2, mr114_2, mr115_2, mr116_2, mr117_2, mr118_2, mr119_2, mr120_2, mr121_2, h3]
theorem TR_out {c : Nat} (ht : TR I A st out) : TR (upd I 22 (nI (out.length + 1))) (upm A 21 out.length (nI c)) st (out ++ [c]) := by
  obtain ⟨h1, h2, h3, h4⟩ := ht
  refine ⟨by rw [pk_un (by decide)]; exact h1, by rw [upm_n (by decide)]; exact h2, by rw [pk_us, List.length_append]; rfl, by rw [upm_s]; exact outR_up h4⟩
theorem frT_out {c : Int32} {n : Nat} {x : Int32} : frT I A (upd I 22 x) (upm A 21 n c) := ⟨fun j q r => pk_un r, fun j q r => upm_n r⟩
theorem m118_l (hl : 84 ≤ h.length) : ∀ (st : List Nat) (w : Nat) (I : Nat → Int32) (A : Nat → Nat → Int32) (out : List Nat), okS (w :: st) → TR I A (w :: st) out → out.length + st.length < 199 → st.length < 30 → (∀ I' A', frT I A I' A' → TR I' A' (ends (w :: st)).2 (out ++ (ends (w :: st)).1) → Q (.inl none, mst h I' A')) → wp S (d + 1) 118 13 [some (.ref 70), some (.int (nI 1))] [] (mst h I A) Q := by
  intro st
  induction st with
  | nil =>
    intro w I A out ho ht hn h30 hQ
    have hw := ho w List.mem_cons_self
    have ht0 := ht
    obtain ⟨h1, h2, h3, h4⟩ := ht
    have h2a : A 8 0 = nI w := h2.1
    rw [List.length_singleton] at h1
    have hn2 : out.length < 199 := hn
    rw [e118_13]
    by_cases hc : w = 1
    · subst hc
      have e : ends [1] = ([41], []) := rfl
      rw [e] at hQ
      simp (discharger := omega) only [e118_14, e118_17, e118_18, e118_21, e118_22, e118_25, e118_26, e118_27, e118_28, e118_29, e118_30, e118_31, e118_32, e118_33, e118_36, e118_37, e118_40, e118_41, e118_42, e118_43, e118_46, e118_47, e118_50, e118_51, e118_52, e118_53, e118_54, e118_57, e118_59, e118_62, e118_64, e118_67, e118_68, e118_68i, e118_69, e118_72, e118_73, e118_76, e118_77, e118_80, e118_81, e118_82, e118_85, e118_86, e118_89, e118_90, e118_93, e118_96, e118_97, e118_100, e118_101, e118_102, mg_0, mg_1, mg_2, mg_3, mg_4, mg_5, mg_6, mg_7, mg_8, mg_9, mg_10, mg_11, mg_12, mg_13, mg_14, mg_15, mg_16, mg_17, mg_18, mg_19, mg_20, mg_21, mg_22, mp_2, mp_5, mp_7, mp_9, mp_10, mp_12, mp_14, mp_18, mp_19, mp_22, ml_0, ml_1, ml_3, ml_4, ml_6, ml_8, ml_11, ml_13, ml_15, ml_16, ml_17, ml_20, ml_21, ms_0, ms_1, ms_3, ms_4, ms_6, ms_8, ms_11, ms_13, ms_15, ms_16, ms_17, ms_20, ms_21, upm_s, upm_n, pk_us, pk_un, upd_up, seA_s, seA_n, svA_n, svI_n, n_rem, d_le_t, d_le_f, d_lt_t, d_lt_f, d_eq_t, d_eq_f, d_eq0_t, d_eq0_f, d_gt0_t, d_gt0_f, d_le0_t, d_le0_f, i_lt0, i_ge0, i_ne1, am_in_t, i_div, i_rem, nI_add, nI_mul, nI_sub, nI_m1, nI_clamp, eq_self, am_kr_s, am_kr_n, w8_nil, w8_c, w8_a, w8_0, ct_i, ct_r, ct_n, ct_k, ct_l, true_and, and_true, ↓reduceIte, Nat.reduceAdd, Nat.reduceMul, Nat.reduceSub, Nat.reduceLeDiff, Nat.reduceLT, Nat.reduceDiv, Nat.reduceMod, Nat.reduceEqDiff, ne_eq, not_false_eq_true, not_true_eq_false, reduceCtorEq, mr58_4, mr59_2, mr62_2, mr63_2, mr64_2, mr65_2, mr66_2, mr67_2, mr68_2, mr69_2, mr70_2, mr71_2, mr72_2, mr73_2, mr74_2, mr75_2, mr76_2, mr77_2, mr78_2, mr79_2, mr80_2, mr81_2, mr82_2, mr83_2, mr84_2, mr85_2, mr86_2, mr87_2, mr90_2, mr92_2, mr94_2, mr95_2, mr97_2, mr98_2, mr99_2, mr100_2, mr101_2, mr102_2, mr103_2, mr104_2, mr105_2, mr106_2, mr107_2, mr108_2, mr109_2, mr110_2, mr111_2, mr112_2, mr113_2, mr114_2, mr115_2, mr116_2, mr117_2, mr118_2, mr119_2, mr120_2, mr121_2, h1, h2a, h3, m117 hl h3 (show out.length < 200 by omega)]
      rw [e118_13]
      simp (discharger := omega) only [e118_14, e118_17, e118_18, e118_21, e118_22, e118_25, e118_26, e118_27, e118_28, e118_29, e118_30, e118_31, e118_32, e118_33, e118_36, e118_37, e118_40, e118_41, e118_42, e118_43, e118_46, e118_47, e118_50, e118_51, e118_52, e118_53, e118_54, e118_57, e118_59, e118_62, e118_64, e118_67, e118_68, e118_68i, e118_69, e118_72, e118_73, e118_76, e118_77, e118_80, e118_81, e118_82, e118_85, e118_86, e118_89, e118_90, e118_93, e118_96, e118_97, e118_100, e118_101, e118_102, e118_105, mg_0, mg_1, mg_2, mg_3, mg_4, mg_5, mg_6, mg_7, mg_8, mg_9, mg_10, mg_11, mg_12, mg_13, mg_14, mg_15, mg_16, mg_17, mg_18, mg_19, mg_20, mg_21, mg_22, mp_2, mp_5, mp_7, mp_9, mp_10, mp_12, mp_14, mp_18, mp_19, mp_22, ml_0, ml_1, ml_3, ml_4, ml_6, ml_8, ml_11, ml_13, ml_15, ml_16, ml_17, ml_20, ml_21, ms_0, ms_1, ms_3, ms_4, ms_6, ms_8, ms_11, ms_13, ms_15, ms_16, ms_17, ms_20, ms_21, upm_s, upm_n, pk_us, pk_un, upd_up, seA_s, seA_n, svA_n, svI_n, n_rem, d_le_t, d_le_f, d_lt_t, d_lt_f, d_eq_t, d_eq_f, d_eq0_t, d_eq0_f, d_gt0_t, d_gt0_f, d_le0_t, d_le0_f, i_lt0, i_ge0, i_ne1, am_in_t, i_div, i_rem, nI_add, nI_mul, nI_sub, nI_m1, nI_clamp, eq_self, am_kr_s, am_kr_n, w8_nil, w8_c, w8_a, w8_0, ct_i, ct_r, ct_n, ct_k, ct_l, true_and, and_true, ↓reduceIte, Nat.reduceAdd, Nat.reduceMul, Nat.reduceSub, Nat.reduceLeDiff, Nat.reduceLT, Nat.reduceDiv, Nat.reduceMod, Nat.reduceEqDiff, ne_eq, not_false_eq_true, not_true_eq_false, reduceCtorEq, mr58_4, mr59_2, mr62_2, mr63_2, mr64_2, mr65_2, mr66_2, mr67_2, mr68_2, mr69_2, mr70_2, mr71_2, mr72_2, mr73_2, mr74_2, mr75_2, mr76_2, mr77_2, mr78_2, mr79_2, mr80_2, mr81_2, mr82_2, mr83_2, mr84_2, mr85_2, mr86_2, mr87_2, mr90_2, mr92_2, mr94_2, mr95_2, mr97_2, mr98_2, mr99_2, mr100_2, mr101_2, mr102_2, mr103_2, mr104_2, mr105_2, mr106_2, mr107_2, mr108_2, mr109_2, mr110_2, mr111_2, mr112_2, mr113_2, mr114_2, mr115_2, mr116_2, mr117_2, mr118_2, mr119_2, mr120_2, mr121_2]
      refine hQ _ _ ⟨fun j q r => by rw [pk_un q, pk_un r], fun j q r => by rw [upm_n r, upm_n q]⟩ ⟨?_, trivial, ?_, ?_⟩
      · rw [pk_us]; rfl
      · rw [pk_un (by decide), pk_us, List.length_append]; rfl
      · rw [upm_s, upm_n (by decide)]; exact outR_up h4
    · have e : ends [w] = ([44], [w - 1]) := by unfold ends; rw [if_neg hc]
      rw [e] at hQ
      simp (discharger := omega) only [e118_14, e118_17, e118_18, e118_21, e118_22, e118_25, e118_26, e118_27, e118_28, e118_29, e118_30, e118_31, e118_32, e118_33, e118_36, e118_37, e118_40, e118_41, e118_42, e118_43, e118_46, e118_47, e118_50, e118_51, e118_52, e118_53, e118_54, e118_57, e118_59, e118_62, e118_64, e118_67, e118_68, e118_68i, e118_69, e118_72, e118_73, e118_76, e118_77, e118_80, e118_81, e118_82, e118_85, e118_86, e118_89, e118_90, e118_93, e118_96, e118_97, e118_100, e118_101, e118_102, mg_0, mg_1, mg_2, mg_3, mg_4, mg_5, mg_6, mg_7, mg_8, mg_9, mg_10, mg_11, mg_12, mg_13, mg_14, mg_15, mg_16, mg_17, mg_18, mg_19, mg_20, mg_21, mg_22, mp_2, mp_5, mp_7, mp_9, mp_10, mp_12, mp_14, mp_18, mp_19, mp_22, ml_0, ml_1, ml_3, ml_4, ml_6, ml_8, ml_11, ml_13, ml_15, ml_16, ml_17, ml_20, ml_21, ms_0, ms_1, ms_3, ms_4, ms_6, ms_8, ms_11, ms_13, ms_15, ms_16, ms_17, ms_20, ms_21, upm_s, upm_n, pk_us, pk_un, upd_up, seA_s, seA_n, svA_n, svI_n, n_rem, d_le_t, d_le_f, d_lt_t, d_lt_f, d_eq_t, d_eq_f, d_eq0_t, d_eq0_f, d_gt0_t, d_gt0_f, d_le0_t, d_le0_f, i_lt0, i_ge0, i_ne1, am_in_t, i_div, i_rem, nI_add, nI_mul, nI_sub, nI_m1, nI_clamp, eq_self, am_kr_s, am_kr_n, w8_nil, w8_c, w8_a, w8_0, ct_i, ct_r, ct_n, ct_k, ct_l, true_and, and_true, ↓reduceIte, Nat.reduceAdd, Nat.reduceMul, Nat.reduceSub, Nat.reduceLeDiff, Nat.reduceLT, Nat.reduceDiv, Nat.reduceMod, Nat.reduceEqDiff, ne_eq, not_false_eq_true, not_true_eq_false, reduceCtorEq, mr58_4, mr59_2, mr62_2, mr63_2, mr64_2, mr65_2, mr66_2, mr67_2, mr68_2, mr69_2, mr70_2, mr71_2, mr72_2, mr73_2, mr74_2, mr75_2, mr76_2, mr77_2, mr78_2, mr79_2, mr80_2, mr81_2, mr82_2, mr83_2, mr84_2, mr85_2, mr86_2, mr87_2, mr90_2, mr92_2, mr94_2, mr95_2, mr97_2, mr98_2, mr99_2, mr100_2, mr101_2, mr102_2, mr103_2, mr104_2, mr105_2, mr106_2, mr107_2, mr108_2, mr109_2, mr110_2, mr111_2, mr112_2, mr113_2, mr114_2, mr115_2, mr116_2, mr117_2, mr118_2, mr119_2, mr120_2, mr121_2, h1, h2a, h3, m117 hl h3 (show out.length < 200 by omega)]
      rw [e118_13]
      simp (discharger := omega) only [e118_14, e118_17, e118_18, e118_21, e118_22, e118_25, e118_26, e118_27, e118_28, e118_29, e118_30, e118_31, e118_32, e118_33, e118_36, e118_37, e118_40, e118_41, e118_42, e118_43, e118_46, e118_47, e118_50, e118_51, e118_52, e118_53, e118_54, e118_57, e118_59, e118_62, e118_64, e118_67, e118_68, e118_68i, e118_69, e118_72, e118_73, e118_76, e118_77, e118_80, e118_81, e118_82, e118_85, e118_86, e118_89, e118_90, e118_93, e118_96, e118_97, e118_100, e118_101, e118_102, e118_105, mg_0, mg_1, mg_2, mg_3, mg_4, mg_5, mg_6, mg_7, mg_8, mg_9, mg_10, mg_11, mg_12, mg_13, mg_14, mg_15, mg_16, mg_17, mg_18, mg_19, mg_20, mg_21, mg_22, mp_2, mp_5, mp_7, mp_9, mp_10, mp_12, mp_14, mp_18, mp_19, mp_22, ml_0, ml_1, ml_3, ml_4, ml_6, ml_8, ml_11, ml_13, ml_15, ml_16, ml_17, ml_20, ml_21, ms_0, ms_1, ms_3, ms_4, ms_6, ms_8, ms_11, ms_13, ms_15, ms_16, ms_17, ms_20, ms_21, upm_s, upm_n, pk_us, pk_un, upd_up, seA_s, seA_n, svA_n, svI_n, n_rem, d_le_t, d_le_f, d_lt_t, d_lt_f, d_eq_t, d_eq_f, d_eq0_t, d_eq0_f, d_gt0_t, d_gt0_f, d_le0_t, d_le0_f, i_lt0, i_ge0, i_ne1, am_in_t, i_div, i_rem, nI_add, nI_mul, nI_sub, nI_m1, nI_clamp, eq_self, am_kr_s, am_kr_n, w8_nil, w8_c, w8_a, w8_0, ct_i, ct_r, ct_n, ct_k, ct_l, true_and, and_true, ↓reduceIte, Nat.reduceAdd, Nat.reduceMul, Nat.reduceSub, Nat.reduceLeDiff, Nat.reduceLT, Nat.reduceDiv, Nat.reduceMod, Nat.reduceEqDiff, ne_eq, not_false_eq_true, not_true_eq_false, reduceCtorEq, mr58_4, mr59_2, mr62_2, mr63_2, mr64_2, mr65_2, mr66_2, mr67_2, mr68_2, mr69_2, mr70_2, mr71_2, mr72_2, mr73_2, mr74_2, mr75_2, mr76_2, mr77_2, mr78_2, mr79_2, mr80_2, mr81_2, mr82_2, mr83_2, mr84_2, mr85_2, mr86_2, mr87_2, mr90_2, mr92_2, mr94_2, mr95_2, mr97_2, mr98_2, mr99_2, mr100_2, mr101_2, mr102_2, mr103_2, mr104_2, mr105_2, mr106_2, mr107_2, mr108_2, mr109_2, mr110_2, mr111_2, mr112_2, mr113_2, mr114_2, mr115_2, mr116_2, mr117_2, mr118_2, mr119_2, mr120_2, mr121_2]
      refine hQ _ _ ⟨fun j q r => by rw [pk_un q, pk_un r], fun j q r => by rw [upm_n r, upm_n q]⟩ ⟨?_, ⟨?_, trivial⟩, ?_, ?_⟩
      · rw [pk_us]; rfl
      · rw [upm_n (by decide), upm_s]; exact pk_us
      · rw [pk_un (by decide), pk_us, List.length_append]; rfl
      · rw [upm_s, upm_n (by decide)]; exact outR_up h4
  | cons w2 st ih =>
    intro w I A out ho ht hn h30 hQ
    have hw := ho w List.mem_cons_self
    obtain ⟨h1, h2, h3, h4⟩ := ht
    have h2a : A 8 (st.length + 1) = nI w := h2.1
    have h2b := h2.2
    have hl1 : (w :: w2 :: st).length = st.length + 2 := rfl
    have hl2 : (w2 :: st).length = st.length + 1 := rfl
    rw [hl1] at h1
    rw [hl2] at hn h30
    rw [e118_13]
    have e0 : st.length + 2 - 1 = st.length + 1 := by omega
    by_cases hc : w = 1
    · subst hc
      have e : ends (1 :: w2 :: st) = (41 :: (ends (w2 :: st)).1, (ends (w2 :: st)).2) := by rw [ends, if_pos rfl]
      rw [e] at hQ
      simp (discharger := omega) only [e118_14, e118_17, e118_18, e118_21, e118_22, e118_25, e118_26, e118_27, e118_28, e118_29, e118_30, e118_31, e118_32, e118_33, e118_36, e118_37, e118_40, e118_41, e118_42, e118_43, e118_46, e118_47, e118_50, e118_51, e118_52, e118_53, e118_54, e118_57, e118_59, e118_62, e118_64, e118_67, e118_68, e118_68i, e118_69, e118_72, e118_73, e118_76, e118_77, e118_80, e118_81, e118_82, e118_85, e118_86, e118_89, e118_90, e118_93, e118_96, e118_97, e118_100, e118_101, e118_102, mg_0, mg_1, mg_2, mg_3, mg_4, mg_5, mg_6, mg_7, mg_8, mg_9, mg_10, mg_11, mg_12, mg_13, mg_14, mg_15, mg_16, mg_17, mg_18, mg_19, mg_20, mg_21, mg_22, mp_2, mp_5, mp_7, mp_9, mp_10, mp_12, mp_14, mp_18, mp_19, mp_22, ml_0, ml_1, ml_3, ml_4, ml_6, ml_8, ml_11, ml_13, ml_15, ml_16, ml_17, ml_20, ml_21, ms_0, ms_1, ms_3, ms_4, ms_6, ms_8, ms_11, ms_13, ms_15, ms_16, ms_17, ms_20, ms_21, upm_s, upm_n, pk_us, pk_un, upd_up, seA_s, seA_n, svA_n, svI_n, n_rem, d_le_t, d_le_f, d_lt_t, d_lt_f, d_eq_t, d_eq_f, d_eq0_t, d_eq0_f, d_gt0_t, d_gt0_f, d_le0_t, d_le0_f, i_lt0, i_ge0, i_ne1, am_in_t, i_div, i_rem, nI_add, nI_mul, nI_sub, nI_m1, nI_clamp, eq_self, am_kr_s, am_kr_n, w8_nil, w8_c, w8_a, w8_0, ct_i, ct_r, ct_n, ct_k, ct_l, true_and, and_true, ↓reduceIte, Nat.reduceAdd, Nat.reduceMul, Nat.reduceSub, Nat.reduceLeDiff, Nat.reduceLT, Nat.reduceDiv, Nat.reduceMod, Nat.reduceEqDiff, ne_eq, not_false_eq_true, not_true_eq_false, reduceCtorEq, mr58_4, mr59_2, mr62_2, mr63_2, mr64_2, mr65_2, mr66_2, mr67_2, mr68_2, mr69_2, mr70_2, mr71_2, mr72_2, mr73_2, mr74_2, mr75_2, mr76_2, mr77_2, mr78_2, mr79_2, mr80_2, mr81_2, mr82_2, mr83_2, mr84_2, mr85_2, mr86_2, mr87_2, mr90_2, mr92_2, mr94_2, mr95_2, mr97_2, mr98_2, mr99_2, mr100_2, mr101_2, mr102_2, mr103_2, mr104_2, mr105_2, mr106_2, mr107_2, mr108_2, mr109_2, mr110_2, mr111_2, mr112_2, mr113_2, mr114_2, mr115_2, mr116_2, mr117_2, mr118_2, mr119_2, mr120_2, mr121_2, h1, e0, h2a, h3, m117 hl h3 (show out.length < 200 by omega)]
      refine ih w2 _ _ (out ++ [41]) (fun w' q => ho w' (List.mem_cons_of_mem _ q)) ⟨?_, ?_, ?_, ?_⟩ (by rw [List.length_append, List.length_singleton]; omega) (by omega) (fun I' A' hf ht' => ?_)
      · rw [pk_us]; rfl
      · rw [upm_n (by decide), upm_s]; exact stk_up h2b (by rw [hl2]; omega)
      · rw [pk_un (by decide), pk_us, List.length_append]; rfl
      · rw [upm_s, upm_n (by decide)]; exact outR_up h4
      · rw [List.append_assoc] at ht'
        exact hQ _ _ (frT_tr ⟨fun j q r => by rw [pk_un q, pk_un r], fun j q r => by rw [upm_n r, upm_n q]⟩ hf) ht'
    · have e : ends (w :: w2 :: st) = ([44], (w - 1) :: w2 :: st) := by rw [ends, if_neg hc]
      rw [e] at hQ
      simp (discharger := omega) only [e118_14, e118_17, e118_18, e118_21, e118_22, e118_25, e118_26, e118_27, e118_28, e118_29, e118_30, e118_31, e118_32, e118_33, e118_36, e118_37, e118_40, e118_41, e118_42, e118_43, e118_46, e118_47, e118_50, e118_51, e118_52, e118_53, e118_54, e118_57, e118_59, e118_62, e118_64, e118_67, e118_68, e118_68i, e118_69, e118_72, e118_73, e118_76, e118_77, e118_80, e118_81, e118_82, e118_85, e118_86, e118_89, e118_90, e118_93, e118_96, e118_97, e118_100, e118_101, e118_102, mg_0, mg_1, mg_2, mg_3, mg_4, mg_5, mg_6, mg_7, mg_8, mg_9, mg_10, mg_11, mg_12, mg_13, mg_14, mg_15, mg_16, mg_17, mg_18, mg_19, mg_20, mg_21, mg_22, mp_2, mp_5, mp_7, mp_9, mp_10, mp_12, mp_14, mp_18, mp_19, mp_22, ml_0, ml_1, ml_3, ml_4, ml_6, ml_8, ml_11, ml_13, ml_15, ml_16, ml_17, ml_20, ml_21, ms_0, ms_1, ms_3, ms_4, ms_6, ms_8, ms_11, ms_13, ms_15, ms_16, ms_17, ms_20, ms_21, upm_s, upm_n, pk_us, pk_un, upd_up, seA_s, seA_n, svA_n, svI_n, n_rem, d_le_t, d_le_f, d_lt_t, d_lt_f, d_eq_t, d_eq_f, d_eq0_t, d_eq0_f, d_gt0_t, d_gt0_f, d_le0_t, d_le0_f, i_lt0, i_ge0, i_ne1, am_in_t, i_div, i_rem, nI_add, nI_mul, nI_sub, nI_m1, nI_clamp, eq_self, am_kr_s, am_kr_n, w8_nil, w8_c, w8_a, w8_0, ct_i, ct_r, ct_n, ct_k, ct_l, true_and, and_true, ↓reduceIte, Nat.reduceAdd, Nat.reduceMul, Nat.reduceSub, Nat.reduceLeDiff, Nat.reduceLT, Nat.reduceDiv, Nat.reduceMod, Nat.reduceEqDiff, ne_eq, not_false_eq_true, not_true_eq_false, reduceCtorEq, mr58_4, mr59_2, mr62_2, mr63_2, mr64_2, mr65_2, mr66_2, mr67_2, mr68_2, mr69_2, mr70_2, mr71_2, mr72_2, mr73_2, mr74_2, mr75_2, mr76_2, mr77_2, mr78_2, mr79_2, mr80_2, mr81_2, mr82_2, mr83_2, mr84_2, mr85_2, mr86_2, mr87_2, mr90_2, mr92_2, mr94_2, mr95_2, mr97_2, mr98_2, mr99_2, mr100_2, mr101_2, mr102_2, mr103_2, mr104_2, mr105_2, mr106_2, mr107_2, mr108_2, mr109_2, mr110_2, mr111_2, mr112_2, mr113_2, mr114_2, mr115_2, mr116_2, mr117_2, mr118_2, mr119_2, mr120_2, mr121_2, h1, e0, h2a, h3, m117 hl h3 (show out.length < 200 by omega)]
      rw [e118_13]
      simp (discharger := omega) only [e118_14, e118_17, e118_18, e118_21, e118_22, e118_25, e118_26, e118_27, e118_28, e118_29, e118_30, e118_31, e118_32, e118_33, e118_36, e118_37, e118_40, e118_41, e118_42, e118_43, e118_46, e118_47, e118_50, e118_51, e118_52, e118_53, e118_54, e118_57, e118_59, e118_62, e118_64, e118_67, e118_68, e118_68i, e118_69, e118_72, e118_73, e118_76, e118_77, e118_80, e118_81, e118_82, e118_85, e118_86, e118_89, e118_90, e118_93, e118_96, e118_97, e118_100, e118_101, e118_102, e118_105, mg_0, mg_1, mg_2, mg_3, mg_4, mg_5, mg_6, mg_7, mg_8, mg_9, mg_10, mg_11, mg_12, mg_13, mg_14, mg_15, mg_16, mg_17, mg_18, mg_19, mg_20, mg_21, mg_22, mp_2, mp_5, mp_7, mp_9, mp_10, mp_12, mp_14, mp_18, mp_19, mp_22, ml_0, ml_1, ml_3, ml_4, ml_6, ml_8, ml_11, ml_13, ml_15, ml_16, ml_17, ml_20, ml_21, ms_0, ms_1, ms_3, ms_4, ms_6, ms_8, ms_11, ms_13, ms_15, ms_16, ms_17, ms_20, ms_21, upm_s, upm_n, pk_us, pk_un, upd_up, seA_s, seA_n, svA_n, svI_n, n_rem, d_le_t, d_le_f, d_lt_t, d_lt_f, d_eq_t, d_eq_f, d_eq0_t, d_eq0_f, d_gt0_t, d_gt0_f, d_le0_t, d_le0_f, i_lt0, i_ge0, i_ne1, am_in_t, i_div, i_rem, nI_add, nI_mul, nI_sub, nI_m1, nI_clamp, eq_self, am_kr_s, am_kr_n, w8_nil, w8_c, w8_a, w8_0, ct_i, ct_r, ct_n, ct_k, ct_l, true_and, and_true, ↓reduceIte, Nat.reduceAdd, Nat.reduceMul, Nat.reduceSub, Nat.reduceLeDiff, Nat.reduceLT, Nat.reduceDiv, Nat.reduceMod, Nat.reduceEqDiff, ne_eq, not_false_eq_true, not_true_eq_false, reduceCtorEq, mr58_4, mr59_2, mr62_2, mr63_2, mr64_2, mr65_2, mr66_2, mr67_2, mr68_2, mr69_2, mr70_2, mr71_2, mr72_2, mr73_2, mr74_2, mr75_2, mr76_2, mr77_2, mr78_2, mr79_2, mr80_2, mr81_2, mr82_2, mr83_2, mr84_2, mr85_2, mr86_2, mr87_2, mr90_2, mr92_2, mr94_2, mr95_2, mr97_2, mr98_2, mr99_2, mr100_2, mr101_2, mr102_2, mr103_2, mr104_2, mr105_2, mr106_2, mr107_2, mr108_2, mr109_2, mr110_2, mr111_2, mr112_2, mr113_2, mr114_2, mr115_2, mr116_2, mr117_2, mr118_2, mr119_2, mr120_2, mr121_2]
      refine hQ _ _ ⟨fun j q r => by rw [pk_un q, pk_un r], fun j q r => by rw [upm_n r, upm_n q]⟩ ⟨?_, ⟨?_, ?_⟩, ?_, ?_⟩
      · rw [pk_us]; rfl
      · rw [upm_n (by decide), upm_s]; exact pk_us
      · rw [upm_n (by decide), upm_s]; exact stk_up h2b (by rw [hl2]; omega)
      · rw [pk_un (by decide), pk_us, List.length_append]; rfl
      · rw [upm_s, upm_n (by decide)]; exact outR_up h4
theorem m118 (hl : 84 ≤ h.length) (ho : okS st) (ht : TR I A st out) (hn : out.length + st.length < 200) (h30 : st.length ≤ 30) (hQ : ∀ I' A', frT I A I' A' → TR I' A' (ends st).2 (out ++ (ends st).1) → Q (.inl none, mst h I' A')) : wp S (d + 1) 118 0 [some (.ref 70), none] [] (mst h I A) Q := by
  cases st with
  | nil =>
    have h1 := ht.1
    rw [List.length_nil] at h1
    simp (discharger := omega) only [e118_0, e118_1, e118_4, e118_7, e118_8, e118_11, e118_12, e118_13, e118_14, e118_17, e118_18, e118_21, e118_22, e118_25, e118_26, e118_27, e118_28, e118_29, e118_30, e118_31, e118_32, e118_33, e118_36, e118_37, e118_40, e118_41, e118_42, e118_43, e118_46, e118_47, e118_50, e118_51, e118_52, e118_53, e118_54, e118_57, e118_59, e118_62, e118_64, e118_67, e118_68, e118_68i, e118_69, e118_72, e118_73, e118_76, e118_77, e118_80, e118_81, e118_82, e118_85, e118_86, e118_89, e118_90, e118_93, e118_96, e118_97, e118_100, e118_101, e118_102, e118_105, mg_0, mg_1, mg_2, mg_3, mg_4, mg_5, mg_6, mg_7, mg_8, mg_9, mg_10, mg_11, mg_12, mg_13, mg_14, mg_15, mg_16, mg_17, mg_18, mg_19, mg_20, mg_21, mg_22, mp_2, mp_5, mp_7, mp_9, mp_10, mp_12, mp_14, mp_18, mp_19, mp_22, ml_0, ml_1, ml_3, ml_4, ml_6, ml_8, ml_11, ml_13, ml_15, ml_16, ml_17, ml_20, ml_21, ms_0, ms_1, ms_3, ms_4, ms_6, ms_8, ms_11, ms_13, ms_15, ms_16, ms_17, ms_20, ms_21, upm_s, upm_n, pk_us, pk_un, upd_up, seA_s, seA_n, svA_n, svI_n, n_rem, d_le_t, d_le_f, d_lt_t, d_lt_f, d_eq_t, d_eq_f, d_eq0_t, d_eq0_f, d_gt0_t, d_gt0_f, d_le0_t, d_le0_f, i_lt0, i_ge0, i_ne1, am_in_t, i_div, i_rem, nI_add, nI_mul, nI_sub, nI_m1, nI_clamp, eq_self, am_kr_s, am_kr_n, w8_nil, w8_c, w8_a, w8_0, ct_i, ct_r, ct_n, ct_k, ct_l, true_and, and_true, ↓reduceIte, Nat.reduceAdd, Nat.reduceMul, Nat.reduceSub, Nat.reduceLeDiff, Nat.reduceLT, Nat.reduceDiv, Nat.reduceMod, Nat.reduceEqDiff, ne_eq, not_false_eq_true, not_true_eq_false, reduceCtorEq, mr58_4, mr59_2, mr62_2, mr63_2, mr64_2, mr65_2, mr66_2, mr67_2, mr68_2, mr69_2, mr70_2, mr71_2, mr72_2, mr73_2, mr74_2, mr75_2, mr76_2, mr77_2, mr78_2, mr79_2, mr80_2, mr81_2, mr82_2, mr83_2, mr84_2, mr85_2, mr86_2, mr87_2, mr90_2, mr92_2, mr94_2, mr95_2, mr97_2, mr98_2, mr99_2, mr100_2, mr101_2, mr102_2, mr103_2, mr104_2, mr105_2, mr106_2, mr107_2, mr108_2, mr109_2, mr110_2, mr111_2, mr112_2, mr113_2, mr114_2, mr115_2, mr116_2, mr117_2, mr118_2, mr119_2, mr120_2, mr121_2, h1]
    exact hQ _ _ frT_rf (by show TR I A [] (out ++ []); rw [List.append_nil]; exact ht)
  | cons w st =>
    have h1 := ht.1
    have hl2 : (w :: st).length = st.length + 1 := rfl
    rw [hl2] at h1 hn h30
    simp (discharger := omega) only [e118_0, e118_1, e118_4, e118_7, e118_8, e118_11, e118_12, mg_0, mg_1, mg_2, mg_3, mg_4, mg_5, mg_6, mg_7, mg_8, mg_9, mg_10, mg_11, mg_12, mg_13, mg_14, mg_15, mg_16, mg_17, mg_18, mg_19, mg_20, mg_21, mg_22, mp_2, mp_5, mp_7, mp_9, mp_10, mp_12, mp_14, mp_18, mp_19, mp_22, ml_0, ml_1, ml_3, ml_4, ml_6, ml_8, ml_11, ml_13, ml_15, ml_16, ml_17, ml_20, ml_21, ms_0, ms_1, ms_3, ms_4, ms_6, ms_8, ms_11, ms_13, ms_15, ms_16, ms_17, ms_20, ms_21, upm_s, upm_n, pk_us, pk_un, upd_up, seA_s, seA_n, svA_n, svI_n, n_rem, d_le_t, d_le_f, d_lt_t, d_lt_f, d_eq_t, d_eq_f, d_eq0_t, d_eq0_f, d_gt0_t, d_gt0_f, d_le0_t, d_le0_f, i_lt0, i_ge0, i_ne1, am_in_t, i_div, i_rem, nI_add, nI_mul, nI_sub, nI_m1, nI_clamp, eq_self, am_kr_s, am_kr_n, w8_nil, w8_c, w8_a, w8_0, ct_i, ct_r, ct_n, ct_k, ct_l, true_and, and_true, ↓reduceIte, Nat.reduceAdd, Nat.reduceMul, Nat.reduceSub, Nat.reduceLeDiff, Nat.reduceLT, Nat.reduceDiv, Nat.reduceMod, Nat.reduceEqDiff, ne_eq, not_false_eq_true, not_true_eq_false, reduceCtorEq, mr58_4, mr59_2, mr62_2, mr63_2, mr64_2, mr65_2, mr66_2, mr67_2, mr68_2, mr69_2, mr70_2, mr71_2, mr72_2, mr73_2, mr74_2, mr75_2, mr76_2, mr77_2, mr78_2, mr79_2, mr80_2, mr81_2, mr82_2, mr83_2, mr84_2, mr85_2, mr86_2, mr87_2, mr90_2, mr92_2, mr94_2, mr95_2, mr97_2, mr98_2, mr99_2, mr100_2, mr101_2, mr102_2, mr103_2, mr104_2, mr105_2, mr106_2, mr107_2, mr108_2, mr109_2, mr110_2, mr111_2, mr112_2, mr113_2, mr114_2, mr115_2, mr116_2, mr117_2, mr118_2, mr119_2, mr120_2, mr121_2, h1]
    exact m118_l hl st w I A out ho ht (by omega) (by omega) hQ
end MT
