/-! rows for the printed steps -/
def am_gfK (h : am_H) (a ci k : Nat) (K : Value → Prop) : Prop := match h[a]? with
  | some (.inr (.inr (c, fs))) => if c = ci then (match fs[k]? with
    | some v => K v
    | none => False) else False
  | _ => False
def am_pfK (mid : Nat) (h : am_H) (a ci k : Nat) (nest : Bool) (v : Value) (K : am_H → Prop) : Prop := match h[a]? with
  | some (.inr (.inr (c, fs))) => if c = ci ∧ k < fs.length ∧ am_fok mid ci k nest v = true then K (h.set a (.inr (.inr (c, fs.set k v)))) else False
  | _ => False
def am_iaK (h : am_H) (a : Nat) (i : Int32) (K : Int32 → Prop) : Prop := match h[a]? with
  | some (.inl (t, n, f)) => t = 0 ∧ am_in i n = true ∧ K (f i.toNatClampNeg)
  | _ => False
def am_baK (h : am_H) (a : Nat) (i : Int32) (K : Int32 → Prop) : Prop := match h[a]? with
  | some (.inl (t, n, f)) => t = 1 ∧ am_in i n = true ∧ K (f i.toNatClampNeg)
  | _ => False
def am_bcK (k : Nat) (i : Int32) (K : Int32 → Prop) : Prop := match am_cst k with
  | some (n, f) => am_in i n = true ∧ K (f i.toNatClampNeg)
  | none => False
def am_isK (h : am_H) (a : Nat) (i x : Int32) (K : am_H → Prop) : Prop := match h[a]? with
  | some (.inl (t, n, f)) => t = 0 ∧ am_in i n = true ∧ K (h.set a (.inl (t, n, upd f i.toNatClampNeg x)))
  | _ => False
def am_bsK (h : am_H) (a : Nat) (i x : Int32) (K : am_H → Prop) : Prop := match h[a]? with
  | some (.inl (t, n, f)) => t = 1 ∧ am_in i n = true ∧ K (h.set a (.inl (t, n, upd f i.toNatClampNeg x.toInt8.toInt32)))
  | _ => False
def am_aaK (h : am_H) (a : Nat) (i : Int32) (K : Value → Prop) : Prop := match h[a]? with
  | some (.inr (.inl (t, n, f))) => t < 4 ∧ am_in i n = true ∧ K (am_rf (f i.toNatClampNeg))
  | _ => False
def am_asK (h : am_H) (a : Nat) (i : Int32) (w : Value) (K : am_H → Prop) : Prop := match h[a]? with
  | some (.inr (.inl (t, n, f))) => t < 4 ∧ am_in i n = true ∧ (match w with
    | .null => K (h.set a (.inr (.inl (t, n, va_up f i.toNatClampNeg none))))
    | .ref r => am_isC h r (am_rc t) = true ∧ K (h.set a (.inr (.inl (t, n, va_up f i.toNatClampNeg (some r)))))
    | _ => False)
  | _ => False
def am_alK (h : am_H) (a : Nat) (K : Nat → Prop) : Prop := match h[a]? with
  | some (.inl (t, n, _)) => t < 2 ∧ K n
  | some (.inr (.inl (t, n, _))) => t < 4 ∧ K n
  | _ => False
def am_ccK (h : am_H) (a t : Nat) (K : Prop) : Prop := match h[a]? with
  | some (.inl (t', _, _)) => t' = t ∧ K
  | _ => False
def am_cpK (st : List Value) (h : am_H) (K : List Value → am_H → Prop) : Prop := am_hK (am_copy st h) K
def am_clK (t a : Nat) (st : List Value) (h : am_H) (K : am_H → Prop) : Prop := match h[a]? with
  | some (.inl (t', n, f)) => t' = t ∧ n ≤ 1000000 ∧ am_w8 st ∧ K (h ++ [.inl (t', n, f)])
  | _ => False
section WPK
variable {S : am_S} {d mid pc len tgt nx idx own : Nat} {cc : ByteArray} {i : Instr} {ls : am_L} {st st0 : List Value} {h : am_H} {Q : am_Out → Prop} {x y : Int32} {off : Int} {a : Nat}
theorem wp_if {b : Bool} {A B C D : Prop} (hb : b = true → A = C) (hf : b = false → B = D) : (if b = true then A else B) = (if b = true then C else D) := by
  cases b
  · exact hf rfl
  · exact hb rfl
theorem wp_eq (hc : am_code mid = cc) (hd : decode cc pc = .ok (i, len)) (hp : am_pure (am_lsl mid) i len pc ls st0 = some (bif decide (x = y) then tgt else nx, ls, st)) : wp S d mid pc ls st0 h Q = if x = y then wp S d mid tgt ls st h Q else wp S d mid nx ls st h Q := by
  rw [wp_p hc hd hp, wp_b]; simp only [decide_eq_true_eq]
theorem wp_ne (hc : am_code mid = cc) (hd : decode cc pc = .ok (i, len)) (hp : am_pure (am_lsl mid) i len pc ls st0 = some (bif !decide (x = y) then tgt else nx, ls, st)) : wp S d mid pc ls st0 h Q = if x = y then wp S d mid nx ls st h Q else wp S d mid tgt ls st h Q := by
  rw [wp_p hc hd hp, wp_b]
  by_cases hq : x = y
  · simp [hq]
  · simp [hq]
theorem wp_lt (hc : am_code mid = cc) (hd : decode cc pc = .ok (i, len)) (hp : am_pure (am_lsl mid) i len pc ls st0 = some (bif decide (x < y) then tgt else nx, ls, st)) : wp S d mid pc ls st0 h Q = if x < y then wp S d mid tgt ls st h Q else wp S d mid nx ls st h Q := by
  rw [wp_p hc hd hp, wp_b]; simp only [decide_eq_true_eq]
theorem wp_ge (hc : am_code mid = cc) (hd : decode cc pc = .ok (i, len)) (hp : am_pure (am_lsl mid) i len pc ls st0 = some (bif decide (y ≤ x) then tgt else nx, ls, st)) : wp S d mid pc ls st0 h Q = if y ≤ x then wp S d mid tgt ls st h Q else wp S d mid nx ls st h Q := by
  rw [wp_p hc hd hp, wp_b]; simp only [decide_eq_true_eq]
theorem wp_gt (hc : am_code mid = cc) (hd : decode cc pc = .ok (i, len)) (hp : am_pure (am_lsl mid) i len pc ls st0 = some (bif decide (y < x) then tgt else nx, ls, st)) : wp S d mid pc ls st0 h Q = if y < x then wp S d mid tgt ls st h Q else wp S d mid nx ls st h Q := by
  rw [wp_p hc hd hp, wp_b]; simp only [decide_eq_true_eq]
theorem wp_le (hc : am_code mid = cc) (hd : decode cc pc = .ok (i, len)) (hp : am_pure (am_lsl mid) i len pc ls st0 = some (bif decide (x ≤ y) then tgt else nx, ls, st)) : wp S d mid pc ls st0 h Q = if x ≤ y then wp S d mid tgt ls st h Q else wp S d mid nx ls st h Q := by
  rw [wp_p hc hd hp, wp_b]; simp only [decide_eq_true_eq]
theorem wp_hkk {K : Prop} (hc : am_code mid = cc) (hd : decode cc pc = .ok (i, len)) (hp : am_pure (am_lsl mid) i len pc ls st = none) (hl : len = am_len i) (hcall : am_call mid i = none) (hr : ∀ v, ¬ am_retOK mid i st v) (ht : i ≠ .athrow) (hK : am_hK (am_heap S mid d i st h) (fun st' h' => wp S d mid (pc + len) ls st' h' Q) = K) : wp S d mid pc ls st h Q = K :=
  (wp_hk hc hd hp hl (fun _ => am_noctl (o := (.inl none, [])) hcall hr ht)).trans hK
theorem wp_gf {ci k : Nat} {nest : Bool} (hc : am_code mid = cc) (hd : decode cc pc = .ok (.getfield idx, 3)) (ho : am_cls mid = own) (hf : am_fld own idx = some (ci, k, nest)) : wp S d mid pc ls (.ref a :: st) h Q = am_gfK h a ci k (fun w => wp S d mid (pc + 3) ls (w :: st) h Q) := by
  refine wp_hkk hc hd rfl rfl rfl (fun v hv => hv) (fun q => by cases q) ?_
  simp only [am_heap, ho, hf, am_gf, am_gfK]
  rcases hq : h[a]? with _ | ⟨t, n, f⟩ | ⟨t, n, f⟩ | ⟨c, fs⟩ <;> simp only [am_hK]
  by_cases hci : c = ci
  · simp only [if_pos hci]
    cases fs[k]? <;> rfl
  · simp only [if_neg hci]
theorem wp_gfS {k : Nat} (hc : am_code mid = cc) (hd : decode cc pc = .ok (.getfield idx, 3)) (ho : am_cls mid = own) (hf : am_fld own idx = some (100, k, false)) {r : Nat} (h1 : 1 ≤ r) (h2 : r ≤ 3) : wp S d mid pc ls (.retAddr r :: st) h Q = wp S d mid (pc + 3) ls ((if k = 0 then .retAddr (r + 5) else .int 0) :: st) h Q := by
  refine wp_h hc hd rfl rfl ?_
  simp only [am_heap, ho, hf, am_gf]
  rw [if_pos ⟨trivial, h1, h2⟩]
theorem wp_pf {ci k : Nat} {nest : Bool} {w : Value} (hc : am_code mid = cc) (hd : decode cc pc = .ok (.putfield idx, 3)) (ho : am_cls mid = own) (hf : am_fld own idx = some (ci, k, nest)) : wp S d mid pc ls (w :: .ref a :: st) h Q = am_pfK mid h a ci k nest w (fun h => wp S d mid (pc + 3) ls st h Q) := by
  refine wp_hkk hc hd rfl rfl rfl (fun v hv => hv) (fun q => by cases q) ?_
  simp only [am_heap, ho, hf, am_pf, am_pfK]
  rcases hq : h[a]? with _ | ⟨t, n, f⟩ | ⟨t, n, f⟩ | ⟨c, fs⟩ <;> simp only [am_hK]
  by_cases hci : c = ci ∧ k < fs.length ∧ am_fok mid ci k nest w = true
  · simp only [if_pos hci]
  · simp only [if_neg hci]
theorem wp_ia (hc : am_code mid = cc) (hd : decode cc pc = .ok (.iaload, 1)) : wp S d mid pc ls (.int x :: .ref a :: st) h Q = am_iaK h a x (fun z => wp S d mid (pc + 1) ls (.int z :: st) h Q) := by
  refine wp_hkk hc hd rfl rfl rfl (fun v hv => hv) (fun q => by cases q) ?_
  simp only [am_heap, am_iald, am_iaK]
  rcases hq : h[a]? with _ | ⟨t, n, f⟩ | ⟨t, n, f⟩ | ⟨c, fs⟩ <;> simp only [am_hK]
  by_cases hci : t = 0 ∧ am_in x n = true
  · simp only [if_pos hci, hci.1, hci.2, true_and, if_true]
  · simp only [if_neg hci]
    exact propext ⟨fun q => q.elim, fun q => hci ⟨q.1, q.2.1⟩⟩
theorem wp_iaS (hc : am_code mid = cc) (hd : decode cc pc = .ok (.iaload, 1)) : wp S d mid pc ls (.int x :: .retAddr 0 :: st) h Q = (am_in x S.1 = true ∧ wp S d mid (pc + 1) ls (.int (S.2 x.toNatClampNeg) :: st) h Q) := by
  refine wp_hkk hc hd rfl rfl rfl (fun v hv => hv) (fun q => by cases q) ?_
  simp only [am_heap, am_iald]
  by_cases hci : am_in x S.1 = true
  · rw [if_pos ⟨trivial, hci⟩]
    exact propext ⟨fun q => ⟨hci, q⟩, fun q => q.2⟩
  · rw [if_neg (fun q => hci q.2)]
    exact propext ⟨fun q => q.elim, fun q => hci q.1⟩
theorem wp_ba (hc : am_code mid = cc) (hd : decode cc pc = .ok (.baload, 1)) : wp S d mid pc ls (.int x :: .ref a :: st) h Q = am_baK h a x (fun z => wp S d mid (pc + 1) ls (.int z :: st) h Q) := by
  refine wp_hkk hc hd rfl rfl rfl (fun v hv => hv) (fun q => by cases q) ?_
  simp only [am_heap, am_bald, am_baK]
  rcases hq : h[a]? with _ | ⟨t, n, f⟩ | ⟨t, n, f⟩ | ⟨c, fs⟩ <;> simp only [am_hK]
  by_cases hci : t = 1 ∧ am_in x n = true
  · simp only [if_pos hci, hci.1, hci.2, true_and, if_true]
  · simp only [if_neg hci]
    exact propext ⟨fun q => q.elim, fun q => hci ⟨q.1, q.2.1⟩⟩
theorem wp_baS {k : Nat} (hc : am_code mid = cc) (hd : decode cc pc = .ok (.baload, 1)) : wp S d mid pc ls (.int x :: .retAddr k :: st) h Q = am_bcK k x (fun z => wp S d mid (pc + 1) ls (.int z :: st) h Q) := by
  refine wp_hkk hc hd rfl rfl rfl (fun v hv => hv) (fun q => by cases q) ?_
  simp only [am_heap, am_bald, am_bcK]
  rcases hq : am_cst k with _ | ⟨n, f⟩ <;> simp only [am_hK]
  by_cases hci : am_in x n = true
  · simp only [if_pos hci, hci, true_and, if_true]
  · simp only [if_neg hci]
    exact propext ⟨fun q => q.elim, fun q => hci q.1⟩
theorem wp_is (hc : am_code mid = cc) (hd : decode cc pc = .ok (.iastore, 1)) : wp S d mid pc ls (.int y :: .int x :: .ref a :: st) h Q = am_isK h a x y (fun h => wp S d mid (pc + 1) ls st h Q) := by
  refine wp_hkk hc hd rfl rfl rfl (fun v hv => hv) (fun q => by cases q) ?_
  simp only [am_heap, am_iast, am_isK]
  rcases hq : h[a]? with _ | ⟨t, n, f⟩ | ⟨t, n, f⟩ | ⟨c, fs⟩ <;> simp only [am_hK]
  by_cases hci : t = 0 ∧ am_in x n = true
  · simp only [if_pos hci, hci.1, hci.2, true_and, if_true]
  · simp only [if_neg hci]
    exact propext ⟨fun q => q.elim, fun q => hci ⟨q.1, q.2.1⟩⟩
theorem wp_bs (hc : am_code mid = cc) (hd : decode cc pc = .ok (.bastore, 1)) : wp S d mid pc ls (.int y :: .int x :: .ref a :: st) h Q = am_bsK h a x y (fun h => wp S d mid (pc + 1) ls st h Q) := by
  refine wp_hkk hc hd rfl rfl rfl (fun v hv => hv) (fun q => by cases q) ?_
  simp only [am_heap, am_bast, am_bsK]
  rcases hq : h[a]? with _ | ⟨t, n, f⟩ | ⟨t, n, f⟩ | ⟨c, fs⟩ <;> simp only [am_hK]
  by_cases hci : t = 1 ∧ am_in x n = true
  · simp only [if_pos hci, hci.1, hci.2, true_and, if_true]
  · simp only [if_neg hci]
    exact propext ⟨fun q => q.elim, fun q => hci ⟨q.1, q.2.1⟩⟩
theorem wp_aa (hc : am_code mid = cc) (hd : decode cc pc = .ok (.aaload, 1)) : wp S d mid pc ls (.int x :: .ref a :: st) h Q = am_aaK h a x (fun w => wp S d mid (pc + 1) ls (w :: st) h Q) := by
  refine wp_hkk hc hd rfl rfl rfl (fun v hv => hv) (fun q => by cases q) ?_
  simp only [am_heap, am_aald, am_aaK]
  rcases hq : h[a]? with _ | ⟨t, n, f⟩ | ⟨t, n, f⟩ | ⟨c, fs⟩ <;> simp only [am_hK]
  by_cases hci : t < 4 ∧ am_in x n = true
  · simp only [if_pos hci, hci.1, hci.2, true_and, if_true]
  · simp only [if_neg hci]
    exact propext ⟨fun q => q.elim, fun q => hci ⟨q.1, q.2.1⟩⟩
theorem wp_as {w : Value} (hc : am_code mid = cc) (hd : decode cc pc = .ok (.aastore, 1)) : wp S d mid pc ls (w :: .int x :: .ref a :: st) h Q = am_asK h a x w (fun h => wp S d mid (pc + 1) ls st h Q) := by
  refine wp_hkk hc hd rfl rfl rfl (fun v hv => hv) (fun q => by cases q) ?_
  have hno : ∀ K : Nat → Nat → (Nat → Option Nat) → Prop, am_hK none (fun st' h' => wp S d mid (pc + 1) ls st' h' Q) = (match h[a]? with
    | some (.inr (.inl (t, n, f))) => t < 4 ∧ am_in x n = true ∧ False
    | _ => False) := fun K => by
    rcases hq : h[a]? with _ | ⟨t, n, f⟩ | ⟨t, n, f⟩ | ⟨c, fs⟩ <;> simp only [am_hK, and_false]
  cases w <;> simp only [am_heap, am_aast, am_asK] <;> first | exact hno (fun _ _ _ => False) | skip
  · rcases hq : h[a]? with _ | ⟨t, n, f⟩ | ⟨t, n, f⟩ | ⟨c, fs⟩ <;> simp only [am_hK]
    by_cases hci : t < 4 ∧ am_in x n = true
    · simp only [if_pos hci, hci.1, hci.2, true_and, if_true]
    · simp only [if_neg hci]
      exact propext ⟨fun q => q.elim, fun q => hci ⟨q.1, q.2.1⟩⟩
  · rename_i b
    rcases hq : h[a]? with _ | ⟨t, n, f⟩ | ⟨t, n, f⟩ | ⟨c, fs⟩ <;> simp only [am_hK]
    by_cases hci : t < 4 ∧ am_in x n = true ∧ am_isC h b (am_rc t) = true
    · simp only [if_pos hci, hci.1, hci.2.1, hci.2.2, true_and, if_true]
    · simp only [if_neg hci]
      exact propext ⟨fun q => q.elim, fun q => hci ⟨q.1, q.2.1, q.2.2.1⟩⟩
theorem wp_al (hc : am_code mid = cc) (hd : decode cc pc = .ok (.arraylength, 1)) : wp S d mid pc ls (.ref a :: st) h Q = am_alK h a (fun n => wp S d mid (pc + 1) ls (.int (nI n) :: st) h Q) := by
  refine wp_hkk hc hd rfl rfl rfl (fun v hv => hv) (fun q => by cases q) ?_
  simp only [am_heap, am_alen, am_alK]
  rcases hq : h[a]? with _ | ⟨t, n, f⟩ | ⟨t, n, f⟩ | ⟨c, fs⟩ <;> simp only [am_hK]
  · by_cases hci : t < 2
    · simp only [if_pos hci, hci, true_and, if_true, nI]
    · simp only [if_neg hci, hci, false_and, if_false]
  · by_cases hci : t < 4
    · simp only [if_pos hci, hci, true_and, if_true, nI]
    · simp only [if_neg hci, hci, false_and, if_false]
theorem wp_alS (hc : am_code mid = cc) (hd : decode cc pc = .ok (.arraylength, 1)) : wp S d mid pc ls (.retAddr 0 :: st) h Q = wp S d mid (pc + 1) ls (.int (nI S.1) :: st) h Q :=
  wp_h hc hd rfl rfl rfl
theorem wp_alC {r n : Nat} {f : Nat → Int32} (hc : am_code mid = cc) (hd : decode cc pc = .ok (.arraylength, 1)) (hr : ¬ r = 0) (hk : am_cst r = some (n, f)) : wp S d mid pc ls (.retAddr r :: st) h Q = wp S d mid (pc + 1) ls (.int (nI n) :: st) h Q := by
  refine wp_h hc hd rfl rfl ?_
  simp only [am_heap, am_alen]
  rw [if_neg hr, hk]
  rfl
theorem wp_na (t : Nat) {ty : ArrayType} (hty : (t = 0 ∧ ty = .int) ∨ (t = 1 ∧ ty = .byte)) (hc : am_code mid = cc) (hd : decode cc pc = .ok (.newarray ty, 2)) : wp S d mid pc ls (.int x :: st) h Q = (¬ x < 0 ∧ x.toNatClampNeg ≤ 1000000 ∧ wp S d mid (pc + 2) ls (.ref h.length :: st) (h ++ [.inl (t, x.toNatClampNeg, fun _ => 0)]) Q) := by
  have key : am_hK (am_newa t (.int x :: st) h) (fun st' h' => wp S d mid (pc + 2) ls st' h' Q) = (¬ x < 0 ∧ x.toNatClampNeg ≤ 1000000 ∧ wp S d mid (pc + 2) ls (.ref h.length :: st) (h ++ [.inl (t, x.toNatClampNeg, fun _ => 0)]) Q) := by
    simp only [am_newa]
    by_cases hci : ¬ x < 0 ∧ x.toNatClampNeg ≤ 1000000
    · rw [if_pos hci]
      exact propext ⟨fun q => ⟨hci.1, hci.2, q⟩, fun q => q.2.2⟩
    · rw [if_neg hci]
      exact propext ⟨fun q => q.elim, fun q => hci ⟨q.1, q.2.1⟩⟩
  rcases hty with ⟨rfl, rfl⟩ | ⟨rfl, rfl⟩
  · exact wp_hkk hc hd rfl rfl rfl (fun v hv => hv) (fun q => by cases q) key
  · exact wp_hkk hc hd rfl rfl rfl (fun v hv => hv) (fun q => by cases q) key
theorem wp_na0 (hc : am_code mid = cc) (hd : decode cc pc = .ok (.newarray .int, 2)) : wp S d mid pc ls (.int x :: st) h Q = (¬ x < 0 ∧ x.toNatClampNeg ≤ 1000000 ∧ wp S d mid (pc + 2) ls (.ref h.length :: st) (h ++ [.inl (0, x.toNatClampNeg, fun _ => 0)]) Q) := wp_na 0 (Or.inl ⟨rfl, rfl⟩) hc hd
theorem wp_na1 (hc : am_code mid = cc) (hd : decode cc pc = .ok (.newarray .byte, 2)) : wp S d mid pc ls (.int x :: st) h Q = (¬ x < 0 ∧ x.toNatClampNeg ≤ 1000000 ∧ wp S d mid (pc + 2) ls (.ref h.length :: st) (h ++ [.inl (1, x.toNatClampNeg, fun _ => 0)]) Q) := wp_na 1 (Or.inr ⟨rfl, rfl⟩) hc hd
theorem wp_nr {t : Nat} (hc : am_code mid = cc) (hd : decode cc pc = .ok (.anewarray idx, 3)) (ho : am_cls mid = own) (hf : am_lk am_anewL own idx = some t) : wp S d mid pc ls (.int x :: st) h Q = (¬ x < 0 ∧ x.toNatClampNeg ≤ 1000000 ∧ wp S d mid (pc + 3) ls (.ref h.length :: st) (h ++ [.inr (.inl (t, x.toNatClampNeg, fun _ => none))]) Q) := by
  refine wp_hkk hc hd rfl rfl rfl (fun v hv => hv) (fun q => by cases q) ?_
  simp only [am_heap, ho, hf, am_anew]
  by_cases hci : ¬ x < 0 ∧ x.toNatClampNeg ≤ 1000000
  · rw [if_pos hci]
    exact propext ⟨fun q => ⟨hci.1, hci.2, q⟩, fun q => q.2.2⟩
  · rw [if_neg hci]
    exact propext ⟨fun q => q.elim, fun q => hci ⟨q.1, q.2.1⟩⟩
theorem wp_nw {ci : Nat} (hc : am_code mid = cc) (hd : decode cc pc = .ok (.new idx, 3)) (ho : am_cls mid = own) (hf : am_lk am_newL own idx = some ci) : wp S d mid pc ls st h Q = wp S d mid (pc + 3) ls (.ref h.length :: st) (h ++ [.inr (.inr (ci, am_dft ci))]) Q := by
  refine wp_h hc hd rfl rfl ?_
  simp only [am_heap, ho, hf, am_new]
theorem wp_cc {t : Nat} (hc : am_code mid = cc) (hd : decode cc pc = .ok (.checkcast idx, 3)) (ho : am_cls mid = own) (hf : am_lk am_castL own idx = some t) : wp S d mid pc ls (.ref a :: st) h Q = am_ccK h a t (wp S d mid (pc + 3) ls (.ref a :: st) h Q) := by
  refine wp_hkk hc hd rfl rfl rfl (fun v hv => hv) (fun q => by cases q) ?_
  simp only [am_heap, ho, hf, am_cast, am_ccK]
  rcases hq : h[a]? with _ | ⟨t', n, f⟩ | ⟨t', n, f⟩ | ⟨c, fs⟩ <;> simp only [am_hK]
  by_cases hci : t' = t
  · simp only [if_pos hci, hci, true_and, if_true]
  · simp only [if_neg hci, hci, false_and, if_false]
theorem wp_gs {v : Value} {q : String × String × String × String} (hc : am_code mid = cc) (hd : decode cc pc = .ok (.getstatic idx, 3)) (ho : am_cls mid = own) (hf : am_stat own idx = some (v, q)) : wp S d mid pc ls st h Q = wp S d mid (pc + 3) ls (v :: st) h Q := by
  refine wp_h hc hd rfl rfl ?_
  simp only [am_heap, ho, hf, am_cv, Option.map_some]
theorem wp_lc {v : Value} (hc : am_code mid = cc) (hd : decode cc pc = .ok (.ldc idx, 2)) (ho : am_cls mid = own) (hf : am_lk am_ldcL own idx = some v) : wp S d mid pc ls st h Q = wp S d mid (pc + 2) ls (v :: st) h Q := by
  refine wp_h hc hd rfl rfl ?_
  simp only [am_heap, ho, hf, am_cv]
theorem wp_l2 {v : Int64} (hc : am_code mid = cc) (hd : decode cc pc = .ok (.ldc2_w idx, 3)) (ho : am_cls mid = own) (hf : am_lk am_ldc2L own idx = some v) : wp S d mid pc ls st h Q = wp S d mid (pc + 3) ls (.long v :: st) h Q := by
  refine wp_h hc hd rfl rfl ?_
  simp only [am_heap, ho, hf, am_cv, Option.map_some]
theorem wp_oi (hc : am_code mid = cc) (hd : decode cc pc = .ok (.invokespecial idx, 3)) (ho : am_cls mid = own) (hf : am_lk am_specL own idx = some 0) (hn : am_lk am_callL own idx = none) : wp S (d + 1) mid pc ls (.ref a :: st) h Q = (am_w8 st ∧ wp S (d + 1) mid (pc + 3) ls (st) h Q) := by
  refine wp_hkk hc hd rfl rfl ?_ (fun v hv => hv) (fun q => by cases q) ?_
  · simp only [am_call, ho, hn]
  · simp only [am_heap, ho, hf, am_objI]
    rw [if_neg (by omega)]
    by_cases h8 : am_w8 st
    · have h9 : (st.map fun v => v.category).sum ≤ 8 := h8
      simp only [if_pos h9, am_hK, h8, true_and]
    · have h9 : ¬ (st.map fun v => v.category).sum ≤ 8 := h8
      simp only [if_neg h9, am_hK, h8, false_and]
theorem wp_mx (hc : am_code mid = cc) (hd : decode cc pc = .ok (.invokestatic idx, 3)) (ho : am_cls mid = own) (hf : am_lk am_specL own idx = some 4) (hn : am_lk am_callL own idx = none) : wp S (d + 1) mid pc ls (.int y :: .int x :: st) h Q = (am_w8 st ∧ wp S (d + 1) mid (pc + 3) ls (.int (if x < y then y else x) :: st) h Q) := by
  refine wp_hkk hc hd rfl rfl ?_ (fun v hv => hv) (fun q => by cases q) ?_
  · simp only [am_call, ho, hn]
  · simp only [am_heap, ho, hf, am_mm]
    rw [if_neg (by omega)]
    by_cases h8 : am_w8 st
    · have h9 : (st.map fun v => v.category).sum ≤ 8 := h8
      simp only [if_pos h9, am_hK, h8, true_and]
    · have h9 : ¬ (st.map fun v => v.category).sum ≤ 8 := h8
      simp only [if_neg h9, am_hK, h8, false_and]
theorem wp_mn (hc : am_code mid = cc) (hd : decode cc pc = .ok (.invokestatic idx, 3)) (ho : am_cls mid = own) (hf : am_lk am_specL own idx = some 5) (hn : am_lk am_callL own idx = none) : wp S (d + 1) mid pc ls (.int y :: .int x :: st) h Q = (am_w8 st ∧ wp S (d + 1) mid (pc + 3) ls (.int (if y < x then y else x) :: st) h Q) := by
  refine wp_hkk hc hd rfl rfl ?_ (fun v hv => hv) (fun q => by cases q) ?_
  · simp only [am_call, ho, hn]
  · simp only [am_heap, ho, hf, am_mm]
    rw [if_neg (by omega)]
    by_cases h8 : am_w8 st
    · have h9 : (st.map fun v => v.category).sum ≤ 8 := h8
      simp only [if_pos h9, am_hK, h8, true_and]
    · have h9 : ¬ (st.map fun v => v.category).sum ≤ 8 := h8
      simp only [if_neg h9, am_hK, h8, false_and]
theorem am_lk_none {own idx : Nat} (hs : ∃ k, am_lk am_specL own idx = some k) (hn : am_lk am_callL own idx = none) : am_lk am_callL own idx = none := hn
theorem wp_cp (hc : am_code mid = cc) (hd : decode cc pc = .ok (.invokestatic idx, 3)) (ho : am_cls mid = own) (hf : am_lk am_specL own idx = some 1) (hn : am_lk am_callL own idx = none) : wp S (d + 1) mid pc ls st h Q = am_cpK st h (fun st h => wp S (d + 1) mid (pc + 3) ls st h Q) := by
  refine wp_hkk hc hd rfl rfl ?_ (fun v hv => hv) (fun q => by cases q) ?_
  · simp only [am_call, ho, hn]
  · simp only [am_heap, ho, hf, am_cpK]
    rw [if_neg (by omega)]
theorem wp_cl {t : Nat} (ht : t = 0 ∨ t = 1) (hc : am_code mid = cc) (hd : decode cc pc = .ok (.invokevirtual idx, 3)) (ho : am_cls mid = own) (hf : am_lk am_specL own idx = some (2 + t)) (hn : am_lk am_callL own idx = none) : wp S (d + 1) mid pc ls (.ref a :: st) h Q = am_clK t a st h (fun h2 => wp S (d + 1) mid (pc + 3) ls (.ref h.length :: st) h2 Q) := by
  refine wp_hkk hc hd rfl rfl ?_ (fun v hv => hv) (fun q => by cases q) ?_
  · simp only [am_call, ho, hn]
  · have key : am_hK (am_clone t (.ref a :: st) h) (fun st' h' => wp S (d + 1) mid (pc + 3) ls st' h' Q) = am_clK t a st h (fun h2 => wp S (d + 1) mid (pc + 3) ls (.ref h.length :: st) h2 Q) := by
      simp only [am_clone, am_clK]
      rcases hq : h[a]? with _ | ⟨t', n, f⟩ | ⟨t', n, f⟩ | ⟨c, fs⟩ <;> simp only [am_hK]
      by_cases hci : t' = t ∧ n ≤ 1000000 ∧ (st.map fun v => v.category).sum ≤ 8
      · simp only [if_pos hci]
        exact propext ⟨fun q => ⟨hci.1, hci.2.1, hci.2.2, q⟩, fun q => q.2.2.2⟩
      · simp only [if_neg hci]
        exact propext ⟨fun q => q.elim, fun q => hci ⟨q.1, q.2.1, q.2.2.1⟩⟩
    rcases ht with rfl | rfl
    · simp only [am_heap, ho, hf]
      rw [if_neg (by omega)]
      exact key
    · simp only [am_heap, ho, hf]
      rw [if_neg (by omega)]
      exact key
theorem wp_cS {k cm nL : Nat} {l0 : List Nat} {ls0 : am_L} (as : List Value) (hc : am_code mid = cc) (hd : decode cc pc = .ok (.invokestatic idx, 3)) (ho : am_cls mid = own) (hl : am_lk am_callL own idx = some (k, cm)) (hk : k < 2) (hs : am_lk am_specL own idx = none) (hst : am_stc cm = true) (hn : am_np cm = as.length) (hm : am_maxL cm = nL) (hlsl : am_lsl cm = l0)
    (hok : (decide ((am_sl as).length ≤ nL) && (as.all (fun v => am_one v || am_lg v) && am_lok l0 0 (am_sl as))) = true) (hent : am_ent nL as = ls0) {sx : List Value} (hsx : as.reverse ++ st = sx) :
    wp S (d + 1) mid pc ls sx h Q = (am_w8 st ∧ wp S d cm 0 ls0 [] h (am_kr S k (d + 1) mid pc ls st Q)) := by
  subst hsx; subst hm; subst hlsl
  have h1 := wp_c (S := S) (d := d) (Q := Q) (h := h) (ls := ls) (st := st) (as := as) (k := k) (cm := cm) hc hd (by simp only [am_call, ho, hl]; rw [if_pos hk]) rfl (by simp only [am_heap, ho, hs]; rw [if_neg (by omega)]) (by rw [hst, hn]; rfl) hok hent (fun q => by rw [hst] at q; cases q)
  rw [h1]
  exact propext ⟨fun q => ⟨q.1, q.2.2⟩, fun q => ⟨q.1, (fun q2 => by rw [hst] at q2; cases q2), q.2⟩⟩
theorem wp_cVI {k cm nL : Nat} {l0 : List Nat} {ls0 : am_L} (r : Value) (as : List Value) (hc : am_code mid = cc) (hd : decode cc pc = .ok (i, 3)) (hcall : am_call mid i = some (k, cm)) (hp : ∀ st, am_pure (am_lsl mid) i 3 pc ls st = none) (hh : ∀ st, am_heap S mid (d + 1) i st h = none) (hst : am_stc cm = false) (hn : am_np cm = as.length) (hm : am_maxL cm = nL) (hlsl : am_lsl cm = l0)
    (hok : (decide ((am_sl (r :: as)).length ≤ nL) && ((r :: as).all (fun v => am_one v || am_lg v) && am_lok l0 0 (am_sl (r :: as)))) = true) (hent : am_ent nL (r :: as) = ls0) {sx : List Value} (hsx : (r :: as).reverse ++ st = sx) :
    wp S (d + 1) mid pc ls sx h Q = (am_w8 st ∧ am_rcv h k cm r = true ∧ wp S d cm 0 ls0 [] h (am_kr S k (d + 1) mid pc ls st Q)) := by
  subst hsx; subst hm; subst hlsl
  have h1 := wp_c (S := S) (d := d) (Q := Q) (h := h) (ls := ls) (st := st) (as := r :: as) (k := k) (cm := cm) hc hd hcall (hp _) (hh _) (by rw [hst, hn]; rfl) hok hent (fun q => ⟨r, as, rfl⟩)
  rw [h1]
  refine propext ⟨fun q => ⟨q.1, ?_, q.2.2⟩, fun q => ⟨q.1, fun _ => ⟨r, as, rfl, q.2.1⟩, q.2.2⟩⟩
  obtain ⟨r', as', e, hr⟩ := q.2.1 hst
  cases e
  exact hr
theorem wp_cV {k cm nL : Nat} {l0 : List Nat} {ls0 : am_L} (r : Value) (as : List Value) (hc : am_code mid = cc) (hd : decode cc pc = .ok (.invokevirtual idx, 3)) (ho : am_cls mid = own) (hl : am_lk am_callL own idx = some (k, cm)) (hk : k = 2 ∨ k = 3 ∨ k = 7) (hs : am_lk am_specL own idx = none) (hst : am_stc cm = false) (hn : am_np cm = as.length) (hm : am_maxL cm = nL) (hlsl : am_lsl cm = l0)
    (hok : (decide ((am_sl (r :: as)).length ≤ nL) && ((r :: as).all (fun v => am_one v || am_lg v) && am_lok l0 0 (am_sl (r :: as)))) = true) (hent : am_ent nL (r :: as) = ls0) {sx : List Value} (hsx : (r :: as).reverse ++ st = sx) :
    wp S (d + 1) mid pc ls sx h Q = (am_w8 st ∧ am_rcv h k cm r = true ∧ wp S d cm 0 ls0 [] h (am_kr S k (d + 1) mid pc ls st Q)) :=
  wp_cVI r as hc hd (by simp only [am_call, ho, hl]; rw [if_pos hk]) (fun _ => rfl) (fun _ => by simp only [am_heap, ho, hs]; rw [if_neg (by omega)]) hst hn hm hlsl hok hent hsx
theorem wp_cI {k cm nL : Nat} {l0 : List Nat} {ls0 : am_L} (r : Value) (as : List Value) (hc : am_code mid = cc) (hd : decode cc pc = .ok (.invokespecial idx, 3)) (ho : am_cls mid = own) (hl : am_lk am_callL own idx = some (k, cm)) (hk : k = 4 ∨ k = 5 ∨ k = 6) (hs : am_lk am_specL own idx = none) (hst : am_stc cm = false) (hn : am_np cm = as.length) (hm : am_maxL cm = nL) (hlsl : am_lsl cm = l0)
    (hok : (decide ((am_sl (r :: as)).length ≤ nL) && ((r :: as).all (fun v => am_one v || am_lg v) && am_lok l0 0 (am_sl (r :: as)))) = true) (hent : am_ent nL (r :: as) = ls0) {sx : List Value} (hsx : (r :: as).reverse ++ st = sx) :
    wp S (d + 1) mid pc ls sx h Q = (am_w8 st ∧ am_rcv h k cm r = true ∧ wp S d cm 0 ls0 [] h (am_kr S k (d + 1) mid pc ls st Q)) :=
  wp_cVI r as hc hd (by simp only [am_call, ho, hl]; rw [if_pos hk]) (fun _ => rfl) (fun _ => by simp only [am_heap, ho, hs]; rw [if_neg (by omega)]) hst hn hm hlsl hok hent hsx
theorem wp_rI {ty : FieldType} (hc : am_code mid = cc) (hd : decode cc pc = .ok (.ireturn, 1)) (hret : am_ret mid = some ty) : wp S d mid pc ls [.int x] h Q = (narrow ty (.int x) = .int x ∧ Q (.inl (some (.int x)), h)) := by
  refine propext ⟨fun ⟨o, he, hq⟩ => ?_, fun ⟨hn, hq⟩ => ?_⟩
  · rcases (am_do_ctl hc hd rfl rfl).mp he with ⟨-, v, ⟨x', ty', e, hr, hn, rfl⟩, rfl⟩ | ⟨-, hi, -⟩ | ⟨l, -⟩
    · cases e
      cases hret.symm.trans hr
      exact ⟨hn, hq⟩
    · cases hi
    · omega
  · exact ⟨_, (am_do_ctl hc hd rfl rfl).mpr (Or.inl ⟨rfl, _, ⟨x, ty, rfl, hret, hn, rfl⟩, rfl⟩), hq⟩
theorem wp_tC {a : Nat} (hc : am_code mid = cc) (hd : decode cc pc = .ok (.athrow, 1)) (hnd : am_hnd mid pc = none) : wp S d mid pc ls (.ref a :: st) h Q = (am_isC h a 7 = true ∧ Q (.inr a, h)) := by
  refine propext ⟨fun ⟨o, he, hq⟩ => ?_, fun ⟨hn, hq⟩ => ?_⟩
  · rcases (am_do_ctl hc hd rfl rfl).mp he with ⟨-, v, hv, rfl⟩ | ⟨-, -, b, rest, e, hcl, -, rfl⟩ | ⟨l, -⟩
    · exact hv.elim
    · cases e
      exact ⟨hcl, hq⟩
    · omega
  · rw [wp_t hc hd hnd hn]; exact hq
theorem wp_dv {f : Int32 → Int32 → Int32} (hi : i = .idiv ∨ i = .irem) (hf : ∀ st pc ls l, am_pure l i 1 pc ls (.int y :: .int x :: st) = if y = 0 then none else some (pc + 1, ls, .int (f x y) :: st)) (hc : am_code mid = cc) (hd : decode cc pc = .ok (i, 1)) : wp S d mid pc ls (.int y :: .int x :: st) h Q = (¬ y = 0 ∧ wp S d mid (pc + 1) ls (.int (f x y) :: st) h Q) := by
  by_cases hy : y = 0
  · refine propext ⟨fun ⟨o, he, hq⟩ => ?_, fun ⟨hn, hq⟩ => (hn hy).elim⟩
    have h1 : am_pure (am_lsl mid) i 1 pc ls (.int y :: .int x :: st) = none := by rw [hf, if_pos hy]
    have h2 : am_heap S mid d i (.int y :: .int x :: st) h = none := by rcases hi with rfl | rfl <;> rfl
    rcases (am_do_ctl hc hd h1 h2).mp he with ⟨-, v, hv, -⟩ | ⟨-, hi2, -⟩ | ⟨l, -⟩
    · rcases hi with rfl | rfl <;> exact hv.elim
    · rcases hi with rfl | rfl <;> cases hi2
    · omega
  · rw [wp_p hc hd (by rw [hf, if_neg hy])]
    simp only [hy, not_false_eq_true, true_and]
theorem wp_id (hc : am_code mid = cc) (hd : decode cc pc = .ok (.idiv, 1)) : wp S d mid pc ls (.int y :: .int x :: st) h Q = (¬ y = 0 ∧ wp S d mid (pc + 1) ls (.int (x / y) :: st) h Q) := wp_dv (f := fun x y => x / y) (Or.inl rfl) (fun _ _ _ _ => rfl) hc hd
theorem wp_ir (hc : am_code mid = cc) (hd : decode cc pc = .ok (.irem, 1)) : wp S d mid pc ls (.int y :: .int x :: st) h Q = (¬ y = 0 ∧ wp S d mid (pc + 1) ls (.int (x - x / y * y) :: st) h Q) := wp_dv (f := fun x y => x - x / y * y) (Or.inr rfl) (fun _ _ _ _ => rfl) hc hd
end WPK
