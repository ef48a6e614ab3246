/-! the abstract machine's steps: the heap, the calls; what a run comes to (am_Ev), goal first (wp) -/
abbrev am_Cfg : Type := Nat × Nat × Nat × am_L × List Value × am_H
abbrev am_Out : Type := (Option Value ⊕ Nat) × am_H
abbrev am_S : Type := Nat × (Nat → Int32)
abbrev am_R2 : Type := Option (List Value × am_H)
def am_in (i : Int32) (n : Nat) : Bool := decide (¬ (i < 0 ∨ n ≤ i.toNatClampNeg))
def am_byt : List (List Int32) := [[32, 120, 97, 65, 112], [], [44]]
def am_cst (k : Nat) : Option (Nat × (Nat → Int32)) := match k with
  | 4 => some (100, fun j => Int32.ofNat (48 + j / 10))
  | 5 => some (100, fun j => Int32.ofNat (48 + j % 10))
  | 6 => some (5, fun j => (am_byt.getD 0 []).getD j 0)
  | 7 => some (0, fun j => (am_byt.getD 1 []).getD j 0)
  | 8 => some (1, fun j => (am_byt.getD 2 []).getD j 0)
  | _ => none
def am_rc (t : Nat) : Nat := match t with
  | 0 => 3
  | 1 => 6
  | 2 => 2
  | _ => 1
def am_rf (r : Option Nat) : Value := match r with
  | none => .null
  | some a => .ref a
def am_fits (ty : FieldType) (v : Value) : Bool := match ty with
  | .int => match v with
    | .int _ => true
    | _ => false
  | .byte => match v with
    | .int x => decide (x.toInt8.toInt32 = x)
    | _ => false
  | .object _ => match v with
    | .ref _ => true
    | .null => true
    | .retAddr _ => true
    | _ => false
  | .array _ => match v with
    | .ref _ => true
    | .null => true
    | .retAddr _ => true
    | _ => false
  | _ => false
def am_fin (ci k : Nat) : Bool := match am_CL[ci]? with
  | some q => (q.2.1 k).2.2.2
  | none => true
def am_dec (ci k : Nat) : String := match am_CL[ci]? with
  | some q => (q.2.1 k).1
  | none => ""
def am_N (ci : Nat) : Nat := match am_CL[ci]? with
  | some q => q.2.2
  | none => 0
/-- may the method store this value into the field k of the class ci? -/
def am_fok (mid ci k : Nat) (nest : Bool) (v : Value) : Bool := am_fits (am_ty ci k) v && (!am_fin ci k || (!nest && ((am_y mid).name == "<init>" && am_dec ci k == am_cn (am_cls mid))))
def am_gf (o : Option (Nat × Nat × Bool)) (st : List Value) (h : am_H) : am_R2 := match o, st with
  | some (ci, k, _), .ref a :: st => match h[a]? with
    | some (.inr (.inr (c, fs))) => if c = ci then (match fs[k]? with
      | some v => some (v :: st, h)
      | none => none) else none
    | _ => none
  | some (ci, k, _), .retAddr r :: st => if ci = 100 ∧ 1 ≤ r ∧ r ≤ 3 then some ((if k = 0 then .retAddr (r + 5) else .int 0) :: st, h) else none
  | _, _ => none
def am_pf (mid : Nat) (o : Option (Nat × Nat × Bool)) (st : List Value) (h : am_H) : am_R2 := match o, st with
  | some (ci, k, nest), v :: .ref a :: st => match h[a]? with
    | some (.inr (.inr (c, fs))) => if c = ci ∧ k < fs.length ∧ am_fok mid ci k nest v = true then some (st, h.set a (.inr (.inr (c, fs.set k v)))) else none
    | _ => none
  | _, _ => none
def am_iald (S : am_S) (st : List Value) (h : am_H) : am_R2 := match st with
  | .int i :: .ref a :: st => match h[a]? with
    | some (.inl (t, n, f)) => if t = 0 ∧ am_in i n = true then some (.int (f i.toNatClampNeg) :: st, h) else none
    | _ => none
  | .int i :: .retAddr k :: st => if k = 0 ∧ am_in i S.1 = true then some (.int (S.2 i.toNatClampNeg) :: st, h) else none
  | _ => none
def am_bald (st : List Value) (h : am_H) : am_R2 := match st with
  | .int i :: .ref a :: st => match h[a]? with
    | some (.inl (t, n, f)) => if t = 1 ∧ am_in i n = true then some (.int (f i.toNatClampNeg) :: st, h) else none
    | _ => none
  | .int i :: .retAddr k :: st => match am_cst k with
    | some (n, f) => if am_in i n = true then some (.int (f i.toNatClampNeg) :: st, h) else none
    | none => none
  | _ => none
def am_iast (st : List Value) (h : am_H) : am_R2 := match st with
  | .int x :: .int i :: .ref a :: st => match h[a]? with
    | some (.inl (t, n, f)) => if t = 0 ∧ am_in i n = true then some (st, h.set a (.inl (t, n, upd f i.toNatClampNeg x))) else none
    | _ => none
  | _ => none
def am_bast (st : List Value) (h : am_H) : am_R2 := match st with
  | .int x :: .int i :: .ref a :: st => match h[a]? with
    | some (.inl (t, n, f)) => if t = 1 ∧ am_in i n = true then some (st, h.set a (.inl (t, n, upd f i.toNatClampNeg x.toInt8.toInt32))) else none
    | _ => none
  | _ => none
def am_aald (st : List Value) (h : am_H) : am_R2 := match st with
  | .int i :: .ref a :: st => match h[a]? with
    | some (.inr (.inl (t, n, f))) => if t < 4 ∧ am_in i n = true then some (am_rf (f i.toNatClampNeg) :: st, h) else none
    | _ => none
  | _ => none
def am_isC (h : am_H) (r c : Nat) : Bool := match h[r]? with
  | some (.inr (.inr (c', _))) => decide (c' = c)
  | _ => false
def am_aast (st : List Value) (h : am_H) : am_R2 := match st with
  | .null :: .int i :: .ref a :: st => match h[a]? with
    | some (.inr (.inl (t, n, f))) => if t < 4 ∧ am_in i n = true then some (st, h.set a (.inr (.inl (t, n, va_up f i.toNatClampNeg none)))) else none
    | _ => none
  | .ref r :: .int i :: .ref a :: st => match h[a]? with
    | some (.inr (.inl (t, n, f))) => if t < 4 ∧ am_in i n = true ∧ am_isC h r (am_rc t) = true then some (st, h.set a (.inr (.inl (t, n, va_up f i.toNatClampNeg (some r))))) else none
    | _ => none
  | _ => none
def am_alen (S : am_S) (st : List Value) (h : am_H) : am_R2 := match st with
  | .ref a :: st => match h[a]? with
    | some (.inl (t, n, _)) => if t < 2 then some (.int (Int32.ofNat n) :: st, h) else none
    | some (.inr (.inl (t, n, _))) => if t < 4 then some (.int (Int32.ofNat n) :: st, h) else none
    | _ => none
  | .retAddr k :: st => if k = 0 then some (.int (Int32.ofNat S.1) :: st, h) else (match am_cst k with
    | some (n, _) => some (.int (Int32.ofNat n) :: st, h)
    | none => none)
  | _ => none
def am_dft (ci : Nat) : List Value := (List.range (am_N ci)).map (fun k => defaultValue (am_ty ci k))
def am_new (o : Option Nat) (st : List Value) (h : am_H) : am_R2 := match o with
  | some ci => some (.ref h.length :: st, h ++ [.inr (.inr (ci, am_dft ci))])
  | none => none
def am_newa (t : Nat) (st : List Value) (h : am_H) : am_R2 := match st with
  | .int n :: st => if ¬ n < 0 ∧ n.toNatClampNeg ≤ 1000000 then some (.ref h.length :: st, h ++ [.inl (t, n.toNatClampNeg, fun _ => 0)]) else none
  | _ => none
def am_anew (o : Option Nat) (st : List Value) (h : am_H) : am_R2 := match o, st with
  | some t, .int n :: st => if ¬ n < 0 ∧ n.toNatClampNeg ≤ 1000000 then some (.ref h.length :: st, h ++ [.inr (.inl (t, n.toNatClampNeg, fun _ => none))]) else none
  | _, _ => none
def am_cast (o : Option Nat) (st : List Value) (h : am_H) : am_R2 := match o, st with
  | some t, .ref a :: st => match h[a]? with
    | some (.inl (t', _, _)) => if t' = t then some (.ref a :: st, h) else none
    | _ => none
  | _, _ => none
def am_cpok (sp dp n : Int32) (n0 n1 : Nat) : Bool := decide (¬ sp < 0 ∧ ¬ dp < 0 ∧ ¬ n < 0 ∧ sp.toNatClampNeg + n.toNatClampNeg ≤ n0 ∧ dp.toNatClampNeg + n.toNatClampNeg ≤ n1)
def am_copy (st : List Value) (h : am_H) : am_R2 := match st with
  | .int n :: .int dp :: .ref a :: .int sp :: .ref a0 :: st => match h[a0]?, h[a]? with
    | some (.inl (t0, n0, f)), some (.inl (t, n1, g)) => if t0 = t ∧ t < 2 ∧ am_cpok sp dp n n0 n1 = true ∧ (st.map fun v => v.category).sum ≤ 8 then some (st, h.set a (.inl (t, n1, va_cpy f g sp.toNatClampNeg dp.toNatClampNeg n.toNatClampNeg))) else none
    | some (.inr (.inl (t0, n0, f))), some (.inr (.inl (t, n1, g))) => if t0 = t ∧ t < 4 ∧ am_cpok sp dp n n0 n1 = true ∧ (st.map fun v => v.category).sum ≤ 8 then some (st, h.set a (.inr (.inl (t, n1, va_cpy f g sp.toNatClampNeg dp.toNatClampNeg n.toNatClampNeg)))) else none
    | _, _ => none
  | .int n :: .int dp :: .ref a :: .int sp :: .retAddr k :: st => match am_cst k, h[a]? with
    | some (n0, f), some (.inl (t, n1, g)) => if t = 1 ∧ 6 ≤ k ∧ am_cpok sp dp n n0 n1 = true ∧ (st.map fun v => v.category).sum ≤ 8 then some (st, h.set a (.inl (t, n1, va_cpy f g sp.toNatClampNeg dp.toNatClampNeg n.toNatClampNeg))) else none
    | _, _ => none
  | _ => none
def am_clone (t : Nat) (st : List Value) (h : am_H) : am_R2 := match st with
  | .ref a :: st => match h[a]? with
    | some (.inl (t', n, f)) => if t' = t ∧ n ≤ 1000000 ∧ (st.map fun v => v.category).sum ≤ 8 then some (.ref h.length :: st, h ++ [.inl (t', n, f)]) else none
    | _ => none
  | _ => none
def am_objI (st : List Value) (h : am_H) : am_R2 := match st with
  | .ref _ :: st => if (st.map fun v => v.category).sum ≤ 8 then some (st, h) else none
  | _ => none
def am_mm (st : List Value) (h : am_H) (f : Int32 → Int32 → Int32) : am_R2 := match st with
  | .int y :: .int x :: st => if (st.map fun v => v.category).sum ≤ 8 then some (.int (f x y) :: st, h) else none
  | _ => none
def am_cv (st : List Value) (h : am_H) : Option Value → am_R2
  | some v => some (v :: st, h)
  | none => none
/-- an instruction that reads or writes the heap -/
def am_heap (S : am_S) (mid d : Nat) (i : Instr) (st : List Value) (h : am_H) : am_R2 := match i with
  | .getfield idx => am_gf (am_fld (am_cls mid) idx) st h
  | .putfield idx => am_pf mid (am_fld (am_cls mid) idx) st h
  | .iaload => am_iald S st h
  | .baload => am_bald st h
  | .iastore => am_iast st h
  | .bastore => am_bast st h
  | .aaload => am_aald st h
  | .aastore => am_aast st h
  | .arraylength => am_alen S st h
  | .new idx => am_new (am_lk am_newL (am_cls mid) idx) st h
  | .newarray .int => am_newa 0 st h
  | .newarray .byte => am_newa 1 st h
  | .anewarray idx => am_anew (am_lk am_anewL (am_cls mid) idx) st h
  | .checkcast idx => am_cast (am_lk am_castL (am_cls mid) idx) st h
  | .getstatic idx => am_cv st h ((am_stat (am_cls mid) idx).map (fun q => q.1))
  | .ldc idx => am_cv st h (am_lk am_ldcL (am_cls mid) idx)
  | .ldc2_w idx => am_cv st h ((am_lk am_ldc2L (am_cls mid) idx).map (fun x => .long x))
  | .invokespecial idx => if d = 0 then none else (match am_lk am_specL (am_cls mid) idx with
    | some 0 => am_objI st h
    | _ => none)
  | .invokestatic idx => if d = 0 then none else (match am_lk am_specL (am_cls mid) idx with
    | some 1 => am_copy st h
    | some 4 => am_mm st h (fun x y => if x < y then y else x)
    | some 5 => am_mm st h (fun x y => if y < x then y else x)
    | _ => none)
  | .invokevirtual idx => if d = 0 then none else (match am_lk am_specL (am_cls mid) idx with
    | some 2 => am_clone 0 st h
    | some 3 => am_clone 1 st h
    | _ => none)
  | _ => none
def am_len (i : Instr) : Nat := match i with
  | .iaload => 1
  | .baload => 1
  | .iastore => 1
  | .bastore => 1
  | .aaload => 1
  | .aastore => 1
  | .arraylength => 1
  | .newarray _ => 2
  | .ldc _ => 2
  | _ => 3
/-- the locals with which a method begins -/
def am_sl (as : List Value) : am_L := as.flatMap (fun v => if v.category = 2 then [some v, none] else [some v])
def am_ent (nL : Nat) (as : List Value) : am_L := am_sl as ++ List.replicate (nL - (am_sl as).length) none
def am_lg (v : Value) : Bool := match v with
  | .long _ => true
  | _ => false
def am_lok (lsl : List Nat) : Nat → am_L → Bool
  | _, [] => true
  | j, o :: ls => (match o with
    | some (.long _) => lsl.contains j
    | _ => true) && am_lok lsl (j + 1) ls
/-- the arguments fit the method's locals -/
def am_aok (cm : Nat) (as : List Value) : Bool := decide ((am_sl as).length ≤ am_maxL cm) && (as.all (fun v => am_one v || am_lg v) && am_lok (am_lsl cm) 0 (am_sl as))
/-- which method an instruction calls, in what way -/
def am_call (mid : Nat) (i : Instr) : Option (Nat × Nat) := match i with
  | .invokestatic idx => match am_lk am_callL (am_cls mid) idx with
    | some (k, cm) => if k < 2 then some (k, cm) else none
    | none => none
  | .invokevirtual idx => match am_lk am_callL (am_cls mid) idx with
    | some (k, cm) => if k = 2 ∨ k = 3 ∨ k = 7 then some (k, cm) else none
    | none => none
  | .invokespecial idx => match am_lk am_callL (am_cls mid) idx with
    | some (k, cm) => if k = 4 ∨ k = 5 ∨ k = 6 then some (k, cm) else none
    | none => none
  | _ => none
/-- the receiver is of the class that the call's way asks for -/
def am_rcv (h : am_H) (k cm : Nat) (v : Value) : Bool := match v with
  | .ref a => if k = 3 ∨ k = 6 then am_isC h a 9 else if k = 2 ∨ k = 7 then (match h[a]? with
    | some (.inr (.inr (c, _))) => decide ((am_CL[c]?).map (fun q => q.1) = some (am_y cm).cls)
    | _ => false) else true
  | .retAddr r => decide (k = 2 ∧ (am_y cm).cls = "java/lang/String" ∧ 1 ≤ r ∧ r ≤ 3)
  | _ => false
def am_hnd (mid pc : Nat) : Option Nat := match am_hh mid with
  | (lo, hi, tg, _) :: _ => if lo ≤ pc ∧ pc < hi then some tg else none
  | [] => none
def am_retOK (mid : Nat) (i : Instr) (st : List Value) (v : Option Value) : Prop := match i with
  | .ireturn => ∃ x ty, st = [.int x] ∧ am_ret mid = some ty ∧ narrow ty (.int x) = .int x ∧ v = some (.int x)
  | .lreturn => ∃ x, st = [.long x] ∧ am_ret mid = some .long ∧ v = some (.long x)
  | .areturn => ∃ w, st = [w] ∧ (w = .null ∨ ∃ a, w = .ref a) ∧ (∃ rt, am_ret mid = some rt ∧ ((∃ n, rt = .object n) ∨ ∃ t, rt = .array t)) ∧ v = some w
  | .return_ => st = [] ∧ am_ret mid = none ∧ v = none
  | _ => False
/-- the rest: a call, a return, a throw -/
def am_ctl (P : am_Cfg → am_Out → Prop) (i : Instr) (len d mid pc : Nat) (ls : am_L) (st : List Value) (h : am_H) (out : am_Out) : Prop :=
  (len = 1 ∧ ∃ v, am_retOK mid i st v ∧ out = (.inl v, h)) ∨
  (len = 1 ∧ i = .athrow ∧ ∃ a rest, st = .ref a :: rest ∧ am_isC h a 7 = true ∧ am_hnd mid pc = none ∧ out = (.inr a, h)) ∨
  (len = 3 ∧ ∃ k cm d' as rest o, am_call mid i = some (k, cm) ∧ d = d' + 1 ∧ st = as.reverse ++ rest ∧ as.length = (if am_stc cm then am_np cm else am_np cm + 1) ∧ (rest.map fun v => v.category).sum ≤ 8 ∧ (am_stc cm = false → ∃ r as', as = r :: as' ∧ am_rcv h k cm r = true) ∧ am_aok cm as = true ∧
    P (d', cm, 0, am_ent (am_maxL cm) as, [], h) o ∧
    (match o.1 with
      | .inl v => P (d, mid, pc + 3, ls, v.toList ++ rest, o.2) out
      | .inr a => k = 2 ∧ (match am_hnd mid pc with
        | some tg => P (d, mid, tg, ls, [.ref a], o.2) out
        | none => out = (.inr a, o.2))))
def am_do (S : am_S) (P : am_Cfg → am_Out → Prop) (i : Instr) (len d mid pc : Nat) (ls : am_L) (st : List Value) (h : am_H) (out : am_Out) : Prop :=
  match am_pure (am_lsl mid) i len pc ls st with
  | some q => P (d, mid, q.1, q.2.1, q.2.2, h) out
  | none => match am_heap S mid d i st h with
    | some q => len = am_len i ∧ P (d, mid, pc + len, ls, q.1, q.2) out
    | none => am_ctl P i len d mid pc ls st h out
def am_stp (S : am_S) (P : am_Cfg → am_Out → Prop) (c : am_Cfg) (out : am_Out) : Prop :=
  ∃ i len, decode (am_code c.2.1) c.2.2.1 = .ok (i, len) ∧ am_do S P i len c.1 c.2.1 c.2.2.1 c.2.2.2.1 c.2.2.2.2.1 c.2.2.2.2.2 out
def am_clo (S : am_S) (P : am_Cfg → am_Out → Prop) : Prop := ∀ c o, am_stp S P c o → P c o
/-- the machine at the configuration c comes to the outcome o -/
def am_Ev (S : am_S) (c : am_Cfg) (o : am_Out) : Prop := ∀ P, am_clo S P → P c o
theorem am_ctl_mono {P Q : am_Cfg → am_Out → Prop} (h : ∀ c o, P c o → Q c o) {i : Instr} {len d mid pc : Nat} {ls : am_L} {st : List Value} {hp : am_H} {out : am_Out} (k : am_ctl P i len d mid pc ls st hp out) : am_ctl Q i len d mid pc ls st hp out := by
  rcases k with k | k | ⟨h0, k, cm, d', as, rest, o, h1, h2, h3, h4, h5, h6, h7, h9, h10⟩
  · exact Or.inl k
  · exact Or.inr (Or.inl k)
  · refine Or.inr (Or.inr ⟨h0, k, cm, d', as, rest, o, h1, h2, h3, h4, h5, h6, h7, h _ _ h9, ?_⟩)
    split at h10
    next v e => exact h _ _ h10
    next a e =>
      refine ⟨h10.1, ?_⟩
      have h11 := h10.2
      cases e2 : am_hnd mid pc with
      | some tg => rw [e2] at h11; exact h _ _ h11
      | none => rw [e2] at h11; exact h11
theorem am_do_mono {S : am_S} {P Q : am_Cfg → am_Out → Prop} (h : ∀ c o, P c o → Q c o) {i : Instr} {len d mid pc : Nat} {ls : am_L} {st : List Value} {hp : am_H} {out : am_Out} (k : am_do S P i len d mid pc ls st hp out) : am_do S Q i len d mid pc ls st hp out := by
  unfold am_do at k ⊢
  split at k
  next q e => exact h _ _ k
  next e =>
    split at k
    next q e2 => exact ⟨k.1, h _ _ k.2⟩
    next e2 => exact am_ctl_mono h k
theorem am_stp_mono {S : am_S} {P Q : am_Cfg → am_Out → Prop} (h : ∀ c o, P c o → Q c o) {c : am_Cfg} {o : am_Out} (k : am_stp S P c o) : am_stp S Q c o := by
  obtain ⟨i, len, h1, h2⟩ := k
  exact ⟨i, len, h1, am_do_mono h h2⟩
theorem am_Ev_clo {S : am_S} : am_clo S (am_Ev S) := fun c o k P hP => hP c o (am_stp_mono (fun _ _ he => he P hP) k)
theorem am_Ev_iff {S : am_S} {c : am_Cfg} {o : am_Out} : am_Ev S c o ↔ am_stp S (am_Ev S) c o :=
  ⟨fun h => h (am_stp S (am_Ev S)) (fun c o k => am_stp_mono (fun c o k2 => am_Ev_clo c o k2) k), fun h => am_Ev_clo c o h⟩
/-- goal first: the machine at this configuration comes to an outcome with Q -/
def wp (S : am_S) (d mid pc : Nat) (ls : am_L) (st : List Value) (h : am_H) (Q : am_Out → Prop) : Prop := ∃ o, am_Ev S (d, mid, pc, ls, st, h) o ∧ Q o
