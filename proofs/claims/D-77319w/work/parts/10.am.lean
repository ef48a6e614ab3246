/-! THE ABSTRACT MACHINE (am_): cells, locals, stack; the instructions that touch no heap, and that they are sound -/
abbrev am_C : Type := (Nat × Nat × (Nat → Int32)) ⊕ ((Nat × Nat × (Nat → Option Nat)) ⊕ (Nat × List Value))
abbrev am_H : Type := List am_C
abbrev am_L : Type := List (Option Value)
abbrev am_R3 : Type := Option (Nat × am_L × List Value)
def am_get (ls : am_L) (k : Nat) : Option Value := match ls[k]? with
  | some (some v) => some v
  | _ => none
def am_push (k len pc : Nat) (ls : am_L) (st : List Value) (v : Value) : am_R3 := if len = k then some (pc + k, ls, v :: st) else none
def am_ldI (k len pc j : Nat) (ls : am_L) (st : List Value) : am_R3 := match am_get ls j with
  | some (.int x) => am_push k len pc ls st (.int x)
  | _ => none
def am_ldL (k len pc j : Nat) (ls : am_L) (st : List Value) : am_R3 := match am_get ls j with
  | some (.long x) => am_push k len pc ls st (.long x)
  | _ => none
def am_ldA (k len pc j : Nat) (ls : am_L) (st : List Value) : am_R3 := match am_get ls j with
  | some (.ref x) => am_push k len pc ls st (.ref x)
  | some .null => am_push k len pc ls st .null
  | some (.retAddr x) => am_push k len pc ls st (.retAddr x)
  | _ => none
def am_put (lsl : List Nat) (ls : am_L) (k : Nat) (v : Value) : Option am_L := if k < ls.length ∧ ¬ (1 ≤ k ∧ (k - 1) ∈ lsl) then some (ls.set k (some v)) else none
def am_putL (lsl : List Nat) (ls : am_L) (k : Nat) (v : Value) : Option am_L := if k + 1 < ls.length ∧ k ∈ lsl ∧ ¬ (1 ≤ k ∧ (k - 1) ∈ lsl) then some ((ls.set k (some v)).set (k + 1) none) else none
def am_to (k len pc : Nat) (st : List Value) : Option am_L → am_R3
  | some ls => if len = k then some (pc + k, ls, st) else none
  | none => none
def am_stI (lsl : List Nat) (k len pc j : Nat) (ls : am_L) (st : List Value) : am_R3 := match st with
  | .int x :: st => am_to k len pc st (am_put lsl ls j (.int x))
  | _ => none
def am_stL (lsl : List Nat) (k len pc j : Nat) (ls : am_L) (st : List Value) : am_R3 := match st with
  | .long x :: st => am_to k len pc st (am_putL lsl ls j (.long x))
  | _ => none
def am_stA (lsl : List Nat) (k len pc j : Nat) (ls : am_L) (st : List Value) : am_R3 := match st with
  | .ref x :: st => am_to k len pc st (am_put lsl ls j (.ref x))
  | .null :: st => am_to k len pc st (am_put lsl ls j .null)
  | .retAddr x :: st => am_to k len pc st (am_put lsl ls j (.retAddr x))
  | _ => none
def am_ii (len pc : Nat) (ls : am_L) (st : List Value) (f : Int32 → Int32 → Int32) : am_R3 := match st with
  | .int y :: .int x :: st => am_push 1 len pc ls st (.int (f x y))
  | _ => none
def am_iz (len pc : Nat) (ls : am_L) (st : List Value) (f : Int32 → Int32 → Int32) : am_R3 := match st with
  | .int y :: .int x :: st => if y = 0 then none else am_push 1 len pc ls st (.int (f x y))
  | _ => none
def am_i1 (len pc : Nat) (ls : am_L) (st : List Value) (f : Int32 → Value) : am_R3 := match st with
  | .int x :: st => am_push 1 len pc ls st (f x)
  | _ => none
def am_ll (len pc : Nat) (ls : am_L) (st : List Value) (f : Int64 → Int64 → Value) : am_R3 := match st with
  | .long y :: .long x :: st => am_push 1 len pc ls st (f x y)
  | _ => none
def am_one (v : Value) : Bool := match v with
  | .int _ => true
  | .ref _ => true
  | .null => true
  | .retAddr _ => true
  | _ => false
def am_jmp (len pc : Nat) (off : Int) (ls : am_L) (st : List Value) (c : Bool) : am_R3 := if len = 3 ∧ 0 ≤ (pc : Int) + off then some (bif c then ((pc : Int) + off).toNat else pc + 3, ls, st) else none
def am_rel (c : ClassFile.Cond) (x y : Int32) : Bool := match c with
  | .eq => decide (x = y)
  | .ne => !decide (x = y)
  | .lt => decide (x < y)
  | .ge => decide (y ≤ x)
  | .gt => decide (y < x)
  | .le => decide (x ≤ y)
def am_swt (d lo hi : Int) (offs : Array Int) (x : Int32) : Option Int := if x.toInt < lo ∨ hi < x.toInt then some d else offs[(x.toInt - lo).toNat]?
def am_sw (pc : Nat) (ls : am_L) (st : List Value) : Option Int → am_R3
  | some off => if 0 ≤ (pc : Int) + off then some (((pc : Int) + off).toNat, ls, st) else none
  | none => none
/-- an instruction that touches no heap: the place behind it, the locals, the stack -/
def am_pure (lsl : List Nat) (i : Instr) (len pc : Nat) (ls : am_L) (st : List Value) : am_R3 := match i with
  | .iconst n => am_push 1 len pc ls st (.int (Int32.ofInt n))
  | .bipush n => am_push 2 len pc ls st (.int (Int8.ofInt n).toInt32)
  | .sipush n => am_push 3 len pc ls st (.int (Int16.ofInt n).toInt32)
  | .lconst n => am_push 1 len pc ls st (.long (Int64.ofNat (n : Nat)))
  | .aconst_null => am_push 1 len pc ls st .null
  | .iload_n k => am_ldI 1 len pc k ls st
  | .iload k => am_ldI 2 len pc k ls st
  | .lload_n k => am_ldL 1 len pc k ls st
  | .lload k => am_ldL 2 len pc k ls st
  | .aload_n k => am_ldA 1 len pc k ls st
  | .aload k => am_ldA 2 len pc k ls st
  | .istore_n k => am_stI lsl 1 len pc k ls st
  | .istore k => am_stI lsl 2 len pc k ls st
  | .lstore_n k => am_stL lsl 1 len pc k ls st
  | .lstore k => am_stL lsl 2 len pc k ls st
  | .astore_n k => am_stA lsl 1 len pc k ls st
  | .astore k => am_stA lsl 2 len pc k ls st
  | .iinc k n => match am_get ls k with
    | some (.int x) => am_to 3 len pc st (am_put lsl ls k (.int (x + Int32.ofInt n)))
    | _ => none
  | .iadd => am_ii len pc ls st (fun x y => x + y)
  | .isub => am_ii len pc ls st (fun x y => x - y)
  | .imul => am_ii len pc ls st (fun x y => x * y)
  | .iand => am_ii len pc ls st (fun x y => x &&& y)
  | .ior => am_ii len pc ls st (fun x y => x ||| y)
  | .ishl => am_ii len pc ls st (fun x y => x <<< (y &&& 31))
  | .ishr => am_ii len pc ls st (fun x y => x >>> (y &&& 31))
  | .idiv => am_iz len pc ls st (fun x y => x / y)
  | .irem => am_iz len pc ls st (fun x y => x - x / y * y)
  | .ineg => am_i1 len pc ls st (fun x => .int (-x))
  | .i2l => am_i1 len pc ls st (fun x => .long x.toInt64)
  | .i2b => am_i1 len pc ls st (fun x => .int x.toInt8.toInt32)
  | .i2c => am_i1 len pc ls st (fun x => .int (x.toUInt32 % 65536).toInt32)
  | .ladd => am_ll len pc ls st (fun x y => .long (x + y))
  | .lmul => am_ll len pc ls st (fun x y => .long (x * y))
  | .lcmp => am_ll len pc ls st (fun x y => .int (lg_cmp x y))
  | .dup => match st with
    | v :: st => if am_one v then am_push 1 len pc ls (v :: st) v else none
    | _ => none
  | .pop => match st with
    | v :: st => if am_one v then (if len = 1 then some (pc + 1, ls, st) else none) else none
    | _ => none
  | .dup_x1 => match st with
    | v :: w :: st => if am_one v && am_one w then am_push 1 len pc ls (w :: v :: st) v else none
    | _ => none
  | .dup2 => match st with
    | v :: w :: st => if am_one v && am_one w then am_push 1 len pc ls (w :: v :: w :: st) v else none
    | _ => none
  | .goto off => am_jmp len pc off ls st true
  | .ifCond c off => match st with
    | .int x :: st => am_jmp len pc off ls st (am_rel c x 0)
    | _ => none
  | .if_icmp c off => match st with
    | .int y :: .int x :: st => am_jmp len pc off ls st (am_rel c x y)
    | _ => none
  | .ifnull off => match st with
    | .ref _ :: st => am_jmp len pc off ls st false
    | .null :: st => am_jmp len pc off ls st true
    | _ => none
  | .ifnonnull off => match st with
    | .ref _ :: st => am_jmp len pc off ls st true
    | .null :: st => am_jmp len pc off ls st false
    | .retAddr k :: st => if k < 10 then am_jmp len pc off ls st true else none
    | _ => none
  | .tableswitch d lo hi offs => match st with
    | .int x :: st => am_sw pc ls st (am_swt d lo hi offs x)
    | _ => none
  | _ => none
/-- a value of the abstract machine on the real one: cells begin at b, constants are cv -/
def am_v (b : Nat) (cv : Nat → Value) (v : Value) : Value := match v with
  | .ref i => .ref (b + i)
  | .retAddr k => cv k
  | v => v
def am_LR (φ : Value → Value) (lsl : List Nat) (ls1 : Array Slot) (nL : Nat) (ls : am_L) : Prop :=
  ls1.size = nL ∧ ls.length = nL ∧ lv_wf ls1 ∧ (∀ (j : Nat) (w : Value), ls[j]? = some (some w) → ls1[j]? = some (.val (φ w))) ∧ ∀ (j : Nat) (w : Value), ls[j]? = some (some w) → (φ w).category = 2 → j ∈ lsl
def am_ps (φ : Value → Value) (ls : am_L) : List (Nat × Value) := (List.range ls.length).filterMap (fun j => (am_get ls j).map (fun w => (j, φ w)))
theorem am_get_some {ls : am_L} {k : Nat} {v : Value} (h : am_get ls k = some v) : ls[k]? = some (some v) := by
  unfold am_get at h
  split at h
  next w hw => cases h; exact hw
  next => cases h
theorem am_get_of {ls : am_L} {k : Nat} {v : Value} (h : ls[k]? = some (some v)) : am_get ls k = some v := by
  unfold am_get
  rw [h]
theorem am_ps_mem {φ : Value → Value} {ls : am_L} {j : Nat} {w : Value} (h : ls[j]? = some (some w)) : (j, φ w) ∈ am_ps φ ls := by
  refine List.mem_filterMap.mpr ⟨j, List.mem_range.mpr (List.getElem?_eq_some_iff.mp h).1, ?_⟩
  rw [am_get_of h]
  rfl
theorem am_LR.has {φ : Value → Value} {lsl : List Nat} {ls1 : Array Slot} {nL : Nat} {ls : am_L} (h : am_LR φ lsl ls1 nL ls) : lv_has ls1 nL (am_ps φ ls) := by
  refine ⟨h.1, h.2.2.1, fun q hq => ?_⟩
  obtain ⟨j, -, hj⟩ := List.mem_filterMap.mp hq
  cases hg : am_get ls j with
  | none => rw [hg] at hj; cases hj
  | some w =>
    rw [hg] at hj
    cases hj
    exact h.2.2.2.1 j w (am_get_some hg)
theorem am_LR.put {φ : Value → Value} {lsl : List Nat} {ls1 ls2 : Array Slot} {nL k : Nat} {ls ls' : am_L} {v : Value} (h : am_LR φ lsl ls1 nL ls) (hp : am_put lsl ls k v = some ls') (hc : (φ v).category = 1)
    (h2 : lv_has ls2 nL ((k, φ v) :: (am_ps φ ls).filter (fun q => !(q.1 == k) && !(q.1 + 1 == k && q.2.category == 2)))) : am_LR φ lsl ls2 nL ls' := by
  unfold am_put at hp
  split at hp
  next hk =>
    cases hp
    refine ⟨h2.1, by rw [List.length_set]; exact h.2.1, h2.2.1, fun j w hj => ?_, fun j w hj hw => ?_⟩
    · by_cases hjk : j = k
      · subst hjk
        rw [List.getElem?_set_self hk.1] at hj
        cases hj
        exact h2.2.2 _ List.mem_cons_self
      · rw [List.getElem?_set_ne (Ne.symm hjk)] at hj
        refine h2.2.2 (j, φ w) (List.mem_cons_of_mem _ (List.mem_filter.mpr ⟨am_ps_mem hj, ?_⟩))
        by_cases h3 : j + 1 = k
        · have h4 : ¬ (φ w).category = 2 := fun q => hk.2 ⟨by omega, by rw [show k - 1 = j by omega]; exact h.2.2.2.2 j w hj q⟩
          simp [hjk, h4]
        · simp [hjk, h3]
    · by_cases hjk : j = k
      · subst hjk
        rw [List.getElem?_set_self hk.1] at hj
        cases hj
        rw [hc] at hw
        cases hw
      · rw [List.getElem?_set_ne (Ne.symm hjk)] at hj
        exact h.2.2.2.2 j w hj hw
  next => cases hp
theorem am_LR.putL {φ : Value → Value} {lsl : List Nat} {ls1 ls2 : Array Slot} {nL k : Nat} {ls ls' : am_L} {v : Value} (h : am_LR φ lsl ls1 nL ls) (hp : am_putL lsl ls k v = some ls')
    (h2 : lv_has ls2 nL ((k, φ v) :: (am_ps φ ls).filter (fun q => !(q.1 == k) && (!(q.1 == k + 1) && !(q.1 + 1 == k && q.2.category == 2))))) : am_LR φ lsl ls2 nL ls' := by
  unfold am_putL at hp
  split at hp
  next hk =>
    cases hp
    have key : ∀ (j : Nat) (w : Value), ((ls.set k (some v)).set (k + 1) none)[j]? = some (some w) → (j = k ∧ w = v) ∨ (j ≠ k ∧ j ≠ k + 1 ∧ ls[j]? = some (some w)) := by
      intro j w hj
      by_cases h1 : j = k + 1
      · subst h1
        rw [List.getElem?_set_self (by rw [List.length_set]; exact hk.1)] at hj
        cases hj
      · rw [List.getElem?_set_ne (Ne.symm h1)] at hj
        by_cases hjk : j = k
        · subst hjk
          rw [List.getElem?_set_self (by omega)] at hj
          cases hj
          exact Or.inl ⟨rfl, rfl⟩
        · rw [List.getElem?_set_ne (Ne.symm hjk)] at hj
          exact Or.inr ⟨hjk, h1, hj⟩
    refine ⟨h2.1, by rw [List.length_set, List.length_set]; exact h.2.1, h2.2.1, fun j w hj => ?_, fun j w hj hw => ?_⟩
    · rcases key j w hj with ⟨rfl, rfl⟩ | ⟨hjk, h1, hj⟩
      · exact h2.2.2 _ List.mem_cons_self
      · refine h2.2.2 (j, φ w) (List.mem_cons_of_mem _ (List.mem_filter.mpr ⟨am_ps_mem hj, ?_⟩))
        by_cases h3 : j + 1 = k
        · have h4 : ¬ (φ w).category = 2 := fun q => hk.2.2 ⟨by omega, by rw [show k - 1 = j by omega]; exact h.2.2.2.2 j w hj q⟩
          simp [hjk, h1, h4]
        · simp [hjk, h1, h3]
    · rcases key j w hj with ⟨rfl, rfl⟩ | ⟨hjk, h1, hj⟩
      · exact hk.2.1
      · exact h.2.2.2.2 j w hj hw
  next => cases hp
theorem am_push_spec {k len pc pc' : Nat} {ls ls' : am_L} {st st' : List Value} {v : Value} (h : am_push k len pc ls st v = some (pc', ls', st')) : len = k ∧ pc' = pc + k ∧ ls' = ls ∧ st' = v :: st := by
  unfold am_push at h
  split at h
  next hk => cases h; exact ⟨hk, rfl, rfl, rfl⟩
  next => cases h
theorem am_to_spec {k len pc pc' : Nat} {ls' : am_L} {st st' : List Value} {o : Option am_L} (h : am_to k len pc st o = some (pc', ls', st')) : len = k ∧ pc' = pc + k ∧ st' = st ∧ o = some ls' := by
  unfold am_to at h
  split at h
  next ls =>
    split at h
    next hk => cases h; exact ⟨hk, rfl, rfl, rfl⟩
    next => cases h
  next => cases h
theorem am_jmp_spec {len pc pc' : Nat} {off : Int} {ls ls' : am_L} {st st' : List Value} {c : Bool} (h : am_jmp len pc off ls st c = some (pc', ls', st')) : len = 3 ∧ (∃ tgt : Nat, (pc : Int) + off = (tgt : Int) ∧ pc' = bif c then tgt else pc + 3) ∧ ls' = ls ∧ st' = st := by
  unfold am_jmp at h
  split at h
  next hk =>
    cases h
    exact ⟨hk.1, ⟨((pc : Int) + off).toNat, (Int.toNat_of_nonneg hk.2).symm, rfl⟩, rfl, rfl⟩
  next => cases h
theorem am_one_cat {b : Nat} {cv : Nat → Value} (hcv : ∀ k, (10 ≤ k ∧ cv k = .null) ∨ ∃ a, cv k = .ref a) {v : Value} (h : am_one v = true) : (am_v b cv v).category = 1 := by
  cases v <;> first | rfl | (cases h; done) | skip
  next k =>
    show (cv k).category = 1
    rcases hcv k with ⟨-, e⟩ | ⟨a, e⟩ <;> rw [e] <;> rfl
