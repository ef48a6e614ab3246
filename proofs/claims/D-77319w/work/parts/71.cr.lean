/-! the component's state on the abstract heap -/
def imL : List Nat := [7, 8, 10, 11, 12, 13, 23, 24, 26, 27, 28, 29, 36, 37, 39, 40, 41, 42, 49, 50, 52, 53, 54, 55, 62, 63, 65, 66, 67, 68]
/-- a cell that is never written again once it stands -/
def imm (a : Nat) : Prop := 84 ≤ a ∨ a ∈ imL
/-- such a cell, or one of the model's -/
def im2 (a : Nat) : Prop := 70 ≤ a ∨ a ∈ imL
theorem imm_2 {a : Nat} (h : imm a) : im2 a := by rcases h with h | h; exact Or.inl (by omega); exact Or.inr h
theorem imm_m {a : Nat} (h : imm a) (h1 : 70 ≤ a) : 84 ≤ a := by
  rcases h with h | h
  · exact h
  · unfold imL at h
    simp only [List.mem_cons, List.not_mem_nil, or_false] at h
    omega
/-- every such cell is kept -/
def ext (h h' : am_H) : Prop := ∀ a c, im2 a → h[a]? = some c → h'[a]? = some c
theorem ext_rf {h : am_H} : ext h h := fun _ _ _ q => q
theorem ext_tr {h h' h2 : am_H} (h1 : ext h h') (q : ext h' h2) : ext h h2 := fun a c i r => q a c i (h1 a c i r)
/-- what is at the addresses in P is kept, and they are in P' -/
def mn (P P' : Nat → Prop) (h h' : am_H) : Prop := ∀ a c, P a → h[a]? = some c → P' a ∧ h'[a]? = some c
theorem mn_rf {P : Nat → Prop} {h : am_H} : mn P P h h := fun _ _ p q => ⟨p, q⟩
theorem mn_tr {P P' P2 : Nat → Prop} {h h' h2 : am_H} (h1 : mn P P' h h') (q : mn P' P2 h' h2) : mn P P2 h h2 := fun a c i r => q a c (h1 a c i r).1 (h1 a c i r).2
theorem mn_app {P : Nat → Prop} {h : am_H} {t : List am_C} : mn P P h (h ++ t) := fun a c p r => ⟨p, by rw [List.getElem?_append_left (g_lt r)]; exact r⟩
theorem mn_set {P : Nat → Prop} {h : am_H} {a : Nat} {c : am_C} (ha : ¬ P a) : mn P P h (h.set a c) := fun b c' i r => ⟨i, by
  have hab : a ≠ b := fun q => ha (by rw [q]; exact i)
  rw [g_sn hab]; exact r⟩
theorem mn_lt {P : Nat → Prop} {h : am_H} : mn P (fun a => P a ∧ a < h.length) h h := fun _ _ p q => ⟨⟨p, g_lt q⟩, q⟩
theorem mn_sub {P P' : Nat → Prop} {h : am_H} (hp : ∀ a, P a → P' a) : mn P P' h h := fun _ _ p q => ⟨hp _ p, q⟩
theorem mn_ext {P : Nat → Prop} {h h' : am_H} (hp : ∀ a, P a → imm a) (he : ext h h') : mn P P h h' := fun a c p q => ⟨p, he a c (imm_2 (hp a p)) q⟩
def isFun (P : Nat → Prop) (h : am_H) (a : Nat) (M : Nat → Nat) (o : Nat) : Prop := P a ∧ ∃ c g, P c ∧ h[a]? = some (.inr (.inr (3, [.int (nI (M o)), .int (nI (M (o + 1))), .int (nI (M (o + 2))), .ref c]))) ∧ h[c]? = some (.inl (0, 4, g)) ∧ ∀ j, j < 4 → g j = nI (M (o + 2 + 1 + j))
def eE (e : Nat) : Int32 := if e < 100 then -1 - nI e else nI (e - 100)
def isMap (P : Nat → Prop) (h : am_H) (a : Nat) (M : Nat → Nat) (f t : Nat) : Prop := P a ∧ ∃ c g, P c ∧ h[a]? = some (.inr (.inr (6, [.int (nI t), .ref c]))) ∧ h[c]? = some (.inl (0, 4, g)) ∧ ∀ j, j < 4 → g j = eE (M (117 + 5 * f + 1 + j))
def ck (t : Nat) : Nat := if tk t = 0 then 0 else if tk t ≤ 2 then 1 else tk t - 1
def cv (t : Nat) : Nat := if tk t = 2 then 1 else tw t
/-- the node at a is the expression p (preorder) -/
def isT (P : Nat → Prop) : Nat → am_H → Nat → List Nat → Prop
  | 0, _, _, _ => False
  | n + 1, h, a, p => ∃ t b g, ∃ cs : List (Nat × List Nat), P a ∧ P b ∧ p = t :: (cs.map (fun q => q.2)).flatten ∧ cs.length = ta t ∧ h[a]? = some (.inr (.inr (2, [.int (nI (ck t)), .int (nI (cv t)), .ref b, .int (nI p.length)]))) ∧ h[b]? = some (.inr (.inl (2, ta t, g))) ∧ ∀ i q, cs[i]? = some q → g i = some q.1 ∧ isT P n h q.1 q.2
theorem isFun_mn {P P' : Nat → Prop} {h h' : am_H} (he : mn P P' h h') {a o : Nat} {M : Nat → Nat} (hf : isFun P h a M o) : isFun P' h' a M o := by
  obtain ⟨h1, c, g, h2, h3, h4, h5⟩ := hf
  exact ⟨(he _ _ h1 h3).1, c, g, (he _ _ h2 h4).1, (he _ _ h1 h3).2, (he _ _ h2 h4).2, h5⟩
theorem isMap_mn {P P' : Nat → Prop} {h h' : am_H} (he : mn P P' h h') {a f t : Nat} {M : Nat → Nat} (hf : isMap P h a M f t) : isMap P' h' a M f t := by
  obtain ⟨h1, c, g, h2, h3, h4, h5⟩ := hf
  exact ⟨(he _ _ h1 h3).1, c, g, (he _ _ h2 h4).1, (he _ _ h1 h3).2, (he _ _ h2 h4).2, h5⟩
theorem isT_mn {P P' : Nat → Prop} {h h' : am_H} (he : mn P P' h h') : ∀ n a p, isT P n h a p → isT P' n h' a p := by
  intro n
  induction n with
  | zero => intro a p q; exact q
  | succ n ih =>
    intro a p ⟨t, b, g, cs, h1, h2, h3, h4, h5, h6, h7⟩
    exact ⟨t, b, g, cs, (he _ _ h1 h5).1, (he _ _ h2 h6).1, h3, h4, (he _ _ h1 h5).2, (he _ _ h2 h6).2, fun i q hq => ⟨(h7 i q hq).1, ih _ _ (h7 i q hq).2⟩⟩
theorem isT_up {P : Nat → Prop} {h : am_H} : ∀ n a p, isT P n h a p → isT P (n + 1) h a p := by
  intro n
  induction n with
  | zero => intro a p q; exact q.elim
  | succ n ih =>
    intro a p ⟨t, b, g, cs, h1, h2, h3, h4, h5, h6, h7⟩
    exact ⟨t, b, g, cs, h1, h2, h3, h4, h5, h6, fun i q hq => ⟨(h7 i q hq).1, ih _ _ (h7 i q hq).2⟩⟩
theorem isT_le {P : Nat → Prop} {h : am_H} {n m a : Nat} {p : List Nat} (hm : n ≤ m) (ht : isT P n h a p) : isT P m h a p := by
  obtain ⟨k, rfl⟩ := Nat.exists_eq_add_of_le hm
  clear hm
  induction k with
  | zero => exact ht
  | succ k ih => exact isT_up _ _ _ ih
theorem flat_mem : ∀ (cs : List (Nat × List Nat)) (i : Nat) (q : Nat × List Nat), cs[i]? = some q → q.2.length ≤ ((cs.map (fun q => q.2)).flatten).length := by
  intro cs
  induction cs with
  | nil => intro i q h; simp at h
  | cons c cs ih =>
    intro i q h
    rw [List.map_cons, List.flatten_cons, List.length_append]
    cases i with
    | zero =>
      have h : some c = some q := h
      cases h; omega
    | succ i =>
      have := ih i q h
      omega
/-- the fuel may be the expression's size -/
theorem isT_nm {P : Nat → Prop} {h : am_H} : ∀ n a p, isT P n h a p → isT P p.length h a p := by
  intro n
  induction n with
  | zero => intro a p q; exact q.elim
  | succ n ih =>
    intro a p ⟨t, b, g, cs, h1, h2, h3, h4, h5, h6, h7⟩
    have e : p.length = ((cs.map (fun q => q.2)).flatten).length + 1 := by rw [h3, List.length_cons]
    rw [e]
    refine ⟨t, b, g, cs, h1, h2, h3, h4, h5, h6, fun i q hq => ⟨(h7 i q hq).1, ?_⟩⟩
    exact isT_le (flat_mem cs i q hq) (ih _ _ (h7 i q hq).2)
theorem need_fl : ∀ (cs : List (Nat × List Nat)), (∀ (i : Nat) (q : Nat × List Nat), cs[i]? = some q → need 1 q.2) → need cs.length ((cs.map (fun q => q.2)).flatten) := by
  intro cs
  induction cs with
  | nil => intro _; trivial
  | cons c cs ih =>
    intro h
    rw [List.map_cons, List.flatten_cons, List.length_cons, Nat.add_comm]
    exact need_app _ _ _ _ (h 0 c rfl) (ih (fun i q hq => h (i + 1) q (by rw [List.getElem?_cons_succ]; exact hq)))
theorem isT_need {P : Nat → Prop} {h : am_H} : ∀ n a p, isT P n h a p → need 1 p := by
  intro n
  induction n with
  | zero => intro a p q; exact q.elim
  | succ n ih =>
    intro a p ⟨t, b, g, cs, h1, h2, h3, h4, h5, h6, h7⟩
    rw [h3]
    show need (0 + ta t) _
    rw [Nat.zero_add, ← h4]
    exact need_fl cs (fun i q hq => ih _ _ (h7 i q hq).2)
/-- what the State at b is made of: functions old, new, adapters; adapterOf, mappings, program, left -/
abbrev sr : Type := (Nat → Option Nat) × (Nat → Option Nat) × (Nat → Option Nat) × (Nat → Int32) × (Nat → Option Nat) × Nat × (Nat → Int32)
/-- the cells of the State at b -/
def SH (h : am_H) (b : Nat) (n al_ : Nat) (s : sr) : Prop := h[b]? = some (.inr (.inr (1, [.ref (b + 1), .ref (b + 2), .ref (b + 3), .int (nI n), .ref (b + 4), .ref (b + 5), .int (nI al_), .ref s.2.2.2.2.2.1, .ref (b + 8)]))) ∧ h[b + 1]? = some (.inr (.inl (0, 6, s.1))) ∧ h[b + 2]? = some (.inr (.inl (0, 6, s.2.1))) ∧ h[b + 3]? = some (.inr (.inl (0, 4, s.2.2.1))) ∧ h[b + 4]? = some (.inl (0, 6, s.2.2.2.1)) ∧ h[b + 5]? = some (.inr (.inl (1, 6, s.2.2.2.2.1))) ∧ h[b + 8]? = some (.inl (0, 8, s.2.2.2.2.2.2))
def fnV (P : Nat → Prop) (h : am_H) (M : Nat → Nat) (at_ : Nat → Nat) (n : Nat) (s : Nat → Option Nat) : Prop := ∀ f, f < n → ∃ a, s f = some a ∧ isFun P h a M (at_ f)
def mpV (P : Nat → Prop) (h : am_H) (M : Nat → Nat) (T : Nat → Option Nat) (s : Nat → Option Nat) : Prop := ∀ f, f < 6 → (T f = none → s f = none) ∧ ∀ t, T f = some t → ∃ a, s f = some a ∧ isMap P h a M f t
/-- they hold the numbers M and the targets T -/
def SV (P : Nat → Prop) (h : am_H) (M : Nat → Nat) (T : Nat → Option Nat) (s : sr) : Prop := fnV P h M (fun f => 7 * f) 6 s.1 ∧ fnV P h M (fun f => 42 + 7 * f) 6 s.2.1 ∧ fnV P h M (fun k => 84 + 8 * k) (M 116) s.2.2.1 ∧ (∀ f, f < 6 → s.2.2.2.1 f = tI (adp M f (M 116))) ∧ mpV P h M T s.2.2.2.2.1 ∧ isT P 31 h s.2.2.2.2.2.1 (prog M) ∧ ∀ k, k < 7 → s.2.2.2.2.2.2 (k + 1) = nI (M (179 + k))
theorem fnV_mn {P P' : Nat → Prop} {h h' : am_H} (he : mn P P' h h') {M : Nat → Nat} {at_ : Nat → Nat} {n : Nat} {s : Nat → Option Nat} (hs : fnV P h M at_ n s) : fnV P' h' M at_ n s := fun f hf => by
  obtain ⟨a, q1, q2⟩ := hs f hf; exact ⟨a, q1, isFun_mn he q2⟩
theorem mpV_mn {P P' : Nat → Prop} {h h' : am_H} (he : mn P P' h h') {M : Nat → Nat} {T : Nat → Option Nat} {s : Nat → Option Nat} (hs : mpV P h M T s) : mpV P' h' M T s := fun f hf => ⟨(hs f hf).1, fun t ht => by
  obtain ⟨a, q1, q2⟩ := (hs f hf).2 t ht; exact ⟨a, q1, isMap_mn he q2⟩⟩
theorem SV_mn {P P' : Nat → Prop} {h h' : am_H} (he : mn P P' h h') {M : Nat → Nat} {T : Nat → Option Nat} {s : sr} (hs : SV P h M T s) : SV P' h' M T s := by
  obtain ⟨h1, h2, h3, h4, h5, h6, h7⟩ := hs
  exact ⟨fnV_mn he h1, fnV_mn he h2, fnV_mn he h3, h4, mpV_mn he h5, isT_mn he _ _ _ h6, h7⟩
