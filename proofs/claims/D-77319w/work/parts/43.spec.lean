/-! what the state is, in numbers: M the array, T the mappings' targets -/
def sm (f : Nat → Nat) : Nat → Nat
  | 0 => 0
  | n + 1 => sm f n + f n
def al (p : Nat → Bool) : Nat → Bool
  | 0 => true
  | n + 1 => al p n && p n
def an (p : Nat → Bool) : Nat → Bool
  | 0 => false
  | n + 1 => an p n || p n
def tI (o : Option Nat) : Int32 := match o with
  | none => -1
  | some t => nI t
/-- a place of the array that is no mapping's target -/
def pl (i : Nat) : Prop := i < 186 ∧ (i < 117 ∨ 147 ≤ i ∨ ¬ (i - 117) % 5 = 0)
/-- the array m holds M and T -/
def mEnc (m : Nat → Int32) (M : Nat → Nat) (T : Nat → Option Nat) : Prop := (∀ i, i < 186 → (i < 117 ∨ 147 ≤ i ∨ ¬ (i - 117) % 5 = 0) → m i = nI (M i)) ∧ ∀ o, o < 6 → m (117 + 5 * o) = tI (T o)
theorem mEnc.M {m : Nat → Int32} {M : Nat → Nat} {T : Nat → Option Nat} (h : mEnc m M T) {i : Nat} (h1 : i < 186) (h2 : i < 117 ∨ 147 ≤ i ∨ ¬ (i - 117) % 5 = 0) : m i = nI (M i) := h.1 i h1 h2
theorem mEnc.T {m : Nat → Int32} {M : Nat → Nat} {T : Nat → Option Nat} (h : mEnc m M T) {o : Nat} (ho : o < 6) : m (117 + 5 * o) = tI (T o) := h.2 o ho
theorem tI_n : tI none = -1 := rfl
theorem tI_s {t : Nat} : tI (some t) = nI t := rfl
def tk (t : Nat) : Nat := t / 10000
def tw (t : Nat) : Nat := t / 10 % 1000
def ta (t : Nat) : Nat := t % 10
/-- p is n expressions, one behind the other, each in preorder -/
def need : Nat → List Nat → Prop
  | 0, [] => True
  | 0, _ :: _ => False
  | _ + 1, [] => False
  | n + 1, t :: p => need (n + ta t) p
/-- a node that may stand in a program with n adapters -/
def tOk (n t : Nat) : Prop := (tk t = 0 ∧ tw t ≤ 99 ∧ ta t = 0) ∨ ((tk t = 1 ∨ tk t = 2) ∧ tw t = 0 ∧ ta t = 0) ∨ (tk t = 3 ∧ tw t < 6 ∧ ta t ≤ 3) ∨ (tk t = 4 ∧ tw t < 6 ∧ ta t ≤ 4) ∨ (tk t = 5 ∧ tw t < n ∧ ta t ≤ 3)
def prog (M : Nat → Nat) : List Nat := (List.range (M 148)).map (fun k => M (149 + k))
/-- the function at a place: arity at most n, effect, terms -/
def fOk (M : Nat → Nat) (n at_ : Nat) : Prop := M at_ ≤ n ∧ M (at_ + 1) ≤ 1 ∧ ∀ j, j < 5 → M (at_ + 2 + j) ≤ 99
def wf (M : Nat → Nat) (T : Nat → Option Nat) : Prop :=
  (∀ f, f < 6 → fOk M 3 (7 * f)) ∧ (∀ f, f < 6 → fOk M 4 (42 + 7 * f)) ∧ (M 116 ≤ 4 ∧ ∀ k, k < M 116 → fOk M 3 (84 + 8 * k) ∧ M (84 + 8 * k + 7) < 6 ∧ ∀ j, j < k → M (84 + 8 * j + 7) ≠ M (84 + 8 * k + 7)) ∧
  (∀ o, o < 6 → ∀ t, T o = some t → t < 6 ∧ ∀ p, p < 4 → M (117 + 5 * o + 1 + p) ≤ 2 ∨ (100 ≤ M (117 + 5 * o + 1 + p) ∧ M (117 + 5 * o + 1 + p) ≤ 199)) ∧
  M 147 ≤ 1 ∧ (1 ≤ M 148 ∧ M 148 ≤ 30) ∧ need 1 (prog M) ∧ ∀ t, t ∈ prog M → tOk (M 116) t
/-- whether the mapping of o to t is faithful -/
def fthA (M : Nat → Nat) (o t : Nat) : Bool := al (fun k => decide (M (117 + 5 * o + 1 + k) < 100 → M (117 + 5 * o + 1 + k) < M (7 * o))) (M (42 + 7 * t))
def fthC (M : Nat → Nat) (o t : Nat) : Nat → Nat := sm (fun k => if M (117 + 5 * o + 1 + k) < 100 then 0 else M (42 + 7 * t + 2 + 1 + k) * (M (117 + 5 * o + 1 + k) - 100))
def fthS (M : Nat → Nat) (o t j : Nat) : Nat → Nat := sm (fun k => if M (117 + 5 * o + 1 + k) = j then M (42 + 7 * t + 2 + 1 + k) else 0)
def fth (M : Nat → Nat) (o t : Nat) : Bool := fthA M o t && decide ((M (42 + 7 * t + 2) + fthC M o t (M (42 + 7 * t))) % 1000 = M (7 * o + 2)) && al (fun j => decide (fthS M o t j (M (42 + 7 * t)) = M (7 * o + 2 + 1 + j))) (M (7 * o))
/-- the last adapter whose owner is o, among the first n -/
def adp (M : Nat → Nat) (o : Nat) : Nat → Option Nat
  | 0 => none
  | n + 1 => if M (84 + 8 * n + 7) = o then some n else adp M o n
/-- the saved states' array behind a save -/
def svS (f : Nat → Int32) : Nat → Int32 := fun j => if j < 558 then f (j + 186) else f j
def svC (f m : Nat → Int32) (s : Nat) : Nat → Int32 := fun j => if 186 * s ≤ j ∧ j < 186 * s + 186 then m (j - 186 * s) else f j
def seA (A : Nat → Nat → Int32) (k : Nat) (f : Nat → Int32) : Nat → Nat → Int32 := fun j => if j = k then f else A j
theorem seA_s {A : Nat → Nat → Int32} {k : Nat} {f : Nat → Int32} : seA A k f k = f := by simp [seA]
theorem seA_n {A : Nat → Nat → Int32} {k j : Nat} {f : Nat → Int32} (h : j ≠ k) : seA A k f j = A j := by simp [seA, h]
theorem seA_id {A : Nat → Nat → Int32} {k : Nat} {f : Nat → Int32} (h : ∀ i, f i = A k i) : seA A k f = A := by
  funext j i; unfold seA; split
  next e => subst e; exact h i
  next => rfl
theorem seA_up {A : Nat → Nat → Int32} {k i : Nat} {x : Int32} {f g : Nat → Int32} (h : ∀ j, g j = f j) : seA (upm A k i x) k g = seA A k f := by
  funext j l; unfold seA upm; split
  next e => exact h l
  next => rfl
theorem seA_se {A : Nat → Nat → Int32} {k : Nat} {f g : Nat → Int32} : seA (seA A k f) k g = seA A k g := by
  funext j l; unfold seA; split <;> rfl
theorem upd_ap (f : Nat → Int32) (k : Nat) (x : Int32) (j : Nat) : upd f k x j = if j = k then x else f j := rfl
theorem upd_up {f : Nat → Int32} {k : Nat} {x y : Int32} : upd (upd f k x) k y = upd f k y := by
  funext j; simp only [upd_ap]; split <;> rfl
def svI (I : Nat → Int32) (s : Nat) : Nat → Int32 := upd I 2 (nI (min s 3 + 1))
def svA (A : Nat → Nat → Int32) (s : Nat) : Nat → Nat → Int32 := seA A 1 (svC (if s = 4 then svS (A 1) else A 1) (A 0) (min s 3))
theorem svA_n {A : Nat → Nat → Int32} {s j : Nat} (h : j ≠ 1) : svA A s j = A j := seA_n h
theorem svI_n {I : Nat → Int32} {s j : Nat} (h : j ≠ 2) : svI I s j = I j := pk_un h
