/-! parse as the component goes (recursive descent), in plain terms; it answers as pz -/
abbrev pR : Type := List Nat ⊕ (List Nat × Nat × List Nat)
def pX (ch : Nat) (r : List Nat) : List Nat ⊕ List Nat := match r with
  | [] => .inl []
  | c :: r1 => if c = ch then .inr r1 else .inl (c :: r1)
/-- a number behind its first digit: the digits' value -/
def pNum (c : Nat) (r1 : List Nat) : List Nat ⊕ (Nat × List Nat) := match r1 with
  | [] => .inr (c - 48, [])
  | c2 :: r2 => if 48 ≤ c2 ∧ c2 ≤ 57 then (match r2 with
      | [] => .inr (10 * (c - 48) + c2 - 48, [])
      | c3 :: r3 => if 48 ≤ c3 ∧ c3 ≤ 57 then .inl (c3 :: r3) else .inr (10 * (c - 48) + c2 - 48, c3 :: r3)) else .inr (c - 48, c2 :: r2)
def pA (E : Nat → List Nat → pR) : Nat → Bool → Nat → List Nat → pR
  | 0, _, n, r => .inr ([], n, r)
  | k + 1, b, n, r => match (if b = true then pX 44 r else .inr r) with
    | .inl e => .inl e
    | .inr r1 => match E n r1 with
      | .inl e => .inl e
      | .inr (ts, n1, r2) => match pA E k true n1 r2 with
        | .inl e => .inl e
        | .inr (us, n2, r3) => .inr (ts ++ us, n2, r3)
def pC (E : Nat → List Nat → pR) (t k n : Nat) (r : List Nat) : pR := match pX 40 r with
  | .inl e => .inl e
  | .inr r2 => match pA E k false n r2 with
    | .inl e => .inl e
    | .inr (ts, n', r3) => match pX 41 r3 with
      | .inl e => .inl e
      | .inr r4 => .inr ((t + k) :: ts, n', r4)
def pD (M : Nat → Nat) (E : Nat → List Nat → pR) (n : Nat) (r : List Nat) : pR := if n = 0 then .inl r else match r with
    | [] => .inl []
    | c :: r1 => if 48 ≤ c ∧ c ≤ 57 then (match pNum c r1 with
        | .inl e => .inl e
        | .inr (v, r2) => .inr ([10 * v], n - 1, r2))
      else match ndO M c with
        | none => .inl (c :: r1)
        | some t => if tk t ≤ 2 then .inr ([t], n - 1, r1) else pC E t (M (fat t)) (n - 1) r1
def pE (M : Nat → Nat) : Nat → Nat → List Nat → pR
  | 0, _, r => .inl r
  | F + 1, n, r => pD M (pE M F) n r
theorem pE_len {M : Nat → Nat} : ∀ (F n : Nat) (r ts : List Nat) (n' : Nat) (r' : List Nat), pE M F n r = .inr (ts, n', r') → n' + ts.length = n ∧ 1 ≤ ts.length := by
  intro F
  induction F with
  | zero => intro n r ts n' r' h; cases h
  | succ F ih =>
    intro n r ts n' r' h
    have hA : ∀ (k : Nat) (b : Bool) (n : Nat) (r ts : List Nat) (n' : Nat) (r' : List Nat), pA (pE M F) k b n r = .inr (ts, n', r') → n' + ts.length = n := by
      intro k
      induction k with
      | zero => intro b n r ts n' r' h; cases h; rfl
      | succ k ihk =>
        intro b n r ts n' r' h
        rw [pA] at h
        split at h
        · cases h
        · split at h
          · cases h
          next r1 _ ts1 n1 r2 h1 =>
            split at h
            · cases h
            next us n2 r3 h2 =>
              cases h
              have := ih _ _ _ _ _ h1
              have := ihk _ _ _ _ _ _ h2
              rw [List.length_append]; omega
    have h : pD M (pE M F) n r = .inr (ts, n', r') := h
    unfold pD at h
    split at h
    · cases h
    next h0 =>
      split at h
      · cases h
      next c r1 =>
        split at h
        · split at h
          · cases h
          · cases h; exact ⟨by simp; omega, by simp⟩
        · split at h
          · cases h
          · split at h
            · cases h; exact ⟨by simp; omega, by simp⟩
            · unfold pC at h
              split at h
              · cases h
              · split at h
                · cases h
                next ts1 n1 r3 h1 =>
                  split at h
                  · cases h
                  · cases h
                    have := hA _ _ _ _ _ _ _ h1
                    simp; omega
/-- what is parsed: where it fails, or the nodes -/
def pf (o : List Nat ⊕ (List Nat × List Nat)) : List Nat ⊕ List Nat := match o with
  | .inl e => .inl e
  | .inr (ts, r) => if r = [] then .inr ts else .inl r
def pad (ts : List Nat) (o : List Nat ⊕ List Nat) : List Nat ⊕ List Nat := match o with
  | .inl e => .inl e
  | .inr us => .inr (ts ++ us)
def pfin (M : Nat → Nat) (ts : List Nat) (n : Nat) (o : List Nat ⊕ (List Nat × List Nat)) : List Nat ⊕ List Nat := match o with
  | .inl e => .inl e
  | .inr (st, r) => match st with
    | [] => if r = [] then .inr ts else .inl r
    | w :: st => pad ts (pf (pz M n (w :: st) r))
def pco (M : Nat → Nat) (st : List Nat) (o : pR) : List Nat ⊕ List Nat := match o with
  | .inl e => .inl e
  | .inr (ts, n, r) => pfin M ts n (clz st r)
def pcl (M : Nat → Nat) (st : List Nat) (o : pR) : List Nat ⊕ List Nat := match o with
  | .inl e => .inl e
  | .inr (ts, n, r) => match pX 41 r with
    | .inl e => .inl e
    | .inr r4 => pfin M ts n (clz st r4)
theorem pad_pad {a b : List Nat} {o : List Nat ⊕ List Nat} : pad a (pad b o) = pad (a ++ b) o := by
  cases o with
  | inl e => rfl
  | inr u => simp [pad]
theorem pad_pfin {M : Nat → Nat} {a ts : List Nat} {n : Nat} {o : List Nat ⊕ (List Nat × List Nat)} : pad a (pfin M ts n o) = pfin M (a ++ ts) n o := by
  cases o with
  | inl e => rfl
  | inr q =>
    obtain ⟨st, r⟩ := q
    cases st with
    | nil =>
      show pad a (if r = [] then .inr ts else .inl r) = if r = [] then .inr (a ++ ts) else .inl r
      by_cases h : r = []
      · rw [if_pos h, if_pos h]; rfl
      · rw [if_neg h, if_neg h]; rfl
    | cons w st => exact pad_pad
def ppr (a : List Nat) (o : pR) : pR := match o with
  | .inl e => .inl e
  | .inr (ts, n, r) => .inr (a ++ ts, n, r)
theorem pad_pcl {M : Nat → Nat} {a st : List Nat} {o : pR} : pad a (pcl M st o) = pcl M st (ppr a o) := by
  rcases o with e | ⟨ts, n, r⟩
  · rfl
  · show pad a (match pX 41 r with
      | .inl e => .inl e
      | .inr r4 => pfin M ts n (clz st r4)) = (match pX 41 r with
      | .inl e => .inl e
      | .inr r4 => pfin M (a ++ ts) n (clz st r4))
    cases pX 41 r with
    | inl e => rfl
    | inr r4 => exact pad_pfin
def pzS (M : Nat → Nat) (n : Nat) (o : List Nat ⊕ (Nat × List Nat × List Nat)) : List Nat ⊕ (List Nat × List Nat) := match o with
  | .inl e => .inl e
  | .inr (t, st', r') => match st' with
    | [] => .inr ([t], r')
    | _ :: _ => match pz M n st' r' with
      | .inl e => .inl e
      | .inr (ts, r2) => .inr (t :: ts, r2)
theorem pz_s {M : Nat → Nat} {n : Nat} {st r : List Nat} : pz M (n + 1) st r = pzS M n (rdN M st r) := by
  rw [pz]
  unfold pzS
  rcases rdN M st r with e | ⟨t, st', r'⟩
  · rfl
  · cases st' <;> rfl
theorem pzS_c {M : Nat → Nat} {n t w : Nat} {st r : List Nat} : pf (pzS M n (.inr (t, w :: st, r))) = pad [t] (pf (pz M n (w :: st) r)) := by
  show pf (match pz M n (w :: st) r with
      | .inl e => .inl e
      | .inr (ts, r2) => .inr (t :: ts, r2)) = _
  rcases pz M n (w :: st) r with e | ⟨ts, r2⟩
  · rfl
  · show (if r2 = [] then .inr (t :: ts) else .inl r2) = pad [t] (if r2 = [] then .inr ts else .inl r2)
    by_cases h : r2 = []
    · rw [if_pos h, if_pos h]; rfl
    · rw [if_neg h, if_neg h]; rfl
theorem pzS_T {M : Nat → Nat} {n t : Nat} {o : List Nat ⊕ (List Nat × List Nat)} : pf (pzS M n (rdT t o)) = pfin M [t] n o := by
  rcases o with e | ⟨st, r⟩
  · rfl
  · cases st with
    | nil => rfl
    | cons w st => exact pzS_c
theorem clz_d {st r : List Nat} {c : Nat} (h : c ≠ 44) (h2 : c ≠ 41) (hs : st ≠ []) : clz st (c :: r) = .inl (c :: r) := by
  cases st with
  | nil => exact (hs rfl).elim
  | cons w st =>
    show (if 1 < w then (if c = 44 then _ else _) else (if c = 41 then _ else _)) = _
    rw [if_neg h, if_neg h2]
    split <;> rfl
theorem pA_tf {E : Nat → List Nat → pR} {k n : Nat} {r : List Nat} : pA E (k + 1) true n (44 :: r) = pA E (k + 1) false n r := by
  rw [pA, pA]
  rfl
theorem pz_bh {M : Nat → Nat} : ∀ (F n : Nat), n ≤ F → ∀ (st r : List Nat), pf (pz M n st r) = pco M st (pE M F n r) := by
  intro F
  induction F with
  | zero =>
    intro n hn st r
    have e : n = 0 := by omega
    subst e
    rfl
  | succ F ih =>
    intro n hn st r
    cases n with
    | zero => rfl
    | succ n =>
      have B : ∀ (k n : Nat), n ≤ F → ∀ (st r : List Nat), pf (pz M n ((k + 1) :: st) r) = pcl M st (pA (pE M F) (k + 1) false n r) := by
        intro k
        induction k with
        | zero =>
          intro n hn st r
          rw [ih n hn, pA]
          show pco M (1 :: st) (pE M F n r) = pcl M st (match pE M F n r with
            | .inl e => .inl e
            | .inr (ts, n1, r2) => .inr (ts ++ [], n1, r2))
          rcases pE M F n r with e | ⟨ts, n1, r2⟩
          · rfl
          · show pfin M ts n1 (clz (1 :: st) r2) = (match pX 41 r2 with
              | .inl e => .inl e
              | .inr r4 => pfin M (ts ++ []) n1 (clz st r4))
            rw [List.append_nil]
            cases r2 with
            | nil => rfl
            | cons c r3 =>
              show pfin M ts n1 (if c = 41 then clz st r3 else .inl (c :: r3)) = (match (if c = 41 then .inr r3 else .inl (c :: r3) : List Nat ⊕ List Nat) with
                | .inl e => .inl e
                | .inr r4 => pfin M ts n1 (clz st r4))
              by_cases hc : c = 41
              · rw [if_pos hc, if_pos hc]
              · rw [if_neg hc, if_neg hc]; rfl
        | succ k ihk =>
          intro n hn st r
          rw [ih n hn, pA]
          show pco M ((k + 1 + 1) :: st) (pE M F n r) = pcl M st (match pE M F n r with
            | .inl e => .inl e
            | .inr (ts, n1, r2) => match pA (pE M F) (k + 1) true n1 r2 with
              | .inl e => .inl e
              | .inr (us, n2, r3) => .inr (ts ++ us, n2, r3))
          rcases hE : pE M F n r with e | ⟨ts, n1, r2⟩
          · rfl
          · have hlen := pE_len F n r ts n1 r2 hE
            show pfin M ts n1 (clz ((k + 1 + 1) :: st) r2) = pcl M st (ppr ts (pA (pE M F) (k + 1) true n1 r2))
            rw [← pad_pcl]
            cases r2 with
            | nil => rfl
            | cons c r3 =>
              show pfin M ts n1 (if 1 < k + 1 + 1 then (if c = 44 then .inr ((k + 1) :: st, r3) else .inl (c :: r3)) else (if c = 41 then clz st r3 else .inl (c :: r3))) = _
              rw [if_pos (by omega)]
              by_cases hc : c = 44
              · subst hc
                rw [if_pos rfl, pA_tf, ← ihk n1 (by omega) st r3]
                rfl
              · rw [if_neg hc, pA]
                show _ = pad ts (pcl M st (match (if c = 44 then .inr r3 else .inl (c :: r3) : List Nat ⊕ List Nat) with
                  | .inl e => .inl e
                  | .inr r1 => _))
                rw [if_neg hc]
                rfl
      rw [pz_s]
      show pf (pzS M n (rdN M st r)) = pco M st (pD M (pE M F) (n + 1) r)
      unfold pD rdN
      rw [if_neg (by omega)]
      cases r with
      | nil => rfl
      | cons c r1 =>
        unfold rd1
        by_cases hd : 48 ≤ c ∧ c ≤ 57
        · simp only [if_pos hd]
          have tk0 : ∀ v, v < 1000 → ¬ 2 < tk (10 * v) := fun v hv => by unfold tk; omega
          have l1 : ∀ v r', v < 1000 → pf (pzS M n (rdK (10 * v) 0 st r')) = pfin M [10 * v] n (clz st r') := fun v r' hv => by
            unfold rdK
            rw [if_neg (by omega), pzS_T]
            unfold rdC
            rw [if_neg (tk0 v hv)]
          cases r1 with
          | nil => exact l1 (c - 48) [] (by omega)
          | cons c2 r2 =>
            unfold pNum
            by_cases hd2 : 48 ≤ c2 ∧ c2 ≤ 57
            · simp only [if_pos hd2]
              cases r2 with
              | nil => exact l1 (10 * (c - 48) + c2 - 48) [] (by omega)
              | cons c3 r3 =>
                by_cases hd3 : 48 ≤ c3 ∧ c3 ≤ 57
                · simp only [if_pos hd3]
                  rw [l1 _ _ (by omega)]
                  show pfin M _ n (clz st (c3 :: r3)) = .inl (c3 :: r3)
                  by_cases hs : st = []
                  · subst hs; rfl
                  · rw [clz_d (by omega) (by omega) hs]; rfl
                · simp only [if_neg hd3]
                  exact l1 _ _ (by omega)
            · simp only [if_neg hd2]
              exact l1 _ _ (by omega)
        · simp only [if_neg hd]
          cases hn2 : ndO M c with
          | none => rfl
          | some t =>
            by_cases ht : tk t ≤ 2
            · simp only [if_pos ht]
              unfold rdK
              rw [if_neg (by omega), pzS_T]
              unfold rdC
              rw [if_neg (by omega)]
              rfl
            · simp only [if_neg ht]
              cases r1 with
              | nil => rfl
              | cons c2 r2 =>
                unfold pC pX
                by_cases hc : c2 = 40
                · simp only [if_pos hc]
                  unfold rdK
                  cases hk : M (fat t) with
                  | zero =>
                    rw [if_neg (by omega), pzS_T]
                    unfold rdC
                    rw [if_pos (by omega)]
                    cases r2 with
                    | nil => rfl
                    | cons c3 r3 =>
                      show pfin M [t] n (if c3 = 41 then clz st r3 else .inl (c3 :: r3)) = pco M st (match (if c3 = 41 then .inr r3 else .inl (c3 :: r3) : List Nat ⊕ List Nat) with
                        | .inl e => .inl e
                        | .inr r4 => .inr ([t + 0], n, r4))
                      by_cases h3 : c3 = 41
                      · rw [if_pos h3, if_pos h3]; rfl
                      · rw [if_neg h3, if_neg h3]; rfl
                  | succ k =>
                    rw [if_pos (by omega), pzS_c, B k n (by omega) st r2]
                    show _ = pco M st (match pA (pE M F) (k + 1) false n r2 with
                      | .inl e => .inl e
                      | .inr (ts, n', r3) => match pX 41 r3 with
                        | .inl e => .inl e
                        | .inr r4 => .inr ((t + (k + 1)) :: ts, n', r4))
                    rcases pA (pE M F) (k + 1) false n r2 with e | ⟨ts, n', r3⟩
                    · rfl
                    · show pad [t + (k + 1)] (match pX 41 r3 with
                        | .inl e => .inl e
                        | .inr r4 => pfin M ts n' (clz st r4)) = pco M st (match pX 41 r3 with
                        | .inl e => .inl e
                        | .inr r4 => .inr ((t + (k + 1)) :: ts, n', r4))
                      cases pX 41 r3 with
                      | inl e => rfl
                      | inr r4 => exact pad_pfin
                · simp only [if_neg hc]
                  rfl
