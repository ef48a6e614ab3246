/-! the state of both sides in plain terms (sg): numbers and targets, saved ones (oldest first), errors, text; the model holds it (MR) -/
abbrev sg_S : Type := (Nat → Nat) × (Nat → Option Nat)
abbrev sg : Type := sg_S × List sg_S × (Nat → Int32) × List Nat
def sg_sv (σ : sg) : sg := (σ.1, (if σ.2.1.length = 4 then σ.2.1.tail else σ.2.1) ++ [σ.1], σ.2.2.1, σ.2.2.2)
def sg_M (σ : sg) (M : Nat → Nat) : sg := ((M, σ.1.2), σ.2)
def sg_T (σ : sg) (T : Nat → Option Nat) : sg := ((σ.1.1, T), σ.2)
def sg_E (σ : sg) (c : Nat) : sg := (σ.1, σ.2.1, upd σ.2.2.1 c (σ.2.2.1 c + nI 1), σ.2.2.2)
def sg_X (σ : sg) (tx : List Nat) : sg := (σ.1, σ.2.1, σ.2.2.1, tx)
def MR (I : Nat → Int32) (A : Nat → Nat → Int32) (σ : sg) : Prop :=
  mEnc (A 0) σ.1.1 σ.1.2 ∧ (I 2 = nI σ.2.1.length ∧ σ.2.1.length ≤ 4) ∧ (∀ i q, σ.2.1[i]? = some q → mEnc (fun k => A 1 (186 * i + k)) q.1 q.2) ∧ (∀ j, j < 4 → A 3 j = σ.2.2.1 j) ∧ (I 5 = nI σ.2.2.2.length ∧ σ.2.2.2.length ≤ 120) ∧ ∀ i c, σ.2.2.2[i]? = some c → A 4 i = nI c
section MRS
variable {I I' : Nat → Int32} {A A' : Nat → Nat → Int32} {σ : sg}
theorem mEnc_up {m : Nat → Int32} {M : Nat → Nat} {T : Nat → Option Nat} (hm : mEnc m M T) {i v : Nat} (hi : i < 117 ∨ 147 ≤ i ∨ ¬ (i - 117) % 5 = 0) : mEnc (upd m i (nI v)) (va_up M i v) T := by
  refine ⟨fun j h1 h2 => ?_, fun o ho => ?_⟩
  · simp only [upd_ap, va_up]
    split
    · rfl
    · exact hm.1 j h1 h2
  · rw [pk_un (by omega)]; exact hm.2 o ho
theorem mEnc_T {m : Nat → Int32} {M : Nat → Nat} {T : Nat → Option Nat} (hm : mEnc m M T) {o : Nat} (ho : o < 6) (u : Option Nat) : mEnc (upd m (117 + 5 * o) (tI u)) M (va_up T o u) := by
  refine ⟨fun j h1 h2 => ?_, fun p hp => ?_⟩
  · rw [pk_un (by omega)]; exact hm.1 j h1 h2
  · simp only [upd_ap, va_up]
    by_cases q : p = o
    · subst q; simp
    · rw [if_neg (by omega), if_neg q]; exact hm.2 p hp
theorem MR_up (hm : MR I A σ) {i v : Nat} (hi : i < 117 ∨ 147 ≤ i ∨ ¬ (i - 117) % 5 = 0) : MR I (upm A 0 i (nI v)) (sg_M σ (va_up σ.1.1 i v)) := by
  obtain ⟨h1, h2, h3, h4, h5, h6⟩ := hm
  exact ⟨by rw [upm_s]; exact mEnc_up h1 hi, h2, h3, h4, h5, h6⟩
theorem MR_T (hm : MR I A σ) {o : Nat} (ho : o < 6) (u : Option Nat) : MR I (upm A 0 (117 + 5 * o) (tI u)) (sg_T σ (va_up σ.1.2 o u)) := by
  obtain ⟨h1, h2, h3, h4, h5, h6⟩ := hm
  exact ⟨by rw [upm_s]; exact mEnc_T h1 ho u, h2, h3, h4, h5, h6⟩
theorem MR_err (hm : MR I A σ) {c : Nat} (hc : c < 4) : MR I (upm A 3 c (A 3 c + nI 1)) (sg_E σ c) := by
  obtain ⟨h1, h2, h3, h4, h5, h6⟩ := hm
  refine ⟨h1, h2, h3, fun j hj => ?_, h5, h6⟩
  show upm A 3 c (A 3 c + nI 1) 3 j = upd σ.2.2.1 c (σ.2.2.1 c + nI 1) j
  rw [upm_s, upd_ap, upd_ap, h4 c hc]
  split
  · rfl
  · exact h4 j hj
theorem MR_fr (hm : MR I A σ) (hI : ∀ j, j = 2 ∨ j = 5 → I' j = I j) (hA : ∀ j, j = 0 ∨ j = 1 ∨ j = 3 ∨ j = 4 → A' j = A j) : MR I' A' σ := by
  obtain ⟨h1, h2, h3, h4, h5, h6⟩ := hm
  unfold MR
  rw [hA 0 (by simp), hA 1 (by simp), hA 3 (by simp), hA 4 (by simp), hI 2 (by simp), hI 5 (by simp)]
  exact ⟨h1, h2, h3, h4, h5, h6⟩
theorem MR_sv (hm : MR I A σ) : MR (svI I σ.2.1.length) (svA A σ.2.1.length) (sg_sv σ) := by
  obtain ⟨h1, h2, h3, h4, h5, h6⟩ := hm
  have hlen : (sg_sv σ).2.1.length = min σ.2.1.length 3 + 1 := by
    simp only [sg_sv, List.length_append, List.length_singleton]
    split
    · rw [List.length_tail]; omega
    · omega
  refine ⟨h1, ⟨?_, by rw [hlen]; omega⟩, fun i q hi => ?_, h4, h5, h6⟩
  · rw [hlen]; exact pk_us
  · have key : ∀ k, k < 186 → svA A σ.2.1.length 1 (186 * i + k) = (if i = min σ.2.1.length 3 then A 0 k else if σ.2.1.length = 4 then A 1 (186 * (i + 1) + k) else A 1 (186 * i + k)) := by
      intro k hk
      have hi2 : i < (sg_sv σ).2.1.length := (List.getElem?_eq_some_iff.mp hi).1
      rw [hlen] at hi2
      unfold svA
      rw [seA_s]
      unfold svC
      by_cases q1 : i = min σ.2.1.length 3
      · rw [if_pos q1, if_pos (by omega)]; congr 1; omega
      · rw [if_neg q1, if_neg (by omega)]
        by_cases q2 : σ.2.1.length = 4
        · rw [if_pos q2, if_pos q2]
          unfold svS
          rw [if_pos (by omega)]; congr 1; omega
        · rw [if_neg q2, if_neg q2]
    have key2 : ∀ (m : Nat → Int32), (∀ k, k < 186 → svA A σ.2.1.length 1 (186 * i + k) = m k) → mEnc m q.1 q.2 → mEnc (fun k => svA A σ.2.1.length 1 (186 * i + k)) q.1 q.2 := by
      intro m hm2 he
      exact ⟨fun j j1 j2 => by show svA A σ.2.1.length 1 (186 * i + j) = _; rw [hm2 j j1]; exact he.1 j j1 j2, fun o ho => by show svA A σ.2.1.length 1 (186 * i + (117 + 5 * o)) = _; rw [hm2 _ (by omega)]; exact he.2 o ho⟩
    have hi2 : ((if σ.2.1.length = 4 then σ.2.1.tail else σ.2.1) ++ [σ.1])[i]? = some q := hi
    have el : (if σ.2.1.length = 4 then σ.2.1.tail else σ.2.1).length = min σ.2.1.length 3 := by
      split
      · rw [List.length_tail]; omega
      · omega
    by_cases q1 : i = min σ.2.1.length 3
    · refine key2 (A 0) (fun k hk => by rw [key k hk, if_pos q1]) ?_
      rw [List.getElem?_append_right (by rw [el]; omega)] at hi2
      have e : i - (if σ.2.1.length = 4 then σ.2.1.tail else σ.2.1).length = 0 := by rw [el]; omega
      rw [e] at hi2
      cases hi2
      exact h1
    · have hi3 : i < (sg_sv σ).2.1.length := (List.getElem?_eq_some_iff.mp hi).1
      rw [hlen] at hi3
      by_cases q2 : σ.2.1.length = 4
      · refine key2 (fun k => A 1 (186 * (i + 1) + k)) (fun k hk => by rw [key k hk, if_neg q1, if_pos q2]) ?_
        rw [if_pos q2, List.getElem?_append_left (by rw [List.length_tail]; omega), List.getElem?_tail] at hi2
        exact h3 (i + 1) q hi2
      · refine key2 (fun k => A 1 (186 * i + k)) (fun k hk => by rw [key k hk, if_neg q1, if_neg q2]) ?_
        rw [if_neg q2, List.getElem?_append_left (by omega)] at hi2
        exact h3 i q hi2
end MRS
