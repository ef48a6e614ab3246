/-! the law: both sides on one heap -/
section FB
variable {S : am_S} {d : Nat} {h h' h1 : am_H} {Q : am_Out → Prop} {σ : sg} {I I' : Nat → Int32} {A A' : Nat → Nat → Int32} {w k : Nat}
theorem and31 (x : Int32) : ∃ k, k < 32 ∧ x &&& nI 31 = nI k := by
  refine ⟨x.toBitVec.toNat % 32, Nat.mod_lt _ (by decide), ?_⟩
  apply Int32.toBitVec_inj.mp
  rw [Int32.toBitVec_and]
  apply BitVec.eq_of_toNat_eq
  rw [BitVec.toNat_and]
  have e1 : (nI 31).toBitVec.toNat = 2 ^ 5 - 1 := by decide
  rw [e1, Nat.and_two_pow_sub_one_eq_mod]
  have e2 : (nI (x.toBitVec.toNat % 32)).toBitVec.toNat = x.toBitVec.toNat % 32 % 2 ^ 32 := rfl
  rw [e2, Nat.mod_eq_of_lt (Nat.lt_trans (Nat.mod_lt _ (by decide)) (by decide))]
theorem lg_self (u : Int64) : lg_cmp u u = 0 := by
  unfold lg_cmp
  rw [if_neg (fun q => Int64.lt_irrefl q), if_pos rfl]
theorem mo_c_in {a : Nat} {c c' : am_C} (h1 : 70 ≤ a) (h2 : a ≤ 83) : mo_c I A a c = mo_c I A a c' := by
  have h : a = 70 ∨ a = 71 ∨ a = 72 ∨ a = 73 ∨ a = 74 ∨ a = 75 ∨ a = 76 ∨ a = 77 ∨ a = 78 ∨ a = 79 ∨ a = 80 ∨ a = 81 ∨ a = 82 ∨ a = 83 := by omega
  rcases h with rfl | rfl | rfl | rfl | rfl | rfl | rfl | rfl | rfl | rfl | rfl | rfl | rfl | rfl <;> rfl
theorem mo_c_sz {a : Nat} {c : am_C} : am_csz (mo_c I A a c) = am_csz (mo_c I' A' a c) := by
  by_cases h : 70 ≤ a ∧ a ≤ 83
  · have h : a = 70 ∨ a = 71 ∨ a = 72 ∨ a = 73 ∨ a = 74 ∨ a = 75 ∨ a = 76 ∨ a = 77 ∨ a = 78 ∨ a = 79 ∨ a = 80 ∨ a = 81 ∨ a = 82 ∨ a = 83 := by omega
    rcases h with rfl | rfl | rfl | rfl | rfl | rfl | rfl | rfl | rfl | rfl | rfl | rfl | rfl | rfl <;> rfl
  · rw [mo_c_out (by omega), mo_c_out (by omega)]
/-- the component has left the model alone -/
theorem mst_of (hl : 84 ≤ h.length) (hf : frC (mst h I A) h1 k) : ∃ h2, h1 = mst h2 I A ∧ 84 ≤ h2.length := by
  have hl1 : 84 ≤ h1.length := by have := hf.2.1; rw [mst_len] at this; omega
  refine ⟨h1, ?_, hl1⟩
  refine mst_ext rfl (fun a c c' hc hc' => ?_)
  rw [hc] at hc'
  cases hc'
  by_cases ha : 70 ≤ a ∧ a ≤ 83
  · have e : (mst h I A)[a]? = some (mo_c I A a h[a]) := by rw [mst_get, List.getElem?_eq_getElem (by omega : a < h.length)]; rfl
    have e2 := hf.1 a _ (Or.inl ha.1) e
    rw [hc] at e2
    cases e2
    exact mo_c_in ha.1 ha.2
  · rw [mo_c_out (by omega)]
theorem wt_mst : wt (mst h I' A') = wt (mst h I A) := by
  unfold wt
  rw [mst_len, mst_len, slots_eq (mst h I A) (mst h I' A') (by rw [mst_len, mst_len]) (fun a c c' q r => ?_)]
  rw [mst_get] at q r
  cases hc : h[a]? with
  | none => rw [hc] at q; cases q
  | some x =>
    rw [hc] at q r
    cases q; cases r
    exact mo_c_sz
theorem CR_mst (hc : CR imm (mst h I A) σ) : CR imm (mst h I' A') σ := by
  have l84 := CR_84 hc
  have ho : ∀ a, a < 70 ∨ 83 < a → (mst h I' A')[a]? = (mst h I A)[a]? := fun a ha => (mst_out ha).trans (mst_out ha).symm
  have hm : mn imm imm (mst h I A) (mst h I' A') := fun a c p q => ⟨p, by
    by_cases ha : 70 ≤ a
    · rw [ho a (Or.inr (by have := imm_m p ha; omega))]; exact q
    · rw [ho a (Or.inl (by omega))]; exact q⟩
  have hr : RS imm (mst h I A) 1 σ.1 := by obtain ⟨sb, tb, er, -, -, r, -⟩ := hc; exact r
  refine CR_st (q := σ.1) hc (by rw [mst_len, mst_len]; exact Nat.le_refl _) hm (fun a ha => ho a (Or.inl (by omega))) ?_
  obtain ⟨s, s1, s2⟩ := hr
  exact ⟨s, SH_fr s1 (fun a ha => ho a (Or.inl (by omega))), SV_mn hm s2⟩
theorem CR_0 (hc : CR imm h σ) : ∃ fs, h[0]? = some (.inr (.inr (0, fs))) := by
  obtain ⟨sb, tb, er, ⟨e0, -⟩, -⟩ := hc
  exact ⟨_, e0⟩
/-- where both sides stand: the component and the model hold σ, the heap weighs at most w -/
def LI (h : am_H) (I : Nat → Int32) (A : Nat → Nat → Int32) (σ : sg) (w : Nat) : Prop := 84 ≤ h.length ∧ CR imm (mst h I A) σ ∧ MR I A σ ∧ wfs σ ∧ wt (mst h I A) ≤ w
/-- the law goes on behind a call -/
def lawK (S : am_S) (d i w : Nat) (Q : am_Out → Prop) : Prop := ∀ h I A σ, LI h I A σ (w + 2000) → wp S (d + 100) 180 740 [some (.retAddr 0), some (.ref 0), some (.ref 70), some (.int (nI i))] [] (mst h I A) Q
theorem LI_n {h2 : am_H} {σ' : sg} {k : Nat} (hL : LI h I A σ w) (hf : frC (mst h I A) (mst h2 I A) k) (hk : k ≤ 2000) (hl : 84 ≤ h2.length) (hc : CR imm (mst h2 I A) σ') (hm : MR I' A' σ') (hw : wfs σ') : LI h2 I' A' σ' (w + 2000) := by
  refine ⟨hl, CR_mst hc, hm, hw, ?_⟩
  rw [wt_mst (I := I) (A := A)]
  have h1 := hL.2.2.2.2
  have h2 := hf.2.2
  omega
end FB
