/-! the component: it holds the state (CR) -/
/-- the component's own cells: saved states' bases sb, text tb, errors er -/
def c0 (h : am_H) (n m : Nat) (sb : Nat → Nat) (tb er : Nat → Int32) : Prop := h[0]? = some (.inr (.inr (0, [.ref 1, .ref 14, .int (nI n), .ref 15, .int (nI m), .ref 16, .ref 69]))) ∧ h[14]? = some (.inr (.inl (3, 4, fun i => if i < 4 then some (sb i) else none))) ∧ h[15]? = some (.inl (1, 120, tb)) ∧ h[16]? = some (.inl (0, 6, er)) ∧ (∃ x y : Int32, h[69]? = some (.inr (.inr (4, [.int x, .int y, .ref 0])))) ∧ 84 ≤ h.length ∧ n ≤ 4 ∧ m ≤ 120
def sbOk (sb : Nat → Nat) : Prop := (∀ i, i < 4 → sb i = 17 ∨ sb i = 30 ∨ sb i = 43 ∨ sb i = 56) ∧ ∀ i j, i < 4 → j < i → sb i ≠ sb j
/-- the State at b holds q -/
def RS (P : Nat → Prop) (h : am_H) (b : Nat) (q : sg_S) : Prop := ∃ s, SH h b (q.1 116) (q.1 147) s ∧ SV P h q.1 q.2 s
def CR (P : Nat → Prop) (h : am_H) (σ : sg) : Prop := ∃ (sb : Nat → Nat) (tb er : Nat → Int32), c0 h σ.2.1.length σ.2.2.2.length sb tb er ∧ sbOk sb ∧ RS P h 1 σ.1 ∧ (∀ i, i < 4 → ∃ n l s, SH h (sb i) n l s) ∧ (∀ i q, σ.2.1[i]? = some q → RS P h (sb i) q) ∧ (∀ i c, σ.2.2.2[i]? = some c → tb i = nI c) ∧ ∀ j, j < 4 → er (j + 2) = σ.2.2.1 j
theorem g_ln {α : Type} {l : List α} {i : Nat} {q : α} (h : l[i]? = some q) : i < l.length := (List.getElem?_eq_some_iff.mp h).1
theorem SH_fr {h h' : am_H} {b n l : Nat} {s : sr} (hs : SH h b n l s) (hq : ∀ a, a = b ∨ a = b + 1 ∨ a = b + 2 ∨ a = b + 3 ∨ a = b + 4 ∨ a = b + 5 ∨ a = b + 8 → h'[a]? = h[a]?) : SH h' b n l s := by
  obtain ⟨h1, h2, h3, h4, h5, h6, h7⟩ := hs
  exact ⟨by rw [hq b (by omega)]; exact h1, by rw [hq (b + 1) (by omega)]; exact h2, by rw [hq (b + 2) (by omega)]; exact h3, by rw [hq (b + 3) (by omega)]; exact h4, by rw [hq (b + 4) (by omega)]; exact h5, by rw [hq (b + 5) (by omega)]; exact h6, by rw [hq (b + 8) (by omega)]; exact h7⟩
theorem c0_fr {h h' : am_H} {n m : Nat} {sb : Nat → Nat} {tb er : Nat → Int32} (hc : c0 h n m sb tb er) (hl : h.length ≤ h'.length) (hq : ∀ a, a = 0 ∨ a = 14 ∨ a = 15 ∨ a = 16 ∨ a = 69 → h'[a]? = h[a]?) : c0 h' n m sb tb er := by
  obtain ⟨h1, h2, h3, h4, h5, h6⟩ := hc
  exact ⟨by rw [hq 0 (by omega)]; exact h1, by rw [hq 14 (by omega)]; exact h2, by rw [hq 15 (by omega)]; exact h3, by rw [hq 16 (by omega)]; exact h4, by rw [hq 69 (by omega)]; exact h5, by omega, h6.2⟩
/-- the State in use changes, nothing else of the component -/
theorem CR_st {P P' : Nat → Prop} {h h' : am_H} {σ : sg} {q : sg_S} (hc : CR P h σ) (hl : h.length ≤ h'.length) (hm : mn P P' h h') (hq : ∀ a, a = 0 ∨ (14 ≤ a ∧ a < 70) → h'[a]? = h[a]?) (hs : RS P' h' 1 q) : CR P' h' (q, σ.2) := by
  obtain ⟨sb, tb, er, h1, h2, h3, h4, h5, h6, h7⟩ := hc
  refine ⟨sb, tb, er, c0_fr h1 hl (fun a ha => hq a (by omega)), h2, hs, fun i hi => ?_, fun i q hi => ?_, h6, h7⟩
  · obtain ⟨n, l, s, hs⟩ := h4 i hi
    have := h2.1 i hi
    exact ⟨n, l, s, SH_fr hs (fun a ha => hq a (by omega))⟩
  · have hi : σ.2.1[i]? = some q := hi
    obtain ⟨s, s1, s2⟩ := h5 i q hi
    have hi4 : i < 4 := by
      have h8 := h1.2.2.2.2.2.2.1
      have := g_ln hi
      omega
    have := h2.1 i hi4
    exact ⟨s, SH_fr s1 (fun a ha => hq a (by omega)), SV_mn hm s2⟩
