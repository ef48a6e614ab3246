/-! the abstract heap on the real one; what holds of the tables and the constants all through -/
theorem am_ch {α : Type} {P : α → Prop} {a b : List α} {n k : Nat} (ha : ∀ e ∈ a, P e) (hn : a.length = n) (hb : ∀ m, m < k → ∀ e, b[m]? = some e → P e) : ∀ m, m < n + k → ∀ e, (a ++ b)[m]? = some e → P e := by
  intro m hm e he
  by_cases h : m < a.length
  · rw [List.getElem?_append_left h] at he
    exact ha e (List.mem_of_getElem? he)
  · rw [List.getElem?_append_right (by omega)] at he
    exact hb _ (by omega) e he
set_option maxRecDepth 100000 in
theorem am_m_ok {mid : Nat} (h : mid < 180) : am_mP (am_mi mid) := by
  have key : ∀ m, m < 20 + (20 + (20 + (20 + (20 + (20 + (20 + (20 + (20 + 0)))))))) → ∀ e, am_tab[m]? = some e → am_mP e :=
    am_ch am_tab0_ok rfl (am_ch am_tab1_ok rfl (am_ch am_tab2_ok rfl (am_ch am_tab3_ok rfl (am_ch am_tab4_ok rfl (am_ch am_tab5_ok rfl (am_ch am_tab6_ok rfl (am_ch am_tab7_ok rfl (am_ch am_tab8_ok rfl (fun m hm => absurd hm (Nat.not_lt_zero m))))))))))
  have hl : mid < am_tab.length := Nat.lt_of_lt_of_eq (Nat.lt_trans h (by decide : 180 < 181)) (by decide +kernel : 181 = am_tab.length)
  have e1 : am_tab[mid]? = some am_tab[mid] := List.getElem?_eq_getElem hl
  have e2 : am_mi mid = am_tab[mid] := by
    unfold am_mi
    rw [List.getD_eq_getElem?_getD, e1]
    rfl
  rw [e2]
  exact key mid h _ e1
abbrev am_E : Type := va_G × (Nat → ClassId) × Heap × (Nat → Value)
abbrev am_b (E : am_E) : Nat := E.2.2.1.size
def am_phi (E : am_E) : Value → Value := am_v E.2.2.1.size E.2.2.2
def am_e (E : am_E) (c : am_C) : va_E := match c with
  | .inl (t, n, f) => .inl (E.2.1 t, n, .inl f)
  | .inr (.inl (t, n, f)) => .inl (E.2.1 (2 + t), n, .inr (.inr (.inr (.inr (fun j => (f j).map (fun y => E.2.2.1.size + y))))))
  | .inr (.inr (ci, fs)) => .inr (ci, fs.map (am_phi E))
def am_A (E : am_E) : Nat → Prop := fun q => E.2.2.1.size ≤ q
def am_tys (E : am_E) : List (ClassId × FieldType) := [(E.2.1 0, .int), (E.2.1 1, .byte), (E.2.1 2, .object RX3), (E.2.1 3, .object RX6), (E.2.1 4, .object RX2), (E.2.1 5, .object RX1)]
def am_ok1 (h : am_H) (c : am_C) : Prop := match c with
  | .inl (t, n, f) => t = 1 → ∀ j : Nat, j < n → fits .byte (.int (f j)) = true
  | .inr (.inl (t, n, f)) => ∀ j : Nat, j < n → ∀ y : Nat, f j = some y → am_isC h y (am_rc t) = true
  | .inr (.inr _) => True
def am_OK (h : am_H) : Prop := ∀ (i : Nat) (c : am_C), h[i]? = some c → am_ok1 h c
def am_Rl (E : am_E) (h : am_H) (H : Heap) : Prop :=
  H.size = am_b E + h.length ∧ (∀ (i : Nat) (c : am_C), h[i]? = some c → va_at E.1 am_CL (am_b E + i, am_e E c) H) ∧ (∀ q : Nat, q < am_b E → H[q]? = E.2.2.1[q]?) ∧ am_OK h
def am_csz (c : am_C) : Nat := match c with
  | .inl (_, n, _) => n
  | .inr (.inl (_, n, _)) => n
  | .inr (.inr (_, fs)) => fs.length
def am_slots (h : am_H) : Nat := (h.map am_csz).sum
theorem am_isC_iff {h : am_H} {r c : Nat} : am_isC h r c = true ↔ ∃ fs, h[r]? = some (.inr (.inr (c, fs))) := by
  unfold am_isC
  constructor
  · intro q
    split at q
    next c' fs e => exact ⟨fs, by rw [e, of_decide_eq_true q]⟩
    next => cases q
  · rintro ⟨fs, e⟩
    rw [e]
    simp
theorem am_slots_app (h : am_H) (c : am_C) : am_slots (h ++ [c]) = am_slots h + am_csz c := by simp [am_slots]
theorem am_slots_set {h : am_H} {a : Nat} {c0 c : am_C} (e : h[a]? = some c0) (hs : am_csz c = am_csz c0) : am_slots (h.set a c) = am_slots h := by
  unfold am_slots
  rw [List.map_set, hs]
  congr 1
  apply List.ext_getElem?
  intro i
  by_cases hi : i = a
  · subst hi
    have hl := (List.getElem?_eq_some_iff.mp e).1
    rw [List.getElem?_set_self (by rw [List.length_map]; exact hl), List.getElem?_map, e]
    rfl
  · rw [List.getElem?_set_ne (Ne.symm hi)]
theorem am_Rl.one {E : am_E} {h : am_H} {H : Heap} (hR : am_Rl E h H) {a : Nat} {c : am_C} (e : h[a]? = some c) : va_P E.1 am_CL [(am_b E + a, am_e E c)] H := by
  intro k q hk
  have hz : k < 1 := (List.getElem?_eq_some_iff.mp hk).1
  rw [show k = 0 by omega] at hk
  cases hk
  exact hR.2.1 a c e
theorem am_Rl.set {E : am_E} {h : am_H} {H H1 : Heap} (hR : am_Rl E h H) {a : Nat} {c0 c : am_C} (e : h[a]? = some c0) (hz : H1.size = H.size) (hc : va_at E.1 am_CL (am_b E + a, am_e E c) H1) (ho : ∀ q : Nat, q ≠ am_b E + a → H1[q]? = H[q]?) (hok : am_OK (h.set a c)) : am_Rl E (h.set a c) H1 := by
  have hl := (List.getElem?_eq_some_iff.mp e).1
  refine ⟨by rw [hz, List.length_set]; exact hR.1, fun i c' hi => ?_, fun q hq => ?_, hok⟩
  · by_cases hia : i = a
    · subst hia
      rw [List.getElem?_set_self hl] at hi
      cases hi
      exact hc
    · rw [List.getElem?_set_ne (Ne.symm hia)] at hi
      exact (hR.2.1 i c' hi).kept (ho _ (fun q => hia (by omega)))
  · rw [ho q (by omega)]
    exact hR.2.2.1 q hq
theorem am_Rl.push {E : am_E} {h : am_H} {H H1 : Heap} (hR : am_Rl E h H) {c : am_C} (hz : H1.size = H.size + 1) (hc : va_at E.1 am_CL (H.size, am_e E c) H1) (ho : ∀ q : Nat, q < H.size → H1[q]? = H[q]?) (hok : am_OK (h ++ [c])) : am_Rl E (h ++ [c]) H1 := by
  refine ⟨by rw [hz, hR.1, List.length_append]; rfl, fun i c' hi => ?_, fun q hq => ?_, hok⟩
  · by_cases hl : i < h.length
    · rw [List.getElem?_append_left hl] at hi
      exact (hR.2.1 i c' hi).kept (ho _ (by show am_b E + i < H.size; rw [hR.1]; omega))
    · rw [List.getElem?_append_right (by omega)] at hi
      have hz1 : i - h.length < 1 := (List.getElem?_eq_some_iff.mp hi).1
      have hz2 : i = h.length := by omega
      subst hz2
      rw [Nat.sub_self] at hi
      cases hi
      rw [← hR.1]
      exact hc
  · rw [ho q (by rw [hR.1]; omega)]
    exact hR.2.2.1 q hq
theorem am_Rl.S {E : am_E} {h : am_H} {H : Heap} {locs : List Loc} (hR : am_Rl E h H) (hl : ∀ x ∈ locs, am_b E ≤ x.base) : va_S (am_A E) E.2.2.1 H locs :=
  ⟨by rw [hR.1]; exact Nat.le_add_right _ _, fun q hq _ => hR.2.2.1 q hq, hl⟩
/-- a set that keeps each cell's class keeps 'is of the class' -/
theorem am_isC_set {h : am_H} {a : Nat} {c0 c : am_C} (e : h[a]? = some c0) (hs : ∀ k fs, c0 = .inr (.inr (k, fs)) → ∃ fs', c = .inr (.inr (k, fs'))) {r k : Nat} (q : am_isC h r k = true) : am_isC (h.set a c) r k = true := by
  obtain ⟨fs, h1⟩ := am_isC_iff.mp q
  refine am_isC_iff.mpr ?_
  by_cases hr : r = a
  · subst hr
    cases e.symm.trans h1
    obtain ⟨fs', rfl⟩ := hs _ _ rfl
    exact ⟨fs', List.getElem?_set_self (List.getElem?_eq_some_iff.mp e).1⟩
  · exact ⟨fs, by rw [List.getElem?_set_ne (Ne.symm hr)]; exact h1⟩
theorem am_isC_app {h : am_H} {c : am_C} {r k : Nat} (q : am_isC h r k = true) : am_isC (h ++ [c]) r k = true := by
  obtain ⟨fs, h1⟩ := am_isC_iff.mp q
  exact am_isC_iff.mpr ⟨fs, by rw [List.getElem?_append_left (List.getElem?_eq_some_iff.mp h1).1]; exact h1⟩
theorem am_ok1.mono {h h' : am_H} (hm : ∀ r k, am_isC h r k = true → am_isC h' r k = true) {c : am_C} (q : am_ok1 h c) : am_ok1 h' c := by
  match c, q with
  | .inl (t, n, f), q => exact q
  | .inr (.inl (t, n, f)), q => exact fun j hj y hy => hm _ _ (q j hj y hy)
  | .inr (.inr _), _ => exact trivial
theorem am_OK.set {h : am_H} (hO : am_OK h) {a : Nat} {c0 c : am_C} (e : h[a]? = some c0) (hs : ∀ k fs, c0 = .inr (.inr (k, fs)) → ∃ fs', c = .inr (.inr (k, fs'))) (hc : am_ok1 h c) : am_OK (h.set a c) := by
  intro i c' hi
  by_cases hia : i = a
  · subst hia
    rw [List.getElem?_set_self (List.getElem?_eq_some_iff.mp e).1] at hi
    cases hi
    exact hc.mono (fun r k => am_isC_set e hs)
  · rw [List.getElem?_set_ne (Ne.symm hia)] at hi
    exact (hO i c' hi).mono (fun r k => am_isC_set e hs)
theorem am_OK.push {h : am_H} (hO : am_OK h) {c : am_C} (hc : am_ok1 h c) : am_OK (h ++ [c]) := by
  intro i c' hi
  by_cases hl : i < h.length
  · rw [List.getElem?_append_left hl] at hi
    exact (hO i c' hi).mono (fun r k => am_isC_app)
  · rw [List.getElem?_append_right (by omega)] at hi
    have hz1 : i - h.length < 1 := (List.getElem?_eq_some_iff.mp hi).1
    rw [show i - h.length = 0 by omega] at hi
    cases hi
    exact hc.mono (fun r k => am_isC_app)
/-- the tables, the constants, the script, as a state U and the first heap have them -/
def am_G (E : am_E) (S : am_S) (U : State) : Prop :=
  va_K E.1 am_CL (am_tys E) U ∧ (∀ w ∈ am_NW, va_Nw w U) ∧ (∀ w ∈ am_XW, w.before #[] U = true) ∧ (va_AO RX3 U ∧ va_AO RX6 U ∧ va_AO RX2 U ∧ va_AO RX1 U) ∧
  (∀ e ∈ am_statL, va_Z e.2.2.2.1 e.2.2.2.2.1 e.2.2.2.2.2.1 (am_phi E e.2.2.1) (am_A E) U E.2.2.1) ∧
  ((∃ a, E.2.2.2 1 = .ref a ∧ vk_R RX2 35 " xaAp" a U) ∧ (∃ a, E.2.2.2 2 = .ref a ∧ vk_R RX2 46 "" a U) ∧ (∃ a, E.2.2.2 3 = .ref a ∧ vk_R RX2 48 "," a U)) ∧
  (∀ r : Nat, 1 ≤ r → r ≤ 3 → ∃ a v, E.2.2.2 r = .ref a ∧ E.2.2.2 (r + 5) = .ref v ∧ va_O "java/lang/String" a (am_A E) U E.2.2.1 ∧ va_OF "java/lang/String" "coder" "B" (.int 0) a (am_A E) U E.2.2.1 ∧ va_OF "java/lang/String" "value" "[B" (.ref v) a (am_A E) U E.2.2.1) ∧
  (∀ (k n : Nat) (f : Nat → Int32), am_cst k = some (n, f) → ∃ a, E.2.2.2 k = .ref a ∧ va_T .byte a n (fun j => .int (f j)) (am_A E) U E.2.2.1) ∧
  (∃ a, E.2.2.2 0 = .ref a ∧ a < E.2.2.1.size ∧ va_X a S.1 S.2 U E.2.2.1) ∧
  (∀ k, (10 ≤ k ∧ E.2.2.2 k = .null) ∨ ∃ a, E.2.2.2 k = .ref a) ∧ U.vm.findClass "[I" = some (E.2.1 0) ∧ U.vm.findClass "[B" = some (E.2.1 1)
def am_isN (w : Cond) : Bool := match w with
  | .fieldLinkNest .. => true
  | .methodLinkNest .. => true
  | .castable .. => true
  | _ => false
theorem am_NW_ok : ∀ w ∈ am_NW, am_isN w = true := by
  have h : am_NW.all am_isN = true := by decide +kernel
  exact List.all_eq_true.mp h
theorem am_XW_ok : ∀ w ∈ am_XW, goodWord w = true := by
  have h : am_XW.all goodWord = true := by decide +kernel
  exact List.all_eq_true.mp h
theorem am_Nw_warm {w : Cond} (hw : am_isN w = true) {s U : State} (hW : s.WarmedH U.vm) (h : va_Nw w s) : va_Nw w U := by
  cases w <;> first | (cases hw; done) | exact va_Nw.warmF hW h | exact va_Nw.warmM hW h | exact va_Nw.warmC hW h
theorem am_good_warm {w : Cond} (hg : goodWord w = true) {s U : State} {a a' : Array Value} (hW : s.WarmedH U.vm) (h : w.before a s = true) : w.before a' U = true := by
  have h1 : GoodIn [w] [w] := fun x hx => ⟨hx, by rw [List.mem_singleton.mp hx]; exact good_of_word hg⟩
  exact pay_in (big := [w]) (args := a) (s := s) (fun x hx => by rw [List.mem_singleton.mp hx]; exact h) h1 w List.mem_cons_self a' U hW
theorem am_G.moved {E : am_E} {S : am_S} {s U : State} (hW : s.WarmedH U.vm) (h : am_G E S s) : am_G E S U := by
  obtain ⟨h1, h2, h3, h4, h5, h6, h7, h8, h9, h10, h11, h12⟩ := h
  have hv := hW.alike
  refine ⟨va_K.moved hv h1, fun w hw => am_Nw_warm (am_NW_ok w hw) hW (h2 w hw), fun w hw => am_good_warm (am_XW_ok w hw) hW (h3 w hw), ⟨h4.1.moved hv, h4.2.1.moved hv, h4.2.2.1.moved hv, h4.2.2.2.moved hv⟩, fun e he => va_Z.moved hv (h5 e he), ?_, ?_, ?_, ?_, h10, by rw [hv.findClass]; exact h11, by rw [hv.findClass]; exact h12⟩
  · obtain ⟨⟨a, e1, q1⟩, ⟨b, e2, q2⟩, ⟨c, e3, q3⟩⟩ := h6
    exact ⟨⟨a, e1, q1.warm hW⟩, ⟨b, e2, q2.warm hW⟩, ⟨c, e3, q3.warm hW⟩⟩
  · intro r hr1 hr2
    obtain ⟨a, v, e1, e2, q1, q2, q3⟩ := h7 r hr1 hr2
    exact ⟨a, v, e1, e2, va_O.moved hv q1, va_OF.moved hv q2, va_OF.moved hv q3⟩
  · intro k n f hk
    obtain ⟨a, e1, q1⟩ := h8 k n f hk
    exact ⟨a, e1, va_T.moved hv q1⟩
  · obtain ⟨a, e1, e2, q1⟩ := h9
    exact ⟨a, e1, e2, va_X.moved hv q1⟩
