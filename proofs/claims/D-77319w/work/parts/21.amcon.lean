/-! what soundness says of a configuration; a method's contract out of it -/
def am_End (S : am_S) (E : am_E) (p : Program) (l : Launch) (e : Env) (R : Room) (s : State) (m : MethodId) (args : Array Value) (below : List Frame) (meth : Method) (cd : Code) (cells slots : Nat) (Q : State → Prop) (mid : Nat) (h : am_H) (o : am_Out) : Prop :=
  ∀ (H2 : Heap) (locs2 : List Loc) (cells2 slots2 : Nat) (ls2 : Array Slot) (pc2 : Nat), am_Rl E o.2 H2 → (∀ x ∈ locs2, am_b E ≤ x.base) → s.heap.size ≤ H2.size → cells2 + h.length = cells + o.2.length → slots2 + am_slots h = slots + am_slots o.2 →
    (∀ v i st2, o.1 = .inl v → decode (am_code mid) pc2 = .ok (i, 1) → am_retOK mid i st2 v → W p l e R s m args below meth cd H2 locs2 cells2 slots2 Q (F0 m pc2 ls2 (st2.map (am_phi E)))) ∧
    (∀ a rest2, o.1 = .inr a → am_hnd mid pc2 = none → vx_W p l e R s m args below meth cd H2 locs2 cells2 slots2 Q (F0 m pc2 ls2 rest2) (am_b E + a))
def am_SndW (S : am_S) (d mid pc : Nat) (ls : am_L) (st : List Value) (h : am_H) (o : am_Out) : Prop :=
  ∀ (E : am_E) (p : Program) (l : Launch) (e : Env) (R : Room) (s : State) (m : MethodId) (args : Array Value) (below : List Frame) (meth : Method) (cd : Code) (H : Heap) (locs : List Loc) (cells slots : Nat) (Q : State → Prop) (ls1 : Array Slot),
    am_Ctx E S p s m args meth cd mid → d ≤ R.frames → 50 * d ≤ R.locals → am_Rl E h H → am_LR (am_phi E) (am_lsl mid) ls1 (am_maxL mid) ls → (∀ x ∈ locs, am_b E ≤ x.base) → s.heap.size ≤ H.size → cells + o.2.length ≤ R.cells + h.length → slots + am_slots o.2 ≤ R.slots + am_slots h →
    am_End S E p l e R s m args below meth cd cells slots Q mid h o →
    W p l e R s m args below meth cd H locs cells slots Q (F0 m pc ls1 (st.map (am_phi E)))
def am_Snd (S : am_S) (c : am_Cfg) (o : am_Out) : Prop :=
  c.2.2.2.2.2.length ≤ o.2.length ∧ am_slots c.2.2.2.2.2 ≤ am_slots o.2 ∧ (∀ a, o.1 = .inr a → am_isC o.2 a 7 = true) ∧ am_SndW S c.1 c.2.1 c.2.2.1 c.2.2.2.1 c.2.2.2.2.1 c.2.2.2.2.2 o
def am_Pc (E : am_E) (S : am_S) (h : am_H) (as : List Value) : Array Value → State → Prop := fun a U => a = (as.map (am_phi E)).toArray ∧ am_G E S U ∧ am_Rl E h U.heap
def am_Qc (E : am_E) (v : Option Value) (h1 : am_H) : Array Value → State → Outcome → State → Prop := fun _ _ o t => o = .returned (v.map (am_phi E)) ∧ am_Rl E h1 t.heap
def am_rm (d : Nat) (h h1 : am_H) : Room := { frames := d, cells := h1.length - h.length, slots := am_slots h1 - am_slots h, locals := 50 * d }
abbrev am_ws (cm : Nat) : List Cond := ws_ (am_y cm) (am_code cm) (am_maxL cm) (am_ret cm)
abbrev am_wsW (cm : Nat) : List Cond := wsW_ (am_y cm) (am_code cm) (am_maxL cm) (am_ret cm) (am_hh cm)
theorem am_sl_phi {E : am_E} (hcv : ∀ k, (10 ≤ k ∧ E.2.2.2 k = .null) ∨ ∃ a, E.2.2.2 k = .ref a) : ∀ (as : List Value), (lg_sl (as.map (am_phi E))).length = (am_sl as).length
  | [] => rfl
  | v :: as => by
    have ih := am_sl_phi hcv as
    unfold lg_sl am_sl at ih ⊢
    simp only [List.map_cons, List.flatMap_cons, List.length_append]
    rw [ih, am_cat_phi hcv]
    by_cases h : v.category = 2
    · rw [if_pos h, if_pos h]; rfl
    · rw [if_neg h, if_neg h]; rfl
/-- where the arguments stand among the locals -/
theorem am_sl_at {E : am_E} (hcv : ∀ k, (10 ≤ k ∧ E.2.2.2 k = .null) ∨ ∃ a, E.2.2.2 k = .ref a) : ∀ (as : List Value) (i j : Nat) (w : Value), (am_sl as)[j]? = some (some w) → (i + j, am_phi E w) ∈ lv_args i (as.map (am_phi E))
  | [], i, j, w, h => by simp [am_sl] at h
  | v :: as, i, j, w, h => by
    have hs : am_sl (v :: as) = (if v.category = 2 then [some v, none] else [some v]) ++ am_sl as := by simp [am_sl]
    rw [hs] at h
    simp only [List.map_cons, lv_args]
    rw [am_cat_phi hcv]
    by_cases hc : v.category = 2
    · rw [if_pos hc] at h ⊢
      match j, h with
      | 0, h => cases h; exact List.mem_cons_self
      | 1, h => cases h
      | j + 2, h =>
        have h9 : (am_sl as)[j]? = some (some w) := by simpa using h
        have h8 := am_sl_at hcv as (i + 2) j w h9
        rw [show i + (j + 2) = i + 2 + j by omega]
        exact List.mem_cons_of_mem _ h8
    · rw [if_neg hc] at h ⊢
      match j, h with
      | 0, h => cases h; exact List.mem_cons_self
      | j + 1, h =>
        have h9 : (am_sl as)[j]? = some (some w) := by simpa using h
        have h8 := am_sl_at hcv as (i + 1) j w h9
        rw [show i + (j + 1) = i + 1 + j by omega]
        exact List.mem_cons_of_mem _ h8
theorem am_ent_LR {E : am_E} (hcv : ∀ k, (10 ≤ k ∧ E.2.2.2 k = .null) ∨ ∃ a, E.2.2.2 k = .ref a) {as : List Value} {nL : Nat} {lsl : List Nat} (hl : (am_sl as).length ≤ nL) (h2 : ∀ (j : Nat) (x : Int64), (am_sl as)[j]? = some (some (.long x)) → j ∈ lsl) (h1 : ∀ v ∈ as, am_one v = true ∨ ∃ x, v = .long x) :
    am_LR (am_phi E) lsl ((lg_sl (as.map (am_phi E)) ++ List.replicate (nL - (lg_sl (as.map (am_phi E))).length) Slot.unset).toArray) nL (am_ent nL as) := by
  have hh := lv_entry (as.map (am_phi E)) (n := nL) (by rw [am_sl_phi hcv]; exact hl)
  have key : ∀ (j : Nat) (w : Value), (am_ent nL as)[j]? = some (some w) → (am_sl as)[j]? = some (some w) := by
    intro j w hj
    unfold am_ent at hj
    by_cases hjl : j < (am_sl as).length
    · rw [List.getElem?_append_left hjl] at hj
      exact hj
    · rw [List.getElem?_append_right (by omega), List.getElem?_replicate] at hj
      split at hj
      · cases hj
      · cases hj
  have mem : ∀ (j : Nat) (w : Value), (am_sl as)[j]? = some (some w) → w ∈ as := by
    intro j w hj
    have := List.mem_of_getElem? hj
    unfold am_sl at this
    obtain ⟨v, hv, hv2⟩ := List.mem_flatMap.mp this
    split at hv2
    · simp at hv2; rw [hv2]; exact hv
    · simp at hv2; rw [hv2]; exact hv
  refine ⟨hh.1, by unfold am_ent; rw [List.length_append, List.length_replicate]; omega, hh.2.1, fun j w hj => ?_, fun j w hj hw => ?_⟩
  · have := am_sl_at hcv as 0 j w (key j w hj)
    rw [Nat.zero_add] at this
    exact hh.2.2 _ this
  · rcases h1 w (mem j w (key j w hj)) with h | ⟨x, rfl⟩
    · rw [am_cat_phi hcv] at hw
      cases w <;> first | (cases hw; done) | (cases h; done)
    · exact h2 j x (key j _ hj)
section AMC
variable {l : Launch} {S : am_S} {E : am_E} {d cm : Nat} {h h1 : am_H} {as : List Value} {v : Option Value}
/-- the end of a body that returns -/
theorem am_end_ret {p : Program} {e : Env} {R : Room} {s : State} {m : MethodId} {args : Array Value} {below : List Frame} {meth : Method} {cd : Code} (C : am_Ctx E S p s m args meth cd cm) (hg : h.length ≤ h1.length) (hgs : am_slots h ≤ am_slots h1) :
    am_End S E p l e R s m args below meth cd 0 0 (MQ below (am_Qc E v h1) args s (h1.length - h.length) (am_slots h1 - am_slots h) (am_A E)) cm h (.inl v, h1) := by
  obtain ⟨hx, hb, hml, hr, hlk, -, hown, hts, -, hG, hsh, hbs⟩ := C
  intro H2 locs2 cells2 slots2 ls2 pc2 hR2 hl2 hz2 hc2 hs2
  have hc2 : cells2 + h.length = 0 + h1.length := hc2
  have hs2 : slots2 + am_slots h = 0 + am_slots h1 := hs2
  have e1 : h1.length - h.length = cells2 := by omega
  have e2 : am_slots h1 - am_slots h = slots2 := by omega
  rw [e1, e2]
  refine ⟨fun v' i st2 hv hd hret => ?_, fun a rest2 hv _ => by cases hv⟩
  cases hv
  have hq : ∀ (w : Option Value), v.map (am_phi E) = w → ∀ t : State, t.heap = H2 → s.WarmedH t.vm → am_Qc E v h1 args s (.returned w) t := by
    intro w hw t ht _
    exact ⟨by rw [hw], by rw [ht]; exact hR2⟩
  cases i with
  | ireturn =>
    obtain ⟨x, ty, rfl, hrt, hn, rfl⟩ := hret
    exact W.zret hx hb (hr.trans hrt) hn (hq _ rfl) hl2 hd
  | lreturn =>
    obtain ⟨x, rfl, hrt, rfl⟩ := hret
    exact W.lret hx hb (hr.trans hrt) (hq _ rfl) hl2 hd
  | areturn =>
    obtain ⟨w, rfl, hw, ⟨rt, hrt, hrt2⟩, rfl⟩ := hret
    refine W.aret hx hb (hr.trans hrt) hrt2 ?_ (hq _ rfl) hl2 hd
    rcases hw with rfl | ⟨a, rfl⟩
    · exact Or.inl rfl
    · exact Or.inr ⟨_, rfl⟩
  | return_ =>
    obtain ⟨rfl, hrt, rfl⟩ := hret
    exact W.vret hx hb (hr.trans hrt) (hq _ rfl) hl2 hd
  | _ => exact hret.elim
theorem am_blind : FrameBlind (am_Pc E S h as) := fun a U g mk q => ⟨q.1, am_G.moved (s := U) (U := U.calling g mk a) (State.WarmedH.refl U) q.2.1, q.2.2⟩
set_option maxHeartbeats 1000000 in
theorem am_met (hcm : cm < 180) (hhh : am_hh cm = []) (hsnd : am_Snd S (d, cm, 0, am_ent (am_maxL cm) as, [], h) (.inl v, h1)) (hsl : (am_sl as).length ≤ am_maxL cm) (has : ∀ v ∈ as, am_one v = true ∨ ∃ x, v = .long x) (hlong : ∀ (j : Nat) (x : Int64), (am_sl as)[j]? = some (some (.long x)) → j ∈ am_lsl cm) :
    Met l (am_y cm) (am_ws cm) (am_rm d h h1) (am_Pc E S h as) (am_Qc E v h1) (h1.length - h.length) (am_slots h1 - am_slots h) (am_A E) := by
  obtain ⟨hg, hgs, -, hW⟩ := hsnd
  have hg : h.length ≤ h1.length := hg
  have hgs : am_slots h ≤ am_slots h1 := hgs
  obtain ⟨-, -, -, hpl, hcn, -, -, -⟩ := am_m_ok hcm
  refine Met.ofW (cc := am_code cm) (maxL := am_maxL cm) (ret := am_ret cm) hpl rfl ?_
  intro p e s m args below meth c s₁ B hml hv
  obtain ⟨rfl, hG, hR⟩ := hv
  have hts0 := atoms_spec (ws := am_ws cm) B.pre
  have hcv := hG.2.2.2.2.2.2.2.2.2.1
  have C : am_Ctx E S p s m (as.map (am_phi E)).toArray meth c cm := ⟨B.exec, B.bytes, hml, B.returns, B.notSynchronized, fun q => (name_of_methodNamed B.named B.method).1.trans q, by rw [show am_cn (am_cls cm) = (am_y cm).cls from hcn]; exact findClass_of_methodNamed B.named, fun w hw => hts0 w (List.mem_cons_of_mem _ hw), fun q => absurd hhh q, hG, hR.2.2.1, by rw [hR.1]; exact Nat.le_add_right _ _⟩
  rw [lg_entry_eq]
  refine hW E p l e _ s m _ below meth c s.heap [] 0 0 _ _ C (Nat.le_refl _) (Nat.le_refl _) hR (am_ent_LR hcv hsl hlong has) (fun x hx => by cases hx) (Nat.le_refl _) ?_ ?_ (am_end_ret C hg hgs)
  · show 0 + h1.length ≤ (h1.length - h.length) + h.length; omega
  · show 0 + am_slots h1 ≤ (am_slots h1 - am_slots h) + am_slots h; omega
set_option maxHeartbeats 1000000 in
theorem am_metW (hcm : cm < 180) (hsnd : am_Snd S (d, cm, 0, am_ent (am_maxL cm) as, [], h) (.inl v, h1)) (hsl : (am_sl as).length ≤ am_maxL cm) (has : ∀ v ∈ as, am_one v = true ∨ ∃ x, v = .long x) (hlong : ∀ (j : Nat) (x : Int64), (am_sl as)[j]? = some (some (.long x)) → j ∈ am_lsl cm) :
    Met l (am_y cm) (am_wsW cm) (am_rm d h h1) (am_Pc E S h as) (am_Qc E v h1) (h1.length - h.length) (am_slots h1 - am_slots h) (am_A E) := by
  obtain ⟨hg, hgs, -, hW⟩ := hsnd
  have hg : h.length ≤ h1.length := hg
  have hgs : am_slots h ≤ am_slots h1 := hgs
  obtain ⟨-, -, -, hpl, hcn, -, -, -⟩ := am_m_ok hcm
  refine va_MetW (cc := am_code cm) (maxL := am_maxL cm) (ret := am_ret cm) (hh := am_hh cm) hpl rfl ?_
  intro p e s m args below meth c s₁ B hml hv
  obtain ⟨rfl, hG, hR⟩ := hv
  have hts0 := atoms_spec (ws := am_wsW cm) B.pre
  have hcv := hG.2.2.2.2.2.2.2.2.2.1
  have C : am_Ctx E S p s m (as.map (am_phi E)).toArray meth c cm := ⟨B.exec, B.bytes, hml, B.returns, B.notSynchronized, fun q => (name_of_methodNamed B.named B.method).1.trans q, by rw [show am_cn (am_cls cm) = (am_y cm).cls from hcn]; exact findClass_of_methodNamed B.named, fun w hw => hts0 w (List.mem_cons_of_mem _ hw), fun _ => vx_table (x := am_y cm) B (hts0 _ List.mem_cons_self), hG, hR.2.2.1, by rw [hR.1]; exact Nat.le_add_right _ _⟩
  rw [lg_entry_eq]
  refine hW E p l e _ s m _ below meth c s.heap [] 0 0 _ _ C (Nat.le_refl _) (Nat.le_refl _) hR (am_ent_LR hcv hsl hlong has) (fun x hx => by cases hx) (Nat.le_refl _) ?_ ?_ (am_end_ret C hg hgs)
  · show 0 + h1.length ≤ (h1.length - h.length) + h.length; omega
  · show 0 + am_slots h1 ≤ (am_slots h1 - am_slots h) + am_slots h; omega
end AMC
