/-! every heap instruction is sound -/
section AMH5
variable {p : Program} {l : Launch} {e : Env} {R : Room} {s : State} {m : MethodId} {args : Array Value} {below : List Frame} {meth : Method} {c : Code} {H : Heap} {locs : List Loc} {cells slots : Nat} {Q : State → Prop}
variable {E : am_E} {S : am_S} {mid d pc len : Nat} {h h' : am_H} {st st' : List Value} {ls1 : Array Slot}
/-- no heap instruction takes cells away -/
theorem am_heap_grow {i : Instr} (hh : am_heap S mid d i st h = some (st', h')) : h.length ≤ h'.length ∧ am_slots h ≤ am_slots h' := by
  have rf : ∀ {h h' : am_H}, h' = h → h.length ≤ h'.length ∧ am_slots h ≤ am_slots h' := by
    rintro h h' rfl
    exact ⟨Nat.le_refl _, Nat.le_refl _⟩
  have ap : ∀ {h h' : am_H} {c : am_C}, h' = h ++ [c] → h.length ≤ h'.length ∧ am_slots h ≤ am_slots h' := by
    rintro h h' c rfl
    exact ⟨by simp, by rw [am_slots_app]; exact Nat.le_add_right _ _⟩
  have sset : ∀ {h h' : am_H} {c0 c : am_C} {a : Nat}, h[a]? = some c0 → h' = h.set a c → am_csz c = am_csz c0 → h.length ≤ h'.length ∧ am_slots h ≤ am_slots h' := by
    rintro h h' c0 c a h1 rfl h2
    exact ⟨by simp, by rw [am_slots_set h1 h2]; exact Nat.le_refl _⟩
  cases i with
  | getfield idx =>
    simp only [am_heap, am_gf] at hh
    split at hh
    · split at hh
      · split at hh
        · split at hh
          · cases hh; exact rf rfl
          · cases hh
        · cases hh
      · cases hh
    · split at hh
      · cases hh; exact rf rfl
      · cases hh
    · cases hh
  | putfield idx =>
    simp only [am_heap, am_pf] at hh
    split at hh
    · split at hh
      next ha =>
        split at hh
        · cases hh; exact sset ha rfl (by simp [am_csz])
        · cases hh
      next => cases hh
    · cases hh
  | iaload =>
    simp only [am_heap, am_iald] at hh
    split at hh
    · split at hh
      · split at hh
        · cases hh; exact rf rfl
        · cases hh
      · cases hh
    · split at hh
      · cases hh; exact rf rfl
      · cases hh
    · cases hh
  | baload =>
    simp only [am_heap, am_bald] at hh
    split at hh
    · split at hh
      · split at hh
        · cases hh; exact rf rfl
        · cases hh
      · cases hh
    · split at hh
      · split at hh
        · cases hh; exact rf rfl
        · cases hh
      · cases hh
    · cases hh
  | iastore =>
    simp only [am_heap, am_iast] at hh
    split at hh
    · split at hh
      next ha =>
        split at hh
        · cases hh; exact sset ha rfl rfl
        · cases hh
      next => cases hh
    · cases hh
  | bastore =>
    simp only [am_heap, am_bast] at hh
    split at hh
    · split at hh
      next ha =>
        split at hh
        · cases hh; exact sset ha rfl rfl
        · cases hh
      next => cases hh
    · cases hh
  | aaload =>
    simp only [am_heap, am_aald] at hh
    split at hh
    · split at hh
      · split at hh
        · cases hh; exact rf rfl
        · cases hh
      · cases hh
    · cases hh
  | aastore =>
    simp only [am_heap, am_aast] at hh
    split at hh
    · split at hh
      next ha =>
        split at hh
        · cases hh; exact sset ha rfl rfl
        · cases hh
      next => cases hh
    · split at hh
      next ha =>
        split at hh
        · cases hh; exact sset ha rfl rfl
        · cases hh
      next => cases hh
    · cases hh
  | arraylength =>
    simp only [am_heap, am_alen] at hh
    split at hh
    · split at hh
      · split at hh
        · cases hh; exact rf rfl
        · cases hh
      · split at hh
        · cases hh; exact rf rfl
        · cases hh
      · cases hh
    · split at hh
      · cases hh; exact rf rfl
      · split at hh
        · cases hh; exact rf rfl
        · cases hh
    · cases hh
  | new idx =>
    simp only [am_heap, am_new] at hh
    split at hh
    · cases hh; exact ap rfl
    · cases hh
  | newarray t =>
    cases t <;> simp only [am_heap, am_newa] at hh <;> first | (cases hh; done) | skip
    all_goals
      split at hh
      · split at hh
        · cases hh; exact ap rfl
        · cases hh
      · cases hh
  | anewarray idx =>
    simp only [am_heap, am_anew] at hh
    split at hh
    · split at hh
      · cases hh; exact ap rfl
      · cases hh
    · cases hh
  | checkcast idx =>
    simp only [am_heap, am_cast] at hh
    split at hh
    · split at hh
      · split at hh
        · cases hh; exact rf rfl
        · cases hh
      · cases hh
    · cases hh
  | getstatic idx =>
    simp only [am_heap] at hh
    cases hv : (am_stat (am_cls mid) idx).map (fun q => q.1) with
    | none => rw [hv] at hh; cases hh
    | some v => rw [hv] at hh; cases hh; exact rf rfl
  | ldc idx =>
    simp only [am_heap] at hh
    cases hv : am_lk am_ldcL (am_cls mid) idx with
    | none => rw [hv] at hh; cases hh
    | some v => rw [hv] at hh; cases hh; exact rf rfl
  | ldc2_w idx =>
    simp only [am_heap] at hh
    cases hv : (am_lk am_ldc2L (am_cls mid) idx).map (fun x => Value.long x) with
    | none => rw [hv] at hh; cases hh
    | some v => rw [hv] at hh; cases hh; exact rf rfl
  | invokespecial idx =>
    simp only [am_heap] at hh
    split at hh
    · cases hh
    · split at hh
      · unfold am_objI at hh
        split at hh
        · split at hh
          · cases hh; exact rf rfl
          · cases hh
        · cases hh
      · cases hh
  | invokestatic idx =>
    simp only [am_heap] at hh
    split at hh
    · cases hh
    · split at hh
      · unfold am_copy at hh
        split at hh
        · split at hh
          next ha0 ha =>
            split at hh
            · cases hh; exact sset ha rfl rfl
            · cases hh
          next ha0 ha =>
            split at hh
            · cases hh; exact sset ha rfl rfl
            · cases hh
          next => cases hh
        · split at hh
          next hk ha =>
            split at hh
            · cases hh; exact sset ha rfl rfl
            · cases hh
          next => cases hh
        · cases hh
      · unfold am_mm at hh
        split at hh
        · split at hh
          · cases hh; exact rf rfl
          · cases hh
        · cases hh
      · unfold am_mm at hh
        split at hh
        · split at hh
          · cases hh; exact rf rfl
          · cases hh
        · cases hh
      · cases hh
  | invokevirtual idx =>
    simp only [am_heap] at hh
    split at hh
    · cases hh
    · split at hh
      · unfold am_clone at hh
        split at hh
        · split at hh
          · split at hh
            · cases hh; exact ap rfl
            · cases hh
          · cases hh
        · cases hh
      · unfold am_clone at hh
        split at hh
        · split at hh
          · split at hh
            · cases hh; exact ap rfl
            · cases hh
          · cases hh
        · cases hh
      · cases hh
  | _ => cases hh
set_option maxHeartbeats 4000000 in
theorem am_heap_W (C : am_Ctx E S p s m args meth c mid) {i : Instr} (hd : decode (am_code mid) pc = .ok (i, len)) (hlen : len = am_len i) (hh : am_heap S mid d i st h = some (st', h')) (hfr : d ≤ R.frames) (hlo : 50 * d ≤ R.locals) (hR : am_Rl E h H) (hlocs : ∀ x ∈ locs, am_b E ≤ x.base) (hsz : s.heap.size ≤ H.size) (hls : ls1.size = am_maxL mid) (hce : cells + h'.length ≤ R.cells + h.length) (hsl : slots + am_slots h' ≤ R.slots + am_slots h)
    (kk : ∀ H1 locs1 cells1 slots1, am_Rl E h' H1 → (∀ x ∈ locs1, am_b E ≤ x.base) → s.heap.size ≤ H1.size → cells1 + h.length = cells + h'.length → slots1 + am_slots h = slots + am_slots h' → W p l e R s m args below meth c H1 locs1 cells1 slots1 Q (F0 m (pc + len) ls1 (st'.map (am_phi E)))) :
    W p l e R s m args below meth c H locs cells slots Q (F0 m pc ls1 (st.map (am_phi E))) := by
  have k0 : h' = h → W p l e R s m args below meth c H locs cells slots Q (F0 m (pc + len) ls1 (st'.map (am_phi E))) := by
    rintro rfl
    exact kk H locs cells slots hR hlocs hsz rfl rfl
  have k1 : ∀ H1 locs1, am_Rl E h' H1 → (∀ x ∈ locs1, am_b E ≤ x.base) → H1.size = H.size → h'.length = h.length → am_slots h' = am_slots h → W p l e R s m args below meth c H1 locs1 cells slots Q (F0 m (pc + len) ls1 (st'.map (am_phi E))) := fun H1 locs1 r l1 z a b => kk H1 locs1 cells slots r l1 (by rw [z]; exact hsz) (by rw [a]) (by rw [b])
  have k2 : ∀ H1 cells1 slots1, am_Rl E h' H1 → H1.size = H.size + 1 → cells1 + h.length = cells + h'.length → slots1 + am_slots h = slots + am_slots h' → W p l e R s m args below meth c H1 locs cells1 slots1 Q (F0 m (pc + len) ls1 (st'.map (am_phi E))) := fun H1 c1 s1 r z a b => kk H1 locs c1 s1 r hlocs (by rw [z]; omega) a b
  cases i with
  | getfield idx => subst hlen; exact am_gf_W C hd hh hR hlocs hsz k0
  | putfield idx => subst hlen; exact am_pf_W C hd hh hR hlocs k1
  | iaload => subst hlen; exact am_iald_W C hd hh hR k0
  | baload => subst hlen; exact am_bald_W C hd hh hR k0
  | iastore => subst hlen; exact am_iast_W C hd hh hR hlocs k1
  | bastore => subst hlen; exact am_bast_W C hd hh hR hlocs k1
  | aaload => subst hlen; exact am_aald_W C hd hh hR k0
  | aastore => subst hlen; exact am_aast_W C hd hh hR hlocs k1
  | arraylength => subst hlen; exact am_alen_W C hd hh hR k0
  | new idx => subst hlen; exact am_new_W C hd hh hR hlocs hce hsl k2
  | newarray t =>
    subst hlen
    cases t <;> first | (cases hh; done) | exact am_newa_W C 0 (Or.inl ⟨rfl, rfl⟩) hd hh hR hlocs hce hsl k2 | exact am_newa_W C 1 (Or.inr ⟨rfl, rfl⟩) hd hh hR hlocs hce hsl k2
  | anewarray idx => subst hlen; exact am_anew_W C hd hh hR hlocs hce hsl k2
  | checkcast idx => subst hlen; exact am_cast_W C hd hh hR k0
  | getstatic idx => subst hlen; exact am_stat_W C hd hh hR hlocs hsz k0
  | ldc idx => subst hlen; exact am_ldc_W C hd hh k0
  | ldc2_w idx => subst hlen; exact am_ldc2_W C hd hh k0
  | invokespecial idx =>
    subst hlen
    simp only [am_heap] at hh
    split at hh
    · cases hh
    next hd0 =>
      split at hh
      next hsp => exact am_objI_W C hsp hd hh hls (by omega) (by omega) k0
      next => cases hh
  | invokestatic idx =>
    subst hlen
    have hg := am_heap_grow hh
    simp only [am_heap] at hh
    split at hh
    · cases hh
    next hd0 =>
      split at hh
      next hsp => exact am_copy_W C hsp hd hh hR hlocs hls (by omega) (by omega) k1
      next hsp => exact am_mm_W C _ (Or.inl ⟨hsp, rfl⟩) hd hh hls (by omega) (by omega) (by omega) (by omega) k0
      next hsp => exact am_mm_W C _ (Or.inr ⟨hsp, rfl⟩) hd hh hls (by omega) (by omega) (by omega) (by omega) k0
      next => cases hh
  | invokevirtual idx =>
    subst hlen
    simp only [am_heap] at hh
    split at hh
    · cases hh
    next hd0 =>
      split at hh
      next hsp => exact am_clone_W C (t := 0) (by decide) hsp hd hh hR hls (by omega) (by omega) hce hsl k2
      next hsp => exact am_clone_W C (t := 1) (by decide) hsp hd hh hR hls (by omega) (by omega) hce hsl k2
      next => cases hh
  | _ => cases hh
end AMH5
