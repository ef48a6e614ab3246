/-! heap instructions are sound: arrays, new cells -/
section AMH2
variable {p : Program} {l : Launch} {e : Env} {R : Room} {s : State} {m : MethodId} {args : Array Value} {below : List Frame} {meth : Method} {c : Code} {H : Heap} {locs : List Loc} {cells slots : Nat} {Q : State → Prop}
variable {E : am_E} {S : am_S} {mid d pc : Nat} {h h' : am_H} {st st' : List Value} {ls1 : Array Slot}
theorem am_at_i {t n a : Nat} {f : Nat → Int32} (hR : am_Rl E h H) (ha : h[a]? = some (.inl (t, n, f))) : H[am_b E + a]? = some (arrV (E.2.1 t) n (fun j => .int (f j))) := hR.2.1 a _ ha
theorem am_at_r {t n a : Nat} {f : Nat → Option Nat} (hR : am_Rl E h H) (ha : h[a]? = some (.inr (.inl (t, n, f)))) : H[am_b E + a]? = some (arrV (E.2.1 (2 + t)) n (fun j => va_rf ((f j).map (fun y => E.2.2.1.size + y)))) := hR.2.1 a _ ha
theorem am_ar_int (hG : am_G E S s) (n : Nat) (f : Nat → Value) : s.isArrayOf (arrV (E.2.1 0) n f) .int := (hG.1.2 0 _ rfl).1 n f
theorem am_ar_byte (hG : am_G E S s) (n : Nat) (f : Nat → Value) : s.isArrayOf (arrV (E.2.1 1) n f) .byte := (hG.1.2 1 _ rfl).1 n f
theorem am_tys_r {t : Nat} (ht : t < 4) : (am_tys E)[2 + t]? = some (E.2.1 (2 + t), .object (am_rn t)) := by
  rcases t with _ | _ | _ | _ | t
  · rfl
  · rfl
  · rfl
  · rfl
  · omega
theorem am_ar_ref (hG : am_G E S s) {t : Nat} (ht : t < 4) (n : Nat) (f : Nat → Value) : s.isArrayOf (arrV (E.2.1 (2 + t)) n f) (.object (am_rn t)) := (hG.1.2 (2 + t) _ (am_tys_r ht)).1 n f
theorem am_in_arr {i : Int32} {n : Nat} {cA : ClassId} {f : Nat → Value} (hi : am_in i n = true) : ¬ (i < 0 ∨ (arrV cA n f).slots.size ≤ i.toNatClampNeg) := by
  rw [arrV_size]
  exact am_in_iff.mp hi
theorem am_in_lt {i : Int32} {n : Nat} (hi : am_in i n = true) : i.toNatClampNeg < n := Nat.not_le.mp fun q => am_in_iff.mp hi (Or.inr q)
theorem am_rf_phi (r : Option Nat) : am_phi E (am_rf r) = va_rf (r.map (fun y => E.2.2.1.size + y)) := by
  cases r <;> rfl
theorem am_keep (hR : am_Rl E h H) {a : Nat} (ha : a < am_b E) : H[a]? = E.2.2.1[a]? := hR.2.2.1 a ha
theorem am_iald_W (C : am_Ctx E S p s m args meth c mid) (hd : decode (am_code mid) pc = .ok (.iaload, 1)) (hh : am_iald S st h = some (st', h')) (hR : am_Rl E h H)
    (kk : h' = h → W p l e R s m args below meth c H locs cells slots Q (F0 m (pc + 1) ls1 (st'.map (am_phi E)))) : W p l e R s m args below meth c H locs cells slots Q (F0 m pc ls1 (st.map (am_phi E))) := by
  obtain ⟨hx, hb, -, -, -, -, hown, hts, -, hG, hsh, hbs⟩ := C
  unfold am_iald at hh
  split at hh
  next i a st0 =>
    split at hh
    next t n f ha =>
      split at hh
      next hc =>
        obtain ⟨rfl, hi⟩ := hc
        cases hh
        exact W.iald (v := .int (f i.toNatClampNeg)) hx hb (am_at_i hR ha) (am_ar_int hG _ _) (fun q => by cases q) (am_in_arr hi) (arrV_read _ _ (am_in_lt hi)) rfl rfl hd (kk rfl)
      next => cases hh
    next => cases hh
  next i k st0 =>
    split at hh
    next hc =>
      obtain ⟨rfl, hi⟩ := hc
      cases hh
      obtain ⟨a, e1, ha, cell, h1, h2, h3, h4, h5⟩ := hG.2.2.2.2.2.2.2.2.1
      show W p l e R s m args below meth c H locs cells slots Q (F0 m pc ls1 (.int i :: E.2.2.2 0 :: st0.map (am_phi E)))
      rw [e1]
      exact W.iald (v := .int (S.2 i.toNatClampNeg)) hx hb (by rw [am_keep hR ha]; exact h1) h2 h3 (by rw [h4]; exact am_in_iff.mp hi) (h5 _ (am_in_lt hi)) rfl rfl hd (kk rfl)
    next => cases hh
  next => cases hh
theorem am_bald_W (C : am_Ctx E S p s m args meth c mid) (hd : decode (am_code mid) pc = .ok (.baload, 1)) (hh : am_bald st h = some (st', h')) (hR : am_Rl E h H)
    (kk : h' = h → W p l e R s m args below meth c H locs cells slots Q (F0 m (pc + 1) ls1 (st'.map (am_phi E)))) : W p l e R s m args below meth c H locs cells slots Q (F0 m pc ls1 (st.map (am_phi E))) := by
  obtain ⟨hx, hb, -, -, -, -, hown, hts, -, hG, hsh, hbs⟩ := C
  unfold am_bald at hh
  split at hh
  next i a st0 =>
    split at hh
    next t n f ha =>
      split at hh
      next hc =>
        obtain ⟨rfl, hi⟩ := hc
        cases hh
        exact W.bald (v := .int (f i.toNatClampNeg)) hx hb (am_at_i hR ha) (am_ar_byte hG _ _) (fun q => by cases q) (am_in_arr hi) (arrV_read _ _ (am_in_lt hi)) rfl rfl hd (kk rfl)
      next => cases hh
    next => cases hh
  next i k st0 =>
    split at hh
    next n f hk =>
      split at hh
      next hi =>
        cases hh
        obtain ⟨a, e1, cell, h1, h2, h3, h4, h5, h6, h7⟩ := hG.2.2.2.2.2.2.2.1 k n f hk
        show W p l e R s m args below meth c H locs cells slots Q (F0 m pc ls1 (.int i :: E.2.2.2 k :: st0.map (am_phi E)))
        rw [e1]
        refine W.bald (v := .int (f i.toNatClampNeg)) hx hb (by rw [am_keep hR (Nat.not_le.mp h7)]; exact h1) h2 h3 ?_ (h6 _ (am_in_lt hi)) rfl rfl hd (kk rfl)
        rintro (q | q)
        · exact am_in_iff.mp hi (Or.inl q)
        · exact am_in_iff.mp hi (Or.inr (Nat.le_trans h4 q))
      next => cases hh
    next => cases hh
  next => cases hh
theorem am_aald_W (C : am_Ctx E S p s m args meth c mid) (hd : decode (am_code mid) pc = .ok (.aaload, 1)) (hh : am_aald st h = some (st', h')) (hR : am_Rl E h H)
    (kk : h' = h → W p l e R s m args below meth c H locs cells slots Q (F0 m (pc + 1) ls1 (st'.map (am_phi E)))) : W p l e R s m args below meth c H locs cells slots Q (F0 m pc ls1 (st.map (am_phi E))) := by
  obtain ⟨hx, hb, -, -, -, -, hown, hts, -, hG, hsh, hbs⟩ := C
  unfold am_aald at hh
  split at hh
  next i a st0 =>
    split at hh
    next t n f ha =>
      split at hh
      next hc =>
        obtain ⟨ht, hi⟩ := hc
        cases hh
        refine W.aald (v := am_phi E (am_rf (f i.toNatClampNeg))) (ty := .object (am_rn t)) hx hb (am_at_r hR ha) (am_ar_ref hG ht _ _) rfl (fun q => by cases q) (am_in_arr hi) ?_ rfl rfl hd (kk rfl)
        rw [arrV_read _ _ (am_in_lt hi), am_rf_phi]
      next => cases hh
    next => cases hh
  next => cases hh
theorem am_alen_W (C : am_Ctx E S p s m args meth c mid) (hd : decode (am_code mid) pc = .ok (.arraylength, 1)) (hh : am_alen S st h = some (st', h')) (hR : am_Rl E h H)
    (kk : h' = h → W p l e R s m args below meth c H locs cells slots Q (F0 m (pc + 1) ls1 (st'.map (am_phi E)))) : W p l e R s m args below meth c H locs cells slots Q (F0 m pc ls1 (st.map (am_phi E))) := by
  obtain ⟨hx, hb, -, -, -, -, hown, hts, -, hG, hsh, hbs⟩ := C
  unfold am_alen at hh
  split at hh
  next a st0 =>
    split at hh
    next t n f ha =>
      split at hh
      next ht =>
        cases hh
        rcases t with _ | _ | t
        · exact W.alen (n := Int32.ofNat n) hx hb (am_at_i hR ha) (am_ar_int hG _ _) (by rw [arrV_size]) rfl rfl hd (kk rfl)
        · exact W.alen (n := Int32.ofNat n) hx hb (am_at_i hR ha) (am_ar_byte hG _ _) (by rw [arrV_size]) rfl rfl hd (kk rfl)
        · omega
      next => cases hh
    next t n f ha =>
      split at hh
      next ht =>
        cases hh
        exact W.alen (n := Int32.ofNat n) hx hb (am_at_r hR ha) (am_ar_ref hG ht _ _) (by rw [arrV_size]) rfl rfl hd (kk rfl)
      next => cases hh
    next => cases hh
  next k st0 =>
    split at hh
    next hk =>
      subst hk
      cases hh
      obtain ⟨a, e1, ha, cell, h1, h2, h3, h4, h5⟩ := hG.2.2.2.2.2.2.2.2.1
      show W p l e R s m args below meth c H locs cells slots Q (F0 m pc ls1 (E.2.2.2 0 :: st0.map (am_phi E)))
      rw [e1]
      exact W.alen (n := Int32.ofNat S.1) hx hb (by rw [am_keep hR ha]; exact h1) h2 (by rw [h4]) rfl rfl hd (kk rfl)
    next hk0 =>
      split at hh
      next n f hk =>
        cases hh
        obtain ⟨a, e1, cell, h1, h2, h3, h4, h5, h6, h7⟩ := hG.2.2.2.2.2.2.2.1 k n _ hk
        show W p l e R s m args below meth c H locs cells slots Q (F0 m pc ls1 (E.2.2.2 k :: st0.map (am_phi E)))
        rw [e1]
        exact W.alen (n := Int32.ofNat n) hx hb (by rw [am_keep hR (Nat.not_le.mp h7)]; exact h1) h2 h5 rfl rfl hd (kk rfl)
      next => cases hh
  next => cases hh
theorem am_locs1 {a k : Nat} (hlocs : ∀ x ∈ locs, am_b E ≤ x.base) : ∀ x ∈ locs ++ [⟨am_b E + a, k⟩], am_b E ≤ x.base := by
  intro x hx
  rcases List.mem_append.mp hx with h1 | h1
  · exact hlocs x h1
  · rw [List.mem_singleton.mp h1]; exact Nat.le_add_right _ _
theorem am_upd_f (f : Nat → Int32) (k : Nat) (x : Int32) : updV (fun j => Value.int (f j)) k (.int x) = fun j => Value.int (upd f k x j) := by
  funext q
  by_cases hq : q = k
  · subst hq; simp [updV, upd]
  · simp [updV, upd, hq]
theorem am_iast_W (C : am_Ctx E S p s m args meth c mid) (hd : decode (am_code mid) pc = .ok (.iastore, 1)) (hh : am_iast st h = some (st', h')) (hR : am_Rl E h H) (hlocs : ∀ x ∈ locs, am_b E ≤ x.base)
    (kk : ∀ H1 locs1, am_Rl E h' H1 → (∀ x ∈ locs1, am_b E ≤ x.base) → H1.size = H.size → h'.length = h.length → am_slots h' = am_slots h → W p l e R s m args below meth c H1 locs1 cells slots Q (F0 m (pc + 1) ls1 (st'.map (am_phi E)))) : W p l e R s m args below meth c H locs cells slots Q (F0 m pc ls1 (st.map (am_phi E))) := by
  obtain ⟨hx, hb, -, -, -, -, hown, hts, -, hG, hsh, hbs⟩ := C
  unfold am_iast at hh
  split at hh
  next x i a st0 =>
    split at hh
    next t n f ha =>
      split at hh
      next hc =>
        obtain ⟨rfl, hi⟩ := hc
        cases hh
        refine W.iast hx hb (am_at_i hR ha) (am_ar_int hG _ _) (fun q => by cases q) (am_in_arr hi) rfl rfl hd fun H1 e1 z1 o1 => ?_
        refine kk H1 _ (hR.set ha z1 ?_ o1 (hR.2.2.2.set ha (fun k0 fs0 he => by cases he) (fun q => by cases q))) (am_locs1 hlocs) z1 (List.length_set ..) (am_slots_set ha rfl)
        show H1[am_b E + a]? = some (arrV (E.2.1 0) n (fun j => .int (upd f i.toNatClampNeg x j)))
        rw [e1, arrV_store, am_upd_f]
      next => cases hh
    next => cases hh
  next => cases hh
theorem am_bast_W (C : am_Ctx E S p s m args meth c mid) (hd : decode (am_code mid) pc = .ok (.bastore, 1)) (hh : am_bast st h = some (st', h')) (hR : am_Rl E h H) (hlocs : ∀ x ∈ locs, am_b E ≤ x.base)
    (kk : ∀ H1 locs1, am_Rl E h' H1 → (∀ x ∈ locs1, am_b E ≤ x.base) → H1.size = H.size → h'.length = h.length → am_slots h' = am_slots h → W p l e R s m args below meth c H1 locs1 cells slots Q (F0 m (pc + 1) ls1 (st'.map (am_phi E)))) : W p l e R s m args below meth c H locs cells slots Q (F0 m pc ls1 (st.map (am_phi E))) := by
  obtain ⟨hx, hb, -, -, -, -, hown, hts, -, hG, hsh, hbs⟩ := C
  unfold am_bast at hh
  split at hh
  next x i a st0 =>
    split at hh
    next t n f ha =>
      split at hh
      next hc =>
        obtain ⟨rfl, hi⟩ := hc
        cases hh
        refine W.bast hx hb (am_at_i hR ha) (am_ar_byte hG _ _) (fun q => by cases q) (am_in_arr hi) rfl rfl hd fun H1 e1 z1 o1 => ?_
        refine kk H1 _ (hR.set ha z1 ?_ o1 (hR.2.2.2.set ha (fun k0 fs0 he => by cases he) (fun _ j hj => ?_))) (am_locs1 hlocs) z1 (List.length_set ..) (am_slots_set ha rfl)
        · show H1[am_b E + a]? = some (arrV (E.2.1 1) n (fun j => .int (upd f i.toNatClampNeg x.toInt8.toInt32 j)))
          have e2 : narrow .byte (.int x) = .int x.toInt8.toInt32 := rfl
          rw [e1, e2, arrV_store, am_upd_f]
        · by_cases hj2 : j = i.toNatClampNeg
          · subst hj2
            rw [pk_us]
            exact pk_fb x
          · rw [pk_un hj2]
            exact hR.2.2.2 a _ ha rfl j hj
      next => cases hh
    next => cases hh
  next => cases hh
theorem am_up_f (f : Nat → Option Nat) (k : Nat) (r : Option Nat) : updV (fun j => va_rf ((f j).map (fun y => E.2.2.1.size + y))) k (am_phi E (am_rf r)) = fun j => va_rf ((va_up f k r j).map (fun y => E.2.2.1.size + y)) := by
  funext q
  by_cases hq : q = k
  · subst hq; simp [updV, va_up, am_rf_phi]
  · simp [updV, va_up, hq]
theorem am_cl_rc {t : Nat} (ht : t < 4) : ∃ q : vw_C, am_CL[am_rc t]? = some q ∧ q.1 = am_rn t := by
  rcases t with _ | _ | _ | _ | t
  · exact ⟨_, rfl, rfl⟩
  · exact ⟨_, rfl, rfl⟩
  · exact ⟨_, rfl, rfl⟩
  · exact ⟨_, rfl, rfl⟩
  · omega
theorem am_aast_W (C : am_Ctx E S p s m args meth c mid) (hd : decode (am_code mid) pc = .ok (.aastore, 1)) (hh : am_aast st h = some (st', h')) (hR : am_Rl E h H) (hlocs : ∀ x ∈ locs, am_b E ≤ x.base)
    (kk : ∀ H1 locs1, am_Rl E h' H1 → (∀ x ∈ locs1, am_b E ≤ x.base) → H1.size = H.size → h'.length = h.length → am_slots h' = am_slots h → W p l e R s m args below meth c H1 locs1 cells slots Q (F0 m (pc + 1) ls1 (st'.map (am_phi E)))) : W p l e R s m args below meth c H locs cells slots Q (F0 m pc ls1 (st.map (am_phi E))) := by
  obtain ⟨hx, hb, -, -, -, -, hown, hts, -, hG, hsh, hbs⟩ := C
  have okc : ∀ {t n : Nat} {f : Nat → Option Nat} {a k : Nat} {r : Option Nat}, h[a]? = some (.inr (.inl (t, n, f))) → (∀ y, r = some y → am_isC h y (am_rc t) = true) → am_ok1 h (.inr (.inl (t, n, va_up f k r))) := by
    intro t n f a k r ha hr j hj y hy
    by_cases hjk : j = k
    · subst hjk
      rw [show va_up f j r j = r by simp [va_up]] at hy
      exact hr y hy
    · rw [show va_up f k r j = f j by simp [va_up, hjk]] at hy
      exact hR.2.2.2 a _ ha j hj y hy
  unfold am_aast at hh
  split at hh
  next i a st0 =>
    split at hh
    next t n f ha =>
      split at hh
      next hc =>
        obtain ⟨ht, hi⟩ := hc
        cases hh
        refine va_WaastN (C := am_rn t) hx hb (am_at_r hR ha) (am_ar_ref hG ht _ _) (fun q => by cases q) (am_in_arr hi) rfl rfl hd fun H1 e1 z1 o1 => ?_
        refine kk H1 _ (hR.set ha z1 ?_ o1 (hR.2.2.2.set ha (fun k0 fs0 he => by cases he) (okc ha (fun y hy => by cases hy)))) (am_locs1 hlocs) z1 (List.length_set ..) (am_slots_set ha rfl)
        show H1[am_b E + a]? = some (arrV (E.2.1 (2 + t)) n (fun j => va_rf ((va_up f i.toNatClampNeg none j).map (fun y => E.2.2.1.size + y))))
        rw [e1, arrV_store, ← am_up_f]
        rfl
      next => cases hh
    next => cases hh
  next r i a st0 =>
    split at hh
    next t n f ha =>
      split at hh
      next hc =>
        obtain ⟨ht, hi, hr⟩ := hc
        cases hh
        obtain ⟨fs, hfs⟩ := am_isC_iff.mp hr
        obtain ⟨r', hr', cellV, g1, g2, g3, -⟩ := hR.2.1 r _ hfs
        obtain ⟨q, hq, hqn⟩ := am_cl_rc ht
        have hcls := (hG.1.1 _ _ hq).2
        obtain ⟨kA, comp, k1, k2, k3, -⟩ := (hG.1.2 (2 + t) _ (am_tys_r ht)).2
        have hcomp : comp = E.1.1 (am_rc t) := by
          have h9 := hcls.1
          rw [hqn] at h9
          exact Option.some.inj (k3.symm.trans h9)
        subst hcomp
        obtain ⟨kC, hkC, -⟩ := hcls.2
        refine W.aast hx hb (am_at_r hR ha) (fun q h => by cases h) (fun h => by cases h) k1 k2 rfl hkC ⟨fun q => am_in_iff.mp hi (Or.inl q), by rw [arrV_size]; exact am_in_lt hi⟩ g1 (fun q h => by rw [g3] at h; cases h) (by rw [g2]; exact hkC) (by rw [g2]; exact va_assign hcls) rfl rfl hd fun H1 e1 z1 o1 => ?_
        refine kk H1 _ (hR.set ha z1 ?_ o1 (hR.2.2.2.set ha (fun k0 fs0 he => by cases he) (okc ha (fun y hy => by cases hy; exact hr)))) (am_locs1 hlocs) z1 (List.length_set ..) (am_slots_set ha rfl)
        show H1[am_b E + a]? = some (arrV (E.2.1 (2 + t)) n (fun j => va_rf ((va_up f i.toNatClampNeg (some r) j).map (fun y => E.2.2.1.size + y))))
        rw [e1, arrV_store, ← am_up_f]
        rfl
      next => cases hh
    next => cases hh
  next => cases hh
theorem am_new_W (C : am_Ctx E S p s m args meth c mid) {idx : Nat} (hd : decode (am_code mid) pc = .ok (.new idx, 3)) (hh : am_new (am_lk am_newL (am_cls mid) idx) st h = some (st', h')) (hR : am_Rl E h H) (hlocs : ∀ x ∈ locs, am_b E ≤ x.base) (hce : cells + h'.length ≤ R.cells + h.length) (hsl : slots + am_slots h' ≤ R.slots + am_slots h)
    (kk : ∀ H1 cells1 slots1, am_Rl E h' H1 → H1.size = H.size + 1 → cells1 + h.length = cells + h'.length → slots1 + am_slots h = slots + am_slots h' → W p l e R s m args below meth c H1 locs cells1 slots1 Q (F0 m (pc + 3) ls1 (st'.map (am_phi E)))) : W p l e R s m args below meth c H locs cells slots Q (F0 m pc ls1 (st.map (am_phi E))) := by
  obtain ⟨hx, hb, -, -, -, -, hown, hts, -, hG, hsh, hbs⟩ := C
  unfold am_new at hh
  split at hh
  next ci hci =>
    cases hh
    obtain ⟨q, hq, w1, w2, w3⟩ := am_newL_ok _ (am_lk_mem hci)
    have hq : am_CL[ci]? = some q := hq
    obtain ⟨C0, T0, N0⟩ := q
    have hN : am_N ci = N0 := by unfold am_N; rw [hq]
    have hlen : (am_dft ci).length = N0 := by unfold am_dft; rw [List.length_map, List.length_range, hN]
    rw [am_slots_app] at hsl
    have hcs : am_csz (.inr (.inr (ci, am_dft ci))) = N0 := hlen
    rw [hcs] at hsl
    rw [List.length_append] at hce
    have hKn := hG.1.1 ci _ hq
    refine W.newcK (n := N0) hx hb hown (hts _ w1) (hts _ w2) (hts _ w3) rfl hd (by simp at hce; omega) (by omega) hKn.2.1 rfl fun H1 kC hkC e1 z1 o1 => ?_
    have hst : (.ref H.size : Value) = am_phi E (.ref h.length) := by rw [hR.1]; rfl
    show W p l e R s m args below meth c H1 locs (cells + 1) (slots + N0) Q (F0 m (pc + 3) ls1 (.ref H.size :: st.map (am_phi E)))
    rw [hst]
    refine kk H1 _ _ (hR.push z1 ?_ o1 (hR.2.2.2.push trivial)) z1 (by rw [List.length_append]; simp; omega) (by rw [am_slots_app, hcs]; omega)
    refine ⟨_, hq, (u_born (am_ty ci) hts (am_cl_in hq) hKn hkC e1 (am_cl_ty hq)).to (fun j hj => ?_)⟩
    unfold vp_V am_dft
    have hj' : j < N0 := hj
    rw [List.getD_eq_getElem?_getD, List.getElem?_map, List.getElem?_map, List.getElem?_range (by rw [hN]; exact hj')]
    show defaultValue (am_ty ci j) = am_phi E (defaultValue (am_ty ci j))
    cases am_ty ci j <;> rfl
  next => cases hh
theorem am_clamp_b {n : Nat} (hn : n ≤ 1000000) : n * 4 ≤ 536870912 := by omega
theorem am_newa_W (C : am_Ctx E S p s m args meth c mid) (t : Nat) {at_ : ArrayType} (hat : (t = 0 ∧ at_ = .int) ∨ (t = 1 ∧ at_ = .byte)) (hd : decode (am_code mid) pc = .ok (.newarray at_, 2)) (hh : am_newa t st h = some (st', h')) (hR : am_Rl E h H) (hlocs : ∀ x ∈ locs, am_b E ≤ x.base) (hce : cells + h'.length ≤ R.cells + h.length) (hsl : slots + am_slots h' ≤ R.slots + am_slots h)
    (kk : ∀ H1 cells1 slots1, am_Rl E h' H1 → H1.size = H.size + 1 → cells1 + h.length = cells + h'.length → slots1 + am_slots h = slots + am_slots h' → W p l e R s m args below meth c H1 locs cells1 slots1 Q (F0 m (pc + 2) ls1 (st'.map (am_phi E)))) : W p l e R s m args below meth c H locs cells slots Q (F0 m pc ls1 (st.map (am_phi E))) := by
  obtain ⟨hx, hb, -, -, -, -, hown, hts, -, hG, hsh, hbs⟩ := C
  unfold am_newa at hh
  split at hh
  next n st0 =>
    split at hh
    next hc =>
      obtain ⟨hn, hN⟩ := hc
      cases hh
      rw [am_slots_app] at hsl
      have hcs : am_csz (.inl (t, n.toNatClampNeg, fun _ => 0)) = n.toNatClampNeg := rfl
      rw [hcs] at hsl
      rw [List.length_append] at hce
      simp at hce
      have hst : (.ref H.size : Value) = am_phi E (.ref h.length) := by rw [hR.1]; rfl
      rcases hat with ⟨rfl, rfl⟩ | ⟨rfl, rfl⟩
      · refine va_newaK (atype := .int) hx hb (hts _ q125) rfl hd rfl hn rfl (am_clamp_b hN) (by omega) (by omega) rfl fun H1 cA e1 z1 o1 hAr hNm => ?_
        show W p l e R s m args below meth c H1 locs (cells + 1) (slots + n.toNatClampNeg) Q (F0 m (pc + 2) ls1 (.ref H.size :: st0.map (am_phi E)))
        rw [hst]
        have hcA : cA = E.2.1 0 := Option.some.inj (hNm.symm.trans hG.2.2.2.2.2.2.2.2.2.2.1)
        subst hcA
        exact kk H1 _ _ (hR.push z1 e1 o1 (hR.2.2.2.push (fun q => by cases q))) z1 (by rw [List.length_append]; simp; omega) (by rw [am_slots_app, hcs]; omega)
      · refine va_newaK (atype := .byte) hx hb (hts _ q230) rfl hd rfl hn rfl (by show n.toNatClampNeg * 1 ≤ _; omega) (by omega) (by omega) rfl fun H1 cA e1 z1 o1 hAr hNm => ?_
        show W p l e R s m args below meth c H1 locs (cells + 1) (slots + n.toNatClampNeg) Q (F0 m (pc + 2) ls1 (.ref H.size :: st0.map (am_phi E)))
        rw [hst]
        have hcA : cA = E.2.1 1 := Option.some.inj (hNm.symm.trans hG.2.2.2.2.2.2.2.2.2.2.2)
        subst hcA
        exact kk H1 _ _ (hR.push z1 e1 o1 (hR.2.2.2.push (fun _ j hj => rfl))) z1 (by rw [List.length_append]; simp; omega) (by rw [am_slots_app, hcs]; omega)
    next => cases hh
  next => cases hh
theorem am_ao (hG : am_G E S s) {t : Nat} (ht : t < 4) : va_AO (am_rn t) s := by
  obtain ⟨h1, h2, h3, h4⟩ := hG.2.2.2.1
  rcases t with _ | _ | _ | _ | t
  · exact h1
  · exact h2
  · exact h3
  · exact h4
  · omega
theorem am_anew_W (C : am_Ctx E S p s m args meth c mid) {idx : Nat} (hd : decode (am_code mid) pc = .ok (.anewarray idx, 3)) (hh : am_anew (am_lk am_anewL (am_cls mid) idx) st h = some (st', h')) (hR : am_Rl E h H) (hlocs : ∀ x ∈ locs, am_b E ≤ x.base) (hce : cells + h'.length ≤ R.cells + h.length) (hsl : slots + am_slots h' ≤ R.slots + am_slots h)
    (kk : ∀ H1 cells1 slots1, am_Rl E h' H1 → H1.size = H.size + 1 → cells1 + h.length = cells + h'.length → slots1 + am_slots h = slots + am_slots h' → W p l e R s m args below meth c H1 locs cells1 slots1 Q (F0 m (pc + 3) ls1 (st'.map (am_phi E)))) : W p l e R s m args below meth c H locs cells slots Q (F0 m pc ls1 (st.map (am_phi E))) := by
  obtain ⟨hx, hb, -, -, -, -, hown, hts, -, hG, hsh, hbs⟩ := C
  unfold am_anew at hh
  split at hh
  next t n st0 ht0 =>
    split at hh
    next hc =>
      obtain ⟨hn, hN⟩ := hc
      cases hh
      obtain ⟨ht, w1⟩ := am_anewL_ok _ (am_lk_mem ht0)
      have ht : t < 4 := ht
      rw [am_slots_app] at hsl
      have hcs : am_csz (.inr (.inl (t, n.toNatClampNeg, fun _ => none))) = n.toNatClampNeg := rfl
      rw [hcs] at hsl
      rw [List.length_append] at hce
      simp at hce
      have hst : (.ref H.size : Value) = am_phi E (.ref h.length) := by rw [hR.1]; rfl
      refine W.anew hx hb hown (hts _ w1) (va_AO.use (am_ao hG ht)) rfl hd rfl hn (am_clamp_b hN) (by omega) (by omega) fun cA kA comp f1 f2 f3 f4 => ?_
      generalize hH1 : H.push ({ cls := cA, slots := Array.replicate n.toNatClampNeg .null, vm := .none } : Cell) = H1
      have z1 : H1.size = H.size + 1 := by rw [← hH1, Array.size_push]
      have e1 : H1[H.size]? = some (arrV cA n.toNatClampNeg (fun _ => .null)) := by rw [← hH1, Array.getElem?_push_size, ← arrV_new]
      have o1 : ∀ q : Nat, q < H.size → H1[q]? = H[q]? := fun q hq => by rw [← hH1, Array.getElem?_push, if_neg (Nat.ne_of_lt hq)]
      show W p l e R s m args below meth c H1 locs (cells + 1) (slots + n.toNatClampNeg) Q (F0 m (pc + 3) ls1 (.ref H.size :: st0.map (am_phi E)))
      rw [hst]
      obtain ⟨kA', comp', k1, k2, k3, k4⟩ := (hG.1.2 (2 + t) _ (am_tys_r ht)).2
      have hcA : cA = E.2.1 (2 + t) := Option.some.inj (f1.symm.trans k4)
      subst hcA
      exact kk H1 _ _ (hR.push z1 e1 o1 (hR.2.2.2.push (fun j hj y hy => by cases hy))) z1 (by rw [List.length_append]; simp; omega) (by rw [am_slots_app, hcs]; omega)
    next => cases hh
  next => cases hh
end AMH2
