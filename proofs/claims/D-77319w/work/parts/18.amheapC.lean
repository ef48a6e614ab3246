/-! heap instructions are sound: natives, constants; all together -/
section AMH3
variable {p : Program} {l : Launch} {e : Env} {R : Room} {s : State} {m : MethodId} {args : Array Value} {below : List Frame} {meth : Method} {c : Code} {H : Heap} {locs : List Loc} {cells slots : Nat} {Q : State → Prop}
variable {E : am_E} {S : am_S} {mid d pc : Nat} {h h' : am_H} {st st' : List Value} {ls1 : Array Slot}
theorem am_clI {z : Int32} (hz : ¬ z < 0) : z.toInt = (z.toNatClampNeg : Int) := by
  have h0 : (0 : Int) ≤ z.toInt := by
    have := Int32.not_lt.mp hz
    simpa using Int32.le_iff_toInt_le.mp this
  show z.toInt = ((z.toInt.toNat : Nat) : Int)
  omega
/-- System.arraycopy, at the cells -/
theorem am_Wcopy {cc : ByteArray} (hx : p.tables.exec = Jvm.exec) (hb : c.code = cc) (hml : c.maxLocals = ls1.size) {own : String} {index : Nat} (hown : s.vm.findClass own = some m.cls) (hlink : (Cond.methodLink own index arraycopyName).before args s = true) (hnat : (Cond.native arraycopyName).before args s = true) (hstat : (Cond.static arraycopyName).before args s = true) (hini : (Cond.initialized "java/lang/System").before args s = true)
    {src dst : Addr} {sp dp n : Int32} {cs cd : Cell} {ks kd : Class} {sC dC : ClassId} {sT dT : FieldType} (hs : H[src]? = some cs) (hdc : H[dst]? = some cd) (hso : ∀ k, cs.vm ≠ .statics k) (hdo : ∀ k, cd.vm ≠ .statics k) (hsk : cs.vm ≠ .unknown) (hdk : cd.vm ≠ .unknown)
    (hks : s.vm.classes[cs.cls]? = some ks) (hkd : s.vm.classes[cd.cls]? = some kd) (hsq : ks.kind = .array sC sT) (hdq : kd.kind = .array dC dT) (hty : ((refKind sT != refKind dT) || (!refKind sT && sT != dT)) = false)
    (h1 : ¬ sp < 0) (h2 : ¬ dp < 0) (h3 : ¬ n < 0) {n0 n1 : Nat} (h40 : sp.toNatClampNeg + n.toNatClampNeg ≤ n0) (h4 : n0 ≤ cs.slots.size) (h50 : dp.toNatClampNeg + n.toNatClampNeg ≤ n1) (h5 : n1 ≤ cd.slots.size)
    (hvals : ∀ (T : State) (vm' : Vm), T.heap = H → s.vm.Alike vm' → ∀ i, i < n.toNatClampNeg → fits dT (cs.slots.getD (sp.toNatClampNeg + i) .null) = true ∧ (T.setVm vm').takes dC (cs.slots.getD (sp.toNatClampNeg + i) .null))
    {rest : List Value} (hd : decode cc pc = .ok (.invokestatic index, 3)) (hfr : 1 ≤ R.frames) (hlo : 50 ≤ R.locals) (hrs : (rest.map fun v => v.category).sum ≤ 8)
    (kk : ∀ (H1 : Heap) (locs1 : List Loc), H1[dst]? = some (copied cs cd sp dp n) → H1.size = H.size → (∀ q : Nat, q ≠ dst → H1[q]? = H[q]?) → (∀ x ∈ locs1, x ∈ locs ∨ x.base = dst) → W p l e R s m args below meth c H1 locs1 cells slots Q (F0 m (pc + 3) ls1 rest)) :
    W p l e R s m args below meth c H locs cells slots Q (F0 m pc ls1 (.int n :: .int dp :: .ref dst :: .int sp :: .ref src :: rest)) := by
  intro T hT X
  have hnw : nativeFrameWords "java/lang/System" "arraycopy" 5 = 7 := by decide +kernel
  obtain ⟨vm', X', step⟩ := X.arraycopy hx hown hlink hnat hstat hini (src := src) (dst := dst) (cs := cs) (cd := cd) (srcPos := sp) (destPos := dp) (n := n) (by rw [hT]; exact hs) (by rw [hT]; exact hdc) hso hdo hsk hdk hks hkd hsq hdq hty h1 h2 h3
    (by rw [am_clI h1, am_clI h3]; omega) (by rw [am_clI h2, am_clI h3]; omega) (fun vm' hv i hi => hvals T vm' hT hv i hi)
    (g := F0 m pc ls1 (.int n :: .int dp :: .ref dst :: .int sp :: .ref src :: rest)) rfl (by rw [hml]) (rest := rest) rfl (by rw [hb]; exact hd) hfr (by rw [hnw]; show 2 * 0 + _ + _ ≤ _; omega)
  have hl : dst < H.size := (Array.getElem?_eq_some_iff.mp hdc).1
  have hheap : ((T.setVm vm').setCell dst (copied cs cd sp dp n)).heap = H.setIfInBounds dst (copied cs cd sp dp n) := by rw [← hT]; rfl
  obtain ⟨t, a1, b1⟩ := kk _ _ (show (H.setIfInBounds dst _)[dst]? = some _ by simp [Array.getElem?_setIfInBounds, hl]) (by simp) (fun q hq => by simp [Array.getElem?_setIfInBounds, Ne.symm hq]) (fun x hx => by
      rcases List.mem_append.mp hx with h | h
      · exact Or.inl h
      · obtain ⟨z, -, hz⟩ := List.mem_map.mp h
        exact Or.inr (by rw [← hz])) _ hheap X'
  exact ⟨t, step t a1, b1⟩
theorem am_getD_arr {cA : ClassId} {n j : Nat} {f : Nat → Value} (hj : j < n) : (arrV cA n f).slots.getD j .null = f j := by
  rw [Array.getD_eq_getD_getElem?, arrV_read _ _ hj]
  rfl
theorem am_cpy_map {f g : Nat → Option Nat} {sp dp n : Nat} (k : Nat → Nat) : (fun j => (va_cpy f g sp dp n j).map k) = va_cpy (fun j => (f j).map k) (fun j => (g j).map k) sp dp n := by
  funext j
  unfold va_cpy
  split <;> rfl
theorem am_locs2 {a : Nat} {locs1 : List Loc} (hlocs : ∀ x ∈ locs, am_b E ≤ x.base) (h : ∀ x ∈ locs1, x ∈ locs ∨ x.base = am_b E + a) : ∀ x ∈ locs1, am_b E ≤ x.base := by
  intro x hx
  rcases h x hx with h1 | h1
  · exact hlocs x h1
  · rw [h1]; exact Nat.le_add_right _ _
theorem am_cat_phi (hcv : ∀ k, (10 ≤ k ∧ E.2.2.2 k = .null) ∨ ∃ a, E.2.2.2 k = .ref a) (v : Value) : (am_phi E v).category = v.category := by
  cases v <;> first | rfl | skip
  next k =>
    show (E.2.2.2 k).category = 1
    rcases hcv k with ⟨-, e⟩ | ⟨a, e⟩ <;> rw [e] <;> rfl
theorem am_sum_phi (hcv : ∀ k, (10 ≤ k ∧ E.2.2.2 k = .null) ∨ ∃ a, E.2.2.2 k = .ref a) (st : List Value) : ((st.map (am_phi E)).map fun v => v.category).sum = (st.map fun v => v.category).sum := by
  rw [List.map_map]
  congr 1
  apply List.map_congr_left
  intro v _
  exact am_cat_phi hcv v
theorem am_copy_W (C : am_Ctx E S p s m args meth c mid) {idx : Nat} (hsp : am_lk am_specL (am_cls mid) idx = some 1) (hd : decode (am_code mid) pc = .ok (.invokestatic idx, 3)) (hh : am_copy st h = some (st', h')) (hR : am_Rl E h H) (hlocs : ∀ x ∈ locs, am_b E ≤ x.base) (hls : ls1.size = am_maxL mid) (hfr : 1 ≤ R.frames) (hlo : 50 ≤ R.locals)
    (kk : ∀ H1 locs1, am_Rl E h' H1 → (∀ x ∈ locs1, am_b E ≤ x.base) → H1.size = H.size → h'.length = h.length → am_slots h' = am_slots h → W p l e R s m args below meth c H1 locs1 cells slots Q (F0 m (pc + 3) ls1 (st'.map (am_phi E)))) : W p l e R s m args below meth c H locs cells slots Q (F0 m pc ls1 (st.map (am_phi E))) := by
  obtain ⟨hx, hb, hml, -, -, -, hown, hts, -, hG, hsh, hbs⟩ := C
  have hcv := hG.2.2.2.2.2.2.2.2.2.1
  have hlk : Cond.methodLink (am_cn (am_cls mid)) idx arraycopyName ∈ lw_all := (am_specL_ok _ (am_lk_mem hsp)).2.1 rfl
  have hml' : c.maxLocals = ls1.size := hml.trans hls.symm
  unfold am_copy at hh
  split at hh
  next n dp a sp a0 st0 =>
    split at hh
    next t0 n0 f t n1 g ha0 ha =>
      split at hh
      next hc =>
        obtain ⟨rfl, ht, hcp, hrs⟩ := hc
        cases hh
        obtain ⟨h1, h2, h3, h4, h5⟩ := of_decide_eq_true hcp
        have fin : ∀ (H1 : Heap) (locs1 : List Loc), H1[am_b E + a]? = some (copied (arrV (E.2.1 t0) n0 (fun j => .int (f j))) (arrV (E.2.1 t0) n1 (fun j => .int (g j))) sp dp n) → H1.size = H.size → (∀ q : Nat, q ≠ am_b E + a → H1[q]? = H[q]?) → (∀ x ∈ locs1, x ∈ locs ∨ x.base = am_b E + a) → W p l e R s m args below meth c H1 locs1 cells slots Q (F0 m (pc + 3) ls1 (st'.map (am_phi E))) := by
          intro H1 locs1 e1 z1 o1 l1
          refine kk H1 locs1 (hR.set ha z1 ?_ o1 (hR.2.2.2.set ha (fun k0 fs0 he => by cases he) (fun q j hj => ?_))) (am_locs2 hlocs l1) z1 (List.length_set ..) (am_slots_set ha rfl)
          · refine e1.trans (congrArg some ?_)
            exact va_copied (fun z => .int z) _ _ f g h4
          · by_cases hj2 : dp.toNatClampNeg ≤ j ∧ j < dp.toNatClampNeg + n.toNatClampNeg
            · rw [pk_cpy_in hj2.1 hj2.2]
              exact hR.2.2.2 a0 _ ha0 q _ (by omega)
            · rw [pk_cpy_out (by omega)]
              exact hR.2.2.2 a _ ha q j hj
        rcases t0 with _ | _ | t0
        · obtain ⟨-, k0, hk0, cm0, hkk0⟩ := am_ar_int hG n0 (fun j => .int (f j))
          exact am_Wcopy hx hb hml' hown (hts _ hlk) (hts _ q281) (hts _ q280) (hts _ q63) (am_at_i hR ha0) (am_at_i hR ha) (fun _ h => by cases h) (fun _ h => by cases h) (fun h => by cases h) (fun h => by cases h) hk0 hk0 hkk0 hkk0 rfl h1 h2 h3 h4 (by rw [arrV_size]; exact Nat.le_refl _) h5 (by rw [arrV_size]; exact Nat.le_refl _) (fun T vm' _ _ i hi => by
            rw [am_getD_arr (by omega)]; exact ⟨rfl, trivial⟩) hd hfr hlo (by rw [am_sum_phi hcv]; exact hrs) fin
        · obtain ⟨-, k0, hk0, cm0, hkk0⟩ := am_ar_byte hG n0 (fun j => .int (f j))
          exact am_Wcopy hx hb hml' hown (hts _ hlk) (hts _ q281) (hts _ q280) (hts _ q63) (am_at_i hR ha0) (am_at_i hR ha) (fun _ h => by cases h) (fun _ h => by cases h) (fun h => by cases h) (fun h => by cases h) hk0 hk0 hkk0 hkk0 rfl h1 h2 h3 h4 (by rw [arrV_size]; exact Nat.le_refl _) h5 (by rw [arrV_size]; exact Nat.le_refl _) (fun T vm' _ _ i hi => by
            rw [am_getD_arr (by omega)]; exact ⟨hR.2.2.2 a0 _ ha0 rfl _ (by omega), trivial⟩) hd hfr hlo (by rw [am_sum_phi hcv]; exact hrs) fin
        · omega
      next => cases hh
    next t0 n0 f t n1 g ha0 ha =>
      split at hh
      next hc =>
        obtain ⟨rfl, ht, hcp, hrs⟩ := hc
        cases hh
        obtain ⟨h1, h2, h3, h4, h5⟩ := of_decide_eq_true hcp
        obtain ⟨-, k0, hk0, cm0, hkk0⟩ := am_ar_ref hG ht n0 (fun j => .null)
        obtain ⟨kA, comp, r1, r2, r3, -⟩ := (hG.1.2 (2 + t0) _ (am_tys_r ht)).2
        cases hk0.symm.trans r1
        cases hkk0.symm.trans r2
        obtain ⟨q, hq, hqn⟩ := am_cl_rc ht
        have hcls := (hG.1.1 _ _ hq).2
        have hcomp : cm0 = E.1.1 (am_rc t0) := by
          have h9 := hcls.1
          rw [hqn] at h9
          exact Option.some.inj (r3.symm.trans h9)
        refine am_Wcopy hx hb hml' hown (hts _ hlk) (hts _ q281) (hts _ q280) (hts _ q63) (am_at_r hR ha0) (am_at_r hR ha) (fun _ h => by cases h) (fun _ h => by cases h) (fun h => by cases h) (fun h => by cases h) hk0 hk0 hkk0 hkk0 rfl h1 h2 h3 h4 (by rw [arrV_size]; exact Nat.le_refl _) h5 (by rw [arrV_size]; exact Nat.le_refl _) (fun T vm' hT hal i hi => ?_) hd hfr hlo (by rw [am_sum_phi hcv]; exact hrs) (fun H1 locs1 e1 z1 o1 l1 => ?_)
        · rw [am_getD_arr (by omega)]
          cases hy : f (sp.toNatClampNeg + i) with
          | none => exact ⟨rfl, trivial⟩
          | some y =>
            obtain ⟨fs, hfs⟩ := am_isC_iff.mp (hR.2.2.2 a0 _ ha0 _ (by omega) y hy)
            obtain ⟨r', hr', cellV, g1, g2, g3, -⟩ := hR.2.1 y _ hfs
            obtain ⟨kC, hkC, -⟩ := hcls.2
            obtain ⟨kC', hkC', -⟩ := hal.2.2 _ _ hkC
            refine ⟨rfl, cellV, (show T.heap[am_b E + y]? = some cellV by rw [hT]; exact g1), (fun q h => by rw [g3] at h; cases h), ⟨kC', by rw [g2]; exact hkC'⟩, ⟨kC', by rw [hcomp]; exact hkC'⟩, ?_⟩
            show vm'.assignable _ _ = true
            rw [hal.assignable, g2, hcomp]
            exact va_asg _ _
        · refine kk H1 locs1 (hR.set ha z1 ?_ o1 (hR.2.2.2.set ha (fun k0 fs0 he => by cases he) (fun j hj y hy => ?_))) (am_locs2 hlocs l1) z1 (List.length_set ..) (am_slots_set ha rfl)
          · refine e1.trans (congrArg some ?_)
            show _ = arrV (E.2.1 (2 + t0)) n1 (fun j => va_rf ((va_cpy f g sp.toNatClampNeg dp.toNatClampNeg n.toNatClampNeg j).map (fun y => E.2.2.1.size + y)))
            have h9 := va_copied (fun z => va_rf z) (E.2.1 (2 + t0)) (E.2.1 (2 + t0)) (n1 := n1) (dp := dp.toNatClampNeg) (fun j => (f j).map (fun y => E.2.2.1.size + y)) (fun j => (g j).map (fun y => E.2.2.1.size + y)) h4
            refine (show copied _ _ sp dp n = _ from h9).trans ?_
            congr 1
            funext j
            exact congrArg va_rf (congrFun (am_cpy_map (fun y => E.2.2.1.size + y)).symm j)
          · by_cases hj2 : dp.toNatClampNeg ≤ j ∧ j < dp.toNatClampNeg + n.toNatClampNeg
            · rw [pk_cpy_in hj2.1 hj2.2] at hy
              exact hR.2.2.2 a0 _ ha0 _ (by omega) y hy
            · rw [pk_cpy_out (by omega)] at hy
              exact hR.2.2.2 a _ ha j hj y hy
      next => cases hh
    next => cases hh
  next n dp a sp k st0 =>
    split at hh
    next n0 f t n1 g hk ha =>
      split at hh
      next hc =>
        obtain ⟨rfl, hk6, hcp, hrs⟩ := hc
        cases hh
        obtain ⟨h1, h2, h3, h4, h5⟩ := of_decide_eq_true hcp
        obtain ⟨a0, e1, cell, c1, c2, c3, c4, c5, c6, c7⟩ := hG.2.2.2.2.2.2.2.1 k n0 f hk
        have hfit : ∀ j, j < n0 → fits .byte (.int (f j)) = true := by
          match k, hk6, hk with
          | 6, _, hk => cases hk; decide +kernel
          | 7, _, hk => cases hk; exact fun j hj => absurd hj (Nat.not_lt_zero j)
          | 8, _, hk => cases hk; decide +kernel
          | k + 9, _, hk => cases hk
        show W p l e R s m args below meth c H locs cells slots Q (F0 m pc ls1 (.int n :: .int dp :: .ref (am_b E + a) :: .int sp :: E.2.2.2 k :: st'.map (am_phi E)))
        rw [e1]
        obtain ⟨hso, k0, hk0, cm0, hkk0⟩ := c2
        obtain ⟨-, k1, hk1, cm1, hkk1⟩ := am_ar_byte hG n1 (fun j => .int (g j))
        have hc0 : H[a0]? = some cell := by rw [am_keep hR (Nat.not_le.mp c7)]; exact c1
        have hrd : ∀ j, j < n0 → cell.slots.getD j .null = .int (f j) := fun j hj => by
          rw [Array.getD_eq_getD_getElem?, c6 j hj]; rfl
        refine am_Wcopy hx hb hml' hown (hts _ hlk) (hts _ q281) (hts _ q280) (hts _ q63) hc0 (am_at_i hR ha) hso (fun _ h => by cases h) c3 (fun h => by cases h) hk0 hk1 hkk0 hkk1 rfl h1 h2 h3 h4 c4 h5 (by rw [arrV_size]; exact Nat.le_refl _) (fun T vm' _ _ i hi => ?_) hd hfr hlo (by rw [am_sum_phi hcv]; exact hrs) (fun H1 locs1 e1 z1 o1 l1 => ?_)
        · rw [hrd _ (by omega)]; exact ⟨hfit _ (by omega), trivial⟩
        · refine kk H1 locs1 (hR.set ha z1 ?_ o1 (hR.2.2.2.set ha (fun k0 fs0 he => by cases he) (fun q j hj => ?_))) (am_locs2 hlocs l1) z1 (List.length_set ..) (am_slots_set ha rfl)
          · refine e1.trans (congrArg some ?_)
            exact va_copiedX (fun z => .int z) cell (E.2.1 1) f g c6 h4
          · by_cases hj2 : dp.toNatClampNeg ≤ j ∧ j < dp.toNatClampNeg + n.toNatClampNeg
            · rw [pk_cpy_in hj2.1 hj2.2]
              exact hfit _ (by omega)
            · rw [pk_cpy_out (by omega)]
              exact hR.2.2.2 a _ ha q j hj
      next => cases hh
    next => cases hh
  next => cases hh
end AMH3
