/-! heap instructions are sound: clone, casts, constants; all together -/
section AMH4
variable {p : Program} {l : Launch} {e : Env} {R : Room} {s : State} {m : MethodId} {args : Array Value} {below : List Frame} {meth : Method} {c : Code} {H : Heap} {locs : List Loc} {cells slots : Nat} {Q : State → Prop}
variable {E : am_E} {S : am_S} {mid d pc : Nat} {h h' : am_H} {st st' : List Value} {ls1 : Array Slot}
theorem am_Wclone {cc : ByteArray} (hx : p.tables.exec = Jvm.exec) (hb : c.code = cc) (hml : c.maxLocals = ls1.size) {own ad : String} {index : Nat} (hown : s.vm.findClass own = some m.cls)
    (hlink : (Cond.methodLink own index ⟨ad, "clone", "()Ljava/lang/Object;"⟩).before args s = true) (hsame : (Cond.sameMethod ad "java/lang/Object" "clone" "()Ljava/lang/Object;").before args s = true)
    (hnat : (Cond.native ⟨"java/lang/Object", "clone", "()Ljava/lang/Object;"⟩).before args s = true) (hinst : (Cond.instanceMethod ⟨"java/lang/Object", "clone", "()Ljava/lang/Object;"⟩).before args s = true)
    (hsel : (Cond.selects ad ⟨ad, "clone", "()Ljava/lang/Object;"⟩ ⟨"java/lang/Object", "clone", "()Ljava/lang/Object;"⟩).before args s = true) (hcl : va_Nw (.castable ad "java/lang/Cloneable") s)
    {cA : ClassId} {n : Nat} {f : Nat → Value} {ty : FieldType} {a : Nat} (hcell : H[a]? = some (arrV cA n f)) (harr : s.isArrayOf (arrV cA n f) ty) (hnm : s.vm.findClass ad = some cA) (hfit : ∀ i : Nat, i < n → fits ty (f i) = true)
    {rest : List Value} (hfr : 1 ≤ R.frames) (hlo : 50 ≤ R.locals) (hrs : (rest.map fun v => v.category).sum ≤ 8) (hce : cells + 1 ≤ R.cells) (hsl : slots + n ≤ R.slots) (hd : decode cc pc = .ok (.invokevirtual index, 3))
    (kk : ∀ H1 : Heap, H1[H.size]? = some (arrV cA n f) → H1.size = H.size + 1 → (∀ q : Nat, q < H.size → H1[q]? = H[q]?) → W p l e R s m args below meth c H1 locs (cells + 1) (slots + n) Q (F0 m (pc + 3) ls1 (.ref H.size :: rest))) :
    W p l e R s m args below meth c H locs cells slots Q (F0 m pc ls1 (.ref a :: rest)) := by
  obtain ⟨c0, t0, f1, f2, f3⟩ := Cond.castable_spec (va_Nw.use (A := args) rfl hcl)
  cases hnm.symm.trans f1
  intro T hT X
  have hcT : T.heap[a]? = some (arrV cA n f) := by rw [hT]; exact hcell
  obtain ⟨-, kA, hkA, comp, hkind⟩ := State.isArrayOf_alike X.warmed.alike harr
  obtain ⟨-, kS, hkS, compS, hkindS⟩ := harr
  obtain ⟨vm', X', step⟩ := X.cloneArray hx hown hlink hsame hnat hinst hsel (a := a) (cell := arrV cA n f) hcT (fun k h => by cases h) (fun h => by cases h) hnm f2 f3
    (fun i v hv => by
      have hk' : T.vm.classes[cA]? = some kA := hkA
      have h9 : fits ty v = true := va_fit hfit i v hv
      show T.fitsSlot cA .none i v = true
      simpa [State.fitsSlot, State.slotType?, hk', hkind] using h9)
    (g := F0 m pc ls1 (.ref a :: rest)) rfl (by rw [hml]) rfl (by rw [hb]; exact hd) hfr (by show 2 * 0 + _ + 14 ≤ _; omega) hce (by rw [arrV_size]; exact hsl) (hloader := Vm.clonesLoader_of_array hkS hkindS)
  rw [arrV_size] at X'
  have hheap : ((T.setVm vm').pushCell { cls := (arrV cA n f).cls, slots := (arrV cA n f).slots }).heap = H.push (arrV cA n f) := by rw [← hT]; rfl
  obtain ⟨t, a1, b1⟩ := kk (H.push (arrV cA n f)) (by rw [Array.getElem?_push_size]) (by rw [Array.size_push]) (fun q hq => by rw [Array.getElem?_push, if_neg (Nat.ne_of_lt hq)]) _ hheap X'
  refine ⟨t, step t ?_, b1⟩
  rw [hT]
  exact a1
theorem am_clone_W (C : am_Ctx E S p s m args meth c mid) {idx t : Nat} (ht : t < 2) (hsp : am_lk am_specL (am_cls mid) idx = some (2 + t)) (hd : decode (am_code mid) pc = .ok (.invokevirtual idx, 3)) (hh : am_clone t st h = some (st', h')) (hR : am_Rl E h H) (hls : ls1.size = am_maxL mid) (hfr : 1 ≤ R.frames) (hlo : 50 ≤ R.locals) (hce : cells + h'.length ≤ R.cells + h.length) (hsl : slots + am_slots h' ≤ R.slots + am_slots h)
    (kk : ∀ H1 cells1 slots1, am_Rl E h' H1 → H1.size = H.size + 1 → cells1 + h.length = cells + h'.length → slots1 + am_slots h = slots + am_slots h' → W p l e R s m args below meth c H1 locs cells1 slots1 Q (F0 m (pc + 3) ls1 (st'.map (am_phi E)))) : W p l e R s m args below meth c H locs cells slots Q (F0 m pc ls1 (st.map (am_phi E))) := by
  obtain ⟨hx, hb, hml, -, -, -, hown, hts, -, hG, hsh, hbs⟩ := C
  have hcv := hG.2.2.2.2.2.2.2.2.2.1
  have hml' : c.maxLocals = ls1.size := hml.trans hls.symm
  unfold am_clone at hh
  split at hh
  next a st0 =>
    split at hh
    next t' n f ha =>
      split at hh
      next hc =>
        obtain ⟨rfl, hn, hrs⟩ := hc
        cases hh
        rw [am_slots_app] at hsl
        have hcs : am_csz (.inl (t', n, f)) = n := rfl
        rw [hcs] at hsl
        rw [List.length_append] at hce
        simp at hce
        have hst : (.ref H.size : Value) = am_phi E (.ref h.length) := by rw [hR.1]; rfl
        have fin : ∀ H1 : Heap, H1[H.size]? = some (arrV (E.2.1 t') n (fun j => .int (f j))) → H1.size = H.size + 1 → (∀ q : Nat, q < H.size → H1[q]? = H[q]?) → W p l e R s m args below meth c H1 locs (cells + 1) (slots + n) Q (F0 m (pc + 3) ls1 (.ref H.size :: st0.map (am_phi E))) := by
          intro H1 e1 z1 o1
          rw [hst]
          exact kk H1 _ _ (hR.push z1 e1 o1 (hR.2.2.2.push (hR.2.2.2 a _ ha))) z1 (by rw [List.length_append]; simp; omega) (by rw [am_slots_app, hcs]; omega)
        rcases t' with _ | _ | t'
        · exact am_Wclone (ad := "[I") hx hb hml' hown (hts _ ((am_specL_ok _ (am_lk_mem hsp)).2.2.1 rfl)) (hts _ q313) (hts _ q314) (hts _ q315) (hts _ q316) (hG.2.1 _ (List.mem_of_getElem? (i := 57) rfl)) (am_at_i hR ha) (am_ar_int hG _ _) hG.2.2.2.2.2.2.2.2.2.2.1 (fun i hi => rfl) hfr hlo (by rw [am_sum_phi hcv]; exact hrs) (by omega) (by omega) hd fin
        · exact am_Wclone (ad := "[B") hx hb hml' hown (hts _ ((am_specL_ok _ (am_lk_mem hsp)).2.2.2.1 rfl)) (hts _ q678) (hts _ q314) (hts _ q315) (hts _ q679) (hG.2.1 _ (List.mem_of_getElem? (i := 56) rfl)) (am_at_i hR ha) (am_ar_byte hG _ _) hG.2.2.2.2.2.2.2.2.2.2.2 (fun i hi => hR.2.2.2 a _ ha rfl i hi) hfr hlo (by rw [am_sum_phi hcv]; exact hrs) (by omega) (by omega) hd fin
        · omega
      next => cases hh
    next => cases hh
  next => cases hh
theorem am_cast_W (C : am_Ctx E S p s m args meth c mid) {idx : Nat} (hd : decode (am_code mid) pc = .ok (.checkcast idx, 3)) (hh : am_cast (am_lk am_castL (am_cls mid) idx) st h = some (st', h')) (hR : am_Rl E h H)
    (kk : h' = h → W p l e R s m args below meth c H locs cells slots Q (F0 m (pc + 3) ls1 (st'.map (am_phi E)))) : W p l e R s m args below meth c H locs cells slots Q (F0 m pc ls1 (st.map (am_phi E))) := by
  obtain ⟨hx, hb, hml, -, -, -, hown, hts, -, hG, hsh, hbs⟩ := C
  unfold am_cast at hh
  split at hh
  next t a st0 hl =>
    split at hh
    next t' n f ha =>
      split at hh
      next hc =>
        subst hc
        cases hh
        obtain ⟨ht, hw⟩ := am_castL_ok _ (am_lk_mem hl)
        have ht : t' < 2 := ht
        rcases t' with _ | _ | t'
        · have hw : Cond.classLink (am_cn (am_cls mid)) idx "[I" ∈ lw_all := hw
          exact va_castE hx hb hown (hts _ hw) ⟨_, am_at_i hR ha, rfl, hG.2.2.2.2.2.2.2.2.2.2.1⟩ hd (kk rfl)
        · have hw : Cond.classLink (am_cn (am_cls mid)) idx "[B" ∈ lw_all := hw
          exact va_castE hx hb hown (hts _ hw) ⟨_, am_at_i hR ha, rfl, hG.2.2.2.2.2.2.2.2.2.2.2⟩ hd (kk rfl)
        · omega
      next => cases hh
    next => cases hh
  next => cases hh
theorem am_stat_W (C : am_Ctx E S p s m args meth c mid) {idx : Nat} (hd : decode (am_code mid) pc = .ok (.getstatic idx, 3)) (hh : am_cv st h ((am_stat (am_cls mid) idx).map (fun q => q.1)) = some (st', h')) (hR : am_Rl E h H) (hlocs : ∀ x ∈ locs, am_b E ≤ x.base) (hsz : s.heap.size ≤ H.size)
    (kk : h' = h → W p l e R s m args below meth c H locs cells slots Q (F0 m (pc + 3) ls1 (st'.map (am_phi E)))) : W p l e R s m args below meth c H locs cells slots Q (F0 m pc ls1 (st.map (am_phi E))) := by
  obtain ⟨hx, hb, hml, -, -, -, hown, hts, -, hG, hsh, hbs⟩ := C
  cases hf : am_stat (am_cls mid) idx with
  | none => rw [hf] at hh; cases hh
  | some q =>
    rw [hf] at hh
    obtain ⟨v, C0, n, dd, rr⟩ := q
    cases hh
    have hm := am_lk_mem hf
    have hZ := hG.2.2.2.2.1 _ hm
    have hS : va_S (am_A E) s.heap H locs := ⟨hsz, fun q hq hA => by
      have hqb : q < am_b E := Nat.not_le.mp hA
      rw [hsh q hqb]; exact hR.2.2.1 q hqb, hlocs⟩
    exact va_gets hx hb (va_Z.kept hZ (fun q hq _ => hsh q hq)) hS hown (hts _ (am_statL_ok _ hm)) (fun _ h => h) hd (kk rfl)
theorem am_ldc_W (C : am_Ctx E S p s m args meth c mid) {idx : Nat} (hd : decode (am_code mid) pc = .ok (.ldc idx, 2)) (hh : am_cv st h (am_lk am_ldcL (am_cls mid) idx) = some (st', h'))
    (kk : h' = h → W p l e R s m args below meth c H locs cells slots Q (F0 m (pc + 2) ls1 (st'.map (am_phi E)))) : W p l e R s m args below meth c H locs cells slots Q (F0 m pc ls1 (st.map (am_phi E))) := by
  obtain ⟨hx, hb, hml, -, -, -, hown, hts, -, hG, hsh, hbs⟩ := C
  cases hf : am_lk am_ldcL (am_cls mid) idx with
  | none => rw [hf] at hh; cases hh
  | some v =>
    rw [hf] at hh
    cases hh
    have kk := kk rfl
    obtain ⟨⟨a1, e1, r1⟩, ⟨a2, e2, r2⟩, ⟨a3, e3, r3⟩⟩ := hG.2.2.2.2.2.1
    rcases am_ldcL_ok _ (am_lk_mem hf) with ⟨x, hv, hw⟩ | ⟨r, hv, ho, hr⟩
    · have hv : v = .int x := hv
      subst hv
      exact lv_ldc hx hb hown (hts _ hw) hd kk
    · have hv : v = .retAddr r := hv
      have ho2 : am_cls mid = 2 := ho
      rw [ho2] at hown
      subst hv
      have kk : W p l e R s m args below meth c H locs cells slots Q (F0 m (pc + 2) ls1 (E.2.2.2 r :: st.map (am_phi E))) := kk
      rcases hr with ⟨hi, rfl⟩ | ⟨hi, rfl⟩ | ⟨hi, rfl⟩
      · have hi : idx = 35 := hi
        subst hi
        rw [e1] at kk
        exact va_ldcS hx hb (own := RX2) hown r1 hd kk
      · have hi : idx = 46 := hi
        subst hi
        rw [e2] at kk
        exact va_ldcS hx hb (own := RX2) hown r2 hd kk
      · have hi : idx = 48 := hi
        subst hi
        rw [e3] at kk
        exact va_ldcS hx hb (own := RX2) hown r3 hd kk
theorem am_ldc2_W (C : am_Ctx E S p s m args meth c mid) {idx : Nat} (hd : decode (am_code mid) pc = .ok (.ldc2_w idx, 3)) (hh : am_cv st h ((am_lk am_ldc2L (am_cls mid) idx).map (fun x => .long x)) = some (st', h'))
    (kk : h' = h → W p l e R s m args below meth c H locs cells slots Q (F0 m (pc + 3) ls1 (st'.map (am_phi E)))) : W p l e R s m args below meth c H locs cells slots Q (F0 m pc ls1 (st.map (am_phi E))) := by
  obtain ⟨hx, hb, hml, -, -, -, hown, hts, -, hG, hsh, hbs⟩ := C
  cases hf : am_lk am_ldc2L (am_cls mid) idx with
  | none => rw [hf] at hh; cases hh
  | some v =>
    rw [hf] at hh
    cases hh
    exact lv_ldc2 hx hb hown (hts _ (am_ldc2L_ok _ (am_lk_mem hf))) hd (kk rfl)
theorem am_objI_W (C : am_Ctx E S p s m args meth c mid) {idx : Nat} (hsp : am_lk am_specL (am_cls mid) idx = some 0) (hd : decode (am_code mid) pc = .ok (.invokespecial idx, 3)) (hh : am_objI st h = some (st', h')) (hls : ls1.size = am_maxL mid) (hfr : 1 ≤ R.frames) (hlo : 50 ≤ R.locals)
    (kk : h' = h → W p l e R s m args below meth c H locs cells slots Q (F0 m (pc + 3) ls1 (st'.map (am_phi E)))) : W p l e R s m args below meth c H locs cells slots Q (F0 m pc ls1 (st.map (am_phi E))) := by
  obtain ⟨hx, hb, hml, -, -, -, hown, hts, -, hG, hsh, hbs⟩ := C
  have hcv := hG.2.2.2.2.2.2.2.2.2.1
  unfold am_objI at hh
  split at hh
  next a st0 =>
    split at hh
    next hrs =>
      cases hh
      exact W.objInit (g := F0 m pc ls1 (.ref (am_b E + a) :: st'.map (am_phi E))) hx hb hown (hts _ ((am_specL_ok _ (am_lk_mem hsp)).1 rfl)) (hts _ q85) (hts _ q86) rfl (hls.trans hml.symm) rfl hd hfr (by rw [am_sum_phi hcv]; show 2 * 0 + _ + 12 ≤ _; omega) (kk rfl)
    next => cases hh
  next => cases hh
theorem am_mm_W (C : am_Ctx E S p s m args meth c mid) {idx : Nat} (f : Int32 → Int32 → Int32) (hsp : (am_lk am_specL (am_cls mid) idx = some 4 ∧ f = fun x y => if x < y then y else x) ∨ (am_lk am_specL (am_cls mid) idx = some 5 ∧ f = fun x y => if y < x then y else x)) (hd : decode (am_code mid) pc = .ok (.invokestatic idx, 3)) (hh : am_mm st h f = some (st', h')) (hls : ls1.size = am_maxL mid) (hfr : 1 ≤ R.frames) (hlo : 50 ≤ R.locals) (hce : cells ≤ R.cells) (hsl : slots ≤ R.slots)
    (kk : h' = h → W p l e R s m args below meth c H locs cells slots Q (F0 m (pc + 3) ls1 (st'.map (am_phi E)))) : W p l e R s m args below meth c H locs cells slots Q (F0 m pc ls1 (st.map (am_phi E))) := by
  obtain ⟨hx, hb, hml, -, -, -, hown, hts, -, hG, hsh, hbs⟩ := C
  have hcv := hG.2.2.2.2.2.2.2.2.2.1
  have hml' : c.maxLocals = ls1.size := hml.trans hls.symm
  unfold am_mm at hh
  split at hh
  next y x st0 =>
    split at hh
    next hrs =>
      cases hh
      rcases hsp with ⟨hsp, rfl⟩ | ⟨hsp, rfl⟩
      · exact va_mmax hx hb hml' hown (hts _ ((am_specL_ok _ (am_lk_mem hsp)).2.2.2.2.1 rfl)) (hts _ q667) (hts _ q76) (hts _ q668) hfr (by rw [am_sum_phi hcv]; omega) hce hsl hd (kk rfl)
      · exact va_mmin hx hb hml' hown (hts _ ((am_specL_ok _ (am_lk_mem hsp)).2.2.2.2.2 rfl)) (hts _ q683) (hts _ q76) (hts _ q684) hfr (by rw [am_sum_phi hcv]; omega) hce hsl hd (kk rfl)
    next => cases hh
  next => cases hh
end AMH4
