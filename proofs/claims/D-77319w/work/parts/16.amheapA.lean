/-! heap instructions are sound: fields, arrays -/
def am_Ctx (E : am_E) (S : am_S) (p : Program) (s : State) (m : MethodId) (args : Array Value) (meth : Method) (c : Code) (mid : Nat) : Prop :=
  p.tables.exec = Jvm.exec ∧ c.code = am_code mid ∧ c.maxLocals = am_maxL mid ∧ meth.sig.returnType = am_ret mid ∧ meth.locks = false ∧ ((am_y mid).name = "<init>" → meth.name = "<init>") ∧ s.vm.findClass (am_cn (am_cls mid)) = some m.cls ∧ (∀ w ∈ lw_all, w.before args s = true) ∧ (am_hh mid ≠ [] → c.exceptionTable.toList = tableOf (am_hh mid)) ∧ am_G E S s ∧ (∀ q : Nat, q < am_b E → s.heap[q]? = E.2.2.1[q]?) ∧ am_b E ≤ s.heap.size
theorem am_cl_in {ci : Nat} {q : vw_C} (h : am_CL[ci]? = some q) : ∀ w ∈ u_ws q.1 q.2.1 q.2.2, w ∈ lw_all := by
  match ci, h with
  | 0, h => cases h; exact in_X0
  | 1, h => cases h; exact in_X1
  | 2, h => cases h; exact in_X2
  | 3, h => cases h; exact in_X3
  | 4, h => cases h; exact in_X4
  | 5, h => cases h; exact in_X5
  | 6, h => cases h; exact in_X6
  | 7, h => cases h; exact in_X7
  | 8, h => cases h; exact in_X8
  | 9, h => cases h; exact in_J4
  | n + 10, h => simp [am_CL] at h
theorem am_cl_ty {ci : Nat} {q : vw_C} (h : am_CL[ci]? = some q) : ∀ k, k < q.2.2 → parseFieldDescriptor (q.2.1 k).2.2.1 = some (am_ty ci k) := by
  match ci, h with
  | 0, h => cases h; exact tyX0_ok
  | 1, h => cases h; exact tyX1_ok
  | 2, h => cases h; exact tyX2_ok
  | 3, h => cases h; exact tyX3_ok
  | 4, h => cases h; exact tyX4_ok
  | 5, h => cases h; exact tyX5_ok
  | 6, h => cases h; exact tyX6_ok
  | 7, h => cases h; exact tyX7_ok
  | 8, h => cases h; exact tyX8_ok
  | 9, h => cases h; exact tyJ4_ok
  | n + 10, h => simp [am_CL] at h
theorem am_cl_nm {ci : Nat} {q : vw_C} (h : am_CL[ci]? = some q) : ∀ a, a < q.2.2 → ∀ b, b < q.2.2 → a ≠ b → (q.2.1 a).2.1 ≠ (q.2.1 b).2.1 := by
  match ci, h with
  | 0, h => cases h; exact nmX0
  | 1, h => cases h; exact nmX1
  | 2, h => cases h; exact nmX2
  | 3, h => cases h; exact nmX3
  | 4, h => cases h; exact nmX4
  | 5, h => cases h; exact nmX5
  | 6, h => cases h; exact nmX6
  | 7, h => cases h; exact nmX7
  | 8, h => cases h; exact nmX8
  | 9, h => cases h; exact nmJ4
  | n + 10, h => simp [am_CL] at h
theorem am_in_iff {i : Int32} {n : Nat} : am_in i n = true ↔ vp_in i n := by
  unfold am_in vp_in
  exact decide_eq_true_iff
theorem am_fits_ok {E : am_E} (hcv : ∀ k, (10 ≤ k ∧ E.2.2.2 k = .null) ∨ ∃ a, E.2.2.2 k = .ref a) {ty : FieldType} {v : Value} (h : am_fits ty v = true) : narrow ty (am_phi E v) = am_phi E v ∧ fits ty (am_phi E v) = true := by
  have hr : ∀ k, ∀ ty', (∃ n, ty' = FieldType.object n) ∨ (∃ t, ty' = FieldType.array t) → narrow ty' (E.2.2.2 k) = E.2.2.2 k ∧ fits ty' (E.2.2.2 k) = true := by
    intro k ty' ht
    rcases hcv k with ⟨-, e⟩ | ⟨a, e⟩ <;> rcases ht with ⟨n, rfl⟩ | ⟨t, rfl⟩ <;> rw [e] <;> exact ⟨rfl, rfl⟩
  unfold am_fits at h
  split at h
  · split at h
    · exact ⟨rfl, rfl⟩
    · cases h
  · split at h
    next x =>
      have hx := of_decide_eq_true h
      show narrow .byte (.int x) = .int x ∧ fits .byte (.int x) = true
      rw [← hx]
      exact ⟨pk_nb x, pk_fb x⟩
    next => cases h
  · split at h
    · exact ⟨rfl, rfl⟩
    · exact ⟨rfl, rfl⟩
    · exact hr _ _ (Or.inl ⟨_, rfl⟩)
    · cases h
  · split at h
    · exact ⟨rfl, rfl⟩
    · exact ⟨rfl, rfl⟩
    · exact hr _ _ (Or.inr ⟨_, rfl⟩)
    · cases h
  · cases h
section AMH
variable {p : Program} {l : Launch} {e : Env} {R : Room} {s : State} {m : MethodId} {args : Array Value} {below : List Frame} {meth : Method} {c : Code} {H : Heap} {locs : List Loc} {cells slots : Nat} {Q : State → Prop}
variable {E : am_E} {S : am_S} {mid d pc : Nat} {h h' : am_H} {st st' : List Value} {ls1 : Array Slot}
theorem am_fld_at {own idx ci k : Nat} {nest : Bool} (h : am_fld own idx = some (ci, k, nest)) : am_fldP (own, idx, ci, k, nest) := am_fldL_ok _ (am_lk_mem h)
theorem am_gf_W (C : am_Ctx E S p s m args meth c mid) {idx : Nat} (hd : decode (am_code mid) pc = .ok (.getfield idx, 3)) (hh : am_gf (am_fld (am_cls mid) idx) st h = some (st', h')) (hR : am_Rl E h H) (hlocs : ∀ x ∈ locs, am_b E ≤ x.base) (hsz : s.heap.size ≤ H.size)
    (kk : h' = h → W p l e R s m args below meth c H locs cells slots Q (F0 m (pc + 3) ls1 (st'.map (am_phi E)))) : W p l e R s m args below meth c H locs cells slots Q (F0 m pc ls1 (st.map (am_phi E))) := by
  obtain ⟨hx, hb, -, -, -, -, hown, hts, -, hG, hsh, hbs⟩ := C
  cases hf : am_fld (am_cls mid) idx with
  | none => rw [hf] at hh; cases hh
  | some q =>
    obtain ⟨ci, k, nest⟩ := q
    rw [hf] at hh
    have hok := am_fld_at hf
    unfold am_gf at hh
    split at hh
    next ci' k' nest' a st0 heq =>
      cases heq
      split at hh
      next c1 fs ha =>
        split at hh
        next hc =>
          subst hc
          split at hh
          next v hv =>
            cases hh
            have kk := kk rfl
            have hP := hR.one ha
            obtain ⟨r, hr, -⟩ := hR.2.1 a _ ha
            have hne : (c1 == 100) = false := by
              cases hq : (c1 == 100) with
              | false => rfl
              | true =>
                have : c1 = 100 := by simpa using hq
                subst this
                simp [am_CL] at hr
            unfold am_fldP at hok
            simp only [hne, cond_false] at hok
            obtain ⟨q, hq, hk, hw⟩ := hok
            obtain ⟨C0, T0, N0⟩ := q
            have hv' : (fs.map (am_phi E))[k]? = some (am_phi E v) := by rw [List.getElem?_map, hv]; rfl
            cases nest with
            | false => exact va_get hx hb hts (am_cl_in hq) hown hG.1 hP 0 rfl hq k hk (hts _ hw) (fun _ h => h) hv' hd kk
            | true => exact va_getN hx hb hts (am_cl_in hq) hown hG.1 hP 0 rfl hq k hk (va_Nw.use rfl (hG.2.1 _ hw)) (fun _ h => h) hv' hd kk
          next => cases hh
        next => cases hh
      next => cases hh
    next ci' k' nest' r st0 heq =>
      cases heq
      split at hh
      next hc =>
        obtain ⟨rfl, hr1, hr2⟩ := hc
        cases hh
        have kk := kk rfl
        obtain ⟨a, v, e1, e2, q1, q2, q3⟩ := hG.2.2.2.2.2.2.1 r hr1 hr2
        have hS : va_S (am_A E) s.heap H locs := ⟨hsz, fun q hq hA => by
          have hqb : q < am_b E := Nat.not_le.mp hA
          rw [hsh q hqb]; exact hR.2.2.1 q hqb, hlocs⟩
        have hkeep : ∀ q : Nat, q < E.2.2.1.size → ¬ am_A E q → s.heap[q]? = E.2.2.1[q]? := fun q hq _ => hsh q hq
        show W p l e R s m args below meth c H locs cells slots Q (F0 m pc ls1 (E.2.2.2 r :: st0.map (am_phi E)))
        rw [e1]
        unfold am_fldP at hok
        cases k with
        | zero =>
          have hw : Cond.fieldLink (am_cn (am_cls mid)) idx "java/lang/String" "value" "[B" ∈ lw_all := hok
          have kk : W p l e R s m args below meth c H locs cells slots Q (F0 m (pc + 3) ls1 (E.2.2.2 (r + 5) :: st0.map (am_phi E))) := kk
          rw [e2] at kk
          exact vk_getf hx hb (q3.kept hkeep) hS hown (hts _ hw) (fun _ h => h) hd kk
        | succ k =>
          have hw : Cond.fieldLink (am_cn (am_cls mid)) idx "java/lang/String" "coder" "B" ∈ lw_all := hok
          exact vk_getf hx hb (q2.kept hkeep) hS hown (hts _ hw) (fun _ h => h) hd kk
      next => cases hh
    next => cases hh
theorem am_pf_W (C : am_Ctx E S p s m args meth c mid) {idx : Nat} (hd : decode (am_code mid) pc = .ok (.putfield idx, 3)) (hh : am_pf mid (am_fld (am_cls mid) idx) st h = some (st', h')) (hR : am_Rl E h H) (hlocs : ∀ x ∈ locs, am_b E ≤ x.base)
    (kk : ∀ H1 locs1, am_Rl E h' H1 → (∀ x ∈ locs1, am_b E ≤ x.base) → H1.size = H.size → h'.length = h.length → am_slots h' = am_slots h → W p l e R s m args below meth c H1 locs1 cells slots Q (F0 m (pc + 3) ls1 (st'.map (am_phi E)))) : W p l e R s m args below meth c H locs cells slots Q (F0 m pc ls1 (st.map (am_phi E))) := by
  obtain ⟨hx, hb, -, -, -, hmn, hown, hts, -, hG, hsh, hbs⟩ := C
  cases hf : am_fld (am_cls mid) idx with
  | none => rw [hf] at hh; cases hh
  | some q =>
    obtain ⟨ci, k, nest⟩ := q
    rw [hf] at hh
    have hok := am_fld_at hf
    unfold am_pf at hh
    split at hh
    next ci' k' nest' v a st0 heq =>
      cases heq
      split at hh
      next c1 fs ha =>
        split at hh
        next hc =>
          obtain ⟨rfl, hkl, hfok⟩ := hc
          cases hh
          obtain ⟨r, hr, cell, q1, q2, q3, q4⟩ := hR.2.1 a _ ha
          have hne : (c1 == 100) = false := by
            cases hq : (c1 == 100) with
            | false => rfl
            | true =>
              have : c1 = 100 := by simpa using hq
              subst this
              simp [am_CL] at hr
          unfold am_fldP at hok
          simp only [hne, cond_false] at hok
          obtain ⟨q, hq, hk, hw⟩ := hok
          have hrq : r = q := Option.some.inj (hr.symm.trans hq)
          subst hrq
          obtain ⟨C0, T0, N0⟩ := r
          unfold am_fok at hfok
          rw [Bool.and_eq_true] at hfok
          obtain ⟨hft, hfin⟩ := hfok
          obtain ⟨hn, hfit⟩ := am_fits_ok (E := E) hG.2.2.2.2.2.2.2.2.2.1 hft
          have hty := am_cl_ty hq k hk
          have hin := am_cl_in hq
          have hap := va_apart (own := am_cn (am_cls mid)) hts hin (am_ty c1) (am_cl_ty hq) (am_cl_nm hq) hG.1 hq
          obtain ⟨hSl, hfc, kC, hkC, hkind⟩ := hG.1.1 c1 _ hq
          obtain ⟨cf, kf, fi, f, hi, hsl⟩ := hSl k hk
          have hlay := hts _ (hin _ (u_in_lay hk))
          have hst := (u_facts hfc hkC (u_lays hts hin hk) hi).1
          have hlt : f.slot < cell.slots.size := by rw [hsl]; exact k2_hasslot (q4 k hk)
          have fin : ∀ H' : Heap, H'[am_b E + a]? = some (cell.setSlot f.slot (am_phi E v)) → H'.size = H.size → (∀ q, q ≠ am_b E + a → H'[q]? = H[q]?) → W p l e R s m args below meth c H' (locs ++ [⟨am_b E + a, f.slot⟩]) cells slots Q (F0 m (pc + 3) ls1 (st'.map (am_phi E))) := by
            intro H' e1 e2 e3
            rw [hsl] at e1
            refine kk H' _ (hR.set ha e2 ?_ e3 (hR.2.2.2.set ha (fun k0 fs0 he => by cases he; exact ⟨_, rfl⟩) trivial)) (fun x hx => ?_) e2 (List.length_set ..) (am_slots_set ha (by simp [am_csz]))
            · refine ⟨_, hq, ?_⟩
              have hb1 : t_OB (am_b E + a) (E.1.1 c1) N0 (E.1.2 c1) H' (updV (vp_V (fs.map (am_phi E))) k (am_phi E v)) := ⟨_, e1, q2, q3, t_set q4 hap hk _⟩
              refine hb1.to (fun j _ => ?_)
              show _ = vp_V ((fs.set k v).map (am_phi E)) j
              rw [vp_updV_set (by rw [List.length_map]; exact hkl), List.map_set]
            · rcases List.mem_append.mp hx with h1 | h1
              · exact hlocs x h1
              · rw [List.mem_singleton.mp h1]; exact Nat.le_add_right _ _
          cases nest with
          | true =>
            have hfin0 : (T0 k).2.2.2 = false := by
              have h9 : am_fin c1 k = false := by simpa using hfin
              unfold am_fin at h9
              rw [hq] at h9
              exact h9
            unfold u_lay at hlay
            rw [if_neg (by rw [hfin0]; decide)] at hlay
            have h6 := u_store hfc hkC hkind hlay hi hty hn hfit
            exact va_WputK hx hb (f := f) hown (va_Nw.use rfl (hG.2.1 _ hw)) hi hst (by rw [q2]; exact h6) q1 q3 hlt rfl rfl hd fin
          | false =>
            cases hfin0 : (T0 k).2.2.2 with
            | false =>
              unfold u_lay at hlay
              rw [if_neg (by rw [hfin0]; decide)] at hlay
              have h6 := u_store hfc hkC hkind hlay hi hty hn hfit
              exact W.putK hx hb (f := f) ⟨hown, hts _ hw, ⟨_, _, _, hi⟩, hst⟩ (by rw [q2]; exact h6) q1 q3 hlt rfl rfl hd fin
            | true =>
              have h9 : (am_y mid).name = "<init>" ∧ am_dec c1 k = am_cn (am_cls mid) := by
                have h8 : am_fin c1 k = true := by
                  unfold am_fin
                  rw [hq]
                  exact hfin0
                rw [h8] at hfin
                simpa using hfin
              have hdecl : (T0 k).1 = am_cn (am_cls mid) := by
                have h8 := h9.2
                unfold am_dec at h8
                rw [hq] at h8
                exact h8
              unfold u_lay at hlay
              rw [if_pos hfin0] at hlay
              have hcf : m.cls = cf := by
                obtain ⟨_, _, c', _, _, _, -, -, hf', -, -, -, hown2, -⟩ := Cond.laysFinal_spec hlay
                have e1 : c' = cf := by have := hi.symm.trans hf'; simp at this; exact this.1.symm
                rw [hdecl] at hown2
                rw [← e1]; exact Option.some.inj (hown.symm.trans hown2)
              have h6 := u_fits hfc hkC hkind (Or.inr hlay) hi hty hn hfit
              exact W.putFinK hx hb hown (hts _ hw) hi hst hcf (hmn h9.1) (by rw [q2]; exact h6) q1 q3 hlt rfl rfl hd fin
        next => cases hh
      next => cases hh
    next => cases hh
end AMH
