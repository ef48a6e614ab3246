/-! the abstract machine is sound -/
section AMT
variable {l : Launch} {S : am_S} {E : am_E} {d cm : Nat} {h h1 : am_H} {as : List Value}
def am_XC (E : am_E) (h1 : am_H) : State → State → Prop := fun _ t => am_Rl E h1 t.heap
set_option maxHeartbeats 1000000 in
/-- the contract of a method that throws -/
theorem am_metX (hcm : cm < 180) (hhh : am_hh cm = []) {a : Nat} (hsnd : am_Snd S (d, cm, 0, am_ent (am_maxL cm) as, [], h) (.inr a, h1)) (hsl : (am_sl as).length ≤ am_maxL cm) (has : ∀ v ∈ as, am_one v = true ∨ ∃ x, v = .long x) (hlong : ∀ (j : Nat) (x : Int64), (am_sl as)[j]? = some (some (.long x)) → j ∈ am_lsl cm) :
    MetFree l (am_y cm) (headSpec (am_ws cm) (am_rm d h h1)) (am_Pc E S h as) (fun _ _ _ _ _ => True) (am_XQ (am_b E + a) (am_XC E h1) (h1.length - h.length) (am_slots h1 - am_slots h) (am_A E)) := by
  obtain ⟨hg, hgs, hex, hW⟩ := hsnd
  have hg : h.length ≤ h1.length := hg
  have hgs : am_slots h ≤ am_slots h1 := hgs
  have hex : am_isC h1 a 7 = true := hex a rfl
  obtain ⟨-, -, -, hpl, hcn, -, -, -⟩ := am_m_ok hcm
  refine MetFree.of_bodyS (code := am_code cm) (maxLocals := am_maxL cm) (ret := am_ret cm) hpl ?_ ?_
  · intro args s m h9 hn
    obtain ⟨meth, c, h1, h2, h3, h4, h5, h6, -, -⟩ := Cond.code_spec hn (atoms_spec (ws := am_ws cm) h9 _ List.mem_cons_self)
    exact ⟨meth, c, h1, h2, h3, h4, h5, h6⟩
  · intro p e s m args below meth c s₁ B hml hv _
    have hh0 : s₁.heap = s.heap := by rw [B.state]; rfl
    have htab : ∀ x ∈ c.exceptionTable.toList, False := by
      obtain ⟨meth9, c9, g1, g2, -, -, -, -, g7, -⟩ := Cond.code_spec B.named (atoms_spec (ws := am_ws cm) B.pre _ List.mem_cons_self)
      cases Option.some.inj (g1.symm.trans B.method)
      cases Option.some.inj (g2.symm.trans (Stand.of_body B).code)
      intro x hx
      rw [Array.isEmpty_iff.mp g7] at hx
      cases hx
    obtain ⟨rfl, hG, hR⟩ := hv
    have hts0 := atoms_spec (ws := am_ws cm) B.pre
    have hcv := hG.2.2.2.2.2.2.2.2.2.1
    have C : am_Ctx E S p s m (as.map (am_phi E)).toArray meth c cm := ⟨B.exec, B.bytes, hml, B.returns, B.notSynchronized, fun q => (name_of_methodNamed B.named B.method).1.trans q, by rw [show am_cn (am_cls cm) = (am_y cm).cls from hcn]; exact findClass_of_methodNamed B.named, fun w hw => hts0 w (List.mem_cons_of_mem _ hw), fun q => absurd hhh q, hG, hR.2.2.1, by rw [hR.1]; exact Nat.le_add_right _ _⟩
    have key : W p l e (headSpec (am_ws cm) (am_rm d h h1)).room s m (as.map (am_phi E)).toArray below meth c s.heap [] 0 0 (fun t => ∃ o, t.status = .running ∧ Ended t below o ∧ am_XQ (am_b E + a) (am_XC E h1) (h1.length - h.length) (am_slots h1 - am_slots h) (am_A E) (as.map (am_phi E)).toArray s o t) (entryFrame m (as.map (am_phi E)).toArray (am_maxL cm)) := by
      rw [lg_entry_eq]
      refine hW E p l e _ s m _ below meth c s.heap [] 0 0 _ _ C (Nat.le_refl _) (Nat.le_refl _) hR (am_ent_LR hcv hsl hlong has) (fun x hx => by cases hx) (Nat.le_refl _) ?_ ?_ ?_
      · show 0 + h1.length ≤ (h1.length - h.length) + h.length; omega
      · show 0 + am_slots h1 ≤ (am_slots h1 - am_slots h) + am_slots h; omega
      · intro H2 locs2 cells2 slots2 ls2 pc2 hR2 hl2 hz2 hc2 hs2
        have hc2 : cells2 + h.length = 0 + h1.length := hc2
        have hs2 : slots2 + am_slots h = 0 + am_slots h1 := hs2
        refine ⟨fun v' i st2 hv => (by cases hv), fun a' rest2 hv _ => ?_⟩
        cases hv
        obtain ⟨fs, hfs⟩ := am_isC_iff.mp hex
        obtain ⟨r', hr', ce, g1, g2, g3, -⟩ := hR2.2.1 a _ hfs
        have hr' : am_CL[7]? = some r' := hr'
        have hcl : s.vm.findClass RX7 = some ce.cls := by
          cases hr'
          rw [g2]
          exact (hG.1.1 7 _ rfl).2.1
        intro T hT X
        obtain ⟨st1, hrun, hend, hWm, hsm⟩ := X.leaveThrown (am_b E + a) (g := F0 m pc2 ls2 rest2) rfl rfl rfl (fun x hx => (htab x hx).elim) B.notSynchronized
        have hcell9 : (T.setFrames (.throwing (am_b E + a) :: below)).heap[am_b E + a]? = some ce := by
          show T.heap[am_b E + a]? = some ce
          rw [hT]; exact g1
        exact ⟨_, st1, .threw (am_b E + a), hrun, hend, rfl, RX7, ce, locs2, ⟨rfl, by show am_Rl E h1 T.heap; rw [hT]; exact hR2⟩, hcell9, g3, hcl, hWm, hsm.mono (by omega) (by omega), hl2⟩
    obtain ⟨t, a1, o, b1, b2, b3⟩ := key s₁ hh0 (Stand.of_body B)
    exact ⟨t, o, a1, b1, b2, b3⟩
end AMT
section AMV
variable {p : Program} {l : Launch} {e : Env} {R : Room} {s : State} {m : MethodId} {args : Array Value} {below : List Frame} {meth : Method} {c : Code} {H : Heap} {locs : List Loc} {cells slots : Nat} {Q : State → Prop}
variable {E : am_E} {S : am_S} {mid d pc : Nat} {h h1 : am_H} {as rest : List Value} {ls1 : Array Slot}
set_option maxHeartbeats 2000000 in
/-- a call whose callee throws -/
theorem am_callX_W (C : am_Ctx E S p s m args meth c mid) {i : Instr} (hd : decode (am_code mid) pc = .ok (i, 3)) {cm a : Nat} (hcall : am_call mid i = some (2, cm)) (hfr : d + 1 ≤ R.frames) (hlo : 50 * (d + 1) ≤ R.locals) (hls : ls1.size = am_maxL mid) (hn : as.length = (if am_stc cm then am_np cm else am_np cm + 1)) (hrs : (rest.map fun v => v.category).sum ≤ 8) (hrcv : am_stc cm = false → ∃ r as', as = r :: as' ∧ am_rcv h 2 cm r = true) (hok : am_aok cm as = true)
    (hsnd : am_Snd S (d, cm, 0, am_ent (am_maxL cm) as, [], h) (.inr a, h1)) (hR : am_Rl E h H) (hlocs : ∀ x ∈ locs, am_b E ≤ x.base) (hsz : s.heap.size ≤ H.size) (hce : cells + h1.length ≤ R.cells + h.length) (hsl : slots + am_slots h1 ≤ R.slots + am_slots h)
    (kk : ∀ H1 locs1 cells1 slots1 ce, am_Rl E h1 H1 → (∀ x ∈ locs1, am_b E ≤ x.base) → s.heap.size ≤ H1.size → cells1 + h.length = cells + h1.length → slots1 + am_slots h = slots + am_slots h1 → H1[am_b E + a]? = some ce → ce.vm = .none → s.vm.findClass RX7 = some ce.cls → vx_W p l e R s m args below meth c H1 locs1 cells1 slots1 Q (F0 m pc ls1 (rest.map (am_phi E))) (am_b E + a)) :
    W p l e R s m args below meth c H locs cells slots Q (F0 m pc ls1 ((as.reverse ++ rest).map (am_phi E))) := by
  obtain ⟨hx, hb, hml, -, -, -, hown, hts, -, hG, hsh, hbs⟩ := C
  have hcv := hG.2.2.2.2.2.2.2.2.2.1
  obtain ⟨ha1, ha2, ha3⟩ := am_aok_spec hok
  have hg1 : h.length ≤ h1.length := hsnd.1
  have hg2 : am_slots h ≤ am_slots h1 := hsnd.2.1
  have hrs' : ((rest.map (am_phi E)).map fun v => v.category).sum ≤ 8 := by rw [am_sum_phi hcv]; exact hrs
  cases i with
  | invokevirtual idx =>
    simp only [am_call] at hcall
    split at hcall
    next k0 cm0 hlk =>
      split at hcall
      next hk =>
        cases hcall
        obtain ⟨-, -, w2, -, -, -, -, -, -, hcm⟩ := am_callL_ok _ (am_lk_mem hlk)
        have hcm : cm < 180 := hcm
        have hL := am_m_maxL hcm
        obtain ⟨wl, wse, wst, whh⟩ := w2 rfl
        have wst : am_stc cm = false := wst
        have whh : am_hh cm = [] := whh
        rw [wst] at hn
        obtain ⟨r, as', rfl, hr⟩ := hrcv wst
        obtain ⟨bb, e1, hrc, -⟩ := am_recv hG hR hcm hr
        have hst2 : ((r :: as').reverse ++ rest).map (am_phi E) = (as'.map (am_phi E)).reverse ++ .ref bb :: rest.map (am_phi E) := by
          rw [List.map_append, List.map_reverse, List.map_cons, e1, List.reverse_cons, List.append_assoc]; rfl
        have pre2 : ∀ U : State, U.heap = H → s.WarmedH U.vm → am_Pc E S h (r :: as') (Value.ref bb :: as'.map (am_phi E)).toArray U := by
          intro U hU hW
          have : am_Pc E S h (r :: as') ((r :: as').map (am_phi E)).toArray U := ⟨rfl, hG.moved hW, by rw [hU]; exact hR⟩
          rw [List.map_cons, e1] at this
          exact this
        rw [hst2]
        refine am_xrunV (Ts := lw_all) (nL := am_maxL mid) ⟨hx, hb, hml, hown, hts⟩ (am_metX (l := l) (E := E) hcm whh hsnd ha1 ha2 ha3) (cwV (am_np cm) hts (lw_V wl (am_m_inst hcm wst) wse (am_m_init hcm) (am_m_code hcm whh)) rfl rfl rfl ⟨rfl, (am_m_mh hcm).1, (am_m_mh hcm).2, am_m_len hcm⟩ ⟨hfr, by show 8 + (am_maxL cm + 11) + 50 * d ≤ R.locals; omega⟩) ⟨am_blind, hrc (Or.inl rfl), pre2⟩ (by rw [List.length_map]; simpa using hn) hls hrs' hd ⟨by omega, by omega⟩ (fun st t L ce hL hxc hce2 hcv2 hcl => ?_)
        have hxc : am_Rl E h1 t.heap := hxc
        exact kk t.heap (locs ++ L) _ _ ce hxc (fun x hx => by
          rcases List.mem_append.mp hx with hq | hq
          · exact hlocs x hq
          · exact hL x hq) (by rw [hxc.1]; rw [hR.1] at hsz; omega) (by omega) (by omega) hce2 hcv2 hcl
      next => cases hcall
    next => cases hcall
  | invokestatic idx =>
    simp only [am_call] at hcall
    split at hcall
    next k0 cm0 hlk =>
      split at hcall
      next hk => cases hcall; omega
      next => cases hcall
    next => cases hcall
  | invokespecial idx =>
    simp only [am_call] at hcall
    split at hcall
    next k0 cm0 hlk =>
      split at hcall
      next hk => cases hcall; omega
      next => cases hcall
    next => cases hcall
  | _ => cases hcall
end AMV
theorem am_hnd_only {mid : Nat} (hm : am_hh mid ≠ []) (hmid : mid < 181) : mid = 23 := by
  have h : ∀ k, k < 181 → am_hh k ≠ [] → k = 23 := by
    have h1 : (List.range 181).all (fun k => (am_hh k).isEmpty || k == 23) = true := by decide +kernel
    intro k hk hne
    have h2 := List.all_eq_true.mp h1 k (List.mem_range.mpr hk)
    rw [Bool.or_eq_true] at h2
    rcases h2 with h2 | h2
    · exact absurd (List.isEmpty_iff.mp h2) hne
    · simpa using h2
  exact h mid hmid hm
theorem am_mid_lt {mid pc len : Nat} {i : Instr} (h : decode (am_code mid) pc = .ok (i, len)) : mid < 181 := by
  by_cases hm : mid < 181
  · exact hm
  · have e : am_code mid = ⟨#[]⟩ := by
      unfold am_code am_mi
      rw [List.getD_eq_getElem?_getD, List.getElem?_eq_none (by rw [show am_tab.length = 181 by decide +kernel]; omega)]
      rfl
    rw [e] at h
    exfalso
    have h9 : ∀ pc, ∃ er, decode (⟨#[]⟩ : ByteArray) pc = .error er := by
      intro pc
      exact ⟨_, rfl⟩
    obtain ⟨er, he⟩ := h9 pc
    rw [he] at h
    cases h
set_option maxHeartbeats 4000000 in
theorem am_Snd_clo (S : am_S) : am_clo S (am_Snd S) := by
  intro cf o hs
  obtain ⟨d, mid, pc, ls, st, h⟩ := cf
  obtain ⟨i, len, hd, hdo⟩ := hs
  have hd : decode (am_code mid) pc = .ok (i, len) := hd
  have hdo : am_do S (am_Snd S) i len d mid pc ls st h o := hdo
  have hmid := am_mid_lt hd
  unfold am_do at hdo
  split at hdo
  next q hp =>
    obtain ⟨pc', ls', st'⟩ := q
    obtain ⟨g1, g2, g3, g4⟩ := hdo
    refine ⟨g1, g2, g3, ?_⟩
    intro E p l e R s m args below meth cd H locs cells slots Q ls1 C hfr hlo hR hL hlocs hsz hce hsl hend
    have hcv := C.2.2.2.2.2.2.2.2.2.1.2.2.2.2.2.2.2.2.2.1
    exact am_pure_W C.1 C.2.1 hcv hd hp hL (fun ls2 hL2 => g4 E p l e R s m args below meth cd H locs cells slots Q ls2 C hfr hlo hR hL2 hlocs hsz hce hsl hend)
  next hp =>
    split at hdo
    next q hh =>
      obtain ⟨st', h'⟩ := q
      obtain ⟨hlen, g1, g2, g3, g4⟩ := hdo
      obtain ⟨k1, k2⟩ := am_heap_grow hh
      have g1 : h'.length ≤ o.2.length := g1
      have g2 : am_slots h' ≤ am_slots o.2 := g2
      refine ⟨Nat.le_trans k1 g1, Nat.le_trans k2 g2, g3, ?_⟩
      intro E p l e R s m args below meth cd H locs cells slots Q ls1 C hfr hlo hR hL hlocs hsz hce hsl hend
      have hce : cells + o.2.length ≤ R.cells + h.length := hce
      have hsl : slots + am_slots o.2 ≤ R.slots + am_slots h := hsl
      refine am_heap_W C hd hlen hh hfr hlo hR hlocs hsz hL.1 (by omega) (by omega) (fun H1 locs1 cells1 slots1 r1 l1 z1 c1 s1 => ?_)
      refine g4 E p l e R s m args below meth cd H1 locs1 cells1 slots1 Q ls1 C hfr hlo r1 hL l1 z1 (by show cells1 + o.2.length ≤ R.cells + h'.length; omega) (by show slots1 + am_slots o.2 ≤ R.slots + am_slots h'; omega) ?_
      intro H2 locs2 cells2 slots2 ls2 pc2 r2 l2 z2 c2 s2
      exact hend H2 locs2 cells2 slots2 ls2 pc2 r2 l2 z2 (by show cells2 + h.length = cells + o.2.length; have c2 : cells2 + h'.length = cells1 + o.2.length := c2; omega) (by show slots2 + am_slots h = slots + am_slots o.2; have s2 : slots2 + am_slots h' = slots1 + am_slots o.2 := s2; omega)
    next hh =>
      rcases hdo with ⟨rfl, v, hret, rfl⟩ | ⟨rfl, rfl, a, rest, rfl, hia, hnd, rfl⟩ | ⟨rfl, k, cm, d', as, rest, o1, hcall, rfl, rfl, hn, hrs, hrcv, hok, hsnd, hcont⟩
      · refine ⟨Nat.le_refl _, Nat.le_refl _, fun a ha => (by cases ha), ?_⟩
        intro E p l e R s m args below meth cd H locs cells slots Q ls1 C hfr hlo hR hL hlocs hsz hce hsl hend
        exact (hend H locs cells slots ls1 pc hR hlocs hsz rfl rfl).1 v i st rfl hd hret
      · refine ⟨Nat.le_refl _, Nat.le_refl _, fun a' ha => by cases ha; exact hia, ?_⟩
        intro E p l e R s m args below meth cd H locs cells slots Q ls1 C hfr hlo hR hL hlocs hsz hce hsl hend
        exact vx_athrow C.1 C.2.1 hd ((hend H locs cells slots ls1 pc hR hlocs hsz rfl rfl).2 a _ rfl hnd)
      · obtain ⟨r1, h1⟩ := o1
        have m1 : h.length ≤ h1.length := hsnd.1
        have m2 : am_slots h ≤ am_slots h1 := hsnd.2.1
        cases r1 with
        | inl v =>
          have hcont : am_Snd S (d' + 1, mid, pc + 3, ls, v.toList ++ rest, h1) o := hcont
          obtain ⟨g1, g2, g3, g4⟩ := hcont
          have g1 : h1.length ≤ o.2.length := g1
          have g2 : am_slots h1 ≤ am_slots o.2 := g2
          refine ⟨Nat.le_trans m1 g1, Nat.le_trans m2 g2, g3, ?_⟩
          intro E p l e R s m args below meth cd H locs cells slots Q ls1 C hfr hlo hR hL hlocs hsz hce hsl hend
          have hce : cells + o.2.length ≤ R.cells + h.length := hce
          have hsl : slots + am_slots o.2 ≤ R.slots + am_slots h := hsl
          refine am_call_W C hd hcall hfr hlo hL.1 hn hrs hrcv hok hsnd hR hlocs hsz (by omega) (by omega) (fun H1 locs1 cells1 slots1 r1 l1 z1 c1 s1 => ?_)
          refine g4 E p l e R s m args below meth cd H1 locs1 cells1 slots1 Q ls1 C hfr hlo r1 hL l1 z1 (by show cells1 + o.2.length ≤ R.cells + h1.length; omega) (by show slots1 + am_slots o.2 ≤ R.slots + am_slots h1; omega) ?_
          intro H2 locs2 cells2 slots2 ls2 pc2 r2 l2 z2 c2 s2
          exact hend H2 locs2 cells2 slots2 ls2 pc2 r2 l2 z2 (by show cells2 + h.length = cells + o.2.length; have c2 : cells2 + h1.length = cells1 + o.2.length := c2; omega) (by show slots2 + am_slots h = slots + am_slots o.2; have s2 : slots2 + am_slots h1 = slots1 + am_slots o.2 := s2; omega)
        | inr a =>
          have hcont : k = 2 ∧ (match am_hnd mid pc with
            | some tg => am_Snd S (d' + 1, mid, tg, ls, [.ref a], h1) o
            | none => o = (.inr a, h1)) := hcont
          obtain ⟨hk2, hcont2⟩ := hcont
          clear hcont
          subst hk2
          have hex : am_isC h1 a 7 = true := hsnd.2.2.1 a rfl
          cases hnd : am_hnd mid pc with
          | none =>
            rw [hnd] at hcont2
            have hcont : o = (.inr a, h1) := hcont2
            subst hcont
            refine ⟨m1, m2, fun a' ha => by cases ha; exact hex, ?_⟩
            intro E p l e R s m args below meth cd H locs cells slots Q ls1 C hfr hlo hR hL hlocs hsz hce hsl hend
            have hce : cells + h1.length ≤ R.cells + h.length := hce
            have hsl : slots + am_slots h1 ≤ R.slots + am_slots h := hsl
            refine am_callX_W C hd hcall hfr hlo hL.1 hn hrs hrcv hok hsnd hR hlocs hsz hce hsl (fun H1 locs1 cells1 slots1 ce r1 l1 z1 c1 s1 _ _ _ => ?_)
            exact (hend H1 locs1 cells1 slots1 ls1 pc r1 l1 z1 c1 s1).2 a _ rfl hnd
          | some tg =>
            rw [hnd] at hcont2
            have hcont : am_Snd S (d' + 1, mid, tg, ls, [.ref a], h1) o := hcont2
            obtain ⟨g1, g2, g3, g4⟩ := hcont
            have g1 : h1.length ≤ o.2.length := g1
            have g2 : am_slots h1 ≤ am_slots o.2 := g2
            refine ⟨Nat.le_trans m1 g1, Nat.le_trans m2 g2, g3, ?_⟩
            intro E p l e R s m args below meth cd H locs cells slots Q ls1 C hfr hlo hR hL hlocs hsz hce hsl hend
            have hce : cells + o.2.length ≤ R.cells + h.length := hce
            have hsl : slots + am_slots o.2 ≤ R.slots + am_slots h := hsl
            have hne : am_hh mid ≠ [] := by
              intro q
              unfold am_hnd at hnd
              rw [q] at hnd
              cases hnd
            have hm23 := am_hnd_only hne hmid
            subst hm23
            have hnd2 : pc < 24 ∧ tg = 25 := by
              have h9 : am_hnd 23 pc = if 0 ≤ pc ∧ pc < 24 then some 25 else none := rfl
              rw [h9] at hnd
              split at hnd
              next hq => cases hnd; exact ⟨hq.2, rfl⟩
              next => cases hnd
            obtain ⟨hpc, rfl⟩ := hnd2
            have htab : cd.exceptionTable.toList = [⟨0, 24, 25, 153⟩] := C.2.2.2.2.2.2.2.2.1 hne
            refine am_callX_W C hd hcall hfr hlo hL.1 hn hrs hrcv hok hsnd hR hlocs hsz (by omega) (by omega) (fun H1 locs1 cells1 slots1 ce r1 l1 z1 c1 s1 hc1 hc2 hc3 => ?_)
            refine vx_catch (own := RX0) (name := RX7) (E := RX7) C.2.2.2.2.2.2.1 [] ⟨0, 24, 25, 153⟩ [] htab (fun z hz => by cases hz) ?_ (by decide) (C.2.2.2.2.2.2.2.1 _ q423) (va_Nw.use rfl (C.2.2.2.2.2.2.2.2.2.1.2.1 _ (List.mem_of_getElem? (i := 55) rfl))) hc1 hc2 hc3 ?_
            · show (decide (0 ≤ pc) && decide (pc < 24)) = true
              simp [hpc]
            · refine g4 E p l e R s m args below meth cd H1 locs1 cells1 slots1 Q ls1 C hfr hlo r1 hL l1 z1 (by show cells1 + o.2.length ≤ R.cells + h1.length; omega) (by show slots1 + am_slots o.2 ≤ R.slots + am_slots h1; omega) ?_
              intro H2 locs2 cells2 slots2 ls2 pc2 r2 l2 z2 c2 s2
              exact hend H2 locs2 cells2 slots2 ls2 pc2 r2 l2 z2 (by show cells2 + h.length = cells + o.2.length; have c2 : cells2 + h1.length = cells1 + o.2.length := c2; omega) (by show slots2 + am_slots h = slots + am_slots o.2; have s2 : slots2 + am_slots h1 = slots1 + am_slots o.2 := s2; omega)
/-- SOUNDNESS: what the abstract machine comes to, the real one comes to -/
theorem am_sound {S : am_S} {c : am_Cfg} {o : am_Out} (h : am_Ev S c o) : am_Snd S c o := h _ (am_Snd_clo S)
