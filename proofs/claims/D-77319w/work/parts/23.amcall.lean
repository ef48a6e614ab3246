/-! calls are sound -/
theorem am_goodIn {ws : List Cond} (h : ∀ w ∈ ws, w ∈ lw_all ++ am_XW) : GoodIn (lw_all ++ am_XW) ws := by
  intro w hw
  refine ⟨h w hw, ?_⟩
  rcases List.mem_append.mp (h w hw) with h1 | h1
  · exact good_of_word (List.mem_filter.mp h1).2
  · exact good_of_word (am_XW_ok w h1)
theorem am_m_code {cm : Nat} (hcm : cm < 180) (hhh : am_hh cm = []) : Cond.code (am_y cm) (am_code cm) (am_maxL cm) (am_ret cm) ∈ lw_all := by
  have h := (am_m_ok hcm).1
  rw [show (am_mi cm).2.2.2.2.2.2.2.2 = [] from hhh] at h
  exact h
theorem am_m_codeW {cm : Nat} (hcm : cm < 180) (hhh : am_hh cm ≠ []) : Cond.codeWith (am_y cm) (am_code cm) (am_maxL cm) (am_ret cm) (am_hh cm) ∈ lw_all := by
  have h := (am_m_ok hcm).1
  have h1 : (am_mi cm).2.2.2.2.2.2.2.2.isEmpty = false := by
    cases hq : (am_mi cm).2.2.2.2.2.2.2.2 with
    | nil => exact absurd hq hhh
    | cons a l => rfl
  rw [h1] at h
  exact h
theorem am_m_inst {cm : Nat} (hcm : cm < 180) (hs : am_stc cm = false) : Cond.instanceMethod (am_y cm) ∈ lw_all := by
  have h := (am_m_ok hcm).2.1
  rw [show (am_mi cm).2.2.2.2.2.2.1 = false from hs] at h
  exact h
theorem am_m_stat {cm : Nat} (hcm : cm < 180) (hs : am_stc cm = true) : Cond.static (am_y cm) ∈ lw_all := by
  have h := (am_m_ok hcm).2.1
  rw [show (am_mi cm).2.2.2.2.2.2.1 = true from hs] at h
  exact h
theorem am_m_len {cm : Nat} (hcm : cm < 180) : (parseMethodDescriptor (am_y cm).desc).map (fun d => d.parameters.length) = some (am_np cm) := (am_m_ok hcm).2.2.2.2.2.2.1
theorem am_m_maxL {cm : Nat} (hcm : cm < 180) : am_maxL cm ≤ 10 := (am_m_ok hcm).2.2.2.2.2.2.2
theorem am_m_mh {cm : Nat} (hcm : cm < 180) : (am_y cm).cls ≠ "java/lang/invoke/MethodHandle" ∧ (am_y cm).cls ≠ "java/lang/invoke/VarHandle" := (am_m_ok hcm).2.2.2.2.2.1
theorem am_m_init {cm : Nat} (hcm : cm < 180) : Cond.initialized (am_y cm).cls ∈ lw_all := (am_m_ok hcm).2.2.1
section AMK
variable {p : Program} {l : Launch} {e : Env} {R : Room} {s : State} {m : MethodId} {args : Array Value} {below : List Frame} {meth : Method} {c : Code} {H : Heap} {locs : List Loc} {cells slots : Nat} {Q : State → Prop}
variable {E : am_E} {S : am_S} {mid d pc : Nat} {h h1 : am_H} {as rest : List Value} {ls1 : Array Slot} {v : Option Value}
/-- behind a call that returned -/
theorem am_after {mc ms : Nat} {st0 rest0 : List Value} {a : Array Value} (hr : va_Run p l e R s m args below meth c H locs cells slots mc ms (F0 m pc ls1 st0) rest0 (am_Qc E v h1 a) (am_A E)) (hlocs : ∀ x ∈ locs, am_b E ≤ x.base)
    (kk : ∀ H1 locs1, am_Rl E h1 H1 → (∀ x ∈ locs1, am_b E ≤ x.base) → W p l e R s m args below meth c H1 locs1 (cells + mc) (slots + ms) Q (F0 m (pc + 3) ls1 ((v.map (am_phi E)).toList ++ rest0))) : W p l e R s m args below meth c H locs cells slots Q (F0 m pc ls1 st0) := by
  intro T hT X
  obtain ⟨w, st₀, t, T', L, h0, X', hL, e1, e2, ⟨hw, hRl⟩, st⟩ := hr T hT X
  cases hw
  obtain ⟨t2, a1, b1⟩ := kk T'.heap (locs ++ L) (by rw [e1]; exact hRl) (fun x hx => by
    rcases List.mem_append.mp hx with hq | hq
    · exact hlocs x hq
    · exact hL x hq) T' rfl X'
  exact ⟨t2, st t2 a1, b1⟩
/-- the receiver of a call -/
theorem am_recv (hG : am_G E S s) (hR : am_Rl E h H) {k cm : Nat} (hcm : cm < 180) {r : Value} (hr : am_rcv h k cm r = true) :
    ∃ bb : Nat, am_phi E r = .ref bb ∧ (k = 2 ∨ k = 7 → ∃ cellB : Cell, H[bb]? = some cellB ∧ cellB.vm.isStatics = false ∧ s.vm.findClass (am_y cm).cls = some cellB.cls) ∧ (k = 3 ∨ k = 6 → ∃ cellB : Cell, H[bb]? = some cellB ∧ cellB.vm.isStatics = false ∧ s.vm.findClass "java/lang/StringBuilder" = some cellB.cls) := by
  unfold am_rcv at hr
  split at hr
  next a =>
    refine ⟨am_b E + a, rfl, fun hk => ?_, fun hk => ?_⟩
    · rw [if_neg (by omega), if_pos hk] at hr
      split at hr
      next c0 fs ha =>
        obtain ⟨r', hr', cell, q1, q2, q3, -⟩ := hR.2.1 a _ ha
        have h9 := of_decide_eq_true hr
        have hr' : am_CL[c0]? = some r' := hr'
        rw [hr'] at h9
        have h8 : r'.1 = (am_y cm).cls := Option.some.inj h9
        exact ⟨cell, q1, by rw [q3]; rfl, by rw [q2, ← h8]; exact (hG.1.1 c0 r' hr').2.1⟩
      next => cases hr
    · rw [if_pos hk] at hr
      obtain ⟨fs, ha⟩ := am_isC_iff.mp hr
      obtain ⟨r', hr', cell, q1, q2, q3, -⟩ := hR.2.1 a _ ha
      have hr' : am_CL[9]? = some r' := hr'
      have h8 : r'.1 = "java/lang/StringBuilder" := by cases hr'; rfl
      exact ⟨cell, q1, by rw [q3]; rfl, by rw [q2, ← h8]; exact (hG.1.1 9 r' hr').2.1⟩
  next r0 =>
    obtain ⟨hk, hc, h1, h2⟩ := of_decide_eq_true hr
    obtain ⟨a, v, e1, e2, ⟨cell, o1, o2, o3, o4⟩, -, -⟩ := hG.2.2.2.2.2.2.1 r0 h1 h2
    refine ⟨a, e1, fun _ => ⟨cell, by rw [am_keep hR (Nat.not_le.mp o4)]; exact o1, o2, by rw [hc]; exact o3⟩, fun hk2 => by omega⟩
  next => cases hr
set_option maxHeartbeats 2000000 in
/-- a call whose callee returns -/
theorem am_call_W (C : am_Ctx E S p s m args meth c mid) {i : Instr} (hd : decode (am_code mid) pc = .ok (i, 3)) {k cm : Nat} (hcall : am_call mid i = some (k, cm)) (hfr : d + 1 ≤ R.frames) (hlo : 50 * (d + 1) ≤ R.locals) (hls : ls1.size = am_maxL mid) (hn : as.length = (if am_stc cm then am_np cm else am_np cm + 1)) (hrs : (rest.map fun v => v.category).sum ≤ 8) (hrcv : am_stc cm = false → ∃ r as', as = r :: as' ∧ am_rcv h k cm r = true) (hok : am_aok cm as = true)
    (hsnd : am_Snd S (d, cm, 0, am_ent (am_maxL cm) as, [], h) (.inl v, h1)) (hR : am_Rl E h H) (hlocs : ∀ x ∈ locs, am_b E ≤ x.base) (hsz : s.heap.size ≤ H.size) (hce : cells + h1.length ≤ R.cells + h.length) (hsl : slots + am_slots h1 ≤ R.slots + am_slots h)
    (kk : ∀ H1 locs1 cells1 slots1, am_Rl E h1 H1 → (∀ x ∈ locs1, am_b E ≤ x.base) → s.heap.size ≤ H1.size → cells1 + h.length = cells + h1.length → slots1 + am_slots h = slots + am_slots h1 → W p l e R s m args below meth c H1 locs1 cells1 slots1 Q (F0 m (pc + 3) ls1 ((v.toList ++ rest).map (am_phi E)))) :
    W p l e R s m args below meth c H locs cells slots Q (F0 m pc ls1 ((as.reverse ++ rest).map (am_phi E))) := by
  obtain ⟨hx, hb, hml, -, -, -, hown, hts, -, hG, hsh, hbs⟩ := C
  have hcv := hG.2.2.2.2.2.2.2.2.2.1
  obtain ⟨ha1, ha2, ha3⟩ := am_aok_spec hok
  have hg1 : h.length ≤ h1.length := hsnd.1
  have hg2 : am_slots h ≤ am_slots h1 := hsnd.2.1
  have hrs' : ((rest.map (am_phi E)).map fun v => v.category).sum ≤ 8 := by rw [am_sum_phi hcv]; exact hrs
  have hroom : 2 * (F0 m pc ls1 ((as.reverse ++ rest).map (am_phi E))).monitorRoom + ((rest.map (am_phi E)).map fun v => v.category).sum ≤ 8 := by show 2 * 0 + _ ≤ 8; omega
  have hf : cells + (h1.length - h.length) ≤ R.cells ∧ slots + (am_slots h1 - am_slots h) ≤ R.slots := ⟨by omega, by omega⟩
  have kk' : ∀ H1 locs1, am_Rl E h1 H1 → (∀ x ∈ locs1, am_b E ≤ x.base) → W p l e R s m args below meth c H1 locs1 (cells + (h1.length - h.length)) (slots + (am_slots h1 - am_slots h)) Q (F0 m (pc + 3) ls1 ((v.map (am_phi E)).toList ++ rest.map (am_phi E))) := by
    intro H1 locs1 r1 l1
    have h9 := kk H1 locs1 _ _ r1 l1 (by rw [r1.1]; rw [hR.1] at hsz; omega) (show cells + (h1.length - h.length) + h.length = cells + h1.length by omega) (show slots + (am_slots h1 - am_slots h) + am_slots h = slots + am_slots h1 by omega)
    rw [List.map_append] at h9
    cases v <;> exact h9
  have pre : ∀ U : State, U.heap = H → s.WarmedH U.vm → am_Pc E S h as (as.map (am_phi E)).toArray U := fun U hU hW => ⟨rfl, hG.moved hW, by rw [hU]; exact hR⟩
  have hstk : (as.reverse ++ rest).map (am_phi E) = (as.map (am_phi E)).reverse ++ rest.map (am_phi E) := by rw [List.map_append, List.map_reverse]
  have SF : CallFix p m c (am_code mid) (am_maxL mid) s args lw_all (am_cn (am_cls mid)) := ⟨hx, hb, hml, hown, hts⟩
  have hRm : (am_rm d h h1).frames + 1 ≤ R.frames ∧ ∀ n, n ≤ 10 → 8 + (n + 11) + (am_rm d h h1).locals ≤ R.locals := ⟨hfr, fun n hn => by show 8 + (n + 11) + 50 * d ≤ R.locals; omega⟩
  cases i with
  | invokestatic idx =>
    simp only [am_call] at hcall
    split at hcall
    next k0 cm0 hlk =>
      split at hcall
      next hk =>
        cases hcall
        obtain ⟨w0, w1, -, -, -, -, -, -, -, hcm⟩ := am_callL_ok _ (am_lk_mem hlk)
        have hcm : cm < 180 := hcm
        have hL := am_m_maxL hcm
        rcases k with _ | _ | k
        · obtain ⟨wl, wst, whh⟩ := w0 rfl
          have wst : am_stc cm = true := wst
          have whh : am_hh cm = [] := whh
          rw [wst] at hn
          exact am_after (va_runS (As := as.map (am_phi E)) (rest := rest.map (am_phi E)) SF (am_met (l := l) (E := E) hcm whh hsnd ha1 ha2 ha3) (va_cwS (am_np cm) hts (lw_S wl (am_m_stat hcm wst) (am_m_init hcm) (am_m_code hcm whh)) rfl rfl rfl ⟨(am_m_mh hcm).1, (am_m_mh hcm).2, am_m_len hcm⟩ ⟨hRm.1, hRm.2 _ hL⟩) ⟨am_blind, pre⟩ rfl (by rw [List.length_map]; exact hn) hls hstk hroom hd hf) hlocs kk'
        · obtain ⟨wl, wst, whh⟩ := w1 rfl
          have wst : am_stc cm = true := wst
          have whh : am_hh cm = [] := whh
          rw [wst] at hn
          exact am_after (va_runSN (As := as.map (am_phi E)) (rest := rest.map (am_phi E)) SF (am_met (l := l) (E := E) hcm whh hsnd ha1 ha2 ha3) ⟨va_cnB (am_np cm) hts (lw_meth (am_m_code hcm whh)) rfl rfl rfl (hG.2.1 _ wl) (hts _ (am_m_init hcm)) ⟨(am_m_mh hcm).1, (am_m_mh hcm).2, am_m_len hcm⟩ ⟨hRm.1, hRm.2 _ hL⟩, hts _ (am_m_stat hcm wst), trivial⟩ ⟨am_blind, pre⟩ rfl (by rw [List.length_map]; exact hn) hls hstk hroom hd hf) hlocs kk'
        · omega
      next => cases hcall
    next => cases hcall
  | invokevirtual idx =>
    simp only [am_call] at hcall
    split at hcall
    next k0 cm0 hlk =>
      split at hcall
      next hk =>
        cases hcall
        obtain ⟨-, -, w2, w3, -, -, -, w7, -, hcm⟩ := am_callL_ok _ (am_lk_mem hlk)
        have hcm : cm < 180 := hcm
        have hL := am_m_maxL hcm
        rcases hk with rfl | rfl | rfl
        · obtain ⟨wl, wse, wst, whh⟩ := w2 rfl
          have wst : am_stc cm = false := wst
          have whh : am_hh cm = [] := whh
          rw [wst] at hn
          obtain ⟨r, as', rfl, hr⟩ := hrcv wst
          obtain ⟨bb, e1, hrc, -⟩ := am_recv hG hR hcm hr
          have hst2 : ((r :: as').reverse ++ rest).map (am_phi E) = (as'.map (am_phi E)).reverse ++ .ref bb :: rest.map (am_phi E) := by
            rw [List.map_append, List.map_reverse, List.map_cons, e1, List.reverse_cons, List.append_assoc]; rfl
          have pre2 : ∀ U : State, U.heap = H → s.WarmedH U.vm → am_Pc E S h (r :: as') (Value.ref bb :: as'.map (am_phi E)).toArray U := by
            intro U hU hW
            have := pre U hU hW
            rw [List.map_cons, e1] at this
            exact this
          exact am_after (va_runV (As := as'.map (am_phi E)) (rest := rest.map (am_phi E)) SF (am_met (l := l) (E := E) hcm whh hsnd ha1 ha2 ha3) (cwV (am_np cm) hts (lw_V wl (am_m_inst hcm wst) wse (am_m_init hcm) (am_m_code hcm whh)) rfl rfl rfl ⟨rfl, (am_m_mh hcm).1, (am_m_mh hcm).2, am_m_len hcm⟩ ⟨hRm.1, hRm.2 _ hL⟩) ⟨am_blind, hrc (Or.inl rfl), pre2⟩ rfl (by rw [List.length_map]; simpa using hn) hls hst2 hroom hd hf) hlocs kk'
        · obtain ⟨wl, wse, wsm, wst, whh⟩ := w3 rfl
          have wst : am_stc cm = false := wst
          have whh : am_hh cm = [] := whh
          rw [wst] at hn
          obtain ⟨r, as', rfl, hr⟩ := hrcv wst
          obtain ⟨bb, e1, -, hrc⟩ := am_recv hG hR hcm hr
          have hst2 : ((r :: as').reverse ++ rest).map (am_phi E) = (as'.map (am_phi E)).reverse ++ .ref bb :: rest.map (am_phi E) := by
            rw [List.map_append, List.map_reverse, List.map_cons, e1, List.reverse_cons, List.append_assoc]; rfl
          have pre2 : ∀ U : State, U.heap = H → s.WarmedH U.vm → am_Pc E S h (r :: as') (Value.ref bb :: as'.map (am_phi E)).toArray U := by
            intro U hU hW
            have := pre U hU hW
            rw [List.map_cons, e1] at this
            exact this
          have hts2 : ∀ w ∈ lw_all ++ am_XW, w.before args s = true := by
            intro w hw
            rcases List.mem_append.mp hw with h9 | h9
            · exact hts w h9
            · exact am_good_warm (am_XW_ok w h9) (State.WarmedH.refl s) (hG.2.2.1 w h9)
          have SF2 : CallFix p m c (am_code mid) (am_maxL mid) s args (lw_all ++ am_XW) (am_cn (am_cls mid)) := ⟨hx, hb, hml, hown, hts2⟩
          have hgi : GoodIn (lw_all ++ am_XW) (va_wsU (am_cn (am_cls mid)) idx "java/lang/StringBuilder" (am_y cm).cls (am_y cm) (am_y cm) (am_ws cm)) := by
            refine am_goodIn ?_
            intro w hw
            unfold va_wsU at hw
            simp only [List.cons_append, List.nil_append, List.mem_cons] at hw
            rcases hw with e | e | e | e | e | e | e
            · rw [e]; exact List.mem_append_left _ wl
            · rw [e]; exact List.mem_append_left _ wsm
            · rw [e]; exact wse
            · rw [e]; exact List.mem_append_left _ (am_m_inst hcm wst)
            · rw [e]; exact List.mem_append_left _ (am_m_init hcm)
            · rw [e]; exact List.mem_append_left _ (am_m_code hcm whh)
            · exact List.mem_append_left _ e
          exact am_after (va_runU (As := as'.map (am_phi E)) (rest := rest.map (am_phi E)) SF2 (am_met (l := l) (E := E) hcm whh hsnd ha1 ha2 ha3) (va_cwU (am_np cm) hts2 hgi rfl rfl rfl rfl ⟨(am_m_mh hcm).1, (am_m_mh hcm).2, am_m_len hcm⟩ ⟨hRm.1, hRm.2 _ hL⟩) ⟨am_blind, hrc (Or.inl rfl), pre2⟩ rfl (by rw [List.length_map]; simpa using hn) hls hst2 hroom hd hf) hlocs kk'
        · obtain ⟨wl, wse, wst, whh⟩ := w7 rfl
          have wst : am_stc cm = false := wst
          have whh : am_hh cm ≠ [] := whh
          rw [wst] at hn
          obtain ⟨r, as', rfl, hr⟩ := hrcv wst
          obtain ⟨bb, e1, hrc, -⟩ := am_recv hG hR hcm hr
          have hst2 : ((r :: as').reverse ++ rest).map (am_phi E) = (as'.map (am_phi E)).reverse ++ .ref bb :: rest.map (am_phi E) := by
            rw [List.map_append, List.map_reverse, List.map_cons, e1, List.reverse_cons, List.append_assoc]; rfl
          have pre2 : ∀ U : State, U.heap = H → s.WarmedH U.vm → am_Pc E S h (r :: as') (Value.ref bb :: as'.map (am_phi E)).toArray U := by
            intro U hU hW
            have := pre U hU hW
            rw [List.map_cons, e1] at this
            exact this
          exact am_after (vx_runVW (As := as'.map (am_phi E)) (rest := rest.map (am_phi E)) SF (am_metW (l := l) (E := E) hcm hsnd ha1 ha2 ha3) (vx_cwVW (am_np cm) hts (lw_VW wl (am_m_inst hcm wst) wse (am_m_init hcm) (am_m_codeW hcm whh)) rfl rfl rfl ⟨rfl, (am_m_mh hcm).1, (am_m_mh hcm).2, am_m_len hcm⟩ ⟨hRm.1, hRm.2 _ hL⟩) ⟨am_blind, hrc (Or.inr rfl), pre2⟩ rfl (by rw [List.length_map]; simpa using hn) hls hst2 hroom hd hf) hlocs kk'
      next => cases hcall
    next => cases hcall
  | invokespecial idx =>
    simp only [am_call] at hcall
    split at hcall
    next k0 cm0 hlk =>
      split at hcall
      next hk =>
        cases hcall
        obtain ⟨-, -, -, -, w4, w5, w6, -, -, hcm⟩ := am_callL_ok _ (am_lk_mem hlk)
        have hcm : cm < 180 := hcm
        have hL := am_m_maxL hcm
        have main : am_stc cm = false → ∃ (bb : Nat) (as' : List Value), as = as ∧ ((as.reverse ++ rest).map (am_phi E) = (as'.map (am_phi E)).reverse ++ .ref bb :: rest.map (am_phi E)) ∧ (as'.length = am_np cm) ∧ (∀ U : State, U.heap = H → s.WarmedH U.vm → am_Pc E S h as (Value.ref bb :: as'.map (am_phi E)).toArray U) ∧ (k = 3 ∨ k = 6 → ∃ cellB : Cell, H[bb]? = some cellB ∧ cellB.vm.isStatics = false ∧ s.vm.findClass "java/lang/StringBuilder" = some cellB.cls) := by
          intro wst
          rw [wst] at hn
          obtain ⟨r, as', rfl, hr⟩ := hrcv wst
          obtain ⟨bb, e1, -, hrc⟩ := am_recv hG hR hcm hr
          refine ⟨bb, as', rfl, ?_, by simpa using hn, ?_, hrc⟩
          · rw [List.map_append, List.map_reverse, List.map_cons, e1, List.reverse_cons, List.append_assoc]; rfl
          · intro U hU hW
            have := pre U hU hW
            rw [List.map_cons, e1] at this
            exact this
        rcases hk with rfl | rfl | rfl
        · obtain ⟨wl, win, wst, whh, wrt⟩ := w4 rfl
          have wst : am_stc cm = false := wst
          have whh : am_hh cm = [] := whh
          have wrt : am_ret cm = none := wrt
          obtain ⟨bb, as', -, hst2, hn2, pre2, -⟩ := main wst
          have hM := am_met (l := l) (E := E) hcm whh hsnd ha1 ha2 ha3
          have hcode := am_m_code hcm whh
          unfold am_ws at hM
          rw [wrt] at hM hcode
          exact am_after (va_runI (As := as'.map (am_phi E)) (rest := rest.map (am_phi E)) SF hM (cwI (am_np cm) hts (lw_meth hcode) rfl rfl rfl (hts _ (am_m_init hcm)) (hts _ wl) (hts _ (am_m_inst hcm wst)) win ⟨(am_m_mh hcm).1, (am_m_mh hcm).2, am_m_len hcm⟩ ⟨hRm.1, hRm.2 _ hL⟩) ⟨am_blind, pre2⟩ rfl (by rw [List.length_map]; exact hn2) hls hst2 hroom hd hf) hlocs kk'
        · obtain ⟨wl, win, wst, whh, wrt⟩ := w5 rfl
          have wst : am_stc cm = false := wst
          have whh : am_hh cm = [] := whh
          have wrt : am_ret cm = none := wrt
          obtain ⟨bb, as', -, hst2, hn2, pre2, -⟩ := main wst
          have hM := am_met (l := l) (E := E) hcm whh hsnd ha1 ha2 ha3
          have hcode := am_m_code hcm whh
          unfold am_ws at hM
          rw [wrt] at hM hcode
          exact am_after (va_runIN (As := as'.map (am_phi E)) (rest := rest.map (am_phi E)) SF hM ⟨va_cnB (am_np cm) hts (lw_meth hcode) rfl rfl rfl (hG.2.1 _ wl) (hts _ (am_m_init hcm)) ⟨(am_m_mh hcm).1, (am_m_mh hcm).2, am_m_len hcm⟩ ⟨hRm.1, hRm.2 _ hL⟩, win, hts _ (am_m_inst hcm wst)⟩ ⟨am_blind, pre2⟩ rfl (by rw [List.length_map]; exact hn2) hls hst2 hroom hd hf) hlocs kk'
        · obtain ⟨wl, wsu, wsm, wne, wst, whh⟩ := w6 rfl
          have wst : am_stc cm = false := wst
          have whh : am_hh cm = [] := whh
          obtain ⟨bb, as', -, hst2, hn2, pre2, hrc⟩ := main wst
          have hgi : GoodIn lw_all (va_wsSU (am_cn (am_cls mid)) idx (am_y cm) (am_ws cm)) := by
            refine lw_app ?_ (lw_meth (am_m_code hcm whh))
            intro w hw
            simp only [List.mem_cons, List.not_mem_nil, or_false] at hw
            rcases hw with e | e | e | e | e
            · rw [e]; exact wl
            · rw [e]; exact wsm
            · rw [e]; exact wsu
            · rw [e]; exact am_m_inst hcm wst
            · rw [e]; exact am_m_init hcm
          exact am_after (va_runSU (As := as'.map (am_phi E)) (rest := rest.map (am_phi E)) (hG.1.1 9 _ rfl).2 SF (am_met (l := l) (E := E) hcm whh hsnd ha1 ha2 ha3) (va_cwSU (am_np cm) hts hgi rfl rfl rfl ⟨wne, am_m_len hcm⟩ ⟨hRm.1, hRm.2 _ hL⟩) ⟨am_blind, hrc (Or.inr rfl), pre2⟩ rfl (by rw [List.length_map]; exact hn2) hls hst2 hroom hd hf) hlocs kk'
      next => cases hcall
    next => cases hcall
  | _ => cases hcall
end AMK
