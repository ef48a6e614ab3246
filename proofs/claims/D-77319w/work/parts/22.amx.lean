/-! a callee that throws, and what the caller sees: the cell itself -/
theorem am_lok_spec {lsl : List Nat} : ∀ (ls : am_L) (i j : Nat) (x : Int64), am_lok lsl i ls = true → ls[j]? = some (some (.long x)) → i + j ∈ lsl
  | [], i, j, x, _, h => by simp at h
  | o :: ls, i, j, x, hk, h => by
    unfold am_lok at hk
    rw [Bool.and_eq_true] at hk
    match j, h with
    | 0, h =>
      cases h
      have := hk.1
      simpa using this
    | j + 1, h =>
      have h9 : ls[j]? = some (some (.long x)) := by simpa using h
      have := am_lok_spec ls (i + 1) j x hk.2 h9
      rw [show i + (j + 1) = i + 1 + j by omega]
      exact this
theorem am_aok_spec {cm : Nat} {as : List Value} (h : am_aok cm as = true) : (am_sl as).length ≤ am_maxL cm ∧ (∀ v ∈ as, am_one v = true ∨ ∃ x, v = .long x) ∧ ∀ (j : Nat) (x : Int64), (am_sl as)[j]? = some (some (.long x)) → j ∈ am_lsl cm := by
  unfold am_aok at h
  rw [Bool.and_eq_true, Bool.and_eq_true] at h
  obtain ⟨h1, h2, h3⟩ := h
  refine ⟨of_decide_eq_true h1, fun v hv => ?_, fun j x hj => ?_⟩
  · have h4 := List.all_eq_true.mp h2 v hv
    rw [Bool.or_eq_true] at h4
    rcases h4 with h4 | h4
    · exact Or.inl h4
    · cases v <;> first | (cases h4; done) | exact Or.inr ⟨_, rfl⟩
  · have := am_lok_spec _ 0 j x h3 hj
    rwa [Nat.zero_add] at this
/-- what a body that throws q leaves -/
def am_XQ (q : Addr) (XC : State → State → Prop) (mc ms : Nat) (free : Addr → Prop) : Array Value → State → Outcome → State → Prop := fun _ st o t =>
  o = .threw q ∧ vx_T (fun E st t => E = RX7 ∧ XC st t) st q t mc ms free
section AMX
variable {l : Launch} {R : Room} {p : Program} {e : Env} {below : List Frame} {s : State} {sargs : Array Value} {y : MethodName}
set_option maxHeartbeats 1000000 in
/-- a call of a method that throws q: the thrown cell over the caller's frame -/
theorem am_xback {ws : List Cond} {rm : Room} {Pc : Array Value → State → Prop} {XC : State → State → Prop} {mc ms : Nat} {free : Addr → Prop} {bytes : ByteArray} {maxL : Nat} {ret : Option FieldType} {q : Addr}
    (hM : MetFree l y (headSpec ws rm) Pc (fun _ _ _ _ _ => True) (am_XQ q XC mc ms free)) (hblind : FrameBlind Pc) (hrc : rm.cells = mc) (hrs : rm.slots = ms)
    (hframes : rm.frames + 1 ≤ R.frames) (hlocals : 8 + (maxL + 11) + rm.locals ≤ R.locals)
    (hws : ∀ w ∈ ws, ∀ a' U, s.WarmedH U.vm → w.before a' U = true) (hcode : Cond.code y bytes maxL ret ∈ ws) (hinit : ∀ a' U, s.WarmedH U.vm → (Cond.initialized y.cls).before a' U = true)
    {m : MethodId} {meth : Method} {c : Code} {U : State} {Ls : List Loc} {c0 s0 : Nat} {g : JFrame} {ig : Instr} {mk : MethodId} {a : Array Value}
    (X : Stand p l e R s m sargs below meth c U Ls c0 s0) (hg : g.method = m) (hsize : g.locals.size = c.maxLocals) (hdg : decode c.code g.pc = .ok (ig, 3)) (hW : 2 * g.monitorRoom + (g.stack.map fun v => v.category).sum ≤ 8) (hn : U.methodNamed? y = some mk)
    (h4 : c0 + mc ≤ R.cells) (h5 : s0 + ms ≤ R.slots) (hp : Pc a U) :
    ∃ (U' st t : State) (L : List Loc) (ce : Cell), Stand p l e R s m sargs below meth c U' (Ls ++ L) (c0 + mc) (s0 + ms) ∧ U'.heap = t.heap ∧ (∀ z ∈ L, free z.base) ∧ XC st t ∧ t.heap[q]? = some ce ∧ ce.vm = .none ∧ U.vm.findClass RX7 = some ce.cls ∧
      Steps p.tables e below (doInvoke e (U.setTop g) [] mk a).1 ((U'.setTop g).pushFrame (.throwing q)) := by
  have h1 : (headSpec ws rm).pre.before a U = true := atoms_intro fun w hw => hws w hw _ _ X.warmed
  have h2 : (Cond.code y bytes maxL ret).before a U = true := hws _ hcode _ _ X.warmed
  have h3 : (Cond.initialized y.cls).before a U = true := hinit _ _ X.warmed
  have h4 : c0 + (headSpec ws rm).room.cells ≤ R.cells := by rw [show (headSpec ws rm).room.cells = mc from hrc]; exact h4
  have h5 : s0 + (headSpec ws rm).room.slots ≤ R.slots := by rw [show (headSpec ws rm).room.slots = ms from hrs]; exact h5
  have hPc : Pc a (U.calling g mk a) := hblind _ _ _ _ hp
  obtain ⟨methY, cY, hmY, hcY, -, hlY, -, -, -, -⟩ := Cond.code_spec hn h2
  obtain ⟨kY, hkY, -⟩ := className_of_methodNamed hn
  have hinitY : kY.init = .initialized := Cond.initialized_spec (findClass_of_methodNamed hn) hkY h3
  have h : At U g.method c below := by rw [hg]; exact X.here
  have hlocals9 : 8 + (maxL + 11) + (headSpec ws rm).room.locals ≤ R.locals := hlocals
  have happ : (headSpec ws rm).appliesLoose y e.platform (U.calling g mk a) = true :=
    Spec.appliesLoose_calling (g := g) h hdg hn hkY hinitY
      (X.room_calling (g := g) (R' := (headSpec ws rm).room) hsize hmY hcY hframes (by rw [hlY]; omega) h4 h5) h1
  obtain ⟨mids, hmid⟩ := h.above
  have hfr : (U.setTop g).frames = (.java g :: mids) ++ below := by rw [State.frames_setTop' g h.top, hmid]; rfl
  obtain ⟨o, s₂, hsteps, -, hend, hq⟩ := Steps.callFree hM p X.admits X.cas X.clock (acts := []) hfr happ hPc trivial
  have hq' : am_XQ q XC mc ms free a (U.calling g mk a) o s₂ := hq
  obtain ⟨rfl, E9, ce, L, ⟨rfl, hx⟩, hce, hcv, hcl, hW₂, hsm, hL⟩ := hq'
  rw [State.frames_setTop' g h.top] at hend
  obtain ⟨g₀, hg0⟩ := Option.isSome_iff_exists.mp h.top
  obtain ⟨r, hr⟩ := State.topJava?_eq_some.mp hg0
  have hr' : (({ U with heap := s₂.heap, slotsUsed := s₂.slotsUsed } : State).setVm s₂.vm).frames = .java g₀ :: r := hr
  obtain ⟨e2, q2, q3, q4, q5, q6⟩ := id hsm
  have e3 : s₂ = ({ (U.calling g mk a).setFrames s₂.frames with heap := s₂.heap, slotsUsed := s₂.slotsUsed } : State).setVm s₂.vm := by
    have : s₂ = ({ s₂ with vm := (U.calling g mk a).vm } : State).setVm s₂.vm := rfl
    rw [e2] at this
    exact this
  have hf₂ : s₂.frames = .throwing q :: .java g :: U.frames.tail := hend
  have hW' : U.WarmedH s₂.vm := hW₂
  have hs₂ : s₂ = ((({ U with heap := s₂.heap, slotsUsed := s₂.slotsUsed } : State).setVm s₂.vm).setTop g).pushFrame (.throwing q) := by
    refine e3.trans ?_
    rw [hf₂, State.calling_eq h.top, State.setFrames_setFrames, State.pushFrame, State.frames_setTop _ hr', State.setTop_of_frames _ hr', State.setFrames_setFrames, hr]
    rfl
  have hsame : U.sameButNew ({ U with heap := s₂.heap, slotsUsed := s₂.slotsUsed } : State) L mc ms := by
    refine ⟨?_, q2, q3, q4, q5, q6⟩
    obtain ⟨t, ht, -⟩ := State.frames_cons hr
    show ({ U with heap := s₂.heap, slotsUsed := s₂.slotsUsed } : State) = { U.setFrames U.frames with heap := s₂.heap, slotsUsed := s₂.slotsUsed }
    rw [State.setFrames_self ht]
  subst hg
  refine ⟨(({ U with heap := s₂.heap, slotsUsed := s₂.slotsUsed } : State).setVm s₂.vm), U.calling g mk a, s₂, L, ce,
    ⟨X.admits, X.cas, X.clock, X.frames, X.room, X.hears, X.method, X.code, (X.here.setHeapUsed s₂.heap s₂.slotsUsed).setVm hW'.alike, X.tail, State.WarmedH.trans X.warmed hW', X.limits, X.bytes, X.same.trans (hsame.setVm s.vm)⟩, rfl, hL, hx, hce, hcv, hcl, ?_⟩
  show Steps p.tables e below _ (((({ U with heap := s₂.heap, slotsUsed := s₂.slotsUsed } : State).setVm s₂.vm).setTop g).pushFrame (.throwing q))
  rw [← hs₂]
  exact hsteps
end AMX
section AMX2
variable {p : Program} {l : Launch} {e : Env} {R : Room} {s : State} {m : MethodId} {args : Array Value} {below : List Frame} {meth : Method} {c : Code} {H : Heap} {locs : List Loc} {cells slots : Nat} {Q : State → Prop}
variable {y : MethodName} {bytes cc : ByteArray} {maxL nL mc ms n index pc : Nat} {ret : Option FieldType} {ws : List Cond} {rm : Room} {Pc : Array Value → State → Prop} {XC : State → State → Prop} {free : Addr → Prop} {Ts : List Cond} {own C : String} {b q : Addr} {As rest : List Value} {ls : Array Slot}
/-- a virtual call of a method that throws q -/
theorem am_xrunV (S : CallFix p m c cc nL s args Ts own) (hM : MetFree l y (headSpec ws rm) Pc (fun _ _ _ _ _ => True) (am_XQ q XC mc ms free)) (cw : CallW R s args own C index y bytes maxL ret ws rm mc ms n) (hp : PreV s H C b Pc As)
    (hn : As.length = n) (hsize : ls.size = nL) (hW : (rest.map fun v => v.category).sum ≤ 8) (hdg : decode cc pc = .ok (.invokevirtual index, 3)) (hf : cells + mc ≤ R.cells ∧ slots + ms ≤ R.slots)
    (kk : ∀ (st t : State) (L : List Loc) (ce : Cell), (∀ z ∈ L, free z.base) → XC st t → t.heap[q]? = some ce → ce.vm = .none → s.vm.findClass RX7 = some ce.cls → vx_W p l e R s m args below meth c t.heap (locs ++ L) (cells + mc) (slots + ms) Q (F0 m pc ls rest) q) :
    W p l e R s m args below meth c H locs cells slots Q (F0 m pc ls (As.reverse ++ .ref b :: rest)) := by
  obtain ⟨⟨hrc, hrs, hfr, hlo, hws, hcw, hcode, hini, hy, hlen, hl⟩, hin, hse⟩ := cw
  obtain ⟨hx, hb, hml, ho, -⟩ := S
  obtain ⟨hbl, ⟨cellB, hcB, hoB, hclB⟩, hPc⟩ := hp
  intro T hT X
  obtain ⟨mk, methM, hnamed, hmethM, hstM, habM⟩ := Cond.instanceMethod_spec hin
  obtain ⟨methM', cM, hmethM', -, -, -, -, -, -, hsigM⟩ := Cond.code_spec hnamed hcode
  cases hmethM.symm.trans hmethM'
  obtain ⟨c2, r2, m2, q1, q2, q3, q4, kP, hkP, hkPi⟩ := Cond.selects_spec hse
  cases hclB.symm.trans q1
  cases (State.methodFound?_of_named hnamed hy).symm.trans q2
  cases hnamed.symm.trans q3
  have hselP : selectMethod e.platform s.vm cellB.cls mk = .method mk := by rw [Launch.admits_selectMethod X.admits]; exact q4
  obtain ⟨vm₁, X₁, hstep₁⟩ := X.invokevirtual hx ho hl hnamed hmethM hstM hkP hkPi hy (a := b) (cell := cellB) (by rw [hT]; exact hcB)
    (fun z h => by rw [h] at hoB; cases hoB) hselP hmethM habM hkP hkPi (g := F0 m pc ls (As.reverse ++ .ref b :: rest)) rfl (argsL := As) (rest := rest) (hn.trans (hlen _ hsigM)) rfl (by rw [hb]; exact hdg)
  obtain ⟨U', st, t, L, ce, X', e1, hL, hxc, hce, hcv, hcl, hsteps⟩ := am_xback (bytes := bytes) (maxL := maxL) (ret := ret) hM hbl hrc hrs hfr hlo hws hcw (fun a' U hW => word_at hW (Or.inl (by first | rfl | simp [Cond.onTables, Cond.keeps, Cond.steady])) hini)
    (g := { F0 m pc ls (As.reverse ++ .ref b :: rest) with stack := rest }) (ig := .invokevirtual index) (mk := mk) (a := (Value.ref b :: As).toArray) X₁ rfl (hsize.trans hml.symm) (by rw [hb]; exact hdg) (by show 2 * 0 + (rest.map fun v => v.category).sum ≤ 8; omega) (X₁.named hnamed) hf.1 hf.2 (hPc (T.setVm vm₁) hT X₁.warmed)
  obtain ⟨t2, a1, b1⟩ := kk st t L ce hL hxc hce hcv (vx_cls X₁.warmed hcl) U' e1 X'
  exact ⟨t2, (hstep₁ _ fun acts => by rw [doInvoke_state]; exact hsteps).trans a1, b1⟩
end AMX2
