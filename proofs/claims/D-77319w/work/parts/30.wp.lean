/-! the abstract machine goal first: one row an instruction kind -/
theorem am_ev_one {S : am_S} {d mid pc len : Nat} {cc : ByteArray} {i : Instr} {ls : am_L} {st : List Value} {h : am_H} {o : am_Out} (hc : am_code mid = cc) (hd : decode cc pc = .ok (i, len)) : am_Ev S (d, mid, pc, ls, st, h) o ↔ am_do S (am_Ev S) i len d mid pc ls st h o := by
  rw [am_Ev_iff]
  subst hc
  constructor
  · rintro ⟨i', len', h1, h2⟩
    have h1 : decode (am_code mid) pc = .ok (i', len') := h1
    cases hd.symm.trans h1
    exact h2
  · intro h2
    exact ⟨i, len, hd, h2⟩
/-- one configuration, one outcome -/
theorem am_Ev_det {S : am_S} {c : am_Cfg} {o1 o2 : am_Out} (h1 : am_Ev S c o1) (h2 : am_Ev S c o2) : o1 = o2 := by
  refine h1 (fun c o1 => ∀ o2, am_Ev S c o2 → o1 = o2) ?_ o2 h2
  intro c o1 hs o2 h2
  obtain ⟨d, mid, pc, ls, st, h⟩ := c
  obtain ⟨i, len, hd, hdo⟩ := hs
  have hd : decode (am_code mid) pc = .ok (i, len) := hd
  have h2 := (am_ev_one rfl hd).mp h2
  have hdo : am_do S (fun c o1 => ∀ o2, am_Ev S c o2 → o1 = o2) i len d mid pc ls st h o1 := hdo
  unfold am_do at hdo h2
  split at hdo
  next q hp => rw [hp] at h2; exact hdo o2 h2
  next hp =>
    rw [hp] at h2
    have h2 : (match am_heap S mid d i st h with
      | some q => len = am_len i ∧ am_Ev S (d, mid, pc + len, ls, q.1, q.2) o2
      | none => am_ctl (am_Ev S) i len d mid pc ls st h o2) := h2
    split at hdo
    next q hh => rw [hh] at h2; exact hdo.2 o2 h2.2
    next hh =>
      rw [hh] at h2
      have h2 : am_ctl (am_Ev S) i len d mid pc ls st h o2 := h2
      have ret : ∀ v, am_retOK mid i st v → (i = .ireturn ∨ i = .lreturn ∨ i = .areturn ∨ i = .return_) := by
        intro v hv
        cases i <;> first | exact hv.elim | simp
      have rdet : ∀ v w, am_retOK mid i st v → am_retOK mid i st w → v = w := by
        intro v w hv hw
        cases i <;> first | exact hv.elim | skip
        all_goals simp only [am_retOK] at hv hw
        · obtain ⟨x, rfl, -, -, rfl⟩ := hv
          obtain ⟨y, e, -, -, rfl⟩ := hw
          cases e; rfl
        · obtain ⟨x, ty, rfl, -, -, rfl⟩ := hv
          obtain ⟨y, ty', e, -, -, rfl⟩ := hw
          cases e; rfl
        · obtain ⟨x, rfl, -, rfl⟩ := hv
          obtain ⟨y, e, -, rfl⟩ := hw
          cases e; rfl
        · rw [hv.2.2, hw.2.2]
      rcases hdo with ⟨l1, v, hret, rfl⟩ | ⟨l1, hi, a, rest, e1, -, -, rfl⟩ | ⟨l1, k, cm, d', as, rest, o, hcall, e1, e2, e3, -, -, -, hsub, hcont⟩
      · rcases h2 with ⟨-, w, hret2, rfl⟩ | ⟨-, hi, -⟩ | ⟨l2, -⟩
        · rw [rdet v w hret hret2]
        · rw [hi] at hret; exact hret.elim
        · omega
      · rcases h2 with ⟨-, w, hret2, rfl⟩ | ⟨-, -, a', rest', e1', -, -, rfl⟩ | ⟨l2, -⟩
        · rw [hi] at hret2; exact hret2.elim
        · cases e1.symm.trans e1'; rfl
        · omega
      · rcases h2 with ⟨l2, -⟩ | ⟨l2, -⟩ | ⟨l2, k', cm', d'', as', rest', o', hcall', e1', e2', e3', -, -, -, hsub', hcont'⟩
        · omega
        · omega
        · cases hcall.symm.trans hcall'
          have hd2 : d' = d'' := by omega
          subst hd2
          have hlen : as.length = as'.length := e3.trans e3'.symm
          have happ : as.reverse ++ rest = as'.reverse ++ rest' := e2.symm.trans e2'
          obtain ⟨ha, hb⟩ := List.append_inj happ (by simp [hlen])
          have ha : as = as' := by simpa using congrArg List.reverse ha
          subst ha; subst hb
          have ho := hsub o' hsub'
          subst ho
          obtain ⟨r, h1⟩ := o
          cases r with
          | inl v => exact hcont o2 hcont'
          | inr a =>
            have hc1 : k = 2 ∧ (match am_hnd mid pc with
              | some tg => ∀ o2, am_Ev S (d, mid, tg, ls, [.ref a], h1) o2 → o1 = o2
              | none => o1 = (.inr a, h1)) := hcont
            have hc2 : k = 2 ∧ (match am_hnd mid pc with
              | some tg => am_Ev S (d, mid, tg, ls, [.ref a], h1) o2
              | none => o2 = (.inr a, h1)) := hcont'
            have hc1 := hc1.2
            have hc2 := hc2.2
            cases hnd : am_hnd mid pc with
            | some tg => rw [hnd] at hc1 hc2; exact hc1 o2 hc2
            | none => rw [hnd] at hc1 hc2; exact hc1.trans hc2.symm
section WPR
variable {S : am_S} {d mid pc len pc' : Nat} {cc : ByteArray} {i : Instr} {ls ls' : am_L} {st st' : List Value} {h : am_H} {Q : am_Out → Prop}
theorem wp_ev {o : am_Out} (he : am_Ev S (d, mid, pc, ls, st, h) o) : wp S d mid pc ls st h Q = Q o := by
  refine propext ⟨fun ⟨o2, h1, h2⟩ => ?_, fun hq => ⟨o, he, hq⟩⟩
  rw [am_Ev_det he h1]; exact h2
theorem wp_evq {o : am_Out} (he : wp S d mid pc ls st h (fun x => x = o)) : am_Ev S (d, mid, pc, ls, st, h) o := by
  obtain ⟨o2, h1, rfl⟩ := he
  exact h1
theorem wp_mono {Q' : am_Out → Prop} (hq : ∀ o, Q o → Q' o) (hw : wp S d mid pc ls st h Q) : wp S d mid pc ls st h Q' := by
  obtain ⟨o, h1, h2⟩ := hw
  exact ⟨o, h1, hq o h2⟩
theorem wp_p (hc : am_code mid = cc) (hd : decode cc pc = .ok (i, len)) (hp : am_pure (am_lsl mid) i len pc ls st = some (pc', ls', st')) : wp S d mid pc ls st h Q = wp S d mid pc' ls' st' h Q := by
  unfold wp
  have e : ∀ o, am_Ev S (d, mid, pc, ls, st, h) o ↔ am_Ev S (d, mid, pc', ls', st', h) o := fun o => by
    rw [am_ev_one hc hd]; unfold am_do; rw [hp]
  simp only [e]
theorem wp_h (hc : am_code mid = cc) (hd : decode cc pc = .ok (i, len)) (hp : am_pure (am_lsl mid) i len pc ls st = none) (hl : len = am_len i) {h' : am_H} (hh : am_heap S mid d i st h = some (st', h')) : wp S d mid pc ls st h Q = wp S d mid (pc + len) ls st' h' Q := by
  unfold wp
  have e : ∀ o, am_Ev S (d, mid, pc, ls, st, h) o ↔ am_Ev S (d, mid, pc + len, ls, st', h') o := fun o => by
    rw [am_ev_one hc hd]; unfold am_do; rw [hp]
    show (match am_heap S mid d i st h with
      | some q => len = am_len i ∧ am_Ev S (d, mid, pc + len, ls, q.1, q.2) o
      | none => am_ctl (am_Ev S) i len d mid pc ls st h o) ↔ _
    rw [hh]
    exact ⟨fun q => q.2, fun q => ⟨hl, q⟩⟩
  simp only [e]
/-- a heap instruction, whatever the heap: what its step gives -/
def am_hK (o : am_R2) (K : List Value → am_H → Prop) : Prop := match o with
  | some q => K q.1 q.2
  | none => False
theorem wp_hk (hc : am_code mid = cc) (hd : decode cc pc = .ok (i, len)) (hp : am_pure (am_lsl mid) i len pc ls st = none) (hl : len = am_len i) (hno : am_heap S mid d i st h = none → ¬ ∃ o, am_ctl (am_Ev S) i len d mid pc ls st h o) : wp S d mid pc ls st h Q = am_hK (am_heap S mid d i st h) (fun st' h' => wp S d mid (pc + len) ls st' h' Q) := by
  cases hh : am_heap S mid d i st h with
  | some q => obtain ⟨st', h'⟩ := q; exact wp_h hc hd hp hl hh
  | none =>
    refine propext ⟨fun hw => ?_, fun hf => hf.elim⟩
    obtain ⟨o, h1, h2⟩ := hw
    rw [am_ev_one hc hd] at h1
    unfold am_do at h1
    rw [hp] at h1
    have h1 : (match am_heap S mid d i st h with
      | some q => len = am_len i ∧ am_Ev S (d, mid, pc + len, ls, q.1, q.2) o
      | none => am_ctl (am_Ev S) i len d mid pc ls st h o) := h1
    rw [hh] at h1
    exact (hno hh ⟨o, h1⟩).elim
theorem am_noctl {o : am_Out} {P : am_Cfg → am_Out → Prop} (hi : am_call mid i = none) (hr : ∀ v, ¬ am_retOK mid i st v) (ht : i ≠ .athrow) : ¬ ∃ o, am_ctl P i len d mid pc ls st h o := by
  rintro ⟨o, ⟨-, v, hv, -⟩ | ⟨-, he, -⟩ | ⟨-, k, cm, d', as, rest, o1, hc, -⟩⟩
  · exact hr v hv
  · exact ht he
  · rw [hi] at hc; cases hc
def am_w8 (st : List Value) : Prop := (st.map fun v => v.category).sum ≤ 8
/-- behind a call -/
def am_kr (S : am_S) (k d mid pc : Nat) (ls : am_L) (st : List Value) (Q : am_Out → Prop) (o : am_Out) : Prop := match o.1 with
  | .inl v => wp S d mid (pc + 3) ls (v.toList ++ st) o.2 Q
  | .inr a => k = 2 ∧ (match am_hnd mid pc with
    | some tg => wp S d mid tg ls [.ref a] o.2 Q
    | none => Q (.inr a, o.2))
theorem am_do_ctl (hc : am_code mid = cc) (hd : decode cc pc = .ok (i, len)) (hp : am_pure (am_lsl mid) i len pc ls st = none) (hh : am_heap S mid d i st h = none) {o : am_Out} : am_Ev S (d, mid, pc, ls, st, h) o ↔ am_ctl (am_Ev S) i len d mid pc ls st h o := by
  rw [am_ev_one hc hd]
  unfold am_do
  rw [hp]
  show (match am_heap S mid d i st h with
      | some q => len = am_len i ∧ am_Ev S (d, mid, pc + len, ls, q.1, q.2) o
      | none => am_ctl (am_Ev S) i len d mid pc ls st h o) ↔ _
  rw [hh]
theorem wp_c {k cm : Nat} {as : List Value} {ls0 : am_L} (hc : am_code mid = cc) (hd : decode cc pc = .ok (i, 3)) (hcall : am_call mid i = some (k, cm)) (hp : am_pure (am_lsl mid) i 3 pc ls (as.reverse ++ st) = none) (hh : am_heap S mid (d + 1) i (as.reverse ++ st) h = none) (hn : as.length = (if am_stc cm then am_np cm else am_np cm + 1)) (hok : am_aok cm as = true) (hent : am_ent (am_maxL cm) as = ls0)
    (hrcv : am_stc cm = false → ∃ r as', as = r :: as') :
    wp S (d + 1) mid pc ls (as.reverse ++ st) h Q = (am_w8 st ∧ (am_stc cm = false → ∃ r as', as = r :: as' ∧ am_rcv h k cm r = true) ∧ wp S d cm 0 ls0 [] h (am_kr S k (d + 1) mid pc ls st Q)) := by
  subst hent
  have hret : ∀ v, ¬ am_retOK mid i (as.reverse ++ st) v := by
    intro v hv
    cases i <;> first | exact hv.elim | (simp [am_call] at hcall; done)
  refine propext ⟨fun hw => ?_, fun hw => ?_⟩
  · obtain ⟨o, h1, h2⟩ := hw
    rw [am_do_ctl hc hd hp hh] at h1
    rcases h1 with ⟨l2, -⟩ | ⟨l2, -⟩ | ⟨-, k', cm', d'', as', rest', o', hcall', e1', e2', e3', h8, hr, -, hsub', hcont'⟩
    · omega
    · omega
    · cases hcall.symm.trans hcall'
      have hd2 : d = d'' := by omega
      subst hd2
      have hlen : as.length = as'.length := hn.trans e3'.symm
      obtain ⟨ha, hb⟩ := List.append_inj e2' (by simp [hlen])
      have ha : as = as' := by simpa using congrArg List.reverse ha
      subst ha; subst hb
      refine ⟨h8, hr, o', hsub', ?_⟩
      obtain ⟨r, h1⟩ := o'
      cases r with
      | inl v => exact ⟨o, hcont', h2⟩
      | inr a =>
        obtain ⟨hk, hcont'⟩ := hcont'
        refine ⟨hk, ?_⟩
        have hcont' : (match am_hnd mid pc with
              | some tg => am_Ev S (d + 1, mid, tg, ls, [.ref a], h1) o
              | none => o = (.inr a, h1)) := hcont'
        show (match am_hnd mid pc with
              | some tg => wp S (d + 1) mid tg ls [.ref a] h1 Q
              | none => Q (.inr a, h1))
        cases hnd : am_hnd mid pc with
        | some tg => rw [hnd] at hcont'; exact ⟨o, hcont', h2⟩
        | none => rw [hnd] at hcont'; have hcont' : o = (.inr a, h1) := hcont'; rw [← hcont']; exact h2
  · obtain ⟨h8, hr, o', hsub, hk⟩ := hw
    obtain ⟨r, h1⟩ := o'
    cases r with
    | inl v =>
      obtain ⟨o, hcont, h2⟩ := hk
      exact ⟨o, (am_do_ctl hc hd hp hh).mpr (Or.inr (Or.inr ⟨rfl, k, cm, d, as, st, _, hcall, rfl, rfl, hn, h8, hr, hok, hsub, hcont⟩)), h2⟩
    | inr a =>
      obtain ⟨hk, hk2⟩ := hk
      have hk2 : (match am_hnd mid pc with
              | some tg => wp S (d + 1) mid tg ls [.ref a] h1 Q
              | none => Q (.inr a, h1)) := hk2
      have fin : ∀ o : am_Out, (match am_hnd mid pc with
              | some tg => am_Ev S (d + 1, mid, tg, ls, [.ref a], h1) o
              | none => o = (.inr a, h1)) → Q o → wp S (d + 1) mid pc ls (as.reverse ++ st) h Q := by
        intro o hm h2
        exact ⟨o, (am_do_ctl hc hd hp hh).mpr (Or.inr (Or.inr ⟨rfl, k, cm, d, as, st, _, hcall, rfl, rfl, hn, h8, hr, hok, hsub, hk, hm⟩)), h2⟩
      cases hnd : am_hnd mid pc with
      | some tg =>
        rw [hnd] at hk2
        obtain ⟨o, hcont, h2⟩ := hk2
        exact fin o (by rw [hnd]; exact hcont) h2
      | none =>
        rw [hnd] at hk2
        exact fin (.inr a, h1) (by rw [hnd]) hk2
/-- a return -/
theorem wp_r {v : Option Value} (hc : am_code mid = cc) (hd : decode cc pc = .ok (i, 1)) (hp : am_pure (am_lsl mid) i 1 pc ls st = none) (hh : am_heap S mid d i st h = none) (hret : am_retOK mid i st v) : wp S d mid pc ls st h Q = Q (.inl v, h) :=
  wp_ev ((am_do_ctl hc hd hp hh).mpr (Or.inl ⟨rfl, v, hret, rfl⟩))
/-- a throw -/
theorem wp_t {a : Nat} (hc : am_code mid = cc) (hd : decode cc pc = .ok (.athrow, 1)) (hnd : am_hnd mid pc = none) (hcl : am_isC h a 7 = true) : wp S d mid pc ls (.ref a :: st) h Q = Q (.inr a, h) :=
  wp_ev ((am_do_ctl hc hd rfl rfl).mpr (Or.inr (Or.inl ⟨rfl, rfl, a, st, rfl, hcl, hnd, rfl⟩)))
theorem wp_b {c : Bool} {a b : Nat} : wp S d mid (bif c then a else b) ls st h Q = if c = true then wp S d mid a ls st h Q else wp S d mid b ls st h Q := by
  cases c <;> rfl
end WPR
