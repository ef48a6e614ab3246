/-! every call keeps the state well-formed -/
section FA
variable {σ : sg} {M M' : Nat → Nat} {T : Nat → Option Nat} {x y z : Int32}
theorem wfs_sv (hw : wfs σ) : wfs (sg_sv σ) := by
  refine ⟨hw.1, fun q hq => ?_, hw.2.2⟩
  have hq : q ∈ (if σ.2.1.length = 4 then σ.2.1.tail else σ.2.1) ++ [σ.1] := hq
  rcases List.mem_append.mp hq with hq | hq
  · split at hq
    · exact hw.2.1 q (List.mem_of_mem_tail hq)
    · exact hw.2.1 q hq
  · rw [List.mem_singleton.mp hq]; exact hw.1
theorem wfs_M (hw : wfs σ) (h : wf M σ.1.2) : wfs (sg_M σ M) := ⟨h, hw.2⟩
theorem wfs_T (hw : wfs σ) (h : wf σ.1.1 T) : wfs (sg_T σ T) := ⟨h, hw.2⟩
theorem wfs_E (hw : wfs σ) (c : Nat) : wfs (sg_E σ c) := hw
theorem w_set (hw : wfs σ) {b most : Nat} (hb : (b = 0 ∧ most = 3) ∨ (b = 42 ∧ most = 4)) : wfs (sp_set b most x y z σ).2 := by
  unfold sp_set
  by_cases hc : rg x 0 5 ∧ rg y 0 most ∧ rg z 0 1
  · rw [if_pos hc]
    obtain ⟨h1, h2, h3⟩ := hc
    obtain ⟨f, hf, rfl⟩ := nI_lo (by decide) h1
    obtain ⟨a, ha, rfl⟩ := nI_lo (by omega) h2
    obtain ⟨e, he, rfl⟩ := nI_lo (by decide) h3
    refine wfs_M (wfs_sv hw) ?_
    rw [cN_n (by omega), cN_n (by omega), cN_n (by omega)]
    rcases hb with ⟨rfl, rfl⟩ | ⟨rfl, rfl⟩
    · exact wf_set hw.1 (by omega) ha he
    · exact wf_setN hw.1 (by omega) ha he
  · rw [if_neg hc]; exact wfs_E hw 0
theorem w_term (hw : wfs σ) {b : Nat} (hb : b = 0 ∨ b = 42) : wfs (sp_term b x y z σ).2 := by
  unfold sp_term
  by_cases hc : rg x 0 5 ∧ rm y ∧ rg z 0 99
  · rw [if_pos hc]
    obtain ⟨h1, h2, h3⟩ := hc
    obtain ⟨f, hf, rfl⟩ := nI_lo (by decide) h1
    obtain ⟨q, hq, rfl⟩ := nI_mlo h2
    obtain ⟨e, he, rfl⟩ := nI_lo (by decide) h3
    refine wfs_M (wfs_sv hw) ?_
    rw [nI_s1, cN_n (by omega), cN_n (by omega), cN_n (by omega)]
    exact wf_term hw.1 hb (by omega) hq he
  · rw [if_neg hc]; exact wfs_E hw 0
theorem w_map (hw : wfs σ) : wfs (sp_map x y σ).2 := by
  unfold sp_map
  by_cases hc : rg x 0 5 ∧ rg y 0 5
  · rw [if_pos hc]
    obtain ⟨h1, h2⟩ := hc
    obtain ⟨f, hf, rfl⟩ := nI_lo (by decide) h1
    obtain ⟨e, he, rfl⟩ := nI_lo (by decide) h2
    rw [cN_n (by omega), cN_n (by omega)]
    exact ⟨wf_mp hw.1 (by omega) (by omega), (wfs_sv hw).2⟩
  · rw [if_neg hc]; exact wfs_E hw 0
theorem w_unmap (hw : wfs σ) : wfs (sp_unmap x σ).2 := by
  unfold sp_unmap
  by_cases hc : rg x 0 5
  · rw [if_pos hc]
    cases σ.1.2 (cN x) with
    | none => exact wfs_E hw 1
    | some t => exact ⟨wf_T hw.1 (fun t ht => by cases ht), (wfs_sv hw).2⟩
  · rw [if_neg hc]; exact wfs_E hw 0
theorem w_ent (hw : wfs σ) {e : Nat} {is : Bool} (he : is = true → e ≤ 2 ∨ (100 ≤ e ∧ e ≤ 199)) : wfs (sp_ent x y e is σ).2 := by
  unfold sp_ent
  by_cases hc : rg x 0 5 ∧ rg y 0 3 ∧ is = true
  · rw [if_pos hc]
    obtain ⟨h1, h2, h3⟩ := hc
    obtain ⟨f, hf, rfl⟩ := nI_lo (by decide) h1
    obtain ⟨q, hq, rfl⟩ := nI_lo (by decide) h2
    rw [cN_n (by omega), cN_n (by omega)]
    cases σ.1.2 f with
    | none => exact wfs_E hw 1
    | some t => exact wfs_M (wfs_sv hw) (wf_ent hw.1 (by omega) (by omega) (he h3))
  · rw [if_neg hc]; exact wfs_E hw 0
theorem w_src (hw : wfs σ) : wfs (sp_src x y z σ).2 := w_ent hw (fun q => by
  obtain ⟨s, hs, rfl⟩ := nI_lo (by decide) (of_decide_eq_true q)
  rw [cN_n (by omega)]; omega)
theorem w_con (hw : wfs σ) : wfs (sp_con x y z σ).2 := w_ent hw (fun q => by
  obtain ⟨s, hs, rfl⟩ := nI_lo (by decide) (of_decide_eq_true q)
  rw [cN_n (by omega)]; omega)
theorem w_fth (hw : wfs σ) : wfs (sp_fth x σ).2 := by
  unfold sp_fth
  split
  · cases σ.1.2 (cN x) with
    | none => exact wfs_E hw 1
    | some t => exact hw
  · exact wfs_E hw 0
theorem w_alw (hw : wfs σ) : wfs (sp_alw x σ).2 := by
  unfold sp_alw
  by_cases hc : rg x 0 1
  · rw [if_pos hc]
    obtain ⟨f, hf, rfl⟩ := nI_lo (by decide) hc
    rw [cN_n (by omega)]
    exact wfs_M (wfs_sv hw) (wf_alw hw.1 hf)
  · rw [if_neg hc]; exact wfs_E hw 0
theorem w_adp (hw : wfs σ) : wfs (sp_adp x σ).2 := by
  unfold sp_adp
  split
  · cases adp σ.1.1 (cN x) (σ.1.1 116) with
    | none => exact wfs_E hw 1
    | some t => exact hw
  · exact wfs_E hw 0
theorem w_app (hw : wfs σ) : wfs (sp_app x σ).2 := by
  unfold sp_app
  by_cases hc : rg x 0 127
  · rw [if_pos hc]
    obtain ⟨f, hf, rfl⟩ := nI_lo (by decide) hc
    split
    · exact wfs_E hw 2
    · refine ⟨hw.1, hw.2.1, fun c hc => ?_⟩
      have hc : c ∈ σ.2.2.2 ++ [cN (nI f)] := hc
      rw [cN_n (by omega)] at hc
      rcases List.mem_append.mp hc with hc | hc
      · exact hw.2.2 c hc
      · rw [List.mem_singleton.mp hc]; exact hf
  · rw [if_neg hc]; exact wfs_E hw 0
theorem w_clr (hw : wfs σ) : wfs (sp_clr σ).2 := ⟨hw.1, hw.2.1, fun c hc => by cases hc⟩
theorem w_left (hw : wfs σ) : wfs (sp_left x σ).2 := by
  unfold sp_left
  split
  · exact hw
  · exact wfs_E hw 0
theorem w_err (hw : wfs σ) : wfs (sp_err x σ).2 := by
  unfold sp_err
  split
  · exact hw
  · exact wfs_E hw 0
theorem w_txt (hw : wfs σ) : wfs (sp_txt x σ).2 := by
  unfold sp_txt
  split
  · exact hw
  · exact wfs_E hw 0
theorem w_val (hw : wfs σ) : wfs (sp_val x y σ).2 := by
  unfold sp_val
  split
  · exact hw
  · exact wfs_E hw 0
theorem w_undo (hw : wfs σ) : wfs (sp_undo σ).2 := by
  unfold sp_undo
  cases hT : σ.2.1.getLast? with
  | none => exact wfs_E hw 3
  | some q =>
    have hne : σ.2.1 ≠ [] := fun e => by rw [e] at hT; cases hT
    have hq : σ.2.1[σ.2.1.length - 1]? = some q := by rw [← List.getLast?_eq_getElem?]; exact hT
    exact ⟨hw.2.1 q (List.mem_of_getElem? hq), fun q hq => hw.2.1 q ((List.dropLast_sublist _).subset hq), hw.2.2⟩
/-- a new program -/
theorem wf_stP {ts : List Nat} (hw : wf M T) (hl : ts.length ≤ 30) (h1 : 1 ≤ ts.length) (hn : need 1 ts) (hok : ∀ t, t ∈ ts → tOk (M 116) t) : wf (stP M ts) T := by
  obtain ⟨g1, g2, g3, g4, g5, g6, g7, g8⟩ := hw
  have o := fun j hj => stP_o (M := M) hl j hj
  have e116 : stP M ts 116 = M 116 := o 116 (by omega)
  refine ⟨fun f hf => ?_, fun f hf => ?_, ⟨by rw [e116]; exact g3.1, fun k hk => ?_⟩, fun p hp t ht => ?_, by rw [o 147 (by omega)]; exact g5, ?_, by rw [prog_st hl]; exact hn, by rw [prog_st hl, e116]; exact hok⟩
  · obtain ⟨a1, a2, a3⟩ := g1 f hf
    exact ⟨by rw [o _ (by omega)]; exact a1, by rw [o _ (by omega)]; exact a2, fun j hj => by rw [o _ (by omega)]; exact a3 j hj⟩
  · obtain ⟨a1, a2, a3⟩ := g2 f hf
    exact ⟨by rw [o _ (by omega)]; exact a1, by rw [o _ (by omega)]; exact a2, fun j hj => by rw [o _ (by omega)]; exact a3 j hj⟩
  · rw [e116] at hk
    have h4 := g3.1
    obtain ⟨⟨a1, a2, a3⟩, a4, a5⟩ := g3.2 k hk
    refine ⟨⟨by rw [o _ (by omega)]; exact a1, by rw [o _ (by omega)]; exact a2, fun j hj => by rw [o _ (by omega)]; exact a3 j hj⟩, by rw [o _ (by omega)]; exact a4, fun j hj => ?_⟩
    rw [o _ (by omega), o _ (by omega)]; exact a5 j hj
  · obtain ⟨a1, a2⟩ := g4 p hp t ht
    exact ⟨a1, fun q hq => by rw [o _ (by omega)]; exact a2 q hq⟩
  · have e148 : stP M ts 148 = ts.length := by unfold stP; rw [if_neg (by omega), if_pos rfl]
    rw [e148]; exact ⟨h1, hl⟩
theorem nd_ok {c t : Nat} (h : ndO M c = some t) (h4 : M 116 ≤ 4) : (tk t = 1 ∨ tk t = 2 ∨ (tk t = 3 ∧ tw t < 6) ∨ (tk t = 4 ∧ tw t < 6) ∨ (tk t = 5 ∧ tw t < M 116)) ∧ (tk t ≤ 2 → tw t = 0) ∧ ta t = 0 ∧ ∀ j, j ≤ 4 → tk (t + j) = tk t ∧ tw (t + j) = tw t ∧ ta (t + j) = j := by
  unfold ndO at h
  have key : ∀ m f, m ≤ 5 → f < 6 → t = 10000 * m + 10 * f → tk t = m ∧ tw t = f ∧ ta t = 0 ∧ ∀ j, j ≤ 4 → tk (t + j) = m ∧ tw (t + j) = f ∧ ta (t + j) = j := by
    intro m f hm hf e
    subst e
    refine ⟨by unfold tk; omega, by unfold tw; omega, by unfold ta; omega, fun j hj => ⟨by unfold tk; omega, by unfold tw; omega, by unfold ta; omega⟩⟩
  split at h
  · cases h; obtain ⟨a, b, c, e⟩ := key 1 0 (by decide) (by decide) rfl
    exact ⟨by omega, fun _ => b, c, fun j hj => by rw [a, b]; exact e j hj⟩
  · split at h
    · cases h; obtain ⟨a, b, c, e⟩ := key 2 0 (by decide) (by decide) rfl
      exact ⟨by omega, fun _ => b, c, fun j hj => by rw [a, b]; exact e j hj⟩
    · split at h
      · cases h; obtain ⟨a, b, c', e⟩ := key 3 (c - 97) (by decide) (by omega) rfl
        exact ⟨by omega, fun q => by omega, c', fun j hj => by rw [a, b]; exact e j hj⟩
      · split at h
        · cases h; obtain ⟨a, b, c', e⟩ := key 4 (c - 65) (by decide) (by omega) rfl
          exact ⟨by omega, fun q => by omega, c', fun j hj => by rw [a, b]; exact e j hj⟩
        · split at h
          · cases h; obtain ⟨a, b, c', e⟩ := key 5 (c - 112) (by decide) (by omega) rfl
            exact ⟨by omega, fun q => by omega, c', fun j hj => by rw [a, b]; exact e j hj⟩
          · cases h
theorem pE_ok (hw : wf M T) : ∀ (F n : Nat) (r ts : List Nat) (n' : Nat) (r' : List Nat), pE M F n r = .inr (ts, n', r') → need 1 ts ∧ ∀ t, t ∈ ts → tOk (M 116) t := by
  have h4 := hw.2.2.1.1
  intro F
  induction F with
  | zero => intro n r ts n' r' h; cases h
  | succ F ih =>
    intro n r ts n' r' h
    have hA : ∀ (k : Nat) (b : Bool) (n : Nat) (r ts : List Nat) (n' : Nat) (r' : List Nat), pA (pE M F) k b n r = .inr (ts, n', r') → need k ts ∧ ∀ t, t ∈ ts → tOk (M 116) t := by
      intro k
      induction k with
      | zero => intro b n r ts n' r' h; cases h; exact ⟨trivial, fun t ht => by cases ht⟩
      | succ k ihk =>
        intro b n r ts n' r' h
        rw [pA] at h
        split at h
        · cases h
        · split at h
          · cases h
          next r1 _ ts1 n1 r2 h1 =>
            split at h
            · cases h
            next us n2 r3 h2 =>
              cases h
              obtain ⟨a1, a2⟩ := ih _ _ _ _ _ h1
              obtain ⟨b1, b2⟩ := ihk _ _ _ _ _ _ h2
              refine ⟨by rw [Nat.add_comm]; exact need_app _ _ _ _ a1 b1, fun t ht => ?_⟩
              rcases List.mem_append.mp ht with ht | ht
              · exact a2 t ht
              · exact b2 t ht
    have h : pD M (pE M F) n r = .inr (ts, n', r') := h
    unfold pD at h
    split at h
    · cases h
    next h0 =>
      split at h
      · cases h
      next c r1 =>
        split at h
        next hd =>
          split at h
          · cases h
          next v r2 hv =>
            cases h
            have hv99 : v ≤ 99 := by
              unfold pNum at hv
              split at hv
              · cases hv; omega
              · split at hv
                · split at hv
                  · cases hv; omega
                  · split at hv
                    · cases hv
                    · cases hv; omega
                · cases hv; omega
            obtain ⟨t1, t2, t3, -, -⟩ := tk_n hv99
            refine ⟨by show need (0 + ta (10 * v)) []; rw [t3]; trivial, fun t ht => ?_⟩
            rw [List.mem_singleton.mp ht]
            unfold tOk; omega
        · split at h
          · cases h
          next t hn =>
            obtain ⟨k1, k2, k3, k4⟩ := nd_ok hn h4
            split at h
            next ht2 =>
              cases h
              refine ⟨by show need (0 + ta t) []; rw [k3]; trivial, fun x hx => ?_⟩
              rw [List.mem_singleton.mp hx]
              have := k2 ht2
              unfold tOk; omega
            next ht2 =>
              unfold pC at h
              split at h
              · cases h
              · split at h
                · cases h
                next ts1 n1 r3 h1 =>
                  split at h
                  · cases h
                  · cases h
                    obtain ⟨a1, a2⟩ := hA _ _ _ _ _ _ _ h1
                    have har : M (fat t) ≤ 4 ∧ (tk t ≠ 4 → M (fat t) ≤ 3) := by
                      unfold fat
                      rcases k1 with q | q | ⟨q, q2⟩ | ⟨q, q2⟩ | ⟨q, q2⟩
                      · omega
                      · omega
                      · rw [if_pos q]; have := (hw.1 _ q2).1; omega
                      · rw [if_neg (by omega), if_pos q]; have := (hw.2.1 _ q2).1; omega
                      · rw [if_neg (by omega), if_neg (by omega)]; have := (hw.2.2.1.2 _ q2).1.1; omega
                    obtain ⟨b1, b2, b3⟩ := k4 _ har.1
                    refine ⟨by show need (0 + ta (t + M (fat t))) ts1; rw [b3, Nat.zero_add]; exact a1, fun x hx => ?_⟩
                    rcases List.mem_cons.mp hx with rfl | hx
                    · unfold tOk; rw [b1, b2, b3]; omega
                    · exact a2 x hx
theorem w_par (hw : wfs σ) : wfs (sp_par σ).2 := by
  rw [sp_par_f, pz_bh 30 30 (Nat.le_refl _) [] σ.2.2.2]
  cases hE : pE σ.1.1 30 30 σ.2.2.2 with
  | inl e => exact hw
  | inr q =>
    obtain ⟨ts, n1, r1⟩ := q
    obtain ⟨a1, a2⟩ := pE_ok hw.1 _ _ _ _ _ _ hE
    have hlen := pE_len _ _ _ _ _ _ hE
    have e : pco σ.1.1 [] (.inr (ts, n1, r1)) = if r1 = [] then .inr ts else .inl r1 := rfl
    rw [e]
    by_cases hr : r1 = []
    · rw [if_pos hr]
      exact wfs_M (wfs_sv hw) (wf_stP hw.1 (by omega) hlen.2 a1 a2)
    · rw [if_neg hr]
      exact hw
theorem mgr_ok : ∀ (n : Nat) (p : List Nat), p.length ≤ n → ∀ (k : Nat), need k p → ∀ (μ : mg) (R : Nat), (∀ t, t ∈ p → tOk (μ.1 116) t) → mgOk T μ (p.length + R) → mgOk T (mgr T p [] μ) R ∧ μ.1 116 ≤ (mgr T p [] μ).1 116 ∧ (mgr T p [] μ).2.2.2.length = k + μ.2.2.2.length := by
  intro n
  induction n with
  | zero =>
    intro p hl k hk μ R hok hm
    have e : p = [] := List.eq_nil_of_length_eq_zero (by omega)
    subst e
    have := need_nil hk
    subst this
    exact ⟨by rw [List.length_nil, Nat.zero_add] at hm; exact hm, Nat.le_refl _, by rw [Nat.zero_add]; rfl⟩
  | succ n ih =>
    intro p hl k hk μ R hok hm
    cases p with
    | nil =>
      have := need_nil hk
      subst this
      exact ⟨by rw [List.length_nil, Nat.zero_add] at hm; exact hm, Nat.le_refl _, by rw [Nat.zero_add]; rfl⟩
    | cons t p =>
      cases k with
      | zero => exact hk.elim
      | succ k =>
        have hk : need (k + ta t) p := hk
        rw [Nat.add_comm] at hk
        obtain ⟨p1, p2, e, h1, h2⟩ := need_spl p (ta t) k hk
        subst e
        rw [List.length_cons, List.length_append] at hl hm
        have hn1 : need 1 (t :: p1) := by show need (0 + ta t) p1; rw [Nat.zero_add]; exact h1
        have e2 : mgr T (t :: (p1 ++ p2)) [] μ = mgr T p2 [] (trM T t (mgr T p1 [] μ)) := by
          rw [← List.cons_append, mgr_c hn1, mgr_t h1]
        obtain ⟨a1, a2, a3⟩ := ih p1 (by omega) (ta t) h1 μ (1 + (p2.length + R)) (fun x hx => hok x (List.mem_cons_of_mem _ (List.mem_append_left _ hx))) (by rw [show p1.length + (1 + (p2.length + R)) = p1.length + p2.length + 1 + R by omega]; exact hm)
        obtain ⟨b1, b2⟩ := mg_trM (t := t) a1 (tOk_mono a2 (hok t List.mem_cons_self)) (by omega)
        obtain ⟨c1, c2, c3⟩ := ih p2 (by omega) k h2 (trM T t (mgr T p1 [] μ)) R (fun x hx => tOk_mono (Nat.le_trans a2 b2) (hok x (List.mem_cons_of_mem _ (List.mem_append_right _ hx)))) b1
        rw [e2]
        refine ⟨c1, Nat.le_trans a2 (Nat.le_trans b2 c2), ?_⟩
        rw [c3]
        have h7 := trt_ok (rest := p2.length + R) a1.1 a1.2.1 (tOk_mono a2 (hok t List.mem_cons_self)) (by omega) (by have := a1.2.2.1; omega) a1.2.2.2
        have h8 : (trM T t (mgr T p1 [] μ)).2.2.2.length = (mgr T p1 [] μ).2.2.2.length - ta t + 1 := h7.2.2.2.1
        rw [h8, a3]; omega
theorem w_mig (hw : wfs σ) : wfs (sp_mig σ).2 := by
  have hwz := wf_hi (M' := rz σ.1.1) hw.1 (fun j hj => rz_lo hj)
  have e116 : rz σ.1.1 116 = σ.1.1 116 := rz_lo (by decide)
  have h148 := hw.1.2.2.2.2.2.1
  have hn := hw.1.2.2.2.2.2.2.1
  obtain ⟨a1, a2, a3⟩ := mgr_ok (T := σ.1.2) _ (prog σ.1.1) (Nat.le_refl _) 1 hn (rz σ.1.1, σ.1.1 148, 0, []) 0 (fun t ht => by
    show tOk (rz σ.1.1 116) t
    rw [e116]; exact hw.1.2.2.2.2.2.2.2 t ht) ⟨hwz.1, ⟨fun t q => (by cases q), fun p q => (by cases q)⟩, by show 0 + ((prog σ.1.1).length + 0) = σ.1.1 148; rw [prog_ln]; omega, h148.2⟩
  unfold sp_mig mgS
  generalize mgr σ.1.2 (prog σ.1.1) [] (rz σ.1.1, σ.1.1 148, 0, []) = μ at a1 a2 a3
  have a3 : μ.2.2.2.length = 1 + 0 := a3
  match hps : μ.2.2.2, a3 with
  | [q], _ =>
    have hq : fl [q] = q := rfl
    have h5 := a1.2.2.1
    have h6 := a1.2.1
    rw [hps] at h5 h6
    rw [hq] at h5
    have hn1 := h6.2 q List.mem_cons_self
    refine wfs_M (wfs_sv hw) ?_
    rw [hq]
    exact wf_stP a1.1 (by have := a1.2.2.2; omega) (need_le q 1 hn1) hn1 (fun t ht => h6.1 t (by rw [hq]; exact ht))
end FA
