/-! the instructions that touch no heap are sound -/
section AMP
variable {p : Program} {l : Launch} {e : Env} {R : Room} {s : State} {m : MethodId} {args : Array Value} {below : List Frame} {meth : Method} {c : Code} {H : Heap} {locs : List Loc} {cells slots : Nat} {Q : State → Prop}
variable {cc : ByteArray} {b : Nat} {cv : Nat → Value} {lsl : List Nat} {len pc pc' nL : Nat} {ls ls' : am_L} {st st' : List Value} {ls1 : Array Slot}
theorem am_jW (h : (pc' = bif true then len else pc)) : pc' = len := h
theorem am_bif {c : Bool} {x y pc' : Nat} (h : pc' = bif c then x else y) : (c = true ∧ pc' = x) ∨ (c = false ∧ pc' = y) := by
  cases c
  · exact Or.inr ⟨rfl, h⟩
  · exact Or.inl ⟨rfl, h⟩
set_option maxHeartbeats 4000000 in
theorem am_pure_W (hx : p.tables.exec = Jvm.exec) (hb : c.code = cc) (hcv : ∀ k, (10 ≤ k ∧ cv k = .null) ∨ ∃ a, cv k = .ref a) {i : Instr} (hd : decode cc pc = .ok (i, len)) (hp : am_pure lsl i len pc ls st = some (pc', ls', st')) (hL : am_LR (am_v b cv) lsl ls1 nL ls)
    (kk : ∀ ls2, am_LR (am_v b cv) lsl ls2 nL ls' → W p l e R s m args below meth c H locs cells slots Q (F0 m pc' ls2 (st'.map (am_v b cv)))) :
    W p l e R s m args below meth c H locs cells slots Q (F0 m pc ls1 (st.map (am_v b cv))) := by
  cases i with
  | iconst n =>
    obtain ⟨rfl, rfl, rfl, rfl⟩ := am_push_spec hp
    exact lv_iconst hx hb hd rfl (kk _ hL)
  | bipush n =>
    obtain ⟨rfl, rfl, rfl, rfl⟩ := am_push_spec hp
    exact lv_bipush hx hb hd rfl (kk _ hL)
  | sipush n =>
    obtain ⟨rfl, rfl, rfl, rfl⟩ := am_push_spec hp
    exact lv_sipush hx hb hd rfl (kk _ hL)
  | lconst n =>
    obtain ⟨rfl, rfl, rfl, rfl⟩ := am_push_spec hp
    exact lv_lconst hx hb hd rfl (kk _ hL)
  | aconst_null =>
    obtain ⟨rfl, rfl, rfl, rfl⟩ := am_push_spec hp
    exact lv_null hx hb hd (kk _ hL)
  | iload_n k =>
    simp only [am_pure, am_ldI] at hp
    split at hp
    next x hg =>
      obtain ⟨rfl, rfl, rfl, rfl⟩ := am_push_spec hp
      exact lv_iload_n hx hb hd rfl (hL.2.2.2.1 _ _ (am_get_some hg)) (kk _ hL)
    next => cases hp
  | iload k =>
    simp only [am_pure, am_ldI] at hp
    split at hp
    next x hg =>
      obtain ⟨rfl, rfl, rfl, rfl⟩ := am_push_spec hp
      exact lv_iload hx hb hd (hL.2.2.2.1 _ _ (am_get_some hg)) (kk _ hL)
    next => cases hp
  | lload_n k =>
    simp only [am_pure, am_ldL] at hp
    split at hp
    next x hg =>
      obtain ⟨rfl, rfl, rfl, rfl⟩ := am_push_spec hp
      exact lv_lload_n hx hb hd rfl (hL.2.2.2.1 _ _ (am_get_some hg)) (kk _ hL)
    next => cases hp
  | lload k =>
    simp only [am_pure, am_ldL] at hp
    split at hp
    next x hg =>
      obtain ⟨rfl, rfl, rfl, rfl⟩ := am_push_spec hp
      exact lv_lload hx hb hd (hL.2.2.2.1 _ _ (am_get_some hg)) (kk _ hL)
    next => cases hp
  | aload_n k =>
    simp only [am_pure, am_ldA] at hp
    split at hp
    next x hg =>
      obtain ⟨rfl, rfl, rfl, rfl⟩ := am_push_spec hp
      exact lv_aload_n hx hb hd rfl (hL.2.2.2.1 _ _ (am_get_some hg)) (kk _ hL)
    next hg =>
      obtain ⟨rfl, rfl, rfl, rfl⟩ := am_push_spec hp
      exact lv_aload_nN hx hb hd rfl (hL.2.2.2.1 _ _ (am_get_some hg)) (kk _ hL)
    next x hg =>
      obtain ⟨rfl, rfl, rfl, rfl⟩ := am_push_spec hp
      have h1 : ls1[(k : Nat)]? = some (.val (cv x)) := hL.2.2.2.1 _ _ (am_get_some hg)
      have h2 : W p l e R s m args below meth c H locs cells slots Q (F0 m (pc + 1) ls1 (cv x :: st.map (am_v b cv))) := kk _ hL
      rcases hcv x with ⟨-, e1⟩ | ⟨a, e1⟩
      · rw [e1] at h1 h2
        exact lv_aload_nN hx hb hd rfl h1 h2
      · rw [e1] at h1 h2
        exact lv_aload_n hx hb hd rfl h1 h2
    next => cases hp
  | aload k =>
    simp only [am_pure, am_ldA] at hp
    split at hp
    next x hg =>
      obtain ⟨rfl, rfl, rfl, rfl⟩ := am_push_spec hp
      exact lv_aload hx hb hd (hL.2.2.2.1 _ _ (am_get_some hg)) (kk _ hL)
    next hg =>
      obtain ⟨rfl, rfl, rfl, rfl⟩ := am_push_spec hp
      exact lv_aloadN hx hb hd (hL.2.2.2.1 _ _ (am_get_some hg)) (kk _ hL)
    next x hg =>
      obtain ⟨rfl, rfl, rfl, rfl⟩ := am_push_spec hp
      have h1 : ls1[(k : Nat)]? = some (.val (cv x)) := hL.2.2.2.1 _ _ (am_get_some hg)
      have h2 : W p l e R s m args below meth c H locs cells slots Q (F0 m (pc + 2) ls1 (cv x :: st.map (am_v b cv))) := kk _ hL
      rcases hcv x with ⟨-, e1⟩ | ⟨a, e1⟩
      · rw [e1] at h1 h2
        exact lv_aloadN hx hb hd h1 h2
      · rw [e1] at h1 h2
        exact lv_aload hx hb hd h1 h2
    next => cases hp
  | istore_n k =>
    simp only [am_pure, am_stI] at hp
    split at hp
    next x st =>
      obtain ⟨rfl, rfl, rfl, ho⟩ := am_to_spec hp
      refine lv_istore_n hx hb hd rfl hL.has ?_ rfl (fun ls2 h2 => kk ls2 (hL.put ho rfl h2))
      unfold am_put at ho; split at ho
      next hk => rw [← hL.2.1]; exact hk.1
      next => cases ho
    next => cases hp
  | istore k =>
    simp only [am_pure, am_stI] at hp
    split at hp
    next x st =>
      obtain ⟨rfl, rfl, rfl, ho⟩ := am_to_spec hp
      refine lv_istore hx hb hd hL.has ?_ rfl (fun ls2 h2 => kk ls2 (hL.put ho rfl h2))
      unfold am_put at ho; split at ho
      next hk => rw [← hL.2.1]; exact hk.1
      next => cases ho
    next => cases hp
  | lstore_n k =>
    simp only [am_pure, am_stL] at hp
    split at hp
    next x st =>
      obtain ⟨rfl, rfl, rfl, ho⟩ := am_to_spec hp
      refine lv_lstore_n hx hb hd rfl hL.has ?_ rfl (fun ls2 h2 => kk ls2 (hL.putL ho h2))
      unfold am_putL at ho; split at ho
      next hk => rw [← hL.2.1]; exact hk.1
      next => cases ho
    next => cases hp
  | lstore k =>
    simp only [am_pure, am_stL] at hp
    split at hp
    next x st =>
      obtain ⟨rfl, rfl, rfl, ho⟩ := am_to_spec hp
      refine lv_lstore hx hb hd hL.has ?_ rfl (fun ls2 h2 => kk ls2 (hL.putL ho h2))
      unfold am_putL at ho; split at ho
      next hk => rw [← hL.2.1]; exact hk.1
      next => cases ho
    next => cases hp
  | astore_n k =>
    have hlt : ∀ {v : Value} {ls' : am_L}, am_put lsl ls k v = some ls' → (k : Nat) < nL := by
      intro v ls' ho
      unfold am_put at ho; split at ho
      next hk => rw [← hL.2.1]; exact hk.1
      next => cases ho
    simp only [am_pure, am_stA] at hp
    split at hp
    next x st =>
      obtain ⟨rfl, rfl, rfl, ho⟩ := am_to_spec hp
      exact lv_astore_n hx hb hd rfl hL.has (hlt ho) rfl (fun ls2 h2 => kk ls2 (hL.put ho rfl h2))
    next st =>
      obtain ⟨rfl, rfl, rfl, ho⟩ := am_to_spec hp
      exact lv_astore_nN hx hb hd rfl hL.has (hlt ho) rfl (fun ls2 h2 => kk ls2 (hL.put ho rfl h2))
    next x st =>
      obtain ⟨rfl, rfl, rfl, ho⟩ := am_to_spec hp
      show W p l e R s m args below meth c H locs cells slots Q (F0 m pc ls1 (cv x :: st'.map (am_v b cv)))
      have h2 : ∀ ls2, lv_has ls2 nL (((k : Nat), cv x) :: (am_ps (am_v b cv) ls).filter (fun q => !(q.1 == (k : Nat)) && !(q.1 + 1 == (k : Nat) && q.2.category == 2))) → W p l e R s m args below meth c H locs cells slots Q (F0 m (pc + 1) ls2 (st'.map (am_v b cv))) := fun ls2 h2 => kk ls2 (hL.put ho (am_one_cat hcv (v := .retAddr x) rfl) h2)
      rcases hcv x with ⟨-, e1⟩ | ⟨a, e1⟩
      · rw [e1] at h2 ⊢
        exact lv_astore_nN hx hb hd rfl hL.has (hlt ho) rfl h2
      · rw [e1] at h2 ⊢
        exact lv_astore_n hx hb hd rfl hL.has (hlt ho) rfl h2
    next => cases hp
  | astore k =>
    have hlt : ∀ {v : Value} {ls' : am_L}, am_put lsl ls k v = some ls' → (k : Nat) < nL := by
      intro v ls' ho
      unfold am_put at ho; split at ho
      next hk => rw [← hL.2.1]; exact hk.1
      next => cases ho
    simp only [am_pure, am_stA] at hp
    split at hp
    next x st =>
      obtain ⟨rfl, rfl, rfl, ho⟩ := am_to_spec hp
      exact lv_astore hx hb hd hL.has (hlt ho) rfl (fun ls2 h2 => kk ls2 (hL.put ho rfl h2))
    next st =>
      obtain ⟨rfl, rfl, rfl, ho⟩ := am_to_spec hp
      exact lv_astoreN hx hb hd hL.has (hlt ho) rfl (fun ls2 h2 => kk ls2 (hL.put ho rfl h2))
    next x st =>
      obtain ⟨rfl, rfl, rfl, ho⟩ := am_to_spec hp
      show W p l e R s m args below meth c H locs cells slots Q (F0 m pc ls1 (cv x :: st'.map (am_v b cv)))
      have h2 : ∀ ls2, lv_has ls2 nL (((k : Nat), cv x) :: (am_ps (am_v b cv) ls).filter (fun q => !(q.1 == (k : Nat)) && !(q.1 + 1 == (k : Nat) && q.2.category == 2))) → W p l e R s m args below meth c H locs cells slots Q (F0 m (pc + 2) ls2 (st'.map (am_v b cv))) := fun ls2 h2 => kk ls2 (hL.put ho (am_one_cat hcv (v := .retAddr x) rfl) h2)
      rcases hcv x with ⟨-, e1⟩ | ⟨a, e1⟩
      · rw [e1] at h2 ⊢
        exact lv_astoreN hx hb hd hL.has (hlt ho) rfl h2
      · rw [e1] at h2 ⊢
        exact lv_astore hx hb hd hL.has (hlt ho) rfl h2
    next => cases hp
  | iinc k n =>
    simp only [am_pure] at hp
    split at hp
    next x hg =>
      obtain ⟨rfl, rfl, rfl, ho⟩ := am_to_spec hp
      obtain ⟨j, hj⟩ := List.getElem?_of_mem (am_ps_mem (φ := am_v b cv) (am_get_some hg))
      refine lv_iinc hx hb hd hL.has hj rfl ?_ rfl (fun ls2 h2 => kk ls2 (hL.put ho rfl h2))
      unfold am_put at ho; split at ho
      next hk => rw [← hL.2.1]; exact hk.1
      next => cases ho
    next => cases hp
  | iadd =>
    simp only [am_pure, am_ii] at hp
    split at hp
    next x y st => obtain ⟨rfl, rfl, rfl, rfl⟩ := am_push_spec hp; exact lv_iadd hx hb hd (kk _ hL)
    next => cases hp
  | isub =>
    simp only [am_pure, am_ii] at hp
    split at hp
    next x y st => obtain ⟨rfl, rfl, rfl, rfl⟩ := am_push_spec hp; exact lv_isub hx hb hd (kk _ hL)
    next => cases hp
  | imul =>
    simp only [am_pure, am_ii] at hp
    split at hp
    next x y st => obtain ⟨rfl, rfl, rfl, rfl⟩ := am_push_spec hp; exact lv_imul hx hb hd (kk _ hL)
    next => cases hp
  | iand =>
    simp only [am_pure, am_ii] at hp
    split at hp
    next x y st => obtain ⟨rfl, rfl, rfl, rfl⟩ := am_push_spec hp; exact lv_iand hx hb hd (kk _ hL)
    next => cases hp
  | ior =>
    simp only [am_pure, am_ii] at hp
    split at hp
    next x y st => obtain ⟨rfl, rfl, rfl, rfl⟩ := am_push_spec hp; exact lv_ior hx hb hd (kk _ hL)
    next => cases hp
  | ishl =>
    simp only [am_pure, am_ii] at hp
    split at hp
    next x y st => obtain ⟨rfl, rfl, rfl, rfl⟩ := am_push_spec hp; exact lv_ishl hx hb hd (kk _ hL)
    next => cases hp
  | ishr =>
    simp only [am_pure, am_ii] at hp
    split at hp
    next x y st => obtain ⟨rfl, rfl, rfl, rfl⟩ := am_push_spec hp; exact lv_ishr hx hb hd (kk _ hL)
    next => cases hp
  | idiv =>
    simp only [am_pure, am_iz] at hp
    split at hp
    next y x st =>
      split at hp
      next => cases hp
      next h0 => obtain ⟨rfl, rfl, rfl, rfl⟩ := am_push_spec hp; exact lv_idiv hx hb hd h0 (kk _ hL)
    next => cases hp
  | irem =>
    simp only [am_pure, am_iz] at hp
    split at hp
    next y x st =>
      split at hp
      next => cases hp
      next h0 => obtain ⟨rfl, rfl, rfl, rfl⟩ := am_push_spec hp; exact lv_irem hx hb hd h0 (kk _ hL)
    next => cases hp
  | ineg =>
    simp only [am_pure, am_i1] at hp
    split at hp
    next x st => obtain ⟨rfl, rfl, rfl, rfl⟩ := am_push_spec hp; exact lv_ineg hx hb hd (kk _ hL)
    next => cases hp
  | i2l =>
    simp only [am_pure, am_i1] at hp
    split at hp
    next x st => obtain ⟨rfl, rfl, rfl, rfl⟩ := am_push_spec hp; exact lv_i2l hx hb hd rfl (kk _ hL)
    next => cases hp
  | i2b =>
    simp only [am_pure, am_i1] at hp
    split at hp
    next x st => obtain ⟨rfl, rfl, rfl, rfl⟩ := am_push_spec hp; exact lv_i2b hx hb hd rfl (kk _ hL)
    next => cases hp
  | i2c =>
    simp only [am_pure, am_i1] at hp
    split at hp
    next x st => obtain ⟨rfl, rfl, rfl, rfl⟩ := am_push_spec hp; exact lv_i2c hx hb hd rfl (kk _ hL)
    next => cases hp
  | ladd =>
    simp only [am_pure, am_ll] at hp
    split at hp
    next x y st => obtain ⟨rfl, rfl, rfl, rfl⟩ := am_push_spec hp; exact lv_ladd hx hb hd (kk _ hL)
    next => cases hp
  | lmul =>
    simp only [am_pure, am_ll] at hp
    split at hp
    next x y st => obtain ⟨rfl, rfl, rfl, rfl⟩ := am_push_spec hp; exact lv_lmul hx hb hd (kk _ hL)
    next => cases hp
  | lcmp =>
    simp only [am_pure, am_ll] at hp
    split at hp
    next x y st => obtain ⟨rfl, rfl, rfl, rfl⟩ := am_push_spec hp; exact W.lcmp hx hb hd (kk _ hL)
    next => cases hp
  | dup =>
    simp only [am_pure] at hp
    split at hp
    next v st =>
      split at hp
      next h1 => obtain ⟨rfl, rfl, rfl, rfl⟩ := am_push_spec hp; exact lv_dup hx hb hd (am_one_cat hcv h1) (kk _ hL)
      next => cases hp
    next => cases hp
  | pop =>
    simp only [am_pure] at hp
    split at hp
    next v st =>
      split at hp
      next h1 =>
        split at hp
        next h2 => subst h2; cases hp; exact lv_pop hx hb hd (am_one_cat hcv h1) (kk _ hL)
        next => cases hp
      next => cases hp
    next => cases hp
  | dup_x1 =>
    simp only [am_pure] at hp
    split at hp
    next v w st =>
      split at hp
      next h1 =>
        rw [Bool.and_eq_true] at h1
        obtain ⟨rfl, rfl, rfl, rfl⟩ := am_push_spec hp; exact lv_dup_x1 hx hb hd (am_one_cat hcv h1.1) (am_one_cat hcv h1.2) (kk _ hL)
      next => cases hp
    next => cases hp
  | dup2 =>
    simp only [am_pure] at hp
    split at hp
    next v w st =>
      split at hp
      next h1 =>
        rw [Bool.and_eq_true] at h1
        obtain ⟨rfl, rfl, rfl, rfl⟩ := am_push_spec hp; exact lv_dup2_11 hx hb hd (am_one_cat hcv h1.1) (am_one_cat hcv h1.2) (kk _ hL)
      next => cases hp
    next => cases hp
  | goto off =>
    obtain ⟨rfl, ⟨tgt, ht, rfl⟩, rfl, rfl⟩ := am_jmp_spec hp
    exact lv_goto hx hb hd ht (kk _ hL)
  | ifnull off =>
    simp only [am_pure] at hp
    split at hp
    next => obtain ⟨rfl, ⟨tgt, ht, rfl⟩, rfl, rfl⟩ := am_jmp_spec hp; exact lv_ifnull hx hb hd (kk _ hL)
    next => obtain ⟨rfl, ⟨tgt, ht, rfl⟩, rfl, rfl⟩ := am_jmp_spec hp; exact lv_ifnullN hx hb hd ht (kk _ hL)
    next => cases hp
  | ifnonnull off =>
    simp only [am_pure] at hp
    split at hp
    next => obtain ⟨rfl, ⟨tgt, ht, rfl⟩, rfl, rfl⟩ := am_jmp_spec hp; exact lv_ifnonnull hx hb hd ht (kk _ hL)
    next => obtain ⟨rfl, ⟨tgt, ht, rfl⟩, rfl, rfl⟩ := am_jmp_spec hp; exact lv_ifnonnullN hx hb hd (kk _ hL)
    next k st =>
      split at hp
      next h10 =>
        obtain ⟨rfl, ⟨tgt, ht, rfl⟩, rfl, rfl⟩ := am_jmp_spec hp
        show W p l e R s m args below meth c H locs cells slots Q (F0 m pc ls1 (cv k :: st'.map (am_v b cv)))
        rcases hcv k with ⟨e0, -⟩ | ⟨a, e1⟩
        · exact absurd h10 (Nat.not_lt.mpr e0)
        · rw [e1]
          exact lv_ifnonnull hx hb hd ht (kk _ hL)
      next => cases hp
    next => cases hp
  | ifCond cd off =>
    simp only [am_pure] at hp
    split at hp
    next x st =>
      obtain ⟨rfl, ⟨tgt, ht, h⟩, rfl, rfl⟩ := am_jmp_spec hp
      have kt : am_rel cd x 0 = true → W p l e R s m args below meth c H locs cells slots Q (F0 m tgt ls1 (st'.map (am_v b cv))) := fun q => by
        rw [q] at h; subst h; exact kk _ hL
      have kf : am_rel cd x 0 = false → W p l e R s m args below meth c H locs cells slots Q (F0 m (pc + 3) ls1 (st'.map (am_v b cv))) := fun q => by
        rw [q] at h; subst h; exact kk _ hL
      cases cd
      · exact lv_if_eq hx hb hd ht (fun q => kt (decide_eq_true q)) (fun q => kf (decide_eq_false q))
      · exact lv_if_ne hx hb hd ht (fun q => kt (by simp [am_rel, q])) (fun q => kf (by simp [am_rel, q]))
      · exact lv_if_lt hx hb hd ht (fun q => kt (decide_eq_true q)) (fun q => kf (decide_eq_false q))
      all_goals first | exact lv_if_ge hx hb hd ht (fun q => kt (decide_eq_true q)) (fun q => kf (decide_eq_false q)) | exact lv_if_gt hx hb hd ht (fun q => kt (decide_eq_true q)) (fun q => kf (decide_eq_false q)) | exact lv_if_le hx hb hd ht (fun q => kt (decide_eq_true q)) (fun q => kf (decide_eq_false q))
    next => cases hp
  | if_icmp cd off =>
    simp only [am_pure] at hp
    split at hp
    next y x st =>
      obtain ⟨rfl, ⟨tgt, ht, h⟩, rfl, rfl⟩ := am_jmp_spec hp
      have kt : am_rel cd x y = true → W p l e R s m args below meth c H locs cells slots Q (F0 m tgt ls1 (st'.map (am_v b cv))) := fun q => by
        rw [q] at h; subst h; exact kk _ hL
      have kf : am_rel cd x y = false → W p l e R s m args below meth c H locs cells slots Q (F0 m (pc + 3) ls1 (st'.map (am_v b cv))) := fun q => by
        rw [q] at h; subst h; exact kk _ hL
      cases cd
      · exact lv_icmp_eq hx hb hd ht (fun q => kt (decide_eq_true q)) (fun q => kf (decide_eq_false q))
      · exact lv_icmp_ne hx hb hd ht (fun q => kt (by simp [am_rel, q])) (fun q => kf (by simp [am_rel, q]))
      · exact lv_icmp_lt hx hb hd ht (fun q => kt (decide_eq_true q)) (fun q => kf (decide_eq_false q))
      all_goals first | exact lv_icmp_ge hx hb hd ht (fun q => kt (decide_eq_true q)) (fun q => kf (decide_eq_false q)) | exact lv_icmp_gt hx hb hd ht (fun q => kt (decide_eq_true q)) (fun q => kf (decide_eq_false q)) | exact lv_icmp_le hx hb hd ht (fun q => kt (decide_eq_true q)) (fun q => kf (decide_eq_false q))
    next => cases hp
  | tableswitch d lo hi offs =>
    simp only [am_pure] at hp
    split at hp
    next x st =>
      unfold am_sw at hp
      split at hp
      next off ho =>
        split at hp
        next h0 =>
          cases hp
          unfold am_swt at ho
          split at ho
          next hr =>
            cases ho
            exact lv_tableOut hx hb hd hr (Int.toNat_of_nonneg h0).symm (kk _ hL)
          next hr =>
            exact lv_tableIn hx hb hd (fun q => hr (Or.inl q)) (fun q => hr (Or.inr q)) ho (Int.toNat_of_nonneg h0).symm (kk _ hL)
        next => cases hp
      next => cases hp
    next => cases hp
  | _ => cases hp
end AMP
