/-! the component: adapters -/
section EI
variable {S : am_S} {d : Nat} {h h' h2 : am_H} {Q : am_Out → Prop} {σ : sg} {M M' : Nat → Nat} {T : Nat → Option Nat} {a b k n t w w2 z total done why o p0 sz : Nat} {g : Nat → Option Nat} {ds : List (Nat × List Nat)}
theorem adM_o {j : Nat} (h : ¬ (84 + 8 * M 116 ≤ j ∧ j < 84 + 8 * M 116 + 8)) (h2 : j ≠ 116) : adM M o j = M j := by
  unfold adM
  rw [if_neg (by omega), if_neg (by omega), if_neg h2]
theorem adM_n {j : Nat} (h : j < 7) : adM M o (84 + 8 * M 116 + j) = M (7 * o + j) := by
  unfold adM
  rw [if_pos (by omega), Nat.add_sub_cancel_left]
theorem adM_w (hw : M 116 ≤ 4) : adM M o (84 + 8 * M 116 + 7) = o := by
  unfold adM
  rw [if_neg (by omega), if_pos rfl]
theorem adM_c (hw : M 116 < 4) : adM M o 116 = M 116 + 1 := by
  unfold adM
  rw [if_neg (by omega), if_neg (by omega), if_pos rfl]
theorem MSt_ad (hm : MSt h z M T total done) (hw : wf M T) (ho : o < 6) (h4 : M 116 < 4) (hn : adp M o (M 116) = none) {s : sr} (hs : SH h 1 (M 116) (M 147) s) (hv : SV (P0 z) h M T s) {fo : Nat} (hfo : s.1 o = some fo) : MSt (((h.set 4 (.inr (.inl (0, 4, va_up s.2.2.1 (M 116) (some fo))))).set 5 (.inl (0, 6, upd s.2.2.2.1 o (nI (M 116))))).set 1 (.inr (.inr (1, [.ref 2, .ref 3, .ref 4, .int (nI (M 116 + 1)), .ref 5, .ref 6, .int (nI (M 147)), .ref s.2.2.2.2.2.1, .ref 9])))) z (adM M o) T total done := by
  obtain ⟨-, e1, ⟨f1, f2, f3, f4, f5, f6, e0⟩, h84⟩ := hm
  obtain ⟨a0, a1, a2, a3, a4, a5, a8⟩ := hs
  have hl := g_lt e1
  have hmn : mn (P0 z) (P0 z) h (((h.set 4 (.inr (.inl (0, 4, va_up s.2.2.1 (M 116) (some fo))))).set 5 (.inl (0, 6, upd s.2.2.2.1 o (nI (M 116))))).set 1 (.inr (.inr (1, [.ref 2, .ref 3, .ref 4, .int (nI (M 116 + 1)), .ref 5, .ref 6, .int (nI (M 147)), .ref s.2.2.2.2.2.1, .ref 9])))) := mn_tr (mn_set (fun q => ni_m (a := 4) (by omega) q.1)) (mn_tr (mn_set (fun q => ni_m (a := 5) (by omega) q.1)) (mn_set (fun q => ni_m (a := 1) (by omega) q.1)))
  have kp : ∀ j, j ≠ 1 → j ≠ 4 → j ≠ 5 → (((h.set 4 (.inr (.inl (0, 4, va_up s.2.2.1 (M 116) (some fo))))).set 5 (.inl (0, 6, upd s.2.2.2.1 o (nI (M 116))))).set 1 (.inr (.inr (1, [.ref 2, .ref 3, .ref 4, .int (nI (M 116 + 1)), .ref 5, .ref 6, .int (nI (M 147)), .ref s.2.2.2.2.2.1, .ref 9]))))[j]? = h[j]? := fun j j1 j4 j5 => by
    rw [g_sn (fun e => j1 e.symm), g_sn (fun e => j5 e.symm), g_sn (fun e => j4 e.symm)]
  obtain ⟨g1, g2, g3, g4, g5, g6, g7⟩ := SV_mn hmn hv
  have q30 := hw.2.2.2.2.2.1.2
  refine ⟨⟨(s.1, s.2.1, va_up s.2.2.1 (M 116) (some fo), upd s.2.2.2.1 o (nI (M 116)), s.2.2.2.2.1, s.2.2.2.2.2.1, s.2.2.2.2.2.2), ⟨?_, ?_, ?_, ?_, ?_, ?_, ?_⟩, fnV_M (fun f hf j hj => adM_o (by show ¬ (84 + 8 * M 116 ≤ 7 * f + j ∧ 7 * f + j < 84 + 8 * M 116 + 8); omega) (by show 7 * f + j ≠ 116; omega)) g1, fnV_M (fun f hf j hj => adM_o (by show ¬ (84 + 8 * M 116 ≤ 42 + 7 * f + j ∧ 42 + 7 * f + j < 84 + 8 * M 116 + 8); omega) (by show 42 + 7 * f + j ≠ 116; omega)) g2, ?_, fun f hf => ?_, mpV_M (fun f hf j hj => adM_o (by omega) (by omega)) g5, ?_, fun k hk => ?_⟩, by rw [kp z (by omega) (by omega) (by omega)]; exact e1, ⟨f1, f2, f3, f4, f5, f6, by rw [kp 0 (by decide) (by decide) (by decide)]; exact e0⟩, h84⟩
  · rw [g_se (by rw [List.length_set, List.length_set]; omega)]
    show _ = some (Sum.inr (Sum.inr (1, [Value.ref 2, .ref 3, .ref 4, .int (nI (adM M o 116)), .ref 5, .ref 6, .int (nI (adM M o 147)), .ref s.2.2.2.2.2.1, .ref 9])))
    rw [adM_c h4, adM_o (j := 147) (by omega) (by decide)]
  · rw [kp _ (by decide) (by decide) (by decide)]; exact a1
  · rw [kp _ (by decide) (by decide) (by decide)]; exact a2
  · rw [g_sn (by omega), g_sn (by omega)]; exact g_se (by omega)
  · rw [g_sn (by omega)]; exact g_se (by rw [List.length_set]; omega)
  · rw [kp _ (by decide) (by decide) (by decide)]; exact a5
  · rw [kp _ (by decide) (by decide) (by decide)]; exact a8
  · show fnV _ _ (adM M o) (fun k => 84 + 8 * k) (adM M o 116) (va_up s.2.2.1 (M 116) (some fo))
    rw [adM_c h4]
    intro f hf
    by_cases q : f = M 116
    · subst q
      refine ⟨fo, vu_s, ?_⟩
      obtain ⟨fo', i1, i2⟩ := g1 o ho
      have i1 : s.1 o = some fo' := i1
      rw [hfo] at i1
      cases i1
      obtain ⟨h1, c, gg, h2, h3, h4, h5⟩ := i2
      refine ⟨h1, c, gg, h2, ?_, h4, fun j hj => ?_⟩
      · rw [show adM M o (84 + 8 * M 116) = M (7 * o) from adM_n (j := 0) (by decide), adM_n (j := 1) (by decide), adM_n (j := 2) (by decide)]; exact h3
      · rw [show 84 + 8 * M 116 + 2 + 1 + j = 84 + 8 * M 116 + (3 + j) by omega, adM_n (j := 3 + j) (by omega), show 7 * o + (3 + j) = 7 * o + 2 + 1 + j by omega]; exact h5 j hj
    · obtain ⟨fp, i1, i2⟩ := g3 f (by show f < M 116; omega)
      exact ⟨fp, by rw [vu_n q]; exact i1, isFun_M (o := 84 + 8 * f) (fun j hj => adM_o (by omega) (by omega)) i2⟩
  · show upd s.2.2.2.1 o (nI (M 116)) f = tI (adp (adM M o) f (adM M o 116))
    rw [adM_c h4, adp, adM_w (by omega), upd_ap]
    by_cases q : f = o
    · rw [if_pos q, if_pos q.symm]; rfl
    · rw [if_neg q, if_neg (fun e => q e.symm), adp_M _ (fun k hk => adM_o (by omega) (by omega))]; exact g4 f hf
  · show isT _ 31 _ s.2.2.2.2.2.1 (prog (adM M o))
    rw [prog_M (M := M) (adM_o (by omega) (by decide)) (fun k hk => adM_o (by omega) (by omega))]; exact g6
  · show s.2.2.2.2.2.2 (k + 1) = nI (adM M o (179 + k))
    rw [adM_o (by omega) (by omega)]; exact g7 k hk
/-- a node in the making: what is asked of a call that is treated -/
def ndC (h : am_H) (z a b t p0 : Nat) (g : Nat → Option Nat) (ds : List (Nat × List Nat)) : Prop := h[a]? = some (.inr (.inr (2, [.int (nI (ck t)), .int (nI (cv t)), .ref b, .int (nI (1 + (fls ds).length))]))) ∧ h[b]? = some (.inr (.inl (2, ta t, g))) ∧ ds.length = ta t ∧ (∀ (i : Nat) (q : Nat × List Nat), ds[i]? = some q → g i = some q.1 ∧ isT (fun y => p0 ≤ y) 30 h q.1 q.2) ∧ z < p0 ∧ p0 ≤ a ∧ p0 ≤ b ∧ ta t ≤ 4
theorem ndC_mn {c : Nat} (hn : ndC h z a b t p0 g ds) (hk : ∀ y, p0 ≤ y → y < h.length → h'[y]? = h[y]?) : ndC h' z a b t p0 g ds := by
  obtain ⟨n1, n2, n3, n4, n5, n6, n7, n8⟩ := hn
  exact ⟨by rw [hk a n6 (g_lt n1)]; exact n1, by rw [hk b n7 (g_lt n2)]; exact n2, n3, fun i q hq => ⟨(n4 i q hq).1, isT_mn (fun y c p r => ⟨p, by rw [hk y p (g_lt r)]; exact r⟩) _ _ _ (n4 i q hq).2⟩, n5, n6, n7, n8⟩
theorem ndC_T (hn : ndC h z a b t p0 g ds) : isT (fun y => p0 ≤ y) (t :: fls ds).length h a (t :: fls ds) := by
  obtain ⟨n1, n2, n3, n4, n5, n6, n7, n8⟩ := hn
  refine isT_nm 31 _ _ ⟨t, b, g, ds, n6, n7, rfl, n3, ?_, n2, n4⟩
  rw [List.length_cons, Nat.add_comm]; exact n1
/-- a new node over the same arguments -/
theorem c42_n {t' : Nat} {x y : Int32} (hn : ndC h z a b t p0 g ds) (ht : ta t' = ta t) (hx : x = nI (ck t')) (hy : y = nI (cv t')) : wp S (d + 1) 42 0 [some (.ref h.length), some (.int x), some (.int y), some (.ref b), none, none, none, none, none] [] (h ++ [.inr (.inr (2, [.int (nI 0), .int (nI 0), .null, .int (nI 0)]))]) Q = Q (.inl none, h ++ [.inr (.inr (2, [.int (nI (ck t')), .int (nI (cv t')), .ref b, .int (nI (1 + (fls ds).length))]))]) ∧ isT (fun y => p0 ≤ y) (t' :: fls ds).length (h ++ [.inr (.inr (2, [.int (nI (ck t')), .int (nI (cv t')), .ref b, .int (nI (1 + (fls ds).length))]))]) h.length (t' :: fls ds) := by
  obtain ⟨n1, n2, n3, n4, n5, n6, n7, n8⟩ := hn
  have la := g_lt n1
  subst hx; subst hy
  refine ⟨?_, isT_nm _ _ _ (isT_mk (n := 30) (by rw [ht]; exact n2) (by rw [ht]; exact n3) n4 (by show p0 ≤ h.length; omega) n7)⟩
  rw [c42 (cs := ds) (k := ta t) (n := 30) (P := fun y => p0 ≤ y) g_an ((g_al (g_lt n2)).trans n2) n3 (by omega) (fun i q hq => ⟨(n4 i q hq).1, isT_mn mn_app _ _ _ (n4 i q hq).2⟩), s_an]
end EI
