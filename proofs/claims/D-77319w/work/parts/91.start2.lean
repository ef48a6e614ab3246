/-! the environment at the law's entry -/
set_option maxRecDepth 100000
theorem am_arrP {s : State} {ty : FieldType} {args : Array Value} (h : (Cond.arrayClass ty).before args s = true) (hno : ∀ C, ty ≠ .object C) : ∃ cA : ClassId, ArrOfT s cA ty ∧ va_RA s cA ty ∧ s.vm.findClass ("[" ++ ty.toString) = some cA := by
  obtain ⟨c, k, comp, h1, h2, h3⟩ := Cond.arrayClass_spec h
  refine ⟨c, fun n z => ⟨fun k h => (by cases h), k, h2, comp, h3⟩, ?_, h1⟩
  cases ty <;> first | exact h1 | exact absurd rfl (hno _)
theorem am_arrO {s : State} {C : String} {args : Array Value} (h : (Cond.arrayOver (.object C)).before args s = true) : ∃ cA : ClassId, ArrOfT s cA (.object C) ∧ va_RA s cA (.object C) := by
  obtain ⟨comp, c, k, h1, -, h3, h4, h5⟩ := Cond.arrayOver_spec h
  exact ⟨c, fun n z => ⟨fun k h => (by cases h), k, h3, comp, h4⟩, k, comp, h3, h4, h1, h5⟩
theorem am_isRef {args : Array Value} {s : State} {t : Term} (h : (Cond.isRef t).before args s = true) : ∃ v : Value, t.eval args s none [] s = some v ∧ (v = .null ∨ ∃ a, v = .ref a) := by
  obtain ⟨v, h1, h2⟩ := Cond.isRef_spec h
  refine ⟨v, h1, ?_⟩
  cases v <;> first | (cases h2; done) | exact Or.inl rfl | exact Or.inr ⟨_, rfl⟩
def am_stt (n : String) : Term := .static "java/lang/Integer" n "[B"
abbrev am_fl : List Cond := flatC (Jvm.Cond.and given_1 narrow_1)
theorem am_digO (j : Nat) (hj : j < 100) : (Cond.eq (.elem (am_stt "DigitOnes") (.int (Int32.ofNat j))) (.int (Int32.ofNat (48 + j % 10)))) ∈ am_fl :=
  va_run (L := am_fl) (N := 100) (p := 10) (f := fun j => Cond.eq (.elem (am_stt "DigitOnes") (.int (Int32.ofNat j))) (.int (Int32.ofNat (48 + j % 10)))) (by decide +kernel) j hj
theorem am_digT (j : Nat) (hj : j < 100) : (Cond.eq (.elem (am_stt "DigitTens") (.int (Int32.ofNat j))) (.int (Int32.ofNat (48 + j / 10)))) ∈ am_fl :=
  va_run (L := am_fl) (N := 100) (p := 113) (f := fun j => Cond.eq (.elem (am_stt "DigitTens") (.int (Int32.ofNat j))) (.int (Int32.ofNat (48 + j / 10)))) (by decide +kernel) j hj
theorem am_fat {w : Cond} (i : Nat) (h : am_fl[i]? = some w) : w ∈ am_fl := List.mem_of_getElem? h
def am_sidx (i : Nat) : Nat := match i with
  | 0 => 35
  | 1 => 46
  | _ => 48
def am_str (i : Nat) : Term := .string "CallMigrator$Node" (am_sidx i)
theorem am_three {P : Nat → Prop} (h0 : P 0) (h1 : P 1) (h2 : P 2) : ∀ i, i < 3 → P i := by
  intro i hi
  rcases i with _ | _ | _ | i
  · exact h0
  · exact h1
  · exact h2
  · omega
set_option maxHeartbeats 4000000 in
theorem am_start {s : State} {b L : Nat} {xs : Nat → Int32} (hts : ∀ w ∈ lw_tbl, w.before #[Value.ref b] s = true) (hX : va_X b L xs s s.heap) (hbl : b < s.heap.size) (hgv : (Jvm.Cond.and given_1 narrow_1).before #[Value.ref b] s = true) :
    ∃ E : am_E, E.2.2.1 = s.heap ∧ am_G E (L, xs) s ∧ E.2.2.2 0 = .ref b := by
  have hs := flat_of_before _ hgv
  obtain ⟨c0, i0, k0⟩ := u_known (C := RX0) (T := TX0) (N := 7) (n := 7) hts (fun w h => lw_all_tbl (in_X0 w h)) (hts _ (lw_all_tbl q80))
  obtain ⟨c1, i1, k1⟩ := u_known (C := RX1) (T := TX1) (N := 9) (n := 9) hts (fun w h => lw_all_tbl (in_X1 w h)) (hts _ (lw_all_tbl q88))
  obtain ⟨c2, i2, k2⟩ := u_known (C := RX2) (T := TX2) (N := 4) (n := 4) hts (fun w h => lw_all_tbl (in_X2 w h)) (hts _ (lw_all_tbl q98))
  obtain ⟨c3, i3, k3⟩ := u_known (C := RX3) (T := TX3) (N := 4) (n := 4) hts (fun w h => lw_all_tbl (in_X3 w h)) (hts _ (lw_all_tbl q126))
  obtain ⟨c4, i4, k4⟩ := u_known (C := RX4) (T := TX4) (N := 3) (n := 3) hts (fun w h => lw_all_tbl (in_X4 w h)) (hts _ (lw_all_tbl q215))
  obtain ⟨c5, i5, k5⟩ := u_known (C := RX5) (T := TX5) (N := 23) (n := 23) hts (fun w h => lw_all_tbl (in_X5 w h)) (hts _ (lw_all_tbl q868))
  obtain ⟨c6, i6, k6⟩ := u_known (C := RX6) (T := TX6) (N := 2) (n := 2) hts (fun w h => lw_all_tbl (in_X6 w h)) (hts _ (lw_all_tbl q328))
  obtain ⟨c7, i7, k7⟩ := u_known (C := RX7) (T := TX7) (N := 7) (n := 7) hts (fun w h => lw_all_tbl (in_X7 w h)) (hts _ (lw_all_tbl q437))
  obtain ⟨c8, i8, k8⟩ := u_known (C := RX8) (T := TX8) (N := 3) (n := 3) hts (fun w h => lw_all_tbl (in_X8 w h)) (hts _ (lw_all_tbl q524))
  obtain ⟨c9, i9, k9⟩ := u_known (C := RJ4) (T := TJ4) (N := 4) (n := 4) hts (fun w h => lw_all_tbl (in_J4 w h)) (hts _ (lw_all_tbl q612))
  obtain ⟨dI, aI, rI, nI0⟩ := am_arrP (hts _ (lw_all_tbl q125)) (fun C h => by cases h)
  obtain ⟨dB, aB, rB, nB0⟩ := am_arrP (hts _ (lw_all_tbl q230)) (fun C h => by cases h)
  obtain ⟨d2, a2, r2⟩ := am_arrO (hts _ q94)
  obtain ⟨d3, a3, r3⟩ := am_arrO (hts _ q96)
  obtain ⟨d4, a4, r4⟩ := am_arrO (hts _ q99)
  obtain ⟨d5, a5, r5⟩ := am_arrO (hts _ q213)
  have hA : ∀ a : Nat, a < s.heap.size → ¬ (fun q => s.heap.size ≤ q) a := fun a ha => Nat.not_le.mpr ha
  obtain ⟨tO, eO, vO⟩ := va_Tof (tm := am_stt "DigitOnes") (ty := .byte) (N := 100) (f := fun j => .int (Int32.ofNat (48 + j % 10))) (A := fun q => s.heap.size ≤ q) (by decide) (hs _ (am_fat 8 (by decide +kernel))) (va_eqt (hs _ (am_fat 9 (by decide +kernel)))) (fun j hj => va_eqt (hs _ (am_digO j hj))) hA
  obtain ⟨tT, eT, vT⟩ := va_Tof (tm := am_stt "DigitTens") (ty := .byte) (N := 100) (f := fun j => .int (Int32.ofNat (48 + j / 10))) (A := fun q => s.heap.size ≤ q) (by decide) (hs _ (am_fat 111 (by decide +kernel))) (va_eqt (hs _ (am_fat 112 (by decide +kernel)))) (fun j hj => va_eqt (hs _ (am_digT j hj))) hA
  obtain ⟨v10, e10, n10⟩ := am_isRef (t := .static "java/lang/Throwable" "UNASSIGNED_STACK" "[Ljava/lang/StackTraceElement;") (hs _ (am_fat 4 (by decide +kernel)))
  obtain ⟨v11, e11, n11⟩ := am_isRef (t := .static "java/lang/Throwable" "SUPPRESSED_SENTINEL" "Ljava/util/List;") (hs _ (am_fat 5 (by decide +kernel)))
  obtain ⟨v12, e12, n12⟩ := am_isRef (t := .static "jdk/internal/util/Preconditions" "SIOOBE_FORMATTER" "Ljava/util/function/BiFunction;") (hs _ (am_fat 213 (by decide +kernel)))
  obtain ⟨adK, adV, hS, hSt⟩ := vk_Sof (args := #[Value.ref b]) (s := s) (N := 3) (tm := am_str) (len := [5, 0, 1]) (byt := am_byt) (A := fun q => s.heap.size ≤ q)
    (am_three (by decide) (by decide) (by decide))
    (am_three (hs _ (am_fat 270 (by decide +kernel))) (hs _ (am_fat 279 (by decide +kernel))) (hs _ (am_fat 284 (by decide +kernel))))
    (am_three (hs _ (am_fat 271 (by decide +kernel))) (hs _ (am_fat 280 (by decide +kernel))) (hs _ (am_fat 285 (by decide +kernel))))
    (am_three (hs _ (am_fat 272 (by decide +kernel))) (hs _ (am_fat 281 (by decide +kernel))) (hs _ (am_fat 286 (by decide +kernel))))
    (am_three (hs _ (am_fat 273 (by decide +kernel))) (hs _ (am_fat 282 (by decide +kernel))) (hs _ (am_fat 287 (by decide +kernel))))
    (am_three
      (fun j hj => hs _ (va_run (L := am_fl) (N := 5) (p := 274) (f := fun j => Cond.eq (.elem (.field (am_str 0) "java/lang/String" "value" "[B") (.int (Int32.ofNat j))) (.int ((am_byt.getD 0 []).getD j 0))) (by decide +kernel) j hj))
      (fun j hj => absurd hj (Nat.not_lt_zero j))
      (fun j hj => hs _ (by
        have hj0 : j = 0 := Nat.lt_one_iff.mp hj
        subst hj0
        exact am_fat 288 (by decide +kernel))))
    (fun i j hi hj hij => by
      have h01 : (Cond.not (Cond.eq (am_str 0) (am_str 1))).before #[Value.ref b] s = true := hs _ (am_fat 283 (by decide +kernel))
      have h02 : (Cond.not (Cond.eq (am_str 0) (am_str 2))).before #[Value.ref b] s = true := hs _ (am_fat 289 (by decide +kernel))
      have h12 : (Cond.not (Cond.eq (am_str 1) (am_str 2))).before #[Value.ref b] s = true := hs _ (am_fat 290 (by decide +kernel))
      rcases i with _ | _ | _ | i <;> rcases j with _ | _ | _ | j <;> first | exact absurd rfl hij | omega | exact Or.inl h01 | exact Or.inl h02 | exact Or.inl h12 | exact Or.inr h01 | exact Or.inr h02 | exact Or.inr h12)
    hA
  let cv : Nat → Value := fun k => match k with
    | 0 => .ref b
    | 1 => .ref (adK 0)
    | 2 => .ref (adK 1)
    | 3 => .ref (adK 2)
    | 4 => .ref tT
    | 5 => .ref tO
    | 6 => .ref (adV 0)
    | 7 => .ref (adV 1)
    | 8 => .ref (adV 2)
    | 9 => .ref 0
    | 10 => v10
    | 11 => v11
    | 12 => v12
    | _ => .null
  let dC : Nat → ClassId := fun k => match k with
    | 0 => c0
    | 1 => c1
    | 2 => c2
    | 3 => c3
    | 4 => c4
    | 5 => c5
    | 6 => c6
    | 7 => c7
    | 8 => c8
    | _ => c9
  let dI' : Nat → Nat → Nat := fun k => match k with
    | 0 => i0
    | 1 => i1
    | 2 => i2
    | 3 => i3
    | 4 => i4
    | 5 => i5
    | 6 => i6
    | 7 => i7
    | 8 => i8
    | _ => i9
  let dA : Nat → ClassId := fun k => match k with
    | 0 => dI
    | 1 => dB
    | 2 => d2
    | 3 => d3
    | 4 => d4
    | _ => d5
  refine ⟨((dC, dI'), dA, s.heap, cv), rfl, ⟨⟨?_, ?_⟩, fun w hw => va_Nw.of ?_ (hts _ (am_NW_tbl w hw)), fun w hw => am_good_warm (am_XW_ok w hw) (State.WarmedH.refl s) (am_XW_tbl hts w hw), ⟨hts _ q94, hts _ q96, hts _ q99, hts _ q213⟩, ?_, ?_, ?_, ?_, ⟨b, rfl, hbl, hX⟩, ?_, nI0, nB0⟩, rfl⟩
  · intro c q hq
    match c, hq with
    | 0, hq => cases hq; exact k0
    | 1, hq => cases hq; exact k1
    | 2, hq => cases hq; exact k2
    | 3, hq => cases hq; exact k3
    | 4, hq => cases hq; exact k4
    | 5, hq => cases hq; exact k5
    | 6, hq => cases hq; exact k6
    | 7, hq => cases hq; exact k7
    | 8, hq => cases hq; exact k8
    | 9, hq => cases hq; exact k9
    | n + 10, hq => simp [am_CL] at hq
  · intro k q hq
    match k, hq with
    | 0, hq => cases hq; exact ⟨aI, rI⟩
    | 1, hq => cases hq; exact ⟨aB, rB⟩
    | 2, hq => cases hq; exact ⟨a2, r2⟩
    | 3, hq => cases hq; exact ⟨a3, r3⟩
    | 4, hq => cases hq; exact ⟨a4, r4⟩
    | 5, hq => cases hq; exact ⟨a5, r5⟩
    | n + 6, hq => simp [am_tys] at hq
  · have h9 := am_NW_ok w hw
    cases w <;> first | (cases h9; done) | rfl
  · refine am_c ?_ <| am_c ?_ <| am_c ?_ <| am_c ?_ <| am_c ?_ <| am_c ?_ <| am_c ?_ am_nl
    · exact va_Zof (hts _ q461) (hts _ (lw_all_tbl q65)) e10 hA
    · exact va_Zof (hts _ q463) (hts _ (lw_all_tbl q65)) e11 hA
    · exact va_Zof (hts _ q621) (hts _ (lw_all_tbl q71)) (va_eqi (hs _ (am_fat 6 (by decide +kernel)))) hA
    · exact va_Zof (hts _ q711) (hts _ (lw_all_tbl q77)) e12 hA
    · exact va_Zof (hts _ q621) (hts _ (lw_all_tbl q71)) (va_eqi (hs _ (am_fat 6 (by decide +kernel)))) hA
    · exact va_Zof (hts _ q695) (hts _ (lw_all_tbl q74)) eO hA
    · exact va_Zof (hts _ q697) (hts _ (lw_all_tbl q74)) eT hA
  · exact ⟨⟨_, rfl, vk_R.of (hts _ q729) (hSt 0 (by decide))⟩, ⟨_, rfl, vk_R.of (hts _ q790) (hSt 1 (by decide))⟩, ⟨_, rfl, vk_R.of (hts _ q791) (hSt 2 (by decide))⟩⟩
  · intro r h1 h2
    rcases r with _ | _ | _ | _ | r
    · omega
    · exact ⟨_, _, rfl, rfl, (hS.1 0 (by decide)).1, (hS.1 0 (by decide)).2.1, (hS.1 0 (by decide)).2.2.1⟩
    · exact ⟨_, _, rfl, rfl, (hS.1 1 (by decide)).1, (hS.1 1 (by decide)).2.1, (hS.1 1 (by decide)).2.2.1⟩
    · exact ⟨_, _, rfl, rfl, (hS.1 2 (by decide)).1, (hS.1 2 (by decide)).2.1, (hS.1 2 (by decide)).2.2.1⟩
    · omega
  · intro k n f hk
    match k, hk with
    | 4, hk => cases hk; exact ⟨_, rfl, vT⟩
    | 5, hk => cases hk; exact ⟨_, rfl, vO⟩
    | 6, hk => cases hk; exact ⟨_, rfl, (hS.1 0 (by decide)).2.2.2⟩
    | 7, hk => cases hk; exact ⟨_, rfl, (hS.1 1 (by decide)).2.2.2⟩
    | 8, hk => cases hk; exact ⟨_, rfl, (hS.1 2 (by decide)).2.2.2⟩
    | 0, hk => cases hk
    | 1, hk => cases hk
    | 2, hk => cases hk
    | 3, hk => cases hk
    | n + 9, hk => cases hk
  · intro k
    match k with
    | 0 => exact Or.inr ⟨_, rfl⟩
    | 1 => exact Or.inr ⟨_, rfl⟩
    | 2 => exact Or.inr ⟨_, rfl⟩
    | 3 => exact Or.inr ⟨_, rfl⟩
    | 4 => exact Or.inr ⟨_, rfl⟩
    | 5 => exact Or.inr ⟨_, rfl⟩
    | 6 => exact Or.inr ⟨_, rfl⟩
    | 7 => exact Or.inr ⟨_, rfl⟩
    | 8 => exact Or.inr ⟨_, rfl⟩
    | 9 => exact Or.inr ⟨_, rfl⟩
    | 10 => exact n10.imp (fun e => ⟨by decide, e⟩) id
    | 11 => exact n11.imp (fun e => ⟨by decide, e⟩) id
    | 12 => exact n12.imp (fun e => ⟨by decide, e⟩) id
    | n + 13 => exact Or.inl ⟨by omega, rfl⟩
